/-! READING 11: the model's tape, and its figure while it is read -/
set_option maxRecDepth 100000
/-- the model's tape -/
structure MT (T : MS) (t : Tp) : Prop where
  l : T.1 7 = nI t.1
  c : ∀ i, i < t.1 → T.2.1 5 i = nI (t.2 i)
  k : TpOk t
section
variable {d m a : Nat} {h : pH} {T : MS} {t : Tp}
theorem kX3_here (hT : MT T t) (ha : T.1 8 = nI a) (h9 : a < 1000) : pCa 77 d [.ref m] (mput h m T) = some (.inl (some (.int (hr t a))), mput h m T) := by
  have ht := hT.k.1
  rw [eX3_here]
  by_cases l : a < t.1
  · simp (disch := first | assumption | omega | decide) only [pis_i, pis_l, pis_r, pis_n, p1_i, p1_r, p1_n, p1_u, pw0, pw1, pw2, pw3, pw4, pK_v, pK_0, pK_ite, if_true, if_false, if_pos, if_neg, Nat.reduceAdd, pok_r, i10, i01, Bool.true_or, Bool.or_true, Bool.and_true, Bool.true_and, Nat.add_sub_cancel, i1p1, i1p0, i0p1, i0p0, nIrem2, va_rf_s, bit1, bit0, pinT, pinLT, pin0, nIc, nIcL, nIlt, nIeq, nIltL, nILlt, nIeqL, nILeq, nIadL, nILad, nILmu, nI_add, nIsbL, nI_sub', decide_true, decide_false, Bool.false_or, Bool.or_false, rX3_here_0, rX3_here_1, rX3_here_4, rX3_here_5, rX3_here_8, rX3_here_11, rX3_here_12, rX3_here_15, rX3_here_16, rX3_here_19, rX3_here_20, rX3_here_23, rX3_here_24, mCl, mF0, mP0, mF1, mF2, mF3, mF4, mF5, mP5, mF6, mF7, mP7, mF8, mP8, mF9, mP9, mF10, mP10, mF11, mF12, mF13, mF14, mF15, mF16, mF17, mF18, mF19, mF20, mP20, mF21, mF22, mF23, mP23, mF24, mP24, mF25, mP25, mF26, mF27, mF28, mF29, mF30, mF31, mP31, mF32, mP32, mF33, mP33, mF34, mF35, mF36, mF37, mF38, mF39, mF40, mF41, mF42, mF43, mF44, mF45, mP45, mF46, mP46, mF47, mP47, mF48, mP48, mF49, mF50, mF51, mP51, mL1, mL1n, mC1, mW1, mL2, mL2n, mC2, mW2, mL3, mL3n, mC3, mW3, mL4, mL4n, mC4, mW4, mL5, mL5n, mC5, mW5, mL6, mL6n, mC6, mW6, mL7, mL7n, mC7, mW7, mL8, mL8n, mC8, mW8, mL9, mL9n, mC9, mW9, mL10, mL10n, mC10, mW10, mL11, mL11n, mC11, mW11, mL12, mL12n, mC12, mW12, mL13, mL13n, mC13, mW13, mL14, mL14n, mC14, mW14, mL15, mL15n, mC15, mW15, mL16, mL16n, mC16, mW16, mL17, mL17n, mC17, mW17, mL18, mL18n, mC18, mW18, mL19, mL19n, mC19, mW19, mL20, mL20n, mC20, mW20, mL21, mL21n, mC21, mW21, mL23, mL23n, mC23, mW23, mL24, mL24n, mC24, mW24, mL25, mL25n, mC25, mW25, mL26, mL26n, mC26, mW26, mL27, mL27n, mC27, mW27, mL28, mL28n, mC28, mW28, mL29, mL29n, mC29, mW29, mL30, mL30n, mC30, mW30, mL31, mL31n, mC31, mW31, mL32, mL32n, mC32, mW32, mL33, mL33n, mC33, mW33, mL34, mL34n, mC34, mW34, mL22, mC22, mW22, ha, hT.l, hT.c a l, hr_in l]
  · simp (disch := first | assumption | omega | decide) only [pis_i, pis_l, pis_r, pis_n, p1_i, p1_r, p1_n, p1_u, pw0, pw1, pw2, pw3, pw4, pK_v, pK_0, pK_ite, if_true, if_false, if_pos, if_neg, Nat.reduceAdd, pok_r, i10, i01, Bool.true_or, Bool.or_true, Bool.and_true, Bool.true_and, Nat.add_sub_cancel, i1p1, i1p0, i0p1, i0p0, nIrem2, va_rf_s, bit1, bit0, pinT, pinLT, pin0, nIc, nIcL, nIlt, nIeq, nIltL, nILlt, nIeqL, nILeq, nIadL, nILad, nILmu, nI_add, nIsbL, nI_sub', decide_true, decide_false, Bool.false_or, Bool.or_false, rX3_here_0, rX3_here_1, rX3_here_4, rX3_here_5, rX3_here_8, rX3_here_11, rX3_here_12, rX3_here_15, rX3_here_16, rX3_here_19, rX3_here_20, rX3_here_23, rX3_here_24, mCl, mF0, mP0, mF1, mF2, mF3, mF4, mF5, mP5, mF6, mF7, mP7, mF8, mP8, mF9, mP9, mF10, mP10, mF11, mF12, mF13, mF14, mF15, mF16, mF17, mF18, mF19, mF20, mP20, mF21, mF22, mF23, mP23, mF24, mP24, mF25, mP25, mF26, mF27, mF28, mF29, mF30, mF31, mP31, mF32, mP32, mF33, mP33, mF34, mF35, mF36, mF37, mF38, mF39, mF40, mF41, mF42, mF43, mF44, mF45, mP45, mF46, mP46, mF47, mP47, mF48, mP48, mF49, mF50, mF51, mP51, mL1, mL1n, mC1, mW1, mL2, mL2n, mC2, mW2, mL3, mL3n, mC3, mW3, mL4, mL4n, mC4, mW4, mL5, mL5n, mC5, mW5, mL6, mL6n, mC6, mW6, mL7, mL7n, mC7, mW7, mL8, mL8n, mC8, mW8, mL9, mL9n, mC9, mW9, mL10, mL10n, mC10, mW10, mL11, mL11n, mC11, mW11, mL12, mL12n, mC12, mW12, mL13, mL13n, mC13, mW13, mL14, mL14n, mC14, mW14, mL15, mL15n, mC15, mW15, mL16, mL16n, mC16, mW16, mL17, mL17n, mC17, mW17, mL18, mL18n, mC18, mW18, mL19, mL19n, mC19, mW19, mL20, mL20n, mC20, mW20, mL21, mL21n, mC21, mW21, mL23, mL23n, mC23, mW23, mL24, mL24n, mC24, mW24, mL25, mL25n, mC25, mW25, mL26, mL26n, mC26, mW26, mL27, mL27n, mC27, mW27, mL28, mL28n, mC28, mW28, mL29, mL29n, mC29, mW29, mL30, mL30n, mC30, mW30, mL31, mL31n, mC31, mW31, mL32, mL32n, mC32, mW32, mL33, mL33n, mC33, mW33, mL34, mL34n, mC34, mW34, mL22, mC22, mW22, ha, hT.l, l, hr]
theorem MT.u8 {v : Int32} (hT : MT T t) : MT (upd T.1 8 v, T.2) t := ⟨by show upd T.1 8 v 7 = _; rw [upd_ne (by decide)]; exact hT.l, hT.c, hT.k⟩
theorem kX3_look (hT : MT T t) (ha : T.1 8 = nI a) (h9 : a ≤ t.1) : pCa 76 (d + 1) [.ref m] (mput h m T) = some (.inl (some (.int (hr t (skp t a)))), mput h m (upd T.1 8 (nI (skp t a)), T.2)) := by
  have ht := hT.k
  have ht1 := ht.1
  rw [eX3_look]
  have lp : ∀ n a, t.1 - a ≤ n → a ≤ t.1 → pR 76 (d + 1) 0 [.ref m] [] (mput h m (upd T.1 8 (nI a), T.2)) = some (.inl (some (.int (hr t (skp t a)))), mput h m (upd T.1 8 (nI (skp t a)), T.2)) := by
    intro n
    induction n with
    | zero =>
      intro a hn ha
      have e : ¬ isC t a 32 = true := by simp [isC]; omega
      have hh := kX3_here (d := d) (m := m) (h := h) (a := a) (hT.u8 (v := nI a)) (show upd T.1 8 (nI a) 8 = nI a from upd_same) (by omega)
      rw [rX3_look_0]
      simp (disch := first | assumption | omega | decide) only [pis_i, pis_l, pis_r, pis_n, p1_i, p1_r, p1_n, p1_u, pw0, pw1, pw2, pw3, pw4, pK_v, pK_0, pK_ite, if_true, if_false, if_pos, if_neg, Nat.reduceAdd, pok_r, i10, i01, Bool.true_or, Bool.or_true, Bool.and_true, Bool.true_and, rX3_look_1, rX3_look_4, rX3_look_6, rX3_look_9, rX3_look_10, rX3_look_10i, rX3_look_11, rX3_look_14, rX3_look_15, rX3_look_16, rX3_look_19, rX3_look_22, rX3_look_23, rX3_look_26, mCl, mF0, mP0, mF1, mF2, mF3, mF4, mF5, mP5, mF6, mF7, mP7, mF8, mP8, mF9, mP9, mF10, mP10, mF11, mF12, mF13, mF14, mF15, mF16, mF17, mF18, mF19, mF20, mP20, mF21, mF22, mF23, mP23, mF24, mP24, mF25, mP25, mF26, mF27, mF28, mF29, mF30, mF31, mP31, mF32, mP32, mF33, mP33, mF34, mF35, mF36, mF37, mF38, mF39, mF40, mF41, mF42, mF43, mF44, mF45, mP45, mF46, mP46, mF47, mP47, mF48, mP48, mF49, mF50, mF51, mP51, mL1, mL1n, mC1, mW1, mL2, mL2n, mC2, mW2, mL3, mL3n, mC3, mW3, mL4, mL4n, mC4, mW4, mL5, mL5n, mC5, mW5, mL6, mL6n, mC6, mW6, mL7, mL7n, mC7, mW7, mL8, mL8n, mC8, mW8, mL9, mL9n, mC9, mW9, mL10, mL10n, mC10, mW10, mL11, mL11n, mC11, mW11, mL12, mL12n, mC12, mW12, mL13, mL13n, mC13, mW13, mL14, mL14n, mC14, mW14, mL15, mL15n, mC15, mW15, mL16, mL16n, mC16, mW16, mL17, mL17n, mC17, mW17, mL18, mL18n, mC18, mW18, mL19, mL19n, mC19, mW19, mL20, mL20n, mC20, mW20, mL21, mL21n, mC21, mW21, mL23, mL23n, mC23, mW23, mL24, mL24n, mC24, mW24, mL25, mL25n, mC25, mW25, mL26, mL26n, mC26, mW26, mL27, mL27n, mC27, mW27, mL28, mL28n, mC28, mW28, mL29, mL29n, mC29, mW29, mL30, mL30n, mC30, mW30, mL31, mL31n, mC31, mW31, mL32, mL32n, mC32, mW32, mL33, mL33n, mC33, mW33, mL34, mL34n, mC34, mW34, mL22, mC22, mW22, hh, hr_eq ht, e, skp_n e]
    | succ n ih =>
      intro a hn ha
      have hh := kX3_here (d := d) (m := m) (h := h) (a := a) (hT.u8 (v := nI a)) (show upd T.1 8 (nI a) 8 = nI a from upd_same) (by omega)
      rw [rX3_look_0]
      by_cases e : isC t a 32 = true
      · have h1 := (isC_lt e).1
        simp (disch := first | assumption | omega | decide) only [pis_i, pis_l, pis_r, pis_n, p1_i, p1_r, p1_n, p1_u, pw0, pw1, pw2, pw3, pw4, pK_v, pK_0, pK_ite, if_true, if_false, if_pos, if_neg, Nat.reduceAdd, pok_r, i10, i01, Bool.true_or, Bool.or_true, Bool.and_true, Bool.true_and, Nat.add_sub_cancel, i1p1, i1p0, i0p1, i0p0, nIrem2, va_rf_s, bit1, bit0, pinT, pinLT, pin0, nIc, nIcL, nIlt, nIeq, nIltL, nILlt, nIeqL, nILeq, nIadL, nILad, nILmu, nI_add, nIsbL, nI_sub', decide_true, decide_false, Bool.false_or, Bool.or_false, rX3_look_1, rX3_look_4, rX3_look_6, rX3_look_9, rX3_look_10, rX3_look_10i, rX3_look_11, rX3_look_14, rX3_look_15, rX3_look_16, rX3_look_19, rX3_look_22, rX3_look_23, rX3_look_26, mCl, mF0, mP0, mF1, mF2, mF3, mF4, mF5, mP5, mF6, mF7, mP7, mF8, mP8, mF9, mP9, mF10, mP10, mF11, mF12, mF13, mF14, mF15, mF16, mF17, mF18, mF19, mF20, mP20, mF21, mF22, mF23, mP23, mF24, mP24, mF25, mP25, mF26, mF27, mF28, mF29, mF30, mF31, mP31, mF32, mP32, mF33, mP33, mF34, mF35, mF36, mF37, mF38, mF39, mF40, mF41, mF42, mF43, mF44, mF45, mP45, mF46, mP46, mF47, mP47, mF48, mP48, mF49, mF50, mF51, mP51, mL1, mL1n, mC1, mW1, mL2, mL2n, mC2, mW2, mL3, mL3n, mC3, mW3, mL4, mL4n, mC4, mW4, mL5, mL5n, mC5, mW5, mL6, mL6n, mC6, mW6, mL7, mL7n, mC7, mW7, mL8, mL8n, mC8, mW8, mL9, mL9n, mC9, mW9, mL10, mL10n, mC10, mW10, mL11, mL11n, mC11, mW11, mL12, mL12n, mC12, mW12, mL13, mL13n, mC13, mW13, mL14, mL14n, mC14, mW14, mL15, mL15n, mC15, mW15, mL16, mL16n, mC16, mW16, mL17, mL17n, mC17, mW17, mL18, mL18n, mC18, mW18, mL19, mL19n, mC19, mW19, mL20, mL20n, mC20, mW20, mL21, mL21n, mC21, mW21, mL23, mL23n, mC23, mW23, mL24, mL24n, mC24, mW24, mL25, mL25n, mC25, mW25, mL26, mL26n, mC26, mW26, mL27, mL27n, mC27, mW27, mL28, mL28n, mC28, mW28, mL29, mL29n, mC29, mW29, mL30, mL30n, mC30, mW30, mL31, mL31n, mC31, mW31, mL32, mL32n, mC32, mW32, mL33, mL33n, mC33, mW33, mL34, mL34n, mC34, mW34, mL22, mC22, mW22, hh, hr_eq ht, e, upd_same, upd_upd]
        rw [skp_s e]
        exact ih _ (by omega) (by omega)
      · simp (disch := first | assumption | omega | decide) only [pis_i, pis_l, pis_r, pis_n, p1_i, p1_r, p1_n, p1_u, pw0, pw1, pw2, pw3, pw4, pK_v, pK_0, pK_ite, if_true, if_false, if_pos, if_neg, Nat.reduceAdd, pok_r, i10, i01, Bool.true_or, Bool.or_true, Bool.and_true, Bool.true_and, rX3_look_1, rX3_look_4, rX3_look_6, rX3_look_9, rX3_look_10, rX3_look_10i, rX3_look_11, rX3_look_14, rX3_look_15, rX3_look_16, rX3_look_19, rX3_look_22, rX3_look_23, rX3_look_26, mCl, mF0, mP0, mF1, mF2, mF3, mF4, mF5, mP5, mF6, mF7, mP7, mF8, mP8, mF9, mP9, mF10, mP10, mF11, mF12, mF13, mF14, mF15, mF16, mF17, mF18, mF19, mF20, mP20, mF21, mF22, mF23, mP23, mF24, mP24, mF25, mP25, mF26, mF27, mF28, mF29, mF30, mF31, mP31, mF32, mP32, mF33, mP33, mF34, mF35, mF36, mF37, mF38, mF39, mF40, mF41, mF42, mF43, mF44, mF45, mP45, mF46, mP46, mF47, mP47, mF48, mP48, mF49, mF50, mF51, mP51, mL1, mL1n, mC1, mW1, mL2, mL2n, mC2, mW2, mL3, mL3n, mC3, mW3, mL4, mL4n, mC4, mW4, mL5, mL5n, mC5, mW5, mL6, mL6n, mC6, mW6, mL7, mL7n, mC7, mW7, mL8, mL8n, mC8, mW8, mL9, mL9n, mC9, mW9, mL10, mL10n, mC10, mW10, mL11, mL11n, mC11, mW11, mL12, mL12n, mC12, mW12, mL13, mL13n, mC13, mW13, mL14, mL14n, mC14, mW14, mL15, mL15n, mC15, mW15, mL16, mL16n, mC16, mW16, mL17, mL17n, mC17, mW17, mL18, mL18n, mC18, mW18, mL19, mL19n, mC19, mW19, mL20, mL20n, mC20, mW20, mL21, mL21n, mC21, mW21, mL23, mL23n, mC23, mW23, mL24, mL24n, mC24, mW24, mL25, mL25n, mC25, mW25, mL26, mL26n, mC26, mW26, mL27, mL27n, mC27, mW27, mL28, mL28n, mC28, mW28, mL29, mL29n, mC29, mW29, mL30, mL30n, mC30, mW30, mL31, mL31n, mC31, mW31, mL32, mL32n, mC32, mW32, mL33, mL33n, mC33, mW33, mL34, mL34n, mC34, mW34, mL22, mC22, mW22, hh, hr_eq ht, e, skp_n e]
  have e0 : T = (upd T.1 8 (nI a), T.2) := by rw [← ha, upd_id]
  have := lp _ a (Nat.le_refl _) h9
  rw [← e0] at this
  exact this
theorem kX3_isDigit {H : pH} (ht : TpOk t) : pCa 79 d [.int (hr t a)] H = if dg t a = true then some (.inl (some (.int 1)), H) else some (.inl (some (.int 0)), H) := by
  rw [eX3_isDigit]
  simp (disch := first | assumption | omega | decide) only [pis_i, pis_l, pis_r, pis_n, p1_i, p1_r, p1_n, p1_u, pw0, pw1, pw2, pw3, pw4, pK_v, pK_0, pK_ite, if_true, if_false, if_pos, if_neg, Nat.reduceAdd, pok_r, i10, i01, Bool.true_or, Bool.or_true, Bool.and_true, Bool.true_and, rX3_isDigit_0, rX3_isDigit_1, rX3_isDigit_3, rX3_isDigit_6, rX3_isDigit_7, rX3_isDigit_9, rX3_isDigit_12, rX3_isDigit_13, rX3_isDigit_16, rX3_isDigit_170, rX3_isDigit_171, hr_lt ht, hr_gt ht]
  unfold dg inC
  by_cases h1 : a < t.1
  · by_cases h2 : 48 ≤ t.2 a
    · by_cases h3 : t.2 a ≤ 57
      · simp [h1, h2, h3, Nat.not_lt.mpr h3]
      · simp [h1, h2, h3, Nat.lt_of_not_le h3]
    · simp [h1, h2]
  · simp [h1]
theorem kX3_bad (h9 : T.1 9 = -1) : pCa 78 d [.ref m] (mput h m T) = some (.inl none, mput h m (upd T.1 9 (T.1 8), T.2)) := by
  rw [eX3_bad]
  simp (disch := first | assumption | omega | decide) only [pis_i, pis_l, pis_r, pis_n, p1_i, p1_r, p1_n, p1_u, pw0, pw1, pw2, pw3, pw4, pK_v, pK_0, pK_ite, if_true, if_false, if_pos, if_neg, Nat.reduceAdd, pok_r, i10, i01, Bool.true_or, Bool.or_true, Bool.and_true, Bool.true_and, rX3_bad_0, rX3_bad_1, rX3_bad_2, rX3_bad_5, rX3_bad_6, rX3_bad_9, rX3_bad_10, rX3_bad_13, rX3_bad_16, rX3_bad_17, rX3_bad_20, rX3_bad_23, mCl, mF0, mP0, mF1, mF2, mF3, mF4, mF5, mP5, mF6, mF7, mP7, mF8, mP8, mF9, mP9, mF10, mP10, mF11, mF12, mF13, mF14, mF15, mF16, mF17, mF18, mF19, mF20, mP20, mF21, mF22, mF23, mP23, mF24, mP24, mF25, mP25, mF26, mF27, mF28, mF29, mF30, mF31, mP31, mF32, mP32, mF33, mP33, mF34, mF35, mF36, mF37, mF38, mF39, mF40, mF41, mF42, mF43, mF44, mF45, mP45, mF46, mP46, mF47, mP47, mF48, mP48, mF49, mF50, mF51, mP51, mL1, mL1n, mC1, mW1, mL2, mL2n, mC2, mW2, mL3, mL3n, mC3, mW3, mL4, mL4n, mC4, mW4, mL5, mL5n, mC5, mW5, mL6, mL6n, mC6, mW6, mL7, mL7n, mC7, mW7, mL8, mL8n, mC8, mW8, mL9, mL9n, mC9, mW9, mL10, mL10n, mC10, mW10, mL11, mL11n, mC11, mW11, mL12, mL12n, mC12, mW12, mL13, mL13n, mC13, mW13, mL14, mL14n, mC14, mW14, mL15, mL15n, mC15, mW15, mL16, mL16n, mC16, mW16, mL17, mL17n, mC17, mW17, mL18, mL18n, mC18, mW18, mL19, mL19n, mC19, mW19, mL20, mL20n, mC20, mW20, mL21, mL21n, mC21, mW21, mL23, mL23n, mC23, mW23, mL24, mL24n, mC24, mW24, mL25, mL25n, mC25, mW25, mL26, mL26n, mC26, mW26, mL27, mL27n, mC27, mW27, mL28, mL28n, mC28, mW28, mL29, mL29n, mC29, mW29, mL30, mL30n, mC30, mW30, mL31, mL31n, mC31, mW31, mL32, mL32n, mC32, mW32, mL33, mL33n, mC33, mW33, mL34, mL34n, mC34, mW34, mL22, mC22, mW22, h9]
theorem kX3_newPoint {r : Nat} (h1 : T.1 23 = nI r) (h2 : r < 60) : pCa 80 d [.ref m] (mput h m T) = some (.inl (some (.int (nI r))), mput h m (upd T.1 23 (nI (r + 1)), ua T.2.1 15 r (nI r), T.2.2)) := by
  rw [eX3_newPoint]
  simp (disch := first | assumption | omega | decide) only [pis_i, pis_l, pis_r, pis_n, p1_i, p1_r, p1_n, p1_u, pw0, pw1, pw2, pw3, pw4, pK_v, pK_0, pK_ite, if_true, if_false, if_pos, if_neg, Nat.reduceAdd, pok_r, i10, i01, Bool.true_or, Bool.or_true, Bool.and_true, Bool.true_and, Nat.add_sub_cancel, i1p1, i1p0, i0p1, i0p0, nIrem2, va_rf_s, bit1, bit0, pinT, pinLT, pin0, nIc, nIcL, nIlt, nIeq, nIltL, nILlt, nIeqL, nILeq, nIadL, nILad, nILmu, nI_add, nIsbL, nI_sub', decide_true, decide_false, Bool.false_or, Bool.or_false, rX3_newPoint_0, rX3_newPoint_1, rX3_newPoint_4, rX3_newPoint_5, rX3_newPoint_8, rX3_newPoint_9, rX3_newPoint_12, rX3_newPoint_13, rX3_newPoint_14, rX3_newPoint_14i, rX3_newPoint_15, rX3_newPoint_18, rX3_newPoint_19, rX3_newPoint_20, rX3_newPoint_23, rX3_newPoint_24, rX3_newPoint_27, rX3_newPoint_28, rX3_newPoint_29, mCl, mF0, mP0, mF1, mF2, mF3, mF4, mF5, mP5, mF6, mF7, mP7, mF8, mP8, mF9, mP9, mF10, mP10, mF11, mF12, mF13, mF14, mF15, mF16, mF17, mF18, mF19, mF20, mP20, mF21, mF22, mF23, mP23, mF24, mP24, mF25, mP25, mF26, mF27, mF28, mF29, mF30, mF31, mP31, mF32, mP32, mF33, mP33, mF34, mF35, mF36, mF37, mF38, mF39, mF40, mF41, mF42, mF43, mF44, mF45, mP45, mF46, mP46, mF47, mP47, mF48, mP48, mF49, mF50, mF51, mP51, mL1, mL1n, mC1, mW1, mL2, mL2n, mC2, mW2, mL3, mL3n, mC3, mW3, mL4, mL4n, mC4, mW4, mL5, mL5n, mC5, mW5, mL6, mL6n, mC6, mW6, mL7, mL7n, mC7, mW7, mL8, mL8n, mC8, mW8, mL9, mL9n, mC9, mW9, mL10, mL10n, mC10, mW10, mL11, mL11n, mC11, mW11, mL12, mL12n, mC12, mW12, mL13, mL13n, mC13, mW13, mL14, mL14n, mC14, mW14, mL15, mL15n, mC15, mW15, mL16, mL16n, mC16, mW16, mL17, mL17n, mC17, mW17, mL18, mL18n, mC18, mW18, mL19, mL19n, mC19, mW19, mL20, mL20n, mC20, mW20, mL21, mL21n, mC21, mW21, mL23, mL23n, mC23, mW23, mL24, mL24n, mC24, mW24, mL25, mL25n, mC25, mW25, mL26, mL26n, mC26, mW26, mL27, mL27n, mC27, mW27, mL28, mL28n, mC28, mW28, mL29, mL29n, mC29, mW29, mL30, mL30n, mC30, mW30, mL31, mL31n, mC31, mW31, mL32, mL32n, mC32, mW32, mL33, mL33n, mC33, mW33, mL34, mL34n, mC34, mW34, mL22, mC22, mW22, h1, upd_same]
end
/-- the model while it reads figure f: what is made, where, what is wrong, how deep -/
def aB (A : Nat → Nat → Int32) (f : Nat) (H : Hd) : Nat → Nat → Int32 := fun j => if j = 6 then upd (A 6) f (nI H.nl) else if j = 7 then rg (A 7) (6 * f) H.nl (fun k => nI (H.so k)) else if j = 8 then upd (A 8) f (nI H.nb) else if j = 10 then rg (A 10) (24 * f) H.nb H.le else if j = 11 then rg (A 11) (24 * f) H.nb (fun k => nI (H.fr k)) else if j = 12 then rg (A 12) (24 * f) H.nb (fun k => nI (H.tq k)) else if j = 13 then rg (A 13) (24 * f) H.nb (fun k => nI (H.ba k)) else if j = 14 then upd (A 14) f (nI H.mo) else if j = 15 then rg (A 15) 0 H.np (fun k => nI (H.jo k)) else if j = 16 then rg (A 16) 0 8 (fun k => nO (H.na k)) else A j
def mHd (S : MS) (f : Nat) (H : Hd) (a w dp : Int32) : MS := (fun k => if k = 8 then a else if k = 9 then w else if k = 10 then dp else if k = 23 then nI H.np else if k = 24 then nI H.wh else if k = 25 then nI f else S.1 k, aB S.2.1 f H, S.2.2)
section
variable {S : MS} {f : Nat} {H : Hd} {a w dp v : Int32} {i k : Nat}
theorem hm8 : (mHd S f H a w dp).1 8 = a := rfl
theorem hm9 : (mHd S f H a w dp).1 9 = w := rfl
theorem hm10 : (mHd S f H a w dp).1 10 = dp := rfl
theorem hm23 : (mHd S f H a w dp).1 23 = nI H.np := rfl
theorem hm24 : (mHd S f H a w dp).1 24 = nI H.wh := rfl
theorem hm25 : (mHd S f H a w dp).1 25 = nI f := rfl
theorem hm5 : (mHd S f H a w dp).1 5 = S.1 5 := rfl
theorem hm7 : (mHd S f H a w dp).1 7 = S.1 7 := rfl
theorem hmt : (mHd S f H a w dp).2.1 5 = S.2.1 5 := rfl
theorem hmL : (mHd S f H a w dp).2.1 6 f = nI H.nl := upd_same
theorem hmB : (mHd S f H a w dp).2.1 8 f = nI H.nb := upd_same
theorem hmM : (mHd S f H a w dp).2.1 14 f = nI H.mo := upd_same
theorem hmN (hk : k < 8) : (mHd S f H a w dp).2.1 16 k = nO (H.na k) := rg_in0 (A := S.2.1 16) (B := fun k => nO (H.na k)) hk
theorem hmJ : ∀ p, p < H.np → (mHd S f H a w dp).2.1 15 p = nI (H.jo p) := fun p hp => rg_in0 (A := S.2.1 15) (B := fun k => nI (H.jo k)) hp
theorem mHd_MHd (hf : f < 13) : MHd (mHd S f H a w dp) f H := ⟨hf, hmB, fun k hk => rg_in (A := S.2.1 10) (B := H.le) hk, fun k hk => rg_in (A := S.2.1 11) (B := fun k => nI (H.fr k)) hk, fun k hk => rg_in (A := S.2.1 12) (B := fun k => nI (H.tq k)) hk, fun k hk => rg_in (A := S.2.1 13) (B := fun k => nI (H.ba k)) hk, hmJ⟩
theorem mHd_MT {t : Tp} (hT : MT S t) : MT (mHd S f H a w dp) t := ⟨hT.l, hT.c, hT.k⟩
theorem hw8 : (upd (mHd S f H a w dp).1 8 v, (mHd S f H a w dp).2) = mHd S f H v w dp := by
  refine Prod.ext ?_ rfl
  funext k
  simp only [mHd, upd]
  by_cases e : k = 8 <;> simp [e]
theorem hw9 : (upd (mHd S f H a w dp).1 9 v, (mHd S f H a w dp).2) = mHd S f H a v dp := by
  refine Prod.ext ?_ rfl
  funext k
  simp only [mHd, upd]
  by_cases e : k = 9 <;> simp [e]
theorem hw10 : (upd (mHd S f H a w dp).1 10 v, (mHd S f H a w dp).2) = mHd S f H a w v := by
  refine Prod.ext ?_ rfl
  funext k
  simp only [mHd, upd]
  by_cases e : k = 10 <;> simp [e]
theorem hwJ {p q : Nat} (hp : p < H.np) : ((mHd S f H a w dp).1, ua (mHd S f H a w dp).2.1 15 p (nI q), (mHd S f H a w dp).2.2) = mHd S f { H with jo := un H.jo p q } a w dp := by
  refine Prod.ext rfl (Prod.ext ?_ rfl)
  funext j
  by_cases e : j = 15
  · subst e
    show ua _ 15 p (nI q) 15 = rg (S.2.1 15) 0 H.np (fun k => nI (un H.jo p q k))
    rw [ua_j, show (mHd S f H a w dp).2.1 15 = rg (S.2.1 15) 0 H.np (fun k => nI (H.jo k)) from rfl, rg_up0 hp, ul_un]
  · show ua _ 15 p (nI q) j = _
    rw [ua_o e]
    simp [mHd, aB, e]
theorem hwN {q : Nat} (hk : k < 8) : ((mHd S f H a w dp).1, ua (mHd S f H a w dp).2.1 16 k (nI q), (mHd S f H a w dp).2.2) = mHd S f { H with na := uo H.na k (some q) } a w dp := by
  refine Prod.ext rfl (Prod.ext ?_ rfl)
  funext j
  by_cases e : j = 16
  · subst e
    show ua _ 16 k (nI q) 16 = rg (S.2.1 16) 0 8 (fun i => nO (uo H.na k (some q) i))
    rw [ua_j, show (mHd S f H a w dp).2.1 16 = rg (S.2.1 16) 0 8 (fun k => nO (H.na k)) from rfl, rg_up0 hk]
    refine rg_cong (fun i _ => ?_)
    unfold ul uo
    by_cases e : i = k <;> simp [e, nO]
  · show ua _ 16 k (nI q) j = _
    rw [ua_o e]
    simp [mHd, aB, e]
/-- a point more, and there -/
theorem hwP {q : Nat} : (upd (upd (mHd S f H a w dp).1 23 (nI (H.np + 1))) 24 (nI q), ua (mHd S f H a w dp).2.1 15 H.np (nI H.np), (mHd S f H a w dp).2.2) = mHd S f { H.pnt with wh := q } a w dp := by
  refine Prod.ext ?_ (Prod.ext ?_ rfl)
  · funext k
    show upd (upd _ 23 _) 24 _ k = _
    unfold upd
    by_cases e : k = 24
    · subst e; simp [mHd]
    · by_cases e2 : k = 23
      · subst e2; simp [mHd, Hd.pnt]
      · simp [mHd, e, e2]
  · funext j
    by_cases e : j = 15
    · subst e
      show ua _ 15 H.np (nI H.np) 15 = rg (S.2.1 15) 0 (H.np + 1) (fun k => nI (un H.jo H.np H.np k))
      rw [ua_j, show (mHd S f H a w dp).2.1 15 = rg (S.2.1 15) 0 H.np (fun k => nI (H.jo k)) from rfl, rg_push0, ul_un]
    · show ua _ 15 H.np (nI H.np) j = _
      rw [ua_o e]
      simp [mHd, aB, e, Hd.pnt]
/-- a balloon more -/
theorem hwS {s : Nat} : ((mHd S f H a w dp).1, ua (ua (mHd S f H a w dp).2.1 7 (6 * f + H.nl) (nI s)) 6 f (nI (H.nl + 1)), (mHd S f H a w dp).2.2) = mHd S f { H with so := un H.so H.nl s, nl := H.nl + 1 } a w dp := by
  refine Prod.ext rfl (Prod.ext ?_ rfl)
  funext j
  by_cases e : j = 6
  · subst e
    show ua _ 6 f (nI (H.nl + 1)) 6 = upd (S.2.1 6) f (nI (H.nl + 1))
    rw [ua_j, ua_o (by decide), show (mHd S f H a w dp).2.1 6 = upd (S.2.1 6) f (nI H.nl) from rfl, upd_upd]
  · by_cases e2 : j = 7
    · subst e2
      show ua (ua (mHd S f H a w dp).2.1 7 (6 * f + H.nl) (nI s)) 6 f (nI (H.nl + 1)) 7 = rg (S.2.1 7) (6 * f) (H.nl + 1) (fun k => nI (un H.so H.nl s k))
      rw [ua_o (by decide), ua_j, show (mHd S f H a w dp).2.1 7 = rg (S.2.1 7) (6 * f) H.nl (fun k => nI (H.so k)) from rfl, rg_pushl, ul_un]
    · show ua _ 6 f (nI (H.nl + 1)) j = _
      rw [ua_o e, ua_o e2]
      simp [mHd, aB, e, e2]
/-- a bubble more -/
theorem hwB {l : Int32} {o : Nat} : (upd (upd (mHd S f H a w dp).1 23 (nI (H.np + 1))) 24 (nI H.np), ua (ua (ua (ua (ua (ua (mHd S f H a w dp).2.1 10 (24 * f + H.nb) l) 13 (24 * f + H.nb) (nI o)) 11 (24 * f + H.nb) (nI H.wh)) 15 H.np (nI H.np)) 12 (24 * f + H.nb) (nI H.np)) 8 f (nI (H.nb + 1)), (mHd S f H a w dp).2.2) = mHd S f { H.pnt.ad0 l H.wh H.np o with wh := H.np } a w dp := by
  refine Prod.ext ?_ (Prod.ext ?_ rfl)
  · funext k
    show upd (upd _ 23 _) 24 _ k = _
    unfold upd
    by_cases e : k = 24
    · subst e; simp [mHd]
    · by_cases e2 : k = 23
      · subst e2; simp [mHd, Hd.pnt, Hd.ad0]
      · simp [mHd, e, e2]
  · funext j
    have r10 : (mHd S f H a w dp).2.1 10 = rg (S.2.1 10) (24 * f) H.nb H.le := rfl
    have r11 : (mHd S f H a w dp).2.1 11 = rg (S.2.1 11) (24 * f) H.nb (fun k => nI (H.fr k)) := rfl
    have r12 : (mHd S f H a w dp).2.1 12 = rg (S.2.1 12) (24 * f) H.nb (fun k => nI (H.tq k)) := rfl
    have r13 : (mHd S f H a w dp).2.1 13 = rg (S.2.1 13) (24 * f) H.nb (fun k => nI (H.ba k)) := rfl
    have r15 : (mHd S f H a w dp).2.1 15 = rg (S.2.1 15) 0 H.np (fun k => nI (H.jo k)) := rfl
    have r8 : (mHd S f H a w dp).2.1 8 = upd (S.2.1 8) f (nI H.nb) := rfl
    by_cases e8 : j = 8
    · subst e8
      simp (disch := first | assumption | decide) only [ua_o, ua_j, ne_eq, r8, upd_upd]
      rfl
    by_cases e12 : j = 12
    · subst e12
      simp (disch := first | assumption | decide) only [ua_o, ua_j, ne_eq, r12, rg_pushl, ul_un]
      rfl
    by_cases e15 : j = 15
    · subst e15
      simp (disch := first | assumption | decide) only [ua_o, ua_j, ne_eq, r15, rg_push0, ul_un]
      rfl
    by_cases e11 : j = 11
    · subst e11
      simp (disch := first | assumption | decide) only [ua_o, ua_j, ne_eq, r11, rg_pushl, ul_un]
      rfl
    by_cases e13 : j = 13
    · subst e13
      simp (disch := first | assumption | decide) only [ua_o, ua_j, ne_eq, r13, rg_pushl, ul_un]
      rfl
    by_cases e10 : j = 10
    · subst e10
      simp (disch := first | assumption | decide) only [ua_o, ua_j, ne_eq, r10, rg_pushl]
      rfl
    simp (disch := first | assumption | decide) only [ua_o, ne_eq]
    simp [mHd, aB, e8, e12, e15, e11, e13, e10, Hd.pnt, Hd.ad0]
theorem hwM {q : Nat} : ((mHd S f H a w dp).1, ua (mHd S f H a w dp).2.1 14 f (nI q), (mHd S f H a w dp).2.2) = mHd S f { H with mo := q } a w dp := by
  refine Prod.ext rfl (Prod.ext ?_ rfl)
  funext j
  by_cases e : j = 14
  · subst e
    show ua _ 14 f (nI q) 14 = upd (S.2.1 14) f (nI q)
    rw [ua_j, show (mHd S f H a w dp).2.1 14 = upd (S.2.1 14) f (nI H.mo) from rfl, upd_upd]
  · show ua _ 14 f (nI q) j = _
    rw [ua_o e]
    simp [mHd, aB, e]
end
/-- what moves keep -/
theorem ex_R {N : Nat} : ∀ c k H, gd c k → HdR N H → H.nb + bc c ≤ 24 → HdR N (ex c H) ∧ (ex c H).nb = H.nb + bc c ∧ (ex c H).nl = H.nl := by
  intro c
  induction c with
  | nil => intro k H _ hk _; exact ⟨hk, rfl, rfl⟩
  | blow v c ih =>
    intro k H hg hk hb
    have hb : H.nb + (bc c + 1) ≤ 24 := hb
    obtain ⟨i1, i2, i3⟩ := ih k (H.blo (nI v)) hg.2.2 (hk.blo (by omega)) (by show H.nb + 1 + bc c ≤ 24; omega)
    exact ⟨i1, by rw [show ex (.blow v c) H = ex c (H.blo (nI v)) from rfl, i2]; show H.nb + 1 + bc c = H.nb + (bc c + 1); omega, i3⟩
  | name w c ih =>
    intro k H hg hk hb
    have hnb : (H.nam w).nb = H.nb ∧ (H.nam w).nl = H.nl := by unfold Hd.nam; cases H.na w <;> exact ⟨rfl, rfl⟩
    obtain ⟨i1, i2, i3⟩ := ih k (H.nam w) hg.2 (hk.nam hg.1) (by rw [hnb.1]; exact hb)
    exact ⟨i1, by rw [show ex (.name w c) H = ex c (H.nam w) from rfl, i2, hnb.1]; rfl, by rw [show ex (.name w c) H = ex c (H.nam w) from rfl, i3, hnb.2]⟩
  | ring i c ihi ih =>
    intro k H hg hk hb
    have hb : H.nb + (bc i + bc c) ≤ 24 := hb
    obtain ⟨j1, j2, j3⟩ := ihi (k - 1) H hg.2.1 hk (by omega)
    have hwi : H.wh < (ex i H).np := by have := hk.w; have := hk.e; have := j1.e; omega
    obtain ⟨i1, i2, i3⟩ := ih k ((ex i H).joi H.wh (ex i H).wh) hg.2.2 (j1.joi hwi j1.w) (by show (ex i H).nb + bc c ≤ 24; omega)
    refine ⟨i1, ?_, ?_⟩
    · rw [show ex (.ring i c) H = ex c ((ex i H).joi H.wh (ex i H).wh) from rfl, i2]
      show (ex i H).nb + bc c = H.nb + (bc i + bc c)
      omega
    · rw [show ex (.ring i c) H = ex c ((ex i H).joi H.wh (ex i H).wh) from rfl, i3]
      exact j3
  | fresh s i c _ _ => intro k H hg; exact absurd hg id
