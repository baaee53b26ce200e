/-! PLAIN FIGURES 3: the model's plain -/
set_option maxRecDepth 100000
def hdk (F : Fig) (k p : Nat) : Int32 := if gnB F k p = true then -1 else nI p
theorem hdk_s {F : Fig} {k : Nat} (h : sl F k = true) : ul (hdk F k) (F.2.1 1 k) (-1) = hdk F (k + 1) := by
  funext p
  unfold ul hdk
  rw [gnB, h]
  by_cases e : p = F.2.1 1 k
  · subst e; simp
  · simp [e, Ne.symm e]
theorem hdk_n {F : Fig} {k : Nat} (h : sl F k = false) : hdk F (k + 1) = hdk F k := by
  funext p
  unfold hdk
  rw [gnB, h]
  simp
section
variable {d m G g : Nat} {h : pH} {S : MS} {F : Fig}
theorem m_plain (hS : S.1 20 = nI G) (hG : G < 12) (hg : g < G) (hF : MFig S g F) (hk : FigOk F) (hX : FigX F) :
    ∃ S', pCa 123 (d + 6) [.ref m, .int (nI g)] (mput h m S) = some (.inl (some (.int (nI G))), mput h m (upd S'.1 20 (nI (G + 1)), S'.2)) ∧ mfg S S' G ∧ MFig S' G (figOf (plF F)) := by
  have hF0 := hF
  have hk' := hk
  obtain ⟨k1, k2, k3, k4, k5, k6⟩ := hk'
  have isf := kX3_isFigure (d := d + 4) (m := m) (h := h) hS (show G < 1000 by omega) hg
  have IN := plI hk hX (Nat.le_refl (F.1 0))
  obtain ⟨w1, w2, w3, w4, w5, w6⟩ := plH_f (F := F)
  have hcl := fb_ct_le (kp F) (F.1 2)
  let K : Nat → Hd := fun k => (plS F (plH F) (plK F) k).2.1
  let T : MS := mAd S G (K (F.1 0)) (F.1 1) (nI (F.1 1)) (F.1 2) (hdk F (F.1 0))
  have b1 : (plF F).np = fb_ct (kp F) (F.1 2) := IN.np.trans w1
  have b2 : (plF F).nl = F.1 1 := IN.nl.trans w3
  have b3 : (plF F).so = (plH F).so := IN.so
  have b4 : (K (F.1 0)).so = (plH F).so := IN.ks
  have b5 : (K (F.1 0)).nb = (plF F).nb := IN.kb
  have bb := IN.b
  have hra := rr_all (plF_j hk hX)
  have hj := plF_j hk hX
  have hhd : ∀ q, q < F.1 2 → T.2.1 15 q = hdk F (F.1 0) q := fun q hq => by
    show (mAd S G (K (F.1 0)) _ _ _ _).2.1 15 q = _
    rw [ad15, rg_in0 hq]
  have hnm : ∀ q, kp F q = true → q < F.1 2 → nmb (plF F) (fb_ct (kp F) q) = fb_ct (kp F) q := fun q h1 h2 => by
    have h3 := ct_in h2 h1
    unfold nmb
    rw [ro_fix (hj _ (by omega)), hra _ (by omega)]
  have hend := kX3_endFigure (d := d + 3) (m := m) (h := h) (T := T) (f := G) (N := F.1 2) (F := figOf (plF F)) (p := kp F) (plF_ok hk hX) hG hS (by omega) (fun q hq => by
      rw [hhd q hq]
      unfold hdk kp
      cases hgq : gnB F (F.1 0) q with
      | true =>
        simp only [if_true, Bool.not_true, Bool.false_eq_true, iff_false]
        intro e
        have := nIm1 (w := q) (by omega)
        rw [← e] at this
        simp at this
      | false => simp)
    (by show (mAd S G (K (F.1 0)) _ _ _ _).2.1 8 G = nI (plF F).nb; rw [ad8, upd_same, b5]) (by show (mAd S G (K (F.1 0)) _ _ _ _).2.1 6 G = nI (plF F).nl; rw [ad6, upd_same, b2]) (by show fb_ct _ (plF F).np = _; rw [hra _ (Nat.le_refl _), b1]) (mo_hnd IN.ok IN.mq)
    (fun k hkk => by
      obtain ⟨u1, u2, u3, u4, u5, u6, u7, u8⟩ := bb k hkk
      have hkk : k < (plF F).nb := hkk
      have gq : gnB F (F.1 0) ((K (F.1 0)).fr k) = false := by have := u2; unfold kp at this; simpa using this
      refine ⟨(K (F.1 0)).fr k, (K (F.1 0)).fr k, ?_, u1, u2, ?_, fun d S' hS' => kX3_find1 (by show (plS F (plH F) (plK F) (F.1 0)).2.1.fr k < 60; omega) (by rw [hS', hhd _ u1]; unfold hdk; rw [gq]; rfl)⟩
      · show (mAd S G (K (F.1 0)) _ _ _ _).2.1 11 (24 * G + k) = _
        rw [ad11, rg_in (by omega)]
      · show nmb (plF F) ((plF F).fr k) = _
        rw [show (plF F).fr k = fb_ct (kp F) ((K (F.1 0)).fr k) from u3]
        exact hnm _ u2 u1)
    (fun k hkk => by
      obtain ⟨u1, u2, u3, u4, u5, u6, u7, u8⟩ := bb k hkk
      have hkk : k < (plF F).nb := hkk
      have gq : gnB F (F.1 0) ((K (F.1 0)).tq k) = false := by have := u5; unfold kp at this; simpa using this
      refine ⟨(K (F.1 0)).tq k, (K (F.1 0)).tq k, ?_, u4, u5, ?_, fun d S' hS' => kX3_find1 (by show (plS F (plH F) (plK F) (F.1 0)).2.1.tq k < 60; omega) (by rw [hS', hhd _ u4]; unfold hdk; rw [gq]; rfl)⟩
      · show (mAd S G (K (F.1 0)) _ _ _ _).2.1 12 (24 * G + k) = _
        rw [ad12, rg_in (by omega)]
      · show nmb (plF F) ((plF F).tq k) = _
        rw [show (plF F).tq k = fb_ct (kp F) ((K (F.1 0)).tq k) from u6]
        exact hnm _ u5 u4)
    (fun k hkk => by
      obtain ⟨u1, u2, u3, u4, u5, u6, u7, u8⟩ := bb k hkk
      have hkk : k < (plF F).nb := hkk
      show (mAd S G (K (F.1 0)) _ _ _ _).2.1 13 (24 * G + k) = nI ((plF F).ba k)
      rw [ad13, rg_in (by omega), show (plF F).ba k = (K (F.1 0)).ba k from u7])
    (fun k hkk => by
      obtain ⟨u1, u2, u3, u4, u5, u6, u7, u8⟩ := bb k hkk
      have hkk : k < (plF F).nb := hkk
      show (mAd S G (K (F.1 0)) _ _ _ _).2.1 10 (24 * G + k) = (plF F).le k
      rw [ad10, rg_in (by omega), show (plF F).le k = (K (F.1 0)).le k from u8])
    (fun b hb => by
      have hb : b < (plF F).nl := hb
      show (mAd S G (K (F.1 0)) _ _ _ _).2.1 7 (6 * G + b) = nI ((plF F).so b)
      rw [ad7, rg_in (by omega), b4, b3])
  obtain ⟨S', e1, e2, e3⟩ := hend
  refine ⟨S', ?_, ad_mfg.tr e2, e3⟩
  have hst := kX3_startFigure (d := d + 5) (m := m) (h := h) (T := S) (f := G) (K := plK F) (hd := hdk F 0) hS hG rfl
  have hK0 : K 0 = plK F := rfl
  have zT : MFig T g F := hF0.fr ad_mfg hg hk
  rw [eX3_plain]
  simp (disch := first | assumption | omega | decide) only [pis_i, pis_l, pis_r, pis_n, p1_i, p1_r, p1_n, p1_u, pw0, pw1, pw2, pw3, pw4, pK_v, pK_0, pK_ite, if_true, if_false, if_pos, if_neg, Nat.reduceAdd, pok_r, i10, i01, Bool.true_or, Bool.or_true, Bool.and_true, Bool.true_and, Nat.add_sub_cancel, i1p1, i1p0, i0p1, i0p0, nIrem2, va_rf_s, bit1, bit0, pinT, pinLT, pin0, nIc, nIcL, nIlt, nIeq, nIltL, nILlt, nIeqL, nILeq, nIadL, nILad, nILmu, nI_add, nIsbL, nI_sub', decide_true, decide_false, Bool.false_or, Bool.or_false, rX3_plain_0, rX3_plain_1, rX3_plain_2, rX3_plain_5, rX3_plain_8, rX3_plain_9, rX3_plain_12, rX3_plain_14, rX3_plain_17, rX3_plain_18, rX3_plain_19, rX3_plain_20, rX3_plain_23, rX3_plain_24, mCl, mF0, mP0, mF1, mF2, mF3, mF4, mF5, mP5, mF6, mF7, mP7, mF8, mP8, mF9, mP9, mF10, mP10, mF11, mF12, mF13, mF14, mF15, mF16, mF17, mF18, mF19, mF20, mP20, mF21, mF22, mF23, mP23, mF24, mP24, mF25, mP25, mF26, mF27, mF28, mF29, mF30, mF31, mP31, mF32, mP32, mF33, mP33, mF34, mF35, mF36, mF37, mF38, mF39, mF40, mF41, mF42, mF43, mF44, mF45, mP45, mF46, mP46, mF47, mP47, mF48, mP48, mF49, mF50, mF51, mP51, mL1, mL1n, mC1, mW1, mL2, mL2n, mC2, mW2, mL3, mL3n, mC3, mW3, mL4, mL4n, mC4, mW4, mL5, mL5n, mC5, mW5, mL6, mL6n, mC6, mW6, mL7, mL7n, mC7, mW7, mL8, mL8n, mC8, mW8, mL9, mL9n, mC9, mW9, mL10, mL10n, mC10, mW10, mL11, mL11n, mC11, mW11, mL12, mL12n, mC12, mW12, mL13, mL13n, mC13, mW13, mL14, mL14n, mC14, mW14, mL15, mL15n, mC15, mW15, mL16, mL16n, mC16, mW16, mL17, mL17n, mC17, mW17, mL18, mL18n, mC18, mW18, mL19, mL19n, mC19, mW19, mL20, mL20n, mC20, mW20, mL21, mL21n, mC21, mW21, mL23, mL23n, mC23, mW23, mL24, mL24n, mC24, mW24, mL25, mL25n, mC25, mW25, mL26, mL26n, mC26, mW26, mL27, mL27n, mC27, mW27, mL28, mL28n, mC28, mW28, mL29, mL29n, mC29, mW29, mL30, mL30n, mC30, mW30, mL31, mL31n, mC31, mW31, mL32, mL32n, mC32, mW32, mL33, mL33n, mC33, mW33, mL34, mL34n, mC34, mW34, mL22, mC22, mW22, isf, hS, hst]
  -- the bubbles
  have lq4 : ∀ j k (q4 q5 q6 : Value), p1 q4 = true → p1 q5 = true → p1 q6 = true → k + j = F.1 0 → pR 123 (d + 6) 110 [.ref m, .int (nI g), .int (nI (plS F (plH F) (plK F) k).2.2.1), .int (nI k), q4, q5, q6] [] (mput h m (mAd S G (plS F (plH F) (plK F) k).2.1 (F.1 1) (nI (F.1 1)) (F.1 2) (hdk F k))) = some (.inl (some (.int (nI G))), mput h m (upd S'.1 20 (nI (G + 1)), S'.2)) := by
    intro j
    induction j with
    | zero =>
      intro k q4 q5 q6 h4 h5 h6 hkk
      have hkk : k = F.1 0 := by omega
      subst hkk
      have z1 := zT.1
      have z2 := zT.2.2.1
      show pR 123 (d + 6) 110 [.ref m, .int (nI g), .int (nI (plS F (plH F) (plK F) (F.1 0)).2.2.1), .int (nI (F.1 0)), q4, q5, q6] [] (mput h m T) = _
      clear_value T
      rw [rX3_plain_110]
      simp (disch := first | assumption | omega | decide) only [pis_i, pis_l, pis_r, pis_n, p1_i, p1_r, p1_n, p1_u, pw0, pw1, pw2, pw3, pw4, pK_v, pK_0, pK_ite, if_true, if_false, if_pos, if_neg, Nat.reduceAdd, pok_r, i10, i01, Bool.true_or, Bool.or_true, Bool.and_true, Bool.true_and, Nat.add_sub_cancel, i1p1, i1p0, i0p1, i0p0, nIrem2, va_rf_s, bit1, bit0, pinT, pinLT, pin0, nIc, nIcL, nIlt, nIeq, nIltL, nILlt, nIeqL, nILeq, nIadL, nILad, nILmu, nI_add, nIsbL, nI_sub', decide_true, decide_false, Bool.false_or, Bool.or_false, rX3_plain_111, rX3_plain_112, rX3_plain_115, rX3_plain_116, rX3_plain_117, rX3_plain_238, rX3_plain_239, rX3_plain_240, rX3_plain_243, rX3_plain_244, rX3_plain_245, rX3_plain_248, rX3_plain_249, rX3_plain_252, rX3_plain_253, rX3_plain_254, mCl, mF0, mP0, mF1, mF2, mF3, mF4, mF5, mP5, mF6, mF7, mP7, mF8, mP8, mF9, mP9, mF10, mP10, mF11, mF12, mF13, mF14, mF15, mF16, mF17, mF18, mF19, mF20, mP20, mF21, mF22, mF23, mP23, mF24, mP24, mF25, mP25, mF26, mF27, mF28, mF29, mF30, mF31, mP31, mF32, mP32, mF33, mP33, mF34, mF35, mF36, mF37, mF38, mF39, mF40, mF41, mF42, mF43, mF44, mF45, mP45, mF46, mP46, mF47, mP47, mF48, mP48, mF49, mF50, mF51, mP51, mL1, mL1n, mC1, mW1, mL2, mL2n, mC2, mW2, mL3, mL3n, mC3, mW3, mL4, mL4n, mC4, mW4, mL5, mL5n, mC5, mW5, mL6, mL6n, mC6, mW6, mL7, mL7n, mC7, mW7, mL8, mL8n, mC8, mW8, mL9, mL9n, mC9, mW9, mL10, mL10n, mC10, mW10, mL11, mL11n, mC11, mW11, mL12, mL12n, mC12, mW12, mL13, mL13n, mC13, mW13, mL14, mL14n, mC14, mW14, mL15, mL15n, mC15, mW15, mL16, mL16n, mC16, mW16, mL17, mL17n, mC17, mW17, mL18, mL18n, mC18, mW18, mL19, mL19n, mC19, mW19, mL20, mL20n, mC20, mW20, mL21, mL21n, mC21, mW21, mL23, mL23n, mC23, mW23, mL24, mL24n, mC24, mW24, mL25, mL25n, mC25, mW25, mL26, mL26n, mC26, mW26, mL27, mL27n, mC27, mW27, mL28, mL28n, mC28, mW28, mL29, mL29n, mC29, mW29, mL30, mL30n, mC30, mW30, mL31, mL31n, mC31, mW31, mL32, mL32n, mC32, mW32, mL33, mL33n, mC33, mW33, mL34, mL34n, mC34, mW34, mL22, mC22, mW22, z1, z2, e1, upd_same]
    | succ j ih =>
      intro k q4 q5 q6 h4 h5 h6 hkk
      have hk24 : k < F.1 0 := by omega
      have I := plI hk hX (show k ≤ F.1 0 by omega)
      have ih' := fun q4 q5 q6 h4 h5 h6 => ih (k + 1) q4 q5 q6 h4 h5 h6 (by omega)
      rw [plS] at ih'
      generalize plS F (plH F) (plK F) k = z at I ih'
      obtain ⟨H, KK, fi, s⟩ := z
      obtain ⟨i1, i2, i3, i4, i5, i6, i7, i8, i9, i10, i11, i12, i13, i14, i15, i16⟩ := I
      dsimp only at i1 i2 i3 i4 i5 i6 i7 i8 i9 i10 i11 i12 i13 i14 i15 i16 ih' ⊢
      have hF := hF0.fr (ad_mfg (T := S) (K := KK) (ns := F.1 1) (v6 := nI (F.1 1)) (nh := F.1 2) (hd := hdk F k)) hg hk
      have tw := kX3_isTwist (d := d + 5) (m := m) (h := h) hF hk (show g < 13 by omega) hk24
      have hsl := kX3_isSlack (d := d + 4) (m := m) (h := h) hF hk (show g < 13 by omega) hk24
      obtain ⟨f1, f2, f3, f4, f5, f6, f7, f8, f9⟩ := hF
      obtain ⟨r1, r2, r3⟩ := k5 fi (by omega)
      obtain ⟨u1, u2, u3⟩ := k5 k hk24
      have no : sl F k = false → pR 123 (d + 6) 162 [.ref m, .int (nI g), .int (nI fi), .int (nI k), .int (nI (24 * g + k)), q5, q6] [] (mput h m (mAd S G KK (F.1 1) (nI (F.1 1)) (F.1 2) (hdk F k))) = some (.inl (some (.int (nI G))), mput h m (upd S'.1 20 (nI (G + 1)), S'.2)) := by
        intro hs
        rw [hdk_n hs] at ih'
        simp only [hs, Bool.false_eq_true, if_false] at ih'
        have hls : s + F.2.2 k = isum F fi (k + 1 - fi) := by
          rw [show k + 1 - fi = (k - fi) + 1 by omega, isum, ← i2, show fi + (k - fi) = k by omega]
        rw [hls] at ih'
        have hpu := kX3_put (d := d + 5) (m := m) (h := h) (T := S) (f := G) (K := KK) (ns := F.1 1) (v6 := nI (F.1 1)) (nh := F.1 2) (hd := hdk F k) (l := isum F fi (k + 1 - fi)) (a := F.2.1 0 fi) (b := F.2.1 1 k) (o := F.2.1 2 k) hS hG (by omega)
        have su := loopF (N := k + 1) (a := fi) (R := some (.inl (some (.int (nI G))), mput h m (upd S'.1 20 (nI (G + 1)), S'.2))) (P := fun o => pR 123 (d + 6) 168 [.ref m, .int (nI g), .int (nI fi), .int (nI k), .int (nI (24 * g + k)), .int (isum F fi (o - fi)), .int (nI o)] [] (mput h m (mAd S G KK (F.1 1) (nI (F.1 1)) (F.1 2) (hdk F k)))) (fun o ho1 ho2 R hR => ?_) ?_ fi (Nat.le_refl _) (by omega)
        · rw [Nat.sub_self] at su
          simp (disch := first | assumption | omega | decide) only [pis_i, pis_l, pis_r, pis_n, p1_i, p1_r, p1_n, p1_u, pw0, pw1, pw2, pw3, pw4, pK_v, pK_0, pK_ite, if_true, if_false, if_pos, if_neg, Nat.reduceAdd, pok_r, i10, i01, Bool.true_or, Bool.or_true, Bool.and_true, Bool.true_and, Nat.add_sub_cancel, i1p1, i1p0, i0p1, i0p0, nIrem2, va_rf_s, bit1, bit0, pinT, pinLT, pin0, nIc, nIcL, nIlt, nIeq, nIltL, nILlt, nIeqL, nILeq, nIadL, nILad, nILmu, nI_add, nIsbL, nI_sub', decide_true, decide_false, Bool.false_or, Bool.or_false, rX3_plain_162, rX3_plain_163, rX3_plain_165, rX3_plain_166]
          exact su
        · rw [show o + 1 - fi = (o - fi) + 1 by omega, isum, show fi + (o - fi) = o by omega] at hR
          rw [rX3_plain_168]
          simp (disch := first | assumption | omega | decide) only [pis_i, pis_l, pis_r, pis_n, p1_i, p1_r, p1_n, p1_u, pw0, pw1, pw2, pw3, pw4, pK_v, pK_0, pK_ite, if_true, if_false, if_pos, if_neg, Nat.reduceAdd, pok_r, i10, i01, Bool.true_or, Bool.or_true, Bool.and_true, Bool.true_and, Nat.add_sub_cancel, i1p1, i1p0, i0p1, i0p0, nIrem2, va_rf_s, bit1, bit0, pinT, pinLT, pin0, nIc, nIcL, nIlt, nIeq, nIltL, nILlt, nIeqL, nILeq, nIadL, nILad, nILmu, nI_add, nIsbL, nI_sub', decide_true, decide_false, Bool.false_or, Bool.or_false, rX3_plain_170, rX3_plain_171, rX3_plain_174, rX3_plain_176, rX3_plain_177, rX3_plain_180, rX3_plain_182, rX3_plain_183, rX3_plain_184, rX3_plain_186, rX3_plain_187, rX3_plain_188, rX3_plain_189, rX3_plain_191, rX3_plain_194, mCl, mF0, mP0, mF1, mF2, mF3, mF4, mF5, mP5, mF6, mF7, mP7, mF8, mP8, mF9, mP9, mF10, mP10, mF11, mF12, mF13, mF14, mF15, mF16, mF17, mF18, mF19, mF20, mP20, mF21, mF22, mF23, mP23, mF24, mP24, mF25, mP25, mF26, mF27, mF28, mF29, mF30, mF31, mP31, mF32, mP32, mF33, mP33, mF34, mF35, mF36, mF37, mF38, mF39, mF40, mF41, mF42, mF43, mF44, mF45, mP45, mF46, mP46, mF47, mP47, mF48, mP48, mF49, mF50, mF51, mP51, mL1, mL1n, mC1, mW1, mL2, mL2n, mC2, mW2, mL3, mL3n, mC3, mW3, mL4, mL4n, mC4, mW4, mL5, mL5n, mC5, mW5, mL6, mL6n, mC6, mW6, mL7, mL7n, mC7, mW7, mL8, mL8n, mC8, mW8, mL9, mL9n, mC9, mW9, mL10, mL10n, mC10, mW10, mL11, mL11n, mC11, mW11, mL12, mL12n, mC12, mW12, mL13, mL13n, mC13, mW13, mL14, mL14n, mC14, mW14, mL15, mL15n, mC15, mW15, mL16, mL16n, mC16, mW16, mL17, mL17n, mC17, mW17, mL18, mL18n, mC18, mW18, mL19, mL19n, mC19, mW19, mL20, mL20n, mC20, mW20, mL21, mL21n, mC21, mW21, mL23, mL23n, mC23, mW23, mL24, mL24n, mC24, mW24, mL25, mL25n, mC25, mW25, mL26, mL26n, mC26, mW26, mL27, mL27n, mC27, mW27, mL28, mL28n, mC28, mW28, mL29, mL29n, mC29, mW29, mL30, mL30n, mC30, mW30, mL31, mL31n, mC31, mW31, mL32, mL32n, mC32, mW32, mL33, mL33n, mC33, mW33, mL34, mL34n, mC34, mW34, mL22, mC22, mW22, f9]
          exact hR
        · have ih2 := ih' (.int (nI (24 * g + k))) (.int (isum F fi (k + 1 - fi))) (.int (nI (k + 1))) rfl rfl rfl
          rw [rX3_plain_168]
          simp (disch := first | assumption | omega | decide) only [pis_i, pis_l, pis_r, pis_n, p1_i, p1_r, p1_n, p1_u, pw0, pw1, pw2, pw3, pw4, pK_v, pK_0, pK_ite, if_true, if_false, if_pos, if_neg, Nat.reduceAdd, pok_r, i10, i01, Bool.true_or, Bool.or_true, Bool.and_true, Bool.true_and, Nat.add_sub_cancel, i1p1, i1p0, i0p1, i0p0, nIrem2, va_rf_s, bit1, bit0, pinT, pinLT, pin0, nIc, nIcL, nIlt, nIeq, nIltL, nILlt, nIeqL, nILeq, nIadL, nILad, nILmu, nI_add, nIsbL, nI_sub', decide_true, decide_false, Bool.false_or, Bool.or_false, rX3_plain_170, rX3_plain_171, rX3_plain_197, rX3_plain_198, rX3_plain_200, rX3_plain_201, rX3_plain_204, rX3_plain_206, rX3_plain_207, rX3_plain_208, rX3_plain_211, rX3_plain_213, rX3_plain_214, rX3_plain_215, rX3_plain_216, rX3_plain_217, rX3_plain_218, rX3_plain_219, rX3_plain_222, rX3_plain_224, rX3_plain_225, rX3_plain_228, rX3_plain_229, rX3_plain_230, rX3_plain_231, rX3_plain_232, rX3_plain_235, mCl, mF0, mP0, mF1, mF2, mF3, mF4, mF5, mP5, mF6, mF7, mP7, mF8, mP8, mF9, mP9, mF10, mP10, mF11, mF12, mF13, mF14, mF15, mF16, mF17, mF18, mF19, mF20, mP20, mF21, mF22, mF23, mP23, mF24, mP24, mF25, mP25, mF26, mF27, mF28, mF29, mF30, mF31, mP31, mF32, mP32, mF33, mP33, mF34, mF35, mF36, mF37, mF38, mF39, mF40, mF41, mF42, mF43, mF44, mF45, mP45, mF46, mP46, mF47, mP47, mF48, mP48, mF49, mF50, mF51, mP51, mL1, mL1n, mC1, mW1, mL2, mL2n, mC2, mW2, mL3, mL3n, mC3, mW3, mL4, mL4n, mC4, mW4, mL5, mL5n, mC5, mW5, mL6, mL6n, mC6, mW6, mL7, mL7n, mC7, mW7, mL8, mL8n, mC8, mW8, mL9, mL9n, mC9, mW9, mL10, mL10n, mC10, mW10, mL11, mL11n, mC11, mW11, mL12, mL12n, mC12, mW12, mL13, mL13n, mC13, mW13, mL14, mL14n, mC14, mW14, mL15, mL15n, mC15, mW15, mL16, mL16n, mC16, mW16, mL17, mL17n, mC17, mW17, mL18, mL18n, mC18, mW18, mL19, mL19n, mC19, mW19, mL20, mL20n, mC20, mW20, mL21, mL21n, mC21, mW21, mL23, mL23n, mC23, mW23, mL24, mL24n, mC24, mW24, mL25, mL25n, mC25, mW25, mL26, mL26n, mC26, mW26, mL27, mL27n, mC27, mW27, mL28, mL28n, mC28, mW28, mL29, mL29n, mC29, mW29, mL30, mL30n, mC30, mW30, mL31, mL31n, mC31, mW31, mL32, mL32n, mC32, mW32, mL33, mL33n, mC33, mW33, mL34, mL34n, mC34, mW34, mL22, mC22, mW22, f5, f6, f7, hpu]
          exact ih2
      rw [rX3_plain_110]
      by_cases ht : fTw F k = true
      · rw [if_pos ht] at tw
        by_cases hh : fHo F k = true
        · rw [if_pos hh] at hsl
          have hs : sl F k = false := by simp [sl, ht, hh]
          simp (disch := first | assumption | omega | decide) only [pis_i, pis_l, pis_r, pis_n, p1_i, p1_r, p1_n, p1_u, pw0, pw1, pw2, pw3, pw4, pK_v, pK_0, pK_ite, if_true, if_false, if_pos, if_neg, Nat.reduceAdd, pok_r, i10, i01, Bool.true_or, Bool.or_true, Bool.and_true, Bool.true_and, Nat.add_sub_cancel, i1p1, i1p0, i0p1, i0p0, nIrem2, va_rf_s, bit1, bit0, pinT, pinLT, pin0, nIc, nIcL, nIlt, nIeq, nIltL, nILlt, nIeqL, nILeq, nIadL, nILad, nILmu, nI_add, nIsbL, nI_sub', decide_true, decide_false, Bool.false_or, Bool.or_false, rX3_plain_111, rX3_plain_112, rX3_plain_115, rX3_plain_116, rX3_plain_117, rX3_plain_120, rX3_plain_122, rX3_plain_123, rX3_plain_124, rX3_plain_125, rX3_plain_126, rX3_plain_128, rX3_plain_129, rX3_plain_130, rX3_plain_131, rX3_plain_134, rX3_plain_137, rX3_plain_138, rX3_plain_139, rX3_plain_140, rX3_plain_143, rX3_plain_146, rX3_plain_147, rX3_plain_150, rX3_plain_151, rX3_plain_154, rX3_plain_156, rX3_plain_157, rX3_plain_158, rX3_plain_159, mCl, mF0, mP0, mF1, mF2, mF3, mF4, mF5, mP5, mF6, mF7, mP7, mF8, mP8, mF9, mP9, mF10, mP10, mF11, mF12, mF13, mF14, mF15, mF16, mF17, mF18, mF19, mF20, mP20, mF21, mF22, mF23, mP23, mF24, mP24, mF25, mP25, mF26, mF27, mF28, mF29, mF30, mF31, mP31, mF32, mP32, mF33, mP33, mF34, mF35, mF36, mF37, mF38, mF39, mF40, mF41, mF42, mF43, mF44, mF45, mP45, mF46, mP46, mF47, mP47, mF48, mP48, mF49, mF50, mF51, mP51, mL1, mL1n, mC1, mW1, mL2, mL2n, mC2, mW2, mL3, mL3n, mC3, mW3, mL4, mL4n, mC4, mW4, mL5, mL5n, mC5, mW5, mL6, mL6n, mC6, mW6, mL7, mL7n, mC7, mW7, mL8, mL8n, mC8, mW8, mL9, mL9n, mC9, mW9, mL10, mL10n, mC10, mW10, mL11, mL11n, mC11, mW11, mL12, mL12n, mC12, mW12, mL13, mL13n, mC13, mW13, mL14, mL14n, mC14, mW14, mL15, mL15n, mC15, mW15, mL16, mL16n, mC16, mW16, mL17, mL17n, mC17, mW17, mL18, mL18n, mC18, mW18, mL19, mL19n, mC19, mW19, mL20, mL20n, mC20, mW20, mL21, mL21n, mC21, mW21, mL23, mL23n, mC23, mW23, mL24, mL24n, mC24, mW24, mL25, mL25n, mC25, mW25, mL26, mL26n, mC26, mW26, mL27, mL27n, mC27, mW27, mL28, mL28n, mC28, mW28, mL29, mL29n, mC29, mW29, mL30, mL30n, mC30, mW30, mL31, mL31n, mC31, mW31, mL32, mL32n, mC32, mW32, mL33, mL33n, mC33, mW33, mL34, mL34n, mC34, mW34, mL22, mC22, mW22, f1, tw, hsl]
          exact no hs
        · rw [if_neg hh] at hsl
          have hs : sl F k = true := by simp [sl, ht, hh]
          simp only [hs, if_true] at ih'
          have w := ad_hu (T := S) (f := G) (K := KK) (ns := F.1 1) (v6 := nI (F.1 1)) (nh := F.1 2) (hd := hdk F k) (i := F.2.1 1 k) (v := -1) u2
          rw [hdk_s hs] at w
          simp (disch := first | assumption | omega | decide) only [pis_i, pis_l, pis_r, pis_n, p1_i, p1_r, p1_n, p1_u, pw0, pw1, pw2, pw3, pw4, pK_v, pK_0, pK_ite, if_true, if_false, if_pos, if_neg, Nat.reduceAdd, pok_r, i10, i01, Bool.true_or, Bool.or_true, Bool.and_true, Bool.true_and, Nat.add_sub_cancel, i1p1, i1p0, i0p1, i0p0, nIrem2, va_rf_s, bit1, bit0, pinT, pinLT, pin0, nIc, nIcL, nIlt, nIeq, nIltL, nILlt, nIeqL, nILeq, nIadL, nILad, nILmu, nI_add, nIsbL, nI_sub', decide_true, decide_false, Bool.false_or, Bool.or_false, rX3_plain_111, rX3_plain_112, rX3_plain_115, rX3_plain_116, rX3_plain_117, rX3_plain_120, rX3_plain_122, rX3_plain_123, rX3_plain_124, rX3_plain_125, rX3_plain_126, rX3_plain_128, rX3_plain_129, rX3_plain_130, rX3_plain_131, rX3_plain_134, rX3_plain_137, rX3_plain_138, rX3_plain_139, rX3_plain_140, rX3_plain_143, rX3_plain_146, rX3_plain_147, rX3_plain_150, rX3_plain_151, rX3_plain_154, rX3_plain_156, rX3_plain_157, rX3_plain_158, rX3_plain_159, rX3_plain_232, rX3_plain_235, mCl, mF0, mP0, mF1, mF2, mF3, mF4, mF5, mP5, mF6, mF7, mP7, mF8, mP8, mF9, mP9, mF10, mP10, mF11, mF12, mF13, mF14, mF15, mF16, mF17, mF18, mF19, mF20, mP20, mF21, mF22, mF23, mP23, mF24, mP24, mF25, mP25, mF26, mF27, mF28, mF29, mF30, mF31, mP31, mF32, mP32, mF33, mP33, mF34, mF35, mF36, mF37, mF38, mF39, mF40, mF41, mF42, mF43, mF44, mF45, mP45, mF46, mP46, mF47, mP47, mF48, mP48, mF49, mF50, mF51, mP51, mL1, mL1n, mC1, mW1, mL2, mL2n, mC2, mW2, mL3, mL3n, mC3, mW3, mL4, mL4n, mC4, mW4, mL5, mL5n, mC5, mW5, mL6, mL6n, mC6, mW6, mL7, mL7n, mC7, mW7, mL8, mL8n, mC8, mW8, mL9, mL9n, mC9, mW9, mL10, mL10n, mC10, mW10, mL11, mL11n, mC11, mW11, mL12, mL12n, mC12, mW12, mL13, mL13n, mC13, mW13, mL14, mL14n, mC14, mW14, mL15, mL15n, mC15, mW15, mL16, mL16n, mC16, mW16, mL17, mL17n, mC17, mW17, mL18, mL18n, mC18, mW18, mL19, mL19n, mC19, mW19, mL20, mL20n, mC20, mW20, mL21, mL21n, mC21, mW21, mL23, mL23n, mC23, mW23, mL24, mL24n, mC24, mW24, mL25, mL25n, mC25, mW25, mL26, mL26n, mC26, mW26, mL27, mL27n, mC27, mW27, mL28, mL28n, mC28, mW28, mL29, mL29n, mC29, mW29, mL30, mL30n, mC30, mW30, mL31, mL31n, mC31, mW31, mL32, mL32n, mC32, mW32, mL33, mL33n, mC33, mW33, mL34, mL34n, mC34, mW34, mL22, mC22, mW22, f1, f6, tw, hsl, w]
          exact ih' _ _ _ rfl h5 h6
      · rw [if_neg ht] at tw
        have hs : sl F k = false := by simp [sl, ht]
        simp (disch := first | assumption | omega | decide) only [pis_i, pis_l, pis_r, pis_n, p1_i, p1_r, p1_n, p1_u, pw0, pw1, pw2, pw3, pw4, pK_v, pK_0, pK_ite, if_true, if_false, if_pos, if_neg, Nat.reduceAdd, pok_r, i10, i01, Bool.true_or, Bool.or_true, Bool.and_true, Bool.true_and, Nat.add_sub_cancel, i1p1, i1p0, i0p1, i0p0, nIrem2, va_rf_s, bit1, bit0, pinT, pinLT, pin0, nIc, nIcL, nIlt, nIeq, nIltL, nILlt, nIeqL, nILeq, nIadL, nILad, nILmu, nI_add, nIsbL, nI_sub', decide_true, decide_false, Bool.false_or, Bool.or_false, rX3_plain_111, rX3_plain_112, rX3_plain_115, rX3_plain_116, rX3_plain_117, rX3_plain_120, rX3_plain_122, rX3_plain_123, rX3_plain_124, rX3_plain_125, rX3_plain_126, rX3_plain_128, rX3_plain_129, rX3_plain_130, rX3_plain_131, rX3_plain_134, rX3_plain_137, rX3_plain_138, rX3_plain_139, rX3_plain_140, rX3_plain_143, rX3_plain_146, rX3_plain_147, rX3_plain_150, rX3_plain_151, rX3_plain_154, rX3_plain_156, rX3_plain_157, rX3_plain_158, rX3_plain_159, mCl, mF0, mP0, mF1, mF2, mF3, mF4, mF5, mP5, mF6, mF7, mP7, mF8, mP8, mF9, mP9, mF10, mP10, mF11, mF12, mF13, mF14, mF15, mF16, mF17, mF18, mF19, mF20, mP20, mF21, mF22, mF23, mP23, mF24, mP24, mF25, mP25, mF26, mF27, mF28, mF29, mF30, mF31, mP31, mF32, mP32, mF33, mP33, mF34, mF35, mF36, mF37, mF38, mF39, mF40, mF41, mF42, mF43, mF44, mF45, mP45, mF46, mP46, mF47, mP47, mF48, mP48, mF49, mF50, mF51, mP51, mL1, mL1n, mC1, mW1, mL2, mL2n, mC2, mW2, mL3, mL3n, mC3, mW3, mL4, mL4n, mC4, mW4, mL5, mL5n, mC5, mW5, mL6, mL6n, mC6, mW6, mL7, mL7n, mC7, mW7, mL8, mL8n, mC8, mW8, mL9, mL9n, mC9, mW9, mL10, mL10n, mC10, mW10, mL11, mL11n, mC11, mW11, mL12, mL12n, mC12, mW12, mL13, mL13n, mC13, mW13, mL14, mL14n, mC14, mW14, mL15, mL15n, mC15, mW15, mL16, mL16n, mC16, mW16, mL17, mL17n, mC17, mW17, mL18, mL18n, mC18, mW18, mL19, mL19n, mC19, mW19, mL20, mL20n, mC20, mW20, mL21, mL21n, mC21, mW21, mL23, mL23n, mC23, mW23, mL24, mL24n, mC24, mW24, mL25, mL25n, mC25, mW25, mL26, mL26n, mC26, mW26, mL27, mL27n, mC27, mW27, mL28, mL28n, mC28, mW28, mL29, mL29n, mC29, mW29, mL30, mL30n, mC30, mW30, mL31, mL31n, mC31, mW31, mL32, mL32n, mC32, mW32, mL33, mL33n, mC33, mW33, mL34, mL34n, mC34, mW34, mL22, mC22, mW22, f1, tw]
        exact no hs
  have lq4' := lq4 (F.1 0) 0 pU pU pU rfl rfl rfl (by omega)
  have lq4' : pR 123 (d + 6) 110 [.ref m, .int (nI g), .int 0, .int 0, pU, pU, pU] [] (mput h m (mAd S G (plK F) (F.1 1) (nI (F.1 1)) (F.1 2) (hdk F 0))) = some (.inl (some (.int (nI G))), mput h m (upd S'.1 20 (nI (G + 1)), S'.2)) := lq4'
  -- the heads
  have l2 := loopP (N := F.1 2) (P := fun p => pR 123 (d + 6) 83 [.ref m, .int (nI g), .int (nI p), pU, pU, pU, pU] [] (mput h m (mAd S G (plK F) (F.1 1) (nI (F.1 1)) p (hdk F 0))) = some (.inl (some (.int (nI G))), mput h m (upd S'.1 20 (nI (G + 1)), S'.2))) (fun p hp hR => ?_) ?_ 0 (Nat.zero_le _)
  · have l1 := loopP (N := F.1 1) (P := fun b => pR 123 (d + 6) 25 [.ref m, .int (nI g), .int (nI b), pU, pU, pU, pU] [] (mput h m (mAd S G (plK F) b 0 0 (hdk F 0))) = some (.inl (some (.int (nI G))), mput h m (upd S'.1 20 (nI (G + 1)), S'.2))) (fun b hb hR => ?_) ?_ 0 (Nat.zero_le _)
    · exact l1
    · have hF := hF0.fr (ad_mfg (T := S) (K := plK F) (ns := b) (v6 := 0) (nh := 0) (hd := hdk F 0)) hg hk
      obtain ⟨f1, f2, f3, f4, f5, f6, f7, f8, f9⟩ := hF
      have e20 : (mAd S G (plK F) b 0 0 (hdk F 0)).1 20 = nI G := hS
      have w := ad_w7 (T := S) (f := G) (K := plK F) (ns := b) (v6 := 0) (nh := 0) (hd := hdk F 0) (v := nI (F.2.1 3 b)) (by show _ = nI ((plH F).so b); rw [w6 b hb])
      rw [rX3_plain_25]
      simp (disch := first | assumption | omega | decide) only [pis_i, pis_l, pis_r, pis_n, p1_i, p1_r, p1_n, p1_u, pw0, pw1, pw2, pw3, pw4, pK_v, pK_0, pK_ite, if_true, if_false, if_pos, if_neg, Nat.reduceAdd, pok_r, i10, i01, Bool.true_or, Bool.or_true, Bool.and_true, Bool.true_and, Nat.add_sub_cancel, i1p1, i1p0, i0p1, i0p0, nIrem2, va_rf_s, bit1, bit0, pinT, pinLT, pin0, nIc, nIcL, nIlt, nIeq, nIltL, nILlt, nIeqL, nILeq, nIadL, nILad, nILmu, nI_add, nIsbL, nI_sub', decide_true, decide_false, Bool.false_or, Bool.or_false, rX3_plain_26, rX3_plain_27, rX3_plain_30, rX3_plain_31, rX3_plain_32, rX3_plain_35, rX3_plain_36, rX3_plain_39, rX3_plain_41, rX3_plain_42, rX3_plain_45, rX3_plain_46, rX3_plain_47, rX3_plain_48, rX3_plain_49, rX3_plain_52, rX3_plain_54, rX3_plain_55, rX3_plain_56, rX3_plain_57, rX3_plain_58, rX3_plain_59, rX3_plain_60, rX3_plain_63, mCl, mF0, mP0, mF1, mF2, mF3, mF4, mF5, mP5, mF6, mF7, mP7, mF8, mP8, mF9, mP9, mF10, mP10, mF11, mF12, mF13, mF14, mF15, mF16, mF17, mF18, mF19, mF20, mP20, mF21, mF22, mF23, mP23, mF24, mP24, mF25, mP25, mF26, mF27, mF28, mF29, mF30, mF31, mP31, mF32, mP32, mF33, mP33, mF34, mF35, mF36, mF37, mF38, mF39, mF40, mF41, mF42, mF43, mF44, mF45, mP45, mF46, mP46, mF47, mP47, mF48, mP48, mF49, mF50, mF51, mP51, mL1, mL1n, mC1, mW1, mL2, mL2n, mC2, mW2, mL3, mL3n, mC3, mW3, mL4, mL4n, mC4, mW4, mL5, mL5n, mC5, mW5, mL6, mL6n, mC6, mW6, mL7, mL7n, mC7, mW7, mL8, mL8n, mC8, mW8, mL9, mL9n, mC9, mW9, mL10, mL10n, mC10, mW10, mL11, mL11n, mC11, mW11, mL12, mL12n, mC12, mW12, mL13, mL13n, mC13, mW13, mL14, mL14n, mC14, mW14, mL15, mL15n, mC15, mW15, mL16, mL16n, mC16, mW16, mL17, mL17n, mC17, mW17, mL18, mL18n, mC18, mW18, mL19, mL19n, mC19, mW19, mL20, mL20n, mC20, mW20, mL21, mL21n, mC21, mW21, mL23, mL23n, mC23, mW23, mL24, mL24n, mC24, mW24, mL25, mL25n, mC25, mW25, mL26, mL26n, mC26, mW26, mL27, mL27n, mC27, mW27, mL28, mL28n, mC28, mW28, mL29, mL29n, mC29, mW29, mL30, mL30n, mC30, mW30, mL31, mL31n, mC31, mW31, mL32, mL32n, mC32, mW32, mL33, mL33n, mC33, mW33, mL34, mL34n, mC34, mW34, mL22, mC22, mW22, f2, f8, e20, w]
      exact hR
    · have hF := hF0.fr (ad_mfg (T := S) (K := plK F) (ns := F.1 1) (v6 := 0) (nh := 0) (hd := hdk F 0)) hg hk
      have f2 := hF.2.1
      have e20 : (mAd S G (plK F) (F.1 1) 0 0 (hdk F 0)).1 20 = nI G := hS
      have w := ad_w6 (T := S) (f := G) (K := plK F) (ns := F.1 1) (v6 := 0) (nh := 0) (hd := hdk F 0) (v := nI (F.1 1))
      rw [rX3_plain_25]
      simp (disch := first | assumption | omega | decide) only [pis_i, pis_l, pis_r, pis_n, p1_i, p1_r, p1_n, p1_u, pw0, pw1, pw2, pw3, pw4, pK_v, pK_0, pK_ite, if_true, if_false, if_pos, if_neg, Nat.reduceAdd, pok_r, i10, i01, Bool.true_or, Bool.or_true, Bool.and_true, Bool.true_and, Nat.add_sub_cancel, i1p1, i1p0, i0p1, i0p0, nIrem2, va_rf_s, bit1, bit0, pinT, pinLT, pin0, nIc, nIcL, nIlt, nIeq, nIltL, nILlt, nIeqL, nILeq, nIadL, nILad, nILmu, nI_add, nIsbL, nI_sub', decide_true, decide_false, Bool.false_or, Bool.or_false, rX3_plain_26, rX3_plain_27, rX3_plain_30, rX3_plain_31, rX3_plain_32, rX3_plain_66, rX3_plain_67, rX3_plain_70, rX3_plain_71, rX3_plain_74, rX3_plain_75, rX3_plain_78, rX3_plain_79, rX3_plain_80, rX3_plain_81, rX3_plain_82, mCl, mF0, mP0, mF1, mF2, mF3, mF4, mF5, mP5, mF6, mF7, mP7, mF8, mP8, mF9, mP9, mF10, mP10, mF11, mF12, mF13, mF14, mF15, mF16, mF17, mF18, mF19, mF20, mP20, mF21, mF22, mF23, mP23, mF24, mP24, mF25, mP25, mF26, mF27, mF28, mF29, mF30, mF31, mP31, mF32, mP32, mF33, mP33, mF34, mF35, mF36, mF37, mF38, mF39, mF40, mF41, mF42, mF43, mF44, mF45, mP45, mF46, mP46, mF47, mP47, mF48, mP48, mF49, mF50, mF51, mP51, mL1, mL1n, mC1, mW1, mL2, mL2n, mC2, mW2, mL3, mL3n, mC3, mW3, mL4, mL4n, mC4, mW4, mL5, mL5n, mC5, mW5, mL6, mL6n, mC6, mW6, mL7, mL7n, mC7, mW7, mL8, mL8n, mC8, mW8, mL9, mL9n, mC9, mW9, mL10, mL10n, mC10, mW10, mL11, mL11n, mC11, mW11, mL12, mL12n, mC12, mW12, mL13, mL13n, mC13, mW13, mL14, mL14n, mC14, mW14, mL15, mL15n, mC15, mW15, mL16, mL16n, mC16, mW16, mL17, mL17n, mC17, mW17, mL18, mL18n, mC18, mW18, mL19, mL19n, mC19, mW19, mL20, mL20n, mC20, mW20, mL21, mL21n, mC21, mW21, mL23, mL23n, mC23, mW23, mL24, mL24n, mC24, mW24, mL25, mL25n, mC25, mW25, mL26, mL26n, mC26, mW26, mL27, mL27n, mC27, mW27, mL28, mL28n, mC28, mW28, mL29, mL29n, mC29, mW29, mL30, mL30n, mC30, mW30, mL31, mL31n, mC31, mW31, mL32, mL32n, mC32, mW32, mL33, mL33n, mC33, mW33, mL34, mL34n, mC34, mW34, mL22, mC22, mW22, f2, e20, w]
      exact l2
  · have f3 := (hF0.fr (ad_mfg (T := S) (K := plK F) (ns := F.1 1) (v6 := nI (F.1 1)) (nh := p) (hd := hdk F 0)) hg hk).2.2.1
    have w := ad_h (T := S) (f := G) (K := plK F) (ns := F.1 1) (v6 := nI (F.1 1)) (nh := p) (hd := hdk F 0) (v := nI p) rfl
    rw [rX3_plain_83]
    simp (disch := first | assumption | omega | decide) only [pis_i, pis_l, pis_r, pis_n, p1_i, p1_r, p1_n, p1_u, pw0, pw1, pw2, pw3, pw4, pK_v, pK_0, pK_ite, if_true, if_false, if_pos, if_neg, Nat.reduceAdd, pok_r, i10, i01, Bool.true_or, Bool.or_true, Bool.and_true, Bool.true_and, Nat.add_sub_cancel, i1p1, i1p0, i0p1, i0p0, nIrem2, va_rf_s, bit1, bit0, pinT, pinLT, pin0, nIc, nIcL, nIlt, nIeq, nIltL, nILlt, nIeqL, nILeq, nIadL, nILad, nILmu, nI_add, nIsbL, nI_sub', decide_true, decide_false, Bool.false_or, Bool.or_false, rX3_plain_84, rX3_plain_85, rX3_plain_88, rX3_plain_89, rX3_plain_90, rX3_plain_93, rX3_plain_94, rX3_plain_97, rX3_plain_98, rX3_plain_99, rX3_plain_100, rX3_plain_103, mCl, mF0, mP0, mF1, mF2, mF3, mF4, mF5, mP5, mF6, mF7, mP7, mF8, mP8, mF9, mP9, mF10, mP10, mF11, mF12, mF13, mF14, mF15, mF16, mF17, mF18, mF19, mF20, mP20, mF21, mF22, mF23, mP23, mF24, mP24, mF25, mP25, mF26, mF27, mF28, mF29, mF30, mF31, mP31, mF32, mP32, mF33, mP33, mF34, mF35, mF36, mF37, mF38, mF39, mF40, mF41, mF42, mF43, mF44, mF45, mP45, mF46, mP46, mF47, mP47, mF48, mP48, mF49, mF50, mF51, mP51, mL1, mL1n, mC1, mW1, mL2, mL2n, mC2, mW2, mL3, mL3n, mC3, mW3, mL4, mL4n, mC4, mW4, mL5, mL5n, mC5, mW5, mL6, mL6n, mC6, mW6, mL7, mL7n, mC7, mW7, mL8, mL8n, mC8, mW8, mL9, mL9n, mC9, mW9, mL10, mL10n, mC10, mW10, mL11, mL11n, mC11, mW11, mL12, mL12n, mC12, mW12, mL13, mL13n, mC13, mW13, mL14, mL14n, mC14, mW14, mL15, mL15n, mC15, mW15, mL16, mL16n, mC16, mW16, mL17, mL17n, mC17, mW17, mL18, mL18n, mC18, mW18, mL19, mL19n, mC19, mW19, mL20, mL20n, mC20, mW20, mL21, mL21n, mC21, mW21, mL23, mL23n, mC23, mW23, mL24, mL24n, mC24, mW24, mL25, mL25n, mC25, mW25, mL26, mL26n, mC26, mW26, mL27, mL27n, mC27, mW27, mL28, mL28n, mC28, mW28, mL29, mL29n, mC29, mW29, mL30, mL30n, mC30, mW30, mL31, mL31n, mC31, mW31, mL32, mL32n, mC32, mW32, mL33, mL33n, mC33, mW33, mL34, mL34n, mC34, mW34, mL22, mC22, mW22, f3, w]
    exact hR
  · have f3 := (hF0.fr (ad_mfg (T := S) (K := plK F) (ns := F.1 1) (v6 := nI (F.1 1)) (nh := F.1 2) (hd := hdk F 0)) hg hk).2.2.1
    rw [rX3_plain_83]
    simp (disch := first | assumption | omega | decide) only [pis_i, pis_l, pis_r, pis_n, p1_i, p1_r, p1_n, p1_u, pw0, pw1, pw2, pw3, pw4, pK_v, pK_0, pK_ite, if_true, if_false, if_pos, if_neg, Nat.reduceAdd, pok_r, i10, i01, Bool.true_or, Bool.or_true, Bool.and_true, Bool.true_and, Nat.add_sub_cancel, i1p1, i1p0, i0p1, i0p0, nIrem2, va_rf_s, bit1, bit0, pinT, pinLT, pin0, nIc, nIcL, nIlt, nIeq, nIltL, nILlt, nIeqL, nILeq, nIadL, nILad, nILmu, nI_add, nIsbL, nI_sub', decide_true, decide_false, Bool.false_or, Bool.or_false, rX3_plain_84, rX3_plain_85, rX3_plain_88, rX3_plain_89, rX3_plain_90, rX3_plain_106, rX3_plain_107, rX3_plain_108, rX3_plain_109, mCl, mF0, mP0, mF1, mF2, mF3, mF4, mF5, mP5, mF6, mF7, mP7, mF8, mP8, mF9, mP9, mF10, mP10, mF11, mF12, mF13, mF14, mF15, mF16, mF17, mF18, mF19, mF20, mP20, mF21, mF22, mF23, mP23, mF24, mP24, mF25, mP25, mF26, mF27, mF28, mF29, mF30, mF31, mP31, mF32, mP32, mF33, mP33, mF34, mF35, mF36, mF37, mF38, mF39, mF40, mF41, mF42, mF43, mF44, mF45, mP45, mF46, mP46, mF47, mP47, mF48, mP48, mF49, mF50, mF51, mP51, mL1, mL1n, mC1, mW1, mL2, mL2n, mC2, mW2, mL3, mL3n, mC3, mW3, mL4, mL4n, mC4, mW4, mL5, mL5n, mC5, mW5, mL6, mL6n, mC6, mW6, mL7, mL7n, mC7, mW7, mL8, mL8n, mC8, mW8, mL9, mL9n, mC9, mW9, mL10, mL10n, mC10, mW10, mL11, mL11n, mC11, mW11, mL12, mL12n, mC12, mW12, mL13, mL13n, mC13, mW13, mL14, mL14n, mC14, mW14, mL15, mL15n, mC15, mW15, mL16, mL16n, mC16, mW16, mL17, mL17n, mC17, mW17, mL18, mL18n, mC18, mW18, mL19, mL19n, mC19, mW19, mL20, mL20n, mC20, mW20, mL21, mL21n, mC21, mW21, mL23, mL23n, mC23, mW23, mL24, mL24n, mC24, mW24, mL25, mL25n, mC25, mW25, mL26, mL26n, mC26, mW26, mL27, mL27n, mC27, mW27, mL28, mL28n, mC28, mW28, mL29, mL29n, mC29, mW29, mL30, mL30n, mC30, mW30, mL31, mL31n, mC31, mW31, mL32, mL32n, mC32, mW32, mL33, mL33n, mC33, mW33, mL34, mL34n, mC34, mW34, mL22, mC22, mW22, f3]
    exact lq4'
end
