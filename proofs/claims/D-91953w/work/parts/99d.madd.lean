/-! FIGURES MADE OF FIGURES 4: the model's add -/
set_option maxRecDepth 100000
theorem mfg.tr {S T U : MS} {f : Nat} (h1 : mfg S T f) (h2 : mfg T U f) : mfg S U f := by
  obtain ⟨a1, a2, a3, a4, a5, a6⟩ := h1
  obtain ⟨b1, b2, b3, b4, b5, b6⟩ := h2
  exact ⟨fun k c1 c2 c3 c4 c5 c6 => (b1 k c1 c2 c3 c4 c5 c6).trans (a1 k c1 c2 c3 c4 c5 c6), fun j hj => (b2 j hj).trans (a2 j hj), fun j i hj hi => (b3 j i hj hi).trans (a3 j i hj hi), fun i hi => (b4 i hi).trans (a4 i hi), fun j i c1 c2 hi => (b5 j i c1 c2 hi).trans (a5 j i c1 c2 hi), b6.trans a6⟩
section
variable {d m f nh g l a : Nat} {h : pH} {T : MS} {K : Hd} {v6 v : Int32} {hd : Nat → Int32} {F : Fig}
theorem ad_w7a {b : Nat} (hv : v = nI (K.so (l + b))) : (((mAd T f K (l + b) v6 nh hd).1, ua (mAd T f K (l + b) v6 nh hd).2.1 7 (6 * f + l + b) v, (mAd T f K (l + b) v6 nh hd).2.2) : MS) = mAd T f K (l + (b + 1)) v6 nh hd := by
  rw [Nat.add_assoc (6 * f)]
  exact ad_w7 hv
theorem kX3_addAll (hF0 : MFig T g F) (hk : FigOk F) (hg : g < f) (hf : f < 12) (hT : T.1 20 = nI f) (hb : K.nb + F.1 0 ≤ 24) (hl : l + F.1 1 ≤ 6) (ha : a ≤ 60) (hs : ∀ b, b < F.1 1 → K.so (l + b) = F.2.1 3 b) : pCa 129 (d + 1) [.ref m, .int (nI g), .int (nI l), .int (nI a)] (mput h m (mAd T f K l v6 nh hd)) = some (.inl none, mput h m (mAd T f (tkN K F a l (F.1 0)) (l + F.1 1) v6 nh hd)) := by
  rw [eX3_addAll]
  simp (disch := first | assumption | omega | decide) only [pis_i, pis_l, pis_r, pis_n, p1_i, p1_r, p1_n, p1_u, pw0, pw1, pw2, pw3, pw4, pK_v, pK_0, pK_ite, if_true, if_false, if_pos, if_neg, Nat.reduceAdd, pok_r, i10, i01, Bool.true_or, Bool.or_true, Bool.and_true, Bool.true_and, Nat.add_sub_cancel, i1p1, i1p0, i0p1, i0p0, nIrem2, va_rf_s, bit1, bit0, pinT, pinLT, pin0, nIc, nIcL, nIlt, nIeq, nIltL, nILlt, nIeqL, nILeq, nIadL, nILad, nILmu, nI_add, nIsbL, nI_sub', decide_true, decide_false, Bool.false_or, Bool.or_false, rX3_addAll_0, rX3_addAll_1]
  have l1 := loopP (N := F.1 1) (P := fun b => pR 129 (d + 1) 3 [.ref m, .int (nI g), .int (nI l), .int (nI a), .int (nI b), pU] [] (mput h m (mAd T f K (l + b) v6 nh hd)) = some (.inl none, mput h m (mAd T f (tkN K F a l (F.1 0)) (l + F.1 1) v6 nh hd))) (fun b hbb hR => ?_) ?_ 0 (Nat.zero_le _)
  · exact l1
  · have hF := hF0.fr (ad_mfg (K := K) (ns := l + b) (v6 := v6) (nh := nh) (hd := hd)) hg hk
    (obtain ⟨f1, f2, f3, f4, f5, f6, f7, f8, f9⟩ := hF; have hk' := hk; obtain ⟨k1, k2, k3, k4, k5, k6⟩ := hk')
    have e20 : (mAd T f K (l + b) v6 nh hd).1 20 = nI f := hT
    have w := ad_w7a (T := T) (f := f) (K := K) (v6 := v6) (nh := nh) (hd := hd) (l := l) (b := b) (v := nI (F.2.1 3 b)) (by rw [hs b hbb])
    rw [rX3_addAll_3]
    simp (disch := first | assumption | omega | decide) only [pis_i, pis_l, pis_r, pis_n, p1_i, p1_r, p1_n, p1_u, pw0, pw1, pw2, pw3, pw4, pK_v, pK_0, pK_ite, if_true, if_false, if_pos, if_neg, Nat.reduceAdd, pok_r, i10, i01, Bool.true_or, Bool.or_true, Bool.and_true, Bool.true_and, Nat.add_sub_cancel, i1p1, i1p0, i0p1, i0p0, nIrem2, va_rf_s, bit1, bit0, pinT, pinLT, pin0, nIc, nIcL, nIlt, nIeq, nIltL, nILlt, nIeqL, nILeq, nIadL, nILad, nILmu, nI_add, nIsbL, nI_sub', decide_true, decide_false, Bool.false_or, Bool.or_false, rX3_addAll_5, rX3_addAll_6, rX3_addAll_9, rX3_addAll_10, rX3_addAll_11, rX3_addAll_14, rX3_addAll_15, rX3_addAll_18, rX3_addAll_20, rX3_addAll_21, rX3_addAll_24, rX3_addAll_25, rX3_addAll_26, rX3_addAll_27, rX3_addAll_29, rX3_addAll_30, rX3_addAll_31, rX3_addAll_34, rX3_addAll_36, rX3_addAll_37, rX3_addAll_38, rX3_addAll_40, rX3_addAll_41, rX3_addAll_42, rX3_addAll_43, rX3_addAll_46, mCl, mF0, mP0, mF1, mF2, mF3, mF4, mF5, mP5, mF6, mF7, mP7, mF8, mP8, mF9, mP9, mF10, mP10, mF11, mF12, mF13, mF14, mF15, mF16, mF17, mF18, mF19, mF20, mP20, mF21, mF22, mF23, mP23, mF24, mP24, mF25, mP25, mF26, mF27, mF28, mF29, mF30, mF31, mP31, mF32, mP32, mF33, mP33, mF34, mF35, mF36, mF37, mF38, mF39, mF40, mF41, mF42, mF43, mF44, mF45, mP45, mF46, mP46, mF47, mP47, mF48, mP48, mF49, mF50, mF51, mP51, mL1, mL1n, mC1, mW1, mL2, mL2n, mC2, mW2, mL3, mL3n, mC3, mW3, mL4, mL4n, mC4, mW4, mL5, mL5n, mC5, mW5, mL6, mL6n, mC6, mW6, mL7, mL7n, mC7, mW7, mL8, mL8n, mC8, mW8, mL9, mL9n, mC9, mW9, mL10, mL10n, mC10, mW10, mL11, mL11n, mC11, mW11, mL12, mL12n, mC12, mW12, mL13, mL13n, mC13, mW13, mL14, mL14n, mC14, mW14, mL15, mL15n, mC15, mW15, mL16, mL16n, mC16, mW16, mL17, mL17n, mC17, mW17, mL18, mL18n, mC18, mW18, mL19, mL19n, mC19, mW19, mL20, mL20n, mC20, mW20, mL21, mL21n, mC21, mW21, mL23, mL23n, mC23, mW23, mL24, mL24n, mC24, mW24, mL25, mL25n, mC25, mW25, mL26, mL26n, mC26, mW26, mL27, mL27n, mC27, mW27, mL28, mL28n, mC28, mW28, mL29, mL29n, mC29, mW29, mL30, mL30n, mC30, mW30, mL31, mL31n, mC31, mW31, mL32, mL32n, mC32, mW32, mL33, mL33n, mC33, mW33, mL34, mL34n, mC34, mW34, mL22, mC22, mW22, f1, f2, f3, f4, f5, f6, f7, f8, f9, e20, w]
    exact hR
  · have f2 := (hF0.fr (ad_mfg (K := K) (ns := l + F.1 1) (v6 := v6) (nh := nh) (hd := hd)) hg hk).2.1
    have k2 := hk.2.1
    rw [rX3_addAll_3]
    simp (disch := first | assumption | omega | decide) only [pis_i, pis_l, pis_r, pis_n, p1_i, p1_r, p1_n, p1_u, pw0, pw1, pw2, pw3, pw4, pK_v, pK_0, pK_ite, if_true, if_false, if_pos, if_neg, Nat.reduceAdd, pok_r, i10, i01, Bool.true_or, Bool.or_true, Bool.and_true, Bool.true_and, Nat.add_sub_cancel, i1p1, i1p0, i0p1, i0p0, nIrem2, va_rf_s, bit1, bit0, pinT, pinLT, pin0, nIc, nIcL, nIlt, nIeq, nIltL, nILlt, nIeqL, nILeq, nIadL, nILad, nILmu, nI_add, nIsbL, nI_sub', decide_true, decide_false, Bool.false_or, Bool.or_false, rX3_addAll_5, rX3_addAll_6, rX3_addAll_9, rX3_addAll_10, rX3_addAll_11, rX3_addAll_14, rX3_addAll_15, rX3_addAll_18, rX3_addAll_20, rX3_addAll_21, rX3_addAll_24, rX3_addAll_25, rX3_addAll_26, rX3_addAll_27, rX3_addAll_29, rX3_addAll_30, rX3_addAll_31, rX3_addAll_34, rX3_addAll_36, rX3_addAll_37, rX3_addAll_38, rX3_addAll_40, rX3_addAll_41, rX3_addAll_42, rX3_addAll_43, rX3_addAll_46, rX3_addAll_49, rX3_addAll_50, mCl, mF0, mP0, mF1, mF2, mF3, mF4, mF5, mP5, mF6, mF7, mP7, mF8, mP8, mF9, mP9, mF10, mP10, mF11, mF12, mF13, mF14, mF15, mF16, mF17, mF18, mF19, mF20, mP20, mF21, mF22, mF23, mP23, mF24, mP24, mF25, mP25, mF26, mF27, mF28, mF29, mF30, mF31, mP31, mF32, mP32, mF33, mP33, mF34, mF35, mF36, mF37, mF38, mF39, mF40, mF41, mF42, mF43, mF44, mF45, mP45, mF46, mP46, mF47, mP47, mF48, mP48, mF49, mF50, mF51, mP51, mL1, mL1n, mC1, mW1, mL2, mL2n, mC2, mW2, mL3, mL3n, mC3, mW3, mL4, mL4n, mC4, mW4, mL5, mL5n, mC5, mW5, mL6, mL6n, mC6, mW6, mL7, mL7n, mC7, mW7, mL8, mL8n, mC8, mW8, mL9, mL9n, mC9, mW9, mL10, mL10n, mC10, mW10, mL11, mL11n, mC11, mW11, mL12, mL12n, mC12, mW12, mL13, mL13n, mC13, mW13, mL14, mL14n, mC14, mW14, mL15, mL15n, mC15, mW15, mL16, mL16n, mC16, mW16, mL17, mL17n, mC17, mW17, mL18, mL18n, mC18, mW18, mL19, mL19n, mC19, mW19, mL20, mL20n, mC20, mW20, mL21, mL21n, mC21, mW21, mL23, mL23n, mC23, mW23, mL24, mL24n, mC24, mW24, mL25, mL25n, mC25, mW25, mL26, mL26n, mC26, mW26, mL27, mL27n, mC27, mW27, mL28, mL28n, mC28, mW28, mL29, mL29n, mC29, mW29, mL30, mL30n, mC30, mW30, mL31, mL31n, mC31, mW31, mL32, mL32n, mC32, mW32, mL33, mL33n, mC33, mW33, mL34, mL34n, mC34, mW34, mL22, mC22, mW22, f2]
    have l2 := loopP (N := F.1 0) (P := fun b => ∀ q5 : Value, p1 q5 = true → pR 129 (d + 1) 52 [.ref m, .int (nI g), .int (nI l), .int (nI a), .int (nI b), q5] [] (mput h m (mAd T f (tkN K F a l b) (l + F.1 1) v6 nh hd)) = some (.inl none, mput h m (mAd T f (tkN K F a l (F.1 0)) (l + F.1 1) v6 nh hd))) (fun b hbb hR q5 h5 => ?_) (fun q5 h5 => ?_) 0 (Nat.zero_le _)
    · exact l2 pU rfl
    · have hF := hF0.fr (ad_mfg (K := tkN K F a l b) (ns := l + F.1 1) (v6 := v6) (nh := nh) (hd := hd)) hg hk
      (obtain ⟨f1, f2, f3, f4, f5, f6, f7, f8, f9⟩ := hF; have hk' := hk; obtain ⟨k1, k2, k3, k4, k5, k6⟩ := hk')
      have k5b := k5 b hbb
      have tb := (tk_f (H := K) (F := F) (a := a) (c := l) b).2.2.2.2
      have hp := kX3_put (d := d) (m := m) (h := h) (ns := l + F.1 1) (v6 := v6) (nh := nh) (hd := hd) (K := tkN K F a l b) (l := F.2.2 b) (a := a + F.2.1 0 b) (b := a + F.2.1 1 b) (o := l + F.2.1 2 b) hT hf (by omega)
      rw [rX3_addAll_52]
      simp (disch := first | assumption | omega | decide) only [pis_i, pis_l, pis_r, pis_n, p1_i, p1_r, p1_n, p1_u, pw0, pw1, pw2, pw3, pw4, pK_v, pK_0, pK_ite, if_true, if_false, if_pos, if_neg, Nat.reduceAdd, pok_r, i10, i01, Bool.true_or, Bool.or_true, Bool.and_true, Bool.true_and, Nat.add_sub_cancel, i1p1, i1p0, i0p1, i0p0, nIrem2, va_rf_s, bit1, bit0, pinT, pinLT, pin0, nIc, nIcL, nIlt, nIeq, nIltL, nILlt, nIeqL, nILeq, nIadL, nILad, nILmu, nI_add, nIsbL, nI_sub', decide_true, decide_false, Bool.false_or, Bool.or_false, rX3_addAll_54, rX3_addAll_55, rX3_addAll_58, rX3_addAll_59, rX3_addAll_60, rX3_addAll_63, rX3_addAll_65, rX3_addAll_66, rX3_addAll_67, rX3_addAll_69, rX3_addAll_70, rX3_addAll_72, rX3_addAll_73, rX3_addAll_74, rX3_addAll_77, rX3_addAll_79, rX3_addAll_80, rX3_addAll_81, rX3_addAll_82, rX3_addAll_85, rX3_addAll_87, rX3_addAll_88, rX3_addAll_89, rX3_addAll_90, rX3_addAll_91, rX3_addAll_94, rX3_addAll_96, rX3_addAll_97, rX3_addAll_98, rX3_addAll_99, rX3_addAll_100, rX3_addAll_103, rX3_addAll_105, rX3_addAll_106, rX3_addAll_107, rX3_addAll_110, rX3_addAll_113, mCl, mF0, mP0, mF1, mF2, mF3, mF4, mF5, mP5, mF6, mF7, mP7, mF8, mP8, mF9, mP9, mF10, mP10, mF11, mF12, mF13, mF14, mF15, mF16, mF17, mF18, mF19, mF20, mP20, mF21, mF22, mF23, mP23, mF24, mP24, mF25, mP25, mF26, mF27, mF28, mF29, mF30, mF31, mP31, mF32, mP32, mF33, mP33, mF34, mF35, mF36, mF37, mF38, mF39, mF40, mF41, mF42, mF43, mF44, mF45, mP45, mF46, mP46, mF47, mP47, mF48, mP48, mF49, mF50, mF51, mP51, mL1, mL1n, mC1, mW1, mL2, mL2n, mC2, mW2, mL3, mL3n, mC3, mW3, mL4, mL4n, mC4, mW4, mL5, mL5n, mC5, mW5, mL6, mL6n, mC6, mW6, mL7, mL7n, mC7, mW7, mL8, mL8n, mC8, mW8, mL9, mL9n, mC9, mW9, mL10, mL10n, mC10, mW10, mL11, mL11n, mC11, mW11, mL12, mL12n, mC12, mW12, mL13, mL13n, mC13, mW13, mL14, mL14n, mC14, mW14, mL15, mL15n, mC15, mW15, mL16, mL16n, mC16, mW16, mL17, mL17n, mC17, mW17, mL18, mL18n, mC18, mW18, mL19, mL19n, mC19, mW19, mL20, mL20n, mC20, mW20, mL21, mL21n, mC21, mW21, mL23, mL23n, mC23, mW23, mL24, mL24n, mC24, mW24, mL25, mL25n, mC25, mW25, mL26, mL26n, mC26, mW26, mL27, mL27n, mC27, mW27, mL28, mL28n, mC28, mW28, mL29, mL29n, mC29, mW29, mL30, mL30n, mC30, mW30, mL31, mL31n, mC31, mW31, mL32, mL32n, mC32, mW32, mL33, mL33n, mC33, mW33, mL34, mL34n, mC34, mW34, mL22, mC22, mW22, f1, f2, f3, f4, f5, f6, f7, f8, f9, hp]
      exact hR _ rfl
    · have f1 := (hF0.fr (ad_mfg (K := tkN K F a l (F.1 0)) (ns := l + F.1 1) (v6 := v6) (nh := nh) (hd := hd)) hg hk).1
      have k1 := hk.1
      rw [rX3_addAll_52]
      simp (disch := first | assumption | omega | decide) only [pis_i, pis_l, pis_r, pis_n, p1_i, p1_r, p1_n, p1_u, pw0, pw1, pw2, pw3, pw4, pK_v, pK_0, pK_ite, if_true, if_false, if_pos, if_neg, Nat.reduceAdd, pok_r, i10, i01, Bool.true_or, Bool.or_true, Bool.and_true, Bool.true_and, Nat.add_sub_cancel, i1p1, i1p0, i0p1, i0p0, nIrem2, va_rf_s, bit1, bit0, pinT, pinLT, pin0, nIc, nIcL, nIlt, nIeq, nIltL, nILlt, nIeqL, nILeq, nIadL, nILad, nILmu, nI_add, nIsbL, nI_sub', decide_true, decide_false, Bool.false_or, Bool.or_false, rX3_addAll_54, rX3_addAll_55, rX3_addAll_58, rX3_addAll_59, rX3_addAll_60, rX3_addAll_116, mCl, mF0, mP0, mF1, mF2, mF3, mF4, mF5, mP5, mF6, mF7, mP7, mF8, mP8, mF9, mP9, mF10, mP10, mF11, mF12, mF13, mF14, mF15, mF16, mF17, mF18, mF19, mF20, mP20, mF21, mF22, mF23, mP23, mF24, mP24, mF25, mP25, mF26, mF27, mF28, mF29, mF30, mF31, mP31, mF32, mP32, mF33, mP33, mF34, mF35, mF36, mF37, mF38, mF39, mF40, mF41, mF42, mF43, mF44, mF45, mP45, mF46, mP46, mF47, mP47, mF48, mP48, mF49, mF50, mF51, mP51, mL1, mL1n, mC1, mW1, mL2, mL2n, mC2, mW2, mL3, mL3n, mC3, mW3, mL4, mL4n, mC4, mW4, mL5, mL5n, mC5, mW5, mL6, mL6n, mC6, mW6, mL7, mL7n, mC7, mW7, mL8, mL8n, mC8, mW8, mL9, mL9n, mC9, mW9, mL10, mL10n, mC10, mW10, mL11, mL11n, mC11, mW11, mL12, mL12n, mC12, mW12, mL13, mL13n, mC13, mW13, mL14, mL14n, mC14, mW14, mL15, mL15n, mC15, mW15, mL16, mL16n, mC16, mW16, mL17, mL17n, mC17, mW17, mL18, mL18n, mC18, mW18, mL19, mL19n, mC19, mW19, mL20, mL20n, mC20, mW20, mL21, mL21n, mC21, mW21, mL23, mL23n, mC23, mW23, mL24, mL24n, mC24, mW24, mL25, mL25n, mC25, mW25, mL26, mL26n, mC26, mW26, mL27, mL27n, mC27, mW27, mL28, mL28n, mC28, mW28, mL29, mL29n, mC29, mW29, mL30, mL30n, mC30, mW30, mL31, mL31n, mC31, mW31, mL32, mL32n, mC32, mW32, mL33, mL33n, mC33, mW33, mL34, mL34n, mC34, mW34, mL22, mC22, mW22, f1]
end
section
variable {d m G g1 g2 p q : Nat} {h : pH} {S : MS} {F1 F2 : Fig}
theorem m_add (hS : S.1 20 = nI G) (hG : G < 12) (hg1 : g1 < G) (hg2 : g2 < G) (hF1 : MFig S g1 F1) (hF2 : MFig S g2 F2) (hk1 : FigOk F1) (hk2 : FigOk F2) (hp : p < F1.1 2) (hq : q < F2.1 2) (hN : F1.1 2 + F2.1 2 ≤ 30) (hn : F1.1 0 + F2.1 0 ≤ 24) (hl : F1.1 1 + F2.1 1 ≤ 6) :
    ∃ S', pCa 128 (d + 6) [.ref m, .int (nI g1), .int (nI g2), .int (nI p), .int (nI q)] (mput h m S) = some (.inl (some (.int (nI G))), mput h m (upd S'.1 20 (nI (G + 1)), S'.2)) ∧ mfg S S' G ∧ MFig S' G (figOf (adH F1 F2 p q)) := by
  have ip1 := kX3_isPoint (d := d + 3) (m := m) (h := h) hS (by omega) hg1 hF1.2.2.1 hp (by omega)
  have ip2 := kX3_isPoint (d := d + 3) (m := m) (h := h) hS (by omega) hg2 hF2.2.2.1 hq (by omega)
  have hok := adH_ok hk1 hk2 hp hq hN hn hl
  have hfo := adF_ok hk1 hk2 hp hq hN hn hl
  obtain ⟨a1, a2, a3, a4⟩ := adH_f (F1 := F1) (F2 := F2) hp hq
  let K0 : Hd := { Hd0 with so := (adH F1 F2 p q).so }
  let K1 : Hd := tkN K0 F1 0 0 (F1.1 0)
  let K2 : Hd := tkN K1 F2 (F1.1 2) (F1.1 1) (F2.1 0)
  let hd0 : Nat → Int32 := fun p => nI p
  let hd1 : Nat → Int32 := ul hd0 (F1.1 2 + q) (nI p)
  have K1b : K1.nb = F1.1 0 := by have := (tk_f (H := K0) (F := F1) (a := 0) (c := 0) (F1.1 0)).2.2.2.2; rw [show K0.nb = 0 from rfl, Nat.zero_add] at this; exact this
  have K1s : K1.so = (adH F1 F2 p q).so := (tk_f (H := K0) (F := F1) (a := 0) (c := 0) (F1.1 0)).2.2.2.1
  have K2b : K2.nb = F1.1 0 + F2.1 0 := by rw [(tk_f (H := K1) (F := F2) (a := F1.1 2) (c := F1.1 1) (F2.1 0)).2.2.2.2, K1b]
  have K2s : K2.so = (adH F1 F2 p q).so := (tk_f (H := K1) (F := F2) (a := F1.1 2) (c := F1.1 1) (F2.1 0)).2.2.2.1.trans K1s
  have K2f : ∀ k, k < F1.1 0 + F2.1 0 → K2.fr k = (adH F1 F2 p q).fr k ∧ K2.tq k = (adH F1 F2 p q).tq k ∧ K2.ba k = (adH F1 F2 p q).ba k ∧ K2.le k = (adH F1 F2 p q).le k := by
    intro k hk
    rcases Nat.lt_or_ge k (F1.1 0) with e | e
    · obtain ⟨u1, u2, u3, u4⟩ := adH_1 (F1 := F1) (F2 := F2) hp hq e
      obtain ⟨v1, v2, v3, v4⟩ := tk_lo (H := K1) (F := F2) (a := F1.1 2) (c := F1.1 1) (F2.1 0) k (by omega)
      obtain ⟨w1, w2, w3, w4⟩ := tk_hi (H := K0) (F := F1) (a := 0) (c := 0) (F1.1 0) k e
      rw [show K0.nb + k = k from Nat.zero_add k] at w1 w2 w3 w4
      rw [Nat.zero_add] at w1 w2 w3
      exact ⟨(v1.trans w1).trans u1.symm, (v2.trans w2).trans u2.symm, (v3.trans w3).trans u3.symm, (v4.trans w4).trans u4.symm⟩
    · obtain ⟨c, rfl⟩ : ∃ c, k = F1.1 0 + c := ⟨k - F1.1 0, by omega⟩
      obtain ⟨u1, u2, u3, u4⟩ := adH_2 (F1 := F1) (F2 := F2) hp hq (k := c) (by omega)
      obtain ⟨w1, w2, w3, w4⟩ := tk_hi (H := K1) (F := F2) (a := F1.1 2) (c := F1.1 1) (F2.1 0) c (by omega)
      rw [K1b] at w1 w2 w3 w4
      exact ⟨w1.trans u1.symm, w2.trans u2.symm, w3.trans u3.symm, w4.trans u4.symm⟩
  have n1 := hk1.1
  have n2 := hk2.1
  have m1 := hk1.2.1
  have m2 := hk2.2.1
  -- the end
  let T : MS := mAd S G K2 (F1.1 1 + F2.1 1) (nI (F1.1 1 + F2.1 1)) (F1.1 2 + F2.1 2) hd1
  have hjo : ∀ r, r < F1.1 2 + F2.1 2 → T.2.1 15 r = nI ((adH F1 F2 p q).jo r) := fun r hr => by
    show (mAd S G K2 (F1.1 1 + F2.1 1) (nI (F1.1 1 + F2.1 1)) (F1.1 2 + F2.1 2) hd1).2.1 15 r = _
    rw [ad15, rg_in0 hr, a4, (adJ_f (F1 := F1) (F2 := F2) hp hq).2.2.2.2 r hr]
    show ul hd0 (F1.1 2 + q) (nI p) r = _
    unfold ul
    split
    · rfl
    · rfl
  have hj := hok.j
  rw [a1] at hj
  have hend := kX3_endFigure (d := d + 3) (m := m) (h := h) (T := T) (f := G) (N := F1.1 2 + F2.1 2) (F := figOf (adH F1 F2 p q)) (p := rr (adH F1 F2 p q)) hfo hG hS (by omega) (fun r hr => by
      rw [hjo r hr]
      have h1 := hj r hr
      constructor
      · intro e
        have e2 : (adH F1 F2 p q).jo r = r := by rw [nIeq (by omega) (by omega)] at e; exact e
        exact decide_eq_true (ro_fix e2)
      · intro e
        have e2 : ro (adH F1 F2 p q).jo r = r := of_decide_eq_true e
        rw [ro_eq hj hr] at e2
        rw [e2])
    (by show (mAd S G K2 _ _ _ hd1).2.1 8 G = nI (adH F1 F2 p q).nb; rw [ad8, upd_same, K2b, a2]) (by show (mAd S G K2 _ _ _ hd1).2.1 6 G = nI (adH F1 F2 p q).nl; rw [ad6, upd_same, a3]) (by show fb_ct _ (adH F1 F2 p q).np = _; rw [a1]) (mo_hnd hok (adH_mq hp hq))
    (fun k hk => by
      have hk : k < (adH F1 F2 p q).nb := hk
      obtain ⟨c1, c2, c3, c4⟩ := K2f k (by omega)
      have hf := (hok.f k hk).1
      rw [a1] at hf
      refine ⟨(adH F1 F2 p q).fr k, ro (adH F1 F2 p q).jo ((adH F1 F2 p q).fr k), ?_, ro_lt hj hf, ?_, rfl, fun d S' hS' => kX3_find hj (by omega) (fun r hr => by rw [hS']; exact hjo r hr) hf⟩
      · show (mAd S G K2 _ _ _ hd1).2.1 11 (24 * G + k) = _
        rw [ad11, rg_in (by omega), c1]
      · exact decide_eq_true (ro_fix (ro_ro hj hf)))
    (fun k hk => by
      have hk : k < (adH F1 F2 p q).nb := hk
      obtain ⟨c1, c2, c3, c4⟩ := K2f k (by omega)
      have hf := (hok.f k hk).2.1
      rw [a1] at hf
      refine ⟨(adH F1 F2 p q).tq k, ro (adH F1 F2 p q).jo ((adH F1 F2 p q).tq k), ?_, ro_lt hj hf, ?_, rfl, fun d S' hS' => kX3_find hj (by omega) (fun r hr => by rw [hS']; exact hjo r hr) hf⟩
      · show (mAd S G K2 _ _ _ hd1).2.1 12 (24 * G + k) = _
        rw [ad12, rg_in (by omega), c2]
      · exact decide_eq_true (ro_fix (ro_ro hj hf)))
    (fun k hk => by
      have hk : k < (adH F1 F2 p q).nb := hk
      obtain ⟨c1, c2, c3, c4⟩ := K2f k (by omega)
      show (mAd S G K2 _ _ _ hd1).2.1 13 (24 * G + k) = nI ((adH F1 F2 p q).ba k)
      rw [ad13, rg_in (by omega), c3])
    (fun k hk => by
      have hk : k < (adH F1 F2 p q).nb := hk
      obtain ⟨c1, c2, c3, c4⟩ := K2f k (by omega)
      show (mAd S G K2 _ _ _ hd1).2.1 10 (24 * G + k) = (adH F1 F2 p q).le k
      rw [ad10, rg_in (by omega), c4])
    (fun b hb => by
      have hb : b < (adH F1 F2 p q).nl := hb
      show (mAd S G K2 _ _ _ hd1).2.1 7 (6 * G + b) = nI ((adH F1 F2 p q).so b)
      rw [ad7, rg_in (by omega), K2s])
  obtain ⟨S', e1, e2, e3⟩ := hend
  refine ⟨S', ?_, ad_mfg.tr e2, e3⟩
  have e20' : S'.1 20 = nI G := by rw [e2.1 20 (by decide) (by decide) (by decide) (by decide) (by decide) (by decide)]; exact hS
  have hst := kX3_startFigure (d := d + 5) (m := m) (h := h) (T := S) (f := G) (K := K0) (hd := hd0) hS hG rfl
  have f1 := hF1
  have f2 := hF2
  rw [eX3_add]
  simp (disch := first | assumption | omega | decide) only [pis_i, pis_l, pis_r, pis_n, p1_i, p1_r, p1_n, p1_u, pw0, pw1, pw2, pw3, pw4, pK_v, pK_0, pK_ite, if_true, if_false, if_pos, if_neg, Nat.reduceAdd, pok_r, i10, i01, Bool.true_or, Bool.or_true, Bool.and_true, Bool.true_and, Nat.add_sub_cancel, i1p1, i1p0, i0p1, i0p0, nIrem2, va_rf_s, bit1, bit0, pinT, pinLT, pin0, nIc, nIcL, nIlt, nIeq, nIltL, nILlt, nIeqL, nILeq, nIadL, nILad, nILmu, nI_add, nIsbL, nI_sub', decide_true, decide_false, Bool.false_or, Bool.or_false, rX3_add_0, rX3_add_1, rX3_add_2, rX3_add_3, rX3_add_6, rX3_add_9, rX3_add_10, rX3_add_11, rX3_add_13, rX3_add_16, rX3_add_19, rX3_add_20, rX3_add_23, rX3_add_24, rX3_add_25, rX3_add_26, rX3_add_29, rX3_add_30, rX3_add_31, rX3_add_32, rX3_add_34, rX3_add_37, rX3_add_38, rX3_add_41, rX3_add_42, rX3_add_43, rX3_add_44, rX3_add_47, rX3_add_48, rX3_add_49, rX3_add_50, rX3_add_52, rX3_add_55, rX3_add_56, rX3_add_59, rX3_add_61, rX3_add_64, rX3_add_65, rX3_add_66, rX3_add_67, rX3_add_70, rX3_add_71, mCl, mF0, mP0, mF1, mF2, mF3, mF4, mF5, mP5, mF6, mF7, mP7, mF8, mP8, mF9, mP9, mF10, mP10, mF11, mF12, mF13, mF14, mF15, mF16, mF17, mF18, mF19, mF20, mP20, mF21, mF22, mF23, mP23, mF24, mP24, mF25, mP25, mF26, mF27, mF28, mF29, mF30, mF31, mP31, mF32, mP32, mF33, mP33, mF34, mF35, mF36, mF37, mF38, mF39, mF40, mF41, mF42, mF43, mF44, mF45, mP45, mF46, mP46, mF47, mP47, mF48, mP48, mF49, mF50, mF51, mP51, mL1, mL1n, mC1, mW1, mL2, mL2n, mC2, mW2, mL3, mL3n, mC3, mW3, mL4, mL4n, mC4, mW4, mL5, mL5n, mC5, mW5, mL6, mL6n, mC6, mW6, mL7, mL7n, mC7, mW7, mL8, mL8n, mC8, mW8, mL9, mL9n, mC9, mW9, mL10, mL10n, mC10, mW10, mL11, mL11n, mC11, mW11, mL12, mL12n, mC12, mW12, mL13, mL13n, mC13, mW13, mL14, mL14n, mC14, mW14, mL15, mL15n, mC15, mW15, mL16, mL16n, mC16, mW16, mL17, mL17n, mC17, mW17, mL18, mL18n, mC18, mW18, mL19, mL19n, mC19, mW19, mL20, mL20n, mC20, mW20, mL21, mL21n, mC21, mW21, mL23, mL23n, mC23, mW23, mL24, mL24n, mC24, mW24, mL25, mL25n, mC25, mW25, mL26, mL26n, mC26, mW26, mL27, mL27n, mC27, mW27, mL28, mL28n, mC28, mW28, mL29, mL29n, mC29, mW29, mL30, mL30n, mC30, mW30, mL31, mL31n, mC31, mW31, mL32, mL32n, mC32, mW32, mL33, mL33n, mC33, mW33, mL34, mL34n, mC34, mW34, mL22, mC22, mW22, ip1, ip2, f1.1, f1.2.1, f2.1, f2.2.1, hS, hst]
  have l1 := loopP (N := F1.1 2 + F2.1 2) (P := fun k => pR 128 (d + 6) 73 [.ref m, .int (nI g1), .int (nI g2), .int (nI p), .int (nI q), .int (nI k)] [] (mput h m (mAd S G K0 0 0 k hd0)) = some (.inl (some (.int (nI G))), mput h m (upd S'.1 20 (nI (G + 1)), S'.2))) (fun k hkk hR => ?_) ?_ 0 (Nat.zero_le _)
  · exact l1
  · have p1' := (hF1.fr (ad_mfg (T := S) (K := K0) (ns := 0) (v6 := 0) (nh := k) (hd := hd0)) hg1 hk1).2.2.1
    have p2' := (hF2.fr (ad_mfg (T := S) (K := K0) (ns := 0) (v6 := 0) (nh := k) (hd := hd0)) hg2 hk2).2.2.1
    have w := ad_h (T := S) (f := G) (K := K0) (ns := 0) (v6 := 0) (nh := k) (hd := hd0) (v := nI k) rfl
    rw [rX3_add_73]
    simp (disch := first | assumption | omega | decide) only [pis_i, pis_l, pis_r, pis_n, p1_i, p1_r, p1_n, p1_u, pw0, pw1, pw2, pw3, pw4, pK_v, pK_0, pK_ite, if_true, if_false, if_pos, if_neg, Nat.reduceAdd, pok_r, i10, i01, Bool.true_or, Bool.or_true, Bool.and_true, Bool.true_and, Nat.add_sub_cancel, i1p1, i1p0, i0p1, i0p0, nIrem2, va_rf_s, bit1, bit0, pinT, pinLT, pin0, nIc, nIcL, nIlt, nIeq, nIltL, nILlt, nIeqL, nILeq, nIadL, nILad, nILmu, nI_add, nIsbL, nI_sub', decide_true, decide_false, Bool.false_or, Bool.or_false, rX3_add_75, rX3_add_76, rX3_add_79, rX3_add_80, rX3_add_81, rX3_add_82, rX3_add_85, rX3_add_86, rX3_add_87, rX3_add_88, rX3_add_91, rX3_add_92, rX3_add_95, rX3_add_97, rX3_add_99, rX3_add_100, rX3_add_103, mCl, mF0, mP0, mF1, mF2, mF3, mF4, mF5, mP5, mF6, mF7, mP7, mF8, mP8, mF9, mP9, mF10, mP10, mF11, mF12, mF13, mF14, mF15, mF16, mF17, mF18, mF19, mF20, mP20, mF21, mF22, mF23, mP23, mF24, mP24, mF25, mP25, mF26, mF27, mF28, mF29, mF30, mF31, mP31, mF32, mP32, mF33, mP33, mF34, mF35, mF36, mF37, mF38, mF39, mF40, mF41, mF42, mF43, mF44, mF45, mP45, mF46, mP46, mF47, mP47, mF48, mP48, mF49, mF50, mF51, mP51, mL1, mL1n, mC1, mW1, mL2, mL2n, mC2, mW2, mL3, mL3n, mC3, mW3, mL4, mL4n, mC4, mW4, mL5, mL5n, mC5, mW5, mL6, mL6n, mC6, mW6, mL7, mL7n, mC7, mW7, mL8, mL8n, mC8, mW8, mL9, mL9n, mC9, mW9, mL10, mL10n, mC10, mW10, mL11, mL11n, mC11, mW11, mL12, mL12n, mC12, mW12, mL13, mL13n, mC13, mW13, mL14, mL14n, mC14, mW14, mL15, mL15n, mC15, mW15, mL16, mL16n, mC16, mW16, mL17, mL17n, mC17, mW17, mL18, mL18n, mC18, mW18, mL19, mL19n, mC19, mW19, mL20, mL20n, mC20, mW20, mL21, mL21n, mC21, mW21, mL23, mL23n, mC23, mW23, mL24, mL24n, mC24, mW24, mL25, mL25n, mC25, mW25, mL26, mL26n, mC26, mW26, mL27, mL27n, mC27, mW27, mL28, mL28n, mC28, mW28, mL29, mL29n, mC29, mW29, mL30, mL30n, mC30, mW30, mL31, mL31n, mC31, mW31, mL32, mL32n, mC32, mW32, mL33, mL33n, mC33, mW33, mL34, mL34n, mC34, mW34, mL22, mC22, mW22, p1', p2', w]
    exact hR
  · have i1 := hF1.fr (ad_mfg (T := S) (K := K0) (ns := 0) (v6 := 0) (nh := F1.1 2 + F2.1 2) (hd := hd0)) hg1 hk1
    have i2 := hF2.fr (ad_mfg (T := S) (K := K0) (ns := 0) (v6 := 0) (nh := F1.1 2 + F2.1 2) (hd := hd0)) hg2 hk2
    have w := ad_hu (T := S) (f := G) (K := K0) (ns := 0) (v6 := 0) (nh := F1.1 2 + F2.1 2) (hd := hd0) (i := F1.1 2 + q) (v := nI p) (by omega)
    have w : (((mAd S G K0 0 0 (F1.1 2 + F2.1 2) hd0).1, ua (mAd S G K0 0 0 (F1.1 2 + F2.1 2) hd0).2.1 15 (F1.1 2 + q) (nI p), (mAd S G K0 0 0 (F1.1 2 + F2.1 2) hd0).2.2) : MS) = mAd S G K0 0 0 (F1.1 2 + F2.1 2) hd1 := w
    have aa1 := kX3_addAll (d := d + 4) (m := m) (h := h) (T := S) (f := G) (K := K0) (v6 := 0) (nh := F1.1 2 + F2.1 2) (hd := hd1) (l := 0) (a := 0) hF1 hk1 hg1 hG hS (show 0 + F1.1 0 ≤ 24 by omega) (by omega) (by omega) (fun b hb => by rw [Nat.zero_add]; exact adH_s1 hp hq hb)
    have aa1 : pCa 129 (d + 5) [.ref m, .int (nI g1), .int 0, .int 0] (mput h m (mAd S G K0 0 0 (F1.1 2 + F2.1 2) hd1)) = some (.inl none, mput h m (mAd S G K1 (0 + F1.1 1) 0 (F1.1 2 + F2.1 2) hd1)) := aa1
    rw [Nat.zero_add (F1.1 1)] at aa1
    have j1 := hF1.fr (ad_mfg (T := S) (K := K1) (ns := F1.1 1) (v6 := 0) (nh := F1.1 2 + F2.1 2) (hd := hd1)) hg1 hk1
    have aa2 := kX3_addAll (d := d + 4) (m := m) (h := h) (T := S) (f := G) (K := K1) (v6 := 0) (nh := F1.1 2 + F2.1 2) (hd := hd1) (l := F1.1 1) (a := F1.1 2) hF2 hk2 hg2 hG hS (by omega) (by omega) (by omega) (fun b hb => by rw [K1s]; exact adH_s2 hp hq hb)
    have aa2 : pCa 129 (d + 5) [.ref m, .int (nI g2), .int (nI (F1.1 1)), .int (nI (F1.1 2))] (mput h m (mAd S G K1 (F1.1 1) 0 (F1.1 2 + F2.1 2) hd1)) = some (.inl none, mput h m (mAd S G K2 (F1.1 1 + F2.1 1) 0 (F1.1 2 + F2.1 2) hd1)) := aa2
    have e20 : (mAd S G K2 (F1.1 1 + F2.1 1) 0 (F1.1 2 + F2.1 2) hd1).1 20 = nI G := hS
    have y1 := hF1.fr (ad_mfg (T := S) (K := K2) (ns := F1.1 1 + F2.1 1) (v6 := 0) (nh := F1.1 2 + F2.1 2) (hd := hd1)) hg1 hk1
    have y2 := hF2.fr (ad_mfg (T := S) (K := K2) (ns := F1.1 1 + F2.1 1) (v6 := 0) (nh := F1.1 2 + F2.1 2) (hd := hd1)) hg2 hk2
    have w6 := ad_w6 (T := S) (f := G) (K := K2) (ns := F1.1 1 + F2.1 1) (v6 := 0) (nh := F1.1 2 + F2.1 2) (hd := hd1) (v := nI (F1.1 1 + F2.1 1))
    have w6 : (((mAd S G K2 (F1.1 1 + F2.1 1) 0 (F1.1 2 + F2.1 2) hd1).1, ua (mAd S G K2 (F1.1 1 + F2.1 1) 0 (F1.1 2 + F2.1 2) hd1).2.1 6 G (nI (F1.1 1 + F2.1 1)), (mAd S G K2 (F1.1 1 + F2.1 1) 0 (F1.1 2 + F2.1 2) hd1).2.2) : MS) = T := w6
    have z1 : MFig T g1 F1 := hF1.fr ad_mfg hg1 hk1
    have z2 : MFig T g2 F2 := hF2.fr ad_mfg hg2 hk2
    clear_value K0 K1 K2 hd0 hd1 T
    rw [rX3_add_73]
    simp (disch := first | assumption | omega | decide) only [pis_i, pis_l, pis_r, pis_n, p1_i, p1_r, p1_n, p1_u, pw0, pw1, pw2, pw3, pw4, pK_v, pK_0, pK_ite, if_true, if_false, if_pos, if_neg, Nat.reduceAdd, pok_r, i10, i01, Bool.true_or, Bool.or_true, Bool.and_true, Bool.true_and, Nat.add_sub_cancel, i1p1, i1p0, i0p1, i0p0, nIrem2, va_rf_s, bit1, bit0, pinT, pinLT, pin0, nIc, nIcL, nIlt, nIeq, nIltL, nILlt, nIeqL, nILeq, nIadL, nILad, nILmu, nI_add, nIsbL, nI_sub', decide_true, decide_false, Bool.false_or, Bool.or_false, rX3_add_75, rX3_add_76, rX3_add_79, rX3_add_80, rX3_add_81, rX3_add_82, rX3_add_85, rX3_add_86, rX3_add_87, rX3_add_88, rX3_add_106, rX3_add_107, rX3_add_110, rX3_add_111, rX3_add_114, rX3_add_115, rX3_add_116, rX3_add_118, rX3_add_119, rX3_add_120, rX3_add_121, rX3_add_122, rX3_add_123, rX3_add_124, rX3_add_125, rX3_add_128, rX3_add_129, rX3_add_130, rX3_add_131, rX3_add_134, rX3_add_135, rX3_add_136, rX3_add_137, rX3_add_140, rX3_add_141, rX3_add_142, rX3_add_145, rX3_add_146, rX3_add_149, rX3_add_150, rX3_add_153, rX3_add_154, rX3_add_157, rX3_add_158, rX3_add_159, rX3_add_160, rX3_add_163, rX3_add_164, rX3_add_165, rX3_add_166, rX3_add_167, rX3_add_168, rX3_add_169, rX3_add_172, rX3_add_173, rX3_add_174, rX3_add_175, rX3_add_178, rX3_add_179, rX3_add_180, rX3_add_181, rX3_add_184, rX3_add_185, rX3_add_188, rX3_add_189, rX3_add_190, mCl, mF0, mP0, mF1, mF2, mF3, mF4, mF5, mP5, mF6, mF7, mP7, mF8, mP8, mF9, mP9, mF10, mP10, mF11, mF12, mF13, mF14, mF15, mF16, mF17, mF18, mF19, mF20, mP20, mF21, mF22, mF23, mP23, mF24, mP24, mF25, mP25, mF26, mF27, mF28, mF29, mF30, mF31, mP31, mF32, mP32, mF33, mP33, mF34, mF35, mF36, mF37, mF38, mF39, mF40, mF41, mF42, mF43, mF44, mF45, mP45, mF46, mP46, mF47, mP47, mF48, mP48, mF49, mF50, mF51, mP51, mL1, mL1n, mC1, mW1, mL2, mL2n, mC2, mW2, mL3, mL3n, mC3, mW3, mL4, mL4n, mC4, mW4, mL5, mL5n, mC5, mW5, mL6, mL6n, mC6, mW6, mL7, mL7n, mC7, mW7, mL8, mL8n, mC8, mW8, mL9, mL9n, mC9, mW9, mL10, mL10n, mC10, mW10, mL11, mL11n, mC11, mW11, mL12, mL12n, mC12, mW12, mL13, mL13n, mC13, mW13, mL14, mL14n, mC14, mW14, mL15, mL15n, mC15, mW15, mL16, mL16n, mC16, mW16, mL17, mL17n, mC17, mW17, mL18, mL18n, mC18, mW18, mL19, mL19n, mC19, mW19, mL20, mL20n, mC20, mW20, mL21, mL21n, mC21, mW21, mL23, mL23n, mC23, mW23, mL24, mL24n, mC24, mW24, mL25, mL25n, mC25, mW25, mL26, mL26n, mC26, mW26, mL27, mL27n, mC27, mW27, mL28, mL28n, mC28, mW28, mL29, mL29n, mC29, mW29, mL30, mL30n, mC30, mW30, mL31, mL31n, mC31, mW31, mL32, mL32n, mC32, mW32, mL33, mL33n, mC33, mW33, mL34, mL34n, mC34, mW34, mL22, mC22, mW22, i1.2.2.1, i2.2.2.1, w, aa1, j1.2.1, j1.2.2.1, aa2, e20, y1.2.1, y2.2.1, w6, z1.2.2.1, z2.2.2.1, e1, upd_same]
end
