/-! SETS 3: parts, strokes -/
set_option maxRecDepth 100000
section
variable {F : Fig} {set got : Int32} {k : Nat} {H : pH} {f d m g : Nat} {h : pH} {S : MS}
theorem kX3_meets (hF : MFig S g F) (hk : FigOk F) (hg : g < 13) {b : Nat} (hb : b < F.1 0) : pCa 133 d [.ref m, .int (nI g), .int (nI b), .int set] (mput h m S) = if mt F b set = true then some (.inl (some (.int 1)), mput h m S) else some (.inl (some (.int 0)), mput h m S) := by
  (obtain ⟨f1, f2, f3, f4, f5, f6, f7, f8, f9⟩ := hF; have hk' := hk; obtain ⟨k1, k2, k3, k4, k5, k6⟩ := hk')
  have hb1 := k5 b hb
  rw [eX3_meets]
  simp (disch := first | omega | decide) only [pis_i, pis_l, pis_r, pis_n, p1_i, p1_r, p1_n, p1_u, pw0, pw1, pw2, pw3, pw4, pK_v, pK_0, pK_ite, if_true, if_false, if_pos, if_neg, Nat.reduceAdd, pok_r, i10, i01, Bool.true_or, Bool.or_true, Bool.and_true, Bool.true_and, rX3_meets_0, rX3_meets_1, rX3_meets_5, rX3_meets_6, rX3_meets_9, rX3_meets_10, rX3_meets_11, rX3_meets_14, rX3_meets_15, rX3_meets_17, rX3_meets_18, rX3_meets_19, rX3_meets_20, rX3_meets_21, rX3_meets_24, rX3_meets_26, rX3_meets_27, rX3_meets_28, rX3_meets_30, rX3_meets_31, rX3_meets_33, rX3_meets_35, rX3_meets_36, rX3_meets_37, rX3_meets_38, rX3_meets_39, rX3_meets_41, rX3_meets_42, rX3_meets_45, rX3_meets_47, rX3_meets_48, rX3_meets_49, rX3_meets_52, rX3_meets_54, rX3_meets_55, rX3_meets_58, rX3_meets_59, rX3_meets_62, rX3_meets_64, rX3_meets_65, rX3_meets_66, rX3_meets_69, rX3_meets_71, rX3_meets_72, rX3_meets_75, rX3_meets_76, rX3_meets_79, rX3_meets_81, rX3_meets_82, rX3_meets_83, rX3_meets_86, rX3_meets_88, rX3_meets_89, rX3_meets_92, rX3_meets_93, rX3_meets_96, rX3_meets_98, rX3_meets_99, rX3_meets_100, rX3_meets_103, rX3_meets_105, rX3_meets_106, rX3_meets_109, rX3_meets_1100, rX3_meets_1101, rX3_meets_111, rX3_meets_114, rX3_meets_117, rX3_meets_1180, rX3_meets_1181]
  have main := loopP (N := F.1 0) (P := fun o => decide (0 < fb_ct (fun o => bt set o && fMe F b o) o) = false → ∀ q5 q6, p1 q5 = true → p1 q6 = true → pR 133 d 3 [.ref m, .int (nI g), .int (nI b), .int set, .int (nI o), q5, q6] [] (mput h m S) = if mt F b set = true then some (.inl (some (.int 1)), mput h m S) else some (.inl (some (.int 0)), mput h m S)) (fun o ho iho hq q5 q6 h5 h6 => ?_) (fun hq q5 q6 h5 h6 => ?_) 0 (Nat.zero_le _)
  · exact main (by simp [fb_ct]) pU pU rfl rfl
  · rw [mt_step, hq, Bool.false_or] at iho
    have ho1 := k5 o ho
    rw [rX3_meets_3]
    cases q1 : bt set o
    · rw [q1, Bool.false_and] at iho
      simp (disch := first | omega | decide) only [pis_i, pis_l, pis_r, pis_n, p1_i, p1_r, p1_n, p1_u, pw0, pw1, pw2, pw3, pw4, pK_v, pK_0, pK_ite, if_true, if_false, if_pos, if_neg, Nat.reduceAdd, pok_r, i10, i01, Bool.true_or, Bool.or_true, Bool.and_true, Bool.true_and, Nat.add_sub_cancel, i1p1, i1p0, i0p1, i0p0, nIrem2, va_rf_s, bit1, bit0, pinT, pinLT, pin0, nIc, nIcL, nIlt, nIeq, nIltL, nILlt, nIeqL, nILeq, nIadL, nILad, nILmu, nI_add, nIsbL, nI_sub', decide_true, decide_false, Bool.false_or, Bool.or_false, rX3_meets_0, rX3_meets_1, rX3_meets_5, rX3_meets_6, rX3_meets_9, rX3_meets_10, rX3_meets_11, rX3_meets_14, rX3_meets_15, rX3_meets_17, rX3_meets_18, rX3_meets_19, rX3_meets_20, rX3_meets_21, rX3_meets_24, rX3_meets_26, rX3_meets_27, rX3_meets_28, rX3_meets_30, rX3_meets_31, rX3_meets_33, rX3_meets_35, rX3_meets_36, rX3_meets_37, rX3_meets_38, rX3_meets_39, rX3_meets_41, rX3_meets_42, rX3_meets_45, rX3_meets_47, rX3_meets_48, rX3_meets_49, rX3_meets_52, rX3_meets_54, rX3_meets_55, rX3_meets_58, rX3_meets_59, rX3_meets_62, rX3_meets_64, rX3_meets_65, rX3_meets_66, rX3_meets_69, rX3_meets_71, rX3_meets_72, rX3_meets_75, rX3_meets_76, rX3_meets_79, rX3_meets_81, rX3_meets_82, rX3_meets_83, rX3_meets_86, rX3_meets_88, rX3_meets_89, rX3_meets_92, rX3_meets_93, rX3_meets_96, rX3_meets_98, rX3_meets_99, rX3_meets_100, rX3_meets_103, rX3_meets_105, rX3_meets_106, rX3_meets_109, rX3_meets_1100, rX3_meets_1101, rX3_meets_111, rX3_meets_114, rX3_meets_117, rX3_meets_1180, rX3_meets_1181, mCl, mF0, mP0, mF1, mF2, mF3, mF4, mF5, mP5, mF6, mF7, mP7, mF8, mP8, mF9, mP9, mF10, mP10, mF11, mF12, mF13, mF14, mF15, mF16, mF17, mF18, mF19, mF20, mP20, mF21, mF22, mF23, mP23, mF24, mP24, mF25, mP25, mF26, mF27, mF28, mF29, mF30, mF31, mP31, mF32, mP32, mF33, mP33, mF34, mF35, mF36, mF37, mF38, mF39, mF40, mF41, mF42, mF43, mF44, mF45, mP45, mF46, mP46, mF47, mP47, mF48, mP48, mF49, mF50, mF51, mP51, mL1, mL1n, mC1, mW1, mL2, mL2n, mC2, mW2, mL3, mL3n, mC3, mW3, mL4, mL4n, mC4, mW4, mL5, mL5n, mC5, mW5, mL6, mL6n, mC6, mW6, mL7, mL7n, mC7, mW7, mL8, mL8n, mC8, mW8, mL9, mL9n, mC9, mW9, mL10, mL10n, mC10, mW10, mL11, mL11n, mC11, mW11, mL12, mL12n, mC12, mW12, mL13, mL13n, mC13, mW13, mL14, mL14n, mC14, mW14, mL15, mL15n, mC15, mW15, mL16, mL16n, mC16, mW16, mL17, mL17n, mC17, mW17, mL18, mL18n, mC18, mW18, mL19, mL19n, mC19, mW19, mL20, mL20n, mC20, mW20, mL21, mL21n, mC21, mW21, mL23, mL23n, mC23, mW23, mL24, mL24n, mC24, mW24, mL25, mL25n, mC25, mW25, mL26, mL26n, mC26, mW26, mL27, mL27n, mC27, mW27, mL28, mL28n, mC28, mW28, mL29, mL29n, mC29, mW29, mL30, mL30n, mC30, mW30, mL31, mL31n, mC31, mW31, mL32, mL32n, mC32, mW32, mL33, mL33n, mC33, mW33, mL34, mL34n, mC34, mW34, mL22, mC22, mW22, f1, q1, Bool.false_eq_true]
      exact iho rfl q5 q6 h5 h6
    · rw [q1, Bool.true_and] at iho
      simp (disch := first | omega | decide) only [pis_i, pis_l, pis_r, pis_n, p1_i, p1_r, p1_n, p1_u, pw0, pw1, pw2, pw3, pw4, pK_v, pK_0, pK_ite, if_true, if_false, if_pos, if_neg, Nat.reduceAdd, pok_r, i10, i01, Bool.true_or, Bool.or_true, Bool.and_true, Bool.true_and, Nat.add_sub_cancel, i1p1, i1p0, i0p1, i0p0, nIrem2, va_rf_s, bit1, bit0, pinT, pinLT, pin0, nIc, nIcL, nIlt, nIeq, nIltL, nILlt, nIeqL, nILeq, nIadL, nILad, nILmu, nI_add, nIsbL, nI_sub', decide_true, decide_false, Bool.false_or, Bool.or_false, rX3_meets_0, rX3_meets_1, rX3_meets_5, rX3_meets_6, rX3_meets_9, rX3_meets_10, rX3_meets_11, rX3_meets_14, rX3_meets_15, rX3_meets_17, rX3_meets_18, rX3_meets_19, rX3_meets_20, rX3_meets_21, rX3_meets_24, rX3_meets_26, rX3_meets_27, rX3_meets_28, rX3_meets_30, rX3_meets_31, rX3_meets_33, rX3_meets_35, rX3_meets_36, rX3_meets_37, rX3_meets_38, rX3_meets_39, rX3_meets_41, rX3_meets_42, rX3_meets_45, rX3_meets_47, rX3_meets_48, rX3_meets_49, rX3_meets_52, rX3_meets_54, rX3_meets_55, rX3_meets_58, rX3_meets_59, rX3_meets_62, rX3_meets_64, rX3_meets_65, rX3_meets_66, rX3_meets_69, rX3_meets_71, rX3_meets_72, rX3_meets_75, rX3_meets_76, rX3_meets_79, rX3_meets_81, rX3_meets_82, rX3_meets_83, rX3_meets_86, rX3_meets_88, rX3_meets_89, rX3_meets_92, rX3_meets_93, rX3_meets_96, rX3_meets_98, rX3_meets_99, rX3_meets_100, rX3_meets_103, rX3_meets_105, rX3_meets_106, rX3_meets_109, rX3_meets_1100, rX3_meets_1101, rX3_meets_111, rX3_meets_114, rX3_meets_117, rX3_meets_1180, rX3_meets_1181, mCl, mF0, mP0, mF1, mF2, mF3, mF4, mF5, mP5, mF6, mF7, mP7, mF8, mP8, mF9, mP9, mF10, mP10, mF11, mF12, mF13, mF14, mF15, mF16, mF17, mF18, mF19, mF20, mP20, mF21, mF22, mF23, mP23, mF24, mP24, mF25, mP25, mF26, mF27, mF28, mF29, mF30, mF31, mP31, mF32, mP32, mF33, mP33, mF34, mF35, mF36, mF37, mF38, mF39, mF40, mF41, mF42, mF43, mF44, mF45, mP45, mF46, mP46, mF47, mP47, mF48, mP48, mF49, mF50, mF51, mP51, mL1, mL1n, mC1, mW1, mL2, mL2n, mC2, mW2, mL3, mL3n, mC3, mW3, mL4, mL4n, mC4, mW4, mL5, mL5n, mC5, mW5, mL6, mL6n, mC6, mW6, mL7, mL7n, mC7, mW7, mL8, mL8n, mC8, mW8, mL9, mL9n, mC9, mW9, mL10, mL10n, mC10, mW10, mL11, mL11n, mC11, mW11, mL12, mL12n, mC12, mW12, mL13, mL13n, mC13, mW13, mL14, mL14n, mC14, mW14, mL15, mL15n, mC15, mW15, mL16, mL16n, mC16, mW16, mL17, mL17n, mC17, mW17, mL18, mL18n, mC18, mW18, mL19, mL19n, mC19, mW19, mL20, mL20n, mC20, mW20, mL21, mL21n, mC21, mW21, mL23, mL23n, mC23, mW23, mL24, mL24n, mC24, mW24, mL25, mL25n, mC25, mW25, mL26, mL26n, mC26, mW26, mL27, mL27n, mC27, mW27, mL28, mL28n, mC28, mW28, mL29, mL29n, mC29, mW29, mL30, mL30n, mC30, mW30, mL31, mL31n, mC31, mW31, mL32, mL32n, mC32, mW32, mL33, mL33n, mC33, mW33, mL34, mL34n, mC34, mW34, mL22, mC22, mW22, f1, f2, f3, f4, f5, f6, f7, f8, f9, q1, h5, h6]
      cases q2 : fMe F b o
      · have iho := iho q2 (.int (nI (24 * g + o))) (.int (nI (24 * g + b))) rfl rfl
        rw [fMe_comm] at q2
        simp only [fMe, Bool.or_eq_false_iff, beq_eq_false_iff_ne] at q2
        simp only [q2, if_false, ite_false]
        exact iho
      · have hm : mt F b set = true := by
          unfold mt
          apply decide_eq_true
          rw [fb_ct_pos]
          exact ⟨o, ho, by simp [q1, q2]⟩
        rw [fMe_comm] at q2
        simp only [fMe, Bool.or_eq_true, beq_iff_eq] at q2
        rw [if_pos hm]
        (repeat' split) <;> first | rfl | (exfalso; simp_all)
  · rw [rX3_meets_3]
    have hm : mt F b set = false := hq
    simp (disch := first | omega | decide) only [pis_i, pis_l, pis_r, pis_n, p1_i, p1_r, p1_n, p1_u, pw0, pw1, pw2, pw3, pw4, pK_v, pK_0, pK_ite, if_true, if_false, if_pos, if_neg, Nat.reduceAdd, pok_r, i10, i01, Bool.true_or, Bool.or_true, Bool.and_true, Bool.true_and, Nat.add_sub_cancel, i1p1, i1p0, i0p1, i0p0, nIrem2, va_rf_s, bit1, bit0, pinT, pinLT, pin0, nIc, nIcL, nIlt, nIeq, nIltL, nILlt, nIeqL, nILeq, nIadL, nILad, nILmu, nI_add, nIsbL, nI_sub', decide_true, decide_false, Bool.false_or, Bool.or_false, rX3_meets_0, rX3_meets_1, rX3_meets_5, rX3_meets_6, rX3_meets_9, rX3_meets_10, rX3_meets_11, rX3_meets_14, rX3_meets_15, rX3_meets_17, rX3_meets_18, rX3_meets_19, rX3_meets_20, rX3_meets_21, rX3_meets_24, rX3_meets_26, rX3_meets_27, rX3_meets_28, rX3_meets_30, rX3_meets_31, rX3_meets_33, rX3_meets_35, rX3_meets_36, rX3_meets_37, rX3_meets_38, rX3_meets_39, rX3_meets_41, rX3_meets_42, rX3_meets_45, rX3_meets_47, rX3_meets_48, rX3_meets_49, rX3_meets_52, rX3_meets_54, rX3_meets_55, rX3_meets_58, rX3_meets_59, rX3_meets_62, rX3_meets_64, rX3_meets_65, rX3_meets_66, rX3_meets_69, rX3_meets_71, rX3_meets_72, rX3_meets_75, rX3_meets_76, rX3_meets_79, rX3_meets_81, rX3_meets_82, rX3_meets_83, rX3_meets_86, rX3_meets_88, rX3_meets_89, rX3_meets_92, rX3_meets_93, rX3_meets_96, rX3_meets_98, rX3_meets_99, rX3_meets_100, rX3_meets_103, rX3_meets_105, rX3_meets_106, rX3_meets_109, rX3_meets_1100, rX3_meets_1101, rX3_meets_111, rX3_meets_114, rX3_meets_117, rX3_meets_1180, rX3_meets_1181, mCl, mF0, mP0, mF1, mF2, mF3, mF4, mF5, mP5, mF6, mF7, mP7, mF8, mP8, mF9, mP9, mF10, mP10, mF11, mF12, mF13, mF14, mF15, mF16, mF17, mF18, mF19, mF20, mP20, mF21, mF22, mF23, mP23, mF24, mP24, mF25, mP25, mF26, mF27, mF28, mF29, mF30, mF31, mP31, mF32, mP32, mF33, mP33, mF34, mF35, mF36, mF37, mF38, mF39, mF40, mF41, mF42, mF43, mF44, mF45, mP45, mF46, mP46, mF47, mP47, mF48, mP48, mF49, mF50, mF51, mP51, mL1, mL1n, mC1, mW1, mL2, mL2n, mC2, mW2, mL3, mL3n, mC3, mW3, mL4, mL4n, mC4, mW4, mL5, mL5n, mC5, mW5, mL6, mL6n, mC6, mW6, mL7, mL7n, mC7, mW7, mL8, mL8n, mC8, mW8, mL9, mL9n, mC9, mW9, mL10, mL10n, mC10, mW10, mL11, mL11n, mC11, mW11, mL12, mL12n, mC12, mW12, mL13, mL13n, mC13, mW13, mL14, mL14n, mC14, mW14, mL15, mL15n, mC15, mW15, mL16, mL16n, mC16, mW16, mL17, mL17n, mC17, mW17, mL18, mL18n, mC18, mW18, mL19, mL19n, mC19, mW19, mL20, mL20n, mC20, mW20, mL21, mL21n, mC21, mW21, mL23, mL23n, mC23, mW23, mL24, mL24n, mC24, mW24, mL25, mL25n, mC25, mW25, mL26, mL26n, mC26, mW26, mL27, mL27n, mC27, mW27, mL28, mL28n, mC28, mW28, mL29, mL29n, mC29, mW29, mL30, mL30n, mC30, mW30, mL31, mL31n, mC31, mW31, mL32, mL32n, mC32, mW32, mL33, mL33n, mC33, mW33, mL34, mL34n, mC34, mW34, mL22, mC22, mW22, f1, hm, Bool.false_eq_true]
theorem kX3_firstPart (hF : MFig S g F) (hk : FigOk F) (hg : g < 13) {w : Nat} (hw : w < F.1 0) (hset : inS (F.1 0) set) (hl : set &&& (-set) = (1 : Int32) <<< (nI w &&& 31)) : pCa 146 (d + 1) [.ref m, .int (nI g), .int set] (mput h m S) = some (.inl (some (.int (hx F set 25 ((1 : Int32) <<< (nI w &&& 31))))), mput h m S) := by
  have hF0 := hF
  (obtain ⟨f1, f2, f3, f4, f5, f6, f7, f8, f9⟩ := hF; have hk' := hk; obtain ⟨k1, k2, k3, k4, k5, k6⟩ := hk')
  have outer : ∀ k got before q5, p1 q5 = true → before ≠ got → inS (F.1 0) got → F.1 0 - fb_ct (bt got) (F.1 0) < k → pR 146 (d + 1) 8 [.ref m, .int (nI g), .int set, .int got, .int before, q5] [] (mput h m S) = some (.inl (some (.int (hx F set k got))), mput h m S) := by
    intro k
    induction k with
    | zero => intro got before q5 _ _ _ h; omega
    | succ k ih =>
      intro got before q5 h5 hne hin hm
      rw [rX3_firstPart_8]
      simp (disch := first | omega | decide) only [pis_i, pis_l, pis_r, pis_n, p1_i, p1_r, p1_n, p1_u, pw0, pw1, pw2, pw3, pw4, pK_v, pK_0, pK_ite, if_true, if_false, if_pos, if_neg, Nat.reduceAdd, pok_r, i10, i01, Bool.true_or, Bool.or_true, Bool.and_true, Bool.true_and, rX3_firstPart_0, rX3_firstPart_1, rX3_firstPart_2, rX3_firstPart_3, rX3_firstPart_4, rX3_firstPart_5, rX3_firstPart_6, rX3_firstPart_10, rX3_firstPart_11, rX3_firstPart_14, rX3_firstPart_15, rX3_firstPart_17, rX3_firstPart_18, rX3_firstPart_22, rX3_firstPart_23, rX3_firstPart_26, rX3_firstPart_27, rX3_firstPart_28, rX3_firstPart_31, rX3_firstPart_32, rX3_firstPart_33, rX3_firstPart_35, rX3_firstPart_36, rX3_firstPart_37, rX3_firstPart_38, rX3_firstPart_39, rX3_firstPart_42, rX3_firstPart_43, rX3_firstPart_44, rX3_firstPart_46, rX3_firstPart_47, rX3_firstPart_50, rX3_firstPart_53, rX3_firstPart_54, rX3_firstPart_56, rX3_firstPart_57, rX3_firstPart_60, rX3_firstPart_61, rX3_firstPart_62, rX3_firstPart_63, rX3_firstPart_66, rX3_firstPart_69, rX3_firstPart_72, rX3_firstPart_73, hne, h5]
      refine loopN (N := F.1 0) (P := fun b => pR 146 (d + 1) 20 [.ref m, .int (nI g), .int set, .int (hp F set got b), .int got, .int (nI b)] [] (mput h m S)) (fun b hb R hR => ?_) ?_ 0 (Nat.zero_le _)
      · rw [hp, hs] at hR
        rw [rX3_firstPart_20]
        simp (disch := first | omega | decide) only [pis_i, pis_l, pis_r, pis_n, p1_i, p1_r, p1_n, p1_u, pw0, pw1, pw2, pw3, pw4, pK_v, pK_0, pK_ite, if_true, if_false, if_pos, if_neg, Nat.reduceAdd, pok_r, i10, i01, Bool.true_or, Bool.or_true, Bool.and_true, Bool.true_and, Nat.add_sub_cancel, i1p1, i1p0, i0p1, i0p0, nIrem2, va_rf_s, bit1, bit0, pinT, pinLT, pin0, nIc, nIcL, nIlt, nIeq, nIltL, nILlt, nIeqL, nILeq, nIadL, nILad, nILmu, nI_add, nIsbL, nI_sub', decide_true, decide_false, Bool.false_or, Bool.or_false, rX3_firstPart_0, rX3_firstPart_1, rX3_firstPart_2, rX3_firstPart_3, rX3_firstPart_4, rX3_firstPart_5, rX3_firstPart_6, rX3_firstPart_10, rX3_firstPart_11, rX3_firstPart_14, rX3_firstPart_15, rX3_firstPart_17, rX3_firstPart_18, rX3_firstPart_22, rX3_firstPart_23, rX3_firstPart_26, rX3_firstPart_27, rX3_firstPart_28, rX3_firstPart_31, rX3_firstPart_32, rX3_firstPart_33, rX3_firstPart_35, rX3_firstPart_36, rX3_firstPart_37, rX3_firstPart_38, rX3_firstPart_39, rX3_firstPart_42, rX3_firstPart_43, rX3_firstPart_44, rX3_firstPart_46, rX3_firstPart_47, rX3_firstPart_50, rX3_firstPart_53, rX3_firstPart_54, rX3_firstPart_56, rX3_firstPart_57, rX3_firstPart_60, rX3_firstPart_61, rX3_firstPart_62, rX3_firstPart_63, rX3_firstPart_66, rX3_firstPart_69, rX3_firstPart_72, rX3_firstPart_73, mCl, mF0, mP0, mF1, mF2, mF3, mF4, mF5, mP5, mF6, mF7, mP7, mF8, mP8, mF9, mP9, mF10, mP10, mF11, mF12, mF13, mF14, mF15, mF16, mF17, mF18, mF19, mF20, mP20, mF21, mF22, mF23, mP23, mF24, mP24, mF25, mP25, mF26, mF27, mF28, mF29, mF30, mF31, mP31, mF32, mP32, mF33, mP33, mF34, mF35, mF36, mF37, mF38, mF39, mF40, mF41, mF42, mF43, mF44, mF45, mP45, mF46, mP46, mF47, mP47, mF48, mP48, mF49, mF50, mF51, mP51, mL1, mL1n, mC1, mW1, mL2, mL2n, mC2, mW2, mL3, mL3n, mC3, mW3, mL4, mL4n, mC4, mW4, mL5, mL5n, mC5, mW5, mL6, mL6n, mC6, mW6, mL7, mL7n, mC7, mW7, mL8, mL8n, mC8, mW8, mL9, mL9n, mC9, mW9, mL10, mL10n, mC10, mW10, mL11, mL11n, mC11, mW11, mL12, mL12n, mC12, mW12, mL13, mL13n, mC13, mW13, mL14, mL14n, mC14, mW14, mL15, mL15n, mC15, mW15, mL16, mL16n, mC16, mW16, mL17, mL17n, mC17, mW17, mL18, mL18n, mC18, mW18, mL19, mL19n, mC19, mW19, mL20, mL20n, mC20, mW20, mL21, mL21n, mC21, mW21, mL23, mL23n, mC23, mW23, mL24, mL24n, mC24, mW24, mL25, mL25n, mC25, mW25, mL26, mL26n, mC26, mW26, mL27, mL27n, mC27, mW27, mL28, mL28n, mC28, mW28, mL29, mL29n, mC29, mW29, mL30, mL30n, mC30, mW30, mL31, mL31n, mC31, mW31, mL32, mL32n, mC32, mW32, mL33, mL33n, mC33, mW33, mL34, mL34n, mC34, mW34, mL22, mC22, mW22, f1, kX3_meets hF0 hk hg hb, or_0]
        cases q1 : bt set b <;> cases q2 : mt F b (hp F set got b) <;> simpa [q1, q2] using hR
      · rw [rX3_firstPart_20]
        simp (disch := first | omega | decide) only [pis_i, pis_l, pis_r, pis_n, p1_i, p1_r, p1_n, p1_u, pw0, pw1, pw2, pw3, pw4, pK_v, pK_0, pK_ite, if_true, if_false, if_pos, if_neg, Nat.reduceAdd, pok_r, i10, i01, Bool.true_or, Bool.or_true, Bool.and_true, Bool.true_and, Nat.add_sub_cancel, i1p1, i1p0, i0p1, i0p0, nIrem2, va_rf_s, bit1, bit0, pinT, pinLT, pin0, nIc, nIcL, nIlt, nIeq, nIltL, nILlt, nIeqL, nILeq, nIadL, nILad, nILmu, nI_add, nIsbL, nI_sub', decide_true, decide_false, Bool.false_or, Bool.or_false, rX3_firstPart_0, rX3_firstPart_1, rX3_firstPart_2, rX3_firstPart_3, rX3_firstPart_4, rX3_firstPart_5, rX3_firstPart_6, rX3_firstPart_10, rX3_firstPart_11, rX3_firstPart_14, rX3_firstPart_15, rX3_firstPart_17, rX3_firstPart_18, rX3_firstPart_22, rX3_firstPart_23, rX3_firstPart_26, rX3_firstPart_27, rX3_firstPart_28, rX3_firstPart_31, rX3_firstPart_32, rX3_firstPart_33, rX3_firstPart_35, rX3_firstPart_36, rX3_firstPart_37, rX3_firstPart_38, rX3_firstPart_39, rX3_firstPart_42, rX3_firstPart_43, rX3_firstPart_44, rX3_firstPart_46, rX3_firstPart_47, rX3_firstPart_50, rX3_firstPart_53, rX3_firstPart_54, rX3_firstPart_56, rX3_firstPart_57, rX3_firstPart_60, rX3_firstPart_61, rX3_firstPart_62, rX3_firstPart_63, rX3_firstPart_66, rX3_firstPart_69, rX3_firstPart_72, rX3_firstPart_73, mCl, mF0, mP0, mF1, mF2, mF3, mF4, mF5, mP5, mF6, mF7, mP7, mF8, mP8, mF9, mP9, mF10, mP10, mF11, mF12, mF13, mF14, mF15, mF16, mF17, mF18, mF19, mF20, mP20, mF21, mF22, mF23, mP23, mF24, mP24, mF25, mP25, mF26, mF27, mF28, mF29, mF30, mF31, mP31, mF32, mP32, mF33, mP33, mF34, mF35, mF36, mF37, mF38, mF39, mF40, mF41, mF42, mF43, mF44, mF45, mP45, mF46, mP46, mF47, mP47, mF48, mP48, mF49, mF50, mF51, mP51, mL1, mL1n, mC1, mW1, mL2, mL2n, mC2, mW2, mL3, mL3n, mC3, mW3, mL4, mL4n, mC4, mW4, mL5, mL5n, mC5, mW5, mL6, mL6n, mC6, mW6, mL7, mL7n, mC7, mW7, mL8, mL8n, mC8, mW8, mL9, mL9n, mC9, mW9, mL10, mL10n, mC10, mW10, mL11, mL11n, mC11, mW11, mL12, mL12n, mC12, mW12, mL13, mL13n, mC13, mW13, mL14, mL14n, mC14, mW14, mL15, mL15n, mC15, mW15, mL16, mL16n, mC16, mW16, mL17, mL17n, mC17, mW17, mL18, mL18n, mC18, mW18, mL19, mL19n, mC19, mW19, mL20, mL20n, mC20, mW20, mL21, mL21n, mC21, mW21, mL23, mL23n, mC23, mW23, mL24, mL24n, mC24, mW24, mL25, mL25n, mC25, mW25, mL26, mL26n, mC26, mW26, mL27, mL27n, mC27, mW27, mL28, mL28n, mC28, mW28, mL29, mL29n, mC29, mW29, mL30, mL30n, mC30, mW30, mL31, mL31n, mC31, mW31, mL32, mL32n, mC32, mW32, mL33, mL33n, mC33, mW33, mL34, mL34n, mC34, mW34, mL22, mC22, mW22, f1]
        rw [hx]
        by_cases he : hp F set got (F.1 0) = got
        · rw [if_pos he, he, rX3_firstPart_8]
          simp (disch := first | omega | decide) only [pis_i, pis_l, pis_r, pis_n, p1_i, p1_r, p1_n, p1_u, pw0, pw1, pw2, pw3, pw4, pK_v, pK_0, pK_ite, if_true, if_false, if_pos, if_neg, Nat.reduceAdd, pok_r, i10, i01, Bool.true_or, Bool.or_true, Bool.and_true, Bool.true_and, rX3_firstPart_0, rX3_firstPart_1, rX3_firstPart_2, rX3_firstPart_3, rX3_firstPart_4, rX3_firstPart_5, rX3_firstPart_6, rX3_firstPart_10, rX3_firstPart_11, rX3_firstPart_14, rX3_firstPart_15, rX3_firstPart_17, rX3_firstPart_18, rX3_firstPart_22, rX3_firstPart_23, rX3_firstPart_26, rX3_firstPart_27, rX3_firstPart_28, rX3_firstPart_31, rX3_firstPart_32, rX3_firstPart_33, rX3_firstPart_35, rX3_firstPart_36, rX3_firstPart_37, rX3_firstPart_38, rX3_firstPart_39, rX3_firstPart_42, rX3_firstPart_43, rX3_firstPart_44, rX3_firstPart_46, rX3_firstPart_47, rX3_firstPart_50, rX3_firstPart_53, rX3_firstPart_54, rX3_firstPart_56, rX3_firstPart_57, rX3_firstPart_60, rX3_firstPart_61, rX3_firstPart_62, rX3_firstPart_63, rX3_firstPart_66, rX3_firstPart_69, rX3_firstPart_72, rX3_firstPart_73]
        · rw [if_neg he]
          have hin' := hp_in (F := F) hset hin (F.1 0) (by omega)
          refine ih _ _ _ rfl (fun e => he e.symm) hin' ?_
          have := ct_ne (show F.1 0 ≤ 32 by omega) (hp_sub (F := F) (set := set) (got := got) (F.1 0)) hin hin' (fun e => he e.symm)
          have := fb_ct_le (bt (hp F set got (F.1 0))) (F.1 0)
          omega
  rw [eX3_firstPart]
  simp (disch := first | omega | decide) only [pis_i, pis_l, pis_r, pis_n, p1_i, p1_r, p1_n, p1_u, pw0, pw1, pw2, pw3, pw4, pK_v, pK_0, pK_ite, if_true, if_false, if_pos, if_neg, Nat.reduceAdd, pok_r, i10, i01, Bool.true_or, Bool.or_true, Bool.and_true, Bool.true_and, rX3_firstPart_0, rX3_firstPart_1, rX3_firstPart_2, rX3_firstPart_3, rX3_firstPart_4, rX3_firstPart_5, rX3_firstPart_6, rX3_firstPart_10, rX3_firstPart_11, rX3_firstPart_14, rX3_firstPart_15, rX3_firstPart_17, rX3_firstPart_18, rX3_firstPart_22, rX3_firstPart_23, rX3_firstPart_26, rX3_firstPart_27, rX3_firstPart_28, rX3_firstPart_31, rX3_firstPart_32, rX3_firstPart_33, rX3_firstPart_35, rX3_firstPart_36, rX3_firstPart_37, rX3_firstPart_38, rX3_firstPart_39, rX3_firstPart_42, rX3_firstPart_43, rX3_firstPart_44, rX3_firstPart_46, rX3_firstPart_47, rX3_firstPart_50, rX3_firstPart_53, rX3_firstPart_54, rX3_firstPart_56, rX3_firstPart_57, rX3_firstPart_60, rX3_firstPart_61, rX3_firstPart_62, rX3_firstPart_63, rX3_firstPart_66, rX3_firstPart_69, rX3_firstPart_72, rX3_firstPart_73, hl]
  refine outer 25 _ _ _ rfl (fun e => ?_) (fun i hi hn => ?_) (by omega)
  · have := congrArg (fun z => bt z w) e
    simp only [b_0, bt_1 (show w < 32 by omega) (show w < 32 by omega)] at this
    simp at this
  · rw [bt_1 (by omega) hi]; simp; omega
/-- how many parts -/
def pt (F : Fig) : Nat → Int32 → Nat
  | 0, _ => 0
  | k + 1, s => if s = 0 then 0 else 1 + pt F k (s &&& (hx F s 25 (s &&& (-s)) ^^^ (-1)))
/-- what is taken away is less -/
theorem rest_lt {n w : Nat} {s p : Int32} (hn : n ≤ 32) (hw : w < n) (h1 : bt s w = true) (hp : bt p w = true) : fb_ct (bt (s &&& (p ^^^ (-1)))) n < fb_ct (bt s) n := by
  refine ct_lt (i := w) hn (fun i hi q => ?_) hw ?_ h1
  · rw [b_and] at q; simp at q; exact q.1
  · rw [b_and, b_xor, b_m1 w (by omega), hp]; simp
theorem rest_in {n : Nat} {s p : Int32} (h : inS n s) : inS n (s &&& p) := fun i hi hn => by rw [b_and, h i hi hn]; rfl
theorem low_in {n : Nat} {s : Int32} (hs : inS n s) (h0 : s ≠ 0) : ∃ w, w < n ∧ w < 32 ∧ bt s w = true ∧ (∀ i, i < w → bt s i = false) ∧ s &&& (-s) = (1 : Int32) <<< (nI w &&& 31) := by
  obtain ⟨w, w1, w2, w3⟩ := low_ex h0
  refine ⟨w, ?_, w1, w2, w3, low_and w1 w2 w3⟩
  rcases Nat.lt_or_ge w n with q | q
  · exact q
  · rw [hs w w1 q] at w2; cases w2
theorem hx_low {w : Nat} (hw : w < 32) : bt (hx F set 25 ((1 : Int32) <<< (nI w &&& 31))) w = true := hx_sub 25 _ w hw (by rw [bt_1 hw hw]; simp)
theorem kX24_parts (hF : FigAt H f F) (hk : FigOk F) {s : Int32} (hs : inS (F.1 0) s) : pCa 240 (d + 2) [.ref f, .int s] H = some (.inl (some (.int (nI (pt F 25 s)))), H) := by
  have hF0 := hF
  (obtain ⟨x0, xf, xt, xl, xw, xs, xe, xb, xa, xp, xh⟩ := hF.o; obtain ⟨⟨l1, c1⟩, ⟨l2, c2⟩, ⟨l3, c3⟩, ⟨l4, c4⟩, ⟨l5, c5⟩, ⟨l6, c6⟩⟩ := hF.a; have hk' := hk; obtain ⟨k1, k2, k3, k4, k5, k6⟩ := hk')
  have outer : ∀ k r a, inS (F.1 0) r → fb_ct (bt r) (F.1 0) < k → pR 240 (d + 2) 4 [.ref f, .int s, .int (nI a), .int r] [] H = some (.inl (some (.int (nI (a + pt F k r)))), H) := by
    intro k
    induction k with
    | zero => intro r a _ h; omega
    | succ k ih =>
      intro r a hr hc
      rw [rX24_parts_4, pt]
      by_cases h0 : r = 0
      · simp (disch := first | omega | decide) only [pis_i, pis_l, pis_r, pis_n, p1_i, p1_r, p1_n, p1_u, pw0, pw1, pw2, pw3, pw4, pK_v, pK_0, pK_ite, if_true, if_false, if_pos, if_neg, Nat.reduceAdd, pok_r, i10, i01, Bool.true_or, Bool.or_true, Bool.and_true, Bool.true_and, rX24_parts_0, rX24_parts_1, rX24_parts_2, rX24_parts_3, rX24_parts_5, rX24_parts_8, rX24_parts_9, rX24_parts_10, rX24_parts_11, rX24_parts_12, rX24_parts_15, rX24_parts_18, rX24_parts_19, rX24_parts_20, rX24_parts_21, rX24_parts_22, rX24_parts_25, rX24_parts_28, rX24_parts_29, h0, Nat.add_zero]
      · obtain ⟨w, w1, w2, w3, w4, w5⟩ := low_in hr h0
        have hh := kX24_hang (d := d) hF0 hk w1 hr
        rw [w5]
        have ih' := ih (r &&& (hx F r 25 ((1 : Int32) <<< (nI w &&& 31)) ^^^ (-1))) (a + 1) (rest_in hr) (by have := rest_lt (show F.1 0 ≤ 32 by omega) w1 w3 (hx_low (F := F) (set := r) w2); omega)
        simp (disch := first | omega | decide) only [pis_i, pis_l, pis_r, pis_n, p1_i, p1_r, p1_n, p1_u, pw0, pw1, pw2, pw3, pw4, pK_v, pK_0, pK_ite, if_true, if_false, if_pos, if_neg, Nat.reduceAdd, pok_r, i10, i01, Bool.true_or, Bool.or_true, Bool.and_true, Bool.true_and, Nat.add_sub_cancel, i1p1, i1p0, i0p1, i0p0, nIrem2, va_rf_s, bit1, bit0, pinT, pinLT, pin0, nIc, nIcL, nIlt, nIeq, nIltL, nILlt, nIeqL, nILeq, nIadL, nILad, nILmu, nI_add, nIsbL, nI_sub', decide_true, decide_false, Bool.false_or, Bool.or_false, rX24_parts_0, rX24_parts_1, rX24_parts_2, rX24_parts_3, rX24_parts_5, rX24_parts_8, rX24_parts_9, rX24_parts_10, rX24_parts_11, rX24_parts_12, rX24_parts_15, rX24_parts_18, rX24_parts_19, rX24_parts_20, rX24_parts_21, rX24_parts_22, rX24_parts_25, rX24_parts_28, rX24_parts_29, x0, xf, xt, xl, xw, xs, xe, xb, xa, xp, xh, l1, l2, l3, l4, l5, l6, c1, c2, c3, c4, c5, c6, h0, kJ5_ntz (show w < 31 by omega) w3 w4, hh, ih', Nat.add_assoc]
  rw [eX24_parts]
  simp (disch := first | omega | decide) only [pis_i, pis_l, pis_r, pis_n, p1_i, p1_r, p1_n, p1_u, pw0, pw1, pw2, pw3, pw4, pK_v, pK_0, pK_ite, if_true, if_false, if_pos, if_neg, Nat.reduceAdd, pok_r, i10, i01, Bool.true_or, Bool.or_true, Bool.and_true, Bool.true_and, rX24_parts_0, rX24_parts_1, rX24_parts_2, rX24_parts_3, rX24_parts_5, rX24_parts_8, rX24_parts_9, rX24_parts_10, rX24_parts_11, rX24_parts_12, rX24_parts_15, rX24_parts_18, rX24_parts_19, rX24_parts_20, rX24_parts_21, rX24_parts_22, rX24_parts_25, rX24_parts_28, rX24_parts_29]
  have := fb_ct_le (bt s) (F.1 0)
  have := outer 25 s 0 hs (by omega)
  rw [Nat.zero_add] at this
  exact this
/-- the odd points of a set, as the component has them -/
def ob (F : Fig) (set : Int32) : Nat → Int32
  | 0 => 0
  | b + 1 => if bt set b = true then ob F set b ^^^ ((1 : Int32) <<< (nI (F.2.1 0 b) &&& 31) ^^^ (1 : Int32) <<< (nI (F.2.1 1 b) &&& 31)) else ob F set b
theorem ob_bt (hk : FigOk F) {p : Nat} (hp : p < 32) : ∀ b, b ≤ F.1 0 → bt (ob F set b) p = decide (fb_sm (fEn F p set) b % 2 = 1) := by
  intro b
  induction b with
  | zero => intro _; rw [ob, b_0]; simp [fb_sm]
  | succ b ih =>
    intro hb
    have k5 := hk.2.2.2.2.1 b (by omega)
    have k3 := hk.2.2.1
    rw [ob, fb_sm_succ, fEn]
    by_cases c : bt set b = true
    · rw [if_pos c, if_pos c, b_xor, b_xor, bt_1 (by omega) hp, bt_1 (by omega) hp, ih (by omega)]
      by_cases e1 : p = F.2.1 0 b <;> by_cases e2 : p = F.2.1 1 b
      · rw [if_pos e1.symm, if_pos e2.symm, decide_eq_true e1, decide_eq_true e2]
        generalize fb_sm (fEn F p set) b = z
        rw [show (z + (1 + 1)) % 2 = z % 2 by omega]
        cases decide (z % 2 = 1) <;> rfl
      · rw [if_pos e1.symm, if_neg (Ne.symm e2)]
        have : decide (p = F.2.1 0 b) = true := decide_eq_true e1
        rw [this, decide_eq_false e2]
        generalize fb_sm (fEn F p set) b = z
        rcases Nat.mod_two_eq_zero_or_one z with q | q
        · rw [show (z + (1 + 0)) % 2 = 1 by omega, q]; rfl
        · rw [show (z + (1 + 0)) % 2 = 0 by omega, q]; rfl
      · rw [if_neg (Ne.symm e1), if_pos e2.symm, decide_eq_true e2, decide_eq_false e1]
        generalize fb_sm (fEn F p set) b = z
        rcases Nat.mod_two_eq_zero_or_one z with q | q
        · rw [show (z + (0 + 1)) % 2 = 1 by omega, q]; rfl
        · rw [show (z + (0 + 1)) % 2 = 0 by omega, q]; rfl
      · rw [if_neg (Ne.symm e1), if_neg (Ne.symm e2), decide_eq_false e1, decide_eq_false e2]; simp
    · rw [if_neg c, if_neg c, ih (by omega), Nat.add_zero]
/-- how many odd points -/
def od (F : Fig) (set : Int32) : Nat := fb_sm (fun p => fb_sm (fEn F p set) (F.1 0) % 2) (F.1 2)
theorem ob_ct (hk : FigOk F) : fb_ct (bt (ob F set (F.1 0))) 32 = od F set := by
  have k3 := hk.2.2.1
  have h0 : ∀ p, p < 32 → F.1 2 ≤ p → fb_sm (fEn F p set) (F.1 0) = 0 := by
    intro p hp hp2
    have : fb_sm (fEn F p set) (F.1 0) = fb_sm (fun _ => 0) (F.1 0) := fb_sm_cong (fun b hb => by
      have k5 := hk.2.2.2.2.1 b hb
      rw [fEn, if_neg (show ¬ F.2.1 0 b = p by omega), if_neg (show ¬ F.2.1 1 b = p by omega)]
      split <;> rfl)
    rw [this, fb_sm_const]; rfl
  have e1 : fb_ct (bt (ob F set (F.1 0))) 32 = fb_ct (bt (ob F set (F.1 0))) (F.1 2) := by
    rw [show 32 = F.1 2 + (32 - F.1 2) by omega, fb_ct_split]
    have : fb_ct (fun k => bt (ob F set (F.1 0)) (F.1 2 + k)) (32 - F.1 2) = 0 := fb_ct_zero.mpr (fun k hk' => by
      rw [ob_bt hk (by omega) _ (Nat.le_refl _), h0 _ (by omega) (by omega)]; rfl)
    omega
  rw [e1, od]
  have : ∀ n, n ≤ F.1 2 → fb_ct (bt (ob F set (F.1 0))) n = fb_sm (fun p => fb_sm (fEn F p set) (F.1 0) % 2) n := by
    intro n
    induction n with
    | zero => intro _; rfl
    | succ n ih =>
      intro hn
      rw [fb_ct_succ, fb_sm_succ, ih (by omega), ob_bt hk (by omega) _ (Nat.le_refl _)]
      rcases Nat.mod_two_eq_zero_or_one (fb_sm (fEn F n set) (F.1 0)) with q | q <;> simp [q]
  exact this _ (Nat.le_refl _)
theorem kX24_oddOf (hF : FigAt H f F) (hk : FigOk F) : pCa 245 (d + 1) [.ref f, .int set] H = some (.inl (some (.int (nI (od F set)))), H) := by
  (obtain ⟨x0, xf, xt, xl, xw, xs, xe, xb, xa, xp, xh⟩ := hF.o; obtain ⟨⟨l1, c1⟩, ⟨l2, c2⟩, ⟨l3, c3⟩, ⟨l4, c4⟩, ⟨l5, c5⟩, ⟨l6, c6⟩⟩ := hF.a; have hk' := hk; obtain ⟨k1, k2, k3, k4, k5, k6⟩ := hk')
  rw [eX24_oddOf]
  simp only [pis_i, pis_l, pis_r, pis_n, p1_i, p1_r, p1_n, p1_u, pw0, pw1, pw2, pw3, pw4, pK_v, pK_0, pK_ite, if_true, if_false, if_pos, if_neg, Nat.reduceAdd, pok_r, i10, i01, Bool.true_or, Bool.or_true, Bool.and_true, Bool.true_and, rX24_oddOf_0, rX24_oddOf_1, rX24_oddOf_2, rX24_oddOf_3, rX24_oddOf_5, rX24_oddOf_6, rX24_oddOf_9, rX24_oddOf_12, rX24_oddOf_13, rX24_oddOf_14, rX24_oddOf_15, rX24_oddOf_16, rX24_oddOf_17, rX24_oddOf_18, rX24_oddOf_21, rX24_oddOf_22, rX24_oddOf_23, rX24_oddOf_24, rX24_oddOf_27, rX24_oddOf_28, rX24_oddOf_29, rX24_oddOf_30, rX24_oddOf_31, rX24_oddOf_32, rX24_oddOf_35, rX24_oddOf_36, rX24_oddOf_37, rX24_oddOf_38, rX24_oddOf_39, rX24_oddOf_40, rX24_oddOf_41, rX24_oddOf_44, rX24_oddOf_47, rX24_oddOf_48, rX24_oddOf_51]
  refine loopN (N := F.1 0) (P := fun b => pR 245 (d + 1) 4 [.ref f, .int set, .int (ob F set b), .int (nI b)] [] H) (fun b hb R hR => ?_) ?_ 0 (Nat.zero_le _)
  · have k5b := k5 b hb
    rw [ob] at hR
    rw [rX24_oddOf_4]
    simp (disch := first | omega | decide) only [pis_i, pis_l, pis_r, pis_n, p1_i, p1_r, p1_n, p1_u, pw0, pw1, pw2, pw3, pw4, pK_v, pK_0, pK_ite, if_true, if_false, if_pos, if_neg, Nat.reduceAdd, pok_r, i10, i01, Bool.true_or, Bool.or_true, Bool.and_true, Bool.true_and, Nat.add_sub_cancel, i1p1, i1p0, i0p1, i0p0, nIrem2, va_rf_s, bit1, bit0, pinT, pinLT, pin0, nIc, nIcL, nIlt, nIeq, nIltL, nILlt, nIeqL, nILeq, nIadL, nILad, nILmu, nI_add, nIsbL, nI_sub', decide_true, decide_false, Bool.false_or, Bool.or_false, rX24_oddOf_0, rX24_oddOf_1, rX24_oddOf_2, rX24_oddOf_3, rX24_oddOf_5, rX24_oddOf_6, rX24_oddOf_9, rX24_oddOf_12, rX24_oddOf_13, rX24_oddOf_14, rX24_oddOf_15, rX24_oddOf_16, rX24_oddOf_17, rX24_oddOf_18, rX24_oddOf_21, rX24_oddOf_22, rX24_oddOf_23, rX24_oddOf_24, rX24_oddOf_27, rX24_oddOf_28, rX24_oddOf_29, rX24_oddOf_30, rX24_oddOf_31, rX24_oddOf_32, rX24_oddOf_35, rX24_oddOf_36, rX24_oddOf_37, rX24_oddOf_38, rX24_oddOf_39, rX24_oddOf_40, rX24_oddOf_41, rX24_oddOf_44, rX24_oddOf_47, rX24_oddOf_48, rX24_oddOf_51, x0, xf, xt, xl, xw, xs, xe, xb, xa, xp, xh, l1, l2, l3, l4, l5, l6, c1, c2, c3, c4, c5, c6]
    cases q : bt set b <;> simpa [q] using hR
  · rw [rX24_oddOf_4]
    simp (disch := first | omega | decide) only [pis_i, pis_l, pis_r, pis_n, p1_i, p1_r, p1_n, p1_u, pw0, pw1, pw2, pw3, pw4, pK_v, pK_0, pK_ite, if_true, if_false, if_pos, if_neg, Nat.reduceAdd, pok_r, i10, i01, Bool.true_or, Bool.or_true, Bool.and_true, Bool.true_and, Nat.add_sub_cancel, i1p1, i1p0, i0p1, i0p0, nIrem2, va_rf_s, bit1, bit0, pinT, pinLT, pin0, nIc, nIcL, nIlt, nIeq, nIltL, nILlt, nIeqL, nILeq, nIadL, nILad, nILmu, nI_add, nIsbL, nI_sub', decide_true, decide_false, Bool.false_or, Bool.or_false, rX24_oddOf_0, rX24_oddOf_1, rX24_oddOf_2, rX24_oddOf_3, rX24_oddOf_5, rX24_oddOf_6, rX24_oddOf_9, rX24_oddOf_12, rX24_oddOf_13, rX24_oddOf_14, rX24_oddOf_15, rX24_oddOf_16, rX24_oddOf_17, rX24_oddOf_18, rX24_oddOf_21, rX24_oddOf_22, rX24_oddOf_23, rX24_oddOf_24, rX24_oddOf_27, rX24_oddOf_28, rX24_oddOf_29, rX24_oddOf_30, rX24_oddOf_31, rX24_oddOf_32, rX24_oddOf_35, rX24_oddOf_36, rX24_oddOf_37, rX24_oddOf_38, rX24_oddOf_39, rX24_oddOf_40, rX24_oddOf_41, rX24_oddOf_44, rX24_oddOf_47, rX24_oddOf_48, rX24_oddOf_51, x0, xf, xt, xl, xw, xs, xe, xb, xa, xp, xh, l1, l2, l3, l4, l5, l6, c1, c2, c3, c4, c5, c6, kJ5_bitCount, ob_ct hk]
end
