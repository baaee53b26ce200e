/-! RULES 12: the model's readRule, rule, fault of a rule -/
set_option maxRecDepth 100000
/-- the clauses of rule r, from the ci-th on, codes from sd on -/
def Rl (A : Nat → Nat → Int32) (r : Nat) : Nat → Nat → List Cl → Prop
  | _, _, [] => True
  | ci, sd, c :: l => A 20 (64 * r + ci) = nI (sd + (tl c).length) ∧ A 21 (64 * r + ci) = nI (sd + (cdC c).length) ∧ (∀ i (hi : i < (cdC c).length), A 18 (400 * r + sd + i) = (cdC c)[i]) ∧ Rl A r (ci + 1) (sd + (cdC c).length) l
/-- only rule r (and behind) and scratch changed -/
def mrl (S S' : MS) (r : Nat) : Prop := (∀ k, k ≠ 8 → k ≠ 9 → k ≠ 10 → k ≠ 32 → k ≠ 33 → S'.1 k = S.1 k) ∧ (∀ j, (j < 18 ∨ 21 < j) → S'.2.1 j = S.2.1 j) ∧ (∀ i, i < 400 * r → S'.2.1 18 i = S.2.1 18 i) ∧ (∀ i, i < r → S'.2.1 19 i = S.2.1 19 i) ∧ (∀ i, i < 64 * r → S'.2.1 20 i = S.2.1 20 i ∧ S'.2.1 21 i = S.2.1 21 i) ∧ S'.2.2 = S.2.2
theorem mrl_R {S S' : MS} {r sd : Nat} {a w dp : Int32} {C : Nat → Int32} (h : rS S S' r) (hC : ∀ i, i < 400 * r → C i = S.2.1 18 i) : mrl S (mRl S' r a w dp sd C) r := by
  obtain ⟨h1, h2, h3, h4, h5⟩ := h
  refine ⟨fun k a1 a2 a3 a4 a5 => by simp [mRl, a1, a2, a3, a4, a5, h1], fun j hj => ?_, fun i hi => ?_, fun i hi => ?_, fun i hi => ?_, h2⟩
  · rw [rmO (by omega)]; exact h3 j (by omega) (by omega) (by omega)
  · rw [rmC]; exact hC i hi
  · rw [rmO (by decide)]; exact h4 i (by omega)
  · rw [rmO (by decide), rmO (by decide)]; exact h5 i hi
theorem cdC_le (c : Cl) : (cdC c).length ≤ 2 * c.sz := by
  obtain ⟨x, s⟩ := c
  have := s.cd_le
  cases x with
  | none => show ([] ++ s.cd).length ≤ 2 * (0 + s.sz); simp only [List.nil_append]; omega
  | some y =>
    have := y.cd_le
    show (y.cd ++ s.cd).length ≤ 2 * (y.sz + s.sz)
    rw [List.length_append]; omega
theorem Sm.sz_pos (s : Sm) : 0 < s.sz := by cases s <;> simp [Sm.sz]
theorem Sm.cd_pos (s : Sm) : 0 < s.cd.length := by cases s <;> simp [Sm.cd] <;> omega
theorem Ts.cd_pos (s : Ts) : 0 < s.cd.length := by cases s <;> simp [Ts.cd] <;> omega
theorem Cl.sz_pos (c : Cl) : 0 < c.sz := by have := c.2.sz_pos; unfold Cl.sz; omega
section
variable {d m r p ci sd : Nat} {h : pH} {S : MS} {t : Tp} {C : Nat → Int32}
theorem Rl_cong {A B : Nat → Nat → Int32} : ∀ l ci sd, (∀ i, 64 * r + ci ≤ i → B 20 i = A 20 i ∧ B 21 i = A 21 i) → (∀ i, 400 * r + sd ≤ i → B 18 i = A 18 i) → Rl A r ci sd l → Rl B r ci sd l := by
  intro l
  induction l with
  | nil => intro ci sd _ _ _; trivial
  | cons c l ih =>
    intro ci sd h1 h2 ⟨g1, g2, g3, g4⟩
    refine ⟨by rw [(h1 _ (by omega)).1]; exact g1, by rw [(h1 _ (by omega)).2]; exact g2, fun i hi => by rw [h2 _ (by omega)]; exact g3 i hi, ih _ _ (fun i hi => h1 i (by omega)) (fun i hi => h2 i (by omega)) g4⟩
theorem mrr_l (hr7 : r < 7) : ∀ n p S ci sd C, MT S t → S.2.1 19 r = nI ci → p ≤ t.1 → t.1 - p < n → 4 * ci ≤ p + 1 → sd ≤ 2 * p → (match crest t n p with
    | .inl w => ∃ S' a' dp' sd' C', pR 88 (d + 31) 36 [.ref m, .int (nI r)] [] (mput h m (mRl S r (nI p) (-1) (nI 0) sd C)) = some (.inl (some (.int (nI w))), mput h m (mRl S' r a' (nI w) dp' sd' C')) ∧ rS S S' r ∧ ∀ i, i < 400 * r → C' i = C i
    | .inr (l, q) => ∃ S' sd' C', pR 88 (d + 31) 36 [.ref m, .int (nI r)] [] (mput h m (mRl S r (nI p) (-1) (nI 0) sd C)) = some (.inl (some (.int (-1))), mput h m (mRl S' r (nI q) (-1) (nI 0) sd' C')) ∧ rS S S' r ∧ (∀ i, i < 400 * r + sd → C' i = C i) ∧ (∀ i, i < 64 * r + ci → S'.2.1 20 i = S.2.1 20 i ∧ S'.2.1 21 i = S.2.1 21 i) ∧ S'.2.1 19 r = nI (ci + l.length) ∧ Rl (us S'.2.1 18 C') r ci sd l) := by
  intro n
  induction n with
  | zero => intro p S ci sd C _ _ _ hn; omega
  | succ n ih =>
    intro p S ci sd C hT h19 hp hn hci hsd
    have ht := hT.k
    have ht1 := ht.1
    have s1 := skp_le (t := t) (a := p)
    have s2 := skp_t hp
    have hlk : ∀ a, a ≤ t.1 → pCa 76 (d + 30) [.ref m] (mput h m (mRl S r (nI a) (-1) (nI 0) sd C)) = some (.inl (some (.int (hr t (skp t a)))), mput h m (mRl S r (nI (skp t a)) (-1) (nI 0) sd C)) := fun a ha => kX3_lookR (d := d + 29) hT ha
    rw [crest]
    by_cases h1 : isC t (skp t p) 59 = true
    · rw [if_pos h1]
      have h2 := isC_lt h1
      have hc := kX3_clause (d := d) (m := m) (h := h) (p := skp t p + 1) (C := C) hT hr7 (show ci < 64 by omega) h19 (by omega) (show sd ≤ 2 * (skp t p + 1) by omega)
      have hko := clsP_ok (t := t) (p := skp t p + 1) (by omega)
      have go : pR 88 (d + 31) 36 [.ref m, .int (nI r)] [] (mput h m (mRl S r (nI p) (-1) (nI 0) sd C)) = pK 88 (d + 31) 64 3 [.ref m, .int (nI r)] [] (pCa 89 (d + 30) [.ref m] (mput h m (mRl S r (nI (skp t p + 1)) (-1) (nI 0) sd C))) := by
        rw [rX3_readRule_36]
        simp (disch := first | assumption | omega | decide) only [pis_i, pis_l, pis_r, pis_n, p1_i, p1_r, p1_n, p1_u, pw0, pw1, pw2, pw3, pw4, pK_v, pK_0, pK_ite, if_true, if_false, if_pos, if_neg, Nat.reduceAdd, pok_r, i10, i01, Bool.true_or, Bool.or_true, Bool.and_true, Bool.true_and, Nat.add_sub_cancel, i1p1, i1p0, i0p1, i0p0, nIrem2, va_rf_s, bit1, bit0, pinT, pinLT, pin0, nIc, nIcL, nIlt, nIeq, nIltL, nILlt, nIeqL, nILeq, nIadL, nILad, nILmu, nI_add, nIsbL, nI_sub', decide_true, decide_false, Bool.false_or, Bool.or_false, rX3_readRule_37, rX3_readRule_40, rX3_readRule_41, rX3_readRule_44, rX3_readRule_45, rX3_readRule_48, rX3_readRule_50, rX3_readRule_53, rX3_readRule_54, rX3_readRule_54i, rX3_readRule_55, rX3_readRule_58, rX3_readRule_59, rX3_readRule_60, rX3_readRule_63, rX3_readRule_64, mCl, mF0, mP0, mF1, mF2, mF3, mF4, mF5, mP5, mF6, mF7, mP7, mF8, mP8, mF9, mP9, mF10, mP10, mF11, mF12, mF13, mF14, mF15, mF16, mF17, mF18, mF19, mF20, mP20, mF21, mF22, mF23, mP23, mF24, mP24, mF25, mP25, mF26, mF27, mF28, mF29, mF30, mF31, mP31, mF32, mP32, mF33, mP33, mF34, mF35, mF36, mF37, mF38, mF39, mF40, mF41, mF42, mF43, mF44, mF45, mP45, mF46, mP46, mF47, mP47, mF48, mP48, mF49, mF50, mF51, mP51, mL1, mL1n, mC1, mW1, mL2, mL2n, mC2, mW2, mL3, mL3n, mC3, mW3, mL4, mL4n, mC4, mW4, mL5, mL5n, mC5, mW5, mL6, mL6n, mC6, mW6, mL7, mL7n, mC7, mW7, mL8, mL8n, mC8, mW8, mL9, mL9n, mC9, mW9, mL10, mL10n, mC10, mW10, mL11, mL11n, mC11, mW11, mL12, mL12n, mC12, mW12, mL13, mL13n, mC13, mW13, mL14, mL14n, mC14, mW14, mL15, mL15n, mC15, mW15, mL16, mL16n, mC16, mW16, mL17, mL17n, mC17, mW17, mL18, mL18n, mC18, mW18, mL19, mL19n, mC19, mW19, mL20, mL20n, mC20, mW20, mL21, mL21n, mC21, mW21, mL23, mL23n, mC23, mW23, mL24, mL24n, mC24, mW24, mL25, mL25n, mC25, mW25, mL26, mL26n, mC26, mW26, mL27, mL27n, mC27, mW27, mL28, mL28n, mC28, mW28, mL29, mL29n, mC29, mW29, mL30, mL30n, mC30, mW30, mL31, mL31n, mC31, mW31, mL32, mL32n, mC32, mW32, mL33, mL33n, mC33, mW33, mL34, mL34n, mC34, mW34, mL22, mC22, mW22, rm9, hlk, hr_eq ht, h1, rm8, rw8]
      rw [go]
      generalize clsP t (skp t p + 1) = z at hc hko
      match z, hc, hko with
      | .inl w, ⟨S', a', dp', sd', C', q1, q2, q3⟩, hw =>
        have hw : w ≤ t.1 := hw
        refine ⟨S', a', dp', sd', C', ?_, q2, q3⟩
        rw [q1]
        simp (disch := first | assumption | omega | decide) only [pis_i, pis_l, pis_r, pis_n, p1_i, p1_r, p1_n, p1_u, pw0, pw1, pw2, pw3, pw4, pK_v, pK_0, pK_ite, if_true, if_false, if_pos, if_neg, Nat.reduceAdd, pok_r, i10, i01, Bool.true_or, Bool.or_true, Bool.and_true, Bool.true_and, Nat.add_sub_cancel, i1p1, i1p0, i0p1, i0p0, nIrem2, va_rf_s, bit1, bit0, pinT, pinLT, pin0, nIc, nIcL, nIlt, nIeq, nIltL, nILlt, nIeqL, nILeq, nIadL, nILad, nILmu, nI_add, nIsbL, nI_sub', decide_true, decide_false, Bool.false_or, Bool.or_false, rX3_readRule_67, mCl, mF0, mP0, mF1, mF2, mF3, mF4, mF5, mP5, mF6, mF7, mP7, mF8, mP8, mF9, mP9, mF10, mP10, mF11, mF12, mF13, mF14, mF15, mF16, mF17, mF18, mF19, mF20, mP20, mF21, mF22, mF23, mP23, mF24, mP24, mF25, mP25, mF26, mF27, mF28, mF29, mF30, mF31, mP31, mF32, mP32, mF33, mP33, mF34, mF35, mF36, mF37, mF38, mF39, mF40, mF41, mF42, mF43, mF44, mF45, mP45, mF46, mP46, mF47, mP47, mF48, mP48, mF49, mF50, mF51, mP51, mL1, mL1n, mC1, mW1, mL2, mL2n, mC2, mW2, mL3, mL3n, mC3, mW3, mL4, mL4n, mC4, mW4, mL5, mL5n, mC5, mW5, mL6, mL6n, mC6, mW6, mL7, mL7n, mC7, mW7, mL8, mL8n, mC8, mW8, mL9, mL9n, mC9, mW9, mL10, mL10n, mC10, mW10, mL11, mL11n, mC11, mW11, mL12, mL12n, mC12, mW12, mL13, mL13n, mC13, mW13, mL14, mL14n, mC14, mW14, mL15, mL15n, mC15, mW15, mL16, mL16n, mC16, mW16, mL17, mL17n, mC17, mW17, mL18, mL18n, mC18, mW18, mL19, mL19n, mC19, mW19, mL20, mL20n, mC20, mW20, mL21, mL21n, mC21, mW21, mL23, mL23n, mC23, mW23, mL24, mL24n, mC24, mW24, mL25, mL25n, mC25, mW25, mL26, mL26n, mC26, mW26, mL27, mL27n, mC27, mW27, mL28, mL28n, mC28, mW28, mL29, mL29n, mC29, mW29, mL30, mL30n, mC30, mW30, mL31, mL31n, mC31, mW31, mL32, mL32n, mC32, mW32, mL33, mL33n, mC33, mW33, mL34, mL34n, mC34, mW34, mL22, mC22, mW22]
        rw [rX3_readRule_36]
        simp (disch := first | assumption | omega | decide) only [pis_i, pis_l, pis_r, pis_n, p1_i, p1_r, p1_n, p1_u, pw0, pw1, pw2, pw3, pw4, pK_v, pK_0, pK_ite, if_true, if_false, if_pos, if_neg, Nat.reduceAdd, pok_r, i10, i01, Bool.true_or, Bool.or_true, Bool.and_true, Bool.true_and, Nat.add_sub_cancel, i1p1, i1p0, i0p1, i0p0, nIrem2, va_rf_s, bit1, bit0, pinT, pinLT, pin0, nIc, nIcL, nIlt, nIeq, nIltL, nILlt, nIeqL, nILeq, nIadL, nILad, nILmu, nI_add, nIsbL, nI_sub', decide_true, decide_false, Bool.false_or, Bool.or_false, rX3_readRule_37, rX3_readRule_40, rX3_readRule_41, rX3_readRule_70, rX3_readRule_71, rX3_readRule_74, rX3_readRule_75, rX3_readRule_78, rX3_readRule_79, rX3_readRule_82, rX3_readRule_83, rX3_readRule_86, rX3_readRule_87, rX3_readRule_90, rX3_readRule_91, rX3_readRule_94, mCl, mF0, mP0, mF1, mF2, mF3, mF4, mF5, mP5, mF6, mF7, mP7, mF8, mP8, mF9, mP9, mF10, mP10, mF11, mF12, mF13, mF14, mF15, mF16, mF17, mF18, mF19, mF20, mP20, mF21, mF22, mF23, mP23, mF24, mP24, mF25, mP25, mF26, mF27, mF28, mF29, mF30, mF31, mP31, mF32, mP32, mF33, mP33, mF34, mF35, mF36, mF37, mF38, mF39, mF40, mF41, mF42, mF43, mF44, mF45, mP45, mF46, mP46, mF47, mP47, mF48, mP48, mF49, mF50, mF51, mP51, mL1, mL1n, mC1, mW1, mL2, mL2n, mC2, mW2, mL3, mL3n, mC3, mW3, mL4, mL4n, mC4, mW4, mL5, mL5n, mC5, mW5, mL6, mL6n, mC6, mW6, mL7, mL7n, mC7, mW7, mL8, mL8n, mC8, mW8, mL9, mL9n, mC9, mW9, mL10, mL10n, mC10, mW10, mL11, mL11n, mC11, mW11, mL12, mL12n, mC12, mW12, mL13, mL13n, mC13, mW13, mL14, mL14n, mC14, mW14, mL15, mL15n, mC15, mW15, mL16, mL16n, mC16, mW16, mL17, mL17n, mC17, mW17, mL18, mL18n, mC18, mW18, mL19, mL19n, mC19, mW19, mL20, mL20n, mC20, mW20, mL21, mL21n, mC21, mW21, mL23, mL23n, mC23, mW23, mL24, mL24n, mC24, mW24, mL25, mL25n, mC25, mW25, mL26, mL26n, mC26, mW26, mL27, mL27n, mC27, mW27, mL28, mL28n, mC28, mW28, mL29, mL29n, mC29, mW29, mL30, mL30n, mC30, mW30, mL31, mL31n, mC31, mW31, mL32, mL32n, mC32, mW32, mL33, mL33n, mC33, mW33, mL34, mL34n, mC34, mW34, mL22, mC22, mW22, rm9, nIm1]
      | .inr (c, q), q1, ⟨k1, k2, k3, k4⟩ =>
        have hcl := cdC_le c
        let S1 : MS := (S.1, aC S.2.1 r ci (sd + (tl c).length) (sd + (cdC c).length), S.2.2)
        have q1 : pCa 89 (d + 30) [.ref m] (mput h m (mRl S r (nI (skp t p + 1)) (-1) (nI 0) sd C)) = some (.inl none, mput h m (mRl S1 r (nI q) (-1) (nI 0) (sd + (cdC c).length) (wrt C (400 * r + sd) (cdC c)))) := q1
        have hrs : rS S S1 r := (rS_19.tr (rS_20 (S := (S.1, ua S.2.1 19 r (nI (ci + 1)), S.2.2)) (by omega))).tr (rS_21 (S := (S.1, ua (ua S.2.1 19 r (nI (ci + 1))) 20 (64 * r + ci) (nI (sd + (tl c).length)), S.2.2)) (by omega))
        have h19' : S1.2.1 19 r = nI (ci + 1) := by
          show aC S.2.1 r ci (sd + (tl c).length) (sd + (cdC c).length) 19 r = _
          unfold aC
          rw [ua_o (by decide), ua_o (by decide), ua_j, upd_same]
        have h20' : ∀ i, i ≠ 64 * r + ci → S1.2.1 20 i = S.2.1 20 i ∧ S1.2.1 21 i = S.2.1 21 i := by
          intro i hi
          constructor
          · show aC S.2.1 r ci (sd + (tl c).length) (sd + (cdC c).length) 20 i = _
            unfold aC
            rw [ua_o (by decide), ua_j, upd_ne hi, ua_o (by decide)]
          · show aC S.2.1 r ci (sd + (tl c).length) (sd + (cdC c).length) 21 i = _
            unfold aC
            rw [ua_j, upd_ne hi, ua_o (by decide), ua_o (by decide)]
        have h20 : S1.2.1 20 (64 * r + ci) = nI (sd + (tl c).length) := by
          show aC S.2.1 r ci (sd + (tl c).length) (sd + (cdC c).length) 20 _ = _
          unfold aC
          rw [ua_o (by decide), ua_j, upd_same]
        have h21 : S1.2.1 21 (64 * r + ci) = nI (sd + (cdC c).length) := by
          show aC S.2.1 r ci (sd + (tl c).length) (sd + (cdC c).length) 21 _ = _
          unfold aC
          rw [ua_j, upd_same]
        have hi := ih q S1 (ci + 1) (sd + (cdC c).length) (wrt C (400 * r + sd) (cdC c)) (hrs.mt hT) h19' k2 (by omega) (by omega) (by omega)
        have go2 : pK 88 (d + 31) 64 3 [.ref m, .int (nI r)] [] (some (.inl none, mput h m (mRl S1 r (nI q) (-1) (nI 0) (sd + (cdC c).length) (wrt C (400 * r + sd) (cdC c))))) = pR 88 (d + 31) 36 [.ref m, .int (nI r)] [] (mput h m (mRl S1 r (nI q) (-1) (nI 0) (sd + (cdC c).length) (wrt C (400 * r + sd) (cdC c)))) := by
          simp (disch := first | assumption | omega | decide) only [pis_i, pis_l, pis_r, pis_n, p1_i, p1_r, p1_n, p1_u, pw0, pw1, pw2, pw3, pw4, pK_v, pK_0, pK_ite, if_true, if_false, if_pos, if_neg, Nat.reduceAdd, pok_r, i10, i01, Bool.true_or, Bool.or_true, Bool.and_true, Bool.true_and, Nat.add_sub_cancel, i1p1, i1p0, i0p1, i0p0, nIrem2, va_rf_s, bit1, bit0, pinT, pinLT, pin0, nIc, nIcL, nIlt, nIeq, nIltL, nILlt, nIeqL, nILeq, nIadL, nILad, nILmu, nI_add, nIsbL, nI_sub', decide_true, decide_false, Bool.false_or, Bool.or_false, rX3_readRule_67, mCl, mF0, mP0, mF1, mF2, mF3, mF4, mF5, mP5, mF6, mF7, mP7, mF8, mP8, mF9, mP9, mF10, mP10, mF11, mF12, mF13, mF14, mF15, mF16, mF17, mF18, mF19, mF20, mP20, mF21, mF22, mF23, mP23, mF24, mP24, mF25, mP25, mF26, mF27, mF28, mF29, mF30, mF31, mP31, mF32, mP32, mF33, mP33, mF34, mF35, mF36, mF37, mF38, mF39, mF40, mF41, mF42, mF43, mF44, mF45, mP45, mF46, mP46, mF47, mP47, mF48, mP48, mF49, mF50, mF51, mP51, mL1, mL1n, mC1, mW1, mL2, mL2n, mC2, mW2, mL3, mL3n, mC3, mW3, mL4, mL4n, mC4, mW4, mL5, mL5n, mC5, mW5, mL6, mL6n, mC6, mW6, mL7, mL7n, mC7, mW7, mL8, mL8n, mC8, mW8, mL9, mL9n, mC9, mW9, mL10, mL10n, mC10, mW10, mL11, mL11n, mC11, mW11, mL12, mL12n, mC12, mW12, mL13, mL13n, mC13, mW13, mL14, mL14n, mC14, mW14, mL15, mL15n, mC15, mW15, mL16, mL16n, mC16, mW16, mL17, mL17n, mC17, mW17, mL18, mL18n, mC18, mW18, mL19, mL19n, mC19, mW19, mL20, mL20n, mC20, mW20, mL21, mL21n, mC21, mW21, mL23, mL23n, mC23, mW23, mL24, mL24n, mC24, mW24, mL25, mL25n, mC25, mW25, mL26, mL26n, mC26, mW26, mL27, mL27n, mC27, mW27, mL28, mL28n, mC28, mW28, mL29, mL29n, mC29, mW29, mL30, mL30n, mC30, mW30, mL31, mL31n, mC31, mW31, mL32, mL32n, mC32, mW32, mL33, mL33n, mC33, mW33, mL34, mL34n, mC34, mW34, mL22, mC22, mW22]
        rw [q1, go2]
        show (match (match crest t n q with | .inl w => .inl w | .inr (l, r) => .inr (c :: l, r) : QR (List Cl)) with | .inl w => _ | .inr (l, q) => _)
        generalize crest t n q = y at hi
        match y, hi with
        | .inl w, ⟨S', a', dp', sd', C', u1, u2, u3⟩ => exact ⟨S', a', dp', sd', C', u1, hrs.tr u2, fun i hi => by rw [u3 i hi, wrt_lo (by omega)]⟩
        | .inr (l, q'), ⟨S', sd', C', u1, u2, u3, u4, u5, u6⟩ =>
          refine ⟨S', sd', C', u1, hrs.tr u2, fun i hi => by rw [u3 i (by omega), wrt_lo (by omega)], fun i hi => ?_, by rw [u5]; congr 1; show ci + 1 + l.length = ci + (l.length + 1); omega, ?_, ?_, fun i hi => ?_, u6⟩
          · obtain ⟨v1, v2⟩ := u4 i (by omega)
            obtain ⟨v3, v4⟩ := h20' i (by omega)
            exact ⟨v1.trans v3, v2.trans v4⟩
          · rw [us_ne (by decide), (u4 _ (by omega)).1]; exact h20
          · rw [us_ne (by decide), (u4 _ (by omega)).2]; exact h21
          · rw [us_same, u3 _ (by omega)]; exact wrt_in hi
    · rw [if_neg h1]
      by_cases h4 : skp t p < t.1
      · rw [if_pos h4]
        refine ⟨S, nI (skp t p), nI 0, sd, C, ?_, rS.rf, fun _ _ => rfl⟩
        have hm1 : ¬ hr t (skp t p) = -1 := by rw [hr_m1 ht]; omega
        rw [rX3_readRule_36]
        simp (disch := first | assumption | omega | decide) only [pis_i, pis_l, pis_r, pis_n, p1_i, p1_r, p1_n, p1_u, pw0, pw1, pw2, pw3, pw4, pK_v, pK_0, pK_ite, if_true, if_false, if_pos, if_neg, Nat.reduceAdd, pok_r, i10, i01, Bool.true_or, Bool.or_true, Bool.and_true, Bool.true_and, Nat.add_sub_cancel, i1p1, i1p0, i0p1, i0p0, nIrem2, va_rf_s, bit1, bit0, pinT, pinLT, pin0, nIc, nIcL, nIlt, nIeq, nIltL, nILlt, nIeqL, nILeq, nIadL, nILad, nILmu, nI_add, nIsbL, nI_sub', decide_true, decide_false, Bool.false_or, Bool.or_false, rX3_readRule_37, rX3_readRule_40, rX3_readRule_41, rX3_readRule_44, rX3_readRule_45, rX3_readRule_48, rX3_readRule_50, rX3_readRule_53, rX3_readRule_54, rX3_readRule_54i, rX3_readRule_55, rX3_readRule_58, rX3_readRule_59, rX3_readRule_60, rX3_readRule_63, rX3_readRule_64, rX3_readRule_67, rX3_readRule_70, rX3_readRule_71, rX3_readRule_74, rX3_readRule_75, rX3_readRule_78, rX3_readRule_79, rX3_readRule_82, rX3_readRule_83, rX3_readRule_86, rX3_readRule_87, rX3_readRule_90, rX3_readRule_91, rX3_readRule_94, mCl, mF0, mP0, mF1, mF2, mF3, mF4, mF5, mP5, mF6, mF7, mP7, mF8, mP8, mF9, mP9, mF10, mP10, mF11, mF12, mF13, mF14, mF15, mF16, mF17, mF18, mF19, mF20, mP20, mF21, mF22, mF23, mP23, mF24, mP24, mF25, mP25, mF26, mF27, mF28, mF29, mF30, mF31, mP31, mF32, mP32, mF33, mP33, mF34, mF35, mF36, mF37, mF38, mF39, mF40, mF41, mF42, mF43, mF44, mF45, mP45, mF46, mP46, mF47, mP47, mF48, mP48, mF49, mF50, mF51, mP51, mL1, mL1n, mC1, mW1, mL2, mL2n, mC2, mW2, mL3, mL3n, mC3, mW3, mL4, mL4n, mC4, mW4, mL5, mL5n, mC5, mW5, mL6, mL6n, mC6, mW6, mL7, mL7n, mC7, mW7, mL8, mL8n, mC8, mW8, mL9, mL9n, mC9, mW9, mL10, mL10n, mC10, mW10, mL11, mL11n, mC11, mW11, mL12, mL12n, mC12, mW12, mL13, mL13n, mC13, mW13, mL14, mL14n, mC14, mW14, mL15, mL15n, mC15, mW15, mL16, mL16n, mC16, mW16, mL17, mL17n, mC17, mW17, mL18, mL18n, mC18, mW18, mL19, mL19n, mC19, mW19, mL20, mL20n, mC20, mW20, mL21, mL21n, mC21, mW21, mL23, mL23n, mC23, mW23, mL24, mL24n, mC24, mW24, mL25, mL25n, mC25, mW25, mL26, mL26n, mC26, mW26, mL27, mL27n, mC27, mW27, mL28, mL28n, mC28, mW28, mL29, mL29n, mC29, mW29, mL30, mL30n, mC30, mW30, mL31, mL31n, mC31, mW31, mL32, mL32n, mC32, mW32, mL33, mL33n, mC33, mW33, mL34, mL34n, mC34, mW34, mL22, mC22, mW22, rm9, hlk, skp_sk, hr_eq ht, h1, hm1, kX3_bad1]
      · rw [if_neg h4]
        refine ⟨S, sd, C, ?_, rS.rf, fun _ _ => rfl, fun _ _ => ⟨rfl, rfl⟩, h19, trivial⟩
        have hm1 : hr t (skp t p) = -1 := by rw [hr_m1 ht]; omega
        rw [rX3_readRule_36]
        simp (disch := first | assumption | omega | decide) only [pis_i, pis_l, pis_r, pis_n, p1_i, p1_r, p1_n, p1_u, pw0, pw1, pw2, pw3, pw4, pK_v, pK_0, pK_ite, if_true, if_false, if_pos, if_neg, Nat.reduceAdd, pok_r, i10, i01, Bool.true_or, Bool.or_true, Bool.and_true, Bool.true_and, Nat.add_sub_cancel, i1p1, i1p0, i0p1, i0p0, nIrem2, va_rf_s, bit1, bit0, pinT, pinLT, pin0, nIc, nIcL, nIlt, nIeq, nIltL, nILlt, nIeqL, nILeq, nIadL, nILad, nILmu, nI_add, nIsbL, nI_sub', decide_true, decide_false, Bool.false_or, Bool.or_false, rX3_readRule_37, rX3_readRule_40, rX3_readRule_41, rX3_readRule_44, rX3_readRule_45, rX3_readRule_48, rX3_readRule_50, rX3_readRule_53, rX3_readRule_54, rX3_readRule_54i, rX3_readRule_55, rX3_readRule_58, rX3_readRule_59, rX3_readRule_60, rX3_readRule_63, rX3_readRule_64, rX3_readRule_67, rX3_readRule_70, rX3_readRule_71, rX3_readRule_74, rX3_readRule_75, rX3_readRule_78, rX3_readRule_79, rX3_readRule_82, rX3_readRule_83, rX3_readRule_86, rX3_readRule_87, rX3_readRule_90, rX3_readRule_91, rX3_readRule_94, mCl, mF0, mP0, mF1, mF2, mF3, mF4, mF5, mP5, mF6, mF7, mP7, mF8, mP8, mF9, mP9, mF10, mP10, mF11, mF12, mF13, mF14, mF15, mF16, mF17, mF18, mF19, mF20, mP20, mF21, mF22, mF23, mP23, mF24, mP24, mF25, mP25, mF26, mF27, mF28, mF29, mF30, mF31, mP31, mF32, mP32, mF33, mP33, mF34, mF35, mF36, mF37, mF38, mF39, mF40, mF41, mF42, mF43, mF44, mF45, mP45, mF46, mP46, mF47, mP47, mF48, mP48, mF49, mF50, mF51, mP51, mL1, mL1n, mC1, mW1, mL2, mL2n, mC2, mW2, mL3, mL3n, mC3, mW3, mL4, mL4n, mC4, mW4, mL5, mL5n, mC5, mW5, mL6, mL6n, mC6, mW6, mL7, mL7n, mC7, mW7, mL8, mL8n, mC8, mW8, mL9, mL9n, mC9, mW9, mL10, mL10n, mC10, mW10, mL11, mL11n, mC11, mW11, mL12, mL12n, mC12, mW12, mL13, mL13n, mC13, mW13, mL14, mL14n, mC14, mW14, mL15, mL15n, mC15, mW15, mL16, mL16n, mC16, mW16, mL17, mL17n, mC17, mW17, mL18, mL18n, mC18, mW18, mL19, mL19n, mC19, mW19, mL20, mL20n, mC20, mW20, mL21, mL21n, mC21, mW21, mL23, mL23n, mC23, mW23, mL24, mL24n, mC24, mW24, mL25, mL25n, mC25, mW25, mL26, mL26n, mC26, mW26, mL27, mL27n, mC27, mW27, mL28, mL28n, mC28, mW28, mL29, mL29n, mC29, mW29, mL30, mL30n, mC30, mW30, mL31, mL31n, mC31, mW31, mL32, mL32n, mC32, mW32, mL33, mL33n, mC33, mW33, mL34, mL34n, mC34, mW34, mL22, mC22, mW22, rm9, hlk, skp_sk, hr_eq ht, h1, hm1]
theorem m_readRule (hT : MT S t) (hr7 : r < 7) : (match prul t with
    | .inl w => ∃ S', pCa 88 (d + 31) [.ref m, .int (nI r)] (mput h m S) = some (.inl (some (.int (nI w))), mput h m S') ∧ mrl S S' r ∧ w ≤ 200
    | .inr (l, _) => ∃ S', pCa 88 (d + 31) [.ref m, .int (nI r)] (mput h m S) = some (.inl (some (.int (-1))), mput h m S') ∧ mrl S S' r ∧ S'.2.1 19 r = nI l.length ∧ Rl S'.2.1 r 0 0 l) := by
  have ht1 := hT.k.1
  let S0 : MS := (S.1, ua S.2.1 19 r 0, S.2.2)
  have hr0 : rS S S0 r := rS_19
  have hT0 := hr0.mt hT
  have h190 : S0.2.1 19 r = nI 0 := by show ua S.2.1 19 r 0 19 r = _; rw [ua_j, upd_same]; rfl
  have e0 : ((upd (upd (upd (upd (upd S.1 32 (nI r)) 8 0) 9 (-1)) 10 0) 33 0, ua S.2.1 19 r 0, S.2.2) : MS) = mRl S0 r (nI 0) (-1) (nI 0) 0 (S.2.1 18) := by
    refine Prod.ext ?_ (Prod.ext ?_ rfl)
    · funext k
      show upd (upd (upd (upd (upd S.1 32 (nI r)) 8 0) 9 (-1)) 10 0) 33 0 k = _
      unfold upd
      by_cases e8 : k = 8
      · subst e8; rfl
      by_cases e9 : k = 9
      · subst e9; rfl
      by_cases e10 : k = 10
      · subst e10; rfl
      by_cases e32 : k = 32
      · subst e32; rfl
      by_cases e33 : k = 33
      · subst e33; rfl
      simp only [mRl, e8, e9, e10, e32, e33, if_false]
      rfl
    · show ua S.2.1 19 r 0 = us (ua S.2.1 19 r 0) 18 (S.2.1 18)
      have : ua S.2.1 19 r 0 18 = S.2.1 18 := ua_o (by decide)
      rw [← this, us_id]
  have go : pCa 88 (d + 31) [.ref m, .int (nI r)] (mput h m S) = pK 88 (d + 31) 33 3 [.ref m, .int (nI r)] [] (pCa 89 (d + 30) [.ref m] (mput h m (mRl S0 r (nI 0) (-1) (nI 0) 0 (S.2.1 18)))) := by
    rw [eX3_readRule]
    simp (disch := first | assumption | omega | decide) only [pis_i, pis_l, pis_r, pis_n, p1_i, p1_r, p1_n, p1_u, pw0, pw1, pw2, pw3, pw4, pK_v, pK_0, pK_ite, if_true, if_false, if_pos, if_neg, Nat.reduceAdd, pok_r, i10, i01, Bool.true_or, Bool.or_true, Bool.and_true, Bool.true_and, Nat.add_sub_cancel, i1p1, i1p0, i0p1, i0p0, nIrem2, va_rf_s, bit1, bit0, pinT, pinLT, pin0, nIc, nIcL, nIlt, nIeq, nIltL, nILlt, nIeqL, nILeq, nIadL, nILad, nILmu, nI_add, nIsbL, nI_sub', decide_true, decide_false, Bool.false_or, Bool.or_false, rX3_readRule_0, rX3_readRule_1, rX3_readRule_2, rX3_readRule_5, rX3_readRule_6, rX3_readRule_7, rX3_readRule_10, rX3_readRule_11, rX3_readRule_12, rX3_readRule_15, rX3_readRule_16, rX3_readRule_17, rX3_readRule_20, rX3_readRule_21, rX3_readRule_22, rX3_readRule_25, rX3_readRule_26, rX3_readRule_29, rX3_readRule_30, rX3_readRule_31, rX3_readRule_32, rX3_readRule_33, mCl, mF0, mP0, mF1, mF2, mF3, mF4, mF5, mP5, mF6, mF7, mP7, mF8, mP8, mF9, mP9, mF10, mP10, mF11, mF12, mF13, mF14, mF15, mF16, mF17, mF18, mF19, mF20, mP20, mF21, mF22, mF23, mP23, mF24, mP24, mF25, mP25, mF26, mF27, mF28, mF29, mF30, mF31, mP31, mF32, mP32, mF33, mP33, mF34, mF35, mF36, mF37, mF38, mF39, mF40, mF41, mF42, mF43, mF44, mF45, mP45, mF46, mP46, mF47, mP47, mF48, mP48, mF49, mF50, mF51, mP51, mL1, mL1n, mC1, mW1, mL2, mL2n, mC2, mW2, mL3, mL3n, mC3, mW3, mL4, mL4n, mC4, mW4, mL5, mL5n, mC5, mW5, mL6, mL6n, mC6, mW6, mL7, mL7n, mC7, mW7, mL8, mL8n, mC8, mW8, mL9, mL9n, mC9, mW9, mL10, mL10n, mC10, mW10, mL11, mL11n, mC11, mW11, mL12, mL12n, mC12, mW12, mL13, mL13n, mC13, mW13, mL14, mL14n, mC14, mW14, mL15, mL15n, mC15, mW15, mL16, mL16n, mC16, mW16, mL17, mL17n, mC17, mW17, mL18, mL18n, mC18, mW18, mL19, mL19n, mC19, mW19, mL20, mL20n, mC20, mW20, mL21, mL21n, mC21, mW21, mL23, mL23n, mC23, mW23, mL24, mL24n, mC24, mW24, mL25, mL25n, mC25, mW25, mL26, mL26n, mC26, mW26, mL27, mL27n, mC27, mW27, mL28, mL28n, mC28, mW28, mL29, mL29n, mC29, mW29, mL30, mL30n, mC30, mW30, mL31, mL31n, mC31, mW31, mL32, mL32n, mC32, mW32, mL33, mL33n, mC33, mW33, mL34, mL34n, mC34, mW34, mL22, mC22, mW22, e0]
  rw [go]
  have hc := kX3_clause (d := d) (m := m) (h := h) (p := 0) (sd := 0) (C := S.2.1 18) hT0 hr7 (show 0 < 64 by decide) h190 (Nat.zero_le _) (by decide)
  have hko := clsP_ok (t := t) (p := 0) (Nat.zero_le _)
  have hpo := prul_ok (t := t)
  unfold prul at hpo ⊢
  generalize clsP t 0 = z at hc hko hpo
  match z, hc, hko, hpo with
  | .inl w, ⟨S', a', dp', sd', C', q1, q2, q3⟩, hw, _ =>
    have hw : w ≤ t.1 := hw
    refine ⟨mRl S' r a' (nI w) dp' sd' C', ?_, mrl_R (hr0.tr q2) q3, by omega⟩
    rw [q1]
    have e1 : pK 88 (d + 31) 33 3 [.ref m, .int (nI r)] [] (some (.inl none, mput h m (mRl S' r a' (nI w) dp' sd' C'))) = pR 88 (d + 31) 36 [.ref m, .int (nI r)] [] (mput h m (mRl S' r a' (nI w) dp' sd' C')) := by simp only [pis_i, pis_l, pis_r, pis_n, p1_i, p1_r, p1_n, p1_u, pw0, pw1, pw2, pw3, pw4, pK_v, pK_0, pK_ite, if_true, if_false, if_pos, if_neg, Nat.reduceAdd, pok_r, i10, i01, Bool.true_or, Bool.or_true, Bool.and_true, Bool.true_and]
    rw [e1, rX3_readRule_36]
    simp (disch := first | assumption | omega | decide) only [pis_i, pis_l, pis_r, pis_n, p1_i, p1_r, p1_n, p1_u, pw0, pw1, pw2, pw3, pw4, pK_v, pK_0, pK_ite, if_true, if_false, if_pos, if_neg, Nat.reduceAdd, pok_r, i10, i01, Bool.true_or, Bool.or_true, Bool.and_true, Bool.true_and, Nat.add_sub_cancel, i1p1, i1p0, i0p1, i0p0, nIrem2, va_rf_s, bit1, bit0, pinT, pinLT, pin0, nIc, nIcL, nIlt, nIeq, nIltL, nILlt, nIeqL, nILeq, nIadL, nILad, nILmu, nI_add, nIsbL, nI_sub', decide_true, decide_false, Bool.false_or, Bool.or_false, rX3_readRule_37, rX3_readRule_40, rX3_readRule_41, rX3_readRule_70, rX3_readRule_71, rX3_readRule_74, rX3_readRule_75, rX3_readRule_78, rX3_readRule_79, rX3_readRule_82, rX3_readRule_83, rX3_readRule_86, rX3_readRule_87, rX3_readRule_90, rX3_readRule_91, rX3_readRule_94, mCl, mF0, mP0, mF1, mF2, mF3, mF4, mF5, mP5, mF6, mF7, mP7, mF8, mP8, mF9, mP9, mF10, mP10, mF11, mF12, mF13, mF14, mF15, mF16, mF17, mF18, mF19, mF20, mP20, mF21, mF22, mF23, mP23, mF24, mP24, mF25, mP25, mF26, mF27, mF28, mF29, mF30, mF31, mP31, mF32, mP32, mF33, mP33, mF34, mF35, mF36, mF37, mF38, mF39, mF40, mF41, mF42, mF43, mF44, mF45, mP45, mF46, mP46, mF47, mP47, mF48, mP48, mF49, mF50, mF51, mP51, mL1, mL1n, mC1, mW1, mL2, mL2n, mC2, mW2, mL3, mL3n, mC3, mW3, mL4, mL4n, mC4, mW4, mL5, mL5n, mC5, mW5, mL6, mL6n, mC6, mW6, mL7, mL7n, mC7, mW7, mL8, mL8n, mC8, mW8, mL9, mL9n, mC9, mW9, mL10, mL10n, mC10, mW10, mL11, mL11n, mC11, mW11, mL12, mL12n, mC12, mW12, mL13, mL13n, mC13, mW13, mL14, mL14n, mC14, mW14, mL15, mL15n, mC15, mW15, mL16, mL16n, mC16, mW16, mL17, mL17n, mC17, mW17, mL18, mL18n, mC18, mW18, mL19, mL19n, mC19, mW19, mL20, mL20n, mC20, mW20, mL21, mL21n, mC21, mW21, mL23, mL23n, mC23, mW23, mL24, mL24n, mC24, mW24, mL25, mL25n, mC25, mW25, mL26, mL26n, mC26, mW26, mL27, mL27n, mC27, mW27, mL28, mL28n, mC28, mW28, mL29, mL29n, mC29, mW29, mL30, mL30n, mC30, mW30, mL31, mL31n, mC31, mW31, mL32, mL32n, mC32, mW32, mL33, mL33n, mC33, mW33, mL34, mL34n, mC34, mW34, mL22, mC22, mW22, rm9, nIm1]
  | .inr (c, q), q1, ⟨k1, k2, k3, k4⟩, hpo =>
    have hcl := cdC_le c
    let S1 : MS := (S0.1, aC S0.2.1 r 0 (0 + (tl c).length) (0 + (cdC c).length), S0.2.2)
    have q1 : pCa 89 (d + 30) [.ref m] (mput h m (mRl S0 r (nI 0) (-1) (nI 0) 0 (S.2.1 18))) = some (.inl none, mput h m (mRl S1 r (nI q) (-1) (nI 0) (0 + (cdC c).length) (wrt (S.2.1 18) (400 * r + 0) (cdC c)))) := q1
    have hrs : rS S0 S1 r := (rS_19.tr (rS_20 (S := (S0.1, ua S0.2.1 19 r (nI (0 + 1)), S0.2.2)) (by omega))).tr (rS_21 (S := (S0.1, ua (ua S0.2.1 19 r (nI (0 + 1))) 20 (64 * r + 0) (nI (0 + (tl c).length)), S0.2.2)) (by omega))
    have h19' : S1.2.1 19 r = nI 1 := by
      show aC S0.2.1 r 0 (0 + (tl c).length) (0 + (cdC c).length) 19 r = _
      unfold aC
      rw [ua_o (by decide), ua_o (by decide), ua_j, upd_same]
    have h20 : S1.2.1 20 (64 * r + 0) = nI (0 + (tl c).length) := by
      show aC S0.2.1 r 0 (0 + (tl c).length) (0 + (cdC c).length) 20 _ = _
      unfold aC
      rw [ua_o (by decide), ua_j, upd_same]
    have h21 : S1.2.1 21 (64 * r + 0) = nI (0 + (cdC c).length) := by
      show aC S0.2.1 r 0 (0 + (tl c).length) (0 + (cdC c).length) 21 _ = _
      unfold aC
      rw [ua_j, upd_same]
    have hi := mrr_l (d := d) (m := m) (h := h) (t := t) hr7 201 q S1 1 (0 + (cdC c).length) (wrt (S.2.1 18) (400 * r + 0) (cdC c)) (hrs.mt hT0) h19' k2 (by omega) (by omega) (by omega)
    have go2 : pK 88 (d + 31) 33 3 [.ref m, .int (nI r)] [] (some (.inl none, mput h m (mRl S1 r (nI q) (-1) (nI 0) (0 + (cdC c).length) (wrt (S.2.1 18) (400 * r + 0) (cdC c))))) = pR 88 (d + 31) 36 [.ref m, .int (nI r)] [] (mput h m (mRl S1 r (nI q) (-1) (nI 0) (0 + (cdC c).length) (wrt (S.2.1 18) (400 * r + 0) (cdC c)))) := by
      simp only [pis_i, pis_l, pis_r, pis_n, p1_i, p1_r, p1_n, p1_u, pw0, pw1, pw2, pw3, pw4, pK_v, pK_0, pK_ite, if_true, if_false, if_pos, if_neg, Nat.reduceAdd, pok_r, i10, i01, Bool.true_or, Bool.or_true, Bool.and_true, Bool.true_and]
    rw [q1, go2]
    dsimp only at hpo ⊢
    generalize crest t 201 q = y at hi hpo
    match y, hi, hpo with
    | .inl w, ⟨S', a', dp', sd', C', u1, u2, u3⟩, hpo =>
      have hw := hpo.1 w rfl
      exact ⟨_, u1, mrl_R ((hr0.tr hrs).tr u2) (fun i hi => by rw [u3 i hi, wrt_lo (by omega)]), by omega⟩
    | .inr (l, q'), ⟨S', sd', C', u1, u2, u3, u4, u5, u6⟩, _ =>
      refine ⟨_, u1, mrl_R ((hr0.tr hrs).tr u2) (fun i hi => by rw [u3 i (by omega), wrt_lo (by omega)]), ?_, ?_, ?_, fun i hi => ?_, ?_⟩
      · rw [rmO (by decide), u5]; congr 1; show 1 + l.length = l.length + 1; omega
      · rw [rmO (by decide), (u4 _ (by omega)).1]; exact h20
      · rw [rmO (by decide), (u4 _ (by omega)).2]; exact h21
      · rw [rmC, u3 _ (by omega)]; exact wrt_in hi
      · exact u6
end
section
variable {d m G : Nat} {h : pH} {S : MS} {t : Tp}
theorem m_rule_f (hG : S.1 31 = nI 6) : pCa 101 d [.ref m] (mput h m S) = some (.inl (some (.int (-1))), mput h m S) := by
  rw [eX3_rule]
  simp (disch := first | assumption | omega | decide) only [pis_i, pis_l, pis_r, pis_n, p1_i, p1_r, p1_n, p1_u, pw0, pw1, pw2, pw3, pw4, pK_v, pK_0, pK_ite, if_true, if_false, if_pos, if_neg, Nat.reduceAdd, pok_r, i10, i01, Bool.true_or, Bool.or_true, Bool.and_true, Bool.true_and, Nat.add_sub_cancel, i1p1, i1p0, i0p1, i0p0, nIrem2, va_rf_s, bit1, bit0, pinT, pinLT, pin0, nIc, nIcL, nIlt, nIeq, nIltL, nILlt, nIeqL, nILeq, nIadL, nILad, nILmu, nI_add, nIsbL, nI_sub', decide_true, decide_false, Bool.false_or, Bool.or_false, rX3_rule_0, rX3_rule_1, rX3_rule_4, rX3_rule_6, rX3_rule_21, rX3_rule_22, mCl, mF0, mP0, mF1, mF2, mF3, mF4, mF5, mP5, mF6, mF7, mP7, mF8, mP8, mF9, mP9, mF10, mP10, mF11, mF12, mF13, mF14, mF15, mF16, mF17, mF18, mF19, mF20, mP20, mF21, mF22, mF23, mP23, mF24, mP24, mF25, mP25, mF26, mF27, mF28, mF29, mF30, mF31, mP31, mF32, mP32, mF33, mP33, mF34, mF35, mF36, mF37, mF38, mF39, mF40, mF41, mF42, mF43, mF44, mF45, mP45, mF46, mP46, mF47, mP47, mF48, mP48, mF49, mF50, mF51, mP51, mL1, mL1n, mC1, mW1, mL2, mL2n, mC2, mW2, mL3, mL3n, mC3, mW3, mL4, mL4n, mC4, mW4, mL5, mL5n, mC5, mW5, mL6, mL6n, mC6, mW6, mL7, mL7n, mC7, mW7, mL8, mL8n, mC8, mW8, mL9, mL9n, mC9, mW9, mL10, mL10n, mC10, mW10, mL11, mL11n, mC11, mW11, mL12, mL12n, mC12, mW12, mL13, mL13n, mC13, mW13, mL14, mL14n, mC14, mW14, mL15, mL15n, mC15, mW15, mL16, mL16n, mC16, mW16, mL17, mL17n, mC17, mW17, mL18, mL18n, mC18, mW18, mL19, mL19n, mC19, mW19, mL20, mL20n, mC20, mW20, mL21, mL21n, mC21, mW21, mL23, mL23n, mC23, mW23, mL24, mL24n, mC24, mW24, mL25, mL25n, mC25, mW25, mL26, mL26n, mC26, mW26, mL27, mL27n, mC27, mW27, mL28, mL28n, mC28, mW28, mL29, mL29n, mC29, mW29, mL30, mL30n, mC30, mW30, mL31, mL31n, mC31, mW31, mL32, mL32n, mC32, mW32, mL33, mL33n, mC33, mW33, mL34, mL34n, mC34, mW34, mL22, mC22, mW22, hG]
theorem m_rule (hT : MT S t) (hG : S.1 31 = nI G) (hG6 : G < 6) : (match prul t with
    | .inl _ => ∃ S', pCa 101 (d + 32) [.ref m] (mput h m S) = some (.inl (some (.int (-1))), mput h m S') ∧ mrl S S' G
    | .inr (l, _) => ∃ S', pCa 101 (d + 32) [.ref m] (mput h m S) = some (.inl (some (.int (nI G))), mput h m (upd (upd S'.1 7 0) 31 (nI (G + 1)), S'.2)) ∧ mrl S S' G ∧ S'.2.1 19 G = nI l.length ∧ Rl S'.2.1 G 0 0 l) := by
  have hr := m_readRule (d := d) (m := m) (h := h) (r := G) hT (by omega)
  have hG' : ∀ S', mrl S S' G → S'.1 31 = nI G := fun S' hm => by rw [hm.1 31 (by decide) (by decide) (by decide) (by decide) (by decide)]; exact hG
  rw [eX3_rule]
  generalize prul t = z at hr
  match z, hr with
  | .inl w, ⟨S', h1, h2, h3⟩ =>
    refine ⟨S', ?_, h2⟩
    simp (disch := first | assumption | omega | decide) only [pis_i, pis_l, pis_r, pis_n, p1_i, p1_r, p1_n, p1_u, pw0, pw1, pw2, pw3, pw4, pK_v, pK_0, pK_ite, if_true, if_false, if_pos, if_neg, Nat.reduceAdd, pok_r, i10, i01, Bool.true_or, Bool.or_true, Bool.and_true, Bool.true_and, Nat.add_sub_cancel, i1p1, i1p0, i0p1, i0p0, nIrem2, va_rf_s, bit1, bit0, pinT, pinLT, pin0, nIc, nIcL, nIlt, nIeq, nIltL, nILlt, nIeqL, nILeq, nIadL, nILad, nILmu, nI_add, nIsbL, nI_sub', decide_true, decide_false, Bool.false_or, Bool.or_false, rX3_rule_0, rX3_rule_1, rX3_rule_4, rX3_rule_6, rX3_rule_9, rX3_rule_10, rX3_rule_11, rX3_rule_14, rX3_rule_17, rX3_rule_18, rX3_rule_21, rX3_rule_22, mCl, mF0, mP0, mF1, mF2, mF3, mF4, mF5, mP5, mF6, mF7, mP7, mF8, mP8, mF9, mP9, mF10, mP10, mF11, mF12, mF13, mF14, mF15, mF16, mF17, mF18, mF19, mF20, mP20, mF21, mF22, mF23, mP23, mF24, mP24, mF25, mP25, mF26, mF27, mF28, mF29, mF30, mF31, mP31, mF32, mP32, mF33, mP33, mF34, mF35, mF36, mF37, mF38, mF39, mF40, mF41, mF42, mF43, mF44, mF45, mP45, mF46, mP46, mF47, mP47, mF48, mP48, mF49, mF50, mF51, mP51, mL1, mL1n, mC1, mW1, mL2, mL2n, mC2, mW2, mL3, mL3n, mC3, mW3, mL4, mL4n, mC4, mW4, mL5, mL5n, mC5, mW5, mL6, mL6n, mC6, mW6, mL7, mL7n, mC7, mW7, mL8, mL8n, mC8, mW8, mL9, mL9n, mC9, mW9, mL10, mL10n, mC10, mW10, mL11, mL11n, mC11, mW11, mL12, mL12n, mC12, mW12, mL13, mL13n, mC13, mW13, mL14, mL14n, mC14, mW14, mL15, mL15n, mC15, mW15, mL16, mL16n, mC16, mW16, mL17, mL17n, mC17, mW17, mL18, mL18n, mC18, mW18, mL19, mL19n, mC19, mW19, mL20, mL20n, mC20, mW20, mL21, mL21n, mC21, mW21, mL23, mL23n, mC23, mW23, mL24, mL24n, mC24, mW24, mL25, mL25n, mC25, mW25, mL26, mL26n, mC26, mW26, mL27, mL27n, mC27, mW27, mL28, mL28n, mC28, mW28, mL29, mL29n, mC29, mW29, mL30, mL30n, mC30, mW30, mL31, mL31n, mC31, mW31, mL32, mL32n, mC32, mW32, mL33, mL33n, mC33, mW33, mL34, mL34n, mC34, mW34, mL22, mC22, mW22, hG, h1, nIm1]
  | .inr (l, q), ⟨S', h1, h2, h3, h4⟩ =>
    refine ⟨S', ?_, h2, h3, h4⟩
    have e := hG' S' h2
    have e2 : upd S'.1 7 0 31 = nI G := by rw [upd_ne (by decide)]; exact e
    simp (disch := first | assumption | omega | decide) only [pis_i, pis_l, pis_r, pis_n, p1_i, p1_r, p1_n, p1_u, pw0, pw1, pw2, pw3, pw4, pK_v, pK_0, pK_ite, if_true, if_false, if_pos, if_neg, Nat.reduceAdd, pok_r, i10, i01, Bool.true_or, Bool.or_true, Bool.and_true, Bool.true_and, Nat.add_sub_cancel, i1p1, i1p0, i0p1, i0p0, nIrem2, va_rf_s, bit1, bit0, pinT, pinLT, pin0, nIc, nIcL, nIlt, nIeq, nIltL, nILlt, nIeqL, nILeq, nIadL, nILad, nILmu, nI_add, nIsbL, nI_sub', decide_true, decide_false, Bool.false_or, Bool.or_false, rX3_rule_0, rX3_rule_1, rX3_rule_4, rX3_rule_6, rX3_rule_9, rX3_rule_10, rX3_rule_11, rX3_rule_14, rX3_rule_17, rX3_rule_18, rX3_rule_21, rX3_rule_22, rX3_rule_23, rX3_rule_24, rX3_rule_25, rX3_rule_28, rX3_rule_29, rX3_rule_29i, rX3_rule_30, rX3_rule_33, rX3_rule_34, rX3_rule_35, rX3_rule_38, rX3_rule_39, rX3_rule_42, rX3_rule_43, rX3_rule_44, mCl, mF0, mP0, mF1, mF2, mF3, mF4, mF5, mP5, mF6, mF7, mP7, mF8, mP8, mF9, mP9, mF10, mP10, mF11, mF12, mF13, mF14, mF15, mF16, mF17, mF18, mF19, mF20, mP20, mF21, mF22, mF23, mP23, mF24, mP24, mF25, mP25, mF26, mF27, mF28, mF29, mF30, mF31, mP31, mF32, mP32, mF33, mP33, mF34, mF35, mF36, mF37, mF38, mF39, mF40, mF41, mF42, mF43, mF44, mF45, mP45, mF46, mP46, mF47, mP47, mF48, mP48, mF49, mF50, mF51, mP51, mL1, mL1n, mC1, mW1, mL2, mL2n, mC2, mW2, mL3, mL3n, mC3, mW3, mL4, mL4n, mC4, mW4, mL5, mL5n, mC5, mW5, mL6, mL6n, mC6, mW6, mL7, mL7n, mC7, mW7, mL8, mL8n, mC8, mW8, mL9, mL9n, mC9, mW9, mL10, mL10n, mC10, mW10, mL11, mL11n, mC11, mW11, mL12, mL12n, mC12, mW12, mL13, mL13n, mC13, mW13, mL14, mL14n, mC14, mW14, mL15, mL15n, mC15, mW15, mL16, mL16n, mC16, mW16, mL17, mL17n, mC17, mW17, mL18, mL18n, mC18, mW18, mL19, mL19n, mC19, mW19, mL20, mL20n, mC20, mW20, mL21, mL21n, mC21, mW21, mL23, mL23n, mC23, mW23, mL24, mL24n, mC24, mW24, mL25, mL25n, mC25, mW25, mL26, mL26n, mC26, mW26, mL27, mL27n, mC27, mW27, mL28, mL28n, mC28, mW28, mL29, mL29n, mC29, mW29, mL30, mL30n, mC30, mW30, mL31, mL31n, mC31, mW31, mL32, mL32n, mC32, mW32, mL33, mL33n, mC33, mW33, mL34, mL34n, mC34, mW34, mL22, mC22, mW22, hG, h1, e2, upd_same]
theorem m_fault1 (hT : MT S t) : ∃ S', pCa 73 (d + 32) [.ref m, .int 1] (mput h m S) = some (.inl (some (.int (ansR (prul t)))), mput h m S') ∧ mrl S S' 6 := by
  have hr := m_readRule (d := d) (m := m) (h := h) (r := 6) hT (by omega)
  rw [eX3_fault]
  generalize prul t = z at hr
  match z, hr with
  | .inl w, ⟨S', h1, h2, h3⟩ =>
    refine ⟨S', ?_, h2⟩
    have h1 : pCa 88 (d + 31) [.ref m, .int 6] (mput h m S) = some (.inl (some (.int (nI w))), mput h m S') := h1
    simp (disch := first | assumption | omega | decide) only [pis_i, pis_l, pis_r, pis_n, p1_i, p1_r, p1_n, p1_u, pw0, pw1, pw2, pw3, pw4, pK_v, pK_0, pK_ite, if_true, if_false, if_pos, if_neg, Nat.reduceAdd, pok_r, i10, i01, Bool.true_or, Bool.or_true, Bool.and_true, Bool.true_and, Nat.add_sub_cancel, i1p1, i1p0, i0p1, i0p0, nIrem2, va_rf_s, bit1, bit0, pinT, pinLT, pin0, nIc, nIcL, nIlt, nIeq, nIltL, nILlt, nIeqL, nILeq, nIadL, nILad, nILmu, nI_add, nIsbL, nI_sub', decide_true, decide_false, Bool.false_or, Bool.or_false, rX3_fault_0, rX3_fault_1, rX3_fault_4, rX3_fault_5, rX3_fault_7, rX3_fault_10, rX3_fault_13, rX3_fault_14, rX3_fault_15, rX3_fault_18, rX3_fault_19, rX3_fault_21, rX3_fault_24, rX3_fault_27, rX3_fault_29, mCl, mF0, mP0, mF1, mF2, mF3, mF4, mF5, mP5, mF6, mF7, mP7, mF8, mP8, mF9, mP9, mF10, mP10, mF11, mF12, mF13, mF14, mF15, mF16, mF17, mF18, mF19, mF20, mP20, mF21, mF22, mF23, mP23, mF24, mP24, mF25, mP25, mF26, mF27, mF28, mF29, mF30, mF31, mP31, mF32, mP32, mF33, mP33, mF34, mF35, mF36, mF37, mF38, mF39, mF40, mF41, mF42, mF43, mF44, mF45, mP45, mF46, mP46, mF47, mP47, mF48, mP48, mF49, mF50, mF51, mP51, mL1, mL1n, mC1, mW1, mL2, mL2n, mC2, mW2, mL3, mL3n, mC3, mW3, mL4, mL4n, mC4, mW4, mL5, mL5n, mC5, mW5, mL6, mL6n, mC6, mW6, mL7, mL7n, mC7, mW7, mL8, mL8n, mC8, mW8, mL9, mL9n, mC9, mW9, mL10, mL10n, mC10, mW10, mL11, mL11n, mC11, mW11, mL12, mL12n, mC12, mW12, mL13, mL13n, mC13, mW13, mL14, mL14n, mC14, mW14, mL15, mL15n, mC15, mW15, mL16, mL16n, mC16, mW16, mL17, mL17n, mC17, mW17, mL18, mL18n, mC18, mW18, mL19, mL19n, mC19, mW19, mL20, mL20n, mC20, mW20, mL21, mL21n, mC21, mW21, mL23, mL23n, mC23, mW23, mL24, mL24n, mC24, mW24, mL25, mL25n, mC25, mW25, mL26, mL26n, mC26, mW26, mL27, mL27n, mC27, mW27, mL28, mL28n, mC28, mW28, mL29, mL29n, mC29, mW29, mL30, mL30n, mC30, mW30, mL31, mL31n, mC31, mW31, mL32, mL32n, mC32, mW32, mL33, mL33n, mC33, mW33, mL34, mL34n, mC34, mW34, mL22, mC22, mW22, h1]
    rfl
  | .inr (l, q), ⟨S', h1, h2, h3⟩ =>
    refine ⟨S', ?_, h2⟩
    have h1 : pCa 88 (d + 31) [.ref m, .int 6] (mput h m S) = some (.inl (some (.int (-1))), mput h m S') := h1
    simp (disch := first | assumption | omega | decide) only [pis_i, pis_l, pis_r, pis_n, p1_i, p1_r, p1_n, p1_u, pw0, pw1, pw2, pw3, pw4, pK_v, pK_0, pK_ite, if_true, if_false, if_pos, if_neg, Nat.reduceAdd, pok_r, i10, i01, Bool.true_or, Bool.or_true, Bool.and_true, Bool.true_and, Nat.add_sub_cancel, i1p1, i1p0, i0p1, i0p0, nIrem2, va_rf_s, bit1, bit0, pinT, pinLT, pin0, nIc, nIcL, nIlt, nIeq, nIltL, nILlt, nIeqL, nILeq, nIadL, nILad, nILmu, nI_add, nIsbL, nI_sub', decide_true, decide_false, Bool.false_or, Bool.or_false, rX3_fault_0, rX3_fault_1, rX3_fault_4, rX3_fault_5, rX3_fault_7, rX3_fault_10, rX3_fault_13, rX3_fault_14, rX3_fault_15, rX3_fault_18, rX3_fault_19, rX3_fault_21, rX3_fault_24, rX3_fault_27, rX3_fault_29, mCl, mF0, mP0, mF1, mF2, mF3, mF4, mF5, mP5, mF6, mF7, mP7, mF8, mP8, mF9, mP9, mF10, mP10, mF11, mF12, mF13, mF14, mF15, mF16, mF17, mF18, mF19, mF20, mP20, mF21, mF22, mF23, mP23, mF24, mP24, mF25, mP25, mF26, mF27, mF28, mF29, mF30, mF31, mP31, mF32, mP32, mF33, mP33, mF34, mF35, mF36, mF37, mF38, mF39, mF40, mF41, mF42, mF43, mF44, mF45, mP45, mF46, mP46, mF47, mP47, mF48, mP48, mF49, mF50, mF51, mP51, mL1, mL1n, mC1, mW1, mL2, mL2n, mC2, mW2, mL3, mL3n, mC3, mW3, mL4, mL4n, mC4, mW4, mL5, mL5n, mC5, mW5, mL6, mL6n, mC6, mW6, mL7, mL7n, mC7, mW7, mL8, mL8n, mC8, mW8, mL9, mL9n, mC9, mW9, mL10, mL10n, mC10, mW10, mL11, mL11n, mC11, mW11, mL12, mL12n, mC12, mW12, mL13, mL13n, mC13, mW13, mL14, mL14n, mC14, mW14, mL15, mL15n, mC15, mW15, mL16, mL16n, mC16, mW16, mL17, mL17n, mC17, mW17, mL18, mL18n, mC18, mW18, mL19, mL19n, mC19, mW19, mL20, mL20n, mC20, mW20, mL21, mL21n, mC21, mW21, mL23, mL23n, mC23, mW23, mL24, mL24n, mC24, mW24, mL25, mL25n, mC25, mW25, mL26, mL26n, mC26, mW26, mL27, mL27n, mC27, mW27, mL28, mL28n, mC28, mW28, mL29, mL29n, mC29, mW29, mL30, mL30n, mC30, mW30, mL31, mL31n, mC31, mW31, mL32, mL32n, mC32, mW32, mL33, mL33n, mC33, mW33, mL34, mL34n, mC34, mW34, mL22, mC22, mW22, h1]
    rfl
end
