/-! READING 15: the model's readFigure -/
set_option maxRecDepth 100000
theorem nI_surj (v : Int32) : ∃ n, v = nI n := by
  refine ⟨v.toUInt32.toNat, ?_⟩
  cases v with
  | ofUInt32 u => exact congrArg Int32.ofUInt32 (UInt32.ofNat_toNat).symm
def Hdw (n : Nat) : Hd := { Hd0 with wh := n }
/-- only figure f (and what is behind it) and scratch changed -/
def mfg (S S' : MS) (f : Nat) : Prop := (∀ k, k ≠ 8 → k ≠ 9 → k ≠ 10 → k ≠ 23 → k ≠ 24 → k ≠ 25 → S'.1 k = S.1 k) ∧ (∀ j, (j < 6 ∨ 17 < j) → S'.2.1 j = S.2.1 j) ∧ (∀ j i, (j = 6 ∨ j = 8 ∨ j = 9 ∨ j = 14) → i < f → S'.2.1 j i = S.2.1 j i) ∧ (∀ i, i < 6 * f → S'.2.1 7 i = S.2.1 7 i) ∧ (∀ j i, 10 ≤ j → j ≤ 13 → i < 24 * f → S'.2.1 j i = S.2.1 j i) ∧ S'.2.2 = S.2.2
theorem mfg_H {S : MS} {f : Nat} {H : Hd} {a w dp : Int32} : mfg S (mHd S f H a w dp) f := by
  refine ⟨fun k a1 a2 a3 a4 a5 a6 => by simp [mHd, a1, a2, a3, a4, a5, a6], fun j hj => ?_, fun j i hj hi => ?_, fun i hi => ?_, fun j i h1 h2 hi => ?_, rfl⟩
  · show aB S.2.1 f H j = _
    unfold aB
    repeat rw [if_neg (by omega)]
  · show aB S.2.1 f H j i = _
    rcases hj with rfl | rfl | rfl | rfl
    · exact upd_ne (by omega)
    · exact upd_ne (by omega)
    · rfl
    · exact upd_ne (by omega)
  · exact rg_out (A := S.2.1 7) (B := fun k => nI (H.so k)) (Or.inl hi)
  · show aB S.2.1 f H j i = _
    have hj : j = 10 ∨ j = 11 ∨ j = 12 ∨ j = 13 := by omega
    rcases hj with rfl | rfl | rfl | rfl
    · exact rg_out (A := S.2.1 10) (B := H.le) (Or.inl hi)
    · exact rg_out (A := S.2.1 11) (B := fun k => nI (H.fr k)) (Or.inl hi)
    · exact rg_out (A := S.2.1 12) (B := fun k => nI (H.tq k)) (Or.inl hi)
    · exact rg_out (A := S.2.1 13) (B := fun k => nI (H.ba k)) (Or.inl hi)
theorem mfg_N {S T : MS} {f b1 b2 n : Nat} {N : Nat → Int32} {a b : Nat → Nat} (h : mfg S T f) : mfg S (mNm T f b1 b2 n N a b) f := by
  obtain ⟨h1, h2, h3, h4, h5, h6⟩ := h
  refine ⟨h1, fun j hj => ?_, fun j i hj hi => ?_, fun i hi => ?_, fun j i g1 g2 hi => ?_, h6⟩
  · rw [mNm_o (by omega) (by omega) (by omega) (by omega)]; exact h2 j hj
  · by_cases e : j = 9
    · subst e; rw [mNm_9, upd_ne (by omega)]; exact h3 9 i hj hi
    · rw [mNm_o (by omega) (by omega) (by omega) (by omega)]; exact h3 j i hj hi
  · rw [mNm_o (by omega) (by omega) (by omega) (by omega)]; exact h4 i hi
  · by_cases e : j = 11
    · subst e; rw [mNm_11, rg_out (Or.inl hi)]; exact h5 11 i g1 g2 hi
    · by_cases e2 : j = 12
      · subst e2; rw [mNm_12, rg_out (Or.inl hi)]; exact h5 12 i g1 g2 hi
      · rw [mNm_o (by omega) (by omega) (by omega) (by omega)]; exact h5 j i g1 g2 hi
theorem MFig.fr {S S' : MS} {f g : Nat} {F : Fig} (hF : MFig S g F) (hm : mfg S S' f) (hg : g < f) (hk : FigOk F) : MFig S' g F := by
  obtain ⟨h1, h2, h3, h4, h5, h6⟩ := hm
  obtain ⟨f1, f2, f3, f4, f5, f6, f7, f8, f9⟩ := hF
  obtain ⟨k1, k2, -⟩ := hk
  refine ⟨?_, ?_, ?_, ?_, fun b hb => ?_, fun b hb => ?_, fun b hb => ?_, fun b hb => ?_, fun b hb => ?_⟩
  · rw [h3 8 g (by omega) hg]; exact f1
  · rw [h3 6 g (by omega) hg]; exact f2
  · rw [h3 9 g (by omega) hg]; exact f3
  · rw [h3 14 g (by omega) hg]; exact f4
  · rw [h5 11 _ (by omega) (by omega) (by omega)]; exact f5 b hb
  · rw [h5 12 _ (by omega) (by omega) (by omega)]; exact f6 b hb
  · rw [h5 13 _ (by omega) (by omega) (by omega)]; exact f7 b hb
  · rw [h4 _ (by omega)]; exact f8 b hb
  · rw [h5 10 _ (by omega) (by omega) (by omega)]; exact f9 b hb
/-- the figure that was read -/
theorem mNm_fig {S : MS} {f : Nat} {H : Hd} {a w dp : Int32} {N : Nat → Int32} : MFig (mNm (mHd S f H a w dp) f H.nb H.nb (fb_ct (rr H) H.np) N (fun k => nmb H (H.fr k)) (fun k => nmb H (H.tq k))) f (figOf H) := by
  refine ⟨?_, ?_, ?_, ?_, fun b hb => ?_, fun b hb => ?_, fun b hb => ?_, fun b hb => ?_, fun b hb => ?_⟩
  · rw [mNm_o (by decide) (by decide) (by decide) (by decide)]; exact hmB
  · rw [mNm_o (by decide) (by decide) (by decide) (by decide)]; exact hmL
  · rw [mNm_9]; exact upd_same
  · rw [mNm_o (by decide) (by decide) (by decide) (by decide)]; exact hmM
  · have hb : b < H.nb := hb
    rw [mNm_11, rg_in hb]; rfl
  · have hb : b < H.nb := hb
    rw [mNm_12, rg_in hb]; rfl
  · have hb : b < H.nb := hb
    rw [mNm_o (by decide) (by decide) (by decide) (by decide)]; exact rg_in (A := S.2.1 13) (B := fun k => nI (H.ba k)) hb
  · have hb : b < H.nl := hb
    rw [mNm_o (by decide) (by decide) (by decide) (by decide)]; exact rg_in (A := S.2.1 7) (B := fun k => nI (H.so k)) hb
  · have hb : b < H.nb := hb
    rw [mNm_o (by decide) (by decide) (by decide) (by decide)]; exact rg_in (A := S.2.1 10) (B := H.le) hb
section
variable {d m f p N : Nat} {h : pH} {S : MS} {H : Hd} {t : Tp} {q2 : Value}
theorem Nd_B {x : Nd} (hx : ∃ s i, x = .fresh s i ∧ s < N ∧ gd i 6) (hk : HdB N H) (hl : H.nl < 6) (hb : H.nb + x.b ≤ 24) : HdB N (x.x H) ∧ (x.x H).nb = H.nb + x.b ∧ (x.x H).nl = H.nl + 1 := by
  obtain ⟨s, i, rfl, h1, h2⟩ := hx
  have hkb := HdR_beg (N := N) hk.k hk.e hl hk.m hk.j hk.s h1
  obtain ⟨r1, r2, r3⟩ := ex_R (N := N) i 6 (H.beg s) h2 hkb hb
  exact ⟨r1.b, r2, r3⟩
theorem mrd_l (hT : MT S t) (hf : f < 13) (hN : S.1 5 = nI N) (hN6 : N ≤ 6) (hq2 : p1 q2 = true) : ∀ n p H, HdB N H → p ≤ t.1 → t.1 - p < n → (match pbrest t N n p H.nb H.nl with
    | .inl w => ∃ H' a' dp', pR 74 (d + 21) 80 [.ref m, .int (nI f), q2] [] (mput h m (mHd S f H (nI p) (-1) (nI 0))) = some (.inl (some (.int (nI w))), mput h m (mHd S f H' a' (nI w) dp'))
    | .inr (c, q, _) => HdB N (ex c H) ∧ ∃ A, pR 74 (d + 21) 80 [.ref m, .int (nI f), q2] [] (mput h m (mHd S f H (nI p) (-1) (nI 0))) = some (.inl (some (.int (-1))), mput h m (mNm (mHd S f (ex c H) (nI q) (-1) (nI 0)) f (ex c H).nb (ex c H).nb (fb_ct (rr (ex c H)) (ex c H).np) A (fun k => nmb (ex c H) ((ex c H).fr k)) (fun k => nmb (ex c H) ((ex c H).tq k))))) := by
  have ht := hT.k
  have ht1 := ht.1
  have hlk : ∀ (K : Hd) (a : Nat), a ≤ t.1 → pCa 76 (d + 20) [.ref m] (mput h m (mHd S f K (nI a) (-1) (nI 0))) = some (.inl (some (.int (hr t (skp t a)))), mput h m (mHd S f K (nI (skp t a)) (-1) (nI 0))) := fun K a ha => by rw [kX3_look (d := d + 19) (mHd_MT hT) hm8 ha, hw8]
  have hbad : ∀ (K : Hd) (a : Nat), pCa 78 (d + 20) [.ref m] (mput h m (mHd S f K (nI a) (-1) (nI 0))) = some (.inl none, mput h m (mHd S f K (nI a) (nI a) (nI 0))) := fun K a => by rw [kX3_bad hm9, hm8, hw9]
  have hout : ∀ (K : Hd) (a' dp' : Int32) (w : Nat), w < 1000 → pR 74 (d + 21) 80 [.ref m, .int (nI f), q2] [] (mput h m (mHd S f K a' (nI w) dp')) = some (.inl (some (.int (nI w))), mput h m (mHd S f K a' (nI w) dp')) := fun K a' dp' w hw => by
    rw [rX3_readFigure_80]
    simp (disch := first | assumption | omega | decide) only [pis_i, pis_l, pis_r, pis_n, p1_i, p1_r, p1_n, p1_u, pw0, pw1, pw2, pw3, pw4, pK_v, pK_0, pK_ite, if_true, if_false, if_pos, if_neg, Nat.reduceAdd, pok_r, i10, i01, Bool.true_or, Bool.or_true, Bool.and_true, Bool.true_and, Nat.add_sub_cancel, i1p1, i1p0, i0p1, i0p0, nIrem2, va_rf_s, bit1, bit0, pinT, pinLT, pin0, nIc, nIcL, nIlt, nIeq, nIltL, nILlt, nIeqL, nILeq, nIadL, nILad, nILmu, nI_add, nIsbL, nI_sub', decide_true, decide_false, Bool.false_or, Bool.or_false, rX3_readFigure_81, rX3_readFigure_84, rX3_readFigure_85, rX3_readFigure_128, rX3_readFigure_129, rX3_readFigure_132, rX3_readFigure_133, rX3_readFigure_136, rX3_readFigure_137, rX3_readFigure_140, rX3_readFigure_141, rX3_readFigure_144, rX3_readFigure_145, rX3_readFigure_148, rX3_readFigure_149, rX3_readFigure_152, rX3_readFigure_153, rX3_readFigure_156, rX3_readFigure_157, rX3_readFigure_160, rX3_readFigure_161, rX3_readFigure_164, mCl, mF0, mP0, mF1, mF2, mF3, mF4, mF5, mP5, mF6, mF7, mP7, mF8, mP8, mF9, mP9, mF10, mP10, mF11, mF12, mF13, mF14, mF15, mF16, mF17, mF18, mF19, mF20, mP20, mF21, mF22, mF23, mP23, mF24, mP24, mF25, mP25, mF26, mF27, mF28, mF29, mF30, mF31, mP31, mF32, mP32, mF33, mP33, mF34, mF35, mF36, mF37, mF38, mF39, mF40, mF41, mF42, mF43, mF44, mF45, mP45, mF46, mP46, mF47, mP47, mF48, mP48, mF49, mF50, mF51, mP51, mL1, mL1n, mC1, mW1, mL2, mL2n, mC2, mW2, mL3, mL3n, mC3, mW3, mL4, mL4n, mC4, mW4, mL5, mL5n, mC5, mW5, mL6, mL6n, mC6, mW6, mL7, mL7n, mC7, mW7, mL8, mL8n, mC8, mW8, mL9, mL9n, mC9, mW9, mL10, mL10n, mC10, mW10, mL11, mL11n, mC11, mW11, mL12, mL12n, mC12, mW12, mL13, mL13n, mC13, mW13, mL14, mL14n, mC14, mW14, mL15, mL15n, mC15, mW15, mL16, mL16n, mC16, mW16, mL17, mL17n, mC17, mW17, mL18, mL18n, mC18, mW18, mL19, mL19n, mC19, mW19, mL20, mL20n, mC20, mW20, mL21, mL21n, mC21, mW21, mL23, mL23n, mC23, mW23, mL24, mL24n, mC24, mW24, mL25, mL25n, mC25, mW25, mL26, mL26n, mC26, mW26, mL27, mL27n, mC27, mW27, mL28, mL28n, mC28, mW28, mL29, mL29n, mC29, mW29, mL30, mL30n, mC30, mW30, mL31, mL31n, mC31, mW31, mL32, mL32n, mC32, mW32, mL33, mL33n, mC33, mW33, mL34, mL34n, mC34, mW34, mL22, mC22, mW22, hm9, nIm1]
  intro n
  induction n with
  | zero => intro p H _ _ hn; omega
  | succ n ih =>
    intro p H hk hp hn
    have s1 := skp_le (t := t) (a := p)
    have s2 := skp_t hp
    have hnl := hk.k.l
    rw [pbrest]
    by_cases h1 : isC t (skp t p) 47 = true
    · rw [if_pos h1]
      have h2 := isC_lt h1
      by_cases h3 : H.nl < 6
      · rw [if_pos h3]
        have hb := kX3_balloon (d := d) (m := m) (h := h) (p := skp t p + 1) hT hf hN hN6 hk h3 (by omega)
        have hko := pbal_ok (t := t) (N := N) (p := skp t p + 1) (bu := H.nb) (by omega) hk.k.b
        have go : pR 74 (d + 21) 80 [.ref m, .int (nI f), q2] [] (mput h m (mHd S f H (nI p) (-1) (nI 0))) = pK 74 (d + 21) 122 3 [.ref m, .int (nI f), q2] [] (pCa 75 (d + 20) [.ref m] (mput h m (mHd S f H (nI (skp t p + 1)) (-1) (nI 0)))) := by
          rw [rX3_readFigure_80]
          simp (disch := first | assumption | omega | decide) only [pis_i, pis_l, pis_r, pis_n, p1_i, p1_r, p1_n, p1_u, pw0, pw1, pw2, pw3, pw4, pK_v, pK_0, pK_ite, if_true, if_false, if_pos, if_neg, Nat.reduceAdd, pok_r, i10, i01, Bool.true_or, Bool.or_true, Bool.and_true, Bool.true_and, Nat.add_sub_cancel, i1p1, i1p0, i0p1, i0p0, nIrem2, va_rf_s, bit1, bit0, pinT, pinLT, pin0, nIc, nIcL, nIlt, nIeq, nIltL, nILlt, nIeqL, nILeq, nIadL, nILad, nILmu, nI_add, nIsbL, nI_sub', decide_true, decide_false, Bool.false_or, Bool.or_false, rX3_readFigure_81, rX3_readFigure_84, rX3_readFigure_85, rX3_readFigure_88, rX3_readFigure_89, rX3_readFigure_92, rX3_readFigure_94, rX3_readFigure_97, rX3_readFigure_98, rX3_readFigure_101, rX3_readFigure_102, rX3_readFigure_105, rX3_readFigure_106, rX3_readFigure_108, rX3_readFigure_111, rX3_readFigure_112, rX3_readFigure_112i, rX3_readFigure_113, rX3_readFigure_116, rX3_readFigure_117, rX3_readFigure_118, rX3_readFigure_121, rX3_readFigure_122, mCl, mF0, mP0, mF1, mF2, mF3, mF4, mF5, mP5, mF6, mF7, mP7, mF8, mP8, mF9, mP9, mF10, mP10, mF11, mF12, mF13, mF14, mF15, mF16, mF17, mF18, mF19, mF20, mP20, mF21, mF22, mF23, mP23, mF24, mP24, mF25, mP25, mF26, mF27, mF28, mF29, mF30, mF31, mP31, mF32, mP32, mF33, mP33, mF34, mF35, mF36, mF37, mF38, mF39, mF40, mF41, mF42, mF43, mF44, mF45, mP45, mF46, mP46, mF47, mP47, mF48, mP48, mF49, mF50, mF51, mP51, mL1, mL1n, mC1, mW1, mL2, mL2n, mC2, mW2, mL3, mL3n, mC3, mW3, mL4, mL4n, mC4, mW4, mL5, mL5n, mC5, mW5, mL6, mL6n, mC6, mW6, mL7, mL7n, mC7, mW7, mL8, mL8n, mC8, mW8, mL9, mL9n, mC9, mW9, mL10, mL10n, mC10, mW10, mL11, mL11n, mC11, mW11, mL12, mL12n, mC12, mW12, mL13, mL13n, mC13, mW13, mL14, mL14n, mC14, mW14, mL15, mL15n, mC15, mW15, mL16, mL16n, mC16, mW16, mL17, mL17n, mC17, mW17, mL18, mL18n, mC18, mW18, mL19, mL19n, mC19, mW19, mL20, mL20n, mC20, mW20, mL21, mL21n, mC21, mW21, mL23, mL23n, mC23, mW23, mL24, mL24n, mC24, mW24, mL25, mL25n, mC25, mW25, mL26, mL26n, mC26, mW26, mL27, mL27n, mC27, mW27, mL28, mL28n, mC28, mW28, mL29, mL29n, mC29, mW29, mL30, mL30n, mC30, mW30, mL31, mL31n, mC31, mW31, mL32, mL32n, mC32, mW32, mL33, mL33n, mC33, mW33, mL34, mL34n, mC34, mW34, mL22, mC22, mW22, hm9, hlk, hr_eq ht, h1, hm25, hmL, hm8, hw8]
        rw [go]
        generalize pbal t N (skp t p + 1) H.nb = z at hb hko
        match z, hb, hko with
        | .inl w, ⟨H', a', dp', q1⟩, hw =>
          have hw : w ≤ t.1 := hw
          refine ⟨H', a', dp', ?_⟩
          rw [q1]
          simp (disch := first | assumption | omega | decide) only [pis_i, pis_l, pis_r, pis_n, p1_i, p1_r, p1_n, p1_u, pw0, pw1, pw2, pw3, pw4, pK_v, pK_0, pK_ite, if_true, if_false, if_pos, if_neg, Nat.reduceAdd, pok_r, i10, i01, Bool.true_or, Bool.or_true, Bool.and_true, Bool.true_and, rX3_readFigure_122, rX3_readFigure_125]
          exact hout _ _ _ _ (by omega)
        | .inr (x, q, b), q1, ⟨k1, k2, k3, k4, k5⟩ =>
          obtain ⟨r1, r2, r3⟩ := Nd_B (N := N) k5 hk h3 (by omega)
          have hi := ih q (x.x H) r1 k2 (by omega)
          have q1 : pCa 75 (d + 20) [.ref m] (mput h m (mHd S f H (nI (skp t p + 1)) (-1) (nI 0))) = some (.inl none, mput h m (mHd S f (x.x H) (nI q) (-1) (nI 0))) := q1
          rw [q1]
          have go2 : pK 74 (d + 21) 122 3 [.ref m, .int (nI f), q2] [] (some (.inl none, mput h m (mHd S f (x.x H) (nI q) (-1) (nI 0)))) = pR 74 (d + 21) 80 [.ref m, .int (nI f), q2] [] (mput h m (mHd S f (x.x H) (nI q) (-1) (nI 0))) := by
            simp (disch := first | assumption | omega | decide) only [pis_i, pis_l, pis_r, pis_n, p1_i, p1_r, p1_n, p1_u, pw0, pw1, pw2, pw3, pw4, pK_v, pK_0, pK_ite, if_true, if_false, if_pos, if_neg, Nat.reduceAdd, pok_r, i10, i01, Bool.true_or, Bool.or_true, Bool.and_true, Bool.true_and, rX3_readFigure_122, rX3_readFigure_125]
          rw [go2]
          show (match consR x (pbrest t N n q b (H.nl + 1)) with | .inl w => _ | .inr (c, q, _) => _)
          rw [k3, ← r2, ← r3]
          generalize pbrest t N n q (x.x H).nb (x.x H).nl = y at hi
          match y, hi with
          | .inl w, hi => exact hi
          | .inr (c, q', b'), hi =>
            have ec := ex_c (x := x) (c := c) (H := H)
            show HdB N (ex (x.c c) H) ∧ _
            rw [ec]
            exact hi
      · rw [if_neg h3]
        refine ⟨H, nI (skp t p), nI 0, ?_⟩
        have hm1 : ¬ hr t (skp t p) = -1 := by rw [hr_m1 ht]; omega
        rw [rX3_readFigure_80]
        have hlk2 := hlk H (skp t p) s2
        rw [skp_sk] at hlk2
        simp (disch := first | assumption | omega | decide) only [pis_i, pis_l, pis_r, pis_n, p1_i, p1_r, p1_n, p1_u, pw0, pw1, pw2, pw3, pw4, pK_v, pK_0, pK_ite, if_true, if_false, if_pos, if_neg, Nat.reduceAdd, pok_r, i10, i01, Bool.true_or, Bool.or_true, Bool.and_true, Bool.true_and, Nat.add_sub_cancel, i1p1, i1p0, i0p1, i0p0, nIrem2, va_rf_s, bit1, bit0, pinT, pinLT, pin0, nIc, nIcL, nIlt, nIeq, nIltL, nILlt, nIeqL, nILeq, nIadL, nILad, nILmu, nI_add, nIsbL, nI_sub', decide_true, decide_false, Bool.false_or, Bool.or_false, rX3_readFigure_81, rX3_readFigure_84, rX3_readFigure_85, rX3_readFigure_88, rX3_readFigure_89, rX3_readFigure_92, rX3_readFigure_94, rX3_readFigure_97, rX3_readFigure_98, rX3_readFigure_101, rX3_readFigure_102, rX3_readFigure_105, rX3_readFigure_106, rX3_readFigure_108, rX3_readFigure_128, rX3_readFigure_129, rX3_readFigure_132, rX3_readFigure_133, rX3_readFigure_136, rX3_readFigure_137, rX3_readFigure_140, rX3_readFigure_141, rX3_readFigure_144, rX3_readFigure_145, rX3_readFigure_148, rX3_readFigure_149, rX3_readFigure_152, rX3_readFigure_153, rX3_readFigure_156, rX3_readFigure_157, rX3_readFigure_160, rX3_readFigure_161, rX3_readFigure_164, mCl, mF0, mP0, mF1, mF2, mF3, mF4, mF5, mP5, mF6, mF7, mP7, mF8, mP8, mF9, mP9, mF10, mP10, mF11, mF12, mF13, mF14, mF15, mF16, mF17, mF18, mF19, mF20, mP20, mF21, mF22, mF23, mP23, mF24, mP24, mF25, mP25, mF26, mF27, mF28, mF29, mF30, mF31, mP31, mF32, mP32, mF33, mP33, mF34, mF35, mF36, mF37, mF38, mF39, mF40, mF41, mF42, mF43, mF44, mF45, mP45, mF46, mP46, mF47, mP47, mF48, mP48, mF49, mF50, mF51, mP51, mL1, mL1n, mC1, mW1, mL2, mL2n, mC2, mW2, mL3, mL3n, mC3, mW3, mL4, mL4n, mC4, mW4, mL5, mL5n, mC5, mW5, mL6, mL6n, mC6, mW6, mL7, mL7n, mC7, mW7, mL8, mL8n, mC8, mW8, mL9, mL9n, mC9, mW9, mL10, mL10n, mC10, mW10, mL11, mL11n, mC11, mW11, mL12, mL12n, mC12, mW12, mL13, mL13n, mC13, mW13, mL14, mL14n, mC14, mW14, mL15, mL15n, mC15, mW15, mL16, mL16n, mC16, mW16, mL17, mL17n, mC17, mW17, mL18, mL18n, mC18, mW18, mL19, mL19n, mC19, mW19, mL20, mL20n, mC20, mW20, mL21, mL21n, mC21, mW21, mL23, mL23n, mC23, mW23, mL24, mL24n, mC24, mW24, mL25, mL25n, mC25, mW25, mL26, mL26n, mC26, mW26, mL27, mL27n, mC27, mW27, mL28, mL28n, mC28, mW28, mL29, mL29n, mC29, mW29, mL30, mL30n, mC30, mW30, mL31, mL31n, mC31, mW31, mL32, mL32n, mC32, mW32, mL33, mL33n, mC33, mW33, mL34, mL34n, mC34, mW34, mL22, mC22, mW22, hm9, hlk, skp_sk, hr_eq ht, h1, hm25, hmL, hm1, hbad, nIm1]
    · rw [if_neg h1]
      have hlk2 := hlk H (skp t p) s2
      rw [skp_sk] at hlk2
      by_cases h4 : skp t p < t.1
      · rw [if_pos h4]
        refine ⟨H, nI (skp t p), nI 0, ?_⟩
        have hm1 : ¬ hr t (skp t p) = -1 := by rw [hr_m1 ht]; omega
        rw [rX3_readFigure_80]
        simp (disch := first | assumption | omega | decide) only [pis_i, pis_l, pis_r, pis_n, p1_i, p1_r, p1_n, p1_u, pw0, pw1, pw2, pw3, pw4, pK_v, pK_0, pK_ite, if_true, if_false, if_pos, if_neg, Nat.reduceAdd, pok_r, i10, i01, Bool.true_or, Bool.or_true, Bool.and_true, Bool.true_and, Nat.add_sub_cancel, i1p1, i1p0, i0p1, i0p0, nIrem2, va_rf_s, bit1, bit0, pinT, pinLT, pin0, nIc, nIcL, nIlt, nIeq, nIltL, nILlt, nIeqL, nILeq, nIadL, nILad, nILmu, nI_add, nIsbL, nI_sub', decide_true, decide_false, Bool.false_or, Bool.or_false, rX3_readFigure_81, rX3_readFigure_84, rX3_readFigure_85, rX3_readFigure_88, rX3_readFigure_89, rX3_readFigure_92, rX3_readFigure_94, rX3_readFigure_128, rX3_readFigure_129, rX3_readFigure_132, rX3_readFigure_133, rX3_readFigure_136, rX3_readFigure_137, rX3_readFigure_140, rX3_readFigure_141, rX3_readFigure_144, rX3_readFigure_145, rX3_readFigure_148, rX3_readFigure_149, rX3_readFigure_152, rX3_readFigure_153, rX3_readFigure_156, rX3_readFigure_157, rX3_readFigure_160, rX3_readFigure_161, rX3_readFigure_164, mCl, mF0, mP0, mF1, mF2, mF3, mF4, mF5, mP5, mF6, mF7, mP7, mF8, mP8, mF9, mP9, mF10, mP10, mF11, mF12, mF13, mF14, mF15, mF16, mF17, mF18, mF19, mF20, mP20, mF21, mF22, mF23, mP23, mF24, mP24, mF25, mP25, mF26, mF27, mF28, mF29, mF30, mF31, mP31, mF32, mP32, mF33, mP33, mF34, mF35, mF36, mF37, mF38, mF39, mF40, mF41, mF42, mF43, mF44, mF45, mP45, mF46, mP46, mF47, mP47, mF48, mP48, mF49, mF50, mF51, mP51, mL1, mL1n, mC1, mW1, mL2, mL2n, mC2, mW2, mL3, mL3n, mC3, mW3, mL4, mL4n, mC4, mW4, mL5, mL5n, mC5, mW5, mL6, mL6n, mC6, mW6, mL7, mL7n, mC7, mW7, mL8, mL8n, mC8, mW8, mL9, mL9n, mC9, mW9, mL10, mL10n, mC10, mW10, mL11, mL11n, mC11, mW11, mL12, mL12n, mC12, mW12, mL13, mL13n, mC13, mW13, mL14, mL14n, mC14, mW14, mL15, mL15n, mC15, mW15, mL16, mL16n, mC16, mW16, mL17, mL17n, mC17, mW17, mL18, mL18n, mC18, mW18, mL19, mL19n, mC19, mW19, mL20, mL20n, mC20, mW20, mL21, mL21n, mC21, mW21, mL23, mL23n, mC23, mW23, mL24, mL24n, mC24, mW24, mL25, mL25n, mC25, mW25, mL26, mL26n, mC26, mW26, mL27, mL27n, mC27, mW27, mL28, mL28n, mC28, mW28, mL29, mL29n, mC29, mW29, mL30, mL30n, mC30, mW30, mL31, mL31n, mC31, mW31, mL32, mL32n, mC32, mW32, mL33, mL33n, mC33, mW33, mL34, mL34n, mC34, mW34, mL22, mC22, mW22, hm9, hlk, skp_sk, hr_eq ht, h1, hm1, hbad, nIm1]
      · rw [if_neg h4]
        have hm1 : hr t (skp t p) = -1 := by rw [hr_m1 ht]; omega
        obtain ⟨A, hA⟩ := kX3_numberPoints (d := d + 19) (m := m) (h := h) (f := f) (H := H) (T := mHd S f H (nI (skp t p)) (-1) (nI 0)) (mHd_MHd hf) hm25 hm23 hk.k
        refine ⟨hk, A, ?_⟩
        have e9 : ∀ (b1 b2 n : Nat) (A : Nat → Int32) (a b : Nat → Nat), (mNm (mHd S f H (nI (skp t p)) (-1) (nI 0)) f b1 b2 n A a b).1 9 = -1 := fun _ _ _ _ _ _ => rfl
        rw [rX3_readFigure_80]
        simp (disch := first | assumption | omega | decide) only [pis_i, pis_l, pis_r, pis_n, p1_i, p1_r, p1_n, p1_u, pw0, pw1, pw2, pw3, pw4, pK_v, pK_0, pK_ite, if_true, if_false, if_pos, if_neg, Nat.reduceAdd, pok_r, i10, i01, Bool.true_or, Bool.or_true, Bool.and_true, Bool.true_and, Nat.add_sub_cancel, i1p1, i1p0, i0p1, i0p0, nIrem2, va_rf_s, bit1, bit0, pinT, pinLT, pin0, nIc, nIcL, nIlt, nIeq, nIltL, nILlt, nIeqL, nILeq, nIadL, nILad, nILmu, nI_add, nIsbL, nI_sub', decide_true, decide_false, Bool.false_or, Bool.or_false, rX3_readFigure_81, rX3_readFigure_84, rX3_readFigure_85, rX3_readFigure_88, rX3_readFigure_89, rX3_readFigure_92, rX3_readFigure_94, rX3_readFigure_128, rX3_readFigure_129, rX3_readFigure_132, rX3_readFigure_133, rX3_readFigure_136, rX3_readFigure_137, rX3_readFigure_140, rX3_readFigure_141, rX3_readFigure_144, rX3_readFigure_145, rX3_readFigure_148, rX3_readFigure_149, rX3_readFigure_152, rX3_readFigure_153, rX3_readFigure_156, rX3_readFigure_157, rX3_readFigure_160, rX3_readFigure_161, rX3_readFigure_164, mCl, mF0, mP0, mF1, mF2, mF3, mF4, mF5, mP5, mF6, mF7, mP7, mF8, mP8, mF9, mP9, mF10, mP10, mF11, mF12, mF13, mF14, mF15, mF16, mF17, mF18, mF19, mF20, mP20, mF21, mF22, mF23, mP23, mF24, mP24, mF25, mP25, mF26, mF27, mF28, mF29, mF30, mF31, mP31, mF32, mP32, mF33, mP33, mF34, mF35, mF36, mF37, mF38, mF39, mF40, mF41, mF42, mF43, mF44, mF45, mP45, mF46, mP46, mF47, mP47, mF48, mP48, mF49, mF50, mF51, mP51, mL1, mL1n, mC1, mW1, mL2, mL2n, mC2, mW2, mL3, mL3n, mC3, mW3, mL4, mL4n, mC4, mW4, mL5, mL5n, mC5, mW5, mL6, mL6n, mC6, mW6, mL7, mL7n, mC7, mW7, mL8, mL8n, mC8, mW8, mL9, mL9n, mC9, mW9, mL10, mL10n, mC10, mW10, mL11, mL11n, mC11, mW11, mL12, mL12n, mC12, mW12, mL13, mL13n, mC13, mW13, mL14, mL14n, mC14, mW14, mL15, mL15n, mC15, mW15, mL16, mL16n, mC16, mW16, mL17, mL17n, mC17, mW17, mL18, mL18n, mC18, mW18, mL19, mL19n, mC19, mW19, mL20, mL20n, mC20, mW20, mL21, mL21n, mC21, mW21, mL23, mL23n, mC23, mW23, mL24, mL24n, mC24, mW24, mL25, mL25n, mC25, mW25, mL26, mL26n, mC26, mW26, mL27, mL27n, mC27, mW27, mL28, mL28n, mC28, mW28, mL29, mL29n, mC29, mW29, mL30, mL30n, mC30, mW30, mL31, mL31n, mC31, mW31, mL32, mL32n, mC32, mW32, mL33, mL33n, mC33, mW33, mL34, mL34n, mC34, mW34, mL22, mC22, mW22, hm9, hlk, skp_sk, hr_eq ht, h1, hm1, hA, e9]
        rfl
/-- how the reading begins -/
theorem mrd_0 {n0 : Nat} (h24 : S.1 24 = nI n0) (hf : f < 13) : pCa 74 (d + 21) [.ref m, .int (nI f)] (mput h m S) = pK 74 (d + 21) 77 3 [.ref m, .int (nI f), .int 8] [] (pCa 75 (d + 20) [.ref m] (mput h m (mHd S f (Hdw n0) 0 (-1) 0))) := by
  rw [eX3_readFigure]
  have u25 : ∀ v a b c e : Int32, upd (upd (upd (upd (upd S.1 25 v) 8 a) 9 b) 10 c) 23 e 25 = v := fun v a b c e => by rw [upd_ne (by decide), upd_ne (by decide), upd_ne (by decide), upd_ne (by decide), upd_same]
  simp (disch := first | assumption | omega | decide) only [pis_i, pis_l, pis_r, pis_n, p1_i, p1_r, p1_n, p1_u, pw0, pw1, pw2, pw3, pw4, pK_v, pK_0, pK_ite, if_true, if_false, if_pos, if_neg, Nat.reduceAdd, pok_r, i10, i01, Bool.true_or, Bool.or_true, Bool.and_true, Bool.true_and, Nat.add_sub_cancel, i1p1, i1p0, i0p1, i0p0, nIrem2, va_rf_s, bit1, bit0, pinT, pinLT, pin0, nIc, nIcL, nIlt, nIeq, nIltL, nILlt, nIeqL, nILeq, nIadL, nILad, nILmu, nI_add, nIsbL, nI_sub', decide_true, decide_false, Bool.false_or, Bool.or_false, rX3_readFigure_0, rX3_readFigure_1, rX3_readFigure_2, rX3_readFigure_5, rX3_readFigure_6, rX3_readFigure_7, rX3_readFigure_10, rX3_readFigure_11, rX3_readFigure_12, rX3_readFigure_15, rX3_readFigure_16, rX3_readFigure_17, rX3_readFigure_20, rX3_readFigure_21, rX3_readFigure_22, rX3_readFigure_25, rX3_readFigure_26, rX3_readFigure_29, rX3_readFigure_30, rX3_readFigure_33, rX3_readFigure_34, rX3_readFigure_35, rX3_readFigure_36, rX3_readFigure_39, rX3_readFigure_40, rX3_readFigure_43, rX3_readFigure_44, rX3_readFigure_45, rX3_readFigure_46, rX3_readFigure_49, rX3_readFigure_50, rX3_readFigure_53, rX3_readFigure_54, rX3_readFigure_55, rX3_readFigure_56, mCl, mF0, mP0, mF1, mF2, mF3, mF4, mF5, mP5, mF6, mF7, mP7, mF8, mP8, mF9, mP9, mF10, mP10, mF11, mF12, mF13, mF14, mF15, mF16, mF17, mF18, mF19, mF20, mP20, mF21, mF22, mF23, mP23, mF24, mP24, mF25, mP25, mF26, mF27, mF28, mF29, mF30, mF31, mP31, mF32, mP32, mF33, mP33, mF34, mF35, mF36, mF37, mF38, mF39, mF40, mF41, mF42, mF43, mF44, mF45, mP45, mF46, mP46, mF47, mP47, mF48, mP48, mF49, mF50, mF51, mP51, mL1, mL1n, mC1, mW1, mL2, mL2n, mC2, mW2, mL3, mL3n, mC3, mW3, mL4, mL4n, mC4, mW4, mL5, mL5n, mC5, mW5, mL6, mL6n, mC6, mW6, mL7, mL7n, mC7, mW7, mL8, mL8n, mC8, mW8, mL9, mL9n, mC9, mW9, mL10, mL10n, mC10, mW10, mL11, mL11n, mC11, mW11, mL12, mL12n, mC12, mW12, mL13, mL13n, mC13, mW13, mL14, mL14n, mC14, mW14, mL15, mL15n, mC15, mW15, mL16, mL16n, mC16, mW16, mL17, mL17n, mC17, mW17, mL18, mL18n, mC18, mW18, mL19, mL19n, mC19, mW19, mL20, mL20n, mC20, mW20, mL21, mL21n, mC21, mW21, mL23, mL23n, mC23, mW23, mL24, mL24n, mC24, mW24, mL25, mL25n, mC25, mW25, mL26, mL26n, mC26, mW26, mL27, mL27n, mC27, mW27, mL28, mL28n, mC28, mW28, mL29, mL29n, mC29, mW29, mL30, mL30n, mC30, mW30, mL31, mL31n, mC31, mW31, mL32, mL32n, mC32, mW32, mL33, mL33n, mC33, mW33, mL34, mL34n, mC34, mW34, mL22, mC22, mW22, u25]
  let A0 : Nat → Nat → Int32 := ua (ua (ua S.2.1 6 f 0) 8 f 0) 14 f 0
  let I0 : Nat → Int32 := upd (upd (upd (upd (upd S.1 25 (nI f)) 8 0) 9 (-1)) 10 0) 23 0
  have e0 : mput h m (I0, A0, S.2.2) = mput h m (I0, us A0 16 (rg (S.2.1 16) 0 0 (fun k => -1)), S.2.2) := by
    rw [rg_0]
    have : us A0 16 (S.2.1 16) = A0 := by
      have : A0 16 = S.2.1 16 := by show ua _ 14 f 0 16 = _; rw [ua_o (by decide), ua_o (by decide), ua_o (by decide)]
      rw [← this, us_id]
    rw [this]
  show pR 74 (d + 21) 57 [.ref m, .int (nI f), .int 0] [] (mput h m (I0, A0, S.2.2)) = _
  rw [e0]
  refine loopN (N := 8) (P := fun b => pR 74 (d + 21) 57 [.ref m, .int (nI f), .int (nI b)] [] (mput h m (I0, us A0 16 (rg (S.2.1 16) 0 b (fun k => -1)), S.2.2))) (fun b hb R hR => ?_) ?_ 0 (Nat.zero_le _)
  · have er : upd (rg (S.2.1 16) 0 b (fun k => -1)) b (-1) = rg (S.2.1 16) 0 (b + 1) (fun k => -1) := by
      have := rg_push (A := S.2.1 16) (B := fun _ => -1) (b := 0) (n := b) (v := -1) rfl
      rwa [Nat.zero_add] at this
    rw [rX3_readFigure_57]
    simp (disch := first | assumption | omega | decide) only [pis_i, pis_l, pis_r, pis_n, p1_i, p1_r, p1_n, p1_u, pw0, pw1, pw2, pw3, pw4, pK_v, pK_0, pK_ite, if_true, if_false, if_pos, if_neg, Nat.reduceAdd, pok_r, i10, i01, Bool.true_or, Bool.or_true, Bool.and_true, Bool.true_and, Nat.add_sub_cancel, i1p1, i1p0, i0p1, i0p0, nIrem2, va_rf_s, bit1, bit0, pinT, pinLT, pin0, nIc, nIcL, nIlt, nIeq, nIltL, nILlt, nIeqL, nILeq, nIadL, nILad, nILmu, nI_add, nIsbL, nI_sub', decide_true, decide_false, Bool.false_or, Bool.or_false, rX3_readFigure_58, rX3_readFigure_60, rX3_readFigure_63, rX3_readFigure_64, rX3_readFigure_67, rX3_readFigure_68, rX3_readFigure_69, rX3_readFigure_70, rX3_readFigure_73, mCl, mF0, mP0, mF1, mF2, mF3, mF4, mF5, mP5, mF6, mF7, mP7, mF8, mP8, mF9, mP9, mF10, mP10, mF11, mF12, mF13, mF14, mF15, mF16, mF17, mF18, mF19, mF20, mP20, mF21, mF22, mF23, mP23, mF24, mP24, mF25, mP25, mF26, mF27, mF28, mF29, mF30, mF31, mP31, mF32, mP32, mF33, mP33, mF34, mF35, mF36, mF37, mF38, mF39, mF40, mF41, mF42, mF43, mF44, mF45, mP45, mF46, mP46, mF47, mP47, mF48, mP48, mF49, mF50, mF51, mP51, mL1, mL1n, mC1, mW1, mL2, mL2n, mC2, mW2, mL3, mL3n, mC3, mW3, mL4, mL4n, mC4, mW4, mL5, mL5n, mC5, mW5, mL6, mL6n, mC6, mW6, mL7, mL7n, mC7, mW7, mL8, mL8n, mC8, mW8, mL9, mL9n, mC9, mW9, mL10, mL10n, mC10, mW10, mL11, mL11n, mC11, mW11, mL12, mL12n, mC12, mW12, mL13, mL13n, mC13, mW13, mL14, mL14n, mC14, mW14, mL15, mL15n, mC15, mW15, mL16, mL16n, mC16, mW16, mL17, mL17n, mC17, mW17, mL18, mL18n, mC18, mW18, mL19, mL19n, mC19, mW19, mL20, mL20n, mC20, mW20, mL21, mL21n, mC21, mW21, mL23, mL23n, mC23, mW23, mL24, mL24n, mC24, mW24, mL25, mL25n, mC25, mW25, mL26, mL26n, mC26, mW26, mL27, mL27n, mC27, mW27, mL28, mL28n, mC28, mW28, mL29, mL29n, mC29, mW29, mL30, mL30n, mC30, mW30, mL31, mL31n, mC31, mW31, mL32, mL32n, mC32, mW32, mL33, mL33n, mC33, mW33, mL34, mL34n, mC34, mW34, mL22, mC22, mW22, us_ua, er]
    exact hR
  · rw [rX3_readFigure_57]
    simp (disch := first | assumption | omega | decide) only [pis_i, pis_l, pis_r, pis_n, p1_i, p1_r, p1_n, p1_u, pw0, pw1, pw2, pw3, pw4, pK_v, pK_0, pK_ite, if_true, if_false, if_pos, if_neg, Nat.reduceAdd, pok_r, i10, i01, Bool.true_or, Bool.or_true, Bool.and_true, Bool.true_and, Nat.add_sub_cancel, i1p1, i1p0, i0p1, i0p0, nIrem2, va_rf_s, bit1, bit0, pinT, pinLT, pin0, nIc, nIcL, nIlt, nIeq, nIltL, nILlt, nIeqL, nILeq, nIadL, nILad, nILmu, nI_add, nIsbL, nI_sub', decide_true, decide_false, Bool.false_or, Bool.or_false, rX3_readFigure_58, rX3_readFigure_60, rX3_readFigure_63, rX3_readFigure_64, rX3_readFigure_67, rX3_readFigure_68, rX3_readFigure_69, rX3_readFigure_70, rX3_readFigure_73, rX3_readFigure_76, rX3_readFigure_77, mCl, mF0, mP0, mF1, mF2, mF3, mF4, mF5, mP5, mF6, mF7, mP7, mF8, mP8, mF9, mP9, mF10, mP10, mF11, mF12, mF13, mF14, mF15, mF16, mF17, mF18, mF19, mF20, mP20, mF21, mF22, mF23, mP23, mF24, mP24, mF25, mP25, mF26, mF27, mF28, mF29, mF30, mF31, mP31, mF32, mP32, mF33, mP33, mF34, mF35, mF36, mF37, mF38, mF39, mF40, mF41, mF42, mF43, mF44, mF45, mP45, mF46, mP46, mF47, mP47, mF48, mP48, mF49, mF50, mF51, mP51, mL1, mL1n, mC1, mW1, mL2, mL2n, mC2, mW2, mL3, mL3n, mC3, mW3, mL4, mL4n, mC4, mW4, mL5, mL5n, mC5, mW5, mL6, mL6n, mC6, mW6, mL7, mL7n, mC7, mW7, mL8, mL8n, mC8, mW8, mL9, mL9n, mC9, mW9, mL10, mL10n, mC10, mW10, mL11, mL11n, mC11, mW11, mL12, mL12n, mC12, mW12, mL13, mL13n, mC13, mW13, mL14, mL14n, mC14, mW14, mL15, mL15n, mC15, mW15, mL16, mL16n, mC16, mW16, mL17, mL17n, mC17, mW17, mL18, mL18n, mC18, mW18, mL19, mL19n, mC19, mW19, mL20, mL20n, mC20, mW20, mL21, mL21n, mC21, mW21, mL23, mL23n, mC23, mW23, mL24, mL24n, mC24, mW24, mL25, mL25n, mC25, mW25, mL26, mL26n, mC26, mW26, mL27, mL27n, mC27, mW27, mL28, mL28n, mC28, mW28, mL29, mL29n, mC29, mW29, mL30, mL30n, mC30, mW30, mL31, mL31n, mC31, mW31, mL32, mL32n, mC32, mW32, mL33, mL33n, mC33, mW33, mL34, mL34n, mC34, mW34, mL22, mC22, mW22]
    have ef : ((I0, us A0 16 (rg (S.2.1 16) 0 8 (fun k => -1)), S.2.2) : MS) = mHd S f (Hdw n0) 0 (-1) 0 := by
      refine Prod.ext ?_ (Prod.ext ?_ rfl)
      · funext k
        show upd (upd (upd (upd (upd S.1 25 (nI f)) 8 0) 9 (-1)) 10 0) 23 0 k = _
        unfold upd
        by_cases e8 : k = 8
        · subst e8; rfl
        by_cases e9 : k = 9
        · subst e9; rfl
        by_cases e10 : k = 10
        · subst e10; rfl
        by_cases e23 : k = 23
        · subst e23; rfl
        by_cases e24 : k = 24
        · subst e24; exact h24
        by_cases e25 : k = 25
        · subst e25; rfl
        simp [mHd, e8, e9, e10, e23, e24, e25]
      · funext j
        show us (ua (ua (ua S.2.1 6 f 0) 8 f 0) 14 f 0) 16 (rg (S.2.1 16) 0 8 (fun k => -1)) j = aB S.2.1 f (Hdw n0) j
        by_cases e16 : j = 16
        · subst e16
          rw [us_same]
          exact rg_cong (fun k hk => by show (-1 : Int32) = nO (if k < 8 then none else some 0); rw [if_pos hk]; rfl)
        rw [us_ne e16]
        by_cases e14 : j = 14
        · subst e14; rw [ua_j, ua_o (by decide), ua_o (by decide)]; rfl
        rw [ua_o e14]
        by_cases e8 : j = 8
        · subst e8; rw [ua_j, ua_o (by decide)]; rfl
        rw [ua_o e8]
        by_cases e6 : j = 6
        · subst e6; rw [ua_j]; rfl
        rw [ua_o e6]
        simp only [aB, e16, e14, e8, e6, if_false]
        have z1 : (Hdw n0).nb = 0 := rfl
        have z2 : (Hdw n0).nl = 0 := rfl
        have z3 : (Hdw n0).np = 0 := rfl
        simp only [z1, z2, z3, rg_0]
        by_cases e7 : j = 7
        · subst e7; rfl
        by_cases e10 : j = 10
        · subst e10; rfl
        by_cases e11 : j = 11
        · subst e11; rfl
        by_cases e12 : j = 12
        · subst e12; rfl
        by_cases e13 : j = 13
        · subst e13; rfl
        by_cases e15 : j = 15
        · subst e15; rfl
        simp [e7, e10, e11, e12, e13, e15]
    rw [ef]
    rfl
theorem m_readFigure (hT : MT S t) (hf : f < 13) (hN : S.1 5 = nI N) (hN6 : N ≤ 6) : (match pfig t N with
    | .inl w => ∃ S', pCa 74 (d + 21) [.ref m, .int (nI f)] (mput h m S) = some (.inl (some (.int (nI w))), mput h m S') ∧ mfg S S' f ∧ w ≤ 200
    | .inr (c, _, _) => ∃ S', pCa 74 (d + 21) [.ref m, .int (nI f)] (mput h m S) = some (.inl (some (.int (-1))), mput h m S') ∧ mfg S S' f ∧ MFig S' f (figOf (ex c Hd0))) := by
  have ht1 := hT.k.1
  obtain ⟨n0, h24⟩ := nI_surj (S.1 24)
  rw [mrd_0 h24 hf]
  have hk0 : HdB N (Hdw n0) := by
    obtain ⟨⟨a1, a2, a3, a4, a5, a6, a7⟩, b1, b2, b3, b4⟩ := HdB_0 (N := N)
    exact ⟨⟨a1, a2, a3, a4, a5, a6, a7⟩, b1, b2, b3, b4⟩
  have hb := kX3_balloon (d := d) (m := m) (h := h) (p := 0) (H := (Hdw n0)) hT hf hN hN6 hk0 (by show 0 < 6; decide) (Nat.zero_le _)
  have hko := pbal_ok (t := t) (N := N) (p := 0) (bu := 0) (Nat.zero_le _) (by decide)
  have hpo := pfig_ok (t := t) (N := N) (Nat.zero_le _)
  have hb : (match pbal t N 0 0 with | .inl w => _ | .inr (x, q, _) => _) := hb
  unfold pfig at hpo ⊢
  generalize pbal t N 0 0 = z at hb hko hpo
  match z, hb, hko, hpo with
  | .inl w, ⟨H', a', dp', q1⟩, hw, _ =>
    have hw : w ≤ t.1 := hw
    refine ⟨mHd S f H' a' (nI w) dp', ?_, mfg_H, by omega⟩
    have q1 : pCa 75 (d + 20) [.ref m] (mput h m (mHd S f (Hdw n0) 0 (-1) 0)) = some (.inl none, mput h m (mHd S f H' a' (nI w) dp')) := q1
    rw [q1]
    simp (disch := first | assumption | omega | decide) only [pis_i, pis_l, pis_r, pis_n, p1_i, p1_r, p1_n, p1_u, pw0, pw1, pw2, pw3, pw4, pK_v, pK_0, pK_ite, if_true, if_false, if_pos, if_neg, Nat.reduceAdd, pok_r, i10, i01, Bool.true_or, Bool.or_true, Bool.and_true, Bool.true_and, rX3_readFigure_77]
    rw [rX3_readFigure_80]
    simp (disch := first | assumption | omega | decide) only [pis_i, pis_l, pis_r, pis_n, p1_i, p1_r, p1_n, p1_u, pw0, pw1, pw2, pw3, pw4, pK_v, pK_0, pK_ite, if_true, if_false, if_pos, if_neg, Nat.reduceAdd, pok_r, i10, i01, Bool.true_or, Bool.or_true, Bool.and_true, Bool.true_and, Nat.add_sub_cancel, i1p1, i1p0, i0p1, i0p0, nIrem2, va_rf_s, bit1, bit0, pinT, pinLT, pin0, nIc, nIcL, nIlt, nIeq, nIltL, nILlt, nIeqL, nILeq, nIadL, nILad, nILmu, nI_add, nIsbL, nI_sub', decide_true, decide_false, Bool.false_or, Bool.or_false, rX3_readFigure_81, rX3_readFigure_84, rX3_readFigure_85, rX3_readFigure_128, rX3_readFigure_129, rX3_readFigure_132, rX3_readFigure_133, rX3_readFigure_136, rX3_readFigure_137, rX3_readFigure_140, rX3_readFigure_141, rX3_readFigure_144, rX3_readFigure_145, rX3_readFigure_148, rX3_readFigure_149, rX3_readFigure_152, rX3_readFigure_153, rX3_readFigure_156, rX3_readFigure_157, rX3_readFigure_160, rX3_readFigure_161, rX3_readFigure_164, mCl, mF0, mP0, mF1, mF2, mF3, mF4, mF5, mP5, mF6, mF7, mP7, mF8, mP8, mF9, mP9, mF10, mP10, mF11, mF12, mF13, mF14, mF15, mF16, mF17, mF18, mF19, mF20, mP20, mF21, mF22, mF23, mP23, mF24, mP24, mF25, mP25, mF26, mF27, mF28, mF29, mF30, mF31, mP31, mF32, mP32, mF33, mP33, mF34, mF35, mF36, mF37, mF38, mF39, mF40, mF41, mF42, mF43, mF44, mF45, mP45, mF46, mP46, mF47, mP47, mF48, mP48, mF49, mF50, mF51, mP51, mL1, mL1n, mC1, mW1, mL2, mL2n, mC2, mW2, mL3, mL3n, mC3, mW3, mL4, mL4n, mC4, mW4, mL5, mL5n, mC5, mW5, mL6, mL6n, mC6, mW6, mL7, mL7n, mC7, mW7, mL8, mL8n, mC8, mW8, mL9, mL9n, mC9, mW9, mL10, mL10n, mC10, mW10, mL11, mL11n, mC11, mW11, mL12, mL12n, mC12, mW12, mL13, mL13n, mC13, mW13, mL14, mL14n, mC14, mW14, mL15, mL15n, mC15, mW15, mL16, mL16n, mC16, mW16, mL17, mL17n, mC17, mW17, mL18, mL18n, mC18, mW18, mL19, mL19n, mC19, mW19, mL20, mL20n, mC20, mW20, mL21, mL21n, mC21, mW21, mL23, mL23n, mC23, mW23, mL24, mL24n, mC24, mW24, mL25, mL25n, mC25, mW25, mL26, mL26n, mC26, mW26, mL27, mL27n, mC27, mW27, mL28, mL28n, mC28, mW28, mL29, mL29n, mC29, mW29, mL30, mL30n, mC30, mW30, mL31, mL31n, mC31, mW31, mL32, mL32n, mC32, mW32, mL33, mL33n, mC33, mW33, mL34, mL34n, mC34, mW34, mL22, mC22, mW22, hm9, nIm1]
  | .inr (x, q, b), q1, ⟨k1, k2, k3, k4, k5⟩, hpo =>
    obtain ⟨r1, r2, r3⟩ := Nd_B (N := N) (H := (Hdw n0)) k5 hk0 (by show 0 < 6; decide) (by show 0 + x.b ≤ 24; omega)
    have hi := mrd_l (d := d) (m := m) (h := h) (q2 := .int 8) hT hf hN hN6 rfl 201 q (x.x (Hdw n0)) r1 k2 (by omega)
    have q1 : pCa 75 (d + 20) [.ref m] (mput h m (mHd S f (Hdw n0) 0 (-1) 0)) = some (.inl none, mput h m (mHd S f (x.x (Hdw n0)) (nI q) (-1) (nI 0))) := q1
    rw [q1]
    have go : pK 74 (d + 21) 77 3 [.ref m, .int (nI f), .int 8] [] (some (.inl none, mput h m (mHd S f (x.x (Hdw n0)) (nI q) (-1) (nI 0)))) = pR 74 (d + 21) 80 [.ref m, .int (nI f), .int 8] [] (mput h m (mHd S f (x.x (Hdw n0)) (nI q) (-1) (nI 0))) := by
      simp (disch := first | assumption | omega | decide) only [pis_i, pis_l, pis_r, pis_n, p1_i, p1_r, p1_n, p1_u, pw0, pw1, pw2, pw3, pw4, pK_v, pK_0, pK_ite, if_true, if_false, if_pos, if_neg, Nat.reduceAdd, pok_r, i10, i01, Bool.true_or, Bool.or_true, Bool.and_true, Bool.true_and, rX3_readFigure_77]
    rw [go]
    have ex0 : x.x (Hdw n0) = x.x Hd0 := by
      obtain ⟨s, i, rfl, _, _⟩ := k5
      rfl
    have r2 : (x.x (Hdw n0)).nb = 0 + x.b := r2
    have r3 : (x.x (Hdw n0)).nl = 0 + 1 := r3
    rw [r2, r3, ex0, ← k3] at hi
    rw [ex0]
    have hpo : okW t N 0 0 0 (consR x (pbrest t N 201 q b 1)) := hpo
    show (match consR x (pbrest t N 201 q b 1) with | .inl w => _ | .inr (c, _, _) => _)
    generalize pbrest t N 201 q b 1 = y at hi hpo
    match y, hi, hpo with
    | .inl w, ⟨H', a', dp', hi⟩, hw =>
      have hw : w ≤ t.1 := hw
      exact ⟨_, hi, mfg_H, by omega⟩
    | .inr (c, q', b'), ⟨hB, A, hi⟩, _ =>
      refine ⟨_, hi, mfg_N mfg_H, ?_⟩
      show MFig _ f (figOf (ex (x.c c) Hd0))
      rw [ex_c]
      exact mNm_fig
end
