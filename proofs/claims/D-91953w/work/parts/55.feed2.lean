/-! OPERATIONS 3: feed, both sides -/
set_option maxRecDepth 100000
theorem apN_add {t : Tp} {bs : Nat → Int32} {n : Nat} : ∀ k, apN t bs (n + k) = apN (apN t bs n) (fun i => bs (n + i)) k := by
  intro k
  induction k with
  | zero => rfl
  | succ k ih => rw [← Nat.add_assoc, apN, ih, apN]
theorem apN_cong {t : Tp} {bs bs' : Nat → Int32} : ∀ {n}, (∀ i, i < n → bs i = bs' i) → apN t bs n = apN t bs' n := by
  intro n
  induction n with
  | zero => intro _; rfl
  | succ n ih => intro h; rw [apN, apN, ih (fun i hi => h i (by omega)), h n (by omega)]
section
variable {d m x n : Nat} {h : pH} {S : MS} {X : XS} {a b c e f v : Int32}
theorem b20_0 : ∀ i, i < 4 → b20 a b c e f i = byt a i := by
  intro i hi; simp only [b20, if_pos hi, Nat.mod_eq_of_lt hi]
theorem b20_1 : ∀ i, i < 4 → b20 a b c e f (4 + i) = byt b i := by
  intro i hi; simp only [b20, if_neg (show ¬ 4 + i < 4 by omega), if_pos (show 4 + i < 8 by omega), show (4 + i) % 4 = i by omega]
theorem b20_2 : ∀ i, i < 4 → b20 a b c e f (4 + 4 + i) = byt c i := by
  intro i hi; simp only [b20, if_neg (show ¬ 4 + 4 + i < 4 by omega), if_neg (show ¬ 4 + 4 + i < 8 by omega), if_pos (show 4 + 4 + i < 12 by omega), show (4 + 4 + i) % 4 = i by omega]
theorem b20_3 : ∀ i, i < 4 → b20 a b c e f (4 + 4 + 4 + i) = byt e i := by
  intro i hi; simp only [b20, if_neg (show ¬ 4 + 4 + 4 + i < 4 by omega), if_neg (show ¬ 4 + 4 + 4 + i < 8 by omega), if_neg (show ¬ 4 + 4 + 4 + i < 12 by omega), if_pos (show 4 + 4 + 4 + i < 16 by omega), show (4 + 4 + 4 + i) % 4 = i by omega]
theorem b20_4 : ∀ i, i < 4 → b20 a b c e f (4 + 4 + 4 + 4 + i) = byt f i := by
  intro i hi; simp only [b20, if_neg (show ¬ 4 + 4 + 4 + 4 + i < 4 by omega), if_neg (show ¬ 4 + 4 + 4 + 4 + i < 8 by omega), if_neg (show ¬ 4 + 4 + 4 + 4 + i < 12 by omega), if_neg (show ¬ 4 + 4 + 4 + 4 + i < 16 by omega), show (4 + 4 + 4 + 4 + i) % 4 = i by omega]
theorem ap20 {t : Tp} : apN t (b20 a b c e f) 20 = apN (apN (apN (apN (apN t (byt a) 4) (byt b) 4) (byt c) 4) (byt e) 4) (byt f) 4 := by
  rw [show 20 = 4 + 4 + 4 + 4 + 4 from rfl, apN_add, apN_cong (n := 4) b20_4, apN_add, apN_cong (n := 4) b20_3, apN_add, apN_cong (n := 4) b20_2, apN_add, apN_cong (n := 4) b20_1, apN_cong (n := 4) b20_0]
theorem ct_cong {p q : Nat → Int32} {n : Nat} (h : ∀ i, i < n → p i = q i) : fb_ct (nz p) n = fb_ct (nz q) n := fb_ct_cong (fun k hk => by simp only [nz, h k hk])
theorem ct20 : fb_ct (nz (b20 a b c e f)) 20 = fb_ct (nz (byt a)) 4 + fb_ct (nz (byt b)) 4 + fb_ct (nz (byt c)) 4 + fb_ct (nz (byt e)) 4 + fb_ct (nz (byt f)) 4 := by
  rw [show 20 = 4 + 4 + 4 + 4 + 4 from rfl, fb_ct_split, fb_ct_split, fb_ct_split, fb_ct_split]
  have h4 := ct_cong (n := 4) (b20_4 (a := a) (b := b) (c := c) (e := e) (f := f))
  have h3 := ct_cong (n := 4) (b20_3 (a := a) (b := b) (c := c) (e := e) (f := f))
  have h2 := ct_cong (n := 4) (b20_2 (a := a) (b := b) (c := c) (e := e) (f := f))
  have h1 := ct_cong (n := 4) (b20_1 (a := a) (b := b) (c := c) (e := e) (f := f))
  have h0 := ct_cong (n := 4) (b20_0 (a := a) (b := b) (c := c) (e := e) (f := f))
  rw [← h4, ← h3, ← h2, ← h1, ← h0]
  rfl
/-- frame of feed on the component -/
def xfr (X X' : XS) : Prop := (∀ k, k ≠ 3 → X'.1 k = X.1 k) ∧ (∀ j, j ≠ 2 → X'.2.1 j = X.2.1 j) ∧ X'.2.2 = X.2.2
theorem xfr.tr {X X' X'' : XS} (h1 : xfr X X') (h2 : xfr X' X'') : xfr X X'' := ⟨fun k hk => (h2.1 k hk).trans (h1.1 k hk), fun j hj => (h2.2.1 j hj).trans (h1.2.1 j hj), h2.2.2.trans h1.2.2⟩
theorem x_feed {t : Tp} (hX : XTp X t) (hl : t.1 + fb_ct (nz (b20 a b c e f)) 20 ≤ 200) : ∃ X', pCa 7 (d + 1) [.ref x, .int a, .int b, .int c, .int e, .int f] (xput h x X) = some (.inl (some (.int (nI (apN t (b20 a b c e f) 20).1))), xput h x X') ∧ XTp X' (apN t (b20 a b c e f) 20) ∧ xfr X X' := by
  rw [ct20] at hl
  rw [ap20]
  have e1 := apN_1 (t := t) (bs := byt a) 4
  have k1 := xbr_ok (v := a) hX 4
  have e2 := apN_1 (t := apN t (byt a) 4) (bs := byt b) 4
  have k2 := xbr_ok (v := b) k1 4
  have e3 := apN_1 (t := apN (apN t (byt a) 4) (byt b) 4) (bs := byt c) 4
  have k3 := xbr_ok (v := c) k2 4
  have e4 := apN_1 (t := apN (apN (apN t (byt a) 4) (byt b) 4) (byt c) 4) (bs := byt e) 4
  have k4 := xbr_ok (v := e) k3 4
  have e5 := apN_1 (t := apN (apN (apN (apN t (byt a) 4) (byt b) 4) (byt c) 4) (byt e) 4) (bs := byt f) 4
  have k5 := xbr_ok (v := f) k4 4
  refine ⟨_, ?_, k5, (((xfr.tr (xbr_fr 4) (xbr_fr 4)).tr (xbr_fr 4)).tr (xbr_fr 4)).tr (xbr_fr 4)⟩
  have hs := hX.1
  have ca := fb_ct_le (nz (byt a)) 4
  have cb := fb_ct_le (nz (byt b)) 4
  have cc := fb_ct_le (nz (byt c)) 4
  have ce := fb_ct_le (nz (byt e)) 4
  have cf := fb_ct_le (nz (byt f)) 4
  rw [eX1_feed]
  simp (disch := first | omega | decide) only [pis_i, pis_l, pis_r, pis_n, p1_i, p1_r, p1_n, p1_u, pw0, pw1, pw2, pw3, pw4, pK_v, pK_0, pK_ite, if_true, if_false, if_pos, if_neg, Nat.reduceAdd, pok_r, i10, i01, Bool.true_or, Bool.or_true, Bool.and_true, Bool.true_and, Nat.add_sub_cancel, i1p1, i1p0, i0p1, i0p0, nIrem2, va_rf_s, bit1, bit0, pinT, pinLT, pin0, nIc, nIcL, nIlt, nIeq, nIltL, nILlt, nIeqL, nILeq, nIadL, nILad, nILmu, nI_add, nIsbL, nI_sub', decide_true, decide_false, Bool.false_or, Bool.or_false, rX1_feed_0, rX1_feed_1, rX1_feed_4, rX1_feed_5, rX1_feed_8, rX1_feed_9, rX1_feed_10, rX1_feed_13, rX1_feed_14, rX1_feed_16, rX1_feed_19, rX1_feed_20, rX1_feed_22, rX1_feed_25, rX1_feed_26, rX1_feed_28, rX1_feed_29, rX1_feed_32, rX1_feed_34, rX1_feed_35, rX1_feed_38, rX1_feed_41, rX1_feed_42, rX1_feed_43, rX1_feed_44, rX1_feed_45, rX1_feed_48, rX1_feed_49, rX1_feed_50, rX1_feed_53, rX1_feed_54, rX1_feed_55, rX1_feed_58, rX1_feed_59, rX1_feed_61, rX1_feed_64, rX1_feed_65, rX1_feed_67, rX1_feed_70, rX1_feed_71, rX1_feed_74, xCl, xF0, xF1, xP1, xF2, xF3, xP3, xF4, xF5, xP5, xF6, xF7, xF8, xF9, xF10, xF11, xF12, xP12, xF13, xP13, xF14, xP14, xF15, xP15, xF16, xP16, xF17, xP17, xF18, xF19, xF20, xP20, xF21, xF22, xP22, xL2, xL2n, xC2, xW2, xL4, xL4n, xC4, xW4, xL5, xL5n, xC5, xW5, xL6, xL6n, xC6, xW6, xL7, xL7n, xC7, xW7, xL8, xL8n, xC8, xW8, xL12, xL12n, xC12, xW12, xL13, xL13n, xC13, xW13, xL1, xK1, xC1, xW1, xL3, xK3, xC3, xW3, xL9, xK9, xC9, xW9, xL10, xK10, xC10, xW10, xLf, xLc, kX1_bytes, hs, kX1_bring (v := a) hX (by omega), kX1_bring (v := b) k1 (by omega), kX1_bring (v := c) k2 (by omega), kX1_bring (v := e) k3 (by omega), kX1_bring (v := f) k4 (by omega), k5.1]
theorem x_feed_f {t : Tp} (hX : XTp X t) (ht : t.1 ≤ 200) (hl : 200 < t.1 + fb_ct (nz (b20 a b c e f)) 20) : pCa 7 (d + 1) [.ref x, .int a, .int b, .int c, .int e, .int f] (xput h x X) = some (.inl (some (.int (-1))), xput h x X) := by
  rw [ct20] at hl
  have hs := hX.1
  have ca := fb_ct_le (nz (byt a)) 4
  have cb := fb_ct_le (nz (byt b)) 4
  have cc := fb_ct_le (nz (byt c)) 4
  have ce := fb_ct_le (nz (byt e)) 4
  have cf := fb_ct_le (nz (byt f)) 4
  rw [eX1_feed]
  simp (disch := first | omega | decide) only [pis_i, pis_l, pis_r, pis_n, p1_i, p1_r, p1_n, p1_u, pw0, pw1, pw2, pw3, pw4, pK_v, pK_0, pK_ite, if_true, if_false, if_pos, if_neg, Nat.reduceAdd, pok_r, i10, i01, Bool.true_or, Bool.or_true, Bool.and_true, Bool.true_and, Nat.add_sub_cancel, i1p1, i1p0, i0p1, i0p0, nIrem2, va_rf_s, bit1, bit0, pinT, pinLT, pin0, nIc, nIcL, nIlt, nIeq, nIltL, nILlt, nIeqL, nILeq, nIadL, nILad, nILmu, nI_add, nIsbL, nI_sub', decide_true, decide_false, Bool.false_or, Bool.or_false, rX1_feed_0, rX1_feed_1, rX1_feed_4, rX1_feed_5, rX1_feed_8, rX1_feed_9, rX1_feed_10, rX1_feed_13, rX1_feed_14, rX1_feed_16, rX1_feed_19, rX1_feed_20, rX1_feed_22, rX1_feed_25, rX1_feed_26, rX1_feed_28, rX1_feed_29, rX1_feed_32, rX1_feed_34, rX1_feed_35, rX1_feed_38, rX1_feed_41, rX1_feed_42, xCl, xF0, xF1, xP1, xF2, xF3, xP3, xF4, xF5, xP5, xF6, xF7, xF8, xF9, xF10, xF11, xF12, xP12, xF13, xP13, xF14, xP14, xF15, xP15, xF16, xP16, xF17, xP17, xF18, xF19, xF20, xP20, xF21, xF22, xP22, xL2, xL2n, xC2, xW2, xL4, xL4n, xC4, xW4, xL5, xL5n, xC5, xW5, xL6, xL6n, xC6, xW6, xL7, xL7n, xC7, xW7, xL8, xL8n, xC8, xW8, xL12, xL12n, xC12, xW12, xL13, xL13n, xC13, xW13, xL1, xK1, xC1, xW1, xL3, xK3, xC3, xW3, xL9, xK9, xC9, xW9, xL10, xK10, xC10, xW10, xLf, xLc, kX1_bytes, hs]
/-- the model's state when k bytes are laid -/
def mbr (S : MS) (t : Tp) (bs : Nat → Int32) : Nat → MS
  | 0 => S
  | b + 1 => if bs b = 0 then mbr S t bs b else (upd (mbr S t bs b).1 7 (nI ((apN t bs b).1 + 1)), ua (mbr S t bs b).2.1 5 (apN t bs b).1 (bs b), (mbr S t bs b).2.2)
theorem mbr_ok {t : Tp} {bs : Nat → Int32} (hb : ∀ i, ∃ k, k < 256 ∧ bs i = nI k) (hM : MTp S t) : ∀ n, MTp (mbr S t bs n) (apN t bs n) := by
  intro n
  induction n with
  | zero => exact hM
  | succ n ih =>
    rw [mbr, apN]
    by_cases h0 : bs n = 0
    · rw [if_pos h0, ap1, if_pos h0]; exact ih
    · rw [if_neg h0]
      obtain ⟨k, hk, e⟩ := hb n
      exact m_ap hk e h0 ih
def mfr (S S' : MS) : Prop := (∀ k, k ≠ 7 → S'.1 k = S.1 k) ∧ (∀ j, j ≠ 5 → S'.2.1 j = S.2.1 j) ∧ S'.2.2 = S.2.2
theorem mbr_fr {t : Tp} {bs : Nat → Int32} : ∀ n, mfr S (mbr S t bs n) := by
  intro n
  induction n with
  | zero => exact ⟨fun _ _ => rfl, fun _ _ => rfl, rfl⟩
  | succ n ih =>
    rw [mbr]
    by_cases h0 : bs n = 0
    · rw [if_pos h0]; exact ih
    · rw [if_neg h0]
      refine ⟨fun k hk => ?_, fun j hj => ?_, ih.2.2⟩
      · show upd (mbr S t bs n).1 7 _ k = _
        rw [upd_ne hk]; exact ih.1 k hk
      · show ua (mbr S t bs n).2.1 5 _ _ j = _
        simp only [ua, if_neg hj]; exact ih.2.1 j hj
theorem b20_b (i : Nat) : ∃ k, k < 256 ∧ b20 a b c e f i = nI k := and255 _
theorem m_feed_l {t : Tp} {R : Option pO} (hM : MTp S t) (ht : t.1 ≤ 200) (he : pR 70 (d + 1) 44 [.ref m, .int a, .int b, .int c, .int e, .int f, .int (nI (fb_ct (nz (b20 a b c e f)) 20)), .int 20, pU] [] (mput h m S) = R) : pCa 70 (d + 1) [.ref m, .int a, .int b, .int c, .int e, .int f] (mput h m S) = R := by
  rw [eX3_feed]
  simp only [pis_i, pis_l, pis_r, pis_n, p1_i, p1_r, p1_n, p1_u, pw0, pw1, pw2, pw3, pw4, pK_v, pK_0, pK_ite, if_true, if_false, if_pos, if_neg, Nat.reduceAdd, pok_r, i10, i01, Bool.true_or, Bool.or_true, Bool.and_true, Bool.true_and, rX3_feed_0, rX3_feed_1, rX3_feed_3, rX3_feed_4, rX3_feed_8, rX3_feed_10, rX3_feed_13, rX3_feed_15, rX3_feed_16, rX3_feed_17, rX3_feed_18, rX3_feed_20, rX3_feed_22, rX3_feed_24, rX3_feed_27, rX3_feed_30, rX3_feed_31, rX3_feed_34, rX3_feed_35, rX3_feed_36, rX3_feed_38, rX3_feed_41, rX3_feed_44, rX3_feed_45, rX3_feed_48, rX3_feed_50, rX3_feed_51, rX3_feed_54, rX3_feed_57, rX3_feed_58, rX3_feed_59, rX3_feed_60, rX3_feed_64, rX3_feed_66, rX3_feed_69, rX3_feed_70, rX3_feed_71, rX3_feed_72, rX3_feed_74, rX3_feed_76, rX3_feed_78, rX3_feed_81, rX3_feed_83, rX3_feed_85, rX3_feed_88, rX3_feed_89, rX3_feed_92, rX3_feed_93, rX3_feed_96, rX3_feed_98, rX3_feed_99, rX3_feed_100, rX3_feed_100i, rX3_feed_101, rX3_feed_104, rX3_feed_105, rX3_feed_106, rX3_feed_109, rX3_feed_112, rX3_feed_115, rX3_feed_116, rX3_feed_119]
  refine loopN (N := 20) (P := fun k => pR 70 (d + 1) 6 [.ref m, .int a, .int b, .int c, .int e, .int f, .int (nI (fb_ct (nz (b20 a b c e f)) k)), .int (nI k), pU] [] (mput h m S)) (fun k hk R hR => ?_) ?_ 0 (Nat.zero_le _)
  · rw [rX3_feed_6]
    have hby := kX3_byteOf (d := d) (a := a) (b := b) (c := c) (e := e) (f := f) (H := mput h m S) hk
    rw [← b20] at hby
    simp (disch := first | omega | decide) only [pis_i, pis_l, pis_r, pis_n, p1_i, p1_r, p1_n, p1_u, pw0, pw1, pw2, pw3, pw4, pK_v, pK_0, pK_ite, if_true, if_false, if_pos, if_neg, Nat.reduceAdd, pok_r, i10, i01, Bool.true_or, Bool.or_true, Bool.and_true, Bool.true_and, Nat.add_sub_cancel, i1p1, i1p0, i0p1, i0p0, nIrem2, va_rf_s, bit1, bit0, pinT, pinLT, pin0, nIc, nIcL, nIlt, nIeq, nIltL, nILlt, nIeqL, nILeq, nIadL, nILad, nILmu, nI_add, nIsbL, nI_sub', decide_true, decide_false, Bool.false_or, Bool.or_false, rX3_feed_0, rX3_feed_1, rX3_feed_3, rX3_feed_4, rX3_feed_8, rX3_feed_10, rX3_feed_13, rX3_feed_15, rX3_feed_16, rX3_feed_17, rX3_feed_18, rX3_feed_20, rX3_feed_22, rX3_feed_24, rX3_feed_27, rX3_feed_30, rX3_feed_31, rX3_feed_34, rX3_feed_35, rX3_feed_36, rX3_feed_38, rX3_feed_41, rX3_feed_44, rX3_feed_45, rX3_feed_48, rX3_feed_50, rX3_feed_51, rX3_feed_54, rX3_feed_57, rX3_feed_58, rX3_feed_59, rX3_feed_60, rX3_feed_64, rX3_feed_66, rX3_feed_69, rX3_feed_70, rX3_feed_71, rX3_feed_72, rX3_feed_74, rX3_feed_76, rX3_feed_78, rX3_feed_81, rX3_feed_83, rX3_feed_85, rX3_feed_88, rX3_feed_89, rX3_feed_92, rX3_feed_93, rX3_feed_96, rX3_feed_98, rX3_feed_99, rX3_feed_100, rX3_feed_100i, rX3_feed_101, rX3_feed_104, rX3_feed_105, rX3_feed_106, rX3_feed_109, rX3_feed_112, rX3_feed_115, rX3_feed_116, rX3_feed_119, mCl, mF0, mP0, mF1, mF2, mF3, mF4, mF5, mP5, mF6, mF7, mP7, mF8, mP8, mF9, mP9, mF10, mP10, mF11, mF12, mF13, mF14, mF15, mF16, mF17, mF18, mF19, mF20, mP20, mF21, mF22, mF23, mP23, mF24, mP24, mF25, mP25, mF26, mF27, mF28, mF29, mF30, mF31, mP31, mF32, mP32, mF33, mP33, mF34, mF35, mF36, mF37, mF38, mF39, mF40, mF41, mF42, mF43, mF44, mF45, mP45, mF46, mP46, mF47, mP47, mF48, mP48, mF49, mF50, mF51, mP51, mL1, mL1n, mC1, mW1, mL2, mL2n, mC2, mW2, mL3, mL3n, mC3, mW3, mL4, mL4n, mC4, mW4, mL5, mL5n, mC5, mW5, mL6, mL6n, mC6, mW6, mL7, mL7n, mC7, mW7, mL8, mL8n, mC8, mW8, mL9, mL9n, mC9, mW9, mL10, mL10n, mC10, mW10, mL11, mL11n, mC11, mW11, mL12, mL12n, mC12, mW12, mL13, mL13n, mC13, mW13, mL14, mL14n, mC14, mW14, mL15, mL15n, mC15, mW15, mL16, mL16n, mC16, mW16, mL17, mL17n, mC17, mW17, mL18, mL18n, mC18, mW18, mL19, mL19n, mC19, mW19, mL20, mL20n, mC20, mW20, mL21, mL21n, mC21, mW21, mL23, mL23n, mC23, mW23, mL24, mL24n, mC24, mW24, mL25, mL25n, mC25, mW25, mL26, mL26n, mC26, mW26, mL27, mL27n, mC27, mW27, mL28, mL28n, mC28, mW28, mL29, mL29n, mC29, mW29, mL30, mL30n, mC30, mW30, mL31, mL31n, mC31, mW31, mL32, mL32n, mC32, mW32, mL33, mL33n, mC33, mW33, mL34, mL34n, mC34, mW34, mL22, mC22, mW22, hby]
    split <;> (refine Eq.trans ?_ hR; clear hR; rename_i hq; simp [fb_ct_succ, nz, hq])
  · rw [rX3_feed_6]
    simp (disch := first | omega | decide) only [pis_i, pis_l, pis_r, pis_n, p1_i, p1_r, p1_n, p1_u, pw0, pw1, pw2, pw3, pw4, pK_v, pK_0, pK_ite, if_true, if_false, if_pos, if_neg, Nat.reduceAdd, pok_r, i10, i01, Bool.true_or, Bool.or_true, Bool.and_true, Bool.true_and, Nat.add_sub_cancel, i1p1, i1p0, i0p1, i0p0, nIrem2, va_rf_s, bit1, bit0, pinT, pinLT, pin0, nIc, nIcL, nIlt, nIeq, nIltL, nILlt, nIeqL, nILeq, nIadL, nILad, nILmu, nI_add, nIsbL, nI_sub', decide_true, decide_false, Bool.false_or, Bool.or_false, rX3_feed_8, rX3_feed_10, rX3_feed_13, rX3_feed_15, rX3_feed_16, rX3_feed_17, rX3_feed_18, rX3_feed_20, rX3_feed_22, rX3_feed_24, rX3_feed_27, rX3_feed_30, rX3_feed_31, rX3_feed_34, rX3_feed_35, rX3_feed_36, rX3_feed_38, rX3_feed_41, mCl, mF0, mP0, mF1, mF2, mF3, mF4, mF5, mP5, mF6, mF7, mP7, mF8, mP8, mF9, mP9, mF10, mP10, mF11, mF12, mF13, mF14, mF15, mF16, mF17, mF18, mF19, mF20, mP20, mF21, mF22, mF23, mP23, mF24, mP24, mF25, mP25, mF26, mF27, mF28, mF29, mF30, mF31, mP31, mF32, mP32, mF33, mP33, mF34, mF35, mF36, mF37, mF38, mF39, mF40, mF41, mF42, mF43, mF44, mF45, mP45, mF46, mP46, mF47, mP47, mF48, mP48, mF49, mF50, mF51, mP51, mL1, mL1n, mC1, mW1, mL2, mL2n, mC2, mW2, mL3, mL3n, mC3, mW3, mL4, mL4n, mC4, mW4, mL5, mL5n, mC5, mW5, mL6, mL6n, mC6, mW6, mL7, mL7n, mC7, mW7, mL8, mL8n, mC8, mW8, mL9, mL9n, mC9, mW9, mL10, mL10n, mC10, mW10, mL11, mL11n, mC11, mW11, mL12, mL12n, mC12, mW12, mL13, mL13n, mC13, mW13, mL14, mL14n, mC14, mW14, mL15, mL15n, mC15, mW15, mL16, mL16n, mC16, mW16, mL17, mL17n, mC17, mW17, mL18, mL18n, mC18, mW18, mL19, mL19n, mC19, mW19, mL20, mL20n, mC20, mW20, mL21, mL21n, mC21, mW21, mL23, mL23n, mC23, mW23, mL24, mL24n, mC24, mW24, mL25, mL25n, mC25, mW25, mL26, mL26n, mC26, mW26, mL27, mL27n, mC27, mW27, mL28, mL28n, mC28, mW28, mL29, mL29n, mC29, mW29, mL30, mL30n, mC30, mW30, mL31, mL31n, mC31, mW31, mL32, mL32n, mC32, mW32, mL33, mL33n, mC33, mW33, mL34, mL34n, mC34, mW34, mL22, mC22, mW22]
    exact he
theorem m_feed {t : Tp} (hM : MTp S t) (ht : t.1 ≤ 200) (hl : t.1 + fb_ct (nz (b20 a b c e f)) 20 ≤ 200) : ∃ S', pCa 70 (d + 1) [.ref m, .int a, .int b, .int c, .int e, .int f] (mput h m S) = some (.inl (some (.int (nI (apN t (b20 a b c e f) 20).1))), mput h m S') ∧ MTp S' (apN t (b20 a b c e f) 20) ∧ mfr S S' := by
  refine ⟨mbr S t (b20 a b c e f) 20, ?_, mbr_ok b20_b hM 20, mbr_fr 20⟩
  refine m_feed_l hM ht ?_
  have hs := hM.1
  have hc := fb_ct_le (nz (b20 a b c e f)) 20
  simp (disch := first | omega | decide) only [pis_i, pis_l, pis_r, pis_n, p1_i, p1_r, p1_n, p1_u, pw0, pw1, pw2, pw3, pw4, pK_v, pK_0, pK_ite, if_true, if_false, if_pos, if_neg, Nat.reduceAdd, pok_r, i10, i01, Bool.true_or, Bool.or_true, Bool.and_true, Bool.true_and, Nat.add_sub_cancel, i1p1, i1p0, i0p1, i0p0, nIrem2, va_rf_s, bit1, bit0, pinT, pinLT, pin0, nIc, nIcL, nIlt, nIeq, nIltL, nILlt, nIeqL, nILeq, nIadL, nILad, nILmu, nI_add, nIsbL, nI_sub', decide_true, decide_false, Bool.false_or, Bool.or_false, rX3_feed_44, rX3_feed_45, rX3_feed_48, rX3_feed_50, rX3_feed_51, rX3_feed_54, rX3_feed_57, rX3_feed_58, rX3_feed_59, rX3_feed_60, mCl, mF0, mP0, mF1, mF2, mF3, mF4, mF5, mP5, mF6, mF7, mP7, mF8, mP8, mF9, mP9, mF10, mP10, mF11, mF12, mF13, mF14, mF15, mF16, mF17, mF18, mF19, mF20, mP20, mF21, mF22, mF23, mP23, mF24, mP24, mF25, mP25, mF26, mF27, mF28, mF29, mF30, mF31, mP31, mF32, mP32, mF33, mP33, mF34, mF35, mF36, mF37, mF38, mF39, mF40, mF41, mF42, mF43, mF44, mF45, mP45, mF46, mP46, mF47, mP47, mF48, mP48, mF49, mF50, mF51, mP51, mL1, mL1n, mC1, mW1, mL2, mL2n, mC2, mW2, mL3, mL3n, mC3, mW3, mL4, mL4n, mC4, mW4, mL5, mL5n, mC5, mW5, mL6, mL6n, mC6, mW6, mL7, mL7n, mC7, mW7, mL8, mL8n, mC8, mW8, mL9, mL9n, mC9, mW9, mL10, mL10n, mC10, mW10, mL11, mL11n, mC11, mW11, mL12, mL12n, mC12, mW12, mL13, mL13n, mC13, mW13, mL14, mL14n, mC14, mW14, mL15, mL15n, mC15, mW15, mL16, mL16n, mC16, mW16, mL17, mL17n, mC17, mW17, mL18, mL18n, mC18, mW18, mL19, mL19n, mC19, mW19, mL20, mL20n, mC20, mW20, mL21, mL21n, mC21, mW21, mL23, mL23n, mC23, mW23, mL24, mL24n, mC24, mW24, mL25, mL25n, mC25, mW25, mL26, mL26n, mC26, mW26, mL27, mL27n, mC27, mW27, mL28, mL28n, mC28, mW28, mL29, mL29n, mC29, mW29, mL30, mL30n, mC30, mW30, mL31, mL31n, mC31, mW31, mL32, mL32n, mC32, mW32, mL33, mL33n, mC33, mW33, mL34, mL34n, mC34, mW34, mL22, mC22, mW22, hs]
  have fin : ∀ q : Value, pR 70 (d + 1) 62 [.ref m, .int a, .int b, .int c, .int e, .int f, .int (nI (fb_ct (nz (b20 a b c e f)) 20)), .int (nI 20), q] [] (mput h m (mbr S t (b20 a b c e f) 20)) = some (.inl (some (.int (nI (apN t (b20 a b c e f) 20).1))), mput h m (mbr S t (b20 a b c e f) 20)) := by
    intro q
    have h7 := (mbr_ok (S := S) (t := t) b20_b hM 20 : MTp (mbr S t (b20 a b c e f) 20) _).1
    rw [rX3_feed_62]
    simp (disch := first | omega | decide) only [pis_i, pis_l, pis_r, pis_n, p1_i, p1_r, p1_n, p1_u, pw0, pw1, pw2, pw3, pw4, pK_v, pK_0, pK_ite, if_true, if_false, if_pos, if_neg, Nat.reduceAdd, pok_r, i10, i01, Bool.true_or, Bool.or_true, Bool.and_true, Bool.true_and, Nat.add_sub_cancel, i1p1, i1p0, i0p1, i0p0, nIrem2, va_rf_s, bit1, bit0, pinT, pinLT, pin0, nIc, nIcL, nIlt, nIeq, nIltL, nILlt, nIeqL, nILeq, nIadL, nILad, nILmu, nI_add, nIsbL, nI_sub', decide_true, decide_false, Bool.false_or, Bool.or_false, rX3_feed_0, rX3_feed_1, rX3_feed_3, rX3_feed_4, rX3_feed_8, rX3_feed_10, rX3_feed_13, rX3_feed_15, rX3_feed_16, rX3_feed_17, rX3_feed_18, rX3_feed_20, rX3_feed_22, rX3_feed_24, rX3_feed_27, rX3_feed_30, rX3_feed_31, rX3_feed_34, rX3_feed_35, rX3_feed_36, rX3_feed_38, rX3_feed_41, rX3_feed_44, rX3_feed_45, rX3_feed_48, rX3_feed_50, rX3_feed_51, rX3_feed_54, rX3_feed_57, rX3_feed_58, rX3_feed_59, rX3_feed_60, rX3_feed_64, rX3_feed_66, rX3_feed_69, rX3_feed_70, rX3_feed_71, rX3_feed_72, rX3_feed_74, rX3_feed_76, rX3_feed_78, rX3_feed_81, rX3_feed_83, rX3_feed_85, rX3_feed_88, rX3_feed_89, rX3_feed_92, rX3_feed_93, rX3_feed_96, rX3_feed_98, rX3_feed_99, rX3_feed_100, rX3_feed_100i, rX3_feed_101, rX3_feed_104, rX3_feed_105, rX3_feed_106, rX3_feed_109, rX3_feed_112, rX3_feed_115, rX3_feed_116, rX3_feed_119, mCl, mF0, mP0, mF1, mF2, mF3, mF4, mF5, mP5, mF6, mF7, mP7, mF8, mP8, mF9, mP9, mF10, mP10, mF11, mF12, mF13, mF14, mF15, mF16, mF17, mF18, mF19, mF20, mP20, mF21, mF22, mF23, mP23, mF24, mP24, mF25, mP25, mF26, mF27, mF28, mF29, mF30, mF31, mP31, mF32, mP32, mF33, mP33, mF34, mF35, mF36, mF37, mF38, mF39, mF40, mF41, mF42, mF43, mF44, mF45, mP45, mF46, mP46, mF47, mP47, mF48, mP48, mF49, mF50, mF51, mP51, mL1, mL1n, mC1, mW1, mL2, mL2n, mC2, mW2, mL3, mL3n, mC3, mW3, mL4, mL4n, mC4, mW4, mL5, mL5n, mC5, mW5, mL6, mL6n, mC6, mW6, mL7, mL7n, mC7, mW7, mL8, mL8n, mC8, mW8, mL9, mL9n, mC9, mW9, mL10, mL10n, mC10, mW10, mL11, mL11n, mC11, mW11, mL12, mL12n, mC12, mW12, mL13, mL13n, mC13, mW13, mL14, mL14n, mC14, mW14, mL15, mL15n, mC15, mW15, mL16, mL16n, mC16, mW16, mL17, mL17n, mC17, mW17, mL18, mL18n, mC18, mW18, mL19, mL19n, mC19, mW19, mL20, mL20n, mC20, mW20, mL21, mL21n, mC21, mW21, mL23, mL23n, mC23, mW23, mL24, mL24n, mC24, mW24, mL25, mL25n, mC25, mW25, mL26, mL26n, mC26, mW26, mL27, mL27n, mC27, mW27, mL28, mL28n, mC28, mW28, mL29, mL29n, mC29, mW29, mL30, mL30n, mC30, mW30, mL31, mL31n, mC31, mW31, mL32, mL32n, mC32, mW32, mL33, mL33n, mC33, mW33, mL34, mL34n, mC34, mW34, mL22, mC22, mW22, h7]
  have step : ∀ k, k < 20 → ∀ q : Value, p1 q = true → ∀ R, (∀ q : Value, p1 q = true → pR 70 (d + 1) 62 [.ref m, .int a, .int b, .int c, .int e, .int f, .int (nI (fb_ct (nz (b20 a b c e f)) 20)), .int (nI (k + 1)), q] [] (mput h m (mbr S t (b20 a b c e f) (k + 1))) = R) → pR 70 (d + 1) 62 [.ref m, .int a, .int b, .int c, .int e, .int f, .int (nI (fb_ct (nz (b20 a b c e f)) 20)), .int (nI k), q] [] (mput h m (mbr S t (b20 a b c e f) k)) = R := by
    intro k hk q hq R hR
    have h7 := (mbr_ok (S := S) (t := t) b20_b hM k : MTp (mbr S t (b20 a b c e f) k) _).1
    have hby := kX3_byteOf (d := d) (a := a) (b := b) (c := c) (e := e) (f := f) (H := mput h m (mbr S t (b20 a b c e f) k)) hk
    rw [← b20] at hby
    have hlk : (apN t (b20 a b c e f) k).1 + fb_ct (nz (b20 a b c e f)) 20 ≤ 200 + fb_ct (nz (b20 a b c e f)) k := by rw [apN_1]; omega
    rw [rX3_feed_62]
    rw [mbr] at hR
    by_cases h0 : b20 a b c e f k = 0
    · rw [if_pos h0] at hR
      have := hR (.int 0) rfl
      simp (disch := first | omega | decide) only [pis_i, pis_l, pis_r, pis_n, p1_i, p1_r, p1_n, p1_u, pw0, pw1, pw2, pw3, pw4, pK_v, pK_0, pK_ite, if_true, if_false, if_pos, if_neg, Nat.reduceAdd, pok_r, i10, i01, Bool.true_or, Bool.or_true, Bool.and_true, Bool.true_and, Nat.add_sub_cancel, i1p1, i1p0, i0p1, i0p0, nIrem2, va_rf_s, bit1, bit0, pinT, pinLT, pin0, nIc, nIcL, nIlt, nIeq, nIltL, nILlt, nIeqL, nILeq, nIadL, nILad, nILmu, nI_add, nIsbL, nI_sub', decide_true, decide_false, Bool.false_or, Bool.or_false, rX3_feed_0, rX3_feed_1, rX3_feed_3, rX3_feed_4, rX3_feed_8, rX3_feed_10, rX3_feed_13, rX3_feed_15, rX3_feed_16, rX3_feed_17, rX3_feed_18, rX3_feed_20, rX3_feed_22, rX3_feed_24, rX3_feed_27, rX3_feed_30, rX3_feed_31, rX3_feed_34, rX3_feed_35, rX3_feed_36, rX3_feed_38, rX3_feed_41, rX3_feed_44, rX3_feed_45, rX3_feed_48, rX3_feed_50, rX3_feed_51, rX3_feed_54, rX3_feed_57, rX3_feed_58, rX3_feed_59, rX3_feed_60, rX3_feed_64, rX3_feed_66, rX3_feed_69, rX3_feed_70, rX3_feed_71, rX3_feed_72, rX3_feed_74, rX3_feed_76, rX3_feed_78, rX3_feed_81, rX3_feed_83, rX3_feed_85, rX3_feed_88, rX3_feed_89, rX3_feed_92, rX3_feed_93, rX3_feed_96, rX3_feed_98, rX3_feed_99, rX3_feed_100, rX3_feed_100i, rX3_feed_101, rX3_feed_104, rX3_feed_105, rX3_feed_106, rX3_feed_109, rX3_feed_112, rX3_feed_115, rX3_feed_116, rX3_feed_119, mCl, mF0, mP0, mF1, mF2, mF3, mF4, mF5, mP5, mF6, mF7, mP7, mF8, mP8, mF9, mP9, mF10, mP10, mF11, mF12, mF13, mF14, mF15, mF16, mF17, mF18, mF19, mF20, mP20, mF21, mF22, mF23, mP23, mF24, mP24, mF25, mP25, mF26, mF27, mF28, mF29, mF30, mF31, mP31, mF32, mP32, mF33, mP33, mF34, mF35, mF36, mF37, mF38, mF39, mF40, mF41, mF42, mF43, mF44, mF45, mP45, mF46, mP46, mF47, mP47, mF48, mP48, mF49, mF50, mF51, mP51, mL1, mL1n, mC1, mW1, mL2, mL2n, mC2, mW2, mL3, mL3n, mC3, mW3, mL4, mL4n, mC4, mW4, mL5, mL5n, mC5, mW5, mL6, mL6n, mC6, mW6, mL7, mL7n, mC7, mW7, mL8, mL8n, mC8, mW8, mL9, mL9n, mC9, mW9, mL10, mL10n, mC10, mW10, mL11, mL11n, mC11, mW11, mL12, mL12n, mC12, mW12, mL13, mL13n, mC13, mW13, mL14, mL14n, mC14, mW14, mL15, mL15n, mC15, mW15, mL16, mL16n, mC16, mW16, mL17, mL17n, mC17, mW17, mL18, mL18n, mC18, mW18, mL19, mL19n, mC19, mW19, mL20, mL20n, mC20, mW20, mL21, mL21n, mC21, mW21, mL23, mL23n, mC23, mW23, mL24, mL24n, mC24, mW24, mL25, mL25n, mC25, mW25, mL26, mL26n, mC26, mW26, mL27, mL27n, mC27, mW27, mL28, mL28n, mC28, mW28, mL29, mL29n, mC29, mW29, mL30, mL30n, mC30, mW30, mL31, mL31n, mC31, mW31, mL32, mL32n, mC32, mW32, mL33, mL33n, mC33, mW33, mL34, mL34n, mC34, mW34, mL22, mC22, mW22, hby, hq, h0]
      exact this
    · rw [if_neg h0] at hR
      have hlt : (apN t (b20 a b c e f) k).1 < 200 := by
        have := fb_ct_mono (nz (b20 a b c e f)) (show k + 1 ≤ 20 by omega)
        rw [fb_ct_succ, show nz (b20 a b c e f) k = true by simp [nz, h0]] at this
        rw [if_pos rfl] at this
        omega
      have := hR (.int (b20 a b c e f k)) rfl
      simp (disch := first | omega | decide) only [pis_i, pis_l, pis_r, pis_n, p1_i, p1_r, p1_n, p1_u, pw0, pw1, pw2, pw3, pw4, pK_v, pK_0, pK_ite, if_true, if_false, if_pos, if_neg, Nat.reduceAdd, pok_r, i10, i01, Bool.true_or, Bool.or_true, Bool.and_true, Bool.true_and, Nat.add_sub_cancel, i1p1, i1p0, i0p1, i0p0, nIrem2, va_rf_s, bit1, bit0, pinT, pinLT, pin0, nIc, nIcL, nIlt, nIeq, nIltL, nILlt, nIeqL, nILeq, nIadL, nILad, nILmu, nI_add, nIsbL, nI_sub', decide_true, decide_false, Bool.false_or, Bool.or_false, rX3_feed_0, rX3_feed_1, rX3_feed_3, rX3_feed_4, rX3_feed_8, rX3_feed_10, rX3_feed_13, rX3_feed_15, rX3_feed_16, rX3_feed_17, rX3_feed_18, rX3_feed_20, rX3_feed_22, rX3_feed_24, rX3_feed_27, rX3_feed_30, rX3_feed_31, rX3_feed_34, rX3_feed_35, rX3_feed_36, rX3_feed_38, rX3_feed_41, rX3_feed_44, rX3_feed_45, rX3_feed_48, rX3_feed_50, rX3_feed_51, rX3_feed_54, rX3_feed_57, rX3_feed_58, rX3_feed_59, rX3_feed_60, rX3_feed_64, rX3_feed_66, rX3_feed_69, rX3_feed_70, rX3_feed_71, rX3_feed_72, rX3_feed_74, rX3_feed_76, rX3_feed_78, rX3_feed_81, rX3_feed_83, rX3_feed_85, rX3_feed_88, rX3_feed_89, rX3_feed_92, rX3_feed_93, rX3_feed_96, rX3_feed_98, rX3_feed_99, rX3_feed_100, rX3_feed_100i, rX3_feed_101, rX3_feed_104, rX3_feed_105, rX3_feed_106, rX3_feed_109, rX3_feed_112, rX3_feed_115, rX3_feed_116, rX3_feed_119, mCl, mF0, mP0, mF1, mF2, mF3, mF4, mF5, mP5, mF6, mF7, mP7, mF8, mP8, mF9, mP9, mF10, mP10, mF11, mF12, mF13, mF14, mF15, mF16, mF17, mF18, mF19, mF20, mP20, mF21, mF22, mF23, mP23, mF24, mP24, mF25, mP25, mF26, mF27, mF28, mF29, mF30, mF31, mP31, mF32, mP32, mF33, mP33, mF34, mF35, mF36, mF37, mF38, mF39, mF40, mF41, mF42, mF43, mF44, mF45, mP45, mF46, mP46, mF47, mP47, mF48, mP48, mF49, mF50, mF51, mP51, mL1, mL1n, mC1, mW1, mL2, mL2n, mC2, mW2, mL3, mL3n, mC3, mW3, mL4, mL4n, mC4, mW4, mL5, mL5n, mC5, mW5, mL6, mL6n, mC6, mW6, mL7, mL7n, mC7, mW7, mL8, mL8n, mC8, mW8, mL9, mL9n, mC9, mW9, mL10, mL10n, mC10, mW10, mL11, mL11n, mC11, mW11, mL12, mL12n, mC12, mW12, mL13, mL13n, mC13, mW13, mL14, mL14n, mC14, mW14, mL15, mL15n, mC15, mW15, mL16, mL16n, mC16, mW16, mL17, mL17n, mC17, mW17, mL18, mL18n, mC18, mW18, mL19, mL19n, mC19, mW19, mL20, mL20n, mC20, mW20, mL21, mL21n, mC21, mW21, mL23, mL23n, mC23, mW23, mL24, mL24n, mC24, mW24, mL25, mL25n, mC25, mW25, mL26, mL26n, mC26, mW26, mL27, mL27n, mC27, mW27, mL28, mL28n, mC28, mW28, mL29, mL29n, mC29, mW29, mL30, mL30n, mC30, mW30, mL31, mL31n, mC31, mW31, mL32, mL32n, mC32, mW32, mL33, mL33n, mC33, mW33, mL34, mL34n, mC34, mW34, mL22, mC22, mW22, hby, hq, h0, h7]
      exact this
  have all : ∀ n k, k + n = 20 → ∀ q : Value, p1 q = true → pR 70 (d + 1) 62 [.ref m, .int a, .int b, .int c, .int e, .int f, .int (nI (fb_ct (nz (b20 a b c e f)) 20)), .int (nI k), q] [] (mput h m (mbr S t (b20 a b c e f) k)) = some (.inl (some (.int (nI (apN t (b20 a b c e f) 20).1))), mput h m (mbr S t (b20 a b c e f) 20)) := by
    intro n
    induction n with
    | zero => intro k hk q _; rw [show k = 20 by omega]; exact fin q
    | succ n ih => intro k hk q hq; exact step k (by omega) q hq _ (fun q hq => ih (k + 1) (by omega) q hq)
  exact all 20 0 rfl pU rfl
theorem m_feed_f {t : Tp} (hM : MTp S t) (ht : t.1 ≤ 200) (hl : 200 < t.1 + fb_ct (nz (b20 a b c e f)) 20) : pCa 70 (d + 1) [.ref m, .int a, .int b, .int c, .int e, .int f] (mput h m S) = some (.inl (some (.int (-1))), mput h m S) := by
  refine m_feed_l hM ht ?_
  have hs := hM.1
  have hc := fb_ct_le (nz (b20 a b c e f)) 20
  simp (disch := first | omega | decide) only [pis_i, pis_l, pis_r, pis_n, p1_i, p1_r, p1_n, p1_u, pw0, pw1, pw2, pw3, pw4, pK_v, pK_0, pK_ite, if_true, if_false, if_pos, if_neg, Nat.reduceAdd, pok_r, i10, i01, Bool.true_or, Bool.or_true, Bool.and_true, Bool.true_and, Nat.add_sub_cancel, i1p1, i1p0, i0p1, i0p0, nIrem2, va_rf_s, bit1, bit0, pinT, pinLT, pin0, nIc, nIcL, nIlt, nIeq, nIltL, nILlt, nIeqL, nILeq, nIadL, nILad, nILmu, nI_add, nIsbL, nI_sub', decide_true, decide_false, Bool.false_or, Bool.or_false, rX3_feed_44, rX3_feed_45, rX3_feed_48, rX3_feed_50, rX3_feed_51, rX3_feed_54, rX3_feed_57, rX3_feed_58, rX3_feed_59, rX3_feed_60, mCl, mF0, mP0, mF1, mF2, mF3, mF4, mF5, mP5, mF6, mF7, mP7, mF8, mP8, mF9, mP9, mF10, mP10, mF11, mF12, mF13, mF14, mF15, mF16, mF17, mF18, mF19, mF20, mP20, mF21, mF22, mF23, mP23, mF24, mP24, mF25, mP25, mF26, mF27, mF28, mF29, mF30, mF31, mP31, mF32, mP32, mF33, mP33, mF34, mF35, mF36, mF37, mF38, mF39, mF40, mF41, mF42, mF43, mF44, mF45, mP45, mF46, mP46, mF47, mP47, mF48, mP48, mF49, mF50, mF51, mP51, mL1, mL1n, mC1, mW1, mL2, mL2n, mC2, mW2, mL3, mL3n, mC3, mW3, mL4, mL4n, mC4, mW4, mL5, mL5n, mC5, mW5, mL6, mL6n, mC6, mW6, mL7, mL7n, mC7, mW7, mL8, mL8n, mC8, mW8, mL9, mL9n, mC9, mW9, mL10, mL10n, mC10, mW10, mL11, mL11n, mC11, mW11, mL12, mL12n, mC12, mW12, mL13, mL13n, mC13, mW13, mL14, mL14n, mC14, mW14, mL15, mL15n, mC15, mW15, mL16, mL16n, mC16, mW16, mL17, mL17n, mC17, mW17, mL18, mL18n, mC18, mW18, mL19, mL19n, mC19, mW19, mL20, mL20n, mC20, mW20, mL21, mL21n, mC21, mW21, mL23, mL23n, mC23, mW23, mL24, mL24n, mC24, mW24, mL25, mL25n, mC25, mW25, mL26, mL26n, mC26, mW26, mL27, mL27n, mC27, mW27, mL28, mL28n, mC28, mW28, mL29, mL29n, mC29, mW29, mL30, mL30n, mC30, mW30, mL31, mL31n, mC31, mW31, mL32, mL32n, mC32, mW32, mL33, mL33n, mC33, mW33, mL34, mL34n, mC34, mW34, mL22, mC22, mW22, hs]
end
