/-! OPERATIONS 2: feed -/
set_option maxRecDepth 100000
theorem t8_and (x : Int32) : (x &&& 255).toInt8 = x.toInt8 := by
  apply Int8.toBitVec_inj.mp
  rw [Int32.toBitVec_toInt8, Int32.toBitVec_toInt8, Int32.toBitVec_and]
  apply BitVec.eq_of_getLsbD_eq
  intro i hi
  have hm : ∀ i < 8, (255 : Int32).toBitVec.getLsbD i = true := by decide
  rw [BitVec.getLsbD_signExtend, BitVec.getLsbD_signExtend, if_pos (by omega), if_pos (by omega), BitVec.getLsbD_and, hm i hi, Bool.and_true]
theorem t8_t8 (x : Int32) : x.toInt8.toInt32.toInt8 = x.toInt8 := by
  apply Int8.toBitVec_inj.mp
  rw [Int32.toBitVec_toInt8, Int8.toBitVec_toInt32]
  apply BitVec.eq_of_getLsbD_eq
  intro i hi
  rw [BitVec.getLsbD_signExtend, BitVec.getLsbD_signExtend]
  simp [hi, show i < 32 by omega]
theorem and255 (x : Int32) : ∃ t, t < 256 ∧ x &&& 255 = nI t := by
  refine ⟨x.toBitVec.toNat % 256, Nat.mod_lt _ (by omega), ?_⟩
  apply Int32.toBitVec_inj.mp
  rw [Int32.toBitVec_and]
  apply BitVec.eq_of_toNat_eq
  rw [BitVec.toNat_and]
  show x.toBitVec.toNat &&& (2 ^ 8 - 1) = (BitVec.ofNat 32 (x.toBitVec.toNat % 256)).toNat
  rw [Nat.and_two_pow_sub_one_eq_mod, BitVec.toNat_ofNat, Nat.mod_eq_of_lt (a := x.toBitVec.toNat % 256) (by have := Nat.mod_lt x.toBitVec.toNat (show 256 > 0 by omega); omega)]
/-- the shift for byte b -/
def kk (b : Nat) : Int32 := 24 - nI (8 * b)
/-- byte b of a word -/
def byt (v : Int32) (b : Nat) : Int32 := v >>> (kk b &&& 31) &&& 255
theorem kk_s : ∀ b, b < 4 → kk b + (-8) = kk (b + 1) := by decide +kernel
theorem kk_n : ∀ b, b < 4 → ¬ kk b < 0 := by decide +kernel
/-- a tape: its length, its bytes; a byte put behind it unless it is 0 -/
abbrev Tp : Type := Nat × (Nat → Nat)
def ap1 (t : Tp) (y : Int32) : Tp := if y = 0 then t else (t.1 + 1, fun q => if q = t.1 then y.toNatClampNeg else t.2 q)
def apN (t : Tp) (bs : Nat → Int32) : Nat → Tp
  | 0 => t
  | n + 1 => ap1 (apN t bs n) (bs n)
def MTp (S : MS) (t : Tp) : Prop := S.1 7 = nI t.1 ∧ ∀ i, i < t.1 → S.2.1 5 i = nI (t.2 i) ∧ t.2 i < 256
def XTp (X : XS) (t : Tp) : Prop := X.1 3 = nI t.1 ∧ ∀ i, i < t.1 → X.2.1 2 i = (nI (t.2 i)).toInt8.toInt32 ∧ t.2 i < 256
def nz (bs : Nat → Int32) (b : Nat) : Bool := !decide (bs b = 0)
theorem apN_1 {t : Tp} {bs : Nat → Int32} : ∀ n, (apN t bs n).1 = t.1 + fb_ct (nz bs) n := by
  intro n
  induction n with
  | zero => rfl
  | succ n ih =>
    rw [apN, ap1, fb_ct_succ]
    by_cases h : bs n = 0
    · rw [if_pos h]; simp [nz, h, ih]
    · rw [if_neg h]; simp [nz, h, ih]; omega
section
variable {d m x n : Nat} {h : pH} {S : MS} {X : XS} {a b c e f v : Int32}
theorem kX1_bytes {H : pH} : pCa 8 d [.int v] H = some (.inl (some (.int (nI (fb_ct (nz (byt v)) 4)))), H) := by
  rw [eX1_bytes]
  simp only [pis_i, pis_l, pis_r, pis_n, p1_i, p1_r, p1_n, p1_u, pw0, pw1, pw2, pw3, pw4, pK_v, pK_0, pK_ite, if_true, if_false, if_pos, if_neg, Nat.reduceAdd, pok_r, i10, i01, Bool.true_or, Bool.or_true, Bool.and_true, Bool.true_and, rX1_bytes_0, rX1_bytes_1, rX1_bytes_2, rX1_bytes_4, rX1_bytes_6, rX1_bytes_9, rX1_bytes_10, rX1_bytes_11, rX1_bytes_12, rX1_bytes_13, rX1_bytes_16, rX1_bytes_17, rX1_bytes_20, rX1_bytes_21, rX1_bytes_24, rX1_bytes_25, rX1_bytes_26, rX1_bytes_27, rX1_bytes_30, rX1_bytes_33, rX1_bytes_34]
  refine loopN (N := 4) (P := fun b => pR 8 d 5 [.int v, .int (nI (fb_ct (nz (byt v)) b)), .int (kk b)] [] H) (fun b hb R hR => ?_) ?_ 0 (Nat.zero_le _)
  · rw [rX1_bytes_5]
    simp (disch := omega) only [pis_i, pis_l, pis_r, pis_n, p1_i, p1_r, p1_n, p1_u, pw0, pw1, pw2, pw3, pw4, pK_v, pK_0, pK_ite, if_true, if_false, if_pos, if_neg, Nat.reduceAdd, pok_r, i10, i01, Bool.true_or, Bool.or_true, Bool.and_true, Bool.true_and, rX1_bytes_0, rX1_bytes_1, rX1_bytes_2, rX1_bytes_4, rX1_bytes_6, rX1_bytes_9, rX1_bytes_10, rX1_bytes_11, rX1_bytes_12, rX1_bytes_13, rX1_bytes_16, rX1_bytes_17, rX1_bytes_20, rX1_bytes_21, rX1_bytes_24, rX1_bytes_25, rX1_bytes_26, rX1_bytes_27, rX1_bytes_30, rX1_bytes_33, rX1_bytes_34, kk_n b hb, kk_s b hb]
    split <;> (refine Eq.trans ?_ hR; clear hR; rename_i hq; simp only [nIadL]; simp [fb_ct_succ, nz, byt, hq])
  · rw [rX1_bytes_5]
    simp (disch := decide) only [pis_i, pis_l, pis_r, pis_n, p1_i, p1_r, p1_n, p1_u, pw0, pw1, pw2, pw3, pw4, pK_v, pK_0, pK_ite, if_true, if_false, if_pos, if_neg, Nat.reduceAdd, pok_r, i10, i01, Bool.true_or, Bool.or_true, Bool.and_true, Bool.true_and, rX1_bytes_0, rX1_bytes_1, rX1_bytes_2, rX1_bytes_4, rX1_bytes_6, rX1_bytes_9, rX1_bytes_10, rX1_bytes_11, rX1_bytes_12, rX1_bytes_13, rX1_bytes_16, rX1_bytes_17, rX1_bytes_20, rX1_bytes_21, rX1_bytes_24, rX1_bytes_25, rX1_bytes_26, rX1_bytes_27, rX1_bytes_30, rX1_bytes_33, rX1_bytes_34, kk]
theorem kX3_byteOf {H : pH} {k : Nat} (hk : k < 20) : pCa 71 d [.int a, .int b, .int c, .int e, .int f, .int (nI k)] H = some (.inl (some (.int (byt (if k < 4 then a else if k < 8 then b else if k < 12 then c else if k < 16 then e else f) (k % 4)))), H) := by
  rw [eX3_byteOf]
  have hr : nI k - nI k / 4 * 4 = nI (k % 4) := nIrem (b := 4) (by omega) (by decide)
  by_cases h1 : k < 4
  · simp (disch := first | omega | decide) only [pis_i, pis_l, pis_r, pis_n, p1_i, p1_r, p1_n, p1_u, pw0, pw1, pw2, pw3, pw4, pK_v, pK_0, pK_ite, if_true, if_false, if_pos, if_neg, Nat.reduceAdd, pok_r, i10, i01, Bool.true_or, Bool.or_true, Bool.and_true, Bool.true_and, Nat.add_sub_cancel, i1p1, i1p0, i0p1, i0p0, nIrem2, va_rf_s, bit1, bit0, pinT, pinLT, pin0, nIc, nIcL, nIlt, nIeq, nIltL, nILlt, nIeqL, nILeq, nIadL, nILad, nILmu, nI_add, decide_true, decide_false, Bool.false_or, Bool.or_false, rX3_byteOf_0, rX3_byteOf_2, rX3_byteOf_3, rX3_byteOf_6, rX3_byteOf_7, rX3_byteOf_10, rX3_byteOf_12, rX3_byteOf_14, rX3_byteOf_17, rX3_byteOf_18, rX3_byteOf_21, rX3_byteOf_23, rX3_byteOf_25, rX3_byteOf_28, rX3_byteOf_29, rX3_byteOf_32, rX3_byteOf_34, rX3_byteOf_36, rX3_byteOf_39, rX3_byteOf_40, rX3_byteOf_43, rX3_byteOf_45, rX3_byteOf_47, rX3_byteOf_49, rX3_byteOf_51, rX3_byteOf_53, rX3_byteOf_55, rX3_byteOf_56, rX3_byteOf_57, rX3_byteOf_58, rX3_byteOf_59, rX3_byteOf_60, rX3_byteOf_63, rX3_byteOf_64, h1, hr, byt, kk]
  · by_cases h2 : k < 8
    · simp (disch := first | omega | decide) only [pis_i, pis_l, pis_r, pis_n, p1_i, p1_r, p1_n, p1_u, pw0, pw1, pw2, pw3, pw4, pK_v, pK_0, pK_ite, if_true, if_false, if_pos, if_neg, Nat.reduceAdd, pok_r, i10, i01, Bool.true_or, Bool.or_true, Bool.and_true, Bool.true_and, Nat.add_sub_cancel, i1p1, i1p0, i0p1, i0p0, nIrem2, va_rf_s, bit1, bit0, pinT, pinLT, pin0, nIc, nIcL, nIlt, nIeq, nIltL, nILlt, nIeqL, nILeq, nIadL, nILad, nILmu, nI_add, decide_true, decide_false, Bool.false_or, Bool.or_false, rX3_byteOf_0, rX3_byteOf_2, rX3_byteOf_3, rX3_byteOf_6, rX3_byteOf_7, rX3_byteOf_10, rX3_byteOf_12, rX3_byteOf_14, rX3_byteOf_17, rX3_byteOf_18, rX3_byteOf_21, rX3_byteOf_23, rX3_byteOf_25, rX3_byteOf_28, rX3_byteOf_29, rX3_byteOf_32, rX3_byteOf_34, rX3_byteOf_36, rX3_byteOf_39, rX3_byteOf_40, rX3_byteOf_43, rX3_byteOf_45, rX3_byteOf_47, rX3_byteOf_49, rX3_byteOf_51, rX3_byteOf_53, rX3_byteOf_55, rX3_byteOf_56, rX3_byteOf_57, rX3_byteOf_58, rX3_byteOf_59, rX3_byteOf_60, rX3_byteOf_63, rX3_byteOf_64, h1, h2, hr, byt, kk]
    · by_cases h3 : k < 12
      · simp (disch := first | omega | decide) only [pis_i, pis_l, pis_r, pis_n, p1_i, p1_r, p1_n, p1_u, pw0, pw1, pw2, pw3, pw4, pK_v, pK_0, pK_ite, if_true, if_false, if_pos, if_neg, Nat.reduceAdd, pok_r, i10, i01, Bool.true_or, Bool.or_true, Bool.and_true, Bool.true_and, Nat.add_sub_cancel, i1p1, i1p0, i0p1, i0p0, nIrem2, va_rf_s, bit1, bit0, pinT, pinLT, pin0, nIc, nIcL, nIlt, nIeq, nIltL, nILlt, nIeqL, nILeq, nIadL, nILad, nILmu, nI_add, decide_true, decide_false, Bool.false_or, Bool.or_false, rX3_byteOf_0, rX3_byteOf_2, rX3_byteOf_3, rX3_byteOf_6, rX3_byteOf_7, rX3_byteOf_10, rX3_byteOf_12, rX3_byteOf_14, rX3_byteOf_17, rX3_byteOf_18, rX3_byteOf_21, rX3_byteOf_23, rX3_byteOf_25, rX3_byteOf_28, rX3_byteOf_29, rX3_byteOf_32, rX3_byteOf_34, rX3_byteOf_36, rX3_byteOf_39, rX3_byteOf_40, rX3_byteOf_43, rX3_byteOf_45, rX3_byteOf_47, rX3_byteOf_49, rX3_byteOf_51, rX3_byteOf_53, rX3_byteOf_55, rX3_byteOf_56, rX3_byteOf_57, rX3_byteOf_58, rX3_byteOf_59, rX3_byteOf_60, rX3_byteOf_63, rX3_byteOf_64, h1, h2, h3, hr, byt, kk]
      · by_cases h4 : k < 16
        · simp (disch := first | omega | decide) only [pis_i, pis_l, pis_r, pis_n, p1_i, p1_r, p1_n, p1_u, pw0, pw1, pw2, pw3, pw4, pK_v, pK_0, pK_ite, if_true, if_false, if_pos, if_neg, Nat.reduceAdd, pok_r, i10, i01, Bool.true_or, Bool.or_true, Bool.and_true, Bool.true_and, Nat.add_sub_cancel, i1p1, i1p0, i0p1, i0p0, nIrem2, va_rf_s, bit1, bit0, pinT, pinLT, pin0, nIc, nIcL, nIlt, nIeq, nIltL, nILlt, nIeqL, nILeq, nIadL, nILad, nILmu, nI_add, decide_true, decide_false, Bool.false_or, Bool.or_false, rX3_byteOf_0, rX3_byteOf_2, rX3_byteOf_3, rX3_byteOf_6, rX3_byteOf_7, rX3_byteOf_10, rX3_byteOf_12, rX3_byteOf_14, rX3_byteOf_17, rX3_byteOf_18, rX3_byteOf_21, rX3_byteOf_23, rX3_byteOf_25, rX3_byteOf_28, rX3_byteOf_29, rX3_byteOf_32, rX3_byteOf_34, rX3_byteOf_36, rX3_byteOf_39, rX3_byteOf_40, rX3_byteOf_43, rX3_byteOf_45, rX3_byteOf_47, rX3_byteOf_49, rX3_byteOf_51, rX3_byteOf_53, rX3_byteOf_55, rX3_byteOf_56, rX3_byteOf_57, rX3_byteOf_58, rX3_byteOf_59, rX3_byteOf_60, rX3_byteOf_63, rX3_byteOf_64, h1, h2, h3, h4, hr, byt, kk]
        · simp (disch := first | omega | decide) only [pis_i, pis_l, pis_r, pis_n, p1_i, p1_r, p1_n, p1_u, pw0, pw1, pw2, pw3, pw4, pK_v, pK_0, pK_ite, if_true, if_false, if_pos, if_neg, Nat.reduceAdd, pok_r, i10, i01, Bool.true_or, Bool.or_true, Bool.and_true, Bool.true_and, Nat.add_sub_cancel, i1p1, i1p0, i0p1, i0p0, nIrem2, va_rf_s, bit1, bit0, pinT, pinLT, pin0, nIc, nIcL, nIlt, nIeq, nIltL, nILlt, nIeqL, nILeq, nIadL, nILad, nILmu, nI_add, decide_true, decide_false, Bool.false_or, Bool.or_false, rX3_byteOf_0, rX3_byteOf_2, rX3_byteOf_3, rX3_byteOf_6, rX3_byteOf_7, rX3_byteOf_10, rX3_byteOf_12, rX3_byteOf_14, rX3_byteOf_17, rX3_byteOf_18, rX3_byteOf_21, rX3_byteOf_23, rX3_byteOf_25, rX3_byteOf_28, rX3_byteOf_29, rX3_byteOf_32, rX3_byteOf_34, rX3_byteOf_36, rX3_byteOf_39, rX3_byteOf_40, rX3_byteOf_43, rX3_byteOf_45, rX3_byteOf_47, rX3_byteOf_49, rX3_byteOf_51, rX3_byteOf_53, rX3_byteOf_55, rX3_byteOf_56, rX3_byteOf_57, rX3_byteOf_58, rX3_byteOf_59, rX3_byteOf_60, rX3_byteOf_63, rX3_byteOf_64, h1, h2, h3, h4, hr, byt, kk]
/-- the bytes of five words -/
def b20 (a b c e f : Int32) (k : Nat) : Int32 := byt (if k < 4 then a else if k < 8 then b else if k < 12 then c else if k < 16 then e else f) (k % 4)
theorem upd_same {A : Nat → Int32} {i : Nat} {v : Int32} : upd A i v i = v := by simp [upd]
theorem upd_ne {A : Nat → Int32} {i j : Nat} {v : Int32} (h : j ≠ i) : upd A i v j = A j := by simp [upd, h]
/-- one byte laid behind the tape, on the model's side -/
theorem m_ap {t : Tp} {y : Int32} {k : Nat} (hk : k < 256) (hy : y = nI k) (h0 : ¬ y = 0) (hM : MTp S t) : MTp (upd S.1 7 (nI (t.1 + 1)), ua S.2.1 5 t.1 y, S.2.2) (ap1 t y) := by
  rw [ap1, if_neg h0]
  refine ⟨(by show upd S.1 7 (nI (t.1 + 1)) 7 = nI (t.1 + 1); exact upd_same), fun i hi => ?_⟩
  have hi : i < t.1 + 1 := hi
  show (ua S.2.1 5 t.1 y) 5 i = nI (if i = t.1 then y.toNatClampNeg else t.2 i) ∧ (if i = t.1 then y.toNatClampNeg else t.2 i) < 256
  by_cases h1 : i = t.1
  · subst h1
    rw [if_pos rfl, hy, nIc (by omega)]
    exact ⟨by simp [ua, upd], hk⟩
  · rw [if_neg h1]
    have := hM.2 i (by omega)
    exact ⟨by simp only [ua, if_pos]; rw [upd_ne h1]; exact this.1, this.2⟩
theorem x_ap {t : Tp} {y : Int32} {k : Nat} (hk : k < 256) (hy : y &&& 255 = nI k) (h0 : ¬ y &&& 255 = 0) (hM : XTp X t) : XTp (upd X.1 3 (nI (t.1 + 1)), ua X.2.1 2 t.1 y.toInt8.toInt32, X.2.2) (ap1 t (y &&& 255)) := by
  rw [ap1, if_neg h0]
  refine ⟨(by show upd X.1 3 (nI (t.1 + 1)) 3 = nI (t.1 + 1); exact upd_same), fun i hi => ?_⟩
  have hi : i < t.1 + 1 := hi
  show (ua X.2.1 2 t.1 y.toInt8.toInt32) 2 i = (nI (if i = t.1 then (y &&& 255).toNatClampNeg else t.2 i)).toInt8.toInt32 ∧ (if i = t.1 then (y &&& 255).toNatClampNeg else t.2 i) < 256
  by_cases h1 : i = t.1
  · subst h1
    rw [if_pos rfl, hy, nIc (by omega), ← hy, t8_and]
    exact ⟨by simp [ua, upd], hk⟩
  · rw [if_neg h1]
    have := hM.2 i (by omega)
    exact ⟨by simp only [ua, if_pos]; rw [upd_ne h1]; exact this.1, this.2⟩
/-- the component's state when b bytes of a word are brought -/
def xbr (X : XS) (t : Tp) (v : Int32) : Nat → XS
  | 0 => X
  | b + 1 => if byt v b = 0 then xbr X t v b else (upd (xbr X t v b).1 3 (nI ((apN t (byt v) b).1 + 1)), ua (xbr X t v b).2.1 2 (apN t (byt v) b).1 (v >>> (kk b &&& 31)).toInt8.toInt32, (xbr X t v b).2.2)
theorem xbr_ok {t : Tp} (hX : XTp X t) : ∀ b, XTp (xbr X t v b) (apN t (byt v) b) := by
  intro b
  induction b with
  | zero => exact hX
  | succ b ih =>
    rw [xbr, apN]
    by_cases h0 : byt v b = 0
    · rw [if_pos h0, ap1, if_pos h0]; exact ih
    · rw [if_neg h0]
      obtain ⟨k, hk, e⟩ := and255 (v >>> (kk b &&& 31))
      exact x_ap hk e h0 ih
theorem xbr_fr {t : Tp} : ∀ b, (∀ k, k ≠ 3 → (xbr X t v b).1 k = X.1 k) ∧ (∀ j, j ≠ 2 → (xbr X t v b).2.1 j = X.2.1 j) ∧ (xbr X t v b).2.2 = X.2.2 := by
  intro b
  induction b with
  | zero => exact ⟨fun _ _ => rfl, fun _ _ => rfl, rfl⟩
  | succ b ih =>
    rw [xbr]
    by_cases h0 : byt v b = 0
    · rw [if_pos h0]; exact ih
    · rw [if_neg h0]
      refine ⟨fun k hk => ?_, fun j hj => ?_, ih.2.2⟩
      · show upd (xbr X t v b).1 3 _ k = _
        rw [upd_ne hk]; exact ih.1 k hk
      · show ua (xbr X t v b).2.1 2 _ _ j = _
        simp only [ua, if_neg hj]; exact ih.2.1 j hj
theorem kX1_bring {t : Tp} (hX : XTp X t) (hl : t.1 + fb_ct (nz (byt v)) 4 ≤ 200) : pCa 9 d [.ref x, .int v] (xput h x X) = some (.inl none, xput h x (xbr X t v 4)) := by
  rw [eX1_bring]
  simp only [pis_i, pis_l, pis_r, pis_n, p1_i, p1_r, p1_n, p1_u, pw0, pw1, pw2, pw3, pw4, pK_v, pK_0, pK_ite, if_true, if_false, if_pos, if_neg, Nat.reduceAdd, pok_r, i10, i01, Bool.true_or, Bool.or_true, Bool.and_true, Bool.true_and, rX1_bring_0, rX1_bring_2, rX1_bring_4, rX1_bring_7, rX1_bring_8, rX1_bring_9, rX1_bring_10, rX1_bring_13, rX1_bring_14, rX1_bring_17, rX1_bring_20, rX1_bring_21, rX1_bring_24, rX1_bring_25, rX1_bring_28, rX1_bring_29, rX1_bring_30, rX1_bring_31, rX1_bring_32, rX1_bring_33, rX1_bring_34, rX1_bring_34i, rX1_bring_35, rX1_bring_38, rX1_bring_39, rX1_bring_40, rX1_bring_43, rX1_bring_46, rX1_bring_49]
  refine loopN (N := 4) (P := fun b => pR 9 d 3 [.ref x, .int v, .int (kk b)] [] (xput h x (xbr X t v b))) (fun b hb R hR => ?_) ?_ 0 (Nat.zero_le _)
  · rw [rX1_bring_3]
    have h3 := (xbr_ok (v := v) hX b).1
    have hlb : (apN t (byt v) b).1 + fb_ct (nz (byt v)) 4 ≤ 200 + fb_ct (nz (byt v)) b := by rw [apN_1]; omega
    rw [xbr] at hR
    by_cases h0 : byt v b = 0
    · rw [if_pos h0] at hR
      rw [byt] at h0
      simp (disch := first | omega | decide) only [pis_i, pis_l, pis_r, pis_n, p1_i, p1_r, p1_n, p1_u, pw0, pw1, pw2, pw3, pw4, pK_v, pK_0, pK_ite, if_true, if_false, if_pos, if_neg, Nat.reduceAdd, pok_r, i10, i01, Bool.true_or, Bool.or_true, Bool.and_true, Bool.true_and, rX1_bring_0, rX1_bring_2, rX1_bring_4, rX1_bring_7, rX1_bring_8, rX1_bring_9, rX1_bring_10, rX1_bring_13, rX1_bring_14, rX1_bring_17, rX1_bring_20, rX1_bring_21, rX1_bring_24, rX1_bring_25, rX1_bring_28, rX1_bring_29, rX1_bring_30, rX1_bring_31, rX1_bring_32, rX1_bring_33, rX1_bring_34, rX1_bring_34i, rX1_bring_35, rX1_bring_38, rX1_bring_39, rX1_bring_40, rX1_bring_43, rX1_bring_46, rX1_bring_49, xCl, xF0, xF1, xP1, xF2, xF3, xP3, xF4, xF5, xP5, xF6, xF7, xF8, xF9, xF10, xF11, xF12, xP12, xF13, xP13, xF14, xP14, xF15, xP15, xF16, xP16, xF17, xP17, xF18, xF19, xF20, xP20, xF21, xF22, xP22, xL2, xL2n, xC2, xW2, xL4, xL4n, xC4, xW4, xL5, xL5n, xC5, xW5, xL6, xL6n, xC6, xW6, xL7, xL7n, xC7, xW7, xL8, xL8n, xC8, xW8, xL12, xL12n, xC12, xW12, xL13, xL13n, xC13, xW13, xL1, xK1, xC1, xW1, xL3, xK3, xC3, xW3, xL9, xK9, xC9, xW9, xL10, xK10, xC10, xW10, xLf, xLc, kk_n b hb, kk_s b hb, h0]
      exact hR
    · rw [if_neg h0] at hR
      have hlt : (apN t (byt v) b).1 < 200 := by
        have := fb_ct_mono (nz (byt v)) (show b + 1 ≤ 4 by omega)
        rw [fb_ct_succ, show nz (byt v) b = true by simp [nz, h0]] at this
        rw [if_pos rfl] at this
        omega
      rw [byt] at h0
      simp (disch := first | omega | decide) only [pis_i, pis_l, pis_r, pis_n, p1_i, p1_r, p1_n, p1_u, pw0, pw1, pw2, pw3, pw4, pK_v, pK_0, pK_ite, if_true, if_false, if_pos, if_neg, Nat.reduceAdd, pok_r, i10, i01, Bool.true_or, Bool.or_true, Bool.and_true, Bool.true_and, Nat.add_sub_cancel, i1p1, i1p0, i0p1, i0p0, nIrem2, va_rf_s, bit1, bit0, pinT, pinLT, pin0, nIc, nIcL, nIlt, nIeq, nIltL, nILlt, nIeqL, nILeq, nIadL, nILad, nILmu, nI_add, nIsbL, nI_sub', decide_true, decide_false, Bool.false_or, Bool.or_false, rX1_bring_0, rX1_bring_2, rX1_bring_4, rX1_bring_7, rX1_bring_8, rX1_bring_9, rX1_bring_10, rX1_bring_13, rX1_bring_14, rX1_bring_17, rX1_bring_20, rX1_bring_21, rX1_bring_24, rX1_bring_25, rX1_bring_28, rX1_bring_29, rX1_bring_30, rX1_bring_31, rX1_bring_32, rX1_bring_33, rX1_bring_34, rX1_bring_34i, rX1_bring_35, rX1_bring_38, rX1_bring_39, rX1_bring_40, rX1_bring_43, rX1_bring_46, rX1_bring_49, xCl, xF0, xF1, xP1, xF2, xF3, xP3, xF4, xF5, xP5, xF6, xF7, xF8, xF9, xF10, xF11, xF12, xP12, xF13, xP13, xF14, xP14, xF15, xP15, xF16, xP16, xF17, xP17, xF18, xF19, xF20, xP20, xF21, xF22, xP22, xL2, xL2n, xC2, xW2, xL4, xL4n, xC4, xW4, xL5, xL5n, xC5, xW5, xL6, xL6n, xC6, xW6, xL7, xL7n, xC7, xW7, xL8, xL8n, xC8, xW8, xL12, xL12n, xC12, xW12, xL13, xL13n, xC13, xW13, xL1, xK1, xC1, xW1, xL3, xK3, xC3, xW3, xL9, xK9, xC9, xW9, xL10, xK10, xC10, xW10, xLf, xLc, kk_n b hb, kk_s b hb, h0, h3, t8_t8]
      exact hR
  · rw [rX1_bring_3]
    simp (disch := decide) only [pis_i, pis_l, pis_r, pis_n, p1_i, p1_r, p1_n, p1_u, pw0, pw1, pw2, pw3, pw4, pK_v, pK_0, pK_ite, if_true, if_false, if_pos, if_neg, Nat.reduceAdd, pok_r, i10, i01, Bool.true_or, Bool.or_true, Bool.and_true, Bool.true_and, rX1_bring_0, rX1_bring_2, rX1_bring_4, rX1_bring_7, rX1_bring_8, rX1_bring_9, rX1_bring_10, rX1_bring_13, rX1_bring_14, rX1_bring_17, rX1_bring_20, rX1_bring_21, rX1_bring_24, rX1_bring_25, rX1_bring_28, rX1_bring_29, rX1_bring_30, rX1_bring_31, rX1_bring_32, rX1_bring_33, rX1_bring_34, rX1_bring_34i, rX1_bring_35, rX1_bring_38, rX1_bring_39, rX1_bring_40, rX1_bring_43, rX1_bring_46, rX1_bring_49, kk]
end
