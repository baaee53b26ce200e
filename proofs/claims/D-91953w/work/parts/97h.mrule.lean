/-! RULES 8: the model while it reads a rule -/
set_option maxRecDepth 100000
/-- written one after the other -/
def wrt (C : Nat → Int32) : Nat → List Int32 → Nat → Int32
  | _, [] => C
  | b, v :: l => wrt (upd C b v) (b + 1) l
theorem wrt_app {b : Nat} {l1 l2 : List Int32} : ∀ {C : Nat → Int32}, wrt C b (l1 ++ l2) = wrt (wrt C b l1) (b + l1.length) l2 := by
  induction l1 generalizing b with
  | nil => intro C; rfl
  | cons v l ih =>
    intro C
    show wrt (upd C b v) (b + 1) (l ++ l2) = wrt (wrt (upd C b v) (b + 1) l) (b + (l.length + 1)) l2
    rw [ih, show b + 1 + l.length = b + (l.length + 1) by omega]
theorem wrt_lo {b i : Nat} {l : List Int32} (h : i < b) : ∀ {C : Nat → Int32}, wrt C b l i = C i := by
  induction l generalizing b with
  | nil => intro C; rfl
  | cons v l ih =>
    intro C
    show wrt (upd C b v) (b + 1) l i = C i
    rw [ih (by omega), upd_ne (by omega)]
theorem wrt_in {b : Nat} {l : List Int32} : ∀ {C : Nat → Int32} {i : Nat} (h : i < l.length), wrt C b l (b + i) = l[i] := by
  induction l generalizing b with
  | nil => intro C i h; cases h
  | cons v l ih =>
    intro C i h
    show wrt (upd C b v) (b + 1) l (b + i) = _
    cases i with
    | zero => rw [wrt_lo (by omega)]; exact upd_same
    | succ i =>
      have := ih (b := b + 1) (C := upd C b v) (i := i) (by simpa using h)
      rw [show b + (i + 1) = b + 1 + i by omega, this]
      rfl
theorem wrt_hi {b i : Nat} {l : List Int32} (h : b + l.length ≤ i) : ∀ {C : Nat → Int32}, wrt C b l i = C i := by
  induction l generalizing b with
  | nil => intro C; rfl
  | cons v l ih =>
    intro C
    have h : b + (l.length + 1) ≤ i := h
    show wrt (upd C b v) (b + 1) l i = C i
    rw [ih (by omega), upd_ne (by omega)]
def Sm.cd : Sm → List Int32
  | .pl v => [0, nI v]
  | .le c => [1, nI c]
  | .pa op a b => a.cd ++ b.cd ++ [nI op]
def Ts.cd : Ts → List Int32
  | .cm op a b => a.cd ++ b.cd ++ [nI op]
  | .no a => a.cd ++ [33]
  | .bo all a b => a.cd ++ b.cd ++ [if all = true then 38 else 124]
theorem Sm.cd_le : ∀ s : Sm, s.cd.length ≤ 2 * s.sz := by
  intro s
  induction s with
  | pl v => exact Nat.le_refl _
  | le c => exact Nat.le_refl _
  | pa op a b h1 h2 => simp only [Sm.cd, Sm.sz, List.length_append, List.length_cons, List.length_nil]; omega
theorem Ts.cd_le : ∀ s : Ts, s.cd.length ≤ 2 * s.sz := by
  intro s
  induction s with
  | cm op a b => have := a.cd_le; have := b.cd_le; simp only [Ts.cd, Ts.sz, List.length_append, List.length_cons, List.length_nil]; omega
  | no a h => simp only [Ts.cd, Ts.sz, List.length_append, List.length_cons, List.length_nil]; omega
  | bo all a b h1 h2 => simp only [Ts.cd, Ts.sz, List.length_append, List.length_cons, List.length_nil]; omega
/-- the model while it reads rule r: where, what is wrong, how deep, how much is said, the codes -/
def mRl (S : MS) (r : Nat) (a w dp : Int32) (sd : Nat) (C : Nat → Int32) : MS := (fun k => if k = 8 then a else if k = 9 then w else if k = 10 then dp else if k = 32 then nI r else if k = 33 then nI sd else S.1 k, us S.2.1 18 C, S.2.2)
section
variable {S : MS} {r sd j : Nat} {a w dp v : Int32} {C : Nat → Int32}
theorem rm8 : (mRl S r a w dp sd C).1 8 = a := rfl
theorem rm9 : (mRl S r a w dp sd C).1 9 = w := rfl
theorem rm10 : (mRl S r a w dp sd C).1 10 = dp := rfl
theorem rm32 : (mRl S r a w dp sd C).1 32 = nI r := rfl
theorem rm33 : (mRl S r a w dp sd C).1 33 = nI sd := rfl
theorem rmC : (mRl S r a w dp sd C).2.1 18 = C := by show us S.2.1 18 C 18 = C; exact us_same
theorem rmO (hj : j ≠ 18) : (mRl S r a w dp sd C).2.1 j = S.2.1 j := us_ne (A := S.2.1) hj
theorem mRl_MT {t : Tp} (hT : MT S t) : MT (mRl S r a w dp sd C) t := ⟨hT.l, fun i hi => by rw [rmO (by decide)]; exact hT.c i hi, hT.k⟩
theorem rw8 : (upd (mRl S r a w dp sd C).1 8 v, (mRl S r a w dp sd C).2) = mRl S r v w dp sd C := by
  refine Prod.ext ?_ rfl
  funext k
  simp only [mRl, upd]
  by_cases e : k = 8 <;> simp [e]
theorem rw9 : (upd (mRl S r a w dp sd C).1 9 v, (mRl S r a w dp sd C).2) = mRl S r a v dp sd C := by
  refine Prod.ext ?_ rfl
  funext k
  simp only [mRl, upd]
  by_cases e : k = 9 <;> simp [e]
theorem rw10 : (upd (mRl S r a w dp sd C).1 10 v, (mRl S r a w dp sd C).2) = mRl S r a w v sd C := by
  refine Prod.ext ?_ rfl
  funext k
  simp only [mRl, upd]
  by_cases e : k = 10 <;> simp [e]
theorem rwS {i : Nat} {q : Nat} : (upd (mRl S r a w dp sd C).1 33 (nI q), ua (mRl S r a w dp sd C).2.1 18 i v, (mRl S r a w dp sd C).2.2) = mRl S r a w dp q (upd C i v) := by
  refine Prod.ext ?_ (Prod.ext ?_ rfl)
  · funext k
    show upd _ 33 _ k = _
    simp only [mRl, upd]
    by_cases e : k = 33 <;> simp [e]
  · show ua (us S.2.1 18 C) 18 i v = us S.2.1 18 (upd C i v)
    exact us_ua
theorem rwA {i : Nat} (hj : j ≠ 18) : ((mRl S r a w dp sd C).1, ua (mRl S r a w dp sd C).2.1 j i v, (mRl S r a w dp sd C).2.2) = mRl (S.1, ua S.2.1 j i v, S.2.2) r a w dp sd C := by
  refine Prod.ext rfl (Prod.ext ?_ rfl)
  funext k
  show ua (us S.2.1 18 C) j i v k = us (ua S.2.1 j i v) 18 C k
  by_cases e : k = j
  · subst e; rw [ua_j, us_ne hj, us_ne hj, ua_j]
  · rw [ua_o e]
    by_cases e2 : k = 18
    · subst e2; rw [us_same, us_same]
    · rw [us_ne e2, us_ne e2, ua_o e]
end
section
variable {d m r sd p dp : Nat} {h : pH} {S : MS} {t : Tp} {C : Nat → Int32} {a w v dw : Int32}
theorem kX3_say (hr : r < 7) (hs : sd < 400) : pCa 94 d [.ref m, .int v] (mput h m (mRl S r a w dw sd C)) = some (.inl none, mput h m (mRl S r a w dw (sd + 1) (upd C (400 * r + sd) v))) := by
  have e := rwS (S := S) (r := r) (a := a) (w := w) (dp := dw) (sd := sd) (C := C) (i := 400 * r + sd) (q := sd + 1) (v := v)
  have e2 : (mRl S r a w dw sd C).1 33 = nI sd := rm33
  rw [eX3_say]
  simp (disch := first | assumption | omega | decide) only [pis_i, pis_l, pis_r, pis_n, p1_i, p1_r, p1_n, p1_u, pw0, pw1, pw2, pw3, pw4, pK_v, pK_0, pK_ite, if_true, if_false, if_pos, if_neg, Nat.reduceAdd, pok_r, i10, i01, Bool.true_or, Bool.or_true, Bool.and_true, Bool.true_and, Nat.add_sub_cancel, i1p1, i1p0, i0p1, i0p0, nIrem2, va_rf_s, bit1, bit0, pinT, pinLT, pin0, nIc, nIcL, nIlt, nIeq, nIltL, nILlt, nIeqL, nILeq, nIadL, nILad, nILmu, nI_add, nIsbL, nI_sub', decide_true, decide_false, Bool.false_or, Bool.or_false, rX3_say_0, rX3_say_1, rX3_say_4, rX3_say_7, rX3_say_8, rX3_say_11, rX3_say_12, rX3_say_13, rX3_say_16, rX3_say_17, rX3_say_18, rX3_say_19, rX3_say_20, rX3_say_20i, rX3_say_21, rX3_say_24, rX3_say_25, rX3_say_26, rX3_say_29, mCl, mF0, mP0, mF1, mF2, mF3, mF4, mF5, mP5, mF6, mF7, mP7, mF8, mP8, mF9, mP9, mF10, mP10, mF11, mF12, mF13, mF14, mF15, mF16, mF17, mF18, mF19, mF20, mP20, mF21, mF22, mF23, mP23, mF24, mP24, mF25, mP25, mF26, mF27, mF28, mF29, mF30, mF31, mP31, mF32, mP32, mF33, mP33, mF34, mF35, mF36, mF37, mF38, mF39, mF40, mF41, mF42, mF43, mF44, mF45, mP45, mF46, mP46, mF47, mP47, mF48, mP48, mF49, mF50, mF51, mP51, mL1, mL1n, mC1, mW1, mL2, mL2n, mC2, mW2, mL3, mL3n, mC3, mW3, mL4, mL4n, mC4, mW4, mL5, mL5n, mC5, mW5, mL6, mL6n, mC6, mW6, mL7, mL7n, mC7, mW7, mL8, mL8n, mC8, mW8, mL9, mL9n, mC9, mW9, mL10, mL10n, mC10, mW10, mL11, mL11n, mC11, mW11, mL12, mL12n, mC12, mW12, mL13, mL13n, mC13, mW13, mL14, mL14n, mC14, mW14, mL15, mL15n, mC15, mW15, mL16, mL16n, mC16, mW16, mL17, mL17n, mC17, mW17, mL18, mL18n, mC18, mW18, mL19, mL19n, mC19, mW19, mL20, mL20n, mC20, mW20, mL21, mL21n, mC21, mW21, mL23, mL23n, mC23, mW23, mL24, mL24n, mC24, mW24, mL25, mL25n, mC25, mW25, mL26, mL26n, mC26, mW26, mL27, mL27n, mC27, mW27, mL28, mL28n, mC28, mW28, mL29, mL29n, mC29, mW29, mL30, mL30n, mC30, mW30, mL31, mL31n, mC31, mW31, mL32, mL32n, mC32, mW32, mL33, mL33n, mC33, mW33, mL34, mL34n, mC34, mW34, mL22, mC22, mW22, rm32, rm33, e]
theorem kX3_bad1 {a : Nat} : pCa 78 d [.ref m] (mput h m (mRl S r (nI a) (-1) dw sd C)) = some (.inl none, mput h m (mRl S r (nI a) (nI a) dw sd C)) := by rw [kX3_bad rm9, rm8, rw9]
theorem kX3_bad2 {w : Nat} (hw : w < 1000) : pCa 78 d [.ref m] (mput h m (mRl S r a (nI w) dw sd C)) = some (.inl none, mput h m (mRl S r a (nI w) dw sd C)) := by
  rw [eX3_bad]
  simp (disch := first | assumption | omega | decide) only [pis_i, pis_l, pis_r, pis_n, p1_i, p1_r, p1_n, p1_u, pw0, pw1, pw2, pw3, pw4, pK_v, pK_0, pK_ite, if_true, if_false, if_pos, if_neg, Nat.reduceAdd, pok_r, i10, i01, Bool.true_or, Bool.or_true, Bool.and_true, Bool.true_and, rX3_bad_0, rX3_bad_1, rX3_bad_2, rX3_bad_5, rX3_bad_6, rX3_bad_9, rX3_bad_10, rX3_bad_13, rX3_bad_16, rX3_bad_17, rX3_bad_20, rX3_bad_23, mCl, mF0, mP0, mF1, mF2, mF3, mF4, mF5, mP5, mF6, mF7, mP7, mF8, mP8, mF9, mP9, mF10, mP10, mF11, mF12, mF13, mF14, mF15, mF16, mF17, mF18, mF19, mF20, mP20, mF21, mF22, mF23, mP23, mF24, mP24, mF25, mP25, mF26, mF27, mF28, mF29, mF30, mF31, mP31, mF32, mP32, mF33, mP33, mF34, mF35, mF36, mF37, mF38, mF39, mF40, mF41, mF42, mF43, mF44, mF45, mP45, mF46, mP46, mF47, mP47, mF48, mP48, mF49, mF50, mF51, mP51, mL1, mL1n, mC1, mW1, mL2, mL2n, mC2, mW2, mL3, mL3n, mC3, mW3, mL4, mL4n, mC4, mW4, mL5, mL5n, mC5, mW5, mL6, mL6n, mC6, mW6, mL7, mL7n, mC7, mW7, mL8, mL8n, mC8, mW8, mL9, mL9n, mC9, mW9, mL10, mL10n, mC10, mW10, mL11, mL11n, mC11, mW11, mL12, mL12n, mC12, mW12, mL13, mL13n, mC13, mW13, mL14, mL14n, mC14, mW14, mL15, mL15n, mC15, mW15, mL16, mL16n, mC16, mW16, mL17, mL17n, mC17, mW17, mL18, mL18n, mC18, mW18, mL19, mL19n, mC19, mW19, mL20, mL20n, mC20, mW20, mL21, mL21n, mC21, mW21, mL23, mL23n, mC23, mW23, mL24, mL24n, mC24, mW24, mL25, mL25n, mC25, mW25, mL26, mL26n, mC26, mW26, mL27, mL27n, mC27, mW27, mL28, mL28n, mC28, mW28, mL29, mL29n, mC29, mW29, mL30, mL30n, mC30, mW30, mL31, mL31n, mC31, mW31, mL32, mL32n, mC32, mW32, mL33, mL33n, mC33, mW33, mL34, mL34n, mC34, mW34, mL22, mC22, mW22, rm9, nIm1, rw9]
theorem kX3_lookR (hT : MT S t) {a : Nat} (ha : a ≤ t.1) : pCa 76 (d + 1) [.ref m] (mput h m (mRl S r (nI a) w dw sd C)) = some (.inl (some (.int (hr t (skp t a)))), mput h m (mRl S r (nI (skp t a)) w dw sd C)) := by rw [kX3_look (mRl_MT hT) rm8 ha, rw8]
theorem kX3_hereR (hT : MT S t) {a : Nat} (ha : a < 1000) : pCa 77 d [.ref m] (mput h m (mRl S r (nI a) w dw sd C)) = some (.inl (some (.int (hr t a))), mput h m (mRl S r (nI a) w dw sd C)) := kX3_here (mRl_MT hT) rm8 ha
theorem kX3_opens {a : Nat} (ha : a < 1000) (hd : dp < 6) : pCa 93 (d + 1) [.ref m] (mput h m (mRl S r (nI a) (-1) (nI dp) sd C)) = some (.inl none, mput h m (mRl S r (nI (a + 1)) (-1) (nI (dp + 1)) sd C)) := by
  have hd' : ¬ dp = 6 := by omega
  rw [eX3_opens]
  simp (disch := first | assumption | omega | decide) only [pis_i, pis_l, pis_r, pis_n, p1_i, p1_r, p1_n, p1_u, pw0, pw1, pw2, pw3, pw4, pK_v, pK_0, pK_ite, if_true, if_false, if_pos, if_neg, Nat.reduceAdd, pok_r, i10, i01, Bool.true_or, Bool.or_true, Bool.and_true, Bool.true_and, Nat.add_sub_cancel, i1p1, i1p0, i0p1, i0p0, nIrem2, va_rf_s, bit1, bit0, pinT, pinLT, pin0, nIc, nIcL, nIlt, nIeq, nIltL, nILlt, nIeqL, nILeq, nIadL, nILad, nILmu, nI_add, nIsbL, nI_sub', decide_true, decide_false, Bool.false_or, Bool.or_false, rX3_opens_0, rX3_opens_1, rX3_opens_4, rX3_opens_6, rX3_opens_9, rX3_opens_10, rX3_opens_13, rX3_opens_14, rX3_opens_15, rX3_opens_15i, rX3_opens_16, rX3_opens_19, rX3_opens_20, rX3_opens_21, rX3_opens_24, rX3_opens_25, rX3_opens_25i, rX3_opens_26, rX3_opens_29, rX3_opens_30, rX3_opens_31, rX3_opens_34, mCl, mF0, mP0, mF1, mF2, mF3, mF4, mF5, mP5, mF6, mF7, mP7, mF8, mP8, mF9, mP9, mF10, mP10, mF11, mF12, mF13, mF14, mF15, mF16, mF17, mF18, mF19, mF20, mP20, mF21, mF22, mF23, mP23, mF24, mP24, mF25, mP25, mF26, mF27, mF28, mF29, mF30, mF31, mP31, mF32, mP32, mF33, mP33, mF34, mF35, mF36, mF37, mF38, mF39, mF40, mF41, mF42, mF43, mF44, mF45, mP45, mF46, mP46, mF47, mP47, mF48, mP48, mF49, mF50, mF51, mP51, mL1, mL1n, mC1, mW1, mL2, mL2n, mC2, mW2, mL3, mL3n, mC3, mW3, mL4, mL4n, mC4, mW4, mL5, mL5n, mC5, mW5, mL6, mL6n, mC6, mW6, mL7, mL7n, mC7, mW7, mL8, mL8n, mC8, mW8, mL9, mL9n, mC9, mW9, mL10, mL10n, mC10, mW10, mL11, mL11n, mC11, mW11, mL12, mL12n, mC12, mW12, mL13, mL13n, mC13, mW13, mL14, mL14n, mC14, mW14, mL15, mL15n, mC15, mW15, mL16, mL16n, mC16, mW16, mL17, mL17n, mC17, mW17, mL18, mL18n, mC18, mW18, mL19, mL19n, mC19, mW19, mL20, mL20n, mC20, mW20, mL21, mL21n, mC21, mW21, mL23, mL23n, mC23, mW23, mL24, mL24n, mC24, mW24, mL25, mL25n, mC25, mW25, mL26, mL26n, mC26, mW26, mL27, mL27n, mC27, mW27, mL28, mL28n, mC28, mW28, mL29, mL29n, mC29, mW29, mL30, mL30n, mC30, mW30, mL31, mL31n, mC31, mW31, mL32, mL32n, mC32, mW32, mL33, mL33n, mC33, mW33, mL34, mL34n, mC34, mW34, mL22, mC22, mW22, rm10, hd', rw10, rm8, rw8]
theorem kX3_opens0 {a : Nat} : pCa 93 (d + 1) [.ref m] (mput h m (mRl S r (nI a) (-1) (nI 6) sd C)) = some (.inl none, mput h m (mRl S r (nI a) (nI a) (nI 6) sd C)) := by
  rw [eX3_opens]
  simp (disch := first | assumption | omega | decide) only [pis_i, pis_l, pis_r, pis_n, p1_i, p1_r, p1_n, p1_u, pw0, pw1, pw2, pw3, pw4, pK_v, pK_0, pK_ite, if_true, if_false, if_pos, if_neg, Nat.reduceAdd, pok_r, i10, i01, Bool.true_or, Bool.or_true, Bool.and_true, Bool.true_and, Nat.add_sub_cancel, i1p1, i1p0, i0p1, i0p0, nIrem2, va_rf_s, bit1, bit0, pinT, pinLT, pin0, nIc, nIcL, nIlt, nIeq, nIltL, nILlt, nIeqL, nILeq, nIadL, nILad, nILmu, nI_add, nIsbL, nI_sub', decide_true, decide_false, Bool.false_or, Bool.or_false, rX3_opens_0, rX3_opens_1, rX3_opens_4, rX3_opens_6, rX3_opens_9, rX3_opens_10, rX3_opens_13, rX3_opens_14, rX3_opens_15, rX3_opens_15i, rX3_opens_16, rX3_opens_19, rX3_opens_20, rX3_opens_21, rX3_opens_24, rX3_opens_25, rX3_opens_25i, rX3_opens_26, rX3_opens_29, rX3_opens_30, rX3_opens_31, rX3_opens_34, mCl, mF0, mP0, mF1, mF2, mF3, mF4, mF5, mP5, mF6, mF7, mP7, mF8, mP8, mF9, mP9, mF10, mP10, mF11, mF12, mF13, mF14, mF15, mF16, mF17, mF18, mF19, mF20, mP20, mF21, mF22, mF23, mP23, mF24, mP24, mF25, mP25, mF26, mF27, mF28, mF29, mF30, mF31, mP31, mF32, mP32, mF33, mP33, mF34, mF35, mF36, mF37, mF38, mF39, mF40, mF41, mF42, mF43, mF44, mF45, mP45, mF46, mP46, mF47, mP47, mF48, mP48, mF49, mF50, mF51, mP51, mL1, mL1n, mC1, mW1, mL2, mL2n, mC2, mW2, mL3, mL3n, mC3, mW3, mL4, mL4n, mC4, mW4, mL5, mL5n, mC5, mW5, mL6, mL6n, mC6, mW6, mL7, mL7n, mC7, mW7, mL8, mL8n, mC8, mW8, mL9, mL9n, mC9, mW9, mL10, mL10n, mC10, mW10, mL11, mL11n, mC11, mW11, mL12, mL12n, mC12, mW12, mL13, mL13n, mC13, mW13, mL14, mL14n, mC14, mW14, mL15, mL15n, mC15, mW15, mL16, mL16n, mC16, mW16, mL17, mL17n, mC17, mW17, mL18, mL18n, mC18, mW18, mL19, mL19n, mC19, mW19, mL20, mL20n, mC20, mW20, mL21, mL21n, mC21, mW21, mL23, mL23n, mC23, mW23, mL24, mL24n, mC24, mW24, mL25, mL25n, mC25, mW25, mL26, mL26n, mC26, mW26, mL27, mL27n, mC27, mW27, mL28, mL28n, mC28, mW28, mL29, mL29n, mC29, mW29, mL30, mL30n, mC30, mW30, mL31, mL31n, mC31, mW31, mL32, mL32n, mC32, mW32, mL33, mL33n, mC33, mW33, mL34, mL34n, mC34, mW34, mL22, mC22, mW22, rm10, kX3_bad1]
/-- a closing sign -/
theorem kX3_sign (hT : MT S t) {z : Nat} (hz : z < 256) (hp : p ≤ t.1) (hd : dp < 100) (he : isC t (skp t p) z = true) : pCa 95 (d + 2) [.ref m, .int (nI z)] (mput h m (mRl S r (nI p) (-1) (nI (dp + 1)) sd C)) = some (.inl none, mput h m (mRl S r (nI (skp t p + 1)) (-1) (nI dp) sd C)) := by
  have h1 := isC_lt he
  have ht1 := hT.k.1
  have e : hr t (skp t p) = nI z := by rw [hr_in h1.1, h1.2]
  rw [eX3_sign]
  simp (disch := first | assumption | omega | decide) only [pis_i, pis_l, pis_r, pis_n, p1_i, p1_r, p1_n, p1_u, pw0, pw1, pw2, pw3, pw4, pK_v, pK_0, pK_ite, if_true, if_false, if_pos, if_neg, Nat.reduceAdd, pok_r, i10, i01, Bool.true_or, Bool.or_true, Bool.and_true, Bool.true_and, Nat.add_sub_cancel, i1p1, i1p0, i0p1, i0p0, nIrem2, va_rf_s, bit1, bit0, pinT, pinLT, pin0, nIc, nIcL, nIlt, nIeq, nIltL, nILlt, nIeqL, nILeq, nIadL, nILad, nILmu, nI_add, nIsbL, nI_sub', decide_true, decide_false, Bool.false_or, Bool.or_false, rX3_sign_0, rX3_sign_1, rX3_sign_4, rX3_sign_5, rX3_sign_8, rX3_sign_9, rX3_sign_12, rX3_sign_13, rX3_sign_16, rX3_sign_17, rX3_sign_20, rX3_sign_21, rX3_sign_21i, rX3_sign_22, rX3_sign_25, rX3_sign_26, rX3_sign_27, rX3_sign_30, rX3_sign_31, rX3_sign_31i, rX3_sign_32, rX3_sign_35, rX3_sign_36, rX3_sign_37, rX3_sign_40, mCl, mF0, mP0, mF1, mF2, mF3, mF4, mF5, mP5, mF6, mF7, mP7, mF8, mP8, mF9, mP9, mF10, mP10, mF11, mF12, mF13, mF14, mF15, mF16, mF17, mF18, mF19, mF20, mP20, mF21, mF22, mF23, mP23, mF24, mP24, mF25, mP25, mF26, mF27, mF28, mF29, mF30, mF31, mP31, mF32, mP32, mF33, mP33, mF34, mF35, mF36, mF37, mF38, mF39, mF40, mF41, mF42, mF43, mF44, mF45, mP45, mF46, mP46, mF47, mP47, mF48, mP48, mF49, mF50, mF51, mP51, mL1, mL1n, mC1, mW1, mL2, mL2n, mC2, mW2, mL3, mL3n, mC3, mW3, mL4, mL4n, mC4, mW4, mL5, mL5n, mC5, mW5, mL6, mL6n, mC6, mW6, mL7, mL7n, mC7, mW7, mL8, mL8n, mC8, mW8, mL9, mL9n, mC9, mW9, mL10, mL10n, mC10, mW10, mL11, mL11n, mC11, mW11, mL12, mL12n, mC12, mW12, mL13, mL13n, mC13, mW13, mL14, mL14n, mC14, mW14, mL15, mL15n, mC15, mW15, mL16, mL16n, mC16, mW16, mL17, mL17n, mC17, mW17, mL18, mL18n, mC18, mW18, mL19, mL19n, mC19, mW19, mL20, mL20n, mC20, mW20, mL21, mL21n, mC21, mW21, mL23, mL23n, mC23, mW23, mL24, mL24n, mC24, mW24, mL25, mL25n, mC25, mW25, mL26, mL26n, mC26, mW26, mL27, mL27n, mC27, mW27, mL28, mL28n, mC28, mW28, mL29, mL29n, mC29, mW29, mL30, mL30n, mC30, mW30, mL31, mL31n, mC31, mW31, mL32, mL32n, mC32, mW32, mL33, mL33n, mC33, mW33, mL34, mL34n, mC34, mW34, mL22, mC22, mW22, rm9, kX3_lookR hT hp, e, rm8, rw8, rm10, rw10, Nat.add_sub_cancel]
theorem kX3_sign0 (hT : MT S t) {z : Nat} (hz : z < 256) (hp : p ≤ t.1) (he : ¬ isC t (skp t p) z = true) : pCa 95 (d + 2) [.ref m, .int (nI z)] (mput h m (mRl S r (nI p) (-1) dw sd C)) = some (.inl none, mput h m (mRl S r (nI (skp t p) + 1) (nI (skp t p)) (dw - 1) sd C)) := by
  have ht := hT.k
  have e : ¬ hr t (skp t p) = nI z := by rw [isC_o ht hz]; exact he
  rw [eX3_sign]
  simp (disch := first | assumption | omega | decide) only [pis_i, pis_l, pis_r, pis_n, p1_i, p1_r, p1_n, p1_u, pw0, pw1, pw2, pw3, pw4, pK_v, pK_0, pK_ite, if_true, if_false, if_pos, if_neg, Nat.reduceAdd, pok_r, i10, i01, Bool.true_or, Bool.or_true, Bool.and_true, Bool.true_and, rX3_sign_0, rX3_sign_1, rX3_sign_4, rX3_sign_5, rX3_sign_8, rX3_sign_9, rX3_sign_12, rX3_sign_13, rX3_sign_16, rX3_sign_17, rX3_sign_20, rX3_sign_21, rX3_sign_21i, rX3_sign_22, rX3_sign_25, rX3_sign_26, rX3_sign_27, rX3_sign_30, rX3_sign_31, rX3_sign_31i, rX3_sign_32, rX3_sign_35, rX3_sign_36, rX3_sign_37, rX3_sign_40, mCl, mF0, mP0, mF1, mF2, mF3, mF4, mF5, mP5, mF6, mF7, mP7, mF8, mP8, mF9, mP9, mF10, mP10, mF11, mF12, mF13, mF14, mF15, mF16, mF17, mF18, mF19, mF20, mP20, mF21, mF22, mF23, mP23, mF24, mP24, mF25, mP25, mF26, mF27, mF28, mF29, mF30, mF31, mP31, mF32, mP32, mF33, mP33, mF34, mF35, mF36, mF37, mF38, mF39, mF40, mF41, mF42, mF43, mF44, mF45, mP45, mF46, mP46, mF47, mP47, mF48, mP48, mF49, mF50, mF51, mP51, mL1, mL1n, mC1, mW1, mL2, mL2n, mC2, mW2, mL3, mL3n, mC3, mW3, mL4, mL4n, mC4, mW4, mL5, mL5n, mC5, mW5, mL6, mL6n, mC6, mW6, mL7, mL7n, mC7, mW7, mL8, mL8n, mC8, mW8, mL9, mL9n, mC9, mW9, mL10, mL10n, mC10, mW10, mL11, mL11n, mC11, mW11, mL12, mL12n, mC12, mW12, mL13, mL13n, mC13, mW13, mL14, mL14n, mC14, mW14, mL15, mL15n, mC15, mW15, mL16, mL16n, mC16, mW16, mL17, mL17n, mC17, mW17, mL18, mL18n, mC18, mW18, mL19, mL19n, mC19, mW19, mL20, mL20n, mC20, mW20, mL21, mL21n, mC21, mW21, mL23, mL23n, mC23, mW23, mL24, mL24n, mC24, mW24, mL25, mL25n, mC25, mW25, mL26, mL26n, mC26, mW26, mL27, mL27n, mC27, mW27, mL28, mL28n, mC28, mW28, mL29, mL29n, mC29, mW29, mL30, mL30n, mC30, mW30, mL31, mL31n, mC31, mW31, mL32, mL32n, mC32, mW32, mL33, mL33n, mC33, mW33, mL34, mL34n, mC34, mW34, mL22, mC22, mW22, rm9, kX3_lookR hT hp, e, kX3_bad1, rm8, rw8, rm10, rw10]
theorem kX3_signw {w : Nat} (hw : w < 1000) : pCa 95 (d + 2) [.ref m, .int v] (mput h m (mRl S r a (nI w) dw sd C)) = some (.inl none, mput h m (mRl S r (a + 1) (nI w) (dw - 1) sd C)) := by
  rw [eX3_sign]
  simp (disch := first | assumption | omega | decide) only [pis_i, pis_l, pis_r, pis_n, p1_i, p1_r, p1_n, p1_u, pw0, pw1, pw2, pw3, pw4, pK_v, pK_0, pK_ite, if_true, if_false, if_pos, if_neg, Nat.reduceAdd, pok_r, i10, i01, Bool.true_or, Bool.or_true, Bool.and_true, Bool.true_and, rX3_sign_0, rX3_sign_1, rX3_sign_4, rX3_sign_5, rX3_sign_8, rX3_sign_9, rX3_sign_12, rX3_sign_13, rX3_sign_16, rX3_sign_17, rX3_sign_20, rX3_sign_21, rX3_sign_21i, rX3_sign_22, rX3_sign_25, rX3_sign_26, rX3_sign_27, rX3_sign_30, rX3_sign_31, rX3_sign_31i, rX3_sign_32, rX3_sign_35, rX3_sign_36, rX3_sign_37, rX3_sign_40, mCl, mF0, mP0, mF1, mF2, mF3, mF4, mF5, mP5, mF6, mF7, mP7, mF8, mP8, mF9, mP9, mF10, mP10, mF11, mF12, mF13, mF14, mF15, mF16, mF17, mF18, mF19, mF20, mP20, mF21, mF22, mF23, mP23, mF24, mP24, mF25, mP25, mF26, mF27, mF28, mF29, mF30, mF31, mP31, mF32, mP32, mF33, mP33, mF34, mF35, mF36, mF37, mF38, mF39, mF40, mF41, mF42, mF43, mF44, mF45, mP45, mF46, mP46, mF47, mP47, mF48, mP48, mF49, mF50, mF51, mP51, mL1, mL1n, mC1, mW1, mL2, mL2n, mC2, mW2, mL3, mL3n, mC3, mW3, mL4, mL4n, mC4, mW4, mL5, mL5n, mC5, mW5, mL6, mL6n, mC6, mW6, mL7, mL7n, mC7, mW7, mL8, mL8n, mC8, mW8, mL9, mL9n, mC9, mW9, mL10, mL10n, mC10, mW10, mL11, mL11n, mC11, mW11, mL12, mL12n, mC12, mW12, mL13, mL13n, mC13, mW13, mL14, mL14n, mC14, mW14, mL15, mL15n, mC15, mW15, mL16, mL16n, mC16, mW16, mL17, mL17n, mC17, mW17, mL18, mL18n, mC18, mW18, mL19, mL19n, mC19, mW19, mL20, mL20n, mC20, mW20, mL21, mL21n, mC21, mW21, mL23, mL23n, mC23, mW23, mL24, mL24n, mC24, mW24, mL25, mL25n, mC25, mW25, mL26, mL26n, mC26, mW26, mL27, mL27n, mC27, mW27, mL28, mL28n, mC28, mW28, mL29, mL29n, mC29, mW29, mL30, mL30n, mC30, mW30, mL31, mL31n, mC31, mW31, mL32, mL32n, mC32, mW32, mL33, mL33n, mC33, mW33, mL34, mL34n, mC34, mW34, mL22, mC22, mW22, rm9, nIm1, rm8, rw8, rm10, rw10]
theorem kX3_isLetter {H : pH} {q : Nat} (ht : TpOk t) : pCa 99 d [.int (hr t q)] H = if isLt t q = true then some (.inl (some (.int 1)), H) else some (.inl (some (.int 0)), H) := by
  rw [eX3_isLetter]
  simp (disch := first | assumption | omega | decide) only [pis_i, pis_l, pis_r, pis_n, p1_i, p1_r, p1_n, p1_u, pw0, pw1, pw2, pw3, pw4, pK_v, pK_0, pK_ite, if_true, if_false, if_pos, if_neg, Nat.reduceAdd, pok_r, i10, i01, Bool.true_or, Bool.or_true, Bool.and_true, Bool.true_and, rX3_isLetter_0, rX3_isLetter_1, rX3_isLetter_3, rX3_isLetter_6, rX3_isLetter_7, rX3_isLetter_9, rX3_isLetter_12, rX3_isLetter_13, rX3_isLetter_15, rX3_isLetter_18, rX3_isLetter_19, rX3_isLetter_21, rX3_isLetter_24, rX3_isLetter_25, rX3_isLetter_27, rX3_isLetter_30, rX3_isLetter_31, rX3_isLetter_34, rX3_isLetter_350, rX3_isLetter_351, hr_eq ht]
  unfold isLt
  by_cases h1 : isC t q 108 = true
  · simp [h1]
  by_cases h2 : isC t q 104 = true
  · simp [h1, h2]
  by_cases h3 : isC t q 107 = true
  · simp [h1, h2, h3]
  by_cases h4 : isC t q 115 = true
  · simp [h1, h2, h3, h4]
  by_cases h5 : isC t q 97 = true
  · simp [h1, h2, h3, h4, h5]
  simp [h1, h2, h3, h4, h5]
end
/-- how a method ends that reads a part of a rule -/
def oM {α : Type} (cd : α → List Int32) (t : Tp) (h : pH) (m : Nat) (S : MS) (r : Nat) (dp : Int32) (sd : Nat) (C : Nat → Int32) (p : Nat) (R : Option pO) : QR α → Prop
  | .inl w => ∃ a' dp' sd' C', R = some (.inl none, mput h m (mRl S r a' (nI w) dp' sd' C')) ∧ sd' ≤ sd + 2 * (t.1 - p) ∧ ∀ i, i < 400 * r → C' i = C i
  | .inr (s, q) => R = some (.inl none, mput h m (mRl S r (nI q) (-1) dp (sd + (cd s).length) (wrt C (400 * r + sd) (cd s))))
