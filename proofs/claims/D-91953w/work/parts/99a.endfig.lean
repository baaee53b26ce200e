/-! FIGURES MADE OF FIGURES 1: the model's put, startFigure, endFigure -/
set_option maxRecDepth 100000
/-- the figure f that comes: bubbles by K, ns sorts, v6 balloons, nh heads -/
def mAd (T : MS) (f : Nat) (K : Hd) (ns : Nat) (v6 : Int32) (nh : Nat) (hd : Nat → Int32) : MS := (T.1, fun j => if j = 6 then upd (T.2.1 6) f v6 else if j = 7 then rg (T.2.1 7) (6 * f) ns (fun k => nI (K.so k)) else if j = 8 then upd (T.2.1 8) f (nI K.nb) else if j = 10 then rg (T.2.1 10) (24 * f) K.nb K.le else if j = 11 then rg (T.2.1 11) (24 * f) K.nb (fun k => nI (K.fr k)) else if j = 12 then rg (T.2.1 12) (24 * f) K.nb (fun k => nI (K.tq k)) else if j = 13 then rg (T.2.1 13) (24 * f) K.nb (fun k => nI (K.ba k)) else if j = 15 then rg (T.2.1 15) 0 nh hd else T.2.1 j, T.2.2)
section
variable {T : MS} {f ns nh i : Nat} {K : Hd} {v6 v : Int32} {hd : Nat → Int32}
theorem ad6 : (mAd T f K ns v6 nh hd).2.1 6 = upd (T.2.1 6) f v6 := rfl
theorem ad7 : (mAd T f K ns v6 nh hd).2.1 7 = rg (T.2.1 7) (6 * f) ns (fun k => nI (K.so k)) := rfl
theorem ad8 : (mAd T f K ns v6 nh hd).2.1 8 = upd (T.2.1 8) f (nI K.nb) := rfl
theorem ad10 : (mAd T f K ns v6 nh hd).2.1 10 = rg (T.2.1 10) (24 * f) K.nb K.le := rfl
theorem ad11 : (mAd T f K ns v6 nh hd).2.1 11 = rg (T.2.1 11) (24 * f) K.nb (fun k => nI (K.fr k)) := rfl
theorem ad12 : (mAd T f K ns v6 nh hd).2.1 12 = rg (T.2.1 12) (24 * f) K.nb (fun k => nI (K.tq k)) := rfl
theorem ad13 : (mAd T f K ns v6 nh hd).2.1 13 = rg (T.2.1 13) (24 * f) K.nb (fun k => nI (K.ba k)) := rfl
theorem ad15 : (mAd T f K ns v6 nh hd).2.1 15 = rg (T.2.1 15) 0 nh hd := rfl
theorem ad9 : (mAd T f K ns v6 nh hd).2.1 9 = T.2.1 9 := rfl
theorem ad14 : (mAd T f K ns v6 nh hd).2.1 14 = T.2.1 14 := rfl
theorem ad_1 : (mAd T f K ns v6 nh hd).1 = T.1 := rfl
theorem ad_w6 : (((mAd T f K ns v6 nh hd).1, ua (mAd T f K ns v6 nh hd).2.1 6 f v, (mAd T f K ns v6 nh hd).2.2) : MS) = mAd T f K ns v nh hd := by
  refine Prod.ext rfl (Prod.ext ?_ rfl)
  funext j
  show ua (mAd T f K ns v6 nh hd).2.1 6 f v j = (mAd T f K ns v nh hd).2.1 j
  by_cases e : j = 6
  · subst e; rw [ua_j, ad6, ad6, upd_upd]
  · rw [ua_o e]; simp only [mAd, e, if_false]
theorem ad_w7 (hv : v = nI (K.so ns)) : (((mAd T f K ns v6 nh hd).1, ua (mAd T f K ns v6 nh hd).2.1 7 (6 * f + ns) v, (mAd T f K ns v6 nh hd).2.2) : MS) = mAd T f K (ns + 1) v6 nh hd := by
  refine Prod.ext rfl (Prod.ext ?_ rfl)
  funext j
  show ua (mAd T f K ns v6 nh hd).2.1 7 (6 * f + ns) v j = (mAd T f K (ns + 1) v6 nh hd).2.1 j
  by_cases e : j = 7
  · subst e; rw [ua_j, ad7, ad7]; exact rg_push hv
  · rw [ua_o e]; simp only [mAd, e, if_false]
theorem ad_h (hv : v = hd nh) : (((mAd T f K ns v6 nh hd).1, ua (mAd T f K ns v6 nh hd).2.1 15 nh v, (mAd T f K ns v6 nh hd).2.2) : MS) = mAd T f K ns v6 (nh + 1) hd := by
  refine Prod.ext rfl (Prod.ext ?_ rfl)
  funext j
  show ua (mAd T f K ns v6 nh hd).2.1 15 nh v j = (mAd T f K ns v6 (nh + 1) hd).2.1 j
  by_cases e : j = 15
  · subst e
    rw [ua_j, ad15, ad15]
    have := rg_push (A := T.2.1 15) (b := 0) (n := nh) hv
    rwa [Nat.zero_add] at this
  · rw [ua_o e]; simp only [mAd, e, if_false]
theorem ad_hu (hi : i < nh) : (((mAd T f K ns v6 nh hd).1, ua (mAd T f K ns v6 nh hd).2.1 15 i v, (mAd T f K ns v6 nh hd).2.2) : MS) = mAd T f K ns v6 nh (ul hd i v) := by
  refine Prod.ext rfl (Prod.ext ?_ rfl)
  funext j
  show ua (mAd T f K ns v6 nh hd).2.1 15 i v j = (mAd T f K ns v6 nh (ul hd i v)).2.1 j
  by_cases e : j = 15
  · subst e; rw [ua_j, ad15, ad15]; exact rg_up0 hi
  · rw [ua_o e]; simp only [mAd, e, if_false]
theorem ad_mfg : mfg T (mAd T f K ns v6 nh hd) f := by
  refine ⟨fun k _ _ _ _ _ _ => rfl, fun j hj => ?_, fun j i hj hi => ?_, fun i hi => ?_, fun j i h1 h2 hi => ?_, rfl⟩
  · show (mAd T f K ns v6 nh hd).2.1 j = _
    simp only [mAd]
    repeat rw [if_neg (by omega)]
  · rcases hj with rfl | rfl | rfl | rfl
    · rw [ad6, upd_ne (by omega)]
    · rw [ad8, upd_ne (by omega)]
    · rw [ad9]
    · rw [ad14]
  · rw [ad7, rg_out (Or.inl hi)]
  · match j, h1, h2 with
    | 10, _, _ => rw [ad10, rg_out (Or.inl hi)]
    | 11, _, _ => rw [ad11, rg_out (Or.inl hi)]
    | 12, _, _ => rw [ad12, rg_out (Or.inl hi)]
    | 13, _, _ => rw [ad13, rg_out (Or.inl hi)]
theorem ad_add {l : Int32} {a b o : Nat} : (((mAd T f K ns v6 nh hd).1, ua (ua (ua (ua (ua (mAd T f K ns v6 nh hd).2.1 10 (24 * f + K.nb) l) 13 (24 * f + K.nb) (nI o)) 11 (24 * f + K.nb) (nI a)) 12 (24 * f + K.nb) (nI b)) 8 f (nI (K.nb + 1)), (mAd T f K ns v6 nh hd).2.2) : MS) = mAd T f (K.add l a b o) ns v6 nh hd := by
  refine Prod.ext rfl (Prod.ext ?_ rfl)
  funext j
  show ua (ua (ua (ua (ua (mAd T f K ns v6 nh hd).2.1 10 (24 * f + K.nb) l) 13 (24 * f + K.nb) (nI o)) 11 (24 * f + K.nb) (nI a)) 12 (24 * f + K.nb) (nI b)) 8 f (nI (K.nb + 1)) j = (mAd T f (K.add l a b o) ns v6 nh hd).2.1 j
  by_cases e8 : j = 8
  · subst e8; rw [ua_j, ua_o (by decide), ua_o (by decide), ua_o (by decide), ua_o (by decide), ad8, ad8, upd_upd]; rfl
  rw [ua_o e8]
  by_cases e12 : j = 12
  · subst e12; rw [ua_j, ua_o (by decide), ua_o (by decide), ua_o (by decide), ad12, ad12, rg_pushl, ul_un]; rfl
  rw [ua_o e12]
  by_cases e11 : j = 11
  · subst e11; rw [ua_j, ua_o (by decide), ua_o (by decide), ad11, ad11, rg_pushl, ul_un]; rfl
  rw [ua_o e11]
  by_cases e13 : j = 13
  · subst e13; rw [ua_j, ua_o (by decide), ad13, ad13, rg_pushl, ul_un]; rfl
  rw [ua_o e13]
  by_cases e10 : j = 10
  · subst e10; rw [ua_j, ad10, ad10, rg_pushl]; rfl
  rw [ua_o e10]
  simp only [mAd, e8, e10, e11, e12, e13, if_false]
  rfl
end
section
variable {d m f ns nh N : Nat} {h : pH} {T : MS} {K : Hd} {v6 : Int32} {hd : Nat → Int32} {F : Fig}
theorem kX3_put {l : Int32} {a b o : Nat} (hT : T.1 20 = nI f) (hf : f < 12) (hn : K.nb < 24) : pCa 125 d [.ref m, .int l, .int (nI o), .int (nI a), .int (nI b)] (mput h m (mAd T f K ns v6 nh hd)) = some (.inl none, mput h m (mAd T f (K.add l a b o) ns v6 nh hd)) := by
  have e8 : (mAd T f K ns v6 nh hd).2.1 8 f = nI K.nb := by rw [ad8, upd_same]
  have e20 : (mAd T f K ns v6 nh hd).1 20 = nI f := hT
  rw [eX3_put]
  simp (disch := first | assumption | omega | decide) only [pis_i, pis_l, pis_r, pis_n, p1_i, p1_r, p1_n, p1_u, pw0, pw1, pw2, pw3, pw4, pK_v, pK_0, pK_ite, if_true, if_false, if_pos, if_neg, Nat.reduceAdd, pok_r, i10, i01, Bool.true_or, Bool.or_true, Bool.and_true, Bool.true_and, Nat.add_sub_cancel, i1p1, i1p0, i0p1, i0p0, nIrem2, va_rf_s, bit1, bit0, pinT, pinLT, pin0, nIc, nIcL, nIlt, nIeq, nIltL, nILlt, nIeqL, nILeq, nIadL, nILad, nILmu, nI_add, nIsbL, nI_sub', decide_true, decide_false, Bool.false_or, Bool.or_false, rX3_put_0, rX3_put_2, rX3_put_3, rX3_put_6, rX3_put_7, rX3_put_8, rX3_put_11, rX3_put_12, rX3_put_15, rX3_put_16, rX3_put_17, rX3_put_19, rX3_put_20, rX3_put_23, rX3_put_25, rX3_put_26, rX3_put_27, rX3_put_28, rX3_put_31, rX3_put_33, rX3_put_34, rX3_put_35, rX3_put_36, rX3_put_39, rX3_put_41, rX3_put_42, rX3_put_43, rX3_put_44, rX3_put_47, rX3_put_49, rX3_put_51, rX3_put_52, rX3_put_53, rX3_put_56, rX3_put_57, rX3_put_60, rX3_put_61, rX3_put_62, rX3_put_63, rX3_put_64, rX3_put_65, mCl, mF0, mP0, mF1, mF2, mF3, mF4, mF5, mP5, mF6, mF7, mP7, mF8, mP8, mF9, mP9, mF10, mP10, mF11, mF12, mF13, mF14, mF15, mF16, mF17, mF18, mF19, mF20, mP20, mF21, mF22, mF23, mP23, mF24, mP24, mF25, mP25, mF26, mF27, mF28, mF29, mF30, mF31, mP31, mF32, mP32, mF33, mP33, mF34, mF35, mF36, mF37, mF38, mF39, mF40, mF41, mF42, mF43, mF44, mF45, mP45, mF46, mP46, mF47, mP47, mF48, mP48, mF49, mF50, mF51, mP51, mL1, mL1n, mC1, mW1, mL2, mL2n, mC2, mW2, mL3, mL3n, mC3, mW3, mL4, mL4n, mC4, mW4, mL5, mL5n, mC5, mW5, mL6, mL6n, mC6, mW6, mL7, mL7n, mC7, mW7, mL8, mL8n, mC8, mW8, mL9, mL9n, mC9, mW9, mL10, mL10n, mC10, mW10, mL11, mL11n, mC11, mW11, mL12, mL12n, mC12, mW12, mL13, mL13n, mC13, mW13, mL14, mL14n, mC14, mW14, mL15, mL15n, mC15, mW15, mL16, mL16n, mC16, mW16, mL17, mL17n, mC17, mW17, mL18, mL18n, mC18, mW18, mL19, mL19n, mC19, mW19, mL20, mL20n, mC20, mW20, mL21, mL21n, mC21, mW21, mL23, mL23n, mC23, mW23, mL24, mL24n, mC24, mW24, mL25, mL25n, mC25, mW25, mL26, mL26n, mC26, mW26, mL27, mL27n, mC27, mW27, mL28, mL28n, mC28, mW28, mL29, mL29n, mC29, mW29, mL30, mL30n, mC30, mW30, mL31, mL31n, mC31, mW31, mL32, mL32n, mC32, mW32, mL33, mL33n, mC33, mW33, mL34, mL34n, mC34, mW34, mL22, mC22, mW22, e8, e20, ua_o, ne_eq, ad_add]
theorem kX3_startFigure (hT : T.1 20 = nI f) (hf : f < 12) (hK : K.nb = 0) : pCa 124 d [.ref m] (mput h m T) = some (.inl none, mput h m (mAd T f K 0 0 0 hd)) := by
  rw [eX3_startFigure]
  simp (disch := first | assumption | omega | decide) only [pis_i, pis_l, pis_r, pis_n, p1_i, p1_r, p1_n, p1_u, pw0, pw1, pw2, pw3, pw4, pK_v, pK_0, pK_ite, if_true, if_false, if_pos, if_neg, Nat.reduceAdd, pok_r, i10, i01, Bool.true_or, Bool.or_true, Bool.and_true, Bool.true_and, Nat.add_sub_cancel, i1p1, i1p0, i0p1, i0p0, nIrem2, va_rf_s, bit1, bit0, pinT, pinLT, pin0, nIc, nIcL, nIlt, nIeq, nIltL, nILlt, nIeqL, nILeq, nIadL, nILad, nILmu, nI_add, nIsbL, nI_sub', decide_true, decide_false, Bool.false_or, Bool.or_false, rX3_startFigure_0, rX3_startFigure_1, rX3_startFigure_4, rX3_startFigure_5, rX3_startFigure_8, rX3_startFigure_9, rX3_startFigure_10, rX3_startFigure_11, rX3_startFigure_14, rX3_startFigure_15, rX3_startFigure_18, rX3_startFigure_19, rX3_startFigure_20, mCl, mF0, mP0, mF1, mF2, mF3, mF4, mF5, mP5, mF6, mF7, mP7, mF8, mP8, mF9, mP9, mF10, mP10, mF11, mF12, mF13, mF14, mF15, mF16, mF17, mF18, mF19, mF20, mP20, mF21, mF22, mF23, mP23, mF24, mP24, mF25, mP25, mF26, mF27, mF28, mF29, mF30, mF31, mP31, mF32, mP32, mF33, mP33, mF34, mF35, mF36, mF37, mF38, mF39, mF40, mF41, mF42, mF43, mF44, mF45, mP45, mF46, mP46, mF47, mP47, mF48, mP48, mF49, mF50, mF51, mP51, mL1, mL1n, mC1, mW1, mL2, mL2n, mC2, mW2, mL3, mL3n, mC3, mW3, mL4, mL4n, mC4, mW4, mL5, mL5n, mC5, mW5, mL6, mL6n, mC6, mW6, mL7, mL7n, mC7, mW7, mL8, mL8n, mC8, mW8, mL9, mL9n, mC9, mW9, mL10, mL10n, mC10, mW10, mL11, mL11n, mC11, mW11, mL12, mL12n, mC12, mW12, mL13, mL13n, mC13, mW13, mL14, mL14n, mC14, mW14, mL15, mL15n, mC15, mW15, mL16, mL16n, mC16, mW16, mL17, mL17n, mC17, mW17, mL18, mL18n, mC18, mW18, mL19, mL19n, mC19, mW19, mL20, mL20n, mC20, mW20, mL21, mL21n, mC21, mW21, mL23, mL23n, mC23, mW23, mL24, mL24n, mC24, mW24, mL25, mL25n, mC25, mW25, mL26, mL26n, mC26, mW26, mL27, mL27n, mC27, mW27, mL28, mL28n, mC28, mW28, mL29, mL29n, mC29, mW29, mL30, mL30n, mC30, mW30, mL31, mL31n, mC31, mW31, mL32, mL32n, mC32, mW32, mL33, mL33n, mC33, mW33, mL34, mL34n, mC34, mW34, mL22, mC22, mW22, hT]
  refine congrArg (fun Y => some (Sum.inl none, mput h m Y)) ?_
  refine Prod.ext rfl (Prod.ext ?_ rfl)
  funext j
  show ua (ua T.2.1 8 f 0) 6 f 0 j = (mAd T f K 0 0 0 hd).2.1 j
  by_cases e6 : j = 6
  · subst e6; rw [ua_j, ua_o (by decide)]; rfl
  rw [ua_o e6]
  by_cases e8 : j = 8
  · subst e8; rw [ua_j, ad8, hK]; rfl
  rw [ua_o e8]
  simp only [mAd, e6, e8, hK, rg_0, if_false]
  repeat' split
  all_goals first | rfl | (rename_i e; subst e; rfl) | skip
/-- the model while it numbers points -/
def eNm (T : MS) (f b1 b2 : Nat) (Nn : Nat → Int32) (a b : Nat → Nat) : MS := (T.1, us (us (us T.2.1 17 Nn) 11 (rg (T.2.1 11) (24 * f) b1 (fun k => nI (a k)))) 12 (rg (T.2.1 12) (24 * f) b2 (fun k => nI (b k))), T.2.2)
section
variable {b1 b2 j : Nat} {Nn : Nat → Int32} {a b : Nat → Nat}
theorem eNm_o (a2 : j ≠ 11) (a3 : j ≠ 12) (a4 : j ≠ 17) : (eNm T f b1 b2 Nn a b).2.1 j = T.2.1 j := by unfold eNm; simp only [us_ne a3, us_ne a2, us_ne a4]
theorem eNm_17 : (eNm T f b1 b2 Nn a b).2.1 17 = Nn := by unfold eNm; simp only [us_ne (show (17 : Nat) ≠ 12 by decide), us_ne (show (17 : Nat) ≠ 11 by decide), us_same]
theorem eNm_11 : (eNm T f b1 b2 Nn a b).2.1 11 = rg (T.2.1 11) (24 * f) b1 (fun k => nI (a k)) := by unfold eNm; simp only [us_ne (show (11 : Nat) ≠ 12 by decide), us_same]
theorem eNm_12 : (eNm T f b1 b2 Nn a b).2.1 12 = rg (T.2.1 12) (24 * f) b2 (fun k => nI (b k)) := by unfold eNm; simp only [us_same]
theorem eNm_w11 : (((eNm T f b1 b2 Nn a b).1, ua (eNm T f b1 b2 Nn a b).2.1 11 (24 * f + b1) (nI (a b1)), (eNm T f b1 b2 Nn a b).2.2) : MS) = eNm T f (b1 + 1) b2 Nn a b := by
  rw [ua_us, eNm_11, rg_push rfl]
  unfold eNm
  rw [us_c (j := 12) (j2 := 11) (by decide), us_us]
theorem eNm_w12 : (((eNm T f b1 b2 Nn a b).1, ua (eNm T f b1 b2 Nn a b).2.1 12 (24 * f + b2) (nI (b b2)), (eNm T f b1 b2 Nn a b).2.2) : MS) = eNm T f b1 (b2 + 1) Nn a b := by
  rw [ua_us, eNm_12, rg_push rfl]
  unfold eNm
  rw [us_us]
theorem eNm_0 : eNm T f 0 0 Nn a b = (T.1, us T.2.1 17 Nn, T.2.2) := by
  unfold eNm
  rw [rg_0, rg_0]
  rw [show us (us T.2.1 17 Nn) 11 (T.2.1 11) = us T.2.1 17 Nn by
    have : us T.2.1 17 Nn 11 = T.2.1 11 := us_ne (by decide)
    rw [← this, us_id]]
  rw [show us (us T.2.1 17 Nn) 12 (T.2.1 12) = us T.2.1 17 Nn by
    have : us T.2.1 17 Nn 12 = T.2.1 12 := us_ne (by decide)
    rw [← this, us_id]]
end
theorem kX3_endFigure {p : Nat → Bool} (hk : FigOk F) (hf : f < 12) (hT20 : T.1 20 = nI f) (hN : N ≤ 60) (hp : ∀ q, q < N → (T.2.1 15 q = nI q ↔ p q = true)) (h8 : T.2.1 8 f = nI (F.1 0)) (h6 : T.2.1 6 f = nI (F.1 1)) (h2 : F.1 2 = fb_ct p N) (h3 : F.1 3 = hnd F)
    (hfr : ∀ k, k < F.1 0 → ∃ q r, T.2.1 11 (24 * f + k) = nI q ∧ r < N ∧ p r = true ∧ F.2.1 0 k = fb_ct p r ∧ ∀ (d : Nat) (S' : MS), S'.2.1 15 = T.2.1 15 → pCa 84 d [.ref m, .int (nI q)] (mput h m S') = some (.inl (some (.int (nI r))), mput h m S'))
    (htq : ∀ k, k < F.1 0 → ∃ q r, T.2.1 12 (24 * f + k) = nI q ∧ r < N ∧ p r = true ∧ F.2.1 1 k = fb_ct p r ∧ ∀ (d : Nat) (S' : MS), S'.2.1 15 = T.2.1 15 → pCa 84 d [.ref m, .int (nI q)] (mput h m S') = some (.inl (some (.int (nI r))), mput h m S'))
    (h13 : ∀ k, k < F.1 0 → T.2.1 13 (24 * f + k) = nI (F.2.1 2 k)) (h10 : ∀ k, k < F.1 0 → T.2.1 10 (24 * f + k) = F.2.2 k) (h7 : ∀ b, b < F.1 1 → T.2.1 7 (6 * f + b) = nI (F.2.1 3 b)) :
    ∃ S', pCa 126 (d + 2) [.ref m, .int (nI N)] (mput h m T) = some (.inl none, mput h m (upd S'.1 20 (nI (f + 1)), S'.2)) ∧ mfg T S' f ∧ MFig S' f F := by
  have k1 := hk.1
  let B : Nat → Int32 := fun q => if p q = true then nI (fb_ct p q) else -1
  let E : Nat → MS := fun k => eNm T f k k (fst' (T.2.1 17) B N) (F.2.1 0) (F.2.1 1)
  let Z : MS := (T.1, ua (ua (E (F.1 0)).2.1 9 f (nI (fb_ct p N))) 14 f (nI (hnd F)), T.2.2)
  have hM0 : MFg0 (T.1, ua (E (F.1 0)).2.1 9 f (nI (fb_ct p N)), T.2.2) f F := by
    refine ⟨?_, fun b hb => ?_, fun b hb => ?_, fun b hb => ?_⟩
    · show ua (E (F.1 0)).2.1 9 f (nI (fb_ct p N)) 8 f = _
      rw [ua_o (by decide), eNm_o (by decide) (by decide) (by decide)]; exact h8
    · show ua (E (F.1 0)).2.1 9 f (nI (fb_ct p N)) 11 _ = _
      rw [ua_o (by decide), eNm_11, rg_in hb]
    · show ua (E (F.1 0)).2.1 9 f (nI (fb_ct p N)) 12 _ = _
      rw [ua_o (by decide), eNm_12, rg_in hb]
    · show ua (E (F.1 0)).2.1 9 f (nI (fb_ct p N)) 13 _ = _
      rw [ua_o (by decide), eNm_o (by decide) (by decide) (by decide)]; exact h13 b hb
  have hho := kX3_handsOf (d := d) (m := m) (h := h) hM0 hk (show f < 13 by omega)
  have za : ∀ j, j ≠ 9 → j ≠ 11 → j ≠ 12 → j ≠ 14 → j ≠ 17 → Z.2.1 j = T.2.1 j := fun j a1 a2 a3 a4 a5 => by
    show ua (ua (E (F.1 0)).2.1 9 f (nI (fb_ct p N))) 14 f (nI (hnd F)) j = _
    rw [ua_o a4, ua_o a1, eNm_o a2 a3 a5]
  have z9 : Z.2.1 9 = upd (T.2.1 9) f (nI (fb_ct p N)) := by
    show ua (ua (E (F.1 0)).2.1 9 f (nI (fb_ct p N))) 14 f (nI (hnd F)) 9 = _
    rw [ua_o (by decide), ua_j, eNm_o (by decide) (by decide) (by decide)]
  have z14 : Z.2.1 14 = upd (T.2.1 14) f (nI (hnd F)) := by
    show ua (ua (E (F.1 0)).2.1 9 f (nI (fb_ct p N))) 14 f (nI (hnd F)) 14 = _
    rw [ua_j, ua_o (by decide), eNm_o (by decide) (by decide) (by decide)]
  have z11 : Z.2.1 11 = rg (T.2.1 11) (24 * f) (F.1 0) (fun k => nI (F.2.1 0 k)) := by
    show ua (ua (E (F.1 0)).2.1 9 f (nI (fb_ct p N))) 14 f (nI (hnd F)) 11 = _
    rw [ua_o (by decide), ua_o (by decide), eNm_11]
  have z12 : Z.2.1 12 = rg (T.2.1 12) (24 * f) (F.1 0) (fun k => nI (F.2.1 1 k)) := by
    show ua (ua (E (F.1 0)).2.1 9 f (nI (fb_ct p N))) 14 f (nI (hnd F)) 12 = _
    rw [ua_o (by decide), ua_o (by decide), eNm_12]
  refine ⟨Z, ?_, ⟨fun k _ _ _ _ _ _ => rfl, fun j hj => za j (by omega) (by omega) (by omega) (by omega) (by omega), fun j i hj hi => ?_, fun i hi => by rw [za 7 (by decide) (by decide) (by decide) (by decide) (by decide)], fun j i a1 a2 hi => ?_, rfl⟩, ⟨?_, ?_, ?_, ?_, fun b hb => ?_, fun b hb => ?_, fun b hb => ?_, fun b hb => ?_, fun b hb => ?_⟩⟩
  · rw [eX3_endFigure]
    simp (disch := first | assumption | omega | decide) only [pis_i, pis_l, pis_r, pis_n, p1_i, p1_r, p1_n, p1_u, pw0, pw1, pw2, pw3, pw4, pK_v, pK_0, pK_ite, if_true, if_false, if_pos, if_neg, Nat.reduceAdd, pok_r, i10, i01, Bool.true_or, Bool.or_true, Bool.and_true, Bool.true_and, Nat.add_sub_cancel, i1p1, i1p0, i0p1, i0p0, nIrem2, va_rf_s, bit1, bit0, pinT, pinLT, pin0, nIc, nIcL, nIlt, nIeq, nIltL, nILlt, nIeqL, nILeq, nIadL, nILad, nILmu, nI_add, nIsbL, nI_sub', decide_true, decide_false, Bool.false_or, Bool.or_false, rX3_endFigure_0, rX3_endFigure_1, rX3_endFigure_2, rX3_endFigure_3]
    have l1 := loopN (N := N) (R := some (.inl none, mput h m (upd Z.1 20 (nI (f + 1)), Z.2))) (P := fun k => pR 126 (d + 2) 4 [.ref m, .int (nI N), .int (nI (fb_ct p k)), .int (nI k)] [] (mput h m (T.1, us T.2.1 17 (fst' (T.2.1 17) B k), T.2.2))) (fun k hkk R hR => ?_) ?_ 0 (Nat.zero_le _)
    · rw [fst'_0, us_id] at l1
      exact l1
    · rw [fst'_s, fb_ct_succ] at hR
      have hcl := fb_ct_le p k
      have e15 : ∀ A : Nat → Int32, us T.2.1 17 A 15 = T.2.1 15 := fun A => us_ne (by decide)
      rw [rX3_endFigure_4]
      by_cases hpk : p k = true
      · have e1 := (hp k hkk).mpr hpk
        have eB : B k = nI (fb_ct p k) := if_pos hpk
        rw [eB, hpk] at hR
        simp (disch := first | assumption | omega | decide) only [pis_i, pis_l, pis_r, pis_n, p1_i, p1_r, p1_n, p1_u, pw0, pw1, pw2, pw3, pw4, pK_v, pK_0, pK_ite, if_true, if_false, if_pos, if_neg, Nat.reduceAdd, pok_r, i10, i01, Bool.true_or, Bool.or_true, Bool.and_true, Bool.true_and, Nat.add_sub_cancel, i1p1, i1p0, i0p1, i0p0, nIrem2, va_rf_s, bit1, bit0, pinT, pinLT, pin0, nIc, nIcL, nIlt, nIeq, nIltL, nILlt, nIeqL, nILeq, nIadL, nILad, nILmu, nI_add, nIsbL, nI_sub', decide_true, decide_false, Bool.false_or, Bool.or_false, rX3_endFigure_5, rX3_endFigure_6, rX3_endFigure_9, rX3_endFigure_10, rX3_endFigure_13, rX3_endFigure_14, rX3_endFigure_15, rX3_endFigure_18, rX3_endFigure_19, rX3_endFigure_20, rX3_endFigure_21, rX3_endFigure_24, rX3_endFigure_25, rX3_endFigure_28, rX3_endFigure_29, rX3_endFigure_30, rX3_endFigure_31, rX3_endFigure_32, rX3_endFigure_35, rX3_endFigure_36, rX3_endFigure_37, rX3_endFigure_38, rX3_endFigure_41, rX3_endFigure_42, rX3_endFigure_45, rX3_endFigure_46, rX3_endFigure_47, rX3_endFigure_48, rX3_endFigure_51, mCl, mF0, mP0, mF1, mF2, mF3, mF4, mF5, mP5, mF6, mF7, mP7, mF8, mP8, mF9, mP9, mF10, mP10, mF11, mF12, mF13, mF14, mF15, mF16, mF17, mF18, mF19, mF20, mP20, mF21, mF22, mF23, mP23, mF24, mP24, mF25, mP25, mF26, mF27, mF28, mF29, mF30, mF31, mP31, mF32, mP32, mF33, mP33, mF34, mF35, mF36, mF37, mF38, mF39, mF40, mF41, mF42, mF43, mF44, mF45, mP45, mF46, mP46, mF47, mP47, mF48, mP48, mF49, mF50, mF51, mP51, mL1, mL1n, mC1, mW1, mL2, mL2n, mC2, mW2, mL3, mL3n, mC3, mW3, mL4, mL4n, mC4, mW4, mL5, mL5n, mC5, mW5, mL6, mL6n, mC6, mW6, mL7, mL7n, mC7, mW7, mL8, mL8n, mC8, mW8, mL9, mL9n, mC9, mW9, mL10, mL10n, mC10, mW10, mL11, mL11n, mC11, mW11, mL12, mL12n, mC12, mW12, mL13, mL13n, mC13, mW13, mL14, mL14n, mC14, mW14, mL15, mL15n, mC15, mW15, mL16, mL16n, mC16, mW16, mL17, mL17n, mC17, mW17, mL18, mL18n, mC18, mW18, mL19, mL19n, mC19, mW19, mL20, mL20n, mC20, mW20, mL21, mL21n, mC21, mW21, mL23, mL23n, mC23, mW23, mL24, mL24n, mC24, mW24, mL25, mL25n, mC25, mW25, mL26, mL26n, mC26, mW26, mL27, mL27n, mC27, mW27, mL28, mL28n, mC28, mW28, mL29, mL29n, mC29, mW29, mL30, mL30n, mC30, mW30, mL31, mL31n, mC31, mW31, mL32, mL32n, mC32, mW32, mL33, mL33n, mC33, mW33, mL34, mL34n, mC34, mW34, mL22, mC22, mW22, e15, e1, us_ua]
        exact hR
      · have e1 : ¬ T.2.1 15 k = nI k := fun e => hpk ((hp k hkk).mp e)
        have eB : B k = -1 := if_neg hpk
        have hpk' : p k = false := by simpa using hpk
        rw [eB, hpk'] at hR
        simp (disch := first | assumption | omega | decide) only [pis_i, pis_l, pis_r, pis_n, p1_i, p1_r, p1_n, p1_u, pw0, pw1, pw2, pw3, pw4, pK_v, pK_0, pK_ite, if_true, if_false, if_pos, if_neg, Nat.reduceAdd, pok_r, i10, i01, Bool.true_or, Bool.or_true, Bool.and_true, Bool.true_and, Nat.add_sub_cancel, i1p1, i1p0, i0p1, i0p0, nIrem2, va_rf_s, bit1, bit0, pinT, pinLT, pin0, nIc, nIcL, nIlt, nIeq, nIltL, nILlt, nIeqL, nILeq, nIadL, nILad, nILmu, nI_add, nIsbL, nI_sub', decide_true, decide_false, Bool.false_or, Bool.or_false, rX3_endFigure_5, rX3_endFigure_6, rX3_endFigure_9, rX3_endFigure_10, rX3_endFigure_13, rX3_endFigure_14, rX3_endFigure_15, rX3_endFigure_18, rX3_endFigure_19, rX3_endFigure_20, rX3_endFigure_21, rX3_endFigure_24, rX3_endFigure_25, rX3_endFigure_28, rX3_endFigure_29, rX3_endFigure_30, rX3_endFigure_31, rX3_endFigure_32, rX3_endFigure_35, rX3_endFigure_36, rX3_endFigure_37, rX3_endFigure_38, rX3_endFigure_41, rX3_endFigure_42, rX3_endFigure_45, rX3_endFigure_46, rX3_endFigure_47, rX3_endFigure_48, rX3_endFigure_51, mCl, mF0, mP0, mF1, mF2, mF3, mF4, mF5, mP5, mF6, mF7, mP7, mF8, mP8, mF9, mP9, mF10, mP10, mF11, mF12, mF13, mF14, mF15, mF16, mF17, mF18, mF19, mF20, mP20, mF21, mF22, mF23, mP23, mF24, mP24, mF25, mP25, mF26, mF27, mF28, mF29, mF30, mF31, mP31, mF32, mP32, mF33, mP33, mF34, mF35, mF36, mF37, mF38, mF39, mF40, mF41, mF42, mF43, mF44, mF45, mP45, mF46, mP46, mF47, mP47, mF48, mP48, mF49, mF50, mF51, mP51, mL1, mL1n, mC1, mW1, mL2, mL2n, mC2, mW2, mL3, mL3n, mC3, mW3, mL4, mL4n, mC4, mW4, mL5, mL5n, mC5, mW5, mL6, mL6n, mC6, mW6, mL7, mL7n, mC7, mW7, mL8, mL8n, mC8, mW8, mL9, mL9n, mC9, mW9, mL10, mL10n, mC10, mW10, mL11, mL11n, mC11, mW11, mL12, mL12n, mC12, mW12, mL13, mL13n, mC13, mW13, mL14, mL14n, mC14, mW14, mL15, mL15n, mC15, mW15, mL16, mL16n, mC16, mW16, mL17, mL17n, mC17, mW17, mL18, mL18n, mC18, mW18, mL19, mL19n, mC19, mW19, mL20, mL20n, mC20, mW20, mL21, mL21n, mC21, mW21, mL23, mL23n, mC23, mW23, mL24, mL24n, mC24, mW24, mL25, mL25n, mC25, mW25, mL26, mL26n, mC26, mW26, mL27, mL27n, mC27, mW27, mL28, mL28n, mC28, mW28, mL29, mL29n, mC29, mW29, mL30, mL30n, mC30, mW30, mL31, mL31n, mC31, mW31, mL32, mL32n, mC32, mW32, mL33, mL33n, mC33, mW33, mL34, mL34n, mC34, mW34, mL22, mC22, mW22, e15, e1, us_ua]
        exact hR
    · rw [rX3_endFigure_4]
      simp (disch := first | assumption | omega | decide) only [pis_i, pis_l, pis_r, pis_n, p1_i, p1_r, p1_n, p1_u, pw0, pw1, pw2, pw3, pw4, pK_v, pK_0, pK_ite, if_true, if_false, if_pos, if_neg, Nat.reduceAdd, pok_r, i10, i01, Bool.true_or, Bool.or_true, Bool.and_true, Bool.true_and, Nat.add_sub_cancel, i1p1, i1p0, i0p1, i0p0, nIrem2, va_rf_s, bit1, bit0, pinT, pinLT, pin0, nIc, nIcL, nIlt, nIeq, nIltL, nILlt, nIeqL, nILeq, nIadL, nILad, nILmu, nI_add, nIsbL, nI_sub', decide_true, decide_false, Bool.false_or, Bool.or_false, rX3_endFigure_5, rX3_endFigure_6, rX3_endFigure_9, rX3_endFigure_10, rX3_endFigure_13, rX3_endFigure_14, rX3_endFigure_15, rX3_endFigure_18, rX3_endFigure_19, rX3_endFigure_20, rX3_endFigure_21, rX3_endFigure_24, rX3_endFigure_25, rX3_endFigure_28, rX3_endFigure_29, rX3_endFigure_30, rX3_endFigure_31, rX3_endFigure_32, rX3_endFigure_35, rX3_endFigure_36, rX3_endFigure_37, rX3_endFigure_38, rX3_endFigure_41, rX3_endFigure_42, rX3_endFigure_45, rX3_endFigure_46, rX3_endFigure_47, rX3_endFigure_48, rX3_endFigure_51, rX3_endFigure_54, rX3_endFigure_56, rX3_endFigure_57, rX3_endFigure_60, rX3_endFigure_61, mCl, mF0, mP0, mF1, mF2, mF3, mF4, mF5, mP5, mF6, mF7, mP7, mF8, mP8, mF9, mP9, mF10, mP10, mF11, mF12, mF13, mF14, mF15, mF16, mF17, mF18, mF19, mF20, mP20, mF21, mF22, mF23, mP23, mF24, mP24, mF25, mP25, mF26, mF27, mF28, mF29, mF30, mF31, mP31, mF32, mP32, mF33, mP33, mF34, mF35, mF36, mF37, mF38, mF39, mF40, mF41, mF42, mF43, mF44, mF45, mP45, mF46, mP46, mF47, mP47, mF48, mP48, mF49, mF50, mF51, mP51, mL1, mL1n, mC1, mW1, mL2, mL2n, mC2, mW2, mL3, mL3n, mC3, mW3, mL4, mL4n, mC4, mW4, mL5, mL5n, mC5, mW5, mL6, mL6n, mC6, mW6, mL7, mL7n, mC7, mW7, mL8, mL8n, mC8, mW8, mL9, mL9n, mC9, mW9, mL10, mL10n, mC10, mW10, mL11, mL11n, mC11, mW11, mL12, mL12n, mC12, mW12, mL13, mL13n, mC13, mW13, mL14, mL14n, mC14, mW14, mL15, mL15n, mC15, mW15, mL16, mL16n, mC16, mW16, mL17, mL17n, mC17, mW17, mL18, mL18n, mC18, mW18, mL19, mL19n, mC19, mW19, mL20, mL20n, mC20, mW20, mL21, mL21n, mC21, mW21, mL23, mL23n, mC23, mW23, mL24, mL24n, mC24, mW24, mL25, mL25n, mC25, mW25, mL26, mL26n, mC26, mW26, mL27, mL27n, mC27, mW27, mL28, mL28n, mC28, mW28, mL29, mL29n, mC29, mW29, mL30, mL30n, mC30, mW30, mL31, mL31n, mC31, mW31, mL32, mL32n, mC32, mW32, mL33, mL33n, mC33, mW33, mL34, mL34n, mC34, mW34, mL22, mC22, mW22, hT20]
      have l2 := loopN (N := F.1 0) (R := some (.inl none, mput h m (upd Z.1 20 (nI (f + 1)), Z.2))) (P := fun k => pR 126 (d + 2) 62 [.ref m, .int (nI N), .int (nI (fb_ct p N)), .int (nI (24 * f + k))] [] (mput h m (E k))) (fun k hkk R hR => ?_) ?_ 0 (Nat.zero_le _)
      · rw [show E 0 = _ from eNm_0] at l2
        exact l2
      · obtain ⟨q1, r1, a1, a2, a3, a4, a5⟩ := hfr k hkk
        obtain ⟨q2, r2, b1, b2, b3, b4, b5⟩ := htq k hkk
        have e20 : (E k).1 20 = nI f := hT20
        have e8 : (E k).2.1 8 f = nI (F.1 0) := by rw [eNm_o (by decide) (by decide) (by decide)]; exact h8
        have e11 : (E k).2.1 11 (24 * f + k) = nI q1 := by rw [eNm_11, rg_out (by omega)]; exact a1
        have e17 : (E k).2.1 17 r1 = nI (F.2.1 0 k) := by rw [eNm_17, fst', if_pos a2, a4]; exact if_pos a3
        have c1 := a5 (d + 1) (E k) (eNm_o (by decide) (by decide) (by decide))
        let E' : MS := eNm T f (k + 1) k (fst' (T.2.1 17) B N) (F.2.1 0) (F.2.1 1)
        have w11 : (((E k).1, ua (E k).2.1 11 (24 * f + k) (nI (F.2.1 0 k)), (E k).2.2) : MS) = E' := eNm_w11
        have e12 : E'.2.1 12 (24 * f + k) = nI q2 := by rw [eNm_12, rg_out (by omega)]; exact b1
        have e17' : E'.2.1 17 r2 = nI (F.2.1 1 k) := by rw [eNm_17, fst', if_pos b2, b4]; exact if_pos b3
        have c2 := b5 (d + 1) E' (eNm_o (by decide) (by decide) (by decide))
        have w12 : ((E'.1, ua E'.2.1 12 (24 * f + k) (nI (F.2.1 1 k)), E'.2.2) : MS) = E (k + 1) := eNm_w12
        have hf24 : 24 * f + k < 312 := by omega
        rw [rX3_endFigure_62]
        generalize E k = Ek at e20 e8 e11 e17 c1 w11 ⊢
        generalize E' = Ek' at w11 e12 e17' c2 w12 ⊢
        simp (disch := first | assumption | omega | decide) only [pis_i, pis_l, pis_r, pis_n, p1_i, p1_r, p1_n, p1_u, pw0, pw1, pw2, pw3, pw4, pK_v, pK_0, pK_ite, if_true, if_false, if_pos, if_neg, Nat.reduceAdd, pok_r, i10, i01, Bool.true_or, Bool.or_true, Bool.and_true, Bool.true_and, Nat.add_sub_cancel, i1p1, i1p0, i0p1, i0p0, nIrem2, va_rf_s, bit1, bit0, pinT, pinLT, pin0, nIc, nIcL, nIlt, nIeq, nIltL, nILlt, nIeqL, nILeq, nIadL, nILad, nILmu, nI_add, nIsbL, nI_sub', decide_true, decide_false, Bool.false_or, Bool.or_false, rX3_endFigure_63, rX3_endFigure_65, rX3_endFigure_66, rX3_endFigure_69, rX3_endFigure_70, rX3_endFigure_71, rX3_endFigure_74, rX3_endFigure_75, rX3_endFigure_78, rX3_endFigure_79, rX3_endFigure_80, rX3_endFigure_83, rX3_endFigure_84, rX3_endFigure_87, rX3_endFigure_88, rX3_endFigure_89, rX3_endFigure_92, rX3_endFigure_93, rX3_endFigure_94, rX3_endFigure_97, rX3_endFigure_98, rX3_endFigure_99, rX3_endFigure_102, rX3_endFigure_103, rX3_endFigure_104, rX3_endFigure_105, rX3_endFigure_108, rX3_endFigure_109, rX3_endFigure_110, rX3_endFigure_113, rX3_endFigure_114, rX3_endFigure_115, rX3_endFigure_118, rX3_endFigure_119, rX3_endFigure_120, rX3_endFigure_123, rX3_endFigure_124, rX3_endFigure_125, rX3_endFigure_128, mCl, mF0, mP0, mF1, mF2, mF3, mF4, mF5, mP5, mF6, mF7, mP7, mF8, mP8, mF9, mP9, mF10, mP10, mF11, mF12, mF13, mF14, mF15, mF16, mF17, mF18, mF19, mF20, mP20, mF21, mF22, mF23, mP23, mF24, mP24, mF25, mP25, mF26, mF27, mF28, mF29, mF30, mF31, mP31, mF32, mP32, mF33, mP33, mF34, mF35, mF36, mF37, mF38, mF39, mF40, mF41, mF42, mF43, mF44, mF45, mP45, mF46, mP46, mF47, mP47, mF48, mP48, mF49, mF50, mF51, mP51, mL1, mL1n, mC1, mW1, mL2, mL2n, mC2, mW2, mL3, mL3n, mC3, mW3, mL4, mL4n, mC4, mW4, mL5, mL5n, mC5, mW5, mL6, mL6n, mC6, mW6, mL7, mL7n, mC7, mW7, mL8, mL8n, mC8, mW8, mL9, mL9n, mC9, mW9, mL10, mL10n, mC10, mW10, mL11, mL11n, mC11, mW11, mL12, mL12n, mC12, mW12, mL13, mL13n, mC13, mW13, mL14, mL14n, mC14, mW14, mL15, mL15n, mC15, mW15, mL16, mL16n, mC16, mW16, mL17, mL17n, mC17, mW17, mL18, mL18n, mC18, mW18, mL19, mL19n, mC19, mW19, mL20, mL20n, mC20, mW20, mL21, mL21n, mC21, mW21, mL23, mL23n, mC23, mW23, mL24, mL24n, mC24, mW24, mL25, mL25n, mC25, mW25, mL26, mL26n, mC26, mW26, mL27, mL27n, mC27, mW27, mL28, mL28n, mC28, mW28, mL29, mL29n, mC29, mW29, mL30, mL30n, mC30, mW30, mL31, mL31n, mC31, mW31, mL32, mL32n, mC32, mW32, mL33, mL33n, mC33, mW33, mL34, mL34n, mC34, mW34, mL22, mC22, mW22, e20, e8, e11, c1, e17, w11, e12, c2, e17', w12]
        rw [show 24 * f + k + 1 = 24 * f + (k + 1) by omega]
        exact hR
      · have e20 : (E (F.1 0)).1 20 = nI f := hT20
        have e8 : (E (F.1 0)).2.1 8 f = nI (F.1 0) := by rw [eNm_o (by decide) (by decide) (by decide)]; exact h8
        have hE1 : (E (F.1 0)).1 = T.1 := rfl
        have hE2 : (E (F.1 0)).2.2 = T.2.2 := rfl
        have hhl := hnd_le hk
        rw [rX3_endFigure_62]
        show pR _ _ _ _ _ _ = some (Sum.inl none, mput h m (upd T.1 20 (nI (f + 1)), ua (ua (E (F.1 0)).2.1 9 f (nI (fb_ct p N))) 14 f (nI (hnd F)), T.2.2))
        generalize E (F.1 0) = EE at e20 e8 hE1 hE2 hho ⊢
        simp (disch := first | assumption | omega | decide) only [pis_i, pis_l, pis_r, pis_n, p1_i, p1_r, p1_n, p1_u, pw0, pw1, pw2, pw3, pw4, pK_v, pK_0, pK_ite, if_true, if_false, if_pos, if_neg, Nat.reduceAdd, pok_r, i10, i01, Bool.true_or, Bool.or_true, Bool.and_true, Bool.true_and, Nat.add_sub_cancel, i1p1, i1p0, i0p1, i0p0, nIrem2, va_rf_s, bit1, bit0, pinT, pinLT, pin0, nIc, nIcL, nIlt, nIeq, nIltL, nILlt, nIeqL, nILeq, nIadL, nILad, nILmu, nI_add, nIsbL, nI_sub', decide_true, decide_false, Bool.false_or, Bool.or_false, rX3_endFigure_63, rX3_endFigure_65, rX3_endFigure_66, rX3_endFigure_69, rX3_endFigure_70, rX3_endFigure_71, rX3_endFigure_74, rX3_endFigure_75, rX3_endFigure_78, rX3_endFigure_79, rX3_endFigure_80, rX3_endFigure_131, rX3_endFigure_132, rX3_endFigure_135, rX3_endFigure_136, rX3_endFigure_139, rX3_endFigure_140, rX3_endFigure_141, rX3_endFigure_142, rX3_endFigure_145, rX3_endFigure_146, rX3_endFigure_149, rX3_endFigure_150, rX3_endFigure_151, rX3_endFigure_154, rX3_endFigure_157, rX3_endFigure_158, rX3_endFigure_159, rX3_endFigure_159i, rX3_endFigure_160, rX3_endFigure_163, rX3_endFigure_164, rX3_endFigure_165, rX3_endFigure_168, mCl, mF0, mP0, mF1, mF2, mF3, mF4, mF5, mP5, mF6, mF7, mP7, mF8, mP8, mF9, mP9, mF10, mP10, mF11, mF12, mF13, mF14, mF15, mF16, mF17, mF18, mF19, mF20, mP20, mF21, mF22, mF23, mP23, mF24, mP24, mF25, mP25, mF26, mF27, mF28, mF29, mF30, mF31, mP31, mF32, mP32, mF33, mP33, mF34, mF35, mF36, mF37, mF38, mF39, mF40, mF41, mF42, mF43, mF44, mF45, mP45, mF46, mP46, mF47, mP47, mF48, mP48, mF49, mF50, mF51, mP51, mL1, mL1n, mC1, mW1, mL2, mL2n, mC2, mW2, mL3, mL3n, mC3, mW3, mL4, mL4n, mC4, mW4, mL5, mL5n, mC5, mW5, mL6, mL6n, mC6, mW6, mL7, mL7n, mC7, mW7, mL8, mL8n, mC8, mW8, mL9, mL9n, mC9, mW9, mL10, mL10n, mC10, mW10, mL11, mL11n, mC11, mW11, mL12, mL12n, mC12, mW12, mL13, mL13n, mC13, mW13, mL14, mL14n, mC14, mW14, mL15, mL15n, mC15, mW15, mL16, mL16n, mC16, mW16, mL17, mL17n, mC17, mW17, mL18, mL18n, mC18, mW18, mL19, mL19n, mC19, mW19, mL20, mL20n, mC20, mW20, mL21, mL21n, mC21, mW21, mL23, mL23n, mC23, mW23, mL24, mL24n, mC24, mW24, mL25, mL25n, mC25, mW25, mL26, mL26n, mC26, mW26, mL27, mL27n, mC27, mW27, mL28, mL28n, mC28, mW28, mL29, mL29n, mC29, mW29, mL30, mL30n, mC30, mW30, mL31, mL31n, mC31, mW31, mL32, mL32n, mC32, mW32, mL33, mL33n, mC33, mW33, mL34, mL34n, mC34, mW34, mL22, mC22, mW22, e20, e8, hE1, hE2, hT20, hho]
  · rcases hj with rfl | rfl | rfl | rfl
    · rw [za 6 (by decide) (by decide) (by decide) (by decide) (by decide)]
    · rw [za 8 (by decide) (by decide) (by decide) (by decide) (by decide)]
    · rw [z9, upd_ne (by omega)]
    · rw [z14, upd_ne (by omega)]
  · match j, a1, a2 with
    | 10, _, _ => rw [za 10 (by decide) (by decide) (by decide) (by decide) (by decide)]
    | 11, _, _ => rw [z11, rg_out (Or.inl hi)]
    | 12, _, _ => rw [z12, rg_out (Or.inl hi)]
    | 13, _, _ => rw [za 13 (by decide) (by decide) (by decide) (by decide) (by decide)]
  · rw [za 8 (by decide) (by decide) (by decide) (by decide) (by decide)]; exact h8
  · rw [za 6 (by decide) (by decide) (by decide) (by decide) (by decide)]; exact h6
  · rw [z9, upd_same, h2]
  · rw [z14, upd_same, h3]
  · rw [z11, rg_in hb]
  · rw [z12, rg_in hb]
  · rw [za 13 (by decide) (by decide) (by decide) (by decide) (by decide)]; exact h13 b hb
  · rw [za 7 (by decide) (by decide) (by decide) (by decide) (by decide)]; exact h7 b hb
  · rw [za 10 (by decide) (by decide) (by decide) (by decide) (by decide)]; exact h10 b hb
end
