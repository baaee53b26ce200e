/-! QUERIES 7: twice, both sides -/
set_option maxRecDepth 100000
/-- is a point odd -/
def od1 (F : Fig) (p : Nat) : Bool := fE F p % 2 == 1
/-- the odd points laid in a row -/
def oa (F : Fig) (A : Nat → Int32) : Nat → Nat → Int32
  | 0 => A
  | p + 1 => if od1 F p = true then upd (oa F A p) (fb_ct (od1 F) p) (nI p) else oa F A p
theorem oa_at {F : Fig} {A : Nat → Int32} {i : Nat} (hi : od1 F i = true) : ∀ n, i < n → oa F A n (fb_ct (od1 F) i) = nI i := by
  intro n
  induction n with
  | zero => intro h; omega
  | succ n ih =>
    intro h
    rw [oa]
    by_cases e : i = n
    · subst e; rw [if_pos hi]; exact upd_same
    · have hlt : fb_ct (od1 F) i < fb_ct (od1 F) n := by
        have := fb_ct_mono (od1 F) (show i + 1 ≤ n by omega)
        rw [fb_ct_succ, if_pos hi] at this
        omega
      split
      · rw [upd_ne (by omega)]; exact ih (by omega)
      · exact ih (by omega)
theorem sm_one {a : Nat} : ∀ n, fb_sm (fun p => if a = p then 1 else 0) n = if a < n then 1 else 0 := by
  intro n
  induction n with
  | zero => rfl
  | succ n ih =>
    rw [fb_sm_succ, ih]
    by_cases e : a = n
    · subst e; simp
    · by_cases e2 : a < n
      · rw [if_pos e2, if_neg e, if_pos (by omega)]
      · rw [if_neg e2, if_neg e, if_neg (by omega)]
theorem hand_sh {F : Fig} (hk : FigOk F) : fb_sm (fE F) (F.1 2) = 2 * F.1 0 := by
  have : ∀ n, n ≤ F.1 0 → fb_sm (fun p => fb_sm (fEa F p) n) (F.1 2) = 2 * n := by
    intro n
    induction n with
    | zero => intro _; show fb_sm (fun _ => 0) _ = _; rw [fb_sm_const]; rfl
    | succ n ih =>
      intro hn
      have k5 := hk.2.2.2.2.1 n (by omega)
      have e : fb_sm (fun p => fb_sm (fEa F p) (n + 1)) (F.1 2) = fb_sm (fun p => fb_sm (fEa F p) n + fEa F p n) (F.1 2) := fb_sm_cong (fun p _ => fb_sm_succ _ _)
      rw [e, fb_sm_add, ih (by omega)]
      have e2 : fb_sm (fun p => fEa F p n) (F.1 2) = fb_sm (fun p => (if F.2.1 0 n = p then 1 else 0) + (if F.2.1 1 n = p then 1 else 0)) (F.1 2) := rfl
      rw [e2, fb_sm_add, sm_one, sm_one, if_pos k5.1, if_pos k5.2.1]
      omega
  exact this _ (Nat.le_refl _)
theorem od_ct {F : Fig} (hk : FigOk F) (hb : F.1 0 ≤ 12) : fb_ct (od1 F) (F.1 2) ≤ 24 := by
  have : ∀ n, fb_ct (od1 F) n ≤ fb_sm (fE F) n := by
    intro n
    induction n with
    | zero => exact Nat.le_refl _
    | succ n ih =>
      rw [fb_ct_succ, fb_sm_succ]
      split
      · rename_i q
        have : fE F n ≠ 0 := fun e => by rw [od1, e] at q; cases q
        omega
      · omega
  have h1 := this (F.1 2)
  rw [hand_sh hk] at h1
  omega
theorem pr_0 {D : Nat → Nat → Int32} {N sp : Nat} : ∀ k, pr D N k 0 sp = 0 := by
  intro k
  cases k with
  | zero => rfl
  | succ k => rw [pr, if_pos rfl]
theorem cS_0 {n : Nat} (hn : n < 32) : cS n 0 = aI n := by
  apply b_ext
  intro i hi
  rw [bt_c hn hi, b_0, bt_aI n hn i hi]
  simp
theorem pr_1 {D : Nat → Nat → Int32} {sp k : Nat} (h : 0 < sp) : pr D 1 (k + 1) (aI 1) sp = 0 := by
  rw [pr, if_neg (by decide), show lwf (aI 1) 0 32 = 0 by decide, show wo (aI 1) 0 = 0 by decide, if_pos h, pr_0]
  rfl
section
variable {d m x : Nat} {h h' : pH} {S : MS} {X : XS} {G : Nat} {Fs : Nat → Fig} {fa : Nat → Nat}
theorem msc.tr {S S' S'' : MS} (h1 : msc S S') (h2 : msc S' S'') : msc S S'' := ⟨fun k a1 a2 a3 a4 a5 a6 a7 a8 a9 => (h2.1 k a1 a2 a3 a4 a5 a6 a7 a8 a9).trans (h1.1 k a1 a2 a3 a4 a5 a6 a7 a8 a9), fun j a1 a2 a3 a4 a5 a6 a7 => (h2.2 j a1 a2 a3 a4 a5 a6 a7).trans (h1.2 j a1 a2 a3 a4 a5 a6 a7)⟩
theorem xsc.tr {X X' X'' : XS} (h1 : xsc X X') (h2 : xsc X' X'') : xsc X X'' := ⟨fun k a => (h2.1 k a).trans (h1.1 k a), h2.2.1.trans h1.2.1, h2.2.2.trans h1.2.2⟩
theorem q_twice (hM : MF S G Fs) (hX0 : XF0 x X h' G Fs fa) (v : Int32) : ∃ r S' X', pCa 153 (d + 30) [.ref m, .int v] (mput h m S) = some (.inl (some (.int r)), mput h m S') ∧ pCa 44 (d + 30) [.ref x, .int v] (xput h' x X) = some (.inl (some (.int r)), xput h' x X') ∧ msc S S' ∧ xsc X X' := by
  have hX := hX0.up
  obtain ⟨hG, hS, hMf⟩ := hM
  obtain ⟨hS', hXf⟩ := hX
  rw [eX3_twice, eX1_twice]
  by_cases hv : isx v G
  · obtain ⟨g, hg, rfl⟩ := hv
    obtain ⟨hF, hk⟩ := hMf g hg
    obtain ⟨hf, hF'⟩ := hXf g hg
    obtain ⟨-, hfx, hF1⟩ := hX0.2 g hg
    have k1 := hk.1
    have k3 := hk.2.2.1
    have f1 := hF.1
    have f3 := hF.2.2.1
    have hpx := kX24_parts (d := d + 27) hF' hk (aI_in (n := (Fs g).1 0) (by omega))
    have hpm := kX3_partsOf (d := d + 28) (m := m) (h := h) hF hk (show g < 13 by omega) (aI_in (n := (Fs g).1 0) (by omega))
    have hpl : pt (Fs g) 25 (aI ((Fs g).1 0)) ≤ 25 := by
      have : ∀ k s, pt (Fs g) k s ≤ k := by
        intro k
        induction k with
        | zero => intro s; exact Nat.le_refl _
        | succ k ih => intro s; rw [pt]; split; omega; have := ih (s &&& (hx (Fs g) s 25 (s &&& (-s)) ^^^ (-1))); omega
      exact this _ _
    obtain ⟨x0, xf, xt, xl, xw, xs, xe, xb, xa, xp, xh⟩ := hF'.o
    by_cases hb : 12 < (Fs g).1 0
    · refine ⟨-1, S, X, ?_, ?_, msc.rf, xsc.rf⟩
      · simp (disch := first | omega | decide) only [pis_i, pis_l, pis_r, pis_n, p1_i, p1_r, p1_n, p1_u, pw0, pw1, pw2, pw3, pw4, pK_v, pK_0, pK_ite, if_true, if_false, if_pos, if_neg, Nat.reduceAdd, pok_r, i10, i01, Bool.true_or, Bool.or_true, Bool.and_true, Bool.true_and, Nat.add_sub_cancel, i1p1, i1p0, i0p1, i0p0, nIrem2, va_rf_s, bit1, bit0, pinT, pinLT, pin0, nIc, nIcL, nIlt, nIeq, nIltL, nILlt, nIeqL, nILeq, nIadL, nILad, nILmu, nI_add, nIsbL, nI_sub', decide_true, decide_false, Bool.false_or, Bool.or_false, rX3_twice_0, rX3_twice_1, rX3_twice_2, rX3_twice_5, rX3_twice_8, rX3_twice_9, rX3_twice_12, rX3_twice_13, rX3_twice_14, rX3_twice_16, rX3_twice_19, rX3_twice_20, rX3_twice_21, rX3_twice_22, rX3_twice_23, rX3_twice_26, rX3_twice_29, rX3_twice_30, rX3_twice_33, rX3_twice_34, mCl, mF0, mP0, mF1, mF2, mF3, mF4, mF5, mP5, mF6, mF7, mP7, mF8, mP8, mF9, mP9, mF10, mP10, mF11, mF12, mF13, mF14, mF15, mF16, mF17, mF18, mF19, mF20, mP20, mF21, mF22, mF23, mP23, mF24, mP24, mF25, mP25, mF26, mF27, mF28, mF29, mF30, mF31, mP31, mF32, mP32, mF33, mP33, mF34, mF35, mF36, mF37, mF38, mF39, mF40, mF41, mF42, mF43, mF44, mF45, mP45, mF46, mP46, mF47, mP47, mF48, mP48, mF49, mF50, mF51, mP51, mL1, mL1n, mC1, mW1, mL2, mL2n, mC2, mW2, mL3, mL3n, mC3, mW3, mL4, mL4n, mC4, mW4, mL5, mL5n, mC5, mW5, mL6, mL6n, mC6, mW6, mL7, mL7n, mC7, mW7, mL8, mL8n, mC8, mW8, mL9, mL9n, mC9, mW9, mL10, mL10n, mC10, mW10, mL11, mL11n, mC11, mW11, mL12, mL12n, mC12, mW12, mL13, mL13n, mC13, mW13, mL14, mL14n, mC14, mW14, mL15, mL15n, mC15, mW15, mL16, mL16n, mC16, mW16, mL17, mL17n, mC17, mW17, mL18, mL18n, mC18, mW18, mL19, mL19n, mC19, mW19, mL20, mL20n, mC20, mW20, mL21, mL21n, mC21, mW21, mL23, mL23n, mC23, mW23, mL24, mL24n, mC24, mW24, mL25, mL25n, mC25, mW25, mL26, mL26n, mC26, mW26, mL27, mL27n, mC27, mW27, mL28, mL28n, mC28, mW28, mL29, mL29n, mC29, mW29, mL30, mL30n, mC30, mW30, mL31, mL31n, mC31, mW31, mL32, mL32n, mC32, mW32, mL33, mL33n, mC33, mW33, mL34, mL34n, mC34, mW34, mL22, mC22, mW22, kX3_isFigure hS (show G < 1000 by omega) hg, f1]
      · simp (disch := first | omega | decide) only [pis_i, pis_l, pis_r, pis_n, p1_i, p1_r, p1_n, p1_u, pw0, pw1, pw2, pw3, pw4, pK_v, pK_0, pK_ite, if_true, if_false, if_pos, if_neg, Nat.reduceAdd, pok_r, i10, i01, Bool.true_or, Bool.or_true, Bool.and_true, Bool.true_and, Nat.add_sub_cancel, i1p1, i1p0, i0p1, i0p0, nIrem2, va_rf_s, bit1, bit0, pinT, pinLT, pin0, nIc, nIcL, nIlt, nIeq, nIltL, nILlt, nIeqL, nILeq, nIadL, nILad, nILmu, nI_add, nIsbL, nI_sub', decide_true, decide_false, Bool.false_or, Bool.or_false, rX1_twice_0, rX1_twice_1, rX1_twice_2, rX1_twice_5, rX1_twice_8, rX1_twice_9, rX1_twice_12, rX1_twice_13, rX1_twice_14, rX1_twice_17, rX1_twice_19, rX1_twice_22, rX1_twice_23, rX1_twice_26, rX1_twice_27, rX1_twice_28, rX1_twice_29, rX1_twice_32, rX1_twice_33, rX1_twice_34, rX1_twice_37, rX1_twice_40, rX1_twice_41, rX1_twice_44, rX1_twice_45, xCl, xF0, xF1, xP1, xF2, xF3, xP3, xF4, xF5, xP5, xF6, xF7, xF8, xF9, xF10, xF11, xF12, xP12, xF13, xP13, xF14, xP14, xF15, xP15, xF16, xP16, xF17, xP17, xF18, xF19, xF20, xP20, xF21, xF22, xP22, xL2, xL2n, xC2, xW2, xL4, xL4n, xC4, xW4, xL5, xL5n, xC5, xW5, xL6, xL6n, xC6, xW6, xL7, xL7n, xC7, xW7, xL8, xL8n, xC8, xW8, xL12, xL12n, xC12, xW12, xL13, xL13n, xC13, xW13, xL1, xK1, xC1, xW1, xL3, xK3, xC3, xW3, xL9, xK9, xC9, xW9, xL10, xK10, xC10, xW10, xLf, xLc, kX1_isFigure hS' (show G < 1000 by omega) hg, hf, xb]
    · by_cases hp : 1 < pt (Fs g) 25 (aI ((Fs g).1 0))
      · refine ⟨-1, S, X, ?_, ?_, msc.rf, xsc.rf⟩
        · simp (disch := first | omega | decide) only [pis_i, pis_l, pis_r, pis_n, p1_i, p1_r, p1_n, p1_u, pw0, pw1, pw2, pw3, pw4, pK_v, pK_0, pK_ite, if_true, if_false, if_pos, if_neg, Nat.reduceAdd, pok_r, i10, i01, Bool.true_or, Bool.or_true, Bool.and_true, Bool.true_and, Nat.add_sub_cancel, i1p1, i1p0, i0p1, i0p0, nIrem2, va_rf_s, bit1, bit0, pinT, pinLT, pin0, nIc, nIcL, nIlt, nIeq, nIltL, nILlt, nIeqL, nILeq, nIadL, nILad, nILmu, nI_add, nIsbL, nI_sub', decide_true, decide_false, Bool.false_or, Bool.or_false, rX3_twice_0, rX3_twice_1, rX3_twice_2, rX3_twice_5, rX3_twice_8, rX3_twice_9, rX3_twice_12, rX3_twice_13, rX3_twice_14, rX3_twice_16, rX3_twice_19, rX3_twice_20, rX3_twice_21, rX3_twice_22, rX3_twice_23, rX3_twice_26, rX3_twice_29, rX3_twice_30, rX3_twice_33, rX3_twice_34, mCl, mF0, mP0, mF1, mF2, mF3, mF4, mF5, mP5, mF6, mF7, mP7, mF8, mP8, mF9, mP9, mF10, mP10, mF11, mF12, mF13, mF14, mF15, mF16, mF17, mF18, mF19, mF20, mP20, mF21, mF22, mF23, mP23, mF24, mP24, mF25, mP25, mF26, mF27, mF28, mF29, mF30, mF31, mP31, mF32, mP32, mF33, mP33, mF34, mF35, mF36, mF37, mF38, mF39, mF40, mF41, mF42, mF43, mF44, mF45, mP45, mF46, mP46, mF47, mP47, mF48, mP48, mF49, mF50, mF51, mP51, mL1, mL1n, mC1, mW1, mL2, mL2n, mC2, mW2, mL3, mL3n, mC3, mW3, mL4, mL4n, mC4, mW4, mL5, mL5n, mC5, mW5, mL6, mL6n, mC6, mW6, mL7, mL7n, mC7, mW7, mL8, mL8n, mC8, mW8, mL9, mL9n, mC9, mW9, mL10, mL10n, mC10, mW10, mL11, mL11n, mC11, mW11, mL12, mL12n, mC12, mW12, mL13, mL13n, mC13, mW13, mL14, mL14n, mC14, mW14, mL15, mL15n, mC15, mW15, mL16, mL16n, mC16, mW16, mL17, mL17n, mC17, mW17, mL18, mL18n, mC18, mW18, mL19, mL19n, mC19, mW19, mL20, mL20n, mC20, mW20, mL21, mL21n, mC21, mW21, mL23, mL23n, mC23, mW23, mL24, mL24n, mC24, mW24, mL25, mL25n, mC25, mW25, mL26, mL26n, mC26, mW26, mL27, mL27n, mC27, mW27, mL28, mL28n, mC28, mW28, mL29, mL29n, mC29, mW29, mL30, mL30n, mC30, mW30, mL31, mL31n, mC31, mW31, mL32, mL32n, mC32, mW32, mL33, mL33n, mC33, mW33, mL34, mL34n, mC34, mW34, mL22, mC22, mW22, kX3_isFigure hS (show G < 1000 by omega) hg, f1, kX3_all hF (show g < 13 by omega), hpm]
        · simp (disch := first | omega | decide) only [pis_i, pis_l, pis_r, pis_n, p1_i, p1_r, p1_n, p1_u, pw0, pw1, pw2, pw3, pw4, pK_v, pK_0, pK_ite, if_true, if_false, if_pos, if_neg, Nat.reduceAdd, pok_r, i10, i01, Bool.true_or, Bool.or_true, Bool.and_true, Bool.true_and, Nat.add_sub_cancel, i1p1, i1p0, i0p1, i0p0, nIrem2, va_rf_s, bit1, bit0, pinT, pinLT, pin0, nIc, nIcL, nIlt, nIeq, nIltL, nILlt, nIeqL, nILeq, nIadL, nILad, nILmu, nI_add, nIsbL, nI_sub', decide_true, decide_false, Bool.false_or, Bool.or_false, rX1_twice_0, rX1_twice_1, rX1_twice_2, rX1_twice_5, rX1_twice_8, rX1_twice_9, rX1_twice_12, rX1_twice_13, rX1_twice_14, rX1_twice_17, rX1_twice_19, rX1_twice_22, rX1_twice_23, rX1_twice_26, rX1_twice_27, rX1_twice_28, rX1_twice_29, rX1_twice_32, rX1_twice_33, rX1_twice_34, rX1_twice_37, rX1_twice_40, rX1_twice_41, rX1_twice_44, rX1_twice_45, xCl, xF0, xF1, xP1, xF2, xF3, xP3, xF4, xF5, xP5, xF6, xF7, xF8, xF9, xF10, xF11, xF12, xP12, xF13, xP13, xF14, xP14, xF15, xP15, xF16, xP16, xF17, xP17, xF18, xF19, xF20, xP20, xF21, xF22, xP22, xL2, xL2n, xC2, xW2, xL4, xL4n, xC4, xW4, xL5, xL5n, xC5, xW5, xL6, xL6n, xC6, xW6, xL7, xL7n, xC7, xW7, xL8, xL8n, xC8, xW8, xL12, xL12n, xC12, xW12, xL13, xL13n, xC13, xW13, xL1, xK1, xC1, xW1, xL3, xK3, xC3, xW3, xL9, xK9, xC9, xW9, xL10, xK10, xC10, xW10, xLf, xLc, kX1_isFigure hS' (show G < 1000 by omega) hg, hf, x0, xb, kX24_every hF' hk, hpx]
      · have hN := od_ct hk (by omega)
        obtain ⟨on, hon⟩ := Classical.axiomOfChoice (r := fun (k i : Nat) => k < fb_ct (od1 (Fs g)) ((Fs g).1 2) → i < (Fs g).1 2 ∧ od1 (Fs g) i = true ∧ fb_ct (od1 (Fs g)) i = k) (fun k => by
          by_cases hk' : k < fb_ct (od1 (Fs g)) ((Fs g).1 2)
          · obtain ⟨i, i1, i2, i3⟩ := fb_ct_kth hk'
            exact ⟨i, fun _ => ⟨i1, i2, i3⟩⟩
          · exact ⟨0, fun q => absurd q hk'⟩)
        have hoa : ∀ A k, k < fb_ct (od1 (Fs g)) ((Fs g).1 2) → oa (Fs g) A ((Fs g).1 2) k = nI (on k) ∧ on k < 30 := by
          intro A k hk'
          obtain ⟨i1, i2, i3⟩ := hon k hk'
          have := oa_at (A := A) i2 ((Fs g).1 2) i1
          rw [i3] at this
          exact ⟨this, by omega⟩
        have hR := lay_R hk (X.2.1 5) (S.2.1 24)
        have hone : ∀ p, fE (Fs g) p % 2 = 1 ∨ fE (Fs g) p % 2 = 0 := fun p => by omega
        have hEl := fE_lt hk
        refine ⟨if fb_ct (od1 (Fs g)) ((Fs g).1 2) = 0 then 0 else pr (fun p q => lay 60 (Fs g) (S.2.1 24) (60 * on p + on q)) (fb_ct (od1 (Fs g)) ((Fs g).1 2)) 24 (aI (fb_ct (od1 (Fs g)) ((Fs g).1 2))) 2,
          ((S.1, us S.2.1 27 (oa (Fs g) (S.2.1 27) ((Fs g).1 2)), S.2.2).1, us (S.1, us S.2.1 27 (oa (Fs g) (S.2.1 27) ((Fs g).1 2)), S.2.2).2.1 24 (lay 60 (Fs g) (S.2.1 24)), S.2.2),
          ((X.1, us X.2.1 5 (lay 32 (Fs g) (X.2.1 5)), X.2.2).1, us (X.1, us X.2.1 5 (lay 32 (Fs g) (X.2.1 5)), X.2.2).2.1 8 (oa (Fs g) (X.2.1 8) ((Fs g).1 2)), X.2.2), ?_, ?_, (msc.us (j := 27) (by decide)).tr (msc.us (j := 24) (by decide)), (xsc.us (j := 5) (by decide)).tr (xsc.us (j := 8) (by decide))⟩
        · simp (disch := first | omega | decide) only [pis_i, pis_l, pis_r, pis_n, p1_i, p1_r, p1_n, p1_u, pw0, pw1, pw2, pw3, pw4, pK_v, pK_0, pK_ite, if_true, if_false, if_pos, if_neg, Nat.reduceAdd, pok_r, i10, i01, Bool.true_or, Bool.or_true, Bool.and_true, Bool.true_and, Nat.add_sub_cancel, i1p1, i1p0, i0p1, i0p0, nIrem2, va_rf_s, bit1, bit0, pinT, pinLT, pin0, nIc, nIcL, nIlt, nIeq, nIltL, nILlt, nIeqL, nILeq, nIadL, nILad, nILmu, nI_add, nIsbL, nI_sub', decide_true, decide_false, Bool.false_or, Bool.or_false, rX3_twice_0, rX3_twice_1, rX3_twice_2, rX3_twice_5, rX3_twice_8, rX3_twice_9, rX3_twice_12, rX3_twice_13, rX3_twice_14, rX3_twice_16, rX3_twice_19, rX3_twice_20, rX3_twice_21, rX3_twice_22, rX3_twice_23, rX3_twice_26, rX3_twice_29, rX3_twice_30, rX3_twice_33, rX3_twice_34, rX3_twice_35, rX3_twice_36, rX3_twice_37, rX3_twice_38, mCl, mF0, mP0, mF1, mF2, mF3, mF4, mF5, mP5, mF6, mF7, mP7, mF8, mP8, mF9, mP9, mF10, mP10, mF11, mF12, mF13, mF14, mF15, mF16, mF17, mF18, mF19, mF20, mP20, mF21, mF22, mF23, mP23, mF24, mP24, mF25, mP25, mF26, mF27, mF28, mF29, mF30, mF31, mP31, mF32, mP32, mF33, mP33, mF34, mF35, mF36, mF37, mF38, mF39, mF40, mF41, mF42, mF43, mF44, mF45, mP45, mF46, mP46, mF47, mP47, mF48, mP48, mF49, mF50, mF51, mP51, mL1, mL1n, mC1, mW1, mL2, mL2n, mC2, mW2, mL3, mL3n, mC3, mW3, mL4, mL4n, mC4, mW4, mL5, mL5n, mC5, mW5, mL6, mL6n, mC6, mW6, mL7, mL7n, mC7, mW7, mL8, mL8n, mC8, mW8, mL9, mL9n, mC9, mW9, mL10, mL10n, mC10, mW10, mL11, mL11n, mC11, mW11, mL12, mL12n, mC12, mW12, mL13, mL13n, mC13, mW13, mL14, mL14n, mC14, mW14, mL15, mL15n, mC15, mW15, mL16, mL16n, mC16, mW16, mL17, mL17n, mC17, mW17, mL18, mL18n, mC18, mW18, mL19, mL19n, mC19, mW19, mL20, mL20n, mC20, mW20, mL21, mL21n, mC21, mW21, mL23, mL23n, mC23, mW23, mL24, mL24n, mC24, mW24, mL25, mL25n, mC25, mW25, mL26, mL26n, mC26, mW26, mL27, mL27n, mC27, mW27, mL28, mL28n, mC28, mW28, mL29, mL29n, mC29, mW29, mL30, mL30n, mC30, mW30, mL31, mL31n, mC31, mW31, mL32, mL32n, mC32, mW32, mL33, mL33n, mC33, mW33, mL34, mL34n, mC34, mW34, mL22, mC22, mW22, kX3_isFigure hS (show G < 1000 by omega) hg, f1, kX3_all hF (show g < 13 by omega), hpm]
          rw [show mput h m S = mput h m (S.1, us S.2.1 27 (oa (Fs g) (S.2.1 27) 0), S.2.2) by rw [oa, us_id]]
          refine loopN (N := (Fs g).1 2) (P := fun p => pR 153 (d + 29 + 1) 39 [.ref m, .int (nI g), .int (nI (fb_ct (od1 (Fs g)) p)), .int (nI p)] [] (mput h m (S.1, us S.2.1 27 (oa (Fs g) (S.2.1 27) p), S.2.2))) (fun p hp R hR' => ?_) ?_ 0 (Nat.zero_le _)
          · have hF2 := hF.us (j := 27) (A := oa (Fs g) (S.2.1 27) p) (by omega)
            have hen := kX3_endsIn (d := d + 29) (m := m) (h := h) (p := p) (set := aI ((Fs g).1 0)) hF2 hk (by omega) (by omega)
            rw [fEn_all hk] at hen
            have u9 : us S.2.1 27 (oa (Fs g) (S.2.1 27) p) 9 = S.2.1 9 := us_ne (by decide)
            have he1 := hEl p
            have hmono := fb_ct_mono (od1 (Fs g)) (show p + 1 ≤ (Fs g).1 2 by omega)
            rw [oa, fb_ct_succ] at hR'
            rw [fb_ct_succ] at hmono
            rw [rX3_twice_39]
            by_cases c : fE (Fs g) p % 2 = 1
            · have c' : od1 (Fs g) p = true := by simp [od1, c]
              rw [if_pos c', if_pos c'] at hR'
              rw [if_pos c'] at hmono
              simp (disch := first | omega | decide) only [pis_i, pis_l, pis_r, pis_n, p1_i, p1_r, p1_n, p1_u, pw0, pw1, pw2, pw3, pw4, pK_v, pK_0, pK_ite, if_true, if_false, if_pos, if_neg, Nat.reduceAdd, pok_r, i10, i01, Bool.true_or, Bool.or_true, Bool.and_true, Bool.true_and, Nat.add_sub_cancel, i1p1, i1p0, i0p1, i0p0, nIrem2, va_rf_s, bit1, bit0, pinT, pinLT, pin0, nIc, nIcL, nIlt, nIeq, nIltL, nILlt, nIeqL, nILeq, nIadL, nILad, nILmu, nI_add, nIsbL, nI_sub', decide_true, decide_false, Bool.false_or, Bool.or_false, rX3_twice_40, rX3_twice_41, rX3_twice_44, rX3_twice_45, rX3_twice_46, rX3_twice_49, rX3_twice_50, rX3_twice_51, rX3_twice_52, rX3_twice_53, rX3_twice_54, rX3_twice_57, rX3_twice_60, rX3_twice_61, rX3_twice_62, rX3_twice_63, rX3_twice_66, rX3_twice_67, rX3_twice_70, rX3_twice_71, rX3_twice_72, rX3_twice_73, rX3_twice_76, rX3_twice_79, mCl, mF0, mP0, mF1, mF2, mF3, mF4, mF5, mP5, mF6, mF7, mP7, mF8, mP8, mF9, mP9, mF10, mP10, mF11, mF12, mF13, mF14, mF15, mF16, mF17, mF18, mF19, mF20, mP20, mF21, mF22, mF23, mP23, mF24, mP24, mF25, mP25, mF26, mF27, mF28, mF29, mF30, mF31, mP31, mF32, mP32, mF33, mP33, mF34, mF35, mF36, mF37, mF38, mF39, mF40, mF41, mF42, mF43, mF44, mF45, mP45, mF46, mP46, mF47, mP47, mF48, mP48, mF49, mF50, mF51, mP51, mL1, mL1n, mC1, mW1, mL2, mL2n, mC2, mW2, mL3, mL3n, mC3, mW3, mL4, mL4n, mC4, mW4, mL5, mL5n, mC5, mW5, mL6, mL6n, mC6, mW6, mL7, mL7n, mC7, mW7, mL8, mL8n, mC8, mW8, mL9, mL9n, mC9, mW9, mL10, mL10n, mC10, mW10, mL11, mL11n, mC11, mW11, mL12, mL12n, mC12, mW12, mL13, mL13n, mC13, mW13, mL14, mL14n, mC14, mW14, mL15, mL15n, mC15, mW15, mL16, mL16n, mC16, mW16, mL17, mL17n, mC17, mW17, mL18, mL18n, mC18, mW18, mL19, mL19n, mC19, mW19, mL20, mL20n, mC20, mW20, mL21, mL21n, mC21, mW21, mL23, mL23n, mC23, mW23, mL24, mL24n, mC24, mW24, mL25, mL25n, mC25, mW25, mL26, mL26n, mC26, mW26, mL27, mL27n, mC27, mW27, mL28, mL28n, mC28, mW28, mL29, mL29n, mC29, mW29, mL30, mL30n, mC30, mW30, mL31, mL31n, mC31, mW31, mL32, mL32n, mC32, mW32, mL33, mL33n, mC33, mW33, mL34, mL34n, mC34, mW34, mL22, mC22, mW22, u9, f3, kX3_all hF2 (show g < 13 by omega), hen, us_ua]
              exact hR'
            · have c' : od1 (Fs g) p = false := by simp [od1, c]
              rw [if_neg (by rw [c']; decide), if_neg (by rw [c']; decide)] at hR'
              simp (disch := first | omega | decide) only [pis_i, pis_l, pis_r, pis_n, p1_i, p1_r, p1_n, p1_u, pw0, pw1, pw2, pw3, pw4, pK_v, pK_0, pK_ite, if_true, if_false, if_pos, if_neg, Nat.reduceAdd, pok_r, i10, i01, Bool.true_or, Bool.or_true, Bool.and_true, Bool.true_and, Nat.add_sub_cancel, i1p1, i1p0, i0p1, i0p0, nIrem2, va_rf_s, bit1, bit0, pinT, pinLT, pin0, nIc, nIcL, nIlt, nIeq, nIltL, nILlt, nIeqL, nILeq, nIadL, nILad, nILmu, nI_add, nIsbL, nI_sub', decide_true, decide_false, Bool.false_or, Bool.or_false, rX3_twice_40, rX3_twice_41, rX3_twice_44, rX3_twice_45, rX3_twice_46, rX3_twice_49, rX3_twice_50, rX3_twice_51, rX3_twice_52, rX3_twice_53, rX3_twice_54, rX3_twice_57, rX3_twice_60, rX3_twice_61, rX3_twice_62, rX3_twice_63, rX3_twice_66, rX3_twice_67, rX3_twice_70, rX3_twice_71, rX3_twice_72, rX3_twice_73, rX3_twice_76, rX3_twice_79, mCl, mF0, mP0, mF1, mF2, mF3, mF4, mF5, mP5, mF6, mF7, mP7, mF8, mP8, mF9, mP9, mF10, mP10, mF11, mF12, mF13, mF14, mF15, mF16, mF17, mF18, mF19, mF20, mP20, mF21, mF22, mF23, mP23, mF24, mP24, mF25, mP25, mF26, mF27, mF28, mF29, mF30, mF31, mP31, mF32, mP32, mF33, mP33, mF34, mF35, mF36, mF37, mF38, mF39, mF40, mF41, mF42, mF43, mF44, mF45, mP45, mF46, mP46, mF47, mP47, mF48, mP48, mF49, mF50, mF51, mP51, mL1, mL1n, mC1, mW1, mL2, mL2n, mC2, mW2, mL3, mL3n, mC3, mW3, mL4, mL4n, mC4, mW4, mL5, mL5n, mC5, mW5, mL6, mL6n, mC6, mW6, mL7, mL7n, mC7, mW7, mL8, mL8n, mC8, mW8, mL9, mL9n, mC9, mW9, mL10, mL10n, mC10, mW10, mL11, mL11n, mC11, mW11, mL12, mL12n, mC12, mW12, mL13, mL13n, mC13, mW13, mL14, mL14n, mC14, mW14, mL15, mL15n, mC15, mW15, mL16, mL16n, mC16, mW16, mL17, mL17n, mC17, mW17, mL18, mL18n, mC18, mW18, mL19, mL19n, mC19, mW19, mL20, mL20n, mC20, mW20, mL21, mL21n, mC21, mW21, mL23, mL23n, mC23, mW23, mL24, mL24n, mC24, mW24, mL25, mL25n, mC25, mW25, mL26, mL26n, mC26, mW26, mL27, mL27n, mC27, mW27, mL28, mL28n, mC28, mW28, mL29, mL29n, mC29, mW29, mL30, mL30n, mC30, mW30, mL31, mL31n, mC31, mW31, mL32, mL32n, mC32, mW32, mL33, mL33n, mC33, mW33, mL34, mL34n, mC34, mW34, mL22, mC22, mW22, u9, f3, kX3_all hF2 (show g < 13 by omega), hen]
              exact hR'
          · have hF2 := hF.us (j := 27) (A := oa (Fs g) (S.2.1 27) ((Fs g).1 2)) (by omega)
            have u9 : us S.2.1 27 (oa (Fs g) (S.2.1 27) ((Fs g).1 2)) 9 = S.2.1 9 := us_ne (by decide)
            have u24 : us S.2.1 27 (oa (Fs g) (S.2.1 27) ((Fs g).1 2)) 24 = S.2.1 24 := us_ne (by decide)
            have hff := kX3_findFars (d := d + 28) (m := m) (h := h) hF2 hk (show g < 13 by omega)
            simp only [u24] at hff
            have hpa := kX3_pairing (d := d + 5) (m := m) (h := h) (N := fb_ct (od1 (Fs g)) ((Fs g).1 2)) (on := on) (D := fun p q => lay 60 (Fs g) (S.2.1 24) (60 * on p + on q)) (S := (S.1, us (us S.2.1 27 (oa (Fs g) (S.2.1 27) ((Fs g).1 2))) 24 (lay 60 (Fs g) (S.2.1 24)), S.2.2)) hN (fun k hk' => by
              have := hoa (S.2.1 27) k hk'
              exact ⟨by simp only [us_ne (show 27 ≠ 24 by decide), us_same]; exact this.1, this.2⟩) (fun p q hp hq => by simp only [us_same]) 24 (aI (fb_ct (od1 (Fs g)) ((Fs g).1 2))) 2 (by decide) (aI_in (by omega)) (by have := fb_ct_le (bt (aI (fb_ct (od1 (Fs g)) ((Fs g).1 2)))) (fb_ct (od1 (Fs g)) ((Fs g).1 2)); omega)
            rw [rX3_twice_39]
            by_cases hz : fb_ct (od1 (Fs g)) ((Fs g).1 2) = 0
            · simp (disch := first | omega | decide) only [pis_i, pis_l, pis_r, pis_n, p1_i, p1_r, p1_n, p1_u, pw0, pw1, pw2, pw3, pw4, pK_v, pK_0, pK_ite, if_true, if_false, if_pos, if_neg, Nat.reduceAdd, pok_r, i10, i01, Bool.true_or, Bool.or_true, Bool.and_true, Bool.true_and, Nat.add_sub_cancel, i1p1, i1p0, i0p1, i0p0, nIrem2, va_rf_s, bit1, bit0, pinT, pinLT, pin0, nIc, nIcL, nIlt, nIeq, nIltL, nILlt, nIeqL, nILeq, nIadL, nILad, nILmu, nI_add, nIsbL, nI_sub', decide_true, decide_false, Bool.false_or, Bool.or_false, rX3_twice_40, rX3_twice_41, rX3_twice_44, rX3_twice_45, rX3_twice_46, rX3_twice_82, rX3_twice_83, rX3_twice_84, rX3_twice_87, rX3_twice_88, rX3_twice_91, rX3_twice_92, rX3_twice_95, rX3_twice_96, rX3_twice_97, rX3_twice_98, rX3_twice_99, rX3_twice_100, rX3_twice_101, rX3_twice_102, rX3_twice_103, rX3_twice_106, mCl, mF0, mP0, mF1, mF2, mF3, mF4, mF5, mP5, mF6, mF7, mP7, mF8, mP8, mF9, mP9, mF10, mP10, mF11, mF12, mF13, mF14, mF15, mF16, mF17, mF18, mF19, mF20, mP20, mF21, mF22, mF23, mP23, mF24, mP24, mF25, mP25, mF26, mF27, mF28, mF29, mF30, mF31, mP31, mF32, mP32, mF33, mP33, mF34, mF35, mF36, mF37, mF38, mF39, mF40, mF41, mF42, mF43, mF44, mF45, mP45, mF46, mP46, mF47, mP47, mF48, mP48, mF49, mF50, mF51, mP51, mL1, mL1n, mC1, mW1, mL2, mL2n, mC2, mW2, mL3, mL3n, mC3, mW3, mL4, mL4n, mC4, mW4, mL5, mL5n, mC5, mW5, mL6, mL6n, mC6, mW6, mL7, mL7n, mC7, mW7, mL8, mL8n, mC8, mW8, mL9, mL9n, mC9, mW9, mL10, mL10n, mC10, mW10, mL11, mL11n, mC11, mW11, mL12, mL12n, mC12, mW12, mL13, mL13n, mC13, mW13, mL14, mL14n, mC14, mW14, mL15, mL15n, mC15, mW15, mL16, mL16n, mC16, mW16, mL17, mL17n, mC17, mW17, mL18, mL18n, mC18, mW18, mL19, mL19n, mC19, mW19, mL20, mL20n, mC20, mW20, mL21, mL21n, mC21, mW21, mL23, mL23n, mC23, mW23, mL24, mL24n, mC24, mW24, mL25, mL25n, mC25, mW25, mL26, mL26n, mC26, mW26, mL27, mL27n, mC27, mW27, mL28, mL28n, mC28, mW28, mL29, mL29n, mC29, mW29, mL30, mL30n, mC30, mW30, mL31, mL31n, mC31, mW31, mL32, mL32n, mC32, mW32, mL33, mL33n, mC33, mW33, mL34, mL34n, mC34, mW34, mL22, mC22, mW22, u9, f3, hff, hz]
            · have ea : (1 : Int32) <<< (nI (fb_ct (od1 (Fs g)) ((Fs g).1 2)) &&& 31) - 1 = aI (fb_ct (od1 (Fs g)) ((Fs g).1 2)) := rfl
              have e2 : (2 : Int32) = nI 2 := rfl
              rw [← e2] at hpa
              simp (disch := first | omega | decide) only [pis_i, pis_l, pis_r, pis_n, p1_i, p1_r, p1_n, p1_u, pw0, pw1, pw2, pw3, pw4, pK_v, pK_0, pK_ite, if_true, if_false, if_pos, if_neg, Nat.reduceAdd, pok_r, i10, i01, Bool.true_or, Bool.or_true, Bool.and_true, Bool.true_and, Nat.add_sub_cancel, i1p1, i1p0, i0p1, i0p0, nIrem2, va_rf_s, bit1, bit0, pinT, pinLT, pin0, nIc, nIcL, nIlt, nIeq, nIltL, nILlt, nIeqL, nILeq, nIadL, nILad, nILmu, nI_add, nIsbL, nI_sub', decide_true, decide_false, Bool.false_or, Bool.or_false, rX3_twice_40, rX3_twice_41, rX3_twice_44, rX3_twice_45, rX3_twice_46, rX3_twice_82, rX3_twice_83, rX3_twice_84, rX3_twice_87, rX3_twice_88, rX3_twice_91, rX3_twice_92, rX3_twice_95, rX3_twice_96, rX3_twice_97, rX3_twice_98, rX3_twice_99, rX3_twice_100, rX3_twice_101, rX3_twice_102, rX3_twice_103, rX3_twice_106, mCl, mF0, mP0, mF1, mF2, mF3, mF4, mF5, mP5, mF6, mF7, mP7, mF8, mP8, mF9, mP9, mF10, mP10, mF11, mF12, mF13, mF14, mF15, mF16, mF17, mF18, mF19, mF20, mP20, mF21, mF22, mF23, mP23, mF24, mP24, mF25, mP25, mF26, mF27, mF28, mF29, mF30, mF31, mP31, mF32, mP32, mF33, mP33, mF34, mF35, mF36, mF37, mF38, mF39, mF40, mF41, mF42, mF43, mF44, mF45, mP45, mF46, mP46, mF47, mP47, mF48, mP48, mF49, mF50, mF51, mP51, mL1, mL1n, mC1, mW1, mL2, mL2n, mC2, mW2, mL3, mL3n, mC3, mW3, mL4, mL4n, mC4, mW4, mL5, mL5n, mC5, mW5, mL6, mL6n, mC6, mW6, mL7, mL7n, mC7, mW7, mL8, mL8n, mC8, mW8, mL9, mL9n, mC9, mW9, mL10, mL10n, mC10, mW10, mL11, mL11n, mC11, mW11, mL12, mL12n, mC12, mW12, mL13, mL13n, mC13, mW13, mL14, mL14n, mC14, mW14, mL15, mL15n, mC15, mW15, mL16, mL16n, mC16, mW16, mL17, mL17n, mC17, mW17, mL18, mL18n, mC18, mW18, mL19, mL19n, mC19, mW19, mL20, mL20n, mC20, mW20, mL21, mL21n, mC21, mW21, mL23, mL23n, mC23, mW23, mL24, mL24n, mC24, mW24, mL25, mL25n, mC25, mW25, mL26, mL26n, mC26, mW26, mL27, mL27n, mC27, mW27, mL28, mL28n, mC28, mW28, mL29, mL29n, mC29, mW29, mL30, mL30n, mC30, mW30, mL31, mL31n, mC31, mW31, mL32, mL32n, mC32, mW32, mL33, mL33n, mC33, mW33, mL34, mL34n, mC34, mW34, mL22, mC22, mW22, u9, f3, hff, hz, ea, hpa]
        · simp (disch := first | omega | decide) only [pis_i, pis_l, pis_r, pis_n, p1_i, p1_r, p1_n, p1_u, pw0, pw1, pw2, pw3, pw4, pK_v, pK_0, pK_ite, if_true, if_false, if_pos, if_neg, Nat.reduceAdd, pok_r, i10, i01, Bool.true_or, Bool.or_true, Bool.and_true, Bool.true_and, Nat.add_sub_cancel, i1p1, i1p0, i0p1, i0p0, nIrem2, va_rf_s, bit1, bit0, pinT, pinLT, pin0, nIc, nIcL, nIlt, nIeq, nIltL, nILlt, nIeqL, nILeq, nIadL, nILad, nILmu, nI_add, nIsbL, nI_sub', decide_true, decide_false, Bool.false_or, Bool.or_false, rX1_twice_0, rX1_twice_1, rX1_twice_2, rX1_twice_5, rX1_twice_8, rX1_twice_9, rX1_twice_12, rX1_twice_13, rX1_twice_14, rX1_twice_17, rX1_twice_19, rX1_twice_22, rX1_twice_23, rX1_twice_26, rX1_twice_27, rX1_twice_28, rX1_twice_29, rX1_twice_32, rX1_twice_33, rX1_twice_34, rX1_twice_37, rX1_twice_40, rX1_twice_41, rX1_twice_44, rX1_twice_45, rX1_twice_46, rX1_twice_47, rX1_twice_50, rX1_twice_51, rX1_twice_52, rX1_twice_52n, rX1_twice_53, rX1_twice_54, rX1_twice_54n, rX1_twice_55, rX1_twice_58, rX1_twice_59, rX1_twice_60, rX1_twice_61, xCl, xF0, xF1, xP1, xF2, xF3, xP3, xF4, xF5, xP5, xF6, xF7, xF8, xF9, xF10, xF11, xF12, xP12, xF13, xP13, xF14, xP14, xF15, xP15, xF16, xP16, xF17, xP17, xF18, xF19, xF20, xP20, xF21, xF22, xP22, xL2, xL2n, xC2, xW2, xL4, xL4n, xC4, xW4, xL5, xL5n, xC5, xW5, xL6, xL6n, xC6, xW6, xL7, xL7n, xC7, xW7, xL8, xL8n, xC8, xW8, xL12, xL12n, xC12, xW12, xL13, xL13n, xC13, xW13, xL1, xK1, xC1, xW1, xL3, xK3, xC3, xW3, xL9, xK9, xC9, xW9, xL10, xK10, xC10, xW10, xLf, xLc, kX1_isFigure hS' (show G < 1000 by omega) hg, hf, x0, xb, kX24_every hF' hk, hpx, kX1_layFars hF1 hfx hk]
          rw [show xput h' x (X.1, us X.2.1 5 (lay 32 (Fs g) (X.2.1 5)), X.2.2) = xput h' x (X.1, us (us X.2.1 5 (lay 32 (Fs g) (X.2.1 5))) 8 (oa (Fs g) (X.2.1 8) 0), X.2.2) by rw [oa]; congr 3; funext k; by_cases e : k = 8 <;> simp [us, e]]
          refine loopN (N := (Fs g).1 2) (P := fun p => pR 44 (d + 29 + 1) 63 [.ref x, .int (nI g), .ref (fa g), .int (nI (fb_ct (od1 (Fs g)) p)), .int (nI p)] [] (xput h' x (X.1, us (us X.2.1 5 (lay 32 (Fs g) (X.2.1 5))) 8 (oa (Fs g) (X.2.1 8) p), X.2.2))) (fun p hp R hR' => ?_) ?_ 0 (Nat.zero_le _)
          · have hF := hF1.put (X := (X.1, us (us X.2.1 5 (lay 32 (Fs g) (X.2.1 5))) 8 (oa (Fs g) (X.2.1 8) p), X.2.2)) hfx
            clear x0 xf xt xl xw xs xe xb xa xp xh
            (obtain ⟨x0, xf, xt, xl, xw, xs, xe, xb, xa, xp, xh⟩ := hF.o; obtain ⟨⟨l1, c1⟩, ⟨l2, c2⟩, ⟨l3, c3⟩, ⟨l4, c4⟩, ⟨l5, c5⟩, ⟨l6, c6⟩⟩ := hF.a; have hk' := hk; obtain ⟨k1, k2, k3, k4, k5, k6⟩ := hk')
            have he1 := hEl p
            have hmono := fb_ct_mono (od1 (Fs g)) (show p + 1 ≤ (Fs g).1 2 by omega)
            rw [oa, fb_ct_succ] at hR'
            rw [fb_ct_succ] at hmono
            rw [rX1_twice_63]
            by_cases c : fE (Fs g) p % 2 = 1
            · have c' : od1 (Fs g) p = true := by simp [od1, c]
              rw [if_pos c', if_pos c'] at hR'
              rw [if_pos c'] at hmono
              simp (disch := first | omega | decide) only [pis_i, pis_l, pis_r, pis_n, p1_i, p1_r, p1_n, p1_u, pw0, pw1, pw2, pw3, pw4, pK_v, pK_0, pK_ite, if_true, if_false, if_pos, if_neg, Nat.reduceAdd, pok_r, i10, i01, Bool.true_or, Bool.or_true, Bool.and_true, Bool.true_and, Nat.add_sub_cancel, i1p1, i1p0, i0p1, i0p0, nIrem2, va_rf_s, bit1, bit0, pinT, pinLT, pin0, nIc, nIcL, nIlt, nIeq, nIltL, nILlt, nIeqL, nILeq, nIadL, nILad, nILmu, nI_add, nIsbL, nI_sub', decide_true, decide_false, Bool.false_or, Bool.or_false, rX1_twice_65, rX1_twice_65n, rX1_twice_66, rX1_twice_69, rX1_twice_72, rX1_twice_72n, rX1_twice_73, rX1_twice_76, rX1_twice_78, rX1_twice_79, rX1_twice_80, rX1_twice_81, rX1_twice_84, rX1_twice_87, rX1_twice_88, rX1_twice_91, rX1_twice_92, rX1_twice_94, rX1_twice_95, rX1_twice_98, rX1_twice_101, xCl, xF0, xF1, xP1, xF2, xF3, xP3, xF4, xF5, xP5, xF6, xF7, xF8, xF9, xF10, xF11, xF12, xP12, xF13, xP13, xF14, xP14, xF15, xP15, xF16, xP16, xF17, xP17, xF18, xF19, xF20, xP20, xF21, xF22, xP22, xL2, xL2n, xC2, xW2, xL4, xL4n, xC4, xW4, xL5, xL5n, xC5, xW5, xL6, xL6n, xC6, xW6, xL7, xL7n, xC7, xW7, xL8, xL8n, xC8, xW8, xL12, xL12n, xC12, xW12, xL13, xL13n, xC13, xW13, xL1, xK1, xC1, xW1, xL3, xK3, xC3, xW3, xL9, xK9, xC9, xW9, xL10, xK10, xC10, xW10, xLf, xLc, x0, xf, xt, xl, xw, xs, xe, xb, xa, xp, xh, l1, l2, l3, l4, l5, l6, c1, c2, c3, c4, c5, c6, us_ua]
              exact hR'
            · have c' : od1 (Fs g) p = false := by simp [od1, c]
              rw [if_neg (by rw [c']; decide), if_neg (by rw [c']; decide)] at hR'
              simp (disch := first | omega | decide) only [pis_i, pis_l, pis_r, pis_n, p1_i, p1_r, p1_n, p1_u, pw0, pw1, pw2, pw3, pw4, pK_v, pK_0, pK_ite, if_true, if_false, if_pos, if_neg, Nat.reduceAdd, pok_r, i10, i01, Bool.true_or, Bool.or_true, Bool.and_true, Bool.true_and, Nat.add_sub_cancel, i1p1, i1p0, i0p1, i0p0, nIrem2, va_rf_s, bit1, bit0, pinT, pinLT, pin0, nIc, nIcL, nIlt, nIeq, nIltL, nILlt, nIeqL, nILeq, nIadL, nILad, nILmu, nI_add, nIsbL, nI_sub', decide_true, decide_false, Bool.false_or, Bool.or_false, rX1_twice_65, rX1_twice_65n, rX1_twice_66, rX1_twice_69, rX1_twice_72, rX1_twice_72n, rX1_twice_73, rX1_twice_76, rX1_twice_78, rX1_twice_79, rX1_twice_80, rX1_twice_81, rX1_twice_84, rX1_twice_87, rX1_twice_88, rX1_twice_91, rX1_twice_92, rX1_twice_94, rX1_twice_95, rX1_twice_98, rX1_twice_101, xCl, xF0, xF1, xP1, xF2, xF3, xP3, xF4, xF5, xP5, xF6, xF7, xF8, xF9, xF10, xF11, xF12, xP12, xF13, xP13, xF14, xP14, xF15, xP15, xF16, xP16, xF17, xP17, xF18, xF19, xF20, xP20, xF21, xF22, xP22, xL2, xL2n, xC2, xW2, xL4, xL4n, xC4, xW4, xL5, xL5n, xC5, xW5, xL6, xL6n, xC6, xW6, xL7, xL7n, xC7, xW7, xL8, xL8n, xC8, xW8, xL12, xL12n, xC12, xW12, xL13, xL13n, xC13, xW13, xL1, xK1, xC1, xW1, xL3, xK3, xC3, xW3, xL9, xK9, xC9, xW9, xL10, xK10, xC10, xW10, xLf, xLc, x0, xf, xt, xl, xw, xs, xe, xb, xa, xp, xh, l1, l2, l3, l4, l5, l6, c1, c2, c3, c4, c5, c6]
              exact hR'
          · have hF := hF1.put (X := (X.1, us (us X.2.1 5 (lay 32 (Fs g) (X.2.1 5))) 8 (oa (Fs g) (X.2.1 8) ((Fs g).1 2)), X.2.2)) hfx
            clear x0 xf xt xl xw xs xe xb xa xp xh
            (obtain ⟨x0, xf, xt, xl, xw, xs, xe, xb, xa, xp, xh⟩ := hF.o; obtain ⟨⟨l1, c1⟩, ⟨l2, c2⟩, ⟨l3, c3⟩, ⟨l4, c4⟩, ⟨l5, c5⟩, ⟨l6, c6⟩⟩ := hF.a; have hk' := hk; obtain ⟨k1, k2, k3, k4, k5, k6⟩ := hk')
            have hpa : ∀ sp, sp < 3 → _ := fun sp hsp => kX1_paired (d := d + 4) (x := x) (h := h') (N := fb_ct (od1 (Fs g)) ((Fs g).1 2)) (on := on) (D := fun p q => lay 60 (Fs g) (S.2.1 24) (60 * on p + on q)) (X := (X.1, us (us X.2.1 5 (lay 32 (Fs g) (X.2.1 5))) 8 (oa (Fs g) (X.2.1 8) ((Fs g).1 2)), X.2.2)) hN (fun k hk' => by
              have := hoa (X.2.1 8) k hk'
              exact ⟨by simp only [us_same]; exact this.1, this.2⟩) (fun p q hp hq => by
                simp only [us_ne (show 5 ≠ 8 by decide), us_same]
                exact hR _ _ (hon p hp).1 (hon q hq).1) 24 0 sp hsp (fun i hi _ => b_0 i) (by have := fb_ct_le (bt (cS (fb_ct (od1 (Fs g)) ((Fs g).1 2)) 0)) (fb_ct (od1 (Fs g)) ((Fs g).1 2)); omega)
            rw [cS_0 (by omega)] at hpa
            have e2 : (2 : Int32) = nI 2 := rfl
            rw [rX1_twice_63]
            by_cases h2 : fb_ct (od1 (Fs g)) ((Fs g).1 2) < 2
            · have hpa := hpa (fb_ct (od1 (Fs g)) ((Fs g).1 2)) (by omega)
              simp (disch := first | omega | decide) only [pis_i, pis_l, pis_r, pis_n, p1_i, p1_r, p1_n, p1_u, pw0, pw1, pw2, pw3, pw4, pK_v, pK_0, pK_ite, if_true, if_false, if_pos, if_neg, Nat.reduceAdd, pok_r, i10, i01, Bool.true_or, Bool.or_true, Bool.and_true, Bool.true_and, Nat.add_sub_cancel, i1p1, i1p0, i0p1, i0p0, nIrem2, va_rf_s, bit1, bit0, pinT, pinLT, pin0, nIc, nIcL, nIlt, nIeq, nIltL, nILlt, nIeqL, nILeq, nIadL, nILad, nILmu, nI_add, nIsbL, nI_sub', decide_true, decide_false, Bool.false_or, Bool.or_false, rX1_twice_65, rX1_twice_65n, rX1_twice_66, rX1_twice_69, rX1_twice_104, rX1_twice_105, rX1_twice_106, rX1_twice_107, rX1_twice_108, rX1_twice_109, rX1_twice_112, rX1_twice_115, xCl, xF0, xF1, xP1, xF2, xF3, xP3, xF4, xF5, xP5, xF6, xF7, xF8, xF9, xF10, xF11, xF12, xP12, xF13, xP13, xF14, xP14, xF15, xP15, xF16, xP16, xF17, xP17, xF18, xF19, xF20, xP20, xF21, xF22, xP22, xL2, xL2n, xC2, xW2, xL4, xL4n, xC4, xW4, xL5, xL5n, xC5, xW5, xL6, xL6n, xC6, xW6, xL7, xL7n, xC7, xW7, xL8, xL8n, xC8, xW8, xL12, xL12n, xC12, xW12, xL13, xL13n, xC13, xW13, xL1, xK1, xC1, xW1, xL3, xK3, xC3, xW3, xL9, xK9, xC9, xW9, xL10, xK10, xC10, xW10, xLf, xLc, x0, xf, xt, xl, xw, xs, xe, xb, xa, xp, xh, l1, l2, l3, l4, l5, l6, c1, c2, c3, c4, c5, c6, hpa]
              by_cases hz : fb_ct (od1 (Fs g)) ((Fs g).1 2) = 0
              · rw [if_pos hz, hz, show aI 0 = 0 by decide, pr_0]
              · rw [if_neg hz, show fb_ct (od1 (Fs g)) ((Fs g).1 2) = 1 by omega, pr_1 (by decide), pr_1 (by decide)]
            · have hpa := hpa 2 (by decide)
              rw [← e2] at hpa
              simp (disch := first | omega | decide) only [pis_i, pis_l, pis_r, pis_n, p1_i, p1_r, p1_n, p1_u, pw0, pw1, pw2, pw3, pw4, pK_v, pK_0, pK_ite, if_true, if_false, if_pos, if_neg, Nat.reduceAdd, pok_r, i10, i01, Bool.true_or, Bool.or_true, Bool.and_true, Bool.true_and, Nat.add_sub_cancel, i1p1, i1p0, i0p1, i0p0, nIrem2, va_rf_s, bit1, bit0, pinT, pinLT, pin0, nIc, nIcL, nIlt, nIeq, nIltL, nILlt, nIeqL, nILeq, nIadL, nILad, nILmu, nI_add, nIsbL, nI_sub', decide_true, decide_false, Bool.false_or, Bool.or_false, rX1_twice_65, rX1_twice_65n, rX1_twice_66, rX1_twice_69, rX1_twice_104, rX1_twice_105, rX1_twice_106, rX1_twice_107, rX1_twice_108, rX1_twice_109, rX1_twice_112, rX1_twice_115, xCl, xF0, xF1, xP1, xF2, xF3, xP3, xF4, xF5, xP5, xF6, xF7, xF8, xF9, xF10, xF11, xF12, xP12, xF13, xP13, xF14, xP14, xF15, xP15, xF16, xP16, xF17, xP17, xF18, xF19, xF20, xP20, xF21, xF22, xP22, xL2, xL2n, xC2, xW2, xL4, xL4n, xC4, xW4, xL5, xL5n, xC5, xW5, xL6, xL6n, xC6, xW6, xL7, xL7n, xC7, xW7, xL8, xL8n, xC8, xW8, xL12, xL12n, xC12, xW12, xL13, xL13n, xC13, xW13, xL1, xK1, xC1, xW1, xL3, xK3, xC3, xW3, xL9, xK9, xC9, xW9, xL10, xK10, xC10, xW10, xLf, xLc, x0, xf, xt, xl, xw, xs, xe, xb, xa, xp, xh, l1, l2, l3, l4, l5, l6, c1, c2, c3, c4, c5, c6, hpa]
  · exact ⟨-1, S, X, by simp only [pis_i, pis_l, pis_r, pis_n, p1_i, p1_r, p1_n, p1_u, pw0, pw1, pw2, pw3, pw4, pK_v, pK_0, pK_ite, if_true, if_false, if_pos, if_neg, Nat.reduceAdd, pok_r, i10, i01, Bool.true_or, Bool.or_true, Bool.and_true, Bool.true_and, rX3_twice_0, rX3_twice_1, rX3_twice_2, rX3_twice_5, rX3_twice_8, rX3_twice_9, rX3_twice_12, rX3_twice_13, rX3_twice_14, rX3_twice_16, rX3_twice_19, rX3_twice_20, rX3_twice_21, rX3_twice_22, rX3_twice_23, rX3_twice_26, rX3_twice_29, rX3_twice_30, rX3_twice_33, rX3_twice_34, mCl, mF0, mP0, mF1, mF2, mF3, mF4, mF5, mP5, mF6, mF7, mP7, mF8, mP8, mF9, mP9, mF10, mP10, mF11, mF12, mF13, mF14, mF15, mF16, mF17, mF18, mF19, mF20, mP20, mF21, mF22, mF23, mP23, mF24, mP24, mF25, mP25, mF26, mF27, mF28, mF29, mF30, mF31, mP31, mF32, mP32, mF33, mP33, mF34, mF35, mF36, mF37, mF38, mF39, mF40, mF41, mF42, mF43, mF44, mF45, mP45, mF46, mP46, mF47, mP47, mF48, mP48, mF49, mF50, mF51, mP51, mL1, mL1n, mC1, mW1, mL2, mL2n, mC2, mW2, mL3, mL3n, mC3, mW3, mL4, mL4n, mC4, mW4, mL5, mL5n, mC5, mW5, mL6, mL6n, mC6, mW6, mL7, mL7n, mC7, mW7, mL8, mL8n, mC8, mW8, mL9, mL9n, mC9, mW9, mL10, mL10n, mC10, mW10, mL11, mL11n, mC11, mW11, mL12, mL12n, mC12, mW12, mL13, mL13n, mC13, mW13, mL14, mL14n, mC14, mW14, mL15, mL15n, mC15, mW15, mL16, mL16n, mC16, mW16, mL17, mL17n, mC17, mW17, mL18, mL18n, mC18, mW18, mL19, mL19n, mC19, mW19, mL20, mL20n, mC20, mW20, mL21, mL21n, mC21, mW21, mL23, mL23n, mC23, mW23, mL24, mL24n, mC24, mW24, mL25, mL25n, mC25, mW25, mL26, mL26n, mC26, mW26, mL27, mL27n, mC27, mW27, mL28, mL28n, mC28, mW28, mL29, mL29n, mC29, mW29, mL30, mL30n, mC30, mW30, mL31, mL31n, mC31, mW31, mL32, mL32n, mC32, mW32, mL33, mL33n, mC33, mW33, mL34, mL34n, mC34, mW34, mL22, mC22, mW22, kX3_isFigure_f hS (show G < 1000 by omega) hv], by simp only [pis_i, pis_l, pis_r, pis_n, p1_i, p1_r, p1_n, p1_u, pw0, pw1, pw2, pw3, pw4, pK_v, pK_0, pK_ite, if_true, if_false, if_pos, if_neg, Nat.reduceAdd, pok_r, i10, i01, Bool.true_or, Bool.or_true, Bool.and_true, Bool.true_and, rX1_twice_0, rX1_twice_1, rX1_twice_2, rX1_twice_5, rX1_twice_8, rX1_twice_9, rX1_twice_12, rX1_twice_13, rX1_twice_14, rX1_twice_17, rX1_twice_19, rX1_twice_22, rX1_twice_23, rX1_twice_26, rX1_twice_27, rX1_twice_28, rX1_twice_29, rX1_twice_32, rX1_twice_33, rX1_twice_34, rX1_twice_37, rX1_twice_40, rX1_twice_41, rX1_twice_44, rX1_twice_45, xCl, xF0, xF1, xP1, xF2, xF3, xP3, xF4, xF5, xP5, xF6, xF7, xF8, xF9, xF10, xF11, xF12, xP12, xF13, xP13, xF14, xP14, xF15, xP15, xF16, xP16, xF17, xP17, xF18, xF19, xF20, xP20, xF21, xF22, xP22, xL2, xL2n, xC2, xW2, xL4, xL4n, xC4, xW4, xL5, xL5n, xC5, xW5, xL6, xL6n, xC6, xW6, xL7, xL7n, xC7, xW7, xL8, xL8n, xC8, xW8, xL12, xL12n, xC12, xW12, xL13, xL13n, xC13, xW13, xL1, xK1, xC1, xW1, xL3, xK3, xC3, xW3, xL9, xK9, xC9, xW9, xL10, xK10, xC10, xW10, xLf, xLc, kX1_isFigure_f hS' (show G < 1000 by omega) hv], msc.rf, xsc.rf⟩
end
