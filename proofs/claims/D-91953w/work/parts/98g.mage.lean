/-! AGING 2: the model's age -/
set_option maxRecDepth 100000
def sAg (S : MS) (la : Int32) (N Z : Nat → Int32) (P : Nat → Int64) : MS := (upd S.1 51 la, us (us S.2.1 33 N) 34 Z, P)
section
variable {S : MS} {la v : Int32} {N Z : Nat → Int32} {P P' : Nat → Int64} {i g : Nat} {F : Fig} {cl : List Cl}
theorem sAg_51 : (sAg S la N Z P).1 51 = la := by show upd S.1 51 la 51 = la; exact upd_same
theorem sAg_f {k : Nat} (h : k ≠ 51) : (sAg S la N Z P).1 k = S.1 k := by show upd S.1 51 la k = _; exact upd_ne h
theorem sAg_33 : (sAg S la N Z P).2.1 33 = N := by show us (us S.2.1 33 N) 34 Z 33 = N; rw [us_ne (by decide), us_same]
theorem sAg_34 : (sAg S la N Z P).2.1 34 = Z := by show us (us S.2.1 33 N) 34 Z 34 = Z; exact us_same
theorem sAg_a {j : Nat} (h1 : j ≠ 33) (h2 : j ≠ 34) : (sAg S la N Z P).2.1 j = S.2.1 j := by show us (us S.2.1 33 N) 34 Z j = _; rw [us_ne h2, us_ne h1]
theorem sAg_p : ((upd (sAg S la N Z P).1 51 v, (sAg S la N Z P).2) : MS) = sAg S v N Z P := by unfold sAg; rw [upd_upd]
theorem sAg_w34 : (((sAg S la N Z P).1, ua (sAg S la N Z P).2.1 34 i v, (sAg S la N Z P).2.2) : MS) = sAg S la N (upd Z i v) P := by
  rw [ua_us, sAg_34]
  unfold sAg
  rw [us_us]
theorem sAg_w33 : (((sAg S la N Z P).1, ua (sAg S la N Z P).2.1 33 i v, (sAg S la N Z P).2.2) : MS) = sAg S la (upd N i v) Z P := by
  rw [ua_us, sAg_33]
  unfold sAg
  rw [us_c (j := 34) (j2 := 33) (by decide), us_us]
theorem sAg_P : (((sAg S la N Z P).1, (sAg S la N Z P).2.1, P') : MS) = sAg S la N Z P' := rfl
theorem MFig.ag1 (hF : MFig S g F) : MFig (sAg S la N Z P) g F := by
  unfold MFig at *
  simp only [sAg_a (j := 8) (by decide) (by decide), sAg_a (j := 6) (by decide) (by decide), sAg_a (j := 9) (by decide) (by decide), sAg_a (j := 14) (by decide) (by decide), sAg_a (j := 11) (by decide) (by decide), sAg_a (j := 12) (by decide) (by decide), sAg_a (j := 13) (by decide) (by decide), sAg_a (j := 7) (by decide) (by decide), sAg_a (j := 10) (by decide) (by decide)]
  exact hF
theorem Rl_a {A B : Nat → Nat → Int32} {r : Nat} (h18 : B 18 = A 18) (h20 : B 20 = A 20) (h21 : B 21 = A 21) : ∀ l ci sd, Rl A r ci sd l → Rl B r ci sd l := fun l ci sd h => Rl_cong l ci sd (fun i _ => ⟨by rw [h20], by rw [h21]⟩) (fun i _ => by rw [h18]) h
theorem RlAt.ag1 {r : Nat} (hR : RlAt S r cl) : RlAt (sAg S la N Z P) r cl := ⟨by rw [sAg_a (by decide) (by decide)]; exact hR.1, Rl_a (sAg_a (by decide) (by decide)) (sAg_a (by decide) (by decide)) (sAg_a (by decide) (by decide)) _ _ _ hR.2⟩
theorem sAg_msc : ∀ k, k ≠ 51 → (sAg S la N Z P).1 k = S.1 k := fun k h => sAg_f h
end
/-- what is worn off, by the model -/
def agZ (cl : List Cl) (F : Fig) (so : Nat → Nat → Int32) (hr L : Int32) (A Z : Nat → Int32) (k b : Nat) : Int32 := if b < k then (if bt L b = true then 0 else mx0 (A b) (agW cl F so hr L A b)) else Z b
theorem agZ_s {cl : List Cl} {F : Fig} {so : Nat → Nat → Int32} {hr L : Int32} {A Z : Nat → Int32} {k : Nat} : agZ cl F so hr L A Z (k + 1) = upd (agZ cl F so hr L A Z k) k (if bt L k = true then 0 else mx0 (A k) (agW cl F so hr L A k)) := by
  funext b
  unfold agZ upd
  by_cases e : b = k
  · subst e; simp
  · have : (b < k + 1) = (b < k) := by apply propext; omega
    simp [e, this]
theorem agZ_0 {cl : List Cl} {F : Fig} {so : Nat → Nat → Int32} {hr L : Int32} {A Z : Nat → Int32} : agZ cl F so hr L A Z 0 = Z := by funext b; simp [agZ]
/-- the first k replaced -/
def fst' (N N' : Nat → Int32) (k b : Nat) : Int32 := if b < k then N' b else N b
theorem fst'_s {N N' : Nat → Int32} {k : Nat} : fst' N N' (k + 1) = upd (fst' N N' k) k (N' k) := by
  funext b
  unfold fst' upd
  by_cases e : b = k
  · subst e; simp
  · have : (b < k + 1) = (b < k) := by apply propext; omega
    simp [e, this]
theorem fst'_k {N N' : Nat → Int32} {k : Nat} : fst' N N' k k = N k := by simp [fst']
theorem fst'_0 {N N' : Nat → Int32} : fst' N N' 0 = N := by funext b; simp [fst']
section
variable {d m g r : Nat} {h : pH} {S : MS} {F : Fig} {cl : List Cl} {n : Nat} {so : Nat → Nat → Int32} {L hr : Int32} {A N Z : Nat → Int32}
theorem mag_1 (hF1 : MFig S g F) (hk : FigOk F) (hg : g < 13) (hr7 : r < 7) (hcg : ∀ c, c ∈ cl → c.g) (hcz : Lz cl ≤ 201) (hR : RlAt S r cl) (hM : MSo S n so) (hs : ∀ b, b < F.1 1 → F.2.1 3 b < n) (hN : ∀ b, b < F.1 0 → bt L b = false → N b = A b) : ∀ j k P (q5 q6 q7 : Value), p1 q5 = true → p1 q6 = true → p1 q7 = true → k + j = F.1 0 → ∃ P' q5' q6' q7', p1 q5' = true ∧ p1 q6' = true ∧ p1 q7' = true ∧ pR 165 (d + 6) 3 [.ref m, .int (nI g), .int (nI r), .int hr, .int (nI k), q5, q6, q7] [] (mput h m (sAg S (cS (F.1 0) L) N (agZ cl F so hr L A Z k) P)) = pR 165 (d + 6) 157 [.ref m, .int (nI g), .int (nI r), .int hr, .int (nI (F.1 0)), q5', q6', q7'] [] (mput h m (sAg S (cS (F.1 0) L) N (agZ cl F so hr L A Z (F.1 0)) P')) := by
  intro j
  induction j with
  | zero =>
    intro k P q5 q6 q7 h5 h6 h7 hj
    have hj : k = F.1 0 := by omega
    subst hj
    refine ⟨P, q5, q6, q7, h5, h6, h7, ?_⟩
    have f1 := (hF1.ag1 (la := cS (F.1 0) L) (N := N) (Z := agZ cl F so hr L A Z (F.1 0)) (P := P)).1
    have k1 := hk.1
    rw [rX3_age_3]
    simp (disch := first | assumption | omega | decide) only [pis_i, pis_l, pis_r, pis_n, p1_i, p1_r, p1_n, p1_u, pw0, pw1, pw2, pw3, pw4, pK_v, pK_0, pK_ite, if_true, if_false, if_pos, if_neg, Nat.reduceAdd, pok_r, i10, i01, Bool.true_or, Bool.or_true, Bool.and_true, Bool.true_and, Nat.add_sub_cancel, i1p1, i1p0, i0p1, i0p0, nIrem2, va_rf_s, bit1, bit0, pinT, pinLT, pin0, nIc, nIcL, nIlt, nIeq, nIltL, nILlt, nIeqL, nILeq, nIadL, nILad, nILmu, nI_add, nIsbL, nI_sub', decide_true, decide_false, Bool.false_or, Bool.or_false, rX3_age_5, rX3_age_6, rX3_age_9, rX3_age_10, rX3_age_11, rX3_age_14, mCl, mF0, mP0, mF1, mF2, mF3, mF4, mF5, mP5, mF6, mF7, mP7, mF8, mP8, mF9, mP9, mF10, mP10, mF11, mF12, mF13, mF14, mF15, mF16, mF17, mF18, mF19, mF20, mP20, mF21, mF22, mF23, mP23, mF24, mP24, mF25, mP25, mF26, mF27, mF28, mF29, mF30, mF31, mP31, mF32, mP32, mF33, mP33, mF34, mF35, mF36, mF37, mF38, mF39, mF40, mF41, mF42, mF43, mF44, mF45, mP45, mF46, mP46, mF47, mP47, mF48, mP48, mF49, mF50, mF51, mP51, mL1, mL1n, mC1, mW1, mL2, mL2n, mC2, mW2, mL3, mL3n, mC3, mW3, mL4, mL4n, mC4, mW4, mL5, mL5n, mC5, mW5, mL6, mL6n, mC6, mW6, mL7, mL7n, mC7, mW7, mL8, mL8n, mC8, mW8, mL9, mL9n, mC9, mW9, mL10, mL10n, mC10, mW10, mL11, mL11n, mC11, mW11, mL12, mL12n, mC12, mW12, mL13, mL13n, mC13, mW13, mL14, mL14n, mC14, mW14, mL15, mL15n, mC15, mW15, mL16, mL16n, mC16, mW16, mL17, mL17n, mC17, mW17, mL18, mL18n, mC18, mW18, mL19, mL19n, mC19, mW19, mL20, mL20n, mC20, mW20, mL21, mL21n, mC21, mW21, mL23, mL23n, mC23, mW23, mL24, mL24n, mC24, mW24, mL25, mL25n, mC25, mW25, mL26, mL26n, mC26, mW26, mL27, mL27n, mC27, mW27, mL28, mL28n, mC28, mW28, mL29, mL29n, mC29, mW29, mL30, mL30n, mC30, mW30, mL31, mL31n, mC31, mW31, mL32, mL32n, mC32, mW32, mL33, mL33n, mC33, mW33, mL34, mL34n, mC34, mW34, mL22, mC22, mW22, f1]
  | succ j ih =>
    intro k P q5 q6 q7 h5 h6 h7 hj
    have hF := hF1.ag1 (la := cS (F.1 0) L) (N := N) (Z := agZ cl F so hr L A Z k) (P := P)
    have hFF := hF
    (obtain ⟨f1, f2, f3, f4, f5, f6, f7, f8, f9⟩ := hF; have hk' := hk; obtain ⟨k1, k2, k3, k4, k5, k6⟩ := hk')
    have hkk : k < F.1 0 := by omega
    have k5b := k5 k hkk
    have hbc : bt (cS (F.1 0) L) k = !bt L k := by rw [bt_c (by omega) (by omega)]; simp [hkk]
    rw [rX3_age_3]
    by_cases hb : bt L k = true
    · rw [hb] at hbc
      obtain ⟨P', q5', q6', q7', i1, i2, i3, i4⟩ := ih (k + 1) P q5 q6 q7 h5 h6 h7 (by omega)
      rw [agZ_s, if_pos hb] at i4
      refine ⟨P', q5', q6', q7', i1, i2, i3, ?_⟩
      simp (disch := first | assumption | omega | decide) only [pis_i, pis_l, pis_r, pis_n, p1_i, p1_r, p1_n, p1_u, pw0, pw1, pw2, pw3, pw4, pK_v, pK_0, pK_ite, if_true, if_false, if_pos, if_neg, Nat.reduceAdd, pok_r, i10, i01, Bool.true_or, Bool.or_true, Bool.and_true, Bool.true_and, Nat.add_sub_cancel, i1p1, i1p0, i0p1, i0p0, nIrem2, va_rf_s, bit1, bit0, pinT, pinLT, pin0, nIc, nIcL, nIlt, nIeq, nIltL, nILlt, nIeqL, nILeq, nIadL, nILad, nILmu, nI_add, nIsbL, nI_sub', decide_true, decide_false, Bool.false_or, Bool.or_false, rX3_age_5, rX3_age_6, rX3_age_9, rX3_age_10, rX3_age_11, rX3_age_14, rX3_age_15, rX3_age_18, rX3_age_20, rX3_age_21, rX3_age_22, rX3_age_23, rX3_age_24, rX3_age_143, rX3_age_144, rX3_age_147, rX3_age_149, rX3_age_150, rX3_age_151, rX3_age_154, mCl, mF0, mP0, mF1, mF2, mF3, mF4, mF5, mP5, mF6, mF7, mP7, mF8, mP8, mF9, mP9, mF10, mP10, mF11, mF12, mF13, mF14, mF15, mF16, mF17, mF18, mF19, mF20, mP20, mF21, mF22, mF23, mP23, mF24, mP24, mF25, mP25, mF26, mF27, mF28, mF29, mF30, mF31, mP31, mF32, mP32, mF33, mP33, mF34, mF35, mF36, mF37, mF38, mF39, mF40, mF41, mF42, mF43, mF44, mF45, mP45, mF46, mP46, mF47, mP47, mF48, mP48, mF49, mF50, mF51, mP51, mL1, mL1n, mC1, mW1, mL2, mL2n, mC2, mW2, mL3, mL3n, mC3, mW3, mL4, mL4n, mC4, mW4, mL5, mL5n, mC5, mW5, mL6, mL6n, mC6, mW6, mL7, mL7n, mC7, mW7, mL8, mL8n, mC8, mW8, mL9, mL9n, mC9, mW9, mL10, mL10n, mC10, mW10, mL11, mL11n, mC11, mW11, mL12, mL12n, mC12, mW12, mL13, mL13n, mC13, mW13, mL14, mL14n, mC14, mW14, mL15, mL15n, mC15, mW15, mL16, mL16n, mC16, mW16, mL17, mL17n, mC17, mW17, mL18, mL18n, mC18, mW18, mL19, mL19n, mC19, mW19, mL20, mL20n, mC20, mW20, mL21, mL21n, mC21, mW21, mL23, mL23n, mC23, mW23, mL24, mL24n, mC24, mW24, mL25, mL25n, mC25, mW25, mL26, mL26n, mC26, mW26, mL27, mL27n, mC27, mW27, mL28, mL28n, mC28, mW28, mL29, mL29n, mC29, mW29, mL30, mL30n, mC30, mW30, mL31, mL31n, mC31, mW31, mL32, mL32n, mC32, mW32, mL33, mL33n, mC33, mW33, mL34, mL34n, mC34, mW34, mL22, mC22, mW22, f1, sAg_51, hbc, Bool.not_true, Bool.false_eq_true, sAg_w34]
      exact i4
    · have hb' : bt L k = false := by simpa using hb
      rw [hb'] at hbc
      have hso := hs _ k5b.2.2
      obtain ⟨m1, m2, -⟩ := hM.2.2 _ hso
      have hnn := hM.1
      have e1 : (sAg S (cS (F.1 0) L) N (agZ cl F so hr L A Z k) P).2.1 1 = S.2.1 1 := sAg_a (by decide) (by decide)
      have e2 : (sAg S (cS (F.1 0) L) N (agZ cl F so hr L A Z k) P).2.1 2 = S.2.1 2 := sAg_a (by decide) (by decide)
      have u1 := kX3_endsIn (d := d + 5) (m := m) (h := h) (p := F.2.1 0 k) (set := cS (F.1 0) L) hFF hk hg (by omega)
      have u2 := kX3_endsIn (d := d + 5) (m := m) (h := h) (p := F.2.1 1 k) (set := cS (F.1 0) L) hFF hk hg (by omega)
      rw [fEn_c hk] at u1 u2
      have v1 := fb_sm_bound (f := fLe F (F.2.1 0 k) L) (c := 2) (n := F.1 0) (fun k _ => by unfold fLe; split <;> (try split) <;> (try split) <;> omega)
      have v2 := fb_sm_bound (f := fLe F (F.2.1 1 k) L) (c := 2) (n := F.1 0) (fun k _ => by unfold fLe; split <;> (try split) <;> (try split) <;> omega)
      obtain ⟨P1, hw⟩ := kX3_worthOf (d := d + 1) (m := m) (h := h) (S := sAg S (cS (F.1 0) L) N (agZ cl F so hr L A Z k) P) (l1 := A k) (l2 := hr) (l3 := nI (agE F L k)) (l4 := so (F.2.1 3 (F.2.1 2 k)) 1) (l5 := so (F.2.1 3 (F.2.1 2 k)) 0) hr7 hcg hcz hR.ag1
      have hw' : wth (Lf (A k) hr (nI (agE F L k)) (so (F.2.1 3 (F.2.1 2 k)) 1) (so (F.2.1 3 (F.2.1 2 k)) 0)) cl = agW cl F so hr L A k := rfl
      rw [hw'] at hw
      unfold agE at hw
      have hNk := hN k hkk hb'
      obtain ⟨P', q5', q6', q7', i1, i2, i3, i4⟩ := ih (k + 1) P1 (.int (nI (24 * g + k))) (.int (nI (F.2.1 3 (F.2.1 2 k)))) (.int (nI (fb_sm (fLe F (F.2.1 0 k) L) (F.1 0) + fb_sm (fLe F (F.2.1 1 k) L) (F.1 0)))) rfl rfl rfl (by omega)
      rw [agZ_s, if_neg hb] at i4
      refine ⟨P', q5', q6', q7', i1, i2, i3, ?_⟩
      simp (disch := first | assumption | omega | decide) only [pis_i, pis_l, pis_r, pis_n, p1_i, p1_r, p1_n, p1_u, pw0, pw1, pw2, pw3, pw4, pK_v, pK_0, pK_ite, if_true, if_false, if_pos, if_neg, Nat.reduceAdd, pok_r, i10, i01, Bool.true_or, Bool.or_true, Bool.and_true, Bool.true_and, Nat.add_sub_cancel, i1p1, i1p0, i0p1, i0p0, nIrem2, va_rf_s, bit1, bit0, pinT, pinLT, pin0, nIc, nIcL, nIlt, nIeq, nIltL, nILlt, nIeqL, nILeq, nIadL, nILad, nILmu, nI_add, nIsbL, nI_sub', decide_true, decide_false, Bool.false_or, Bool.or_false, rX3_age_5, rX3_age_6, rX3_age_9, rX3_age_10, rX3_age_11, rX3_age_14, rX3_age_15, rX3_age_18, rX3_age_20, rX3_age_21, rX3_age_22, rX3_age_23, rX3_age_24, rX3_age_27, rX3_age_29, rX3_age_30, rX3_age_31, rX3_age_33, rX3_age_34, rX3_age_36, rX3_age_37, rX3_age_40, rX3_age_42, rX3_age_43, rX3_age_44, rX3_age_45, rX3_age_48, rX3_age_50, rX3_age_51, rX3_age_52, rX3_age_53, rX3_age_55, rX3_age_56, rX3_age_57, rX3_age_58, rX3_age_61, rX3_age_63, rX3_age_64, rX3_age_65, rX3_age_68, rX3_age_71, rX3_age_72, rX3_age_73, rX3_age_74, rX3_age_77, rX3_age_79, rX3_age_80, rX3_age_81, rX3_age_84, rX3_age_87, rX3_age_88, rX3_age_90, rX3_age_91, rX3_age_94, rX3_age_96, rX3_age_97, rX3_age_98, rX3_age_101, rX3_age_103, rX3_age_104, rX3_age_105, rX3_age_106, rX3_age_107, rX3_age_110, rX3_age_112, rX3_age_113, rX3_age_114, rX3_age_116, rX3_age_117, rX3_age_120, rX3_age_122, rX3_age_123, rX3_age_124, rX3_age_127, rX3_age_129, rX3_age_130, rX3_age_133, rX3_age_136, rX3_age_139, rX3_age_140, rX3_age_143, rX3_age_144, rX3_age_147, rX3_age_149, rX3_age_150, rX3_age_151, rX3_age_154, mCl, mF0, mP0, mF1, mF2, mF3, mF4, mF5, mP5, mF6, mF7, mP7, mF8, mP8, mF9, mP9, mF10, mP10, mF11, mF12, mF13, mF14, mF15, mF16, mF17, mF18, mF19, mF20, mP20, mF21, mF22, mF23, mP23, mF24, mP24, mF25, mP25, mF26, mF27, mF28, mF29, mF30, mF31, mP31, mF32, mP32, mF33, mP33, mF34, mF35, mF36, mF37, mF38, mF39, mF40, mF41, mF42, mF43, mF44, mF45, mP45, mF46, mP46, mF47, mP47, mF48, mP48, mF49, mF50, mF51, mP51, mL1, mL1n, mC1, mW1, mL2, mL2n, mC2, mW2, mL3, mL3n, mC3, mW3, mL4, mL4n, mC4, mW4, mL5, mL5n, mC5, mW5, mL6, mL6n, mC6, mW6, mL7, mL7n, mC7, mW7, mL8, mL8n, mC8, mW8, mL9, mL9n, mC9, mW9, mL10, mL10n, mC10, mW10, mL11, mL11n, mC11, mW11, mL12, mL12n, mC12, mW12, mL13, mL13n, mC13, mW13, mL14, mL14n, mC14, mW14, mL15, mL15n, mC15, mW15, mL16, mL16n, mC16, mW16, mL17, mL17n, mC17, mW17, mL18, mL18n, mC18, mW18, mL19, mL19n, mC19, mW19, mL20, mL20n, mC20, mW20, mL21, mL21n, mC21, mW21, mL23, mL23n, mC23, mW23, mL24, mL24n, mC24, mW24, mL25, mL25n, mC25, mW25, mL26, mL26n, mC26, mW26, mL27, mL27n, mC27, mW27, mL28, mL28n, mC28, mW28, mL29, mL29n, mC29, mW29, mL30, mL30n, mC30, mW30, mL31, mL31n, mC31, mW31, mL32, mL32n, mC32, mW32, mL33, mL33n, mC33, mW33, mL34, mL34n, mC34, mW34, mL22, mC22, mW22, f1, f2, f3, f4, f5, f6, f7, f8, f9, sAg_51, sAg_33, hbc, Bool.not_false, e1, e2, m1, m2, u1, u2, hNk, hw, sAg_P, mx0_e, sAg_w34]
      exact i4
theorem mag_2 (hF1 : MFig S g F) (hk : FigOk F) (hg : g < 13) (hN : ∀ b, b < F.1 0 → N b = if bt L b = true then 0 else A b) {P : Nat → Int64} {q6 q7 : Value} (h6 : p1 q6 = true) (h7 : p1 q7 = true) {R : Option pO}
    (hR : pR 165 (d + 6) 225 [.ref m, .int (nI g), .int (nI r), .int hr, .int (cS (F.1 0) (agL L (agA cl F so hr L A) (F.1 0))), .int (nI (F.1 0)), q6, q7] [] (mput h m (sAg S (cS (F.1 0) L) (fst' N (fun b => N b - agZ cl F so hr L A Z (F.1 0) b) (F.1 0)) (agZ cl F so hr L A Z (F.1 0)) P)) = R) :
    pR 165 (d + 6) 166 [.ref m, .int (nI g), .int (nI r), .int hr, .int (cS (F.1 0) L), .int 0, q6, q7] [] (mput h m (sAg S (cS (F.1 0) L) N (agZ cl F so hr L A Z (F.1 0)) P)) = R := by
  have k1 := hk.1
  have main := loopN (R := R) (N := F.1 0) (P := fun k => pR 165 (d + 6) 166 [.ref m, .int (nI g), .int (nI r), .int hr, .int (cS (F.1 0) (agL L (agA cl F so hr L A) k)), .int (nI k), q6, q7] [] (mput h m (sAg S (cS (F.1 0) L) (fst' N (fun b => N b - agZ cl F so hr L A Z (F.1 0) b) k) (agZ cl F so hr L A Z (F.1 0)) P))) (fun k hkk R hR => ?_) ?_ 0 (Nat.zero_le _)
  · rw [fst'_0] at main
    exact main
  · have f1 := (hF1.ag1 (la := cS (F.1 0) L) (N := fst' N (fun b => N b - agZ cl F so hr L A Z (F.1 0) b) k) (Z := agZ cl F so hr L A Z (F.1 0)) (P := P)).1
    rw [fst'_s] at hR
    have hz : agZ cl F so hr L A Z (F.1 0) k = if bt L k = true then 0 else mx0 (A k) (agW cl F so hr L A k) := by unfold agZ; rw [if_pos hkk]
    have e0 : N k - agZ cl F so hr L A Z (F.1 0) k = if bt L k = true then 0 else agA cl F so hr L A k := by
      rw [hz, hN k hkk]
      unfold agA
      by_cases hb : bt L k = true
      · simp [hb]
      · simp [hb]
    rw [rX3_age_166]
    generalize hv : N k - agZ cl F so hr L A Z (F.1 0) k = v at hR e0
    have hl : (if v = 0 then wo (cS (F.1 0) (agL L (agA cl F so hr L A) k)) k else cS (F.1 0) (agL L (agA cl F so hr L A) k)) = cS (F.1 0) (agL L (agA cl F so hr L A) (k + 1)) := by
      rw [e0, agL]
      by_cases hb : bt L k = true
      · rw [if_pos hb, if_pos rfl, if_pos hb]
        apply b_ext
        intro i hi
        rw [bt_wo (by omega) hi, bt_c (by omega) hi]
        by_cases e : i = k
        · subst e
          rw [agL_bt i (by omega) i hi, hb]; simp
        · simp [e]
      · rw [if_neg hb, if_neg hb]
        by_cases hc : agA cl F so hr L A k = 0
        · rw [if_pos hc, if_pos hc, cS_wo (by omega) (by omega)]
        · rw [if_neg hc, if_neg hc]
    rw [← hl] at hR
    by_cases hv0 : v = 0
    · rw [if_pos hv0] at hR
      simp (disch := first | assumption | omega | decide) only [pis_i, pis_l, pis_r, pis_n, p1_i, p1_r, p1_n, p1_u, pw0, pw1, pw2, pw3, pw4, pK_v, pK_0, pK_ite, if_true, if_false, if_pos, if_neg, Nat.reduceAdd, pok_r, i10, i01, Bool.true_or, Bool.or_true, Bool.and_true, Bool.true_and, Nat.add_sub_cancel, i1p1, i1p0, i0p1, i0p0, nIrem2, va_rf_s, bit1, bit0, pinT, pinLT, pin0, nIc, nIcL, nIlt, nIeq, nIltL, nILlt, nIeqL, nILeq, nIadL, nILad, nILmu, nI_add, nIsbL, nI_sub', decide_true, decide_false, Bool.false_or, Bool.or_false, rX3_age_168, rX3_age_169, rX3_age_172, rX3_age_173, rX3_age_174, rX3_age_177, rX3_age_178, rX3_age_181, rX3_age_183, rX3_age_184, rX3_age_185, rX3_age_186, rX3_age_189, rX3_age_191, rX3_age_192, rX3_age_193, rX3_age_194, rX3_age_196, rX3_age_197, rX3_age_200, rX3_age_202, rX3_age_203, rX3_age_206, rX3_age_207, rX3_age_209, rX3_age_210, rX3_age_211, rX3_age_212, rX3_age_215, rX3_age_216, rX3_age_217, rX3_age_219, rX3_age_222, mCl, mF0, mP0, mF1, mF2, mF3, mF4, mF5, mP5, mF6, mF7, mP7, mF8, mP8, mF9, mP9, mF10, mP10, mF11, mF12, mF13, mF14, mF15, mF16, mF17, mF18, mF19, mF20, mP20, mF21, mF22, mF23, mP23, mF24, mP24, mF25, mP25, mF26, mF27, mF28, mF29, mF30, mF31, mP31, mF32, mP32, mF33, mP33, mF34, mF35, mF36, mF37, mF38, mF39, mF40, mF41, mF42, mF43, mF44, mF45, mP45, mF46, mP46, mF47, mP47, mF48, mP48, mF49, mF50, mF51, mP51, mL1, mL1n, mC1, mW1, mL2, mL2n, mC2, mW2, mL3, mL3n, mC3, mW3, mL4, mL4n, mC4, mW4, mL5, mL5n, mC5, mW5, mL6, mL6n, mC6, mW6, mL7, mL7n, mC7, mW7, mL8, mL8n, mC8, mW8, mL9, mL9n, mC9, mW9, mL10, mL10n, mC10, mW10, mL11, mL11n, mC11, mW11, mL12, mL12n, mC12, mW12, mL13, mL13n, mC13, mW13, mL14, mL14n, mC14, mW14, mL15, mL15n, mC15, mW15, mL16, mL16n, mC16, mW16, mL17, mL17n, mC17, mW17, mL18, mL18n, mC18, mW18, mL19, mL19n, mC19, mW19, mL20, mL20n, mC20, mW20, mL21, mL21n, mC21, mW21, mL23, mL23n, mC23, mW23, mL24, mL24n, mC24, mW24, mL25, mL25n, mC25, mW25, mL26, mL26n, mC26, mW26, mL27, mL27n, mC27, mW27, mL28, mL28n, mC28, mW28, mL29, mL29n, mC29, mW29, mL30, mL30n, mC30, mW30, mL31, mL31n, mC31, mW31, mL32, mL32n, mC32, mW32, mL33, mL33n, mC33, mW33, mL34, mL34n, mC34, mW34, mL22, mC22, mW22, f1, sAg_33, sAg_34, fst'_k, hv, sAg_w33, upd_same, hv0]
      rw [hv0] at hR
      exact hR
    · rw [if_neg hv0] at hR
      simp (disch := first | assumption | omega | decide) only [pis_i, pis_l, pis_r, pis_n, p1_i, p1_r, p1_n, p1_u, pw0, pw1, pw2, pw3, pw4, pK_v, pK_0, pK_ite, if_true, if_false, if_pos, if_neg, Nat.reduceAdd, pok_r, i10, i01, Bool.true_or, Bool.or_true, Bool.and_true, Bool.true_and, Nat.add_sub_cancel, i1p1, i1p0, i0p1, i0p0, nIrem2, va_rf_s, bit1, bit0, pinT, pinLT, pin0, nIc, nIcL, nIlt, nIeq, nIltL, nILlt, nIeqL, nILeq, nIadL, nILad, nILmu, nI_add, nIsbL, nI_sub', decide_true, decide_false, Bool.false_or, Bool.or_false, rX3_age_168, rX3_age_169, rX3_age_172, rX3_age_173, rX3_age_174, rX3_age_177, rX3_age_178, rX3_age_181, rX3_age_183, rX3_age_184, rX3_age_185, rX3_age_186, rX3_age_189, rX3_age_191, rX3_age_192, rX3_age_193, rX3_age_194, rX3_age_196, rX3_age_197, rX3_age_200, rX3_age_202, rX3_age_203, rX3_age_206, rX3_age_207, rX3_age_209, rX3_age_210, rX3_age_211, rX3_age_212, rX3_age_215, rX3_age_216, rX3_age_217, rX3_age_219, rX3_age_222, mCl, mF0, mP0, mF1, mF2, mF3, mF4, mF5, mP5, mF6, mF7, mP7, mF8, mP8, mF9, mP9, mF10, mP10, mF11, mF12, mF13, mF14, mF15, mF16, mF17, mF18, mF19, mF20, mP20, mF21, mF22, mF23, mP23, mF24, mP24, mF25, mP25, mF26, mF27, mF28, mF29, mF30, mF31, mP31, mF32, mP32, mF33, mP33, mF34, mF35, mF36, mF37, mF38, mF39, mF40, mF41, mF42, mF43, mF44, mF45, mP45, mF46, mP46, mF47, mP47, mF48, mP48, mF49, mF50, mF51, mP51, mL1, mL1n, mC1, mW1, mL2, mL2n, mC2, mW2, mL3, mL3n, mC3, mW3, mL4, mL4n, mC4, mW4, mL5, mL5n, mC5, mW5, mL6, mL6n, mC6, mW6, mL7, mL7n, mC7, mW7, mL8, mL8n, mC8, mW8, mL9, mL9n, mC9, mW9, mL10, mL10n, mC10, mW10, mL11, mL11n, mC11, mW11, mL12, mL12n, mC12, mW12, mL13, mL13n, mC13, mW13, mL14, mL14n, mC14, mW14, mL15, mL15n, mC15, mW15, mL16, mL16n, mC16, mW16, mL17, mL17n, mC17, mW17, mL18, mL18n, mC18, mW18, mL19, mL19n, mC19, mW19, mL20, mL20n, mC20, mW20, mL21, mL21n, mC21, mW21, mL23, mL23n, mC23, mW23, mL24, mL24n, mC24, mW24, mL25, mL25n, mC25, mW25, mL26, mL26n, mC26, mW26, mL27, mL27n, mC27, mW27, mL28, mL28n, mC28, mW28, mL29, mL29n, mC29, mW29, mL30, mL30n, mC30, mW30, mL31, mL31n, mC31, mW31, mL32, mL32n, mC32, mW32, mL33, mL33n, mC33, mW33, mL34, mL34n, mC34, mW34, mL22, mC22, mW22, f1, sAg_33, sAg_34, fst'_k, hv, sAg_w33, upd_same, hv0]
      rw [show cS (F.1 0) (agL L (agA cl F so hr L A) k) &&& (-1) = cS (F.1 0) (agL L (agA cl F so hr L A) k) by simp]
      exact hR
  · have f1 := (hF1.ag1 (la := cS (F.1 0) L) (N := fst' N (fun b => N b - agZ cl F so hr L A Z (F.1 0) b) (F.1 0)) (Z := agZ cl F so hr L A Z (F.1 0)) (P := P)).1
    rw [rX3_age_166]
    simp (disch := first | assumption | omega | decide) only [pis_i, pis_l, pis_r, pis_n, p1_i, p1_r, p1_n, p1_u, pw0, pw1, pw2, pw3, pw4, pK_v, pK_0, pK_ite, if_true, if_false, if_pos, if_neg, Nat.reduceAdd, pok_r, i10, i01, Bool.true_or, Bool.or_true, Bool.and_true, Bool.true_and, Nat.add_sub_cancel, i1p1, i1p0, i0p1, i0p0, nIrem2, va_rf_s, bit1, bit0, pinT, pinLT, pin0, nIc, nIcL, nIlt, nIeq, nIltL, nILlt, nIeqL, nILeq, nIadL, nILad, nILmu, nI_add, nIsbL, nI_sub', decide_true, decide_false, Bool.false_or, Bool.or_false, rX3_age_168, rX3_age_169, rX3_age_172, rX3_age_173, rX3_age_174, mCl, mF0, mP0, mF1, mF2, mF3, mF4, mF5, mP5, mF6, mF7, mP7, mF8, mP8, mF9, mP9, mF10, mP10, mF11, mF12, mF13, mF14, mF15, mF16, mF17, mF18, mF19, mF20, mP20, mF21, mF22, mF23, mP23, mF24, mP24, mF25, mP25, mF26, mF27, mF28, mF29, mF30, mF31, mP31, mF32, mP32, mF33, mP33, mF34, mF35, mF36, mF37, mF38, mF39, mF40, mF41, mF42, mF43, mF44, mF45, mP45, mF46, mP46, mF47, mP47, mF48, mP48, mF49, mF50, mF51, mP51, mL1, mL1n, mC1, mW1, mL2, mL2n, mC2, mW2, mL3, mL3n, mC3, mW3, mL4, mL4n, mC4, mW4, mL5, mL5n, mC5, mW5, mL6, mL6n, mC6, mW6, mL7, mL7n, mC7, mW7, mL8, mL8n, mC8, mW8, mL9, mL9n, mC9, mW9, mL10, mL10n, mC10, mW10, mL11, mL11n, mC11, mW11, mL12, mL12n, mC12, mW12, mL13, mL13n, mC13, mW13, mL14, mL14n, mC14, mW14, mL15, mL15n, mC15, mW15, mL16, mL16n, mC16, mW16, mL17, mL17n, mC17, mW17, mL18, mL18n, mC18, mW18, mL19, mL19n, mC19, mW19, mL20, mL20n, mC20, mW20, mL21, mL21n, mC21, mW21, mL23, mL23n, mC23, mW23, mL24, mL24n, mC24, mW24, mL25, mL25n, mC25, mW25, mL26, mL26n, mC26, mW26, mL27, mL27n, mC27, mW27, mL28, mL28n, mC28, mW28, mL29, mL29n, mC29, mW29, mL30, mL30n, mC30, mW30, mL31, mL31n, mC31, mW31, mL32, mL32n, mC32, mW32, mL33, mL33n, mC33, mW33, mL34, mL34n, mC34, mW34, mL22, mC22, mW22, f1]
    exact hR
theorem mag_3 (hF1 : MFig S g F) (hk : FigOk F) (hg : g < 13) {P : Nat → Int64} {q4 q6 q7 : Value} {La : Int32} (h4 : p1 q4 = true) (h6 : p1 q6 = true) (h7 : p1 q7 = true) :
    pR 165 (d + 6) 239 [.ref m, .int (nI g), .int (nI r), .int hr, q4, .int 0, q6, q7] [] (mput h m (sAg S La N Z P)) = some (.inl none, mput h m (sAg S La (fst' N (fun b => if bt La b = true then N b else 0) (F.1 0)) Z P)) := by
  have k1 := hk.1
  have main := loopN (R := some (.inl none, mput h m (sAg S La (fst' N (fun b => if bt La b = true then N b else 0) (F.1 0)) Z P))) (N := F.1 0) (P := fun k => pR 165 (d + 6) 239 [.ref m, .int (nI g), .int (nI r), .int hr, q4, .int (nI k), q6, q7] [] (mput h m (sAg S La (fst' N (fun b => if bt La b = true then N b else 0) k) Z P))) (fun k hkk R hR => ?_) ?_ 0 (Nat.zero_le _)
  · rw [fst'_0] at main
    exact main
  · have f1 := (hF1.ag1 (la := La) (N := fst' N (fun b => if bt La b = true then N b else 0) k) (Z := Z) (P := P)).1
    rw [fst'_s] at hR
    rw [rX3_age_239]
    by_cases hb : bt La k = true
    · rw [if_pos hb] at hR
      simp (disch := first | assumption | omega | decide) only [pis_i, pis_l, pis_r, pis_n, p1_i, p1_r, p1_n, p1_u, pw0, pw1, pw2, pw3, pw4, pK_v, pK_0, pK_ite, if_true, if_false, if_pos, if_neg, Nat.reduceAdd, pok_r, i10, i01, Bool.true_or, Bool.or_true, Bool.and_true, Bool.true_and, Nat.add_sub_cancel, i1p1, i1p0, i0p1, i0p0, nIrem2, va_rf_s, bit1, bit0, pinT, pinLT, pin0, nIc, nIcL, nIlt, nIeq, nIltL, nILlt, nIeqL, nILeq, nIadL, nILad, nILmu, nI_add, nIsbL, nI_sub', decide_true, decide_false, Bool.false_or, Bool.or_false, rX3_age_241, rX3_age_242, rX3_age_245, rX3_age_246, rX3_age_247, rX3_age_250, rX3_age_251, rX3_age_254, rX3_age_256, rX3_age_257, rX3_age_260, rX3_age_262, rX3_age_263, rX3_age_264, rX3_age_265, rX3_age_266, rX3_age_269, rX3_age_270, rX3_age_273, rX3_age_275, rX3_age_276, rX3_age_279, rX3_age_280, rX3_age_281, rX3_age_284, mCl, mF0, mP0, mF1, mF2, mF3, mF4, mF5, mP5, mF6, mF7, mP7, mF8, mP8, mF9, mP9, mF10, mP10, mF11, mF12, mF13, mF14, mF15, mF16, mF17, mF18, mF19, mF20, mP20, mF21, mF22, mF23, mP23, mF24, mP24, mF25, mP25, mF26, mF27, mF28, mF29, mF30, mF31, mP31, mF32, mP32, mF33, mP33, mF34, mF35, mF36, mF37, mF38, mF39, mF40, mF41, mF42, mF43, mF44, mF45, mP45, mF46, mP46, mF47, mP47, mF48, mP48, mF49, mF50, mF51, mP51, mL1, mL1n, mC1, mW1, mL2, mL2n, mC2, mW2, mL3, mL3n, mC3, mW3, mL4, mL4n, mC4, mW4, mL5, mL5n, mC5, mW5, mL6, mL6n, mC6, mW6, mL7, mL7n, mC7, mW7, mL8, mL8n, mC8, mW8, mL9, mL9n, mC9, mW9, mL10, mL10n, mC10, mW10, mL11, mL11n, mC11, mW11, mL12, mL12n, mC12, mW12, mL13, mL13n, mC13, mW13, mL14, mL14n, mC14, mW14, mL15, mL15n, mC15, mW15, mL16, mL16n, mC16, mW16, mL17, mL17n, mC17, mW17, mL18, mL18n, mC18, mW18, mL19, mL19n, mC19, mW19, mL20, mL20n, mC20, mW20, mL21, mL21n, mC21, mW21, mL23, mL23n, mC23, mW23, mL24, mL24n, mC24, mW24, mL25, mL25n, mC25, mW25, mL26, mL26n, mC26, mW26, mL27, mL27n, mC27, mW27, mL28, mL28n, mC28, mW28, mL29, mL29n, mC29, mW29, mL30, mL30n, mC30, mW30, mL31, mL31n, mC31, mW31, mL32, mL32n, mC32, mW32, mL33, mL33n, mC33, mW33, mL34, mL34n, mC34, mW34, mL22, mC22, mW22, f1, sAg_33, sAg_51, fst'_k, sAg_w33, hb]
      exact hR
    · rw [if_neg hb] at hR
      simp (disch := first | assumption | omega | decide) only [pis_i, pis_l, pis_r, pis_n, p1_i, p1_r, p1_n, p1_u, pw0, pw1, pw2, pw3, pw4, pK_v, pK_0, pK_ite, if_true, if_false, if_pos, if_neg, Nat.reduceAdd, pok_r, i10, i01, Bool.true_or, Bool.or_true, Bool.and_true, Bool.true_and, Nat.add_sub_cancel, i1p1, i1p0, i0p1, i0p0, nIrem2, va_rf_s, bit1, bit0, pinT, pinLT, pin0, nIc, nIcL, nIlt, nIeq, nIltL, nILlt, nIeqL, nILeq, nIadL, nILad, nILmu, nI_add, nIsbL, nI_sub', decide_true, decide_false, Bool.false_or, Bool.or_false, rX3_age_241, rX3_age_242, rX3_age_245, rX3_age_246, rX3_age_247, rX3_age_250, rX3_age_251, rX3_age_254, rX3_age_256, rX3_age_257, rX3_age_260, rX3_age_262, rX3_age_263, rX3_age_264, rX3_age_265, rX3_age_266, rX3_age_269, rX3_age_270, rX3_age_273, rX3_age_275, rX3_age_276, rX3_age_279, rX3_age_280, rX3_age_281, rX3_age_284, mCl, mF0, mP0, mF1, mF2, mF3, mF4, mF5, mP5, mF6, mF7, mP7, mF8, mP8, mF9, mP9, mF10, mP10, mF11, mF12, mF13, mF14, mF15, mF16, mF17, mF18, mF19, mF20, mP20, mF21, mF22, mF23, mP23, mF24, mP24, mF25, mP25, mF26, mF27, mF28, mF29, mF30, mF31, mP31, mF32, mP32, mF33, mP33, mF34, mF35, mF36, mF37, mF38, mF39, mF40, mF41, mF42, mF43, mF44, mF45, mP45, mF46, mP46, mF47, mP47, mF48, mP48, mF49, mF50, mF51, mP51, mL1, mL1n, mC1, mW1, mL2, mL2n, mC2, mW2, mL3, mL3n, mC3, mW3, mL4, mL4n, mC4, mW4, mL5, mL5n, mC5, mW5, mL6, mL6n, mC6, mW6, mL7, mL7n, mC7, mW7, mL8, mL8n, mC8, mW8, mL9, mL9n, mC9, mW9, mL10, mL10n, mC10, mW10, mL11, mL11n, mC11, mW11, mL12, mL12n, mC12, mW12, mL13, mL13n, mC13, mW13, mL14, mL14n, mC14, mW14, mL15, mL15n, mC15, mW15, mL16, mL16n, mC16, mW16, mL17, mL17n, mC17, mW17, mL18, mL18n, mC18, mW18, mL19, mL19n, mC19, mW19, mL20, mL20n, mC20, mW20, mL21, mL21n, mC21, mW21, mL23, mL23n, mC23, mW23, mL24, mL24n, mC24, mW24, mL25, mL25n, mC25, mW25, mL26, mL26n, mC26, mW26, mL27, mL27n, mC27, mW27, mL28, mL28n, mC28, mW28, mL29, mL29n, mC29, mW29, mL30, mL30n, mC30, mW30, mL31, mL31n, mC31, mW31, mL32, mL32n, mC32, mW32, mL33, mL33n, mC33, mW33, mL34, mL34n, mC34, mW34, mL22, mC22, mW22, f1, sAg_33, sAg_51, fst'_k, sAg_w33, hb]
      exact hR
  · have f1 := (hF1.ag1 (la := La) (N := fst' N (fun b => if bt La b = true then N b else 0) (F.1 0)) (Z := Z) (P := P)).1
    rw [rX3_age_239]
    simp (disch := first | assumption | omega | decide) only [pis_i, pis_l, pis_r, pis_n, p1_i, p1_r, p1_n, p1_u, pw0, pw1, pw2, pw3, pw4, pK_v, pK_0, pK_ite, if_true, if_false, if_pos, if_neg, Nat.reduceAdd, pok_r, i10, i01, Bool.true_or, Bool.or_true, Bool.and_true, Bool.true_and, Nat.add_sub_cancel, i1p1, i1p0, i0p1, i0p0, nIrem2, va_rf_s, bit1, bit0, pinT, pinLT, pin0, nIc, nIcL, nIlt, nIeq, nIltL, nILlt, nIeqL, nILeq, nIadL, nILad, nILmu, nI_add, nIsbL, nI_sub', decide_true, decide_false, Bool.false_or, Bool.or_false, rX3_age_241, rX3_age_242, rX3_age_245, rX3_age_246, rX3_age_247, rX3_age_287, mCl, mF0, mP0, mF1, mF2, mF3, mF4, mF5, mP5, mF6, mF7, mP7, mF8, mP8, mF9, mP9, mF10, mP10, mF11, mF12, mF13, mF14, mF15, mF16, mF17, mF18, mF19, mF20, mP20, mF21, mF22, mF23, mP23, mF24, mP24, mF25, mP25, mF26, mF27, mF28, mF29, mF30, mF31, mP31, mF32, mP32, mF33, mP33, mF34, mF35, mF36, mF37, mF38, mF39, mF40, mF41, mF42, mF43, mF44, mF45, mP45, mF46, mP46, mF47, mP47, mF48, mP48, mF49, mF50, mF51, mP51, mL1, mL1n, mC1, mW1, mL2, mL2n, mC2, mW2, mL3, mL3n, mC3, mW3, mL4, mL4n, mC4, mW4, mL5, mL5n, mC5, mW5, mL6, mL6n, mC6, mW6, mL7, mL7n, mC7, mW7, mL8, mL8n, mC8, mW8, mL9, mL9n, mC9, mW9, mL10, mL10n, mC10, mW10, mL11, mL11n, mC11, mW11, mL12, mL12n, mC12, mW12, mL13, mL13n, mC13, mW13, mL14, mL14n, mC14, mW14, mL15, mL15n, mC15, mW15, mL16, mL16n, mC16, mW16, mL17, mL17n, mC17, mW17, mL18, mL18n, mC18, mW18, mL19, mL19n, mC19, mW19, mL20, mL20n, mC20, mW20, mL21, mL21n, mC21, mW21, mL23, mL23n, mC23, mW23, mL24, mL24n, mC24, mW24, mL25, mL25n, mC25, mW25, mL26, mL26n, mC26, mW26, mL27, mL27n, mC27, mW27, mL28, mL28n, mC28, mW28, mL29, mL29n, mC29, mW29, mL30, mL30n, mC30, mW30, mL31, mL31n, mC31, mW31, mL32, mL32n, mC32, mW32, mL33, mL33n, mC33, mW33, mL34, mL34n, mC34, mW34, mL22, mC22, mW22, f1]
theorem kX3_age (hF1 : MFig S g F) (hk : FigOk F) (hg : g < 13) (hr7 : r < 7) (hcg : ∀ c, c ∈ cl → c.g) (hcz : Lz cl ≤ 201) (hR : RlAt S r cl) (hM : MSo S n so) (hs : ∀ b, b < F.1 1 → F.2.1 3 b < n) (hL : inS (F.1 0) L) (hN : ∀ b, b < F.1 0 → N b = if bt L b = true then 0 else A b) (P : Nat → Int64) : ∃ N' Z' P', pCa 165 (d + 6) [.ref m, .int (nI g), .int (nI r), .int hr] (mput h m (sAg S (cS (F.1 0) L) N Z P)) = some (.inl none, mput h m (sAg S (cS (F.1 0) (fx F 25 (agL L (agA cl F so hr L A) (F.1 0)))) N' Z' P')) ∧ ∀ b, b < F.1 0 → N' b = if bt (fx F 25 (agL L (agA cl F so hr L A) (F.1 0))) b = true then 0 else agB cl F so hr L A (F.1 0) b := by
  have k1 := hk.1
  obtain ⟨P', q5', q6', q7', i1, i2, i3, i4⟩ := mag_1 (d := d) (m := m) (h := h) (hr := hr) (Z := Z) hF1 hk hg hr7 hcg hcz hR hM hs (L := L) (A := A) (N := N) (fun b hb e => by rw [hN b hb, e]; rfl) (F.1 0) 0 P pU pU pU rfl rfl rfl (by omega)
  have hin := agL_in (A' := agA cl F so hr L A) (show F.1 0 ≤ 32 by omega) hL (F.1 0) (Nat.le_refl _)
  have hlo := kX3_leftOf (d := d + 3) (m := m) (h := h) (hF1.ag1 (la := cS (F.1 0) L) (N := fst' N (fun b => N b - agZ cl F so hr L A Z (F.1 0) b) (F.1 0)) (Z := agZ cl F so hr L A Z (F.1 0)) (P := P')) hk hg hin
  refine ⟨fst' (fst' N (fun b => N b - agZ cl F so hr L A Z (F.1 0) b) (F.1 0)) (fun b => if bt (cS (F.1 0) (fx F 25 (agL L (agA cl F so hr L A) (F.1 0)))) b = true then fst' N (fun b => N b - agZ cl F so hr L A Z (F.1 0) b) (F.1 0) b else 0) (F.1 0), agZ cl F so hr L A Z (F.1 0), P', ?_, fun b hb => ?_⟩
  · rw [agZ_0] at i4
    rw [eX3_age]
    simp (disch := first | assumption | omega | decide) only [pis_i, pis_l, pis_r, pis_n, p1_i, p1_r, p1_n, p1_u, pw0, pw1, pw2, pw3, pw4, pK_v, pK_0, pK_ite, if_true, if_false, if_pos, if_neg, Nat.reduceAdd, pok_r, i10, i01, Bool.true_or, Bool.or_true, Bool.and_true, Bool.true_and, Nat.add_sub_cancel, i1p1, i1p0, i0p1, i0p0, nIrem2, va_rf_s, bit1, bit0, pinT, pinLT, pin0, nIc, nIcL, nIlt, nIeq, nIltL, nILlt, nIeqL, nILeq, nIadL, nILad, nILmu, nI_add, nIsbL, nI_sub', decide_true, decide_false, Bool.false_or, Bool.or_false, rX3_age_0, rX3_age_1]
    refine Eq.trans i4 ?_
    simp (disch := first | assumption | omega | decide) only [pis_i, pis_l, pis_r, pis_n, p1_i, p1_r, p1_n, p1_u, pw0, pw1, pw2, pw3, pw4, pK_v, pK_0, pK_ite, if_true, if_false, if_pos, if_neg, Nat.reduceAdd, pok_r, i10, i01, Bool.true_or, Bool.or_true, Bool.and_true, Bool.true_and, Nat.add_sub_cancel, i1p1, i1p0, i0p1, i0p0, nIrem2, va_rf_s, bit1, bit0, pinT, pinLT, pin0, nIc, nIcL, nIlt, nIeq, nIltL, nILlt, nIeqL, nILeq, nIadL, nILad, nILmu, nI_add, nIsbL, nI_sub', decide_true, decide_false, Bool.false_or, Bool.or_false, rX3_age_157, rX3_age_158, rX3_age_161, rX3_age_163, rX3_age_164, mCl, mF0, mP0, mF1, mF2, mF3, mF4, mF5, mP5, mF6, mF7, mP7, mF8, mP8, mF9, mP9, mF10, mP10, mF11, mF12, mF13, mF14, mF15, mF16, mF17, mF18, mF19, mF20, mP20, mF21, mF22, mF23, mP23, mF24, mP24, mF25, mP25, mF26, mF27, mF28, mF29, mF30, mF31, mP31, mF32, mP32, mF33, mP33, mF34, mF35, mF36, mF37, mF38, mF39, mF40, mF41, mF42, mF43, mF44, mF45, mP45, mF46, mP46, mF47, mP47, mF48, mP48, mF49, mF50, mF51, mP51, mL1, mL1n, mC1, mW1, mL2, mL2n, mC2, mW2, mL3, mL3n, mC3, mW3, mL4, mL4n, mC4, mW4, mL5, mL5n, mC5, mW5, mL6, mL6n, mC6, mW6, mL7, mL7n, mC7, mW7, mL8, mL8n, mC8, mW8, mL9, mL9n, mC9, mW9, mL10, mL10n, mC10, mW10, mL11, mL11n, mC11, mW11, mL12, mL12n, mC12, mW12, mL13, mL13n, mC13, mW13, mL14, mL14n, mC14, mW14, mL15, mL15n, mC15, mW15, mL16, mL16n, mC16, mW16, mL17, mL17n, mC17, mW17, mL18, mL18n, mC18, mW18, mL19, mL19n, mC19, mW19, mL20, mL20n, mC20, mW20, mL21, mL21n, mC21, mW21, mL23, mL23n, mC23, mW23, mL24, mL24n, mC24, mW24, mL25, mL25n, mC25, mW25, mL26, mL26n, mC26, mW26, mL27, mL27n, mC27, mW27, mL28, mL28n, mC28, mW28, mL29, mL29n, mC29, mW29, mL30, mL30n, mC30, mW30, mL31, mL31n, mC31, mW31, mL32, mL32n, mC32, mW32, mL33, mL33n, mC33, mW33, mL34, mL34n, mC34, mW34, mL22, mC22, mW22, sAg_51]
    refine mag_2 hF1 hk hg hN i2 i3 ?_
    simp (disch := first | assumption | omega | decide) only [pis_i, pis_l, pis_r, pis_n, p1_i, p1_r, p1_n, p1_u, pw0, pw1, pw2, pw3, pw4, pK_v, pK_0, pK_ite, if_true, if_false, if_pos, if_neg, Nat.reduceAdd, pok_r, i10, i01, Bool.true_or, Bool.or_true, Bool.and_true, Bool.true_and, Nat.add_sub_cancel, i1p1, i1p0, i0p1, i0p0, nIrem2, va_rf_s, bit1, bit0, pinT, pinLT, pin0, nIc, nIcL, nIlt, nIeq, nIltL, nILlt, nIeqL, nILeq, nIadL, nILad, nILmu, nI_add, nIsbL, nI_sub', decide_true, decide_false, Bool.false_or, Bool.or_false, rX3_age_225, rX3_age_226, rX3_age_227, rX3_age_228, rX3_age_230, rX3_age_233, rX3_age_236, rX3_age_237, mCl, mF0, mP0, mF1, mF2, mF3, mF4, mF5, mP5, mF6, mF7, mP7, mF8, mP8, mF9, mP9, mF10, mP10, mF11, mF12, mF13, mF14, mF15, mF16, mF17, mF18, mF19, mF20, mP20, mF21, mF22, mF23, mP23, mF24, mP24, mF25, mP25, mF26, mF27, mF28, mF29, mF30, mF31, mP31, mF32, mP32, mF33, mP33, mF34, mF35, mF36, mF37, mF38, mF39, mF40, mF41, mF42, mF43, mF44, mF45, mP45, mF46, mP46, mF47, mP47, mF48, mP48, mF49, mF50, mF51, mP51, mL1, mL1n, mC1, mW1, mL2, mL2n, mC2, mW2, mL3, mL3n, mC3, mW3, mL4, mL4n, mC4, mW4, mL5, mL5n, mC5, mW5, mL6, mL6n, mC6, mW6, mL7, mL7n, mC7, mW7, mL8, mL8n, mC8, mW8, mL9, mL9n, mC9, mW9, mL10, mL10n, mC10, mW10, mL11, mL11n, mC11, mW11, mL12, mL12n, mC12, mW12, mL13, mL13n, mC13, mW13, mL14, mL14n, mC14, mW14, mL15, mL15n, mC15, mW15, mL16, mL16n, mC16, mW16, mL17, mL17n, mC17, mW17, mL18, mL18n, mC18, mW18, mL19, mL19n, mC19, mW19, mL20, mL20n, mC20, mW20, mL21, mL21n, mC21, mW21, mL23, mL23n, mC23, mW23, mL24, mL24n, mC24, mW24, mL25, mL25n, mC25, mW25, mL26, mL26n, mC26, mW26, mL27, mL27n, mC27, mW27, mL28, mL28n, mC28, mW28, mL29, mL29n, mC29, mW29, mL30, mL30n, mC30, mW30, mL31, mL31n, mC31, mW31, mL32, mL32n, mC32, mW32, mL33, mL33n, mC33, mW33, mL34, mL34n, mC34, mW34, mL22, mC22, mW22, hlo, sAg_p]
    exact mag_3 hF1 hk hg rfl i2 i3
  · unfold fst' agB
    simp only [if_pos hb]
    rw [bt_c (by omega) (by omega)]
    have hbb : decide (b < F.1 0) = true := by simpa using hb
    rw [hbb, Bool.true_and]
    by_cases e : bt (fx F 25 (agL L (agA cl F so hr L A) (F.1 0))) b = true
    · simp [e]
    · have e' : bt (fx F 25 (agL L (agA cl F so hr L A) (F.1 0))) b = false := by simpa using e
      have hnl : bt L b = false := by
        cases q : bt L b with
        | false => rfl
        | true =>
          have := fx_sub 25 (agL L (agA cl F so hr L A) (F.1 0)) (F := F) b (by omega) (by rw [agL_bt _ (by omega) b (by omega), q]; rfl)
          rw [this] at e'; exact absurd e' (by decide)
      rw [e']
      simp only [Bool.not_false, if_true, Bool.false_eq_true, if_false]
      rw [hN b hb, hnl]
      unfold agZ agA
      simp [hb, hnl]
end
