/-! QUERIES 6: twice -/
set_option maxRecDepth 100000
/-- the lowest of a set, from i on -/
def lwf (s : Int32) : Nat → Nat → Nat
  | i, 0 => i
  | i, n + 1 => if bt s i = true then i else lwf s (i + 1) n
theorem lwf_ok {s : Int32} {k : Nat} (h1 : bt s k = true) (h2 : ∀ i, i < k → bt s i = false) : ∀ n i, i ≤ k → k ≤ i + n → lwf s i n = k := by
  intro n
  induction n with
  | zero => intro i hi hk; rw [lwf]; omega
  | succ n ih =>
    intro i hi hk
    rw [lwf]
    by_cases e : i = k
    · subst e; rw [if_pos h1]
    · rw [if_neg (by rw [h2 i (by omega)]; decide)]
      exact ih (i + 1) (by omega) (by omega)
/-- without bit k -/
def wo (s : Int32) (k : Nat) : Int32 := s &&& ((1 : Int32) <<< (nI k &&& 31) ^^^ (-1))
theorem bt_wo {s : Int32} {k i : Nat} (hk : k < 32) (hi : i < 32) : bt (wo s k) i = (bt s i && !decide (i = k)) := by
  rw [wo, b_and, b_xor, b_m1 i hi, bt_1 hk hi]; simp
theorem wo_in {n k : Nat} {s : Int32} (hs : inS n s) : inS n (wo s k) := rest_in hs
theorem wo_ct {n k : Nat} {s : Int32} (hn : n ≤ 32) (hk : k < n) (h : bt s k = true) : fb_ct (bt (wo s k)) n < fb_ct (bt s) n := rest_lt hn hk h (by rw [bt_1 (by omega) (by omega)]; simp)
theorem wo_ct' {n k : Nat} {s : Int32} (hn : n ≤ 32) : fb_ct (bt (wo s k)) n ≤ fb_ct (bt s) n := ct_sub hn (fun i hi q => by rw [wo, b_and] at q; simp at q; exact q.1)
/-- pairing: the step over partners from q on, with the way to pair the rest -/
def pq (D : Nat → Nat → Int32) (f : Int32 → Int32) (p : Nat) (rest best : Int32) : Nat → Nat → Int32
  | _, 0 => best
  | q, n + 1 => pq D f p rest (if bt rest q = true then mn best (D p q + f (wo rest q)) else best) (q + 1) n
def pr (D : Nat → Nat → Int32) (N : Nat) : Nat → Int32 → Nat → Int32
  | 0, _, _ => 0
  | k + 1, s, sp => if s = 0 then 0 else pq D (fun r => pr D N k r sp) (lwf s 0 32) (wo s (lwf s 0 32)) (if 0 < sp then pr D N k (wo s (lwf s 0 32)) (sp - 1) else 1000000) (lwf s 0 32 + 1) (N - (lwf s 0 32 + 1))
section
variable {d m x N : Nat} {h : pH} {S : MS} {X : XS} {D : Nat → Nat → Int32} {on : Nat → Nat}
theorem kX3_pairing (hN : N ≤ 24) (ho : ∀ k, k < N → S.2.1 27 k = nI (on k) ∧ on k < 30) (hD : ∀ p q, p < N → q < N → S.2.1 24 (60 * on p + on q) = D p q) : ∀ n s sp, sp < 3 → inS N s → fb_ct (bt s) N ≤ n → pCa 154 (d + n) [.ref m, .int s, .int (nI N), .int (nI sp)] (mput h m S) = some (.inl (some (.int (pr D N n s sp))), mput h m S) := by
  intro n
  induction n with
  | zero =>
    intro s sp hsp hs hc
    have h0 : s = 0 := by
      apply b_ext
      intro i hi
      rw [b_0]
      rcases Nat.lt_or_ge i N with q | q
      · exact (fb_ct_zero.mp (show fb_ct (bt s) N = 0 by omega)) i q
      · exact hs i hi q
    rw [eX3_pairing]
    simp (disch := first | omega | decide) only [pis_i, pis_l, pis_r, pis_n, p1_i, p1_r, p1_n, p1_u, pw0, pw1, pw2, pw3, pw4, pK_v, pK_0, pK_ite, if_true, if_false, if_pos, if_neg, Nat.reduceAdd, pok_r, i10, i01, Bool.true_or, Bool.or_true, Bool.and_true, Bool.true_and, rX3_pairing_0, rX3_pairing_1, rX3_pairing_4, rX3_pairing_5, h0, pr]
  | succ n ih =>
    intro s sp hsp hs hc
    rw [eX3_pairing, pr]
    by_cases h0 : s = 0
    · simp (disch := first | omega | decide) only [pis_i, pis_l, pis_r, pis_n, p1_i, p1_r, p1_n, p1_u, pw0, pw1, pw2, pw3, pw4, pK_v, pK_0, pK_ite, if_true, if_false, if_pos, if_neg, Nat.reduceAdd, pok_r, i10, i01, Bool.true_or, Bool.or_true, Bool.and_true, Bool.true_and, rX3_pairing_0, rX3_pairing_1, rX3_pairing_4, rX3_pairing_5, h0]
    · obtain ⟨w, w1, w2, w3, w4, w5⟩ := low_in hs h0
      rw [if_neg h0, lwf_ok w3 w4 32 0 (by omega) (by omega)]
      have hct := wo_ct (show N ≤ 32 by omega) w1 w3
      have ih1 : ∀ sp, sp < 3 → pCa 154 (d + n) [.ref m, .int (wo s w), .int (nI N), .int (nI sp)] (mput h m S) = some (.inl (some (.int (pr D N n (wo s w) sp))), mput h m S) := fun sp hsp => ih (wo s w) sp hsp (wo_in hs) (by omega)
      have e0 : s &&& ((1 : Int32) <<< (nI w &&& 31) ^^^ (-1)) = wo s w := rfl
      have main : ∀ best, pR 154 (d + n + 1) 50 [.ref m, .int s, .int (nI N), .int (nI sp), .int (nI w), .int (wo s w), .int best, .int (nI (w + 1))] [] (mput h m S) = some (.inl (some (.int (pq D (fun r => pr D N n r sp) w (wo s w) best (w + 1) (N - (w + 1))))), mput h m S) := by
        have go : ∀ k q best, q + k = N → pR 154 (d + n + 1) 50 [.ref m, .int s, .int (nI N), .int (nI sp), .int (nI w), .int (wo s w), .int best, .int (nI q)] [] (mput h m S) = some (.inl (some (.int (pq D (fun r => pr D N n r sp) w (wo s w) best q k))), mput h m S) := by
          intro k
          induction k with
          | zero =>
            intro q best hq
            rw [rX3_pairing_50]
            simp (disch := first | omega | decide) only [pis_i, pis_l, pis_r, pis_n, p1_i, p1_r, p1_n, p1_u, pw0, pw1, pw2, pw3, pw4, pK_v, pK_0, pK_ite, if_true, if_false, if_pos, if_neg, Nat.reduceAdd, pok_r, i10, i01, Bool.true_or, Bool.or_true, Bool.and_true, Bool.true_and, Nat.add_sub_cancel, i1p1, i1p0, i0p1, i0p0, nIrem2, va_rf_s, bit1, bit0, pinT, pinLT, pin0, nIc, nIcL, nIlt, nIeq, nIltL, nILlt, nIeqL, nILeq, nIadL, nILad, nILmu, nI_add, nIsbL, nI_sub', decide_true, decide_false, Bool.false_or, Bool.or_false, rX3_pairing_52, rX3_pairing_53, rX3_pairing_119, rX3_pairing_121, pq]
          | succ k ihk =>
            intro q best hq
            have hoq := ho q (by omega)
            have how := ho w w1
            have hDq := hD w q w1 (by omega)
            have i2 := ih (wo (wo s w) q) sp hsp (wo_in (wo_in hs)) (by have := wo_ct' (n := N) (k := q) (s := wo s w) (by omega); omega)
            have e1 : wo s w &&& ((1 : Int32) <<< (nI q &&& 31) ^^^ (-1)) = wo (wo s w) q := rfl
            rw [rX3_pairing_50, pq]
            by_cases c : bt (wo s w) q = true
            · rw [if_pos c]
              simp (disch := first | omega | decide) only [pis_i, pis_l, pis_r, pis_n, p1_i, p1_r, p1_n, p1_u, pw0, pw1, pw2, pw3, pw4, pK_v, pK_0, pK_ite, if_true, if_false, if_pos, if_neg, Nat.reduceAdd, pok_r, i10, i01, Bool.true_or, Bool.or_true, Bool.and_true, Bool.true_and, Nat.add_sub_cancel, i1p1, i1p0, i0p1, i0p0, nIrem2, va_rf_s, bit1, bit0, pinT, pinLT, pin0, nIc, nIcL, nIlt, nIeq, nIltL, nILlt, nIeqL, nILeq, nIadL, nILad, nILmu, nI_add, nIsbL, nI_sub', decide_true, decide_false, Bool.false_or, Bool.or_false, rX3_pairing_52, rX3_pairing_53, rX3_pairing_56, rX3_pairing_58, rX3_pairing_60, rX3_pairing_61, rX3_pairing_62, rX3_pairing_63, rX3_pairing_64, rX3_pairing_67, rX3_pairing_69, rX3_pairing_70, rX3_pairing_73, rX3_pairing_75, rX3_pairing_76, rX3_pairing_79, rX3_pairing_81, rX3_pairing_82, rX3_pairing_83, rX3_pairing_84, rX3_pairing_87, rX3_pairing_89, rX3_pairing_90, rX3_pairing_91, rX3_pairing_92, rX3_pairing_93, rX3_pairing_95, rX3_pairing_96, rX3_pairing_98, rX3_pairing_99, rX3_pairing_100, rX3_pairing_101, rX3_pairing_102, rX3_pairing_103, rX3_pairing_104, rX3_pairing_107, rX3_pairing_108, rX3_pairing_111, rX3_pairing_113, rX3_pairing_116, mCl, mF0, mP0, mF1, mF2, mF3, mF4, mF5, mP5, mF6, mF7, mP7, mF8, mP8, mF9, mP9, mF10, mP10, mF11, mF12, mF13, mF14, mF15, mF16, mF17, mF18, mF19, mF20, mP20, mF21, mF22, mF23, mP23, mF24, mP24, mF25, mP25, mF26, mF27, mF28, mF29, mF30, mF31, mP31, mF32, mP32, mF33, mP33, mF34, mF35, mF36, mF37, mF38, mF39, mF40, mF41, mF42, mF43, mF44, mF45, mP45, mF46, mP46, mF47, mP47, mF48, mP48, mF49, mF50, mF51, mP51, mL1, mL1n, mC1, mW1, mL2, mL2n, mC2, mW2, mL3, mL3n, mC3, mW3, mL4, mL4n, mC4, mW4, mL5, mL5n, mC5, mW5, mL6, mL6n, mC6, mW6, mL7, mL7n, mC7, mW7, mL8, mL8n, mC8, mW8, mL9, mL9n, mC9, mW9, mL10, mL10n, mC10, mW10, mL11, mL11n, mC11, mW11, mL12, mL12n, mC12, mW12, mL13, mL13n, mC13, mW13, mL14, mL14n, mC14, mW14, mL15, mL15n, mC15, mW15, mL16, mL16n, mC16, mW16, mL17, mL17n, mC17, mW17, mL18, mL18n, mC18, mW18, mL19, mL19n, mC19, mW19, mL20, mL20n, mC20, mW20, mL21, mL21n, mC21, mW21, mL23, mL23n, mC23, mW23, mL24, mL24n, mC24, mW24, mL25, mL25n, mC25, mW25, mL26, mL26n, mC26, mW26, mL27, mL27n, mC27, mW27, mL28, mL28n, mC28, mW28, mL29, mL29n, mC29, mW29, mL30, mL30n, mC30, mW30, mL31, mL31n, mC31, mW31, mL32, mL32n, mC32, mW32, mL33, mL33n, mC33, mW33, mL34, mL34n, mC34, mW34, mL22, mC22, mW22, c, hoq.1, how.1, hDq, e1, i2, mn_u]
              exact ihk (q + 1) _ (by omega)
            · rw [if_neg c]
              have c' : bt (wo s w) q = false := by simpa using c
              simp (disch := first | omega | decide) only [pis_i, pis_l, pis_r, pis_n, p1_i, p1_r, p1_n, p1_u, pw0, pw1, pw2, pw3, pw4, pK_v, pK_0, pK_ite, if_true, if_false, if_pos, if_neg, Nat.reduceAdd, pok_r, i10, i01, Bool.true_or, Bool.or_true, Bool.and_true, Bool.true_and, Nat.add_sub_cancel, i1p1, i1p0, i0p1, i0p0, nIrem2, va_rf_s, bit1, bit0, pinT, pinLT, pin0, nIc, nIcL, nIlt, nIeq, nIltL, nILlt, nIeqL, nILeq, nIadL, nILad, nILmu, nI_add, nIsbL, nI_sub', decide_true, decide_false, Bool.false_or, Bool.or_false, rX3_pairing_52, rX3_pairing_53, rX3_pairing_56, rX3_pairing_58, rX3_pairing_60, rX3_pairing_61, rX3_pairing_62, rX3_pairing_63, rX3_pairing_64, rX3_pairing_67, rX3_pairing_69, rX3_pairing_70, rX3_pairing_73, rX3_pairing_75, rX3_pairing_76, rX3_pairing_79, rX3_pairing_81, rX3_pairing_82, rX3_pairing_83, rX3_pairing_84, rX3_pairing_87, rX3_pairing_89, rX3_pairing_90, rX3_pairing_91, rX3_pairing_92, rX3_pairing_93, rX3_pairing_95, rX3_pairing_96, rX3_pairing_98, rX3_pairing_99, rX3_pairing_100, rX3_pairing_101, rX3_pairing_102, rX3_pairing_103, rX3_pairing_104, rX3_pairing_107, rX3_pairing_108, rX3_pairing_111, rX3_pairing_113, rX3_pairing_116, c', Bool.false_eq_true]
              exact ihk (q + 1) _ (by omega)
        intro best
        exact go _ _ _ (by omega)
      by_cases hs0 : 0 < sp
      · rw [if_pos hs0]
        have i3 := ih1 (sp - 1) (by omega)
        simp (disch := first | omega | decide) only [← Nat.add_assoc, pis_i, pis_l, pis_r, pis_n, p1_i, p1_r, p1_n, p1_u, pw0, pw1, pw2, pw3, pw4, pK_v, pK_0, pK_ite, if_true, if_false, if_pos, if_neg, Nat.reduceAdd, pok_r, i10, i01, Bool.true_or, Bool.or_true, Bool.and_true, Bool.true_and, Nat.add_sub_cancel, i1p1, i1p0, i0p1, i0p0, nIrem2, va_rf_s, bit1, bit0, pinT, pinLT, pin0, nIc, nIcL, nIlt, nIeq, nIltL, nILlt, nIeqL, nILeq, nIadL, nILad, nILmu, nI_add, nIsbL, nI_sub', decide_true, decide_false, Bool.false_or, Bool.or_false, rX3_pairing_0, rX3_pairing_1, rX3_pairing_4, rX3_pairing_5, rX3_pairing_6, rX3_pairing_7, rX3_pairing_10, rX3_pairing_12, rX3_pairing_13, rX3_pairing_14, rX3_pairing_16, rX3_pairing_17, rX3_pairing_18, rX3_pairing_19, rX3_pairing_20, rX3_pairing_22, rX3_pairing_23, rX3_pairing_26, rX3_pairing_27, rX3_pairing_29, rX3_pairing_30, rX3_pairing_31, rX3_pairing_32, rX3_pairing_33, rX3_pairing_36, rX3_pairing_39, rX3_pairing_42, rX3_pairing_44, rX3_pairing_46, rX3_pairing_47, rX3_pairing_48, mCl, mF0, mP0, mF1, mF2, mF3, mF4, mF5, mP5, mF6, mF7, mP7, mF8, mP8, mF9, mP9, mF10, mP10, mF11, mF12, mF13, mF14, mF15, mF16, mF17, mF18, mF19, mF20, mP20, mF21, mF22, mF23, mP23, mF24, mP24, mF25, mP25, mF26, mF27, mF28, mF29, mF30, mF31, mP31, mF32, mP32, mF33, mP33, mF34, mF35, mF36, mF37, mF38, mF39, mF40, mF41, mF42, mF43, mF44, mF45, mP45, mF46, mP46, mF47, mP47, mF48, mP48, mF49, mF50, mF51, mP51, mL1, mL1n, mC1, mW1, mL2, mL2n, mC2, mW2, mL3, mL3n, mC3, mW3, mL4, mL4n, mC4, mW4, mL5, mL5n, mC5, mW5, mL6, mL6n, mC6, mW6, mL7, mL7n, mC7, mW7, mL8, mL8n, mC8, mW8, mL9, mL9n, mC9, mW9, mL10, mL10n, mC10, mW10, mL11, mL11n, mC11, mW11, mL12, mL12n, mC12, mW12, mL13, mL13n, mC13, mW13, mL14, mL14n, mC14, mW14, mL15, mL15n, mC15, mW15, mL16, mL16n, mC16, mW16, mL17, mL17n, mC17, mW17, mL18, mL18n, mC18, mW18, mL19, mL19n, mC19, mW19, mL20, mL20n, mC20, mW20, mL21, mL21n, mC21, mW21, mL23, mL23n, mC23, mW23, mL24, mL24n, mC24, mW24, mL25, mL25n, mC25, mW25, mL26, mL26n, mC26, mW26, mL27, mL27n, mC27, mW27, mL28, mL28n, mC28, mW28, mL29, mL29n, mC29, mW29, mL30, mL30n, mC30, mW30, mL31, mL31n, mC31, mW31, mL32, mL32n, mC32, mW32, mL33, mL33n, mC33, mW33, mL34, mL34n, mC34, mW34, mL22, mC22, mW22, h0, kJ5_ntz (show w < 31 by omega) w3 w4, e0, i3]
        exact main _
      · rw [if_neg hs0]
        simp (disch := first | omega | decide) only [← Nat.add_assoc, pis_i, pis_l, pis_r, pis_n, p1_i, p1_r, p1_n, p1_u, pw0, pw1, pw2, pw3, pw4, pK_v, pK_0, pK_ite, if_true, if_false, if_pos, if_neg, Nat.reduceAdd, pok_r, i10, i01, Bool.true_or, Bool.or_true, Bool.and_true, Bool.true_and, Nat.add_sub_cancel, i1p1, i1p0, i0p1, i0p0, nIrem2, va_rf_s, bit1, bit0, pinT, pinLT, pin0, nIc, nIcL, nIlt, nIeq, nIltL, nILlt, nIeqL, nILeq, nIadL, nILad, nILmu, nI_add, nIsbL, nI_sub', decide_true, decide_false, Bool.false_or, Bool.or_false, rX3_pairing_0, rX3_pairing_1, rX3_pairing_4, rX3_pairing_5, rX3_pairing_6, rX3_pairing_7, rX3_pairing_10, rX3_pairing_12, rX3_pairing_13, rX3_pairing_14, rX3_pairing_16, rX3_pairing_17, rX3_pairing_18, rX3_pairing_19, rX3_pairing_20, rX3_pairing_22, rX3_pairing_23, rX3_pairing_26, rX3_pairing_27, rX3_pairing_29, rX3_pairing_30, rX3_pairing_31, rX3_pairing_32, rX3_pairing_33, rX3_pairing_36, rX3_pairing_39, rX3_pairing_42, rX3_pairing_44, rX3_pairing_46, rX3_pairing_47, rX3_pairing_48, mCl, mF0, mP0, mF1, mF2, mF3, mF4, mF5, mP5, mF6, mF7, mP7, mF8, mP8, mF9, mP9, mF10, mP10, mF11, mF12, mF13, mF14, mF15, mF16, mF17, mF18, mF19, mF20, mP20, mF21, mF22, mF23, mP23, mF24, mP24, mF25, mP25, mF26, mF27, mF28, mF29, mF30, mF31, mP31, mF32, mP32, mF33, mP33, mF34, mF35, mF36, mF37, mF38, mF39, mF40, mF41, mF42, mF43, mF44, mF45, mP45, mF46, mP46, mF47, mP47, mF48, mP48, mF49, mF50, mF51, mP51, mL1, mL1n, mC1, mW1, mL2, mL2n, mC2, mW2, mL3, mL3n, mC3, mW3, mL4, mL4n, mC4, mW4, mL5, mL5n, mC5, mW5, mL6, mL6n, mC6, mW6, mL7, mL7n, mC7, mW7, mL8, mL8n, mC8, mW8, mL9, mL9n, mC9, mW9, mL10, mL10n, mC10, mW10, mL11, mL11n, mC11, mW11, mL12, mL12n, mC12, mW12, mL13, mL13n, mC13, mW13, mL14, mL14n, mC14, mW14, mL15, mL15n, mC15, mW15, mL16, mL16n, mC16, mW16, mL17, mL17n, mC17, mW17, mL18, mL18n, mC18, mW18, mL19, mL19n, mC19, mW19, mL20, mL20n, mC20, mW20, mL21, mL21n, mC21, mW21, mL23, mL23n, mC23, mW23, mL24, mL24n, mC24, mW24, mL25, mL25n, mC25, mW25, mL26, mL26n, mC26, mW26, mL27, mL27n, mC27, mW27, mL28, mL28n, mC28, mW28, mL29, mL29n, mC29, mW29, mL30, mL30n, mC30, mW30, mL31, mL31n, mC31, mW31, mL32, mL32n, mC32, mW32, mL33, mL33n, mC33, mW33, mL34, mL34n, mC34, mW34, mL22, mC22, mW22, h0, kJ5_ntz (show w < 31 by omega) w3 w4, e0]
        exact main _
theorem cS_wo {n k : Nat} {s : Int32} (hn : n < 32) (hk : k < 32) : cS n (s ||| (1 : Int32) <<< (nI k &&& 31)) = wo (cS n s) k := by
  apply b_ext
  intro i hi
  rw [bt_c hn hi, b_or, bt_1 hk hi, bt_wo hk hi, bt_c hn hi]
  cases bt s i <;> cases decide (i < n) <;> cases decide (i = k) <;> rfl
theorem or1_in {n k : Nat} {s : Int32} (hs : inS n s) (hk : k < n) (hn : n ≤ 32) : inS n (s ||| (1 : Int32) <<< (nI k &&& 31)) := fun i hi hni => by
  rw [b_or, hs i hi hni, bt_1 (by omega) hi]; simp; omega
theorem kX1_paired (hN : N ≤ 24) (ho : ∀ k, k < N → X.2.1 8 k = nI (on k) ∧ on k < 30) (hD : ∀ p q, p < N → q < N → X.2.1 5 (32 * on p + on q) = D p q) : ∀ n s sp, sp < 3 → inS N s → fb_ct (bt (cS N s)) N ≤ n → pCa 45 (d + n + 1) [.ref x, .int (nI N), .int s, .int (nI sp)] (xput h x X) = some (.inl (some (.int (pr D N n (cS N s) sp))), xput h x X) := by
  intro n
  induction n with
  | zero =>
    intro s sp hsp hs hc
    have hz := fb_ct_zero.mp (show fb_ct (bt (cS N s)) N = 0 by omega)
    have hall : ∀ i, i < N → bt s i = true := by
      intro i hi
      have := hz i hi
      rw [bt_c (by omega) (by omega)] at this
      simpa [hi] using this
    rw [eX1_paired]
    simp (disch := first | omega | decide) only [pis_i, pis_l, pis_r, pis_n, p1_i, p1_r, p1_n, p1_u, pw0, pw1, pw2, pw3, pw4, pK_v, pK_0, pK_ite, if_true, if_false, if_pos, if_neg, Nat.reduceAdd, pok_r, i10, i01, Bool.true_or, Bool.or_true, Bool.and_true, Bool.true_and, rX1_paired_0, rX1_paired_1]
    refine loopN (N := N) (P := fun k => pR 45 (d + 0 + 1) 3 [.ref x, .int (nI N), .int s, .int (nI sp), .int (nI k), pU, pU] [] (xput h x X)) (fun k hk R hR => ?_) ?_ 0 (Nat.zero_le _)
    · rw [rX1_paired_3]
      simp (disch := first | omega | decide) only [pis_i, pis_l, pis_r, pis_n, p1_i, p1_r, p1_n, p1_u, pw0, pw1, pw2, pw3, pw4, pK_v, pK_0, pK_ite, if_true, if_false, if_pos, if_neg, Nat.reduceAdd, pok_r, i10, i01, Bool.true_or, Bool.or_true, Bool.and_true, Bool.true_and, Nat.add_sub_cancel, i1p1, i1p0, i0p1, i0p0, nIrem2, va_rf_s, bit1, bit0, pinT, pinLT, pin0, nIc, nIcL, nIlt, nIeq, nIltL, nILlt, nIeqL, nILeq, nIadL, nILad, nILmu, nI_add, nIsbL, nI_sub', decide_true, decide_false, Bool.false_or, Bool.or_false, rX1_paired_5, rX1_paired_6, rX1_paired_9, rX1_paired_10, rX1_paired_12, rX1_paired_13, rX1_paired_14, rX1_paired_15, rX1_paired_16, rX1_paired_19, rX1_paired_22, hall k hk]
      exact hR
    · rw [rX1_paired_3]
      simp (disch := first | omega | decide) only [pis_i, pis_l, pis_r, pis_n, p1_i, p1_r, p1_n, p1_u, pw0, pw1, pw2, pw3, pw4, pK_v, pK_0, pK_ite, if_true, if_false, if_pos, if_neg, Nat.reduceAdd, pok_r, i10, i01, Bool.true_or, Bool.or_true, Bool.and_true, Bool.true_and, Nat.add_sub_cancel, i1p1, i1p0, i0p1, i0p0, nIrem2, va_rf_s, bit1, bit0, pinT, pinLT, pin0, nIc, nIcL, nIlt, nIeq, nIltL, nILlt, nIeqL, nILeq, nIadL, nILad, nILmu, nI_add, nIsbL, nI_sub', decide_true, decide_false, Bool.false_or, Bool.or_false, rX1_paired_5, rX1_paired_6, rX1_paired_9, rX1_paired_10, rX1_paired_12, rX1_paired_13, rX1_paired_14, rX1_paired_15, rX1_paired_16, rX1_paired_19, rX1_paired_22, rX1_paired_25, rX1_paired_27, rX1_paired_28, rX1_paired_31, rX1_paired_32, pr]
  | succ n ih =>
    intro s sp hsp hs hc
    rw [eX1_paired, pr]
    simp (disch := first | omega | decide) only [← Nat.add_assoc, pis_i, pis_l, pis_r, pis_n, p1_i, p1_r, p1_n, p1_u, pw0, pw1, pw2, pw3, pw4, pK_v, pK_0, pK_ite, if_true, if_false, if_pos, if_neg, Nat.reduceAdd, pok_r, i10, i01, Bool.true_or, Bool.or_true, Bool.and_true, Bool.true_and, rX1_paired_0, rX1_paired_1]
    by_cases h0 : cS N s = 0
    · have hall : ∀ i, i < N → bt s i = true := by
        intro i hi
        have := congrArg (fun z => bt z i) h0
        simp only [bt_c (show N < 32 by omega) (show i < 32 by omega), b_0] at this
        simpa [hi] using this
      rw [if_pos h0]
      refine loopN (N := N) (P := fun k => pR 45 (d + n + 1 + 1) 3 [.ref x, .int (nI N), .int s, .int (nI sp), .int (nI k), pU, pU] [] (xput h x X)) (fun k hk R hR => ?_) ?_ 0 (Nat.zero_le _)
      · rw [rX1_paired_3]
        simp (disch := first | omega | decide) only [pis_i, pis_l, pis_r, pis_n, p1_i, p1_r, p1_n, p1_u, pw0, pw1, pw2, pw3, pw4, pK_v, pK_0, pK_ite, if_true, if_false, if_pos, if_neg, Nat.reduceAdd, pok_r, i10, i01, Bool.true_or, Bool.or_true, Bool.and_true, Bool.true_and, Nat.add_sub_cancel, i1p1, i1p0, i0p1, i0p0, nIrem2, va_rf_s, bit1, bit0, pinT, pinLT, pin0, nIc, nIcL, nIlt, nIeq, nIltL, nILlt, nIeqL, nILeq, nIadL, nILad, nILmu, nI_add, nIsbL, nI_sub', decide_true, decide_false, Bool.false_or, Bool.or_false, rX1_paired_5, rX1_paired_6, rX1_paired_9, rX1_paired_10, rX1_paired_12, rX1_paired_13, rX1_paired_14, rX1_paired_15, rX1_paired_16, rX1_paired_19, rX1_paired_22, hall k hk]
        exact hR
      · rw [rX1_paired_3]
        simp (disch := first | omega | decide) only [pis_i, pis_l, pis_r, pis_n, p1_i, p1_r, p1_n, p1_u, pw0, pw1, pw2, pw3, pw4, pK_v, pK_0, pK_ite, if_true, if_false, if_pos, if_neg, Nat.reduceAdd, pok_r, i10, i01, Bool.true_or, Bool.or_true, Bool.and_true, Bool.true_and, Nat.add_sub_cancel, i1p1, i1p0, i0p1, i0p0, nIrem2, va_rf_s, bit1, bit0, pinT, pinLT, pin0, nIc, nIcL, nIlt, nIeq, nIltL, nILlt, nIeqL, nILeq, nIadL, nILad, nILmu, nI_add, nIsbL, nI_sub', decide_true, decide_false, Bool.false_or, Bool.or_false, rX1_paired_5, rX1_paired_6, rX1_paired_9, rX1_paired_10, rX1_paired_12, rX1_paired_13, rX1_paired_14, rX1_paired_15, rX1_paired_16, rX1_paired_19, rX1_paired_22, rX1_paired_25, rX1_paired_27, rX1_paired_28, rX1_paired_31, rX1_paired_32]
    · obtain ⟨w, w1, w2, w3, w4, w5⟩ := low_in (cS_in (s := s) (show N < 32 by omega)) h0
      have hw : bt s w = false := by rw [bt_c (by omega) w2] at w3; simpa [w1] using w3
      have hlo : ∀ i, i < w → bt s i = true := by
        intro i hi
        have := w4 i hi
        rw [bt_c (by omega) (by omega)] at this
        simpa [show i < N by omega] using this
      rw [if_neg h0, lwf_ok w3 w4 32 0 (by omega) (by omega)]
      have hct := wo_ct (show N ≤ 32 by omega) w1 w3
      have e0 := cS_wo (s := s) (show N < 32 by omega) w2
      have ih1 : ∀ sp, sp < 3 → pCa 45 (d + n + 1) [.ref x, .int (nI N), .int (s ||| (1 : Int32) <<< (nI w &&& 31)), .int (nI sp)] (xput h x X) = some (.inl (some (.int (pr D N n (wo (cS N s) w) sp))), xput h x X) := fun sp hsp => by
        have := ih (s ||| (1 : Int32) <<< (nI w &&& 31)) sp hsp (or1_in hs w1 (by omega)) (by rw [e0]; omega)
        rw [e0] at this
        exact this
      have main : ∀ best, pR 45 (d + n + 1 + 1) 65 [.ref x, .int (nI N), .int s, .int (nI sp), .int (nI w), .int best, .int (nI (w + 1))] [] (xput h x X) = some (.inl (some (.int (pq D (fun r => pr D N n r sp) w (wo (cS N s) w) best (w + 1) (N - (w + 1))))), xput h x X) := by
        have go : ∀ k q best, w < q → q + k = N → pR 45 (d + n + 1 + 1) 65 [.ref x, .int (nI N), .int s, .int (nI sp), .int (nI w), .int best, .int (nI q)] [] (xput h x X) = some (.inl (some (.int (pq D (fun r => pr D N n r sp) w (wo (cS N s) w) best q k))), xput h x X) := by
          intro k
          induction k with
          | zero =>
            intro q best _ hq
            rw [rX1_paired_65]
            simp (disch := first | omega | decide) only [pis_i, pis_l, pis_r, pis_n, p1_i, p1_r, p1_n, p1_u, pw0, pw1, pw2, pw3, pw4, pK_v, pK_0, pK_ite, if_true, if_false, if_pos, if_neg, Nat.reduceAdd, pok_r, i10, i01, Bool.true_or, Bool.or_true, Bool.and_true, Bool.true_and, Nat.add_sub_cancel, i1p1, i1p0, i0p1, i0p0, nIrem2, va_rf_s, bit1, bit0, pinT, pinLT, pin0, nIc, nIcL, nIlt, nIeq, nIltL, nILlt, nIeqL, nILeq, nIadL, nILad, nILmu, nI_add, nIsbL, nI_sub', decide_true, decide_false, Bool.false_or, Bool.or_false, rX1_paired_67, rX1_paired_68, rX1_paired_134, rX1_paired_136, pq]
          | succ k ihk =>
            intro q best hwq hq
            have hoq := ho q (by omega)
            have how := ho w w1
            have hDq := hD w q w1 (by omega)
            have e1 := cS_wo (s := s ||| (1 : Int32) <<< (nI w &&& 31)) (show N < 32 by omega) (show q < 32 by omega)
            rw [e0] at e1
            have i2 := ih (s ||| (1 : Int32) <<< (nI w &&& 31) ||| (1 : Int32) <<< (nI q &&& 31)) sp hsp (or1_in (or1_in hs w1 (by omega)) (by omega) (by omega)) (by rw [e1]; have := wo_ct' (n := N) (k := q) (s := wo (cS N s) w) (by omega); omega)
            rw [e1] at i2
            have hbq : bt (wo (cS N s) w) q = !bt s q := by
              rw [bt_wo w2 (by omega), bt_c (by omega) (by omega)]
              simp [show q < N by omega, show ¬ q = w by omega]
            rw [rX1_paired_65, pq, hbq]
            cases c : bt s q
            · simp (disch := first | omega | decide) only [pis_i, pis_l, pis_r, pis_n, p1_i, p1_r, p1_n, p1_u, pw0, pw1, pw2, pw3, pw4, pK_v, pK_0, pK_ite, if_true, if_false, if_pos, if_neg, Nat.reduceAdd, pok_r, i10, i01, Bool.true_or, Bool.or_true, Bool.and_true, Bool.true_and, Nat.add_sub_cancel, i1p1, i1p0, i0p1, i0p0, nIrem2, va_rf_s, bit1, bit0, pinT, pinLT, pin0, nIc, nIcL, nIlt, nIeq, nIltL, nILlt, nIeqL, nILeq, nIadL, nILad, nILmu, nI_add, nIsbL, nI_sub', decide_true, decide_false, Bool.false_or, Bool.or_false, rX1_paired_67, rX1_paired_68, rX1_paired_71, rX1_paired_72, rX1_paired_74, rX1_paired_75, rX1_paired_76, rX1_paired_77, rX1_paired_80, rX1_paired_82, rX1_paired_83, rX1_paired_86, rX1_paired_88, rX1_paired_89, rX1_paired_92, rX1_paired_94, rX1_paired_95, rX1_paired_96, rX1_paired_97, rX1_paired_100, rX1_paired_102, rX1_paired_103, rX1_paired_104, rX1_paired_105, rX1_paired_106, rX1_paired_107, rX1_paired_108, rX1_paired_109, rX1_paired_111, rX1_paired_112, rX1_paired_113, rX1_paired_114, rX1_paired_116, rX1_paired_117, rX1_paired_118, rX1_paired_119, rX1_paired_122, rX1_paired_123, rX1_paired_126, rX1_paired_128, rX1_paired_131, xCl, xF0, xF1, xP1, xF2, xF3, xP3, xF4, xF5, xP5, xF6, xF7, xF8, xF9, xF10, xF11, xF12, xP12, xF13, xP13, xF14, xP14, xF15, xP15, xF16, xP16, xF17, xP17, xF18, xF19, xF20, xP20, xF21, xF22, xP22, xL2, xL2n, xC2, xW2, xL4, xL4n, xC4, xW4, xL5, xL5n, xC5, xW5, xL6, xL6n, xC6, xW6, xL7, xL7n, xC7, xW7, xL8, xL8n, xC8, xW8, xL12, xL12n, xC12, xW12, xL13, xL13n, xC13, xW13, xL1, xK1, xC1, xW1, xL3, xK3, xC3, xW3, xL9, xK9, xC9, xW9, xL10, xK10, xC10, xW10, xLf, xLc, c, hoq.1, how.1, hDq, i2, mn_u, Bool.not_false]
              exact ihk (q + 1) _ (by omega) (by omega)
            · simp (disch := first | omega | decide) only [pis_i, pis_l, pis_r, pis_n, p1_i, p1_r, p1_n, p1_u, pw0, pw1, pw2, pw3, pw4, pK_v, pK_0, pK_ite, if_true, if_false, if_pos, if_neg, Nat.reduceAdd, pok_r, i10, i01, Bool.true_or, Bool.or_true, Bool.and_true, Bool.true_and, Nat.add_sub_cancel, i1p1, i1p0, i0p1, i0p0, nIrem2, va_rf_s, bit1, bit0, pinT, pinLT, pin0, nIc, nIcL, nIlt, nIeq, nIltL, nILlt, nIeqL, nILeq, nIadL, nILad, nILmu, nI_add, nIsbL, nI_sub', decide_true, decide_false, Bool.false_or, Bool.or_false, rX1_paired_67, rX1_paired_68, rX1_paired_71, rX1_paired_72, rX1_paired_74, rX1_paired_75, rX1_paired_76, rX1_paired_77, rX1_paired_80, rX1_paired_82, rX1_paired_83, rX1_paired_86, rX1_paired_88, rX1_paired_89, rX1_paired_92, rX1_paired_94, rX1_paired_95, rX1_paired_96, rX1_paired_97, rX1_paired_100, rX1_paired_102, rX1_paired_103, rX1_paired_104, rX1_paired_105, rX1_paired_106, rX1_paired_107, rX1_paired_108, rX1_paired_109, rX1_paired_111, rX1_paired_112, rX1_paired_113, rX1_paired_114, rX1_paired_116, rX1_paired_117, rX1_paired_118, rX1_paired_119, rX1_paired_122, rX1_paired_123, rX1_paired_126, rX1_paired_128, rX1_paired_131, c, Bool.true_eq_false, Bool.not_true, Bool.false_eq_true]
              exact ihk (q + 1) _ (by omega) (by omega)
        intro best
        exact go _ _ _ (by omega) (by omega)
      refine loopN (N := w) (P := fun k => pR 45 (d + n + 1 + 1) 3 [.ref x, .int (nI N), .int s, .int (nI sp), .int (nI k), pU, pU] [] (xput h x X)) (fun k hk R hR => ?_) ?_ 0 (Nat.zero_le _)
      · rw [rX1_paired_3]
        simp (disch := first | omega | decide) only [pis_i, pis_l, pis_r, pis_n, p1_i, p1_r, p1_n, p1_u, pw0, pw1, pw2, pw3, pw4, pK_v, pK_0, pK_ite, if_true, if_false, if_pos, if_neg, Nat.reduceAdd, pok_r, i10, i01, Bool.true_or, Bool.or_true, Bool.and_true, Bool.true_and, Nat.add_sub_cancel, i1p1, i1p0, i0p1, i0p0, nIrem2, va_rf_s, bit1, bit0, pinT, pinLT, pin0, nIc, nIcL, nIlt, nIeq, nIltL, nILlt, nIeqL, nILeq, nIadL, nILad, nILmu, nI_add, nIsbL, nI_sub', decide_true, decide_false, Bool.false_or, Bool.or_false, rX1_paired_5, rX1_paired_6, rX1_paired_9, rX1_paired_10, rX1_paired_12, rX1_paired_13, rX1_paired_14, rX1_paired_15, rX1_paired_16, rX1_paired_19, rX1_paired_22, hlo k hk]
        exact hR
      · rw [rX1_paired_3]
        by_cases hs0 : 0 < sp
        · rw [if_pos hs0]
          have i3 := ih1 (sp - 1) (by omega)
          simp (disch := first | omega | decide) only [pis_i, pis_l, pis_r, pis_n, p1_i, p1_r, p1_n, p1_u, pw0, pw1, pw2, pw3, pw4, pK_v, pK_0, pK_ite, if_true, if_false, if_pos, if_neg, Nat.reduceAdd, pok_r, i10, i01, Bool.true_or, Bool.or_true, Bool.and_true, Bool.true_and, Nat.add_sub_cancel, i1p1, i1p0, i0p1, i0p0, nIrem2, va_rf_s, bit1, bit0, pinT, pinLT, pin0, nIc, nIcL, nIlt, nIeq, nIltL, nILlt, nIeqL, nILeq, nIadL, nILad, nILmu, nI_add, nIsbL, nI_sub', decide_true, decide_false, Bool.false_or, Bool.or_false, rX1_paired_5, rX1_paired_6, rX1_paired_9, rX1_paired_10, rX1_paired_12, rX1_paired_13, rX1_paired_14, rX1_paired_15, rX1_paired_16, rX1_paired_19, rX1_paired_22, rX1_paired_25, rX1_paired_27, rX1_paired_28, rX1_paired_31, rX1_paired_32, rX1_paired_33, rX1_paired_34, rX1_paired_37, rX1_paired_38, rX1_paired_39, rX1_paired_40, rX1_paired_41, rX1_paired_43, rX1_paired_44, rX1_paired_45, rX1_paired_46, rX1_paired_47, rX1_paired_48, rX1_paired_51, rX1_paired_54, rX1_paired_57, rX1_paired_59, rX1_paired_61, rX1_paired_62, rX1_paired_63, xCl, xF0, xF1, xP1, xF2, xF3, xP3, xF4, xF5, xP5, xF6, xF7, xF8, xF9, xF10, xF11, xF12, xP12, xF13, xP13, xF14, xP14, xF15, xP15, xF16, xP16, xF17, xP17, xF18, xF19, xF20, xP20, xF21, xF22, xP22, xL2, xL2n, xC2, xW2, xL4, xL4n, xC4, xW4, xL5, xL5n, xC5, xW5, xL6, xL6n, xC6, xW6, xL7, xL7n, xC7, xW7, xL8, xL8n, xC8, xW8, xL12, xL12n, xC12, xW12, xL13, xL13n, xC13, xW13, xL1, xK1, xC1, xW1, xL3, xK3, xC3, xW3, xL9, xK9, xC9, xW9, xL10, xK10, xC10, xW10, xLf, xLc, hw, Bool.false_eq_true, i3]
          exact main _
        · rw [if_neg hs0]
          simp (disch := first | omega | decide) only [pis_i, pis_l, pis_r, pis_n, p1_i, p1_r, p1_n, p1_u, pw0, pw1, pw2, pw3, pw4, pK_v, pK_0, pK_ite, if_true, if_false, if_pos, if_neg, Nat.reduceAdd, pok_r, i10, i01, Bool.true_or, Bool.or_true, Bool.and_true, Bool.true_and, Nat.add_sub_cancel, i1p1, i1p0, i0p1, i0p0, nIrem2, va_rf_s, bit1, bit0, pinT, pinLT, pin0, nIc, nIcL, nIlt, nIeq, nIltL, nILlt, nIeqL, nILeq, nIadL, nILad, nILmu, nI_add, nIsbL, nI_sub', decide_true, decide_false, Bool.false_or, Bool.or_false, rX1_paired_5, rX1_paired_6, rX1_paired_9, rX1_paired_10, rX1_paired_12, rX1_paired_13, rX1_paired_14, rX1_paired_15, rX1_paired_16, rX1_paired_19, rX1_paired_22, rX1_paired_25, rX1_paired_27, rX1_paired_28, rX1_paired_31, rX1_paired_32, rX1_paired_33, rX1_paired_34, rX1_paired_37, rX1_paired_38, rX1_paired_39, rX1_paired_40, rX1_paired_41, rX1_paired_43, rX1_paired_44, rX1_paired_45, rX1_paired_46, rX1_paired_47, rX1_paired_48, rX1_paired_51, rX1_paired_54, rX1_paired_57, rX1_paired_59, rX1_paired_61, rX1_paired_62, rX1_paired_63, xCl, xF0, xF1, xP1, xF2, xF3, xP3, xF4, xF5, xP5, xF6, xF7, xF8, xF9, xF10, xF11, xF12, xP12, xF13, xP13, xF14, xP14, xF15, xP15, xF16, xP16, xF17, xP17, xF18, xF19, xF20, xP20, xF21, xF22, xP22, xL2, xL2n, xC2, xW2, xL4, xL4n, xC4, xW4, xL5, xL5n, xC5, xW5, xL6, xL6n, xC6, xW6, xL7, xL7n, xC7, xW7, xL8, xL8n, xC8, xW8, xL12, xL12n, xC12, xW12, xL13, xL13n, xC13, xW13, xL1, xK1, xC1, xW1, xL3, xK3, xC3, xW3, xL9, xK9, xC9, xW9, xL10, xK10, xC10, xW10, xLf, xLc, hw, Bool.false_eq_true]
          exact main _
end
