/-! ALIKE 3: the component's search -/
set_option maxRecDepth 100000
theorem btw_le {F : Fig} (hk : FigOk F) {p q : Nat} {l : Int32} : btw F p q l ≤ 24 := Nat.le_trans (fb_ct_le _ _) hk.1
section
variable {d x f g : Nat} {h : pH} {X : XS} {F G : Fig} {n p q : Nat} {a : Nat → Nat} {A : Nat → Int32}
def xI (X : XS) (A : Nat → Int32) : XS := (X.1, us X.2.1 4 A, X.2.2)
theorem xI_4 : (xI X A).2.1 4 = A := by simp only [xI, us_same]
theorem xI_1 : (xI X A).1 = X.1 := rfl
theorem xI_3 : (xI X A).2.2.1 = X.2.2.1 := rfl
theorem xI_u {i : Nat} {v : Int32} : ((xI X A).1, ua (xI X A).2.1 4 i v, (xI X A).2.2) = xI X (upd A i v) := by
  show (X.1, ua (us X.2.1 4 A) 4 i v, X.2.2) = (X.1, us X.2.1 4 (upd A i v), X.2.2)
  rw [us_ua]
theorem xI_u' {i : Nat} {v : Int32} : (X.1, ua (xI X A).2.1 4 i v, (xI X A).2.2) = xI X (upd A i v) := xI_u
theorem kX1_fits (hF : FigAt h f F) (hf : x + 14 ≤ f) (hk : FigOk F) (hG : FigAt h g G) (hg : x + 14 ≤ g) (hkG : FigOk G) (hp : p < 8) (hq : q < 8) (ha : ∀ j, j < p → a j < 8) (hA : ∀ j, j < p → A j = nI (a j)) :
    pCa 32 (d + 1) [.ref x, .ref f, .ref g, .int (nI p), .int (nI q)] (xput h x (xI X A)) = if (∀ k, k < F.1 0 → ∀ o, o < p + 1 → btw F o p (F.2.2 k) = btw G (un a p q o) (un a p q p) (F.2.2 k)) then some (.inl (some (.int 1)), xput h x (xI X (upd A p (nI q)))) else some (.inl (some (.int 0)), xput h x (xI X (upd A p (nI q)))) := by
  have hF' := hF.put (X := xI X (upd A p (nI q))) hf
  have hG' := hG.put (X := xI X (upd A p (nI q))) hg
  obtain ⟨x0, xf, xt, xl, xw, xs, xe, xb, xa, xp, xh⟩ := hF'.o
  obtain ⟨y0, -⟩ := hG'.o
  obtain ⟨⟨l1, c1⟩, ⟨l2, c2⟩, ⟨l3, c3⟩, ⟨l4, c4⟩, ⟨l5, c5⟩, ⟨l6, c6⟩⟩ := hF'.a
  have k1 := hk.1
  have hA2 : ∀ o, o < p + 1 → upd A p (nI q) o = nI (un a p q o) ∧ un a p q o < 8 := by
    intro o ho
    by_cases e : o = p
    · subst e; exact ⟨by simp [upd, un], by simp [un]; exact hq⟩
    · exact ⟨by simp [upd, un, e, hA o (by omega)], by simp [un, e]; exact ha o (by omega)⟩
  rw [eX1_fits]
  simp (disch := first | omega | decide) only [pis_i, pis_l, pis_r, pis_n, p1_i, p1_r, p1_n, p1_u, pw0, pw1, pw2, pw3, pw4, pK_v, pK_0, pK_ite, if_true, if_false, if_pos, if_neg, Nat.reduceAdd, pok_r, i10, i01, Bool.true_or, Bool.or_true, Bool.and_true, Bool.true_and, Nat.add_sub_cancel, i1p1, i1p0, i0p1, i0p0, nIrem2, va_rf_s, bit1, bit0, pinT, pinLT, pin0, nIc, nIcL, nIlt, nIeq, nIltL, nILlt, nIeqL, nILeq, nIadL, nILad, nILmu, nI_add, nIsbL, nI_sub', decide_true, decide_false, Bool.false_or, Bool.or_false, rX1_fits_0, rX1_fits_1, rX1_fits_4, rX1_fits_5, rX1_fits_7, rX1_fits_8, rX1_fits_9, xCl, xF0, xF1, xP1, xF2, xF3, xP3, xF4, xF5, xP5, xF6, xF7, xF8, xF9, xF10, xF11, xF12, xP12, xF13, xP13, xF14, xP14, xF15, xP15, xF16, xP16, xF17, xP17, xF18, xF19, xF20, xP20, xF21, xF22, xP22, xL2, xL2n, xC2, xW2, xL4, xL4n, xC4, xW4, xL5, xL5n, xC5, xW5, xL6, xL6n, xC6, xW6, xL7, xL7n, xC7, xW7, xL8, xL8n, xC8, xW8, xL12, xL12n, xC12, xW12, xL13, xL13n, xC13, xW13, xL1, xK1, xC1, xW1, xL3, xK3, xC3, xW3, xL9, xK9, xC9, xW9, xL10, xK10, xC10, xW10, xLf, xLc, xI_u, xI_u', xI_1]
  have main := loopP (N := F.1 0) (P := fun k => (∀ k', k' < k → ∀ o, o < p + 1 → btw F o p (F.2.2 k') = btw G (un a p q o) (un a p q p) (F.2.2 k')) → ∀ q6, p1 q6 = true → pR 32 (d + 1) 11 [.ref x, .ref f, .ref g, .int (nI p), .int (nI q), .int (nI k), q6] [] (xput h x (xI X (upd A p (nI q)))) = if (∀ k, k < F.1 0 → ∀ o, o < p + 1 → btw F o p (F.2.2 k) = btw G (un a p q o) (un a p q p) (F.2.2 k)) then some (.inl (some (.int 1)), xput h x (xI X (upd A p (nI q)))) else some (.inl (some (.int 0)), xput h x (xI X (upd A p (nI q))))) (fun k hk' ih hq' q6 h6 => ?_) (fun hq' q6 h6 => ?_) 0 (Nat.zero_le _)
  · exact main (fun k' h => by omega) pU rfl
  · rw [rX1_fits_11]
    simp (disch := first | omega | decide) only [pis_i, pis_l, pis_r, pis_n, p1_i, p1_r, p1_n, p1_u, pw0, pw1, pw2, pw3, pw4, pK_v, pK_0, pK_ite, if_true, if_false, if_pos, if_neg, Nat.reduceAdd, pok_r, i10, i01, Bool.true_or, Bool.or_true, Bool.and_true, Bool.true_and, Nat.add_sub_cancel, i1p1, i1p0, i0p1, i0p0, nIrem2, va_rf_s, bit1, bit0, pinT, pinLT, pin0, nIc, nIcL, nIlt, nIeq, nIltL, nILlt, nIeqL, nILeq, nIadL, nILad, nILmu, nI_add, nIsbL, nI_sub', decide_true, decide_false, Bool.false_or, Bool.or_false, rX1_fits_13, rX1_fits_13n, rX1_fits_14, rX1_fits_17, rX1_fits_20, rX1_fits_21, xb, h6]
    have inner := loopP (N := p + 1) (P := fun o => (∀ o', o' < o → btw F o' p (F.2.2 k) = btw G (un a p q o') (un a p q p) (F.2.2 k)) → pR 32 (d + 1) 23 [.ref x, .ref f, .ref g, .int (nI p), .int (nI q), .int (nI k), .int (nI o)] [] (xput h x (xI X (upd A p (nI q)))) = if (∀ k, k < F.1 0 → ∀ o, o < p + 1 → btw F o p (F.2.2 k) = btw G (un a p q o) (un a p q p) (F.2.2 k)) then some (.inl (some (.int 1)), xput h x (xI X (upd A p (nI q)))) else some (.inl (some (.int 0)), xput h x (xI X (upd A p (nI q))))) (fun o ho iho hqo => ?_) (fun hqo => ?_) 0 (Nat.zero_le _)
    · exact inner (fun o' h => by omega)
    · obtain ⟨a1, a2⟩ := hA2 o ho
      have b1 := kX24_between (d := d) (p := o) (q := p) (l := F.2.2 k) hF' hk (by omega) (by omega)
      have b2 := kX24_between (d := d) (p := un a p q o) (q := q) (l := F.2.2 k) hG' hkG (by omega) (by omega)
      change pCa 243 d _ _ = some (.inl (some (.int (nI (btw F o p (F.2.2 k))))), _) at b1
      change pCa 243 d _ _ = some (.inl (some (.int (nI (btw G (un a p q o) q (F.2.2 k))))), _) at b2
      have e1 := btw_le hk (p := o) (q := p) (l := F.2.2 k)
      have e2 := btw_le hkG (p := un a p q o) (q := q) (l := F.2.2 k)
      rw [rX1_fits_23]
      by_cases c : btw F o p (F.2.2 k) = btw G (un a p q o) q (F.2.2 k)
      · simp (disch := first | omega | decide) only [pis_i, pis_l, pis_r, pis_n, p1_i, p1_r, p1_n, p1_u, pw0, pw1, pw2, pw3, pw4, pK_v, pK_0, pK_ite, if_true, if_false, if_pos, if_neg, Nat.reduceAdd, pok_r, i10, i01, Bool.true_or, Bool.or_true, Bool.and_true, Bool.true_and, Nat.add_sub_cancel, i1p1, i1p0, i0p1, i0p0, nIrem2, va_rf_s, bit1, bit0, pinT, pinLT, pin0, nIc, nIcL, nIlt, nIeq, nIltL, nILlt, nIeqL, nILeq, nIadL, nILad, nILmu, nI_add, nIsbL, nI_sub', decide_true, decide_false, Bool.false_or, Bool.or_false, rX1_fits_25, rX1_fits_26, rX1_fits_29, rX1_fits_29n, rX1_fits_30, rX1_fits_32, rX1_fits_33, rX1_fits_33n, rX1_fits_34, rX1_fits_37, rX1_fits_39, rX1_fits_40, rX1_fits_43, rX1_fits_43n, rX1_fits_44, rX1_fits_45, rX1_fits_48, rX1_fits_50, rX1_fits_51, rX1_fits_53, rX1_fits_53n, rX1_fits_54, rX1_fits_57, rX1_fits_59, rX1_fits_60, rX1_fits_63, rX1_fits_66, rX1_fits_670, rX1_fits_671, rX1_fits_68, rX1_fits_71, xCl, xF0, xF1, xP1, xF2, xF3, xP3, xF4, xF5, xP5, xF6, xF7, xF8, xF9, xF10, xF11, xF12, xP12, xF13, xP13, xF14, xP14, xF15, xP15, xF16, xP16, xF17, xP17, xF18, xF19, xF20, xP20, xF21, xF22, xP22, xL2, xL2n, xC2, xW2, xL4, xL4n, xC4, xW4, xL5, xL5n, xC5, xW5, xL6, xL6n, xC6, xW6, xL7, xL7n, xC7, xW7, xL8, xL8n, xC8, xW8, xL12, xL12n, xC12, xW12, xL13, xL13n, xC13, xW13, xL1, xK1, xC1, xW1, xL3, xK3, xC3, xW3, xL9, xK9, xC9, xW9, xL10, xK10, xC10, xW10, xLf, xLc, x0, y0, xl, l3, c3, b1, b2, xI_4, a1, c]
        exact iho (fun o' ho' => by
          by_cases e : o' = o
          · subst e; rw [un_s]; exact c
          · exact hqo o' (by omega))
      · simp (disch := first | omega | decide) only [pis_i, pis_l, pis_r, pis_n, p1_i, p1_r, p1_n, p1_u, pw0, pw1, pw2, pw3, pw4, pK_v, pK_0, pK_ite, if_true, if_false, if_pos, if_neg, Nat.reduceAdd, pok_r, i10, i01, Bool.true_or, Bool.or_true, Bool.and_true, Bool.true_and, Nat.add_sub_cancel, i1p1, i1p0, i0p1, i0p0, nIrem2, va_rf_s, bit1, bit0, pinT, pinLT, pin0, nIc, nIcL, nIlt, nIeq, nIltL, nILlt, nIeqL, nILeq, nIadL, nILad, nILmu, nI_add, nIsbL, nI_sub', decide_true, decide_false, Bool.false_or, Bool.or_false, rX1_fits_25, rX1_fits_26, rX1_fits_29, rX1_fits_29n, rX1_fits_30, rX1_fits_32, rX1_fits_33, rX1_fits_33n, rX1_fits_34, rX1_fits_37, rX1_fits_39, rX1_fits_40, rX1_fits_43, rX1_fits_43n, rX1_fits_44, rX1_fits_45, rX1_fits_48, rX1_fits_50, rX1_fits_51, rX1_fits_53, rX1_fits_53n, rX1_fits_54, rX1_fits_57, rX1_fits_59, rX1_fits_60, rX1_fits_63, rX1_fits_66, rX1_fits_670, rX1_fits_671, rX1_fits_68, rX1_fits_71, xCl, xF0, xF1, xP1, xF2, xF3, xP3, xF4, xF5, xP5, xF6, xF7, xF8, xF9, xF10, xF11, xF12, xP12, xF13, xP13, xF14, xP14, xF15, xP15, xF16, xP16, xF17, xP17, xF18, xF19, xF20, xP20, xF21, xF22, xP22, xL2, xL2n, xC2, xW2, xL4, xL4n, xC4, xW4, xL5, xL5n, xC5, xW5, xL6, xL6n, xC6, xW6, xL7, xL7n, xC7, xW7, xL8, xL8n, xC8, xW8, xL12, xL12n, xC12, xW12, xL13, xL13n, xC13, xW13, xL1, xK1, xC1, xW1, xL3, xK3, xC3, xW3, xL9, xK9, xC9, xW9, xL10, xK10, xC10, xW10, xLf, xLc, x0, y0, xl, l3, c3, b1, b2, xI_4, a1, c]
        rw [if_neg (fun z => c (by have := z k hk' o ho; rw [un_s] at this; exact this))]
    · rw [rX1_fits_23]
      simp (disch := first | omega | decide) only [pis_i, pis_l, pis_r, pis_n, p1_i, p1_r, p1_n, p1_u, pw0, pw1, pw2, pw3, pw4, pK_v, pK_0, pK_ite, if_true, if_false, if_pos, if_neg, Nat.reduceAdd, pok_r, i10, i01, Bool.true_or, Bool.or_true, Bool.and_true, Bool.true_and, Nat.add_sub_cancel, i1p1, i1p0, i0p1, i0p0, nIrem2, va_rf_s, bit1, bit0, pinT, pinLT, pin0, nIc, nIcL, nIlt, nIeq, nIltL, nILlt, nIeqL, nILeq, nIadL, nILad, nILmu, nI_add, nIsbL, nI_sub', decide_true, decide_false, Bool.false_or, Bool.or_false, rX1_fits_25, rX1_fits_26, rX1_fits_74, rX1_fits_77]
      exact ih (fun k' hk'' => by
        by_cases e : k' = k
        · subst e; exact hqo
        · exact hq' k' (by omega)) _ rfl
  · rw [rX1_fits_11, if_pos hq']
    simp (disch := first | omega | decide) only [pis_i, pis_l, pis_r, pis_n, p1_i, p1_r, p1_n, p1_u, pw0, pw1, pw2, pw3, pw4, pK_v, pK_0, pK_ite, if_true, if_false, if_pos, if_neg, Nat.reduceAdd, pok_r, i10, i01, Bool.true_or, Bool.or_true, Bool.and_true, Bool.true_and, Nat.add_sub_cancel, i1p1, i1p0, i0p1, i0p0, nIrem2, va_rf_s, bit1, bit0, pinT, pinLT, pin0, nIc, nIcL, nIlt, nIeq, nIltL, nILlt, nIeqL, nILeq, nIadL, nILad, nILmu, nI_add, nIsbL, nI_sub', decide_true, decide_false, Bool.false_or, Bool.or_false, rX1_fits_13, rX1_fits_13n, rX1_fits_14, rX1_fits_17, rX1_fits_80, rX1_fits_810, rX1_fits_811, xb]
theorem tk_s {tk : Int32} (hq : q < 8) (ht : ∀ i, i < n → (bt tk i = true ↔ ∃ j, j < p ∧ a j = i)) (hn : n ≤ 8) : ∀ i, i < n → (bt (tk ||| (1 : Int32) <<< (nI q &&& 31)) i = true ↔ ∃ j, j < p + 1 ∧ un a p q j = i) := by
  intro i hi
  rw [b_or, bt_1 (by omega) (by omega), Bool.or_eq_true, ht i hi, decide_eq_true_eq]
  constructor
  · rintro (⟨j, j1, j2⟩ | e)
    · exact ⟨j, by omega, by rw [un_n (by omega)]; exact j2⟩
    · exact ⟨p, by omega, by rw [un_s]; exact e.symm⟩
  · rintro ⟨j, j1, j2⟩
    by_cases e : j = p
    · subst e; rw [un_s] at j2; exact Or.inr j2.symm
    · rw [un_n e] at j2; exact Or.inl ⟨j, by omega, j2⟩
/-- what a search answers -/
def sres (t : (Nat → Nat) → Nat → Bool) (n p : Nat) (a : Nat → Nat) (v : Int32) (A' : Nat → Int32) : Prop :=
  (∀ j, j < p → A' j = nI (a j)) ∧ ((v = 1 ∧ ∃ b, Gr t n p b ∧ (∀ j, j < p → b j = a j) ∧ ∀ j, j < n → A' j = nI (b j) ∧ b j < n) ∨ (v = 0 ∧ ¬ Dn t n p a))
theorem Gr_s {t : (Nat → Nat) → Nat → Bool} {b : Nat → Nat} (hD : Dn t n (p + 1) b) (hq : b p = q) (ha : ∀ j, j < p → b j = a j) (hg : Gr t n (p + 1) b) (hl : ∀ q', q' < q → ¬ Dn t n (p + 1) (un a p q')) : Gr t n p b := by
  intro i h1 h2
  by_cases e : i = p
  · subst e
    refine ⟨hD, fun q' hq' hd => hl q' (by omega) (Dn_loc (fun j hj => ?_) hd)⟩
    by_cases e : j = i
    · subst e; rw [un_s, un_s]
    · rw [un_n e, un_n e]; exact ha j (by omega)
  · exact hg i (by omega) h2
theorem kX1_matches (hF : FigAt h f F) (hf : x + 14 ≤ f) (hk : FigOk F) (hG : FigAt h g G) (hg : x + 14 ≤ g) (hkG : FigOk G) (hn : F.1 2 = n) (hnG : G.1 2 = n) (hn8 : n ≤ 8) :
    ∀ r p, p + r = n → ∀ (a : Nat → Nat) (A : Nat → Int32) (tk : Int32), Pre (tx F G) n p a → (∀ j, j < p → A j = nI (a j)) → (∀ i, i < n → (bt tk i = true ↔ ∃ j, j < p ∧ a j = i)) →
    ∃ v A', pCa 31 (d + 2 + r) [.ref x, .ref f, .ref g, .int (nI p), .int tk] (xput h x (xI X A)) = some (.inl (some (.int v)), xput h x (xI X A')) ∧ sres (tx F G) n p a v A' := by
  intro r
  induction r with
  | zero =>
    intro p hp a A tk hpre hA htk
    have hF' := hF.put (X := xI X A) hf
    obtain ⟨x0, xf, xt, xl, xw, xs, xe, xb, xa, xp, xh⟩ := hF'.o
    obtain rfl : p = n := by omega
    refine ⟨1, A, ?_, hA, Or.inl ⟨rfl, a, fun i h1 h2 => by omega, fun _ _ => rfl, fun j hj => ⟨hA j hj, (hpre j hj).1⟩⟩⟩
    rw [eX1_matches]
    simp (disch := first | omega | decide) only [pis_i, pis_l, pis_r, pis_n, p1_i, p1_r, p1_n, p1_u, pw0, pw1, pw2, pw3, pw4, pK_v, pK_0, pK_ite, if_true, if_false, if_pos, if_neg, Nat.reduceAdd, pok_r, i10, i01, Bool.true_or, Bool.or_true, Bool.and_true, Bool.true_and, Nat.add_sub_cancel, i1p1, i1p0, i0p1, i0p0, nIrem2, va_rf_s, bit1, bit0, pinT, pinLT, pin0, nIc, nIcL, nIlt, nIeq, nIltL, nILlt, nIeqL, nILeq, nIadL, nILad, nILmu, nI_add, nIsbL, nI_sub', decide_true, decide_false, Bool.false_or, Bool.or_false, rX1_matches_0, rX1_matches_1, rX1_matches_1n, rX1_matches_2, rX1_matches_5, rX1_matches_8, rX1_matches_90, rX1_matches_91, xp, hn]
  | succ r ih =>
    intro p hp a A tk hpre hA htk
    have hpn : p < n := by omega
    have ha8 : ∀ j, j < p → a j < 8 := fun j hj => by have := (hpre j hj).1; omega
    have hF' := hF.put (X := xI X A) hf
    obtain ⟨x0, xf, xt, xl, xw, xs, xe, xb, xa, xp, xh⟩ := hF'.o
    have main := loopP (N := n) (P := fun q => ∀ A, (∀ j, j < p → A j = nI (a j)) → (∀ q', q' < q → ¬ Dn (tx F G) n (p + 1) (un a p q')) → ∃ v A', pR 31 (d + 2 + r + 1) 13 [.ref x, .ref f, .ref g, .int (nI p), .int tk, .int (nI q)] [] (xput h x (xI X A)) = some (.inl (some (.int v)), xput h x (xI X A')) ∧ sres (tx F G) n p a v A') (fun q hq ihq A hA hno => ?_) (fun A hA hno => ?_) 0 (Nat.zero_le _)
    · obtain ⟨v, A', h1, h2⟩ := main A hA (fun q' h => by omega)
      refine ⟨v, A', ?_, h2⟩
      rw [eX1_matches]
      simp (disch := first | omega | decide) only [pis_i, pis_l, pis_r, pis_n, p1_i, p1_r, p1_n, p1_u, pw0, pw1, pw2, pw3, pw4, pK_v, pK_0, pK_ite, if_true, if_false, if_pos, if_neg, Nat.reduceAdd, pok_r, i10, i01, Bool.true_or, Bool.or_true, Bool.and_true, Bool.true_and, Nat.add_sub_cancel, i1p1, i1p0, i0p1, i0p0, nIrem2, va_rf_s, bit1, bit0, pinT, pinLT, pin0, nIc, nIcL, nIlt, nIeq, nIltL, nILlt, nIeqL, nILeq, nIadL, nILad, nILmu, nI_add, nIsbL, nI_sub', decide_true, decide_false, Bool.false_or, Bool.or_false, rX1_matches_0, rX1_matches_1, rX1_matches_1n, rX1_matches_2, rX1_matches_5, rX1_matches_8, rX1_matches_90, rX1_matches_91, rX1_matches_10, rX1_matches_11, xp, hn]
      exact h1
    · have hF' := hF.put (X := xI X A) hf
      have hG' := hG.put (X := xI X A) hg
      obtain ⟨x0, xf, xt, xl, xw, xs, xe, xb, xa, xp, xh⟩ := hF'.o
      obtain ⟨y0, yf, yt, yl, yw, ys, ye, yb, ya, yp, yh⟩ := hG'.o
      obtain ⟨⟨l1, c1⟩, ⟨l2, c2⟩, ⟨l3, c3⟩, ⟨l4, c4⟩, ⟨l5, c5⟩, ⟨l6, c6⟩⟩ := hF'.a
      obtain ⟨⟨m1, e1⟩, ⟨m2, e2⟩, ⟨m3, e3⟩, ⟨m4, e4⟩, ⟨m5, e5⟩, ⟨m6, e6⟩⟩ := hG'.a
      have u1 := fE_lt hk p
      have u2 := fE_lt hkG q
      have skip : ¬ Dn (tx F G) n (p + 1) (un a p q) → ∀ A, (∀ j, j < p → A j = nI (a j)) → ∃ v A', pR 31 (d + 2 + r + 1) 13 [.ref x, .ref f, .ref g, .int (nI p), .int tk, .int (nI (q + 1))] [] (xput h x (xI X A)) = some (.inl (some (.int v)), xput h x (xI X A')) ∧ sres (tx F G) n p a v A' := fun hD A hA => ihq A hA (fun q' hq' => by
        by_cases e : q' = q
        · subst e; exact hD
        · exact hno q' (by omega))
      rw [rX1_matches_13]
      cases hb : bt tk q
      · have hfree : ∀ j, j < p → a j ≠ q := fun j hj e => by
          have := (htk q hq).mpr ⟨j, hj, e⟩
          rw [hb] at this; cases this
        by_cases hE : fE F p = fE G q
        · have hfit := kX1_fits (d := d + 1 + r) (X := X) hF hf hk hG hg hkG (show p < 8 by omega) (show q < 8 by omega) ha8 hA
          rw [show d + 1 + r + 1 = d + 2 + r by omega] at hfit
          have hA2 : ∀ j, j < p → upd A p (nI q) j = nI (a j) := fun j hj => by simp only [upd]; rw [if_neg (by omega)]; exact hA j hj
          by_cases hft : (∀ k, k < F.1 0 → ∀ o, o < p + 1 → btw F o p (F.2.2 k) = btw G (un a p q o) (un a p q p) (F.2.2 k))
          · rw [if_pos hft] at hfit
            have hT : tx F G (un a p q) p = true := by
              unfold tx
              rw [Bool.and_eq_true]
              refine ⟨decide_eq_true (by rw [un_s]; exact hE), decide_eq_true hft⟩
            have hpre2 := Pre_s tx_loc hpre hq hfree hT
            obtain ⟨v, A', r1, r2, r3⟩ := ih (p + 1) (by omega) (un a p q) (upd A p (nI q)) (tk ||| (1 : Int32) <<< (nI q &&& 31)) hpre2 (fun j hj => by
              by_cases e : j = p
              · subst e; simp [upd, un]
              · rw [un_n e]; exact hA2 j (by omega)) (tk_s (by omega) htk hn8)
            have hA3 : ∀ j, j < p → A' j = nI (a j) := fun j hj => by rw [r2 j (by omega), un_n (by omega)]
            rcases r3 with ⟨rfl, b, b1, b2, b3⟩ | ⟨rfl, hD⟩
            · have bp : b p = q := by rw [b2 p (by omega), un_s]
              have bj : ∀ j, j < p → b j = a j := fun j hj => by rw [b2 j (by omega), un_n (by omega)]
              refine ⟨1, A', ?_, hA3, Or.inl ⟨rfl, b, Gr_s (Dn_loc (fun j hj => (b2 j hj).symm) ?_) bp bj b1 hno, bj, b3⟩⟩
              · simp (disch := first | omega | decide) only [pis_i, pis_l, pis_r, pis_n, p1_i, p1_r, p1_n, p1_u, pw0, pw1, pw2, pw3, pw4, pK_v, pK_0, pK_ite, if_true, if_false, if_pos, if_neg, Nat.reduceAdd, pok_r, i10, i01, Bool.true_or, Bool.or_true, Bool.and_true, Bool.true_and, Nat.add_sub_cancel, i1p1, i1p0, i0p1, i0p0, nIrem2, va_rf_s, bit1, bit0, pinT, pinLT, pin0, nIc, nIcL, nIlt, nIeq, nIltL, nILlt, nIeqL, nILeq, nIadL, nILad, nILmu, nI_add, nIsbL, nI_sub', decide_true, decide_false, Bool.false_or, Bool.or_false, rX1_matches_15, rX1_matches_15n, rX1_matches_16, rX1_matches_19, rX1_matches_22, rX1_matches_24, rX1_matches_26, rX1_matches_27, rX1_matches_28, rX1_matches_29, rX1_matches_32, rX1_matches_32n, rX1_matches_33, rX1_matches_36, rX1_matches_37, rX1_matches_38, rX1_matches_38n, rX1_matches_39, rX1_matches_42, rX1_matches_44, rX1_matches_45, rX1_matches_48, rX1_matches_49, rX1_matches_49n, rX1_matches_50, rX1_matches_50n, rX1_matches_51, rX1_matches_52, rX1_matches_54, rX1_matches_57, rX1_matches_60, rX1_matches_61, rX1_matches_61n, rX1_matches_62, rX1_matches_62n, rX1_matches_63, rX1_matches_64, rX1_matches_65, rX1_matches_66, rX1_matches_68, rX1_matches_69, rX1_matches_71, rX1_matches_72, rX1_matches_73, rX1_matches_76, rX1_matches_79, rX1_matches_800, rX1_matches_801, rX1_matches_81, rX1_matches_84, xCl, xF0, xF1, xP1, xF2, xF3, xP3, xF4, xF5, xP5, xF6, xF7, xF8, xF9, xF10, xF11, xF12, xP12, xF13, xP13, xF14, xP14, xF15, xP15, xF16, xP16, xF17, xP17, xF18, xF19, xF20, xP20, xF21, xF22, xP22, xL2, xL2n, xC2, xW2, xL4, xL4n, xC4, xW4, xL5, xL5n, xC5, xW5, xL6, xL6n, xC6, xW6, xL7, xL7n, xC7, xW7, xL8, xL8n, xC8, xW8, xL12, xL12n, xC12, xW12, xL13, xL13n, xC13, xW13, xL1, xK1, xC1, xW1, xL3, xK3, xC3, xW3, xL9, xK9, xC9, xW9, xL10, xK10, xC10, xW10, xLf, xLc, xp, hn, hb, xe, ye, l6, m6, c6, e6, hE, hfit, r1]
              · by_cases hpn' : p + 1 < n
                · exact Dn_loc (fun j hj => b2 j hj) (Dn_up (Dn_loc (fun j hj => by
                    by_cases e : j = p + 1
                    · subst e; rw [un_s]
                    · rw [un_n e]) (b1 (p + 1) (by omega) hpn').1) : Dn (tx F G) n (p + 1) b)
                · have e : p + 1 = n := by omega
                  rw [e] at hpre2 ⊢
                  exact Dn_end hpre2
            · obtain ⟨v, A'', s1, s2⟩ := skip hD A' hA3
              refine ⟨v, A'', ?_, s2⟩
              simp (disch := first | omega | decide) only [pis_i, pis_l, pis_r, pis_n, p1_i, p1_r, p1_n, p1_u, pw0, pw1, pw2, pw3, pw4, pK_v, pK_0, pK_ite, if_true, if_false, if_pos, if_neg, Nat.reduceAdd, pok_r, i10, i01, Bool.true_or, Bool.or_true, Bool.and_true, Bool.true_and, Nat.add_sub_cancel, i1p1, i1p0, i0p1, i0p0, nIrem2, va_rf_s, bit1, bit0, pinT, pinLT, pin0, nIc, nIcL, nIlt, nIeq, nIltL, nILlt, nIeqL, nILeq, nIadL, nILad, nILmu, nI_add, nIsbL, nI_sub', decide_true, decide_false, Bool.false_or, Bool.or_false, rX1_matches_15, rX1_matches_15n, rX1_matches_16, rX1_matches_19, rX1_matches_22, rX1_matches_24, rX1_matches_26, rX1_matches_27, rX1_matches_28, rX1_matches_29, rX1_matches_32, rX1_matches_32n, rX1_matches_33, rX1_matches_36, rX1_matches_37, rX1_matches_38, rX1_matches_38n, rX1_matches_39, rX1_matches_42, rX1_matches_44, rX1_matches_45, rX1_matches_48, rX1_matches_49, rX1_matches_49n, rX1_matches_50, rX1_matches_50n, rX1_matches_51, rX1_matches_52, rX1_matches_54, rX1_matches_57, rX1_matches_60, rX1_matches_61, rX1_matches_61n, rX1_matches_62, rX1_matches_62n, rX1_matches_63, rX1_matches_64, rX1_matches_65, rX1_matches_66, rX1_matches_68, rX1_matches_69, rX1_matches_71, rX1_matches_72, rX1_matches_73, rX1_matches_76, rX1_matches_79, rX1_matches_800, rX1_matches_801, rX1_matches_81, rX1_matches_84, xCl, xF0, xF1, xP1, xF2, xF3, xP3, xF4, xF5, xP5, xF6, xF7, xF8, xF9, xF10, xF11, xF12, xP12, xF13, xP13, xF14, xP14, xF15, xP15, xF16, xP16, xF17, xP17, xF18, xF19, xF20, xP20, xF21, xF22, xP22, xL2, xL2n, xC2, xW2, xL4, xL4n, xC4, xW4, xL5, xL5n, xC5, xW5, xL6, xL6n, xC6, xW6, xL7, xL7n, xC7, xW7, xL8, xL8n, xC8, xW8, xL12, xL12n, xC12, xW12, xL13, xL13n, xC13, xW13, xL1, xK1, xC1, xW1, xL3, xK3, xC3, xW3, xL9, xK9, xC9, xW9, xL10, xK10, xC10, xW10, xLf, xLc, xp, hn, hb, xe, ye, l6, m6, c6, e6, hE, hfit, r1]
              exact s1
          · rw [if_neg hft] at hfit
            obtain ⟨v, A'', s1, s2⟩ := skip (fun hD => hft (by
              have := (Dn_t tx_loc hpn hD).2.2
              simp only [tx, Bool.and_eq_true, decide_eq_true_eq] at this
              exact this.2)) _ hA2
            refine ⟨v, A'', ?_, s2⟩
            simp (disch := first | omega | decide) only [pis_i, pis_l, pis_r, pis_n, p1_i, p1_r, p1_n, p1_u, pw0, pw1, pw2, pw3, pw4, pK_v, pK_0, pK_ite, if_true, if_false, if_pos, if_neg, Nat.reduceAdd, pok_r, i10, i01, Bool.true_or, Bool.or_true, Bool.and_true, Bool.true_and, Nat.add_sub_cancel, i1p1, i1p0, i0p1, i0p0, nIrem2, va_rf_s, bit1, bit0, pinT, pinLT, pin0, nIc, nIcL, nIlt, nIeq, nIltL, nILlt, nIeqL, nILeq, nIadL, nILad, nILmu, nI_add, nIsbL, nI_sub', decide_true, decide_false, Bool.false_or, Bool.or_false, rX1_matches_15, rX1_matches_15n, rX1_matches_16, rX1_matches_19, rX1_matches_22, rX1_matches_24, rX1_matches_26, rX1_matches_27, rX1_matches_28, rX1_matches_29, rX1_matches_32, rX1_matches_32n, rX1_matches_33, rX1_matches_36, rX1_matches_37, rX1_matches_38, rX1_matches_38n, rX1_matches_39, rX1_matches_42, rX1_matches_44, rX1_matches_45, rX1_matches_48, rX1_matches_49, rX1_matches_49n, rX1_matches_50, rX1_matches_50n, rX1_matches_51, rX1_matches_52, rX1_matches_54, rX1_matches_57, rX1_matches_60, rX1_matches_61, rX1_matches_61n, rX1_matches_62, rX1_matches_62n, rX1_matches_63, rX1_matches_64, rX1_matches_65, rX1_matches_66, rX1_matches_68, rX1_matches_69, rX1_matches_71, rX1_matches_72, rX1_matches_73, rX1_matches_76, rX1_matches_79, rX1_matches_800, rX1_matches_801, rX1_matches_81, rX1_matches_84, xCl, xF0, xF1, xP1, xF2, xF3, xP3, xF4, xF5, xP5, xF6, xF7, xF8, xF9, xF10, xF11, xF12, xP12, xF13, xP13, xF14, xP14, xF15, xP15, xF16, xP16, xF17, xP17, xF18, xF19, xF20, xP20, xF21, xF22, xP22, xL2, xL2n, xC2, xW2, xL4, xL4n, xC4, xW4, xL5, xL5n, xC5, xW5, xL6, xL6n, xC6, xW6, xL7, xL7n, xC7, xW7, xL8, xL8n, xC8, xW8, xL12, xL12n, xC12, xW12, xL13, xL13n, xC13, xW13, xL1, xK1, xC1, xW1, xL3, xK3, xC3, xW3, xL9, xK9, xC9, xW9, xL10, xK10, xC10, xW10, xLf, xLc, xp, hn, hb, xe, ye, l6, m6, c6, e6, hE, hfit]
            exact s1
        · obtain ⟨v, A'', s1, s2⟩ := skip (fun hD => hE (by
            have := (Dn_t tx_loc hpn hD).2.2
            simp only [tx, Bool.and_eq_true, decide_eq_true_eq, un_s] at this
            exact this.1)) A hA
          refine ⟨v, A'', ?_, s2⟩
          simp (disch := first | omega | decide) only [pis_i, pis_l, pis_r, pis_n, p1_i, p1_r, p1_n, p1_u, pw0, pw1, pw2, pw3, pw4, pK_v, pK_0, pK_ite, if_true, if_false, if_pos, if_neg, Nat.reduceAdd, pok_r, i10, i01, Bool.true_or, Bool.or_true, Bool.and_true, Bool.true_and, Nat.add_sub_cancel, i1p1, i1p0, i0p1, i0p0, nIrem2, va_rf_s, bit1, bit0, pinT, pinLT, pin0, nIc, nIcL, nIlt, nIeq, nIltL, nILlt, nIeqL, nILeq, nIadL, nILad, nILmu, nI_add, nIsbL, nI_sub', decide_true, decide_false, Bool.false_or, Bool.or_false, rX1_matches_15, rX1_matches_15n, rX1_matches_16, rX1_matches_19, rX1_matches_22, rX1_matches_24, rX1_matches_26, rX1_matches_27, rX1_matches_28, rX1_matches_29, rX1_matches_32, rX1_matches_32n, rX1_matches_33, rX1_matches_36, rX1_matches_37, rX1_matches_38, rX1_matches_38n, rX1_matches_39, rX1_matches_42, rX1_matches_44, rX1_matches_45, rX1_matches_48, rX1_matches_49, rX1_matches_49n, rX1_matches_50, rX1_matches_50n, rX1_matches_51, rX1_matches_52, rX1_matches_54, rX1_matches_57, rX1_matches_60, rX1_matches_61, rX1_matches_61n, rX1_matches_62, rX1_matches_62n, rX1_matches_63, rX1_matches_64, rX1_matches_65, rX1_matches_66, rX1_matches_68, rX1_matches_69, rX1_matches_71, rX1_matches_72, rX1_matches_73, rX1_matches_76, rX1_matches_79, rX1_matches_800, rX1_matches_801, rX1_matches_81, rX1_matches_84, xCl, xF0, xF1, xP1, xF2, xF3, xP3, xF4, xF5, xP5, xF6, xF7, xF8, xF9, xF10, xF11, xF12, xP12, xF13, xP13, xF14, xP14, xF15, xP15, xF16, xP16, xF17, xP17, xF18, xF19, xF20, xP20, xF21, xF22, xP22, xL2, xL2n, xC2, xW2, xL4, xL4n, xC4, xW4, xL5, xL5n, xC5, xW5, xL6, xL6n, xC6, xW6, xL7, xL7n, xC7, xW7, xL8, xL8n, xC8, xW8, xL12, xL12n, xC12, xW12, xL13, xL13n, xC13, xW13, xL1, xK1, xC1, xW1, xL3, xK3, xC3, xW3, xL9, xK9, xC9, xW9, xL10, xK10, xC10, xW10, xLf, xLc, xp, hn, hb, xe, ye, l6, m6, c6, e6, hE]
          exact s1
      · obtain ⟨j, j1, j2⟩ := (htk q hq).mp hb
        obtain ⟨v, A'', s1, s2⟩ := skip (fun hD => (Dn_t tx_loc hpn hD).2.1 j j1 j2) A hA
        refine ⟨v, A'', ?_, s2⟩
        simp (disch := first | omega | decide) only [pis_i, pis_l, pis_r, pis_n, p1_i, p1_r, p1_n, p1_u, pw0, pw1, pw2, pw3, pw4, pK_v, pK_0, pK_ite, if_true, if_false, if_pos, if_neg, Nat.reduceAdd, pok_r, i10, i01, Bool.true_or, Bool.or_true, Bool.and_true, Bool.true_and, Nat.add_sub_cancel, i1p1, i1p0, i0p1, i0p0, nIrem2, va_rf_s, bit1, bit0, pinT, pinLT, pin0, nIc, nIcL, nIlt, nIeq, nIltL, nILlt, nIeqL, nILeq, nIadL, nILad, nILmu, nI_add, nIsbL, nI_sub', decide_true, decide_false, Bool.false_or, Bool.or_false, rX1_matches_15, rX1_matches_15n, rX1_matches_16, rX1_matches_19, rX1_matches_22, rX1_matches_24, rX1_matches_26, rX1_matches_27, rX1_matches_28, rX1_matches_29, rX1_matches_32, rX1_matches_32n, rX1_matches_33, rX1_matches_36, rX1_matches_37, rX1_matches_38, rX1_matches_38n, rX1_matches_39, rX1_matches_42, rX1_matches_44, rX1_matches_45, rX1_matches_48, rX1_matches_49, rX1_matches_49n, rX1_matches_50, rX1_matches_50n, rX1_matches_51, rX1_matches_52, rX1_matches_54, rX1_matches_57, rX1_matches_60, rX1_matches_61, rX1_matches_61n, rX1_matches_62, rX1_matches_62n, rX1_matches_63, rX1_matches_64, rX1_matches_65, rX1_matches_66, rX1_matches_68, rX1_matches_69, rX1_matches_71, rX1_matches_72, rX1_matches_73, rX1_matches_76, rX1_matches_79, rX1_matches_800, rX1_matches_801, rX1_matches_81, rX1_matches_84, xCl, xF0, xF1, xP1, xF2, xF3, xP3, xF4, xF5, xP5, xF6, xF7, xF8, xF9, xF10, xF11, xF12, xP12, xF13, xP13, xF14, xP14, xF15, xP15, xF16, xP16, xF17, xP17, xF18, xF19, xF20, xP20, xF21, xF22, xP22, xL2, xL2n, xC2, xW2, xL4, xL4n, xC4, xW4, xL5, xL5n, xC5, xW5, xL6, xL6n, xC6, xW6, xL7, xL7n, xC7, xW7, xL8, xL8n, xC8, xW8, xL12, xL12n, xC12, xW12, xL13, xL13n, xC13, xW13, xL1, xK1, xC1, xW1, xL3, xK3, xC3, xW3, xL9, xK9, xC9, xW9, xL10, xK10, xC10, xW10, xLf, xLc, xp, hn, hb, Bool.true_eq_false]
        exact s1
    · have hF' := hF.put (X := xI X A) hf
      obtain ⟨x0, xf, xt, xl, xw, xs, xe, xb, xa, xp, xh⟩ := hF'.o
      refine ⟨0, A, ?_, hA, Or.inr ⟨rfl, fun hD => ?_⟩⟩
      · rw [rX1_matches_13]
        simp (disch := first | omega | decide) only [pis_i, pis_l, pis_r, pis_n, p1_i, p1_r, p1_n, p1_u, pw0, pw1, pw2, pw3, pw4, pK_v, pK_0, pK_ite, if_true, if_false, if_pos, if_neg, Nat.reduceAdd, pok_r, i10, i01, Bool.true_or, Bool.or_true, Bool.and_true, Bool.true_and, Nat.add_sub_cancel, i1p1, i1p0, i0p1, i0p0, nIrem2, va_rf_s, bit1, bit0, pinT, pinLT, pin0, nIc, nIcL, nIlt, nIeq, nIltL, nILlt, nIeqL, nILeq, nIadL, nILad, nILmu, nI_add, nIsbL, nI_sub', decide_true, decide_false, Bool.false_or, Bool.or_false, rX1_matches_15, rX1_matches_15n, rX1_matches_16, rX1_matches_19, rX1_matches_87, rX1_matches_880, rX1_matches_881, xp, hn]
      · obtain ⟨q, q1, q2⟩ := Dn_ex hpn hD
        exact hno q q1 q2
end
