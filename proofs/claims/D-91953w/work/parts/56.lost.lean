/-! SETS 1: what is lost -/
set_option maxRecDepth 100000
theorem loopP {P : Nat → Prop} {N : Nat} (hs : ∀ b, b < N → P (b + 1) → P b) (he : P N) : ∀ b, b ≤ N → P b := by
  have : ∀ n b, b + n = N → P b := by
    intro n
    induction n with
    | zero => intro b hb; rw [show b = N by omega]; exact he
    | succ n ih => intro b hb; exact hs b (by omega) (ih (b + 1) (by omega))
  intro b hb
  exact this (N - b) b (by omega)
theorem bitv {x : Int32} {k : Nat} (hk : k < 32) : x >>> (nI k &&& 31) &&& 1 = if bt x k = true then 1 else 0 := by
  by_cases h : bt x k = true
  · rw [if_pos h]; exact (bit1 hk).mpr h
  · rw [if_neg h]; exact (bit0 hk).mpr (by simpa using h)
theorem bitc {x : Int32} {k j : Nat} (hk : k < 32) (hj : j < 32) : (x >>> (nI k &&& 31) &&& 1 = x >>> (nI j &&& 31) &&& 1) = (bt x k = bt x j) := by
  rw [bitv hk, bitv hj]
  cases bt x k <;> cases bt x j <;> simp
theorem bt_3 {k i : Nat} (hk : k < 31) (hi : i < 32) : bt ((3 : Int32) <<< (nI k &&& 31)) i = (decide (i = k) || decide (i = k + 1)) := by
  have h3 : ∀ i, i < 32 → bt 3 i = decide (i < 2) := by decide +kernel
  rw [b_shl k (by omega) 3 hi]
  by_cases h : k ≤ i
  · rw [h3 _ (by omega)]
    by_cases h1 : i = k
    · subst h1; simp
    · by_cases h2 : i = k + 1
      · subst h2; simp
      · simp [h, h1, h2]; omega
  · simp [h]; omega
theorem bt_1 {k i : Nat} (hk : k < 32) (hi : i < 32) : bt ((1 : Int32) <<< (nI k &&& 31)) i = decide (i = k) := by
  have h3 : ∀ i, i < 32 → bt 1 i = decide (i = 0) := by decide +kernel
  rw [b_shl k hk 1 hi]
  by_cases h : k ≤ i
  · rw [h3 _ (by omega)]
    by_cases h1 : i = k
    · subst h1; simp
    · simp [h, h1]; omega
  · simp [h]; omega
/-- a set of the first n -/
def inS (n : Nat) (s : Int32) : Prop := ∀ i, i < 32 → n ≤ i → bt s i = false
/-- those of n that are not in a set -/
def cS (n : Nat) (s : Int32) : Int32 := aI n &&& (s ^^^ (-1))
theorem bt_c {n i : Nat} {s : Int32} (hn : n < 32) (hi : i < 32) : bt (cS n s) i = (decide (i < n) && !bt s i) := by
  rw [cS, b_and, bt_aI n hn i hi, b_xor, b_m1 i hi]
  simp
def sub (a b : Int32) : Prop := ∀ i, i < 32 → bt a i = true → bt b i = true
theorem sub.rf {a : Int32} : sub a a := fun _ _ h => h
theorem sub.tr {a b c : Int32} (h1 : sub a b) (h2 : sub b c) : sub a c := fun i hi h => h2 i hi (h1 i hi h)
/-- a step, a pass, passes -/
def sx (F : Fig) (k : Nat) (s : Int32) : Int32 := if fTw F k = true ∧ bt s k ≠ bt s (k + 1) ∧ fb_sm (fLe F (F.2.1 1 k) s) (F.1 0) ≤ 2 then s ||| (3 : Int32) <<< (nI k &&& 31) else s
def ps (F : Fig) (s : Int32) : Nat → Int32
  | 0 => s
  | k + 1 => sx F k (ps F s k)
def fx (F : Fig) : Nat → Int32 → Int32
  | 0, s => s
  | k + 1, s => if ps F s (F.1 0) = s then s else fx F k (ps F s (F.1 0))
section
variable {F : Fig} {s : Int32} {k : Nat}
theorem fTw_lt (h : fTw F k = true) : k + 1 < F.1 0 := by
  simp only [fTw, Bool.and_eq_true, decide_eq_true_eq] at h
  exact h.1
theorem sx_sub : sub s (sx F k s) := by
  intro i hi h
  unfold sx
  split
  · rw [b_or, h]; rfl
  · exact h
theorem sx_in (hk : FigOk F) (h : inS (F.1 0) s) : inS (F.1 0) (sx F k s) := by
  intro i hi hn
  have := hk.1
  unfold sx
  split
  · rename_i hc
    have := fTw_lt hc.1
    rw [b_or, h i hi hn, bt_3 (by omega) hi]
    simp; omega
  · exact h i hi hn
/-- a step that is done adds one -/
theorem sx_ne (hk : FigOk F) (hc : fTw F k = true ∧ bt s k ≠ bt s (k + 1) ∧ fb_sm (fLe F (F.2.1 1 k) s) (F.1 0) ≤ 2) : ∃ i, i < F.1 0 ∧ bt s i = false ∧ bt (sx F k s) i = true := by
  have h1 := fTw_lt hc.1
  have h2 := hk.1
  have h3 := hc.2.1
  have e : ∀ i, i = k ∨ i = k + 1 → bt (sx F k s) i = true := by
    intro i hi
    unfold sx
    rw [if_pos hc, b_or, bt_3 (by omega) (by omega)]
    simp; right; exact hi
  cases h4 : bt s k with
  | false => exact ⟨k, by omega, h4, e k (Or.inl rfl)⟩
  | true => exact ⟨k + 1, by omega, by rw [h4] at h3; simpa using h3, e _ (Or.inr rfl)⟩
theorem ps_sub : ∀ n, sub s (ps F s n) := by
  intro n
  induction n with
  | zero => exact sub.rf
  | succ n ih => exact ih.tr sx_sub
theorem ps_in (hk : FigOk F) (h : inS (F.1 0) s) : ∀ n, inS (F.1 0) (ps F s n) := by
  intro n
  induction n with
  | zero => exact h
  | succ n ih => exact sx_in hk ih
theorem ct_sub {a b : Int32} {n : Nat} (hn : n ≤ 32) (h : sub a b) : fb_ct (bt a) n ≤ fb_ct (bt b) n := fb_ct_sub (fun i hi q => h i (by omega) q)
theorem ct_lt {a b : Int32} {n i : Nat} (hn : n ≤ 32) (h : sub a b) (hi : i < n) (h0 : bt a i = false) (h1 : bt b i = true) : fb_ct (bt a) n < fb_ct (bt b) n := by
  have hle : fb_ct (fun k => if k = i then true else bt a k) n ≤ fb_ct (bt b) n := fb_ct_sub (fun k hk q => by
    by_cases e : k = i
    · subst e; exact h1
    · simp [e] at q; exact h k (by omega) q)
  have := fb_ct_upd (bt a) true hi
  rw [h0] at this
  simp only [Bool.false_eq_true, if_false, if_true, Nat.add_zero] at this
  omega
/-- what is not equal, among sets of n, one within the other, has more -/
theorem ct_ne {a b : Int32} {n : Nat} (hn : n ≤ 32) (h : sub a b) (ha : inS n a) (hb : inS n b) (hne : a ≠ b) : fb_ct (bt a) n < fb_ct (bt b) n := by
  rcases Nat.lt_or_ge (fb_ct (bt a) n) (fb_ct (bt b) n) with q | q
  · exact q
  · exfalso
    apply hne
    apply b_ext
    intro i hi
    rcases Nat.lt_or_ge i n with hin | hin
    · cases ea : bt a i with
      | true => rw [h i hi ea]
      | false =>
        cases eb : bt b i with
        | false => rfl
        | true => have := ct_lt hn h hin ea eb; omega
    · rw [ha i hi hin, hb i hi hin]
variable {H : pH} {f d : Nat}
theorem kX24_lostWith (hF : FigAt H f F) (hk : FigOk F) {L : Int32} (hL : inS (F.1 0) L) : pCa 237 (d + 1) [.ref f, .int L] H = some (.inl (some (.int (fx F 25 L))), H) := by
  have hF0 := hF
  (obtain ⟨x0, xf, xt, xl, xw, xs, xe, xb, xa, xp, xh⟩ := hF.o; obtain ⟨⟨l1, c1⟩, ⟨l2, c2⟩, ⟨l3, c3⟩, ⟨l4, c4⟩, ⟨l5, c5⟩, ⟨l6, c6⟩⟩ := hF.a; have hk' := hk; obtain ⟨k1, k2, k3, k4, k5, k6⟩ := hk')
  have outer : ∀ k s before q, p1 q = true → before ≠ s → inS (F.1 0) s → F.1 0 - fb_ct (bt s) (F.1 0) < k → pR 237 (d + 1) 6 [.ref f, .int L, .int s, .int before, q] [] H = some (.inl (some (.int (fx F k s))), H) := by
    intro k
    induction k with
    | zero => intro s before q _ _ _ h; omega
    | succ k ih =>
      intro s before q hq hne hin hm
      rw [rX24_lostWith_6]
      simp (disch := first | omega | decide) only [pis_i, pis_l, pis_r, pis_n, p1_i, p1_r, p1_n, p1_u, pw0, pw1, pw2, pw3, pw4, pK_v, pK_0, pK_ite, if_true, if_false, if_pos, if_neg, Nat.reduceAdd, pok_r, i10, i01, Bool.true_or, Bool.or_true, Bool.and_true, Bool.true_and, rX24_lostWith_0, rX24_lostWith_1, rX24_lostWith_2, rX24_lostWith_3, rX24_lostWith_4, rX24_lostWith_5, rX24_lostWith_7, rX24_lostWith_8, rX24_lostWith_11, rX24_lostWith_12, rX24_lostWith_13, rX24_lostWith_14, rX24_lostWith_18, rX24_lostWith_19, rX24_lostWith_22, rX24_lostWith_25, rX24_lostWith_26, rX24_lostWith_28, rX24_lostWith_31, rX24_lostWith_34, rX24_lostWith_35, rX24_lostWith_37, rX24_lostWith_38, rX24_lostWith_39, rX24_lostWith_40, rX24_lostWith_41, rX24_lostWith_43, rX24_lostWith_44, rX24_lostWith_45, rX24_lostWith_46, rX24_lostWith_47, rX24_lostWith_48, rX24_lostWith_51, rX24_lostWith_52, rX24_lostWith_53, rX24_lostWith_54, rX24_lostWith_57, rX24_lostWith_59, rX24_lostWith_60, rX24_lostWith_63, rX24_lostWith_64, rX24_lostWith_67, rX24_lostWith_70, rX24_lostWith_71, rX24_lostWith_72, rX24_lostWith_74, rX24_lostWith_75, rX24_lostWith_76, rX24_lostWith_77, rX24_lostWith_80, rX24_lostWith_83, rX24_lostWith_86, rX24_lostWith_87, hne, hq]
      refine loopN (N := F.1 0) (P := fun b => pR 237 (d + 1) 16 [.ref f, .int L, .int (ps F s b), .int s, .int (nI b)] [] H) (fun b hb R hR => ?_) ?_ 0 (Nat.zero_le _)
      · have k5b := k5 b hb
        have hle := fb_sm_bound (f := fLe F (F.2.1 1 b) (ps F s b)) (c := 2) (n := F.1 0) (fun k _ => by unfold fLe; split <;> (try split) <;> (try split) <;> omega)
        rw [ps, sx] at hR
        rw [rX24_lostWith_16]
        simp (disch := first | omega | decide) only [pis_i, pis_l, pis_r, pis_n, p1_i, p1_r, p1_n, p1_u, pw0, pw1, pw2, pw3, pw4, pK_v, pK_0, pK_ite, if_true, if_false, if_pos, if_neg, Nat.reduceAdd, pok_r, i10, i01, Bool.true_or, Bool.or_true, Bool.and_true, Bool.true_and, bitc, Nat.add_sub_cancel, i1p1, i1p0, i0p1, i0p0, nIrem2, va_rf_s, bit1, bit0, pinT, pinLT, pin0, nIc, nIcL, nIlt, nIeq, nIltL, nILlt, nIeqL, nILeq, nIadL, nILad, nILmu, nI_add, nIsbL, nI_sub', decide_true, decide_false, Bool.false_or, Bool.or_false, rX24_lostWith_0, rX24_lostWith_1, rX24_lostWith_2, rX24_lostWith_3, rX24_lostWith_4, rX24_lostWith_5, rX24_lostWith_7, rX24_lostWith_8, rX24_lostWith_11, rX24_lostWith_12, rX24_lostWith_13, rX24_lostWith_14, rX24_lostWith_18, rX24_lostWith_19, rX24_lostWith_22, rX24_lostWith_25, rX24_lostWith_26, rX24_lostWith_28, rX24_lostWith_31, rX24_lostWith_34, rX24_lostWith_35, rX24_lostWith_37, rX24_lostWith_38, rX24_lostWith_39, rX24_lostWith_40, rX24_lostWith_41, rX24_lostWith_43, rX24_lostWith_44, rX24_lostWith_45, rX24_lostWith_46, rX24_lostWith_47, rX24_lostWith_48, rX24_lostWith_51, rX24_lostWith_52, rX24_lostWith_53, rX24_lostWith_54, rX24_lostWith_57, rX24_lostWith_59, rX24_lostWith_60, rX24_lostWith_63, rX24_lostWith_64, rX24_lostWith_67, rX24_lostWith_70, rX24_lostWith_71, rX24_lostWith_72, rX24_lostWith_74, rX24_lostWith_75, rX24_lostWith_76, rX24_lostWith_77, rX24_lostWith_80, rX24_lostWith_83, rX24_lostWith_86, rX24_lostWith_87, x0, xf, xt, xl, xw, xs, xe, xb, xa, xp, xh, l1, l2, l3, l4, l5, l6, c1, c2, c3, c4, c5, c6, kX24_isTwist hF0 hk hb, kX24_left hF0 hk]
        refine Eq.trans ?_ hR
        clear hR
        by_cases q1 : fTw F b = true
        · by_cases q2 : bt (ps F s b) b = bt (ps F s b) (b + 1)
          · simp [q1, q2]
          · by_cases q3 : fb_sm (fLe F (F.2.1 1 b) (ps F s b)) (F.1 0) ≤ 2
            · simp [q1, q2, q3, Nat.not_lt.mpr q3]
            · simp [q1, q2, q3, Nat.lt_of_not_le q3]
        · simp [q1]
      · rw [rX24_lostWith_16]
        simp (disch := first | omega | decide) only [pis_i, pis_l, pis_r, pis_n, p1_i, p1_r, p1_n, p1_u, pw0, pw1, pw2, pw3, pw4, pK_v, pK_0, pK_ite, if_true, if_false, if_pos, if_neg, Nat.reduceAdd, pok_r, i10, i01, Bool.true_or, Bool.or_true, Bool.and_true, Bool.true_and, Nat.add_sub_cancel, i1p1, i1p0, i0p1, i0p0, nIrem2, va_rf_s, bit1, bit0, pinT, pinLT, pin0, nIc, nIcL, nIlt, nIeq, nIltL, nILlt, nIeqL, nILeq, nIadL, nILad, nILmu, nI_add, nIsbL, nI_sub', decide_true, decide_false, Bool.false_or, Bool.or_false, rX24_lostWith_0, rX24_lostWith_1, rX24_lostWith_2, rX24_lostWith_3, rX24_lostWith_4, rX24_lostWith_5, rX24_lostWith_7, rX24_lostWith_8, rX24_lostWith_11, rX24_lostWith_12, rX24_lostWith_13, rX24_lostWith_14, rX24_lostWith_18, rX24_lostWith_19, rX24_lostWith_22, rX24_lostWith_25, rX24_lostWith_26, rX24_lostWith_28, rX24_lostWith_31, rX24_lostWith_34, rX24_lostWith_35, rX24_lostWith_37, rX24_lostWith_38, rX24_lostWith_39, rX24_lostWith_40, rX24_lostWith_41, rX24_lostWith_43, rX24_lostWith_44, rX24_lostWith_45, rX24_lostWith_46, rX24_lostWith_47, rX24_lostWith_48, rX24_lostWith_51, rX24_lostWith_52, rX24_lostWith_53, rX24_lostWith_54, rX24_lostWith_57, rX24_lostWith_59, rX24_lostWith_60, rX24_lostWith_63, rX24_lostWith_64, rX24_lostWith_67, rX24_lostWith_70, rX24_lostWith_71, rX24_lostWith_72, rX24_lostWith_74, rX24_lostWith_75, rX24_lostWith_76, rX24_lostWith_77, rX24_lostWith_80, rX24_lostWith_83, rX24_lostWith_86, rX24_lostWith_87, x0, xf, xt, xl, xw, xs, xe, xb, xa, xp, xh, l1, l2, l3, l4, l5, l6, c1, c2, c3, c4, c5, c6]
        rw [fx]
        by_cases he : ps F s (F.1 0) = s
        · rw [if_pos he, he, rX24_lostWith_6]
          simp (disch := first | omega | decide) only [pis_i, pis_l, pis_r, pis_n, p1_i, p1_r, p1_n, p1_u, pw0, pw1, pw2, pw3, pw4, pK_v, pK_0, pK_ite, if_true, if_false, if_pos, if_neg, Nat.reduceAdd, pok_r, i10, i01, Bool.true_or, Bool.or_true, Bool.and_true, Bool.true_and, rX24_lostWith_0, rX24_lostWith_1, rX24_lostWith_2, rX24_lostWith_3, rX24_lostWith_4, rX24_lostWith_5, rX24_lostWith_7, rX24_lostWith_8, rX24_lostWith_11, rX24_lostWith_12, rX24_lostWith_13, rX24_lostWith_14, rX24_lostWith_18, rX24_lostWith_19, rX24_lostWith_22, rX24_lostWith_25, rX24_lostWith_26, rX24_lostWith_28, rX24_lostWith_31, rX24_lostWith_34, rX24_lostWith_35, rX24_lostWith_37, rX24_lostWith_38, rX24_lostWith_39, rX24_lostWith_40, rX24_lostWith_41, rX24_lostWith_43, rX24_lostWith_44, rX24_lostWith_45, rX24_lostWith_46, rX24_lostWith_47, rX24_lostWith_48, rX24_lostWith_51, rX24_lostWith_52, rX24_lostWith_53, rX24_lostWith_54, rX24_lostWith_57, rX24_lostWith_59, rX24_lostWith_60, rX24_lostWith_63, rX24_lostWith_64, rX24_lostWith_67, rX24_lostWith_70, rX24_lostWith_71, rX24_lostWith_72, rX24_lostWith_74, rX24_lostWith_75, rX24_lostWith_76, rX24_lostWith_77, rX24_lostWith_80, rX24_lostWith_83, rX24_lostWith_86, rX24_lostWith_87]
        · rw [if_neg he]
          refine ih _ _ _ rfl (fun e => he e.symm) (ps_in hk hin _) ?_
          have := ct_ne (show F.1 0 ≤ 32 by omega) (ps_sub (F := F) (s := s) (F.1 0)) hin (ps_in hk hin _) (fun e => he e.symm)
          have := fb_ct_le (bt (ps F s (F.1 0))) (F.1 0)
          omega
  rw [eX24_lostWith]
  simp (disch := first | omega | decide) only [pis_i, pis_l, pis_r, pis_n, p1_i, p1_r, p1_n, p1_u, pw0, pw1, pw2, pw3, pw4, pK_v, pK_0, pK_ite, if_true, if_false, if_pos, if_neg, Nat.reduceAdd, pok_r, i10, i01, Bool.true_or, Bool.or_true, Bool.and_true, Bool.true_and, rX24_lostWith_0, rX24_lostWith_1, rX24_lostWith_2, rX24_lostWith_3, rX24_lostWith_4, rX24_lostWith_5, rX24_lostWith_7, rX24_lostWith_8, rX24_lostWith_11, rX24_lostWith_12, rX24_lostWith_13, rX24_lostWith_14, rX24_lostWith_18, rX24_lostWith_19, rX24_lostWith_22, rX24_lostWith_25, rX24_lostWith_26, rX24_lostWith_28, rX24_lostWith_31, rX24_lostWith_34, rX24_lostWith_35, rX24_lostWith_37, rX24_lostWith_38, rX24_lostWith_39, rX24_lostWith_40, rX24_lostWith_41, rX24_lostWith_43, rX24_lostWith_44, rX24_lostWith_45, rX24_lostWith_46, rX24_lostWith_47, rX24_lostWith_48, rX24_lostWith_51, rX24_lostWith_52, rX24_lostWith_53, rX24_lostWith_54, rX24_lostWith_57, rX24_lostWith_59, rX24_lostWith_60, rX24_lostWith_63, rX24_lostWith_64, rX24_lostWith_67, rX24_lostWith_70, rX24_lostWith_71, rX24_lostWith_72, rX24_lostWith_74, rX24_lostWith_75, rX24_lostWith_76, rX24_lostWith_77, rX24_lostWith_80, rX24_lostWith_83, rX24_lostWith_86, rX24_lostWith_87]
  refine outer 25 L _ _ rfl (fun e => ?_) hL (by omega)
  have := congrArg (fun z => bt z 0) e
  simp only [b_xor, b_m1 0 (by decide)] at this
  cases h : bt L 0 <;> simp [h] at this
variable {m g : Nat} {h : pH} {S : MS}
/-- ends of those that are left -/
theorem fEn_c (hk : FigOk F) (p : Nat) (s : Int32) : fb_sm (fEn F p (cS (F.1 0) s)) (F.1 0) = fb_sm (fLe F p s) (F.1 0) := by
  have := hk.1
  refine fb_sm_cong (fun b hb => ?_)
  rw [fEn, fLe, bt_c (by omega) (by omega)]
  cases bt s b <;> simp [hb]
theorem cS_or {n k : Nat} {s : Int32} (hn : n < 32) (hk : k + 1 < n) : cS n s &&& ((3 : Int32) <<< (nI k &&& 31) ^^^ (-1)) = cS n (s ||| (3 : Int32) <<< (nI k &&& 31)) := by
  apply b_ext
  intro i hi
  rw [b_and, bt_c hn hi, bt_c hn hi, b_or, b_xor, b_m1 i hi]
  cases bt s i <;> cases bt ((3 : Int32) <<< (nI k &&& 31)) i <;> simp
theorem kX3_leftOf (hF : MFig S g F) (hk : FigOk F) (hg : g < 13) {L : Int32} (hL : inS (F.1 0) L) : pCa 131 (d + 2) [.ref m, .int (nI g), .int (cS (F.1 0) L)] (mput h m S) = some (.inl (some (.int (cS (F.1 0) (fx F 25 L)))), mput h m S) := by
  have hF0 := hF
  (obtain ⟨f1, f2, f3, f4, f5, f6, f7, f8, f9⟩ := hF; have hk' := hk; obtain ⟨k1, k2, k3, k4, k5, k6⟩ := hk')
  have outer : ∀ k s q5 q6 q7, p1 q5 = true → p1 q6 = true → p1 q7 = true → inS (F.1 0) s → F.1 0 - fb_ct (bt s) (F.1 0) < k → pR 131 (d + 2) 5 [.ref m, .int (nI g), .int (cS (F.1 0) L), .int (cS (F.1 0) s), .int 1, q5, q6, q7] [] (mput h m S) = some (.inl (some (.int (cS (F.1 0) (fx F k s)))), mput h m S) := by
    intro k
    induction k with
    | zero => intro s q5 q6 q7 _ _ _ _ h; omega
    | succ k ih =>
      intro s q5 q6 q7 h5 h6 h7 hin hm
      rw [rX3_leftOf_5]
      simp (disch := first | omega | decide) only [pis_i, pis_l, pis_r, pis_n, p1_i, p1_r, p1_n, p1_u, pw0, pw1, pw2, pw3, pw4, pK_v, pK_0, pK_ite, if_true, if_false, if_pos, if_neg, Nat.reduceAdd, pok_r, i10, i01, Bool.true_or, Bool.or_true, Bool.and_true, Bool.true_and, rX3_leftOf_0, rX3_leftOf_1, rX3_leftOf_2, rX3_leftOf_3, rX3_leftOf_7, rX3_leftOf_10, rX3_leftOf_11, rX3_leftOf_13, rX3_leftOf_14, rX3_leftOf_18, rX3_leftOf_19, rX3_leftOf_22, rX3_leftOf_23, rX3_leftOf_24, rX3_leftOf_27, rX3_leftOf_28, rX3_leftOf_29, rX3_leftOf_31, rX3_leftOf_34, rX3_leftOf_37, rX3_leftOf_40, rX3_leftOf_41, rX3_leftOf_43, rX3_leftOf_44, rX3_leftOf_45, rX3_leftOf_46, rX3_leftOf_47, rX3_leftOf_50, rX3_leftOf_51, rX3_leftOf_54, rX3_leftOf_55, rX3_leftOf_57, rX3_leftOf_58, rX3_leftOf_60, rX3_leftOf_61, rX3_leftOf_62, rX3_leftOf_63, rX3_leftOf_64, rX3_leftOf_65, rX3_leftOf_66, rX3_leftOf_69, rX3_leftOf_70, rX3_leftOf_73, rX3_leftOf_74, rX3_leftOf_76, rX3_leftOf_78, rX3_leftOf_80, rX3_leftOf_83, rX3_leftOf_84, rX3_leftOf_85, rX3_leftOf_86, rX3_leftOf_89, rX3_leftOf_91, rX3_leftOf_92, rX3_leftOf_93, rX3_leftOf_95, rX3_leftOf_96, rX3_leftOf_97, rX3_leftOf_98, rX3_leftOf_101, rX3_leftOf_102, rX3_leftOf_105, rX3_leftOf_106, rX3_leftOf_107, rX3_leftOf_109, rX3_leftOf_110, rX3_leftOf_111, rX3_leftOf_112, rX3_leftOf_113, rX3_leftOf_114, rX3_leftOf_115, rX3_leftOf_117, rX3_leftOf_120, rX3_leftOf_123, rX3_leftOf_126, rX3_leftOf_127, h5]
      have main := loopP (N := F.1 0) (P := fun b => ∀ q6 q7, p1 q6 = true → p1 q7 = true → pR 131 (d + 2) 16 [.ref m, .int (nI g), .int (cS (F.1 0) L), .int (cS (F.1 0) (ps F s b)), .int (if ps F s b = s then 0 else 1), .int (nI b), q6, q7] [] (mput h m S) = some (.inl (some (.int (cS (F.1 0) (fx F (k + 1) s)))), mput h m S)) (fun b hb ihb q6 q7 h6 h7 => ?_) (fun q6 q7 h6 h7 => ?_) 0 (Nat.zero_le _) q6 q7 h6 h7
      · rw [show ps F s 0 = s from rfl, if_pos rfl] at main
        exact main
      · have k5b := k5 b hb
        have hle := fb_sm_bound (f := fLe F (F.2.1 1 b) (ps F s b)) (c := 2) (n := F.1 0) (fun k _ => by unfold fLe; split <;> (try split) <;> (try split) <;> omega)
        have hen := kX3_endsIn (d := d + 1) (m := m) (h := h) (p := F.2.1 1 b) (set := cS (F.1 0) (ps F s b)) hF0 hk hg (by omega)
        rw [fEn_c hk] at hen
        rw [rX3_leftOf_16]
        by_cases q1 : fTw F b = true
        · have hb1 := fTw_lt q1
          have e1 := bt_c (n := F.1 0) (i := b) (s := ps F s b) (by omega) (by omega)
          have e2 := bt_c (n := F.1 0) (i := b + 1) (s := ps F s b) (by omega) (by omega)
          rw [decide_eq_true (by omega), Bool.true_and] at e1 e2
          by_cases q2 : bt (ps F s b) b = bt (ps F s b) (b + 1)
          · have hps : ps F s (b + 1) = ps F s b := by rw [ps, sx, if_neg (fun c => c.2.1 q2)]
            rw [hps] at ihb
            cases q4 : bt (ps F s b) (b + 1) <;> rw [q4] at q2 e2 <;> rw [q2] at e1
            · have := ihb (.int 1) (.int 1) rfl rfl
              simp (disch := first | omega | decide) only [pis_i, pis_l, pis_r, pis_n, p1_i, p1_r, p1_n, p1_u, pw0, pw1, pw2, pw3, pw4, pK_v, pK_0, pK_ite, if_true, if_false, if_pos, if_neg, Nat.reduceAdd, pok_r, i10, i01, Bool.true_or, Bool.or_true, Bool.and_true, Bool.true_and, Nat.add_sub_cancel, i1p1, i1p0, i0p1, i0p0, nIrem2, va_rf_s, bit1, bit0, pinT, pinLT, pin0, nIc, nIcL, nIlt, nIeq, nIltL, nILlt, nIeqL, nILeq, nIadL, nILad, nILmu, nI_add, nIsbL, nI_sub', decide_true, decide_false, Bool.false_or, Bool.or_false, rX3_leftOf_0, rX3_leftOf_1, rX3_leftOf_2, rX3_leftOf_3, rX3_leftOf_7, rX3_leftOf_10, rX3_leftOf_11, rX3_leftOf_13, rX3_leftOf_14, rX3_leftOf_18, rX3_leftOf_19, rX3_leftOf_22, rX3_leftOf_23, rX3_leftOf_24, rX3_leftOf_27, rX3_leftOf_28, rX3_leftOf_29, rX3_leftOf_31, rX3_leftOf_34, rX3_leftOf_37, rX3_leftOf_40, rX3_leftOf_41, rX3_leftOf_43, rX3_leftOf_44, rX3_leftOf_45, rX3_leftOf_46, rX3_leftOf_47, rX3_leftOf_50, rX3_leftOf_51, rX3_leftOf_54, rX3_leftOf_55, rX3_leftOf_57, rX3_leftOf_58, rX3_leftOf_60, rX3_leftOf_61, rX3_leftOf_62, rX3_leftOf_63, rX3_leftOf_64, rX3_leftOf_65, rX3_leftOf_66, rX3_leftOf_69, rX3_leftOf_70, rX3_leftOf_73, rX3_leftOf_74, rX3_leftOf_76, rX3_leftOf_78, rX3_leftOf_80, rX3_leftOf_83, rX3_leftOf_84, rX3_leftOf_85, rX3_leftOf_86, rX3_leftOf_89, rX3_leftOf_91, rX3_leftOf_92, rX3_leftOf_93, rX3_leftOf_95, rX3_leftOf_96, rX3_leftOf_97, rX3_leftOf_98, rX3_leftOf_101, rX3_leftOf_102, rX3_leftOf_105, rX3_leftOf_106, rX3_leftOf_107, rX3_leftOf_109, rX3_leftOf_110, rX3_leftOf_111, rX3_leftOf_112, rX3_leftOf_113, rX3_leftOf_114, rX3_leftOf_115, rX3_leftOf_117, rX3_leftOf_120, rX3_leftOf_123, rX3_leftOf_126, rX3_leftOf_127, mCl, mF0, mP0, mF1, mF2, mF3, mF4, mF5, mP5, mF6, mF7, mP7, mF8, mP8, mF9, mP9, mF10, mP10, mF11, mF12, mF13, mF14, mF15, mF16, mF17, mF18, mF19, mF20, mP20, mF21, mF22, mF23, mP23, mF24, mP24, mF25, mP25, mF26, mF27, mF28, mF29, mF30, mF31, mP31, mF32, mP32, mF33, mP33, mF34, mF35, mF36, mF37, mF38, mF39, mF40, mF41, mF42, mF43, mF44, mF45, mP45, mF46, mP46, mF47, mP47, mF48, mP48, mF49, mF50, mF51, mP51, mL1, mL1n, mC1, mW1, mL2, mL2n, mC2, mW2, mL3, mL3n, mC3, mW3, mL4, mL4n, mC4, mW4, mL5, mL5n, mC5, mW5, mL6, mL6n, mC6, mW6, mL7, mL7n, mC7, mW7, mL8, mL8n, mC8, mW8, mL9, mL9n, mC9, mW9, mL10, mL10n, mC10, mW10, mL11, mL11n, mC11, mW11, mL12, mL12n, mC12, mW12, mL13, mL13n, mC13, mW13, mL14, mL14n, mC14, mW14, mL15, mL15n, mC15, mW15, mL16, mL16n, mC16, mW16, mL17, mL17n, mC17, mW17, mL18, mL18n, mC18, mW18, mL19, mL19n, mC19, mW19, mL20, mL20n, mC20, mW20, mL21, mL21n, mC21, mW21, mL23, mL23n, mC23, mW23, mL24, mL24n, mC24, mW24, mL25, mL25n, mC25, mW25, mL26, mL26n, mC26, mW26, mL27, mL27n, mC27, mW27, mL28, mL28n, mC28, mW28, mL29, mL29n, mC29, mW29, mL30, mL30n, mC30, mW30, mL31, mL31n, mC31, mW31, mL32, mL32n, mC32, mW32, mL33, mL33n, mC33, mW33, mL34, mL34n, mC34, mW34, mL22, mC22, mW22, f1, kX3_isTwist hF0 hk hg hb, q1, e1, e2, h6, h7, Bool.not_false, Bool.not_true, Bool.false_eq_true]
              exact this
            · have := ihb (.int 0) (.int 0) rfl rfl
              simp (disch := first | omega | decide) only [pis_i, pis_l, pis_r, pis_n, p1_i, p1_r, p1_n, p1_u, pw0, pw1, pw2, pw3, pw4, pK_v, pK_0, pK_ite, if_true, if_false, if_pos, if_neg, Nat.reduceAdd, pok_r, i10, i01, Bool.true_or, Bool.or_true, Bool.and_true, Bool.true_and, Nat.add_sub_cancel, i1p1, i1p0, i0p1, i0p0, nIrem2, va_rf_s, bit1, bit0, pinT, pinLT, pin0, nIc, nIcL, nIlt, nIeq, nIltL, nILlt, nIeqL, nILeq, nIadL, nILad, nILmu, nI_add, nIsbL, nI_sub', decide_true, decide_false, Bool.false_or, Bool.or_false, rX3_leftOf_0, rX3_leftOf_1, rX3_leftOf_2, rX3_leftOf_3, rX3_leftOf_7, rX3_leftOf_10, rX3_leftOf_11, rX3_leftOf_13, rX3_leftOf_14, rX3_leftOf_18, rX3_leftOf_19, rX3_leftOf_22, rX3_leftOf_23, rX3_leftOf_24, rX3_leftOf_27, rX3_leftOf_28, rX3_leftOf_29, rX3_leftOf_31, rX3_leftOf_34, rX3_leftOf_37, rX3_leftOf_40, rX3_leftOf_41, rX3_leftOf_43, rX3_leftOf_44, rX3_leftOf_45, rX3_leftOf_46, rX3_leftOf_47, rX3_leftOf_50, rX3_leftOf_51, rX3_leftOf_54, rX3_leftOf_55, rX3_leftOf_57, rX3_leftOf_58, rX3_leftOf_60, rX3_leftOf_61, rX3_leftOf_62, rX3_leftOf_63, rX3_leftOf_64, rX3_leftOf_65, rX3_leftOf_66, rX3_leftOf_69, rX3_leftOf_70, rX3_leftOf_73, rX3_leftOf_74, rX3_leftOf_76, rX3_leftOf_78, rX3_leftOf_80, rX3_leftOf_83, rX3_leftOf_84, rX3_leftOf_85, rX3_leftOf_86, rX3_leftOf_89, rX3_leftOf_91, rX3_leftOf_92, rX3_leftOf_93, rX3_leftOf_95, rX3_leftOf_96, rX3_leftOf_97, rX3_leftOf_98, rX3_leftOf_101, rX3_leftOf_102, rX3_leftOf_105, rX3_leftOf_106, rX3_leftOf_107, rX3_leftOf_109, rX3_leftOf_110, rX3_leftOf_111, rX3_leftOf_112, rX3_leftOf_113, rX3_leftOf_114, rX3_leftOf_115, rX3_leftOf_117, rX3_leftOf_120, rX3_leftOf_123, rX3_leftOf_126, rX3_leftOf_127, mCl, mF0, mP0, mF1, mF2, mF3, mF4, mF5, mP5, mF6, mF7, mP7, mF8, mP8, mF9, mP9, mF10, mP10, mF11, mF12, mF13, mF14, mF15, mF16, mF17, mF18, mF19, mF20, mP20, mF21, mF22, mF23, mP23, mF24, mP24, mF25, mP25, mF26, mF27, mF28, mF29, mF30, mF31, mP31, mF32, mP32, mF33, mP33, mF34, mF35, mF36, mF37, mF38, mF39, mF40, mF41, mF42, mF43, mF44, mF45, mP45, mF46, mP46, mF47, mP47, mF48, mP48, mF49, mF50, mF51, mP51, mL1, mL1n, mC1, mW1, mL2, mL2n, mC2, mW2, mL3, mL3n, mC3, mW3, mL4, mL4n, mC4, mW4, mL5, mL5n, mC5, mW5, mL6, mL6n, mC6, mW6, mL7, mL7n, mC7, mW7, mL8, mL8n, mC8, mW8, mL9, mL9n, mC9, mW9, mL10, mL10n, mC10, mW10, mL11, mL11n, mC11, mW11, mL12, mL12n, mC12, mW12, mL13, mL13n, mC13, mW13, mL14, mL14n, mC14, mW14, mL15, mL15n, mC15, mW15, mL16, mL16n, mC16, mW16, mL17, mL17n, mC17, mW17, mL18, mL18n, mC18, mW18, mL19, mL19n, mC19, mW19, mL20, mL20n, mC20, mW20, mL21, mL21n, mC21, mW21, mL23, mL23n, mC23, mW23, mL24, mL24n, mC24, mW24, mL25, mL25n, mC25, mW25, mL26, mL26n, mC26, mW26, mL27, mL27n, mC27, mW27, mL28, mL28n, mC28, mW28, mL29, mL29n, mC29, mW29, mL30, mL30n, mC30, mW30, mL31, mL31n, mC31, mW31, mL32, mL32n, mC32, mW32, mL33, mL33n, mC33, mW33, mL34, mL34n, mC34, mW34, mL22, mC22, mW22, f1, kX3_isTwist hF0 hk hg hb, q1, e1, e2, h6, h7, Bool.not_false, Bool.not_true, Bool.false_eq_true]
              exact this
          · by_cases q3 : fb_sm (fLe F (F.2.1 1 b) (ps F s b)) (F.1 0) ≤ 2
            · have hc : fTw F b = true ∧ bt (ps F s b) b ≠ bt (ps F s b) (b + 1) ∧ fb_sm (fLe F (F.2.1 1 b) (ps F s b)) (F.1 0) ≤ 2 := ⟨q1, q2, q3⟩
              have hps : ps F s (b + 1) = ps F s b ||| (3 : Int32) <<< (nI b &&& 31) := by rw [ps, sx, if_pos hc]
              have hne : ¬ ps F s (b + 1) = s := by
                intro e
                obtain ⟨i, i1, i2, i3⟩ := sx_ne hk hc
                have i3 : bt (ps F s (b + 1)) i = true := i3
                rw [e] at i3
                rw [ps_sub b i (by omega) i3] at i2
                cases i2
              rw [if_neg hne, hps, ← cS_or (by omega) hb1] at ihb
              cases q4 : bt (ps F s b) (b + 1) <;> rw [q4] at q2 e2
              · have q5 : bt (ps F s b) b = true := by simpa using q2
                rw [q5] at e1
                have := ihb (.int 0) (.int 1) rfl rfl
                simp (disch := first | omega | decide) only [pis_i, pis_l, pis_r, pis_n, p1_i, p1_r, p1_n, p1_u, pw0, pw1, pw2, pw3, pw4, pK_v, pK_0, pK_ite, if_true, if_false, if_pos, if_neg, Nat.reduceAdd, pok_r, i10, i01, Bool.true_or, Bool.or_true, Bool.and_true, Bool.true_and, Nat.add_sub_cancel, i1p1, i1p0, i0p1, i0p0, nIrem2, va_rf_s, bit1, bit0, pinT, pinLT, pin0, nIc, nIcL, nIlt, nIeq, nIltL, nILlt, nIeqL, nILeq, nIadL, nILad, nILmu, nI_add, nIsbL, nI_sub', decide_true, decide_false, Bool.false_or, Bool.or_false, rX3_leftOf_0, rX3_leftOf_1, rX3_leftOf_2, rX3_leftOf_3, rX3_leftOf_7, rX3_leftOf_10, rX3_leftOf_11, rX3_leftOf_13, rX3_leftOf_14, rX3_leftOf_18, rX3_leftOf_19, rX3_leftOf_22, rX3_leftOf_23, rX3_leftOf_24, rX3_leftOf_27, rX3_leftOf_28, rX3_leftOf_29, rX3_leftOf_31, rX3_leftOf_34, rX3_leftOf_37, rX3_leftOf_40, rX3_leftOf_41, rX3_leftOf_43, rX3_leftOf_44, rX3_leftOf_45, rX3_leftOf_46, rX3_leftOf_47, rX3_leftOf_50, rX3_leftOf_51, rX3_leftOf_54, rX3_leftOf_55, rX3_leftOf_57, rX3_leftOf_58, rX3_leftOf_60, rX3_leftOf_61, rX3_leftOf_62, rX3_leftOf_63, rX3_leftOf_64, rX3_leftOf_65, rX3_leftOf_66, rX3_leftOf_69, rX3_leftOf_70, rX3_leftOf_73, rX3_leftOf_74, rX3_leftOf_76, rX3_leftOf_78, rX3_leftOf_80, rX3_leftOf_83, rX3_leftOf_84, rX3_leftOf_85, rX3_leftOf_86, rX3_leftOf_89, rX3_leftOf_91, rX3_leftOf_92, rX3_leftOf_93, rX3_leftOf_95, rX3_leftOf_96, rX3_leftOf_97, rX3_leftOf_98, rX3_leftOf_101, rX3_leftOf_102, rX3_leftOf_105, rX3_leftOf_106, rX3_leftOf_107, rX3_leftOf_109, rX3_leftOf_110, rX3_leftOf_111, rX3_leftOf_112, rX3_leftOf_113, rX3_leftOf_114, rX3_leftOf_115, rX3_leftOf_117, rX3_leftOf_120, rX3_leftOf_123, rX3_leftOf_126, rX3_leftOf_127, mCl, mF0, mP0, mF1, mF2, mF3, mF4, mF5, mP5, mF6, mF7, mP7, mF8, mP8, mF9, mP9, mF10, mP10, mF11, mF12, mF13, mF14, mF15, mF16, mF17, mF18, mF19, mF20, mP20, mF21, mF22, mF23, mP23, mF24, mP24, mF25, mP25, mF26, mF27, mF28, mF29, mF30, mF31, mP31, mF32, mP32, mF33, mP33, mF34, mF35, mF36, mF37, mF38, mF39, mF40, mF41, mF42, mF43, mF44, mF45, mP45, mF46, mP46, mF47, mP47, mF48, mP48, mF49, mF50, mF51, mP51, mL1, mL1n, mC1, mW1, mL2, mL2n, mC2, mW2, mL3, mL3n, mC3, mW3, mL4, mL4n, mC4, mW4, mL5, mL5n, mC5, mW5, mL6, mL6n, mC6, mW6, mL7, mL7n, mC7, mW7, mL8, mL8n, mC8, mW8, mL9, mL9n, mC9, mW9, mL10, mL10n, mC10, mW10, mL11, mL11n, mC11, mW11, mL12, mL12n, mC12, mW12, mL13, mL13n, mC13, mW13, mL14, mL14n, mC14, mW14, mL15, mL15n, mC15, mW15, mL16, mL16n, mC16, mW16, mL17, mL17n, mC17, mW17, mL18, mL18n, mC18, mW18, mL19, mL19n, mC19, mW19, mL20, mL20n, mC20, mW20, mL21, mL21n, mC21, mW21, mL23, mL23n, mC23, mW23, mL24, mL24n, mC24, mW24, mL25, mL25n, mC25, mW25, mL26, mL26n, mC26, mW26, mL27, mL27n, mC27, mW27, mL28, mL28n, mC28, mW28, mL29, mL29n, mC29, mW29, mL30, mL30n, mC30, mW30, mL31, mL31n, mC31, mW31, mL32, mL32n, mC32, mW32, mL33, mL33n, mC33, mW33, mL34, mL34n, mC34, mW34, mL22, mC22, mW22, f1, f2, f3, f4, f5, f6, f7, f8, f9, kX3_isTwist hF0 hk hg hb, q1, e1, e2, h6, h7, Bool.not_false, Bool.not_true, Bool.false_eq_true, hen]
                exact this
              · have q5 : bt (ps F s b) b = false := by simpa using q2
                rw [q5] at e1
                have := ihb (.int 1) (.int 0) rfl rfl
                simp (disch := first | omega | decide) only [pis_i, pis_l, pis_r, pis_n, p1_i, p1_r, p1_n, p1_u, pw0, pw1, pw2, pw3, pw4, pK_v, pK_0, pK_ite, if_true, if_false, if_pos, if_neg, Nat.reduceAdd, pok_r, i10, i01, Bool.true_or, Bool.or_true, Bool.and_true, Bool.true_and, Nat.add_sub_cancel, i1p1, i1p0, i0p1, i0p0, nIrem2, va_rf_s, bit1, bit0, pinT, pinLT, pin0, nIc, nIcL, nIlt, nIeq, nIltL, nILlt, nIeqL, nILeq, nIadL, nILad, nILmu, nI_add, nIsbL, nI_sub', decide_true, decide_false, Bool.false_or, Bool.or_false, rX3_leftOf_0, rX3_leftOf_1, rX3_leftOf_2, rX3_leftOf_3, rX3_leftOf_7, rX3_leftOf_10, rX3_leftOf_11, rX3_leftOf_13, rX3_leftOf_14, rX3_leftOf_18, rX3_leftOf_19, rX3_leftOf_22, rX3_leftOf_23, rX3_leftOf_24, rX3_leftOf_27, rX3_leftOf_28, rX3_leftOf_29, rX3_leftOf_31, rX3_leftOf_34, rX3_leftOf_37, rX3_leftOf_40, rX3_leftOf_41, rX3_leftOf_43, rX3_leftOf_44, rX3_leftOf_45, rX3_leftOf_46, rX3_leftOf_47, rX3_leftOf_50, rX3_leftOf_51, rX3_leftOf_54, rX3_leftOf_55, rX3_leftOf_57, rX3_leftOf_58, rX3_leftOf_60, rX3_leftOf_61, rX3_leftOf_62, rX3_leftOf_63, rX3_leftOf_64, rX3_leftOf_65, rX3_leftOf_66, rX3_leftOf_69, rX3_leftOf_70, rX3_leftOf_73, rX3_leftOf_74, rX3_leftOf_76, rX3_leftOf_78, rX3_leftOf_80, rX3_leftOf_83, rX3_leftOf_84, rX3_leftOf_85, rX3_leftOf_86, rX3_leftOf_89, rX3_leftOf_91, rX3_leftOf_92, rX3_leftOf_93, rX3_leftOf_95, rX3_leftOf_96, rX3_leftOf_97, rX3_leftOf_98, rX3_leftOf_101, rX3_leftOf_102, rX3_leftOf_105, rX3_leftOf_106, rX3_leftOf_107, rX3_leftOf_109, rX3_leftOf_110, rX3_leftOf_111, rX3_leftOf_112, rX3_leftOf_113, rX3_leftOf_114, rX3_leftOf_115, rX3_leftOf_117, rX3_leftOf_120, rX3_leftOf_123, rX3_leftOf_126, rX3_leftOf_127, mCl, mF0, mP0, mF1, mF2, mF3, mF4, mF5, mP5, mF6, mF7, mP7, mF8, mP8, mF9, mP9, mF10, mP10, mF11, mF12, mF13, mF14, mF15, mF16, mF17, mF18, mF19, mF20, mP20, mF21, mF22, mF23, mP23, mF24, mP24, mF25, mP25, mF26, mF27, mF28, mF29, mF30, mF31, mP31, mF32, mP32, mF33, mP33, mF34, mF35, mF36, mF37, mF38, mF39, mF40, mF41, mF42, mF43, mF44, mF45, mP45, mF46, mP46, mF47, mP47, mF48, mP48, mF49, mF50, mF51, mP51, mL1, mL1n, mC1, mW1, mL2, mL2n, mC2, mW2, mL3, mL3n, mC3, mW3, mL4, mL4n, mC4, mW4, mL5, mL5n, mC5, mW5, mL6, mL6n, mC6, mW6, mL7, mL7n, mC7, mW7, mL8, mL8n, mC8, mW8, mL9, mL9n, mC9, mW9, mL10, mL10n, mC10, mW10, mL11, mL11n, mC11, mW11, mL12, mL12n, mC12, mW12, mL13, mL13n, mC13, mW13, mL14, mL14n, mC14, mW14, mL15, mL15n, mC15, mW15, mL16, mL16n, mC16, mW16, mL17, mL17n, mC17, mW17, mL18, mL18n, mC18, mW18, mL19, mL19n, mC19, mW19, mL20, mL20n, mC20, mW20, mL21, mL21n, mC21, mW21, mL23, mL23n, mC23, mW23, mL24, mL24n, mC24, mW24, mL25, mL25n, mC25, mW25, mL26, mL26n, mC26, mW26, mL27, mL27n, mC27, mW27, mL28, mL28n, mC28, mW28, mL29, mL29n, mC29, mW29, mL30, mL30n, mC30, mW30, mL31, mL31n, mC31, mW31, mL32, mL32n, mC32, mW32, mL33, mL33n, mC33, mW33, mL34, mL34n, mC34, mW34, mL22, mC22, mW22, f1, f2, f3, f4, f5, f6, f7, f8, f9, kX3_isTwist hF0 hk hg hb, q1, e1, e2, h6, h7, Bool.not_false, Bool.not_true, Bool.false_eq_true, hen]
                exact this
            · have hps : ps F s (b + 1) = ps F s b := by rw [ps, sx, if_neg (fun c => q3 c.2.2)]
              rw [hps] at ihb
              cases q4 : bt (ps F s b) (b + 1) <;> rw [q4] at q2 e2
              · have q5 : bt (ps F s b) b = true := by simpa using q2
                rw [q5] at e1
                have := ihb (.int 0) (.int 1) rfl rfl
                simp (disch := first | omega | decide) only [pis_i, pis_l, pis_r, pis_n, p1_i, p1_r, p1_n, p1_u, pw0, pw1, pw2, pw3, pw4, pK_v, pK_0, pK_ite, if_true, if_false, if_pos, if_neg, Nat.reduceAdd, pok_r, i10, i01, Bool.true_or, Bool.or_true, Bool.and_true, Bool.true_and, Nat.add_sub_cancel, i1p1, i1p0, i0p1, i0p0, nIrem2, va_rf_s, bit1, bit0, pinT, pinLT, pin0, nIc, nIcL, nIlt, nIeq, nIltL, nILlt, nIeqL, nILeq, nIadL, nILad, nILmu, nI_add, nIsbL, nI_sub', decide_true, decide_false, Bool.false_or, Bool.or_false, rX3_leftOf_0, rX3_leftOf_1, rX3_leftOf_2, rX3_leftOf_3, rX3_leftOf_7, rX3_leftOf_10, rX3_leftOf_11, rX3_leftOf_13, rX3_leftOf_14, rX3_leftOf_18, rX3_leftOf_19, rX3_leftOf_22, rX3_leftOf_23, rX3_leftOf_24, rX3_leftOf_27, rX3_leftOf_28, rX3_leftOf_29, rX3_leftOf_31, rX3_leftOf_34, rX3_leftOf_37, rX3_leftOf_40, rX3_leftOf_41, rX3_leftOf_43, rX3_leftOf_44, rX3_leftOf_45, rX3_leftOf_46, rX3_leftOf_47, rX3_leftOf_50, rX3_leftOf_51, rX3_leftOf_54, rX3_leftOf_55, rX3_leftOf_57, rX3_leftOf_58, rX3_leftOf_60, rX3_leftOf_61, rX3_leftOf_62, rX3_leftOf_63, rX3_leftOf_64, rX3_leftOf_65, rX3_leftOf_66, rX3_leftOf_69, rX3_leftOf_70, rX3_leftOf_73, rX3_leftOf_74, rX3_leftOf_76, rX3_leftOf_78, rX3_leftOf_80, rX3_leftOf_83, rX3_leftOf_84, rX3_leftOf_85, rX3_leftOf_86, rX3_leftOf_89, rX3_leftOf_91, rX3_leftOf_92, rX3_leftOf_93, rX3_leftOf_95, rX3_leftOf_96, rX3_leftOf_97, rX3_leftOf_98, rX3_leftOf_101, rX3_leftOf_102, rX3_leftOf_105, rX3_leftOf_106, rX3_leftOf_107, rX3_leftOf_109, rX3_leftOf_110, rX3_leftOf_111, rX3_leftOf_112, rX3_leftOf_113, rX3_leftOf_114, rX3_leftOf_115, rX3_leftOf_117, rX3_leftOf_120, rX3_leftOf_123, rX3_leftOf_126, rX3_leftOf_127, mCl, mF0, mP0, mF1, mF2, mF3, mF4, mF5, mP5, mF6, mF7, mP7, mF8, mP8, mF9, mP9, mF10, mP10, mF11, mF12, mF13, mF14, mF15, mF16, mF17, mF18, mF19, mF20, mP20, mF21, mF22, mF23, mP23, mF24, mP24, mF25, mP25, mF26, mF27, mF28, mF29, mF30, mF31, mP31, mF32, mP32, mF33, mP33, mF34, mF35, mF36, mF37, mF38, mF39, mF40, mF41, mF42, mF43, mF44, mF45, mP45, mF46, mP46, mF47, mP47, mF48, mP48, mF49, mF50, mF51, mP51, mL1, mL1n, mC1, mW1, mL2, mL2n, mC2, mW2, mL3, mL3n, mC3, mW3, mL4, mL4n, mC4, mW4, mL5, mL5n, mC5, mW5, mL6, mL6n, mC6, mW6, mL7, mL7n, mC7, mW7, mL8, mL8n, mC8, mW8, mL9, mL9n, mC9, mW9, mL10, mL10n, mC10, mW10, mL11, mL11n, mC11, mW11, mL12, mL12n, mC12, mW12, mL13, mL13n, mC13, mW13, mL14, mL14n, mC14, mW14, mL15, mL15n, mC15, mW15, mL16, mL16n, mC16, mW16, mL17, mL17n, mC17, mW17, mL18, mL18n, mC18, mW18, mL19, mL19n, mC19, mW19, mL20, mL20n, mC20, mW20, mL21, mL21n, mC21, mW21, mL23, mL23n, mC23, mW23, mL24, mL24n, mC24, mW24, mL25, mL25n, mC25, mW25, mL26, mL26n, mC26, mW26, mL27, mL27n, mC27, mW27, mL28, mL28n, mC28, mW28, mL29, mL29n, mC29, mW29, mL30, mL30n, mC30, mW30, mL31, mL31n, mC31, mW31, mL32, mL32n, mC32, mW32, mL33, mL33n, mC33, mW33, mL34, mL34n, mC34, mW34, mL22, mC22, mW22, f1, f2, f3, f4, f5, f6, f7, f8, f9, kX3_isTwist hF0 hk hg hb, q1, e1, e2, h6, h7, Bool.not_false, Bool.not_true, Bool.false_eq_true, hen]
                exact this
              · have q5 : bt (ps F s b) b = false := by simpa using q2
                rw [q5] at e1
                have := ihb (.int 1) (.int 0) rfl rfl
                simp (disch := first | omega | decide) only [pis_i, pis_l, pis_r, pis_n, p1_i, p1_r, p1_n, p1_u, pw0, pw1, pw2, pw3, pw4, pK_v, pK_0, pK_ite, if_true, if_false, if_pos, if_neg, Nat.reduceAdd, pok_r, i10, i01, Bool.true_or, Bool.or_true, Bool.and_true, Bool.true_and, Nat.add_sub_cancel, i1p1, i1p0, i0p1, i0p0, nIrem2, va_rf_s, bit1, bit0, pinT, pinLT, pin0, nIc, nIcL, nIlt, nIeq, nIltL, nILlt, nIeqL, nILeq, nIadL, nILad, nILmu, nI_add, nIsbL, nI_sub', decide_true, decide_false, Bool.false_or, Bool.or_false, rX3_leftOf_0, rX3_leftOf_1, rX3_leftOf_2, rX3_leftOf_3, rX3_leftOf_7, rX3_leftOf_10, rX3_leftOf_11, rX3_leftOf_13, rX3_leftOf_14, rX3_leftOf_18, rX3_leftOf_19, rX3_leftOf_22, rX3_leftOf_23, rX3_leftOf_24, rX3_leftOf_27, rX3_leftOf_28, rX3_leftOf_29, rX3_leftOf_31, rX3_leftOf_34, rX3_leftOf_37, rX3_leftOf_40, rX3_leftOf_41, rX3_leftOf_43, rX3_leftOf_44, rX3_leftOf_45, rX3_leftOf_46, rX3_leftOf_47, rX3_leftOf_50, rX3_leftOf_51, rX3_leftOf_54, rX3_leftOf_55, rX3_leftOf_57, rX3_leftOf_58, rX3_leftOf_60, rX3_leftOf_61, rX3_leftOf_62, rX3_leftOf_63, rX3_leftOf_64, rX3_leftOf_65, rX3_leftOf_66, rX3_leftOf_69, rX3_leftOf_70, rX3_leftOf_73, rX3_leftOf_74, rX3_leftOf_76, rX3_leftOf_78, rX3_leftOf_80, rX3_leftOf_83, rX3_leftOf_84, rX3_leftOf_85, rX3_leftOf_86, rX3_leftOf_89, rX3_leftOf_91, rX3_leftOf_92, rX3_leftOf_93, rX3_leftOf_95, rX3_leftOf_96, rX3_leftOf_97, rX3_leftOf_98, rX3_leftOf_101, rX3_leftOf_102, rX3_leftOf_105, rX3_leftOf_106, rX3_leftOf_107, rX3_leftOf_109, rX3_leftOf_110, rX3_leftOf_111, rX3_leftOf_112, rX3_leftOf_113, rX3_leftOf_114, rX3_leftOf_115, rX3_leftOf_117, rX3_leftOf_120, rX3_leftOf_123, rX3_leftOf_126, rX3_leftOf_127, mCl, mF0, mP0, mF1, mF2, mF3, mF4, mF5, mP5, mF6, mF7, mP7, mF8, mP8, mF9, mP9, mF10, mP10, mF11, mF12, mF13, mF14, mF15, mF16, mF17, mF18, mF19, mF20, mP20, mF21, mF22, mF23, mP23, mF24, mP24, mF25, mP25, mF26, mF27, mF28, mF29, mF30, mF31, mP31, mF32, mP32, mF33, mP33, mF34, mF35, mF36, mF37, mF38, mF39, mF40, mF41, mF42, mF43, mF44, mF45, mP45, mF46, mP46, mF47, mP47, mF48, mP48, mF49, mF50, mF51, mP51, mL1, mL1n, mC1, mW1, mL2, mL2n, mC2, mW2, mL3, mL3n, mC3, mW3, mL4, mL4n, mC4, mW4, mL5, mL5n, mC5, mW5, mL6, mL6n, mC6, mW6, mL7, mL7n, mC7, mW7, mL8, mL8n, mC8, mW8, mL9, mL9n, mC9, mW9, mL10, mL10n, mC10, mW10, mL11, mL11n, mC11, mW11, mL12, mL12n, mC12, mW12, mL13, mL13n, mC13, mW13, mL14, mL14n, mC14, mW14, mL15, mL15n, mC15, mW15, mL16, mL16n, mC16, mW16, mL17, mL17n, mC17, mW17, mL18, mL18n, mC18, mW18, mL19, mL19n, mC19, mW19, mL20, mL20n, mC20, mW20, mL21, mL21n, mC21, mW21, mL23, mL23n, mC23, mW23, mL24, mL24n, mC24, mW24, mL25, mL25n, mC25, mW25, mL26, mL26n, mC26, mW26, mL27, mL27n, mC27, mW27, mL28, mL28n, mC28, mW28, mL29, mL29n, mC29, mW29, mL30, mL30n, mC30, mW30, mL31, mL31n, mC31, mW31, mL32, mL32n, mC32, mW32, mL33, mL33n, mC33, mW33, mL34, mL34n, mC34, mW34, mL22, mC22, mW22, f1, f2, f3, f4, f5, f6, f7, f8, f9, kX3_isTwist hF0 hk hg hb, q1, e1, e2, h6, h7, Bool.not_false, Bool.not_true, Bool.false_eq_true, hen]
                exact this
        · have hps : ps F s (b + 1) = ps F s b := by rw [ps, sx, if_neg (fun c => q1 c.1)]
          rw [hps] at ihb
          have := ihb q6 q7 h6 h7
          simp (disch := first | omega | decide) only [pis_i, pis_l, pis_r, pis_n, p1_i, p1_r, p1_n, p1_u, pw0, pw1, pw2, pw3, pw4, pK_v, pK_0, pK_ite, if_true, if_false, if_pos, if_neg, Nat.reduceAdd, pok_r, i10, i01, Bool.true_or, Bool.or_true, Bool.and_true, Bool.true_and, Nat.add_sub_cancel, i1p1, i1p0, i0p1, i0p0, nIrem2, va_rf_s, bit1, bit0, pinT, pinLT, pin0, nIc, nIcL, nIlt, nIeq, nIltL, nILlt, nIeqL, nILeq, nIadL, nILad, nILmu, nI_add, nIsbL, nI_sub', decide_true, decide_false, Bool.false_or, Bool.or_false, rX3_leftOf_0, rX3_leftOf_1, rX3_leftOf_2, rX3_leftOf_3, rX3_leftOf_7, rX3_leftOf_10, rX3_leftOf_11, rX3_leftOf_13, rX3_leftOf_14, rX3_leftOf_18, rX3_leftOf_19, rX3_leftOf_22, rX3_leftOf_23, rX3_leftOf_24, rX3_leftOf_27, rX3_leftOf_28, rX3_leftOf_29, rX3_leftOf_31, rX3_leftOf_34, rX3_leftOf_37, rX3_leftOf_40, rX3_leftOf_41, rX3_leftOf_43, rX3_leftOf_44, rX3_leftOf_45, rX3_leftOf_46, rX3_leftOf_47, rX3_leftOf_50, rX3_leftOf_51, rX3_leftOf_54, rX3_leftOf_55, rX3_leftOf_57, rX3_leftOf_58, rX3_leftOf_60, rX3_leftOf_61, rX3_leftOf_62, rX3_leftOf_63, rX3_leftOf_64, rX3_leftOf_65, rX3_leftOf_66, rX3_leftOf_69, rX3_leftOf_70, rX3_leftOf_73, rX3_leftOf_74, rX3_leftOf_76, rX3_leftOf_78, rX3_leftOf_80, rX3_leftOf_83, rX3_leftOf_84, rX3_leftOf_85, rX3_leftOf_86, rX3_leftOf_89, rX3_leftOf_91, rX3_leftOf_92, rX3_leftOf_93, rX3_leftOf_95, rX3_leftOf_96, rX3_leftOf_97, rX3_leftOf_98, rX3_leftOf_101, rX3_leftOf_102, rX3_leftOf_105, rX3_leftOf_106, rX3_leftOf_107, rX3_leftOf_109, rX3_leftOf_110, rX3_leftOf_111, rX3_leftOf_112, rX3_leftOf_113, rX3_leftOf_114, rX3_leftOf_115, rX3_leftOf_117, rX3_leftOf_120, rX3_leftOf_123, rX3_leftOf_126, rX3_leftOf_127, mCl, mF0, mP0, mF1, mF2, mF3, mF4, mF5, mP5, mF6, mF7, mP7, mF8, mP8, mF9, mP9, mF10, mP10, mF11, mF12, mF13, mF14, mF15, mF16, mF17, mF18, mF19, mF20, mP20, mF21, mF22, mF23, mP23, mF24, mP24, mF25, mP25, mF26, mF27, mF28, mF29, mF30, mF31, mP31, mF32, mP32, mF33, mP33, mF34, mF35, mF36, mF37, mF38, mF39, mF40, mF41, mF42, mF43, mF44, mF45, mP45, mF46, mP46, mF47, mP47, mF48, mP48, mF49, mF50, mF51, mP51, mL1, mL1n, mC1, mW1, mL2, mL2n, mC2, mW2, mL3, mL3n, mC3, mW3, mL4, mL4n, mC4, mW4, mL5, mL5n, mC5, mW5, mL6, mL6n, mC6, mW6, mL7, mL7n, mC7, mW7, mL8, mL8n, mC8, mW8, mL9, mL9n, mC9, mW9, mL10, mL10n, mC10, mW10, mL11, mL11n, mC11, mW11, mL12, mL12n, mC12, mW12, mL13, mL13n, mC13, mW13, mL14, mL14n, mC14, mW14, mL15, mL15n, mC15, mW15, mL16, mL16n, mC16, mW16, mL17, mL17n, mC17, mW17, mL18, mL18n, mC18, mW18, mL19, mL19n, mC19, mW19, mL20, mL20n, mC20, mW20, mL21, mL21n, mC21, mW21, mL23, mL23n, mC23, mW23, mL24, mL24n, mC24, mW24, mL25, mL25n, mC25, mW25, mL26, mL26n, mC26, mW26, mL27, mL27n, mC27, mW27, mL28, mL28n, mC28, mW28, mL29, mL29n, mC29, mW29, mL30, mL30n, mC30, mW30, mL31, mL31n, mC31, mW31, mL32, mL32n, mC32, mW32, mL33, mL33n, mC33, mW33, mL34, mL34n, mC34, mW34, mL22, mC22, mW22, f1, kX3_isTwist hF0 hk hg hb, q1]
          exact this
      · rw [rX3_leftOf_16]
        simp (disch := first | omega | decide) only [pis_i, pis_l, pis_r, pis_n, p1_i, p1_r, p1_n, p1_u, pw0, pw1, pw2, pw3, pw4, pK_v, pK_0, pK_ite, if_true, if_false, if_pos, if_neg, Nat.reduceAdd, pok_r, i10, i01, Bool.true_or, Bool.or_true, Bool.and_true, Bool.true_and, Nat.add_sub_cancel, i1p1, i1p0, i0p1, i0p0, nIrem2, va_rf_s, bit1, bit0, pinT, pinLT, pin0, nIc, nIcL, nIlt, nIeq, nIltL, nILlt, nIeqL, nILeq, nIadL, nILad, nILmu, nI_add, nIsbL, nI_sub', decide_true, decide_false, Bool.false_or, Bool.or_false, rX3_leftOf_0, rX3_leftOf_1, rX3_leftOf_2, rX3_leftOf_3, rX3_leftOf_7, rX3_leftOf_10, rX3_leftOf_11, rX3_leftOf_13, rX3_leftOf_14, rX3_leftOf_18, rX3_leftOf_19, rX3_leftOf_22, rX3_leftOf_23, rX3_leftOf_24, rX3_leftOf_27, rX3_leftOf_28, rX3_leftOf_29, rX3_leftOf_31, rX3_leftOf_34, rX3_leftOf_37, rX3_leftOf_40, rX3_leftOf_41, rX3_leftOf_43, rX3_leftOf_44, rX3_leftOf_45, rX3_leftOf_46, rX3_leftOf_47, rX3_leftOf_50, rX3_leftOf_51, rX3_leftOf_54, rX3_leftOf_55, rX3_leftOf_57, rX3_leftOf_58, rX3_leftOf_60, rX3_leftOf_61, rX3_leftOf_62, rX3_leftOf_63, rX3_leftOf_64, rX3_leftOf_65, rX3_leftOf_66, rX3_leftOf_69, rX3_leftOf_70, rX3_leftOf_73, rX3_leftOf_74, rX3_leftOf_76, rX3_leftOf_78, rX3_leftOf_80, rX3_leftOf_83, rX3_leftOf_84, rX3_leftOf_85, rX3_leftOf_86, rX3_leftOf_89, rX3_leftOf_91, rX3_leftOf_92, rX3_leftOf_93, rX3_leftOf_95, rX3_leftOf_96, rX3_leftOf_97, rX3_leftOf_98, rX3_leftOf_101, rX3_leftOf_102, rX3_leftOf_105, rX3_leftOf_106, rX3_leftOf_107, rX3_leftOf_109, rX3_leftOf_110, rX3_leftOf_111, rX3_leftOf_112, rX3_leftOf_113, rX3_leftOf_114, rX3_leftOf_115, rX3_leftOf_117, rX3_leftOf_120, rX3_leftOf_123, rX3_leftOf_126, rX3_leftOf_127, mCl, mF0, mP0, mF1, mF2, mF3, mF4, mF5, mP5, mF6, mF7, mP7, mF8, mP8, mF9, mP9, mF10, mP10, mF11, mF12, mF13, mF14, mF15, mF16, mF17, mF18, mF19, mF20, mP20, mF21, mF22, mF23, mP23, mF24, mP24, mF25, mP25, mF26, mF27, mF28, mF29, mF30, mF31, mP31, mF32, mP32, mF33, mP33, mF34, mF35, mF36, mF37, mF38, mF39, mF40, mF41, mF42, mF43, mF44, mF45, mP45, mF46, mP46, mF47, mP47, mF48, mP48, mF49, mF50, mF51, mP51, mL1, mL1n, mC1, mW1, mL2, mL2n, mC2, mW2, mL3, mL3n, mC3, mW3, mL4, mL4n, mC4, mW4, mL5, mL5n, mC5, mW5, mL6, mL6n, mC6, mW6, mL7, mL7n, mC7, mW7, mL8, mL8n, mC8, mW8, mL9, mL9n, mC9, mW9, mL10, mL10n, mC10, mW10, mL11, mL11n, mC11, mW11, mL12, mL12n, mC12, mW12, mL13, mL13n, mC13, mW13, mL14, mL14n, mC14, mW14, mL15, mL15n, mC15, mW15, mL16, mL16n, mC16, mW16, mL17, mL17n, mC17, mW17, mL18, mL18n, mC18, mW18, mL19, mL19n, mC19, mW19, mL20, mL20n, mC20, mW20, mL21, mL21n, mC21, mW21, mL23, mL23n, mC23, mW23, mL24, mL24n, mC24, mW24, mL25, mL25n, mC25, mW25, mL26, mL26n, mC26, mW26, mL27, mL27n, mC27, mW27, mL28, mL28n, mC28, mW28, mL29, mL29n, mC29, mW29, mL30, mL30n, mC30, mW30, mL31, mL31n, mC31, mW31, mL32, mL32n, mC32, mW32, mL33, mL33n, mC33, mW33, mL34, mL34n, mC34, mW34, mL22, mC22, mW22, f1]
        rw [fx]
        by_cases he : ps F s (F.1 0) = s
        · rw [if_pos he, if_pos he, he, rX3_leftOf_5]
          simp (disch := first | omega | decide) only [pis_i, pis_l, pis_r, pis_n, p1_i, p1_r, p1_n, p1_u, pw0, pw1, pw2, pw3, pw4, pK_v, pK_0, pK_ite, if_true, if_false, if_pos, if_neg, Nat.reduceAdd, pok_r, i10, i01, Bool.true_or, Bool.or_true, Bool.and_true, Bool.true_and, rX3_leftOf_0, rX3_leftOf_1, rX3_leftOf_2, rX3_leftOf_3, rX3_leftOf_7, rX3_leftOf_10, rX3_leftOf_11, rX3_leftOf_13, rX3_leftOf_14, rX3_leftOf_18, rX3_leftOf_19, rX3_leftOf_22, rX3_leftOf_23, rX3_leftOf_24, rX3_leftOf_27, rX3_leftOf_28, rX3_leftOf_29, rX3_leftOf_31, rX3_leftOf_34, rX3_leftOf_37, rX3_leftOf_40, rX3_leftOf_41, rX3_leftOf_43, rX3_leftOf_44, rX3_leftOf_45, rX3_leftOf_46, rX3_leftOf_47, rX3_leftOf_50, rX3_leftOf_51, rX3_leftOf_54, rX3_leftOf_55, rX3_leftOf_57, rX3_leftOf_58, rX3_leftOf_60, rX3_leftOf_61, rX3_leftOf_62, rX3_leftOf_63, rX3_leftOf_64, rX3_leftOf_65, rX3_leftOf_66, rX3_leftOf_69, rX3_leftOf_70, rX3_leftOf_73, rX3_leftOf_74, rX3_leftOf_76, rX3_leftOf_78, rX3_leftOf_80, rX3_leftOf_83, rX3_leftOf_84, rX3_leftOf_85, rX3_leftOf_86, rX3_leftOf_89, rX3_leftOf_91, rX3_leftOf_92, rX3_leftOf_93, rX3_leftOf_95, rX3_leftOf_96, rX3_leftOf_97, rX3_leftOf_98, rX3_leftOf_101, rX3_leftOf_102, rX3_leftOf_105, rX3_leftOf_106, rX3_leftOf_107, rX3_leftOf_109, rX3_leftOf_110, rX3_leftOf_111, rX3_leftOf_112, rX3_leftOf_113, rX3_leftOf_114, rX3_leftOf_115, rX3_leftOf_117, rX3_leftOf_120, rX3_leftOf_123, rX3_leftOf_126, rX3_leftOf_127]
        · rw [if_neg he, if_neg he]
          refine ih _ _ _ _ rfl h6 h7 (ps_in hk hin _) ?_
          have := ct_ne (show F.1 0 ≤ 32 by omega) (ps_sub (F := F) (s := s) (F.1 0)) hin (ps_in hk hin _) (fun e => he e.symm)
          have := fb_ct_le (bt (ps F s (F.1 0))) (F.1 0)
          omega
  rw [eX3_leftOf]
  simp (disch := first | omega | decide) only [pis_i, pis_l, pis_r, pis_n, p1_i, p1_r, p1_n, p1_u, pw0, pw1, pw2, pw3, pw4, pK_v, pK_0, pK_ite, if_true, if_false, if_pos, if_neg, Nat.reduceAdd, pok_r, i10, i01, Bool.true_or, Bool.or_true, Bool.and_true, Bool.true_and, rX3_leftOf_0, rX3_leftOf_1, rX3_leftOf_2, rX3_leftOf_3, rX3_leftOf_7, rX3_leftOf_10, rX3_leftOf_11, rX3_leftOf_13, rX3_leftOf_14, rX3_leftOf_18, rX3_leftOf_19, rX3_leftOf_22, rX3_leftOf_23, rX3_leftOf_24, rX3_leftOf_27, rX3_leftOf_28, rX3_leftOf_29, rX3_leftOf_31, rX3_leftOf_34, rX3_leftOf_37, rX3_leftOf_40, rX3_leftOf_41, rX3_leftOf_43, rX3_leftOf_44, rX3_leftOf_45, rX3_leftOf_46, rX3_leftOf_47, rX3_leftOf_50, rX3_leftOf_51, rX3_leftOf_54, rX3_leftOf_55, rX3_leftOf_57, rX3_leftOf_58, rX3_leftOf_60, rX3_leftOf_61, rX3_leftOf_62, rX3_leftOf_63, rX3_leftOf_64, rX3_leftOf_65, rX3_leftOf_66, rX3_leftOf_69, rX3_leftOf_70, rX3_leftOf_73, rX3_leftOf_74, rX3_leftOf_76, rX3_leftOf_78, rX3_leftOf_80, rX3_leftOf_83, rX3_leftOf_84, rX3_leftOf_85, rX3_leftOf_86, rX3_leftOf_89, rX3_leftOf_91, rX3_leftOf_92, rX3_leftOf_93, rX3_leftOf_95, rX3_leftOf_96, rX3_leftOf_97, rX3_leftOf_98, rX3_leftOf_101, rX3_leftOf_102, rX3_leftOf_105, rX3_leftOf_106, rX3_leftOf_107, rX3_leftOf_109, rX3_leftOf_110, rX3_leftOf_111, rX3_leftOf_112, rX3_leftOf_113, rX3_leftOf_114, rX3_leftOf_115, rX3_leftOf_117, rX3_leftOf_120, rX3_leftOf_123, rX3_leftOf_126, rX3_leftOf_127]
  exact outer 25 L _ _ _ rfl rfl rfl hL (by omega)
end
