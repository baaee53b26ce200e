/-! READING 7: moves made by the component's Hand -/
set_option maxRecDepth 100000
/-- what holds of a hand that reads -/
structure HdR (N : Nat) (H : Hd) : Prop where
  k : HdOk H
  e : H.np = H.nb + H.nl
  l : 0 < H.nl
  w : H.wh < H.np
  m : ∀ k, k + 1 < H.nb → H.ba k ≤ H.ba (k + 1)
  j : ∀ k, k + 1 < H.nb → H.ba k = H.ba (k + 1) → H.tq k = H.fr (k + 1)
  z : 0 < H.nb → H.ba (H.nb - 1) = H.nl - 1 → H.tq (H.nb - 1) = H.wh
  s : ∀ b, b < H.nl → H.so b < N
section
variable {H : Hd} {N : Nat}
theorem HdOk.joi (hk : HdOk H) {p q : Nat} (hp : p < H.np) (hq : q < H.np) : HdOk (H.joi p q) := by
  obtain ⟨a1, a2, a3, a4, a5, a6, a7⟩ := hk
  refine ⟨fun r hr => ?_, a2, a3, a4, a5, a6, a7⟩
  have hr : r < H.np := hr
  show un H.jo _ _ r ≤ r
  by_cases e : r = max (ro H.jo p) (ro H.jo q)
  · subst e; rw [un_s]; omega
  · rw [un_c e]; exact a1 r hr
theorem HdR.joi (hk : HdR N H) {p q : Nat} (hp : p < H.np) (hq : q < H.np) : HdR N (H.joi p q) := ⟨hk.k.joi hp hq, hk.e, hk.l, hk.w, hk.m, hk.j, hk.z, hk.s⟩
theorem HdR.nam (hk : HdR N H) {w : Nat} (hw : w < 8) : HdR N (H.nam w) := by
  unfold Hd.nam
  cases e : H.na w with
  | none =>
    obtain ⟨⟨a1, a2, a3, a4, a5, a6, a7⟩, b1, b2, b3, b4, b5, b6, b7⟩ := hk
    refine ⟨⟨a1, a2, a3, a4, a5, a6, fun v p hv hp => ?_⟩, b1, b2, b3, b4, b5, b6, b7⟩
    have hp : uo H.na w (some H.wh) v = some p := hp
    by_cases e2 : v = w
    · subst e2; simp only [uo, if_pos] at hp; cases hp; exact b3
    · simp only [uo, if_neg e2] at hp; exact a7 v p hv hp
  | some p => exact hk.joi (hk.k.a w p hw e) hk.w
theorem HdOk.pnt (hk : HdOk H) (hn : H.np < 32) : HdOk H.pnt := by
  obtain ⟨a1, a2, a3, a4, a5, a6, a7⟩ := hk
  refine ⟨fun r hr => ?_, hn, a3, a4, a5, fun k hk => ?_, fun w p hw e => ?_⟩
  · have hr : r < H.np + 1 := hr
    show un H.jo H.np H.np r ≤ r
    by_cases e : r = H.np
    · subst e; rw [un_s]; exact Nat.le_refl _
    · rw [un_c e]; exact a1 r (by omega)
  · obtain ⟨f1, f2, f3⟩ := a6 k hk
    exact ⟨Nat.lt_succ_of_lt f1, Nat.lt_succ_of_lt f2, f3⟩
  · exact Nat.lt_succ_of_lt (a7 w p hw e)
theorem HdR.blo (hk : HdR N H) (hb : H.nb < 24) {l : Int32} : HdR N (H.blo l) := by
  obtain ⟨a, b1, b2, b3, b4, b5, b6, b7⟩ := hk
  have hl := a.l
  have hp := a.pnt (by omega)
  have h1 : H.wh < H.pnt.np := Nat.lt_succ_of_lt b3
  have h2 : H.np < H.pnt.np := Nat.lt_succ_self _
  have h3 : H.nl - 1 < H.pnt.nl := by show H.nl - 1 < H.nl; omega
  have hA := hp.add (l := l) hb h1 h2 h3
  have n1 : (H.blo l).nb = H.nb + 1 := rfl
  have n2 : (H.blo l).np = H.np + 1 := rfl
  have n3 : (H.blo l).nl = H.nl := rfl
  have n4 : (H.blo l).wh = H.np := rfl
  have n5 : ∀ k, (H.blo l).ba k = if k = H.nb then H.nl - 1 else H.ba k := fun k => rfl
  have n6 : ∀ k, (H.blo l).tq k = if k = H.nb then H.np else H.tq k := fun k => rfl
  have n7 : ∀ k, (H.blo l).fr k = if k = H.nb then H.wh else H.fr k := fun k => rfl
  refine ⟨⟨hA.j, hA.n, hA.b, hA.l, hA.m, hA.f, hA.a⟩, by rw [n1, n2, n3]; omega, b2, by rw [n4, n2]; omega, fun k hk => ?_, fun k hk e => ?_, fun _ _ => ?_, b7⟩
  · rw [n1] at hk
    rw [n5, n5, if_neg (by omega)]
    by_cases e : k + 1 = H.nb
    · rw [if_pos e]; have := (a.f k (by omega)).2.2; omega
    · rw [if_neg e]; exact b4 k (by omega)
  · rw [n1] at hk
    rw [n5, n5, if_neg (by omega)] at e
    rw [n6, n7, if_neg (by omega)]
    by_cases e2 : k + 1 = H.nb
    · rw [if_pos e2] at e ⊢
      have := b6 (by omega) (by rw [show H.nb - 1 = k by omega]; exact e)
      rw [show H.nb - 1 = k by omega] at this
      exact this
    · rw [if_neg e2] at e ⊢
      exact b5 k (by omega) e
  · rw [n1, n4, n6, Nat.add_sub_cancel, if_pos rfl]
theorem HdR_beg (hk : HdOk H) (e : H.np = H.nb + H.nl) (hl : H.nl < 6) (hm : ∀ k, k + 1 < H.nb → H.ba k ≤ H.ba (k + 1)) (hj : ∀ k, k + 1 < H.nb → H.ba k = H.ba (k + 1) → H.tq k = H.fr (k + 1)) (hs : ∀ b, b < H.nl → H.so b < N) {s : Nat} (h0 : s < N) : HdR N (H.beg s) := by
  have hb := hk.b
  have hp := hk.pnt (by omega)
  refine ⟨⟨hp.j, hp.n, hp.b, ?_, hp.m, fun k hk' => ?_, hp.a⟩, ?_, Nat.succ_pos _, Nat.lt_succ_self _, hm, hj, fun h0 h1 => ?_, fun b hb' => ?_⟩
  · show H.nl + 1 ≤ 6; omega
  · obtain ⟨f1, f2, f3⟩ := hp.f k hk'
    exact ⟨f1, f2, Nat.lt_succ_of_lt f3⟩
  · show H.np + 1 = H.nb + (H.nl + 1); omega
  · have h0 : 0 < H.nb := h0
    have h1 : H.ba (H.nb - 1) = H.nl + 1 - 1 := h1
    have := (hk.f (H.nb - 1) (by omega)).2.2
    omega
  · have hb' : b < H.nl + 1 := hb'
    show un H.so H.nl s b < N
    by_cases e2 : b = H.nl
    · subst e2; rw [un_s]; exact h0
    · rw [un_c e2]; exact hs b (by omega)
end
theorem wcell_r {o j : Nat} {W : WS} {cl : Nat} {l : List Value} (hj : j < 8) (h : wcell o W j = some (.inr (cl, l))) : cl = 23 := by
  match j, hj with
  | 0, _ => cases h; rfl
  | 1, _ => cases h
  | 2, _ => cases h
  | 3, _ => cases h
  | 4, _ => cases h
  | 5, _ => cases h
  | 6, _ => cases h
  | 7, _ => cases h
theorem ch_out {g : pH} {o q cl : Nat} {W : WS} {l : List Value} (h : (wput g o W).1 q = some (.inr (cl, l))) (hc : cl ≠ 23) : g.1 q = some (.inr (cl, l)) ∧ (q < o ∨ o + 8 ≤ q) := by
  by_cases e : o ≤ q ∧ q < o + 8
  · exfalso
    obtain ⟨j, rfl⟩ : ∃ j, q = o + j := ⟨q - o, by omega⟩
    rw [wput_at (by omega)] at h
    exact hc (wcell_r (by omega) h)
  · have e2 : q < o ∨ o + 8 ≤ q := by omega
    rw [wput_out e2] at h
    exact ⟨h, e2⟩
theorem ch_in {g : pH} {o q : Nat} {W : WS} {c : va_E} (h : g.1 q = some c) (e : q < o ∨ o + 8 ≤ q) : (wput g o W).1 q = some c := by rw [wput_out e]; exact h
section
variable {g : pH} {o d N : Nat} {H : Hd}
theorem kX23_blows (hk : HdR N H) (hb : H.nb < 24) {l : Int32} : pCa 220 (d + 4) [.ref o, .int l] (wput g o (wOf H)) = some (.inl none, wput g o (wOf (H.blo l))) := by
  obtain ⟨a, b1, b2, b3, b4, b5, b6, b7⟩ := hk
  have hl := a.l
  have hp := a.pnt (by omega)
  have hA := kX23_adds (d := d) (h := g) (o := o) hp (l := l) hb (show H.wh < H.pnt.np from Nat.lt_succ_of_lt b3) (show H.np < H.pnt.np from Nat.lt_succ_self _) (show H.nl - 1 < H.pnt.nl by show H.nl - 1 < H.nl; omega)
  have ew : wOf { H.pnt.add l H.wh H.np (H.nl - 1) with wh := H.np } = wOf (H.blo l) := rfl
  have e7 : H.pnt.wh = H.wh := rfl
  have e8 : H.pnt.nl = H.nl := rfl
  rw [eX23_blows]
  simp (disch := first | assumption | omega | decide) only [pis_i, pis_l, pis_r, pis_n, p1_i, p1_r, p1_n, p1_u, pw0, pw1, pw2, pw3, pw4, pK_v, pK_0, pK_ite, if_true, if_false, if_pos, if_neg, Nat.reduceAdd, pok_r, i10, i01, Bool.true_or, Bool.or_true, Bool.and_true, Bool.true_and, Nat.add_sub_cancel, i1p1, i1p0, i0p1, i0p0, nIrem2, va_rf_s, bit1, bit0, pinT, pinLT, pin0, nIc, nIcL, nIlt, nIeq, nIltL, nILlt, nIeqL, nILeq, nIadL, nILad, nILmu, nI_add, nIsbL, nI_sub', decide_true, decide_false, Bool.false_or, Bool.or_false, rX23_blows_0, rX23_blows_1, rX23_blows_4, rX23_blows_5, rX23_blows_6, rX23_blows_7, rX23_blows_8, rX23_blows_11, rX23_blows_12, rX23_blows_13, rX23_blows_16, rX23_blows_17, rX23_blows_18, rX23_blows_21, rX23_blows_22, rX23_blows_23, rX23_blows_26, wCl, wF0, wF1, wF2, wF3, wF4, wF5, wF6, wF7, wP7, wF8, wP8, wF9, wP9, wF10, wP10, wF11, wP11, wL1, wL1n, wC1, wW1, wL2, wL2n, wC2, wW2, wL3, wL3n, wC3, wW3, wL4, wL4n, wC4, wW4, wL5, wL5n, wC5, wW5, wL6, wL6n, wC6, wW6, wL7, wL7n, wC7, wW7, kX23_point (show H.np < 32 by omega), wo7, wo10, e7, e8, hA, wu7, ew]
theorem kX23_begins (hn : H.np < 32) (hl : H.nl < 6) {s : Nat} : pCa 226 (d + 1) [.ref o, .int (nI s)] (wput g o (wOf H)) = some (.inl none, wput g o (wOf (H.beg s))) := by
  have ew : wOf { jo := H.pnt.jo, na := H.pnt.na, fr := H.pnt.fr, tq := H.pnt.tq, le := H.pnt.le, ba := H.pnt.ba, so := un H.pnt.so H.nl s, wh := H.np, np := H.pnt.np, nb := H.pnt.nb, nl := H.nl + 1, mo := H.pnt.mo } = wOf (H.beg s) := rfl
  have e8 : H.pnt.nl = H.nl := rfl
  rw [eX23_begins]
  simp (disch := first | assumption | omega | decide) only [pis_i, pis_l, pis_r, pis_n, p1_i, p1_r, p1_n, p1_u, pw0, pw1, pw2, pw3, pw4, pK_v, pK_0, pK_ite, if_true, if_false, if_pos, if_neg, Nat.reduceAdd, pok_r, i10, i01, Bool.true_or, Bool.or_true, Bool.and_true, Bool.true_and, Nat.add_sub_cancel, i1p1, i1p0, i0p1, i0p0, nIrem2, va_rf_s, bit1, bit0, pinT, pinLT, pin0, nIc, nIcL, nIlt, nIeq, nIltL, nILlt, nIeqL, nILeq, nIadL, nILad, nILmu, nI_add, nIsbL, nI_sub', decide_true, decide_false, Bool.false_or, Bool.or_false, rX23_begins_0, rX23_begins_1, rX23_begins_2, rX23_begins_5, rX23_begins_8, rX23_begins_9, rX23_begins_12, rX23_begins_13, rX23_begins_16, rX23_begins_17, rX23_begins_18, rX23_begins_19, rX23_begins_19i, rX23_begins_20, rX23_begins_23, rX23_begins_24, rX23_begins_25, rX23_begins_28, wCl, wF0, wF1, wF2, wF3, wF4, wF5, wF6, wF7, wP7, wF8, wP8, wF9, wP9, wF10, wP10, wF11, wP11, wL1, wL1n, wC1, wW1, wL2, wL2n, wC2, wW2, wL3, wL3n, wC3, wW3, wL4, wL4n, wC4, wW4, wL5, wL5n, wC5, wW5, wL6, wL6n, wC6, wW6, wL7, wL7n, wC7, wW7, kX23_point hn, wu7, wo10, e8, wv7, wu10, ew]
theorem nO_eq {v : Option Nat} (h : ∀ p, v = some p → p < 1000) : (nO v = -1) = (v = none) := by
  cases v with
  | none => simp [nO]
  | some p =>
    have hp := h p rfl
    simp only [nO, reduceCtorEq, eq_iff_iff, iff_false]
    intro e
    have e1 := congrArg Int32.toInt e
    have e2 : (nI p).toInt = p := Int32.toInt_ofNat_of_lt (by show p < 2147483648; omega)
    rw [e2, show (-1 : Int32).toInt = -1 from rfl] at e1
    omega
theorem kX10_made (hk : HdR N H) {w q : Nat} {e : Option Nat} (hw : w < 8) (hc : g.1 q = some (.inr (10, [va_rf e, .int (nI w)]))) (hq : q < o ∨ o + 8 ≤ q) : pCa 188 (d + 5) [.ref q, .ref o] (wput g o (wOf H)) = some (.inl none, wput g o (wOf (H.nam w))) := by
  have f1 : ∀ W, pfl (wput g o W) 10 q 1 = .int (nI w) := fun W => pfl_of (ch_in hc hq) rfl rfl
  have hn := hk.k.n
  have hww := hk.w
  have hne := nO_eq (v := H.na w) (fun p hp => by have := hk.k.a w p hw hp; omega)
  rw [eX10_made]
  cases ev : H.na w with
  | none =>
    rw [ev] at hne
    have en : nO none = -1 := rfl
    have em : H.nam w = { H with na := uo H.na w (some H.wh) } := by unfold Hd.nam; rw [ev]
    rw [em]
    simp (disch := first | assumption | omega | decide) only [pis_i, pis_l, pis_r, pis_n, p1_i, p1_r, p1_n, p1_u, pw0, pw1, pw2, pw3, pw4, pK_v, pK_0, pK_ite, if_true, if_false, if_pos, if_neg, Nat.reduceAdd, pok_r, i10, i01, Bool.true_or, Bool.or_true, Bool.and_true, Bool.true_and, Nat.add_sub_cancel, i1p1, i1p0, i0p1, i0p0, nIrem2, va_rf_s, bit1, bit0, pinT, pinLT, pin0, nIc, nIcL, nIlt, nIeq, nIltL, nILlt, nIeqL, nILeq, nIadL, nILad, nILmu, nI_add, nIsbL, nI_sub', decide_true, decide_false, Bool.false_or, Bool.or_false, rX10_made_0, rX10_made_0n, rX10_made_1, rX10_made_4, rX10_made_5, rX10_made_8, rX10_made_9, rX10_made_10, rX10_made_13, rX10_made_13n, rX10_made_14, rX10_made_17, rX10_made_18, rX10_made_21, rX10_made_21n, rX10_made_22, rX10_made_25, rX10_made_26, rX10_made_29, rX10_made_29n, rX10_made_30, rX10_made_30n, rX10_made_31, rX10_made_34, rX10_made_35, rX10_made_38, rX10_made_39, rX10_made_39n, rX10_made_40, rX10_made_43, rX10_made_46, wCl, wF0, wF1, wF2, wF3, wF4, wF5, wF6, wF7, wP7, wF8, wP8, wF9, wP9, wF10, wP10, wF11, wP11, wL1, wL1n, wC1, wW1, wL2, wL2n, wC2, wW2, wL3, wL3n, wC3, wW3, wL4, wL4n, wC4, wW4, wL5, wL5n, wC5, wW5, wL6, wL6n, wC6, wW6, wL7, wL7n, wC7, wW7, f1, wa2, ev, en, wo7, wv2]
  | some p =>
    rw [ev] at hne
    have en : ¬ nO (some p) = -1 := by rw [hne]; simp
    have hp := hk.k.a w p hw ev
    have em : H.nam w = H.joi p H.wh := by unfold Hd.nam; rw [ev]
    rw [em]
    have en2 : nO (some p) = nI p := rfl
    have en3 : ¬ nI p = -1 := by rw [← en2]; exact en
    simp (disch := first | assumption | omega | decide) only [pis_i, pis_l, pis_r, pis_n, p1_i, p1_r, p1_n, p1_u, pw0, pw1, pw2, pw3, pw4, pK_v, pK_0, pK_ite, if_true, if_false, if_pos, if_neg, Nat.reduceAdd, pok_r, i10, i01, Bool.true_or, Bool.or_true, Bool.and_true, Bool.true_and, Nat.add_sub_cancel, i1p1, i1p0, i0p1, i0p0, nIrem2, va_rf_s, bit1, bit0, pinT, pinLT, pin0, nIc, nIcL, nIlt, nIeq, nIltL, nILlt, nIeqL, nILeq, nIadL, nILad, nILmu, nI_add, nIsbL, nI_sub', decide_true, decide_false, Bool.false_or, Bool.or_false, rX10_made_0, rX10_made_0n, rX10_made_1, rX10_made_4, rX10_made_5, rX10_made_8, rX10_made_9, rX10_made_10, rX10_made_13, rX10_made_13n, rX10_made_14, rX10_made_17, rX10_made_18, rX10_made_21, rX10_made_21n, rX10_made_22, rX10_made_25, rX10_made_26, rX10_made_29, rX10_made_29n, rX10_made_30, rX10_made_30n, rX10_made_31, rX10_made_34, rX10_made_35, rX10_made_38, rX10_made_39, rX10_made_39n, rX10_made_40, rX10_made_43, rX10_made_46, wCl, wF0, wF1, wF2, wF3, wF4, wF5, wF6, wF7, wP7, wF8, wP8, wF9, wP9, wF10, wP10, wF11, wP11, wL1, wL1n, wC1, wW1, wL2, wL2n, wC2, wW2, wL3, wL3n, wC3, wW3, wL4, wL4n, wC4, wW4, wL5, wL5n, wC5, wW5, wL6, wL6n, wC6, wW6, wL7, wL7n, wC7, wW7, f1, wa2, ev, en2, en3, wo7, kX23_joins hk.k hp hww]
/-- all moves of a chain -/
theorem all_l {W0 : WS} : ∀ c k d e (a0 : Nat) H, gd c k → Ch (wput g o W0) c e → HdR N H → H.nb + bc c ≤ 24 → pR 184 (d + 7 + 2 * k) 2 [.ref a0, .ref o, va_rf e] [] (wput g o (wOf H)) = some (.inl none, wput g o (wOf (ex c H))) ∧ HdR N (ex c H) ∧ (ex c H).nb = H.nb + bc c ∧ (ex c H).nl = H.nl := by
  intro c
  induction c with
  | nil =>
    intro k d e a0 H hg hC hk hb
    have hC : e = none := hC
    subst hC
    refine ⟨?_, hk, rfl, rfl⟩
    rw [va_rf_n, rX8_all_2n]
    simp (disch := first | assumption | omega | decide) only [pis_i, pis_l, pis_r, pis_n, p1_i, p1_r, p1_n, p1_u, pw0, pw1, pw2, pw3, pw4, pK_v, pK_0, pK_ite, if_true, if_false, if_pos, if_neg, Nat.reduceAdd, pok_r, i10, i01, Bool.true_or, Bool.or_true, Bool.and_true, Bool.true_and, rX8_all_0, rX8_all_1, rX8_all_1n, rX8_all_3n, rX8_all_3, rX8_all_6, rX8_all_6n, rX8_all_7, rX8_all_7n, rX8_all_8c9, rX8_all_8c10, rX8_all_8c11, rX8_all_8c12, rX8_all_11, rX8_all_11n, rX8_all_12, rX8_all_15, rX8_all_15n, rX8_all_16, rX8_all_19]
    rfl
  | blow v c ih =>
    intro k d e a0 H hg hC hk hb
    obtain ⟨q, e', rfl, hc, hC'⟩ := hC
    obtain ⟨hc, hq⟩ := ch_out hc (by decide)
    obtain ⟨g1, g2, g3⟩ := hg
    have hb : H.nb + (bc c + 1) ≤ 24 := hb
    have hbl := kX23_blows (d := d + 2 * k + 1) (g := g) (o := o) hk (by omega) (l := nI v)
    have hk' := hk.blo (by omega) (l := nI v)
    obtain ⟨i1, i2, i3, i4⟩ := ih k d e' a0 (H.blo (nI v)) g3 hC' hk' (by show H.nb + 1 + bc c ≤ 24; omega)
    have hcl : ∀ W, pcl (wput g o W) q = 11 := fun W => pcl_of (ch_in hc hq)
    have f1 : ∀ W, pfl (wput g o W) 11 q 1 = .int (nI v) := fun W => pfl_of (ch_in hc hq) rfl rfl
    have f0 : ∀ W, pfl (wput g o W) 8 q 0 = va_rf e' := fun W => pfl_of (ch_in hc hq) rfl rfl
    have hmd : pCa 190 (d + 6 + 2 * k) [.ref q, .ref o] (wput g o (wOf H)) = some (.inl none, wput g o (wOf (H.blo (nI v)))) := by
      rw [eX11_made, show d + 6 + 2 * k = d + 2 * k + 1 + 4 + 1 by omega]
      simp (disch := first | assumption | omega | decide) only [pis_i, pis_l, pis_r, pis_n, p1_i, p1_r, p1_n, p1_u, pw0, pw1, pw2, pw3, pw4, pK_v, pK_0, pK_ite, if_true, if_false, if_pos, if_neg, Nat.reduceAdd, pok_r, i10, i01, Bool.true_or, Bool.or_true, Bool.and_true, Bool.true_and, Nat.add_sub_cancel, i1p1, i1p0, i0p1, i0p0, nIrem2, va_rf_s, bit1, bit0, pinT, pinLT, pin0, nIc, nIcL, nIlt, nIeq, nIltL, nILlt, nIeqL, nILeq, nIadL, nILad, nILmu, nI_add, nIsbL, nI_sub', decide_true, decide_false, Bool.false_or, Bool.or_false, rX11_made_0, rX11_made_0n, rX11_made_1, rX11_made_2, rX11_made_5, rX11_made_8, wCl, wF0, wF1, wF2, wF3, wF4, wF5, wF6, wF7, wP7, wF8, wP8, wF9, wP9, wF10, wP10, wF11, wP11, wL1, wL1n, wC1, wW1, wL2, wL2n, wC2, wW2, wL3, wL3n, wC3, wW3, wL4, wL4n, wC4, wW4, wL5, wL5n, wC5, wW5, wL6, wL6n, wC6, wW6, wL7, wL7n, wC7, wW7, f1, hbl]
    refine ⟨?_, i2, by rw [show ex (.blow v c) H = ex c (H.blo (nI v)) from rfl, i3]; show H.nb + 1 + bc c = H.nb + (bc c + 1); omega, i4⟩
    refine Eq.trans ?_ i1
    rw [ va_rf_s, rX8_all_2, show d + 7 + 2 * k = d + 6 + 2 * k + 1 by omega]
    cases e' with
    | none => simp (disch := first | assumption | omega | decide | exact hcl _) only [pis_i, pis_l, pis_r, pis_n, p1_i, p1_r, p1_n, p1_u, pw0, pw1, pw2, pw3, pw4, pK_v, pK_0, pK_ite, if_true, if_false, if_pos, if_neg, Nat.reduceAdd, pok_r, i10, i01, Bool.true_or, Bool.or_true, Bool.and_true, Bool.true_and, Nat.add_sub_cancel, i1p1, i1p0, i0p1, i0p0, nIrem2, va_rf_s, bit1, bit0, pinT, pinLT, pin0, nIc, nIcL, nIlt, nIeq, nIltL, nILlt, nIeqL, nILeq, nIadL, nILad, nILmu, nI_add, nIsbL, nI_sub', decide_true, decide_false, Bool.false_or, Bool.or_false, rX8_all_0, rX8_all_1, rX8_all_1n, rX8_all_3n, rX8_all_3, rX8_all_6, rX8_all_6n, rX8_all_7, rX8_all_7n, rX8_all_8c9, rX8_all_8c10, rX8_all_8c11, rX8_all_8c12, rX8_all_11, rX8_all_11n, rX8_all_12, rX8_all_15, rX8_all_15n, rX8_all_16, rX8_all_19, hmd, f0, va_rf_n]
    | some q' => simp (disch := first | assumption | omega | decide | exact hcl _) only [pis_i, pis_l, pis_r, pis_n, p1_i, p1_r, p1_n, p1_u, pw0, pw1, pw2, pw3, pw4, pK_v, pK_0, pK_ite, if_true, if_false, if_pos, if_neg, Nat.reduceAdd, pok_r, i10, i01, Bool.true_or, Bool.or_true, Bool.and_true, Bool.true_and, Nat.add_sub_cancel, i1p1, i1p0, i0p1, i0p0, nIrem2, va_rf_s, bit1, bit0, pinT, pinLT, pin0, nIc, nIcL, nIlt, nIeq, nIltL, nILlt, nIeqL, nILeq, nIadL, nILad, nILmu, nI_add, nIsbL, nI_sub', decide_true, decide_false, Bool.false_or, Bool.or_false, rX8_all_0, rX8_all_1, rX8_all_1n, rX8_all_3n, rX8_all_3, rX8_all_6, rX8_all_6n, rX8_all_7, rX8_all_7n, rX8_all_8c9, rX8_all_8c10, rX8_all_8c11, rX8_all_8c12, rX8_all_11, rX8_all_11n, rX8_all_12, rX8_all_15, rX8_all_15n, rX8_all_16, rX8_all_19, hmd, f0, va_rf_s]
  | name w c ih =>
    intro k d e a0 H hg hC hk hb
    obtain ⟨q, e', rfl, hc, hC'⟩ := hC
    obtain ⟨hc, hq⟩ := ch_out hc (by decide)
    obtain ⟨g1, g3⟩ := hg
    have hb : H.nb + bc c ≤ 24 := hb
    have hk' := hk.nam g1
    have hnb : (H.nam w).nb = H.nb ∧ (H.nam w).nl = H.nl := by unfold Hd.nam; cases H.na w <;> exact ⟨rfl, rfl⟩
    obtain ⟨i1, i2, i3, i4⟩ := ih k d e' a0 (H.nam w) g3 hC' hk' (by rw [hnb.1]; omega)
    have hcl : ∀ W, pcl (wput g o W) q = 10 := fun W => pcl_of (ch_in hc hq)
    have f0 : ∀ W, pfl (wput g o W) 8 q 0 = va_rf e' := fun W => pfl_of (ch_in hc hq) rfl rfl
    have hmd := kX10_made (d := d + 1 + 2 * k) hk g1 hc hq
    refine ⟨?_, i2, by rw [show ex (.name w c) H = ex c (H.nam w) from rfl, i3, hnb.1]; rfl, by rw [show ex (.name w c) H = ex c (H.nam w) from rfl, i4, hnb.2]⟩
    refine Eq.trans ?_ i1
    rw [ va_rf_s, rX8_all_2, show d + 7 + 2 * k = d + 1 + 2 * k + 5 + 1 by omega]
    cases e' with
    | none => simp (disch := first | assumption | omega | decide | exact hcl _) only [pis_i, pis_l, pis_r, pis_n, p1_i, p1_r, p1_n, p1_u, pw0, pw1, pw2, pw3, pw4, pK_v, pK_0, pK_ite, if_true, if_false, if_pos, if_neg, Nat.reduceAdd, pok_r, i10, i01, Bool.true_or, Bool.or_true, Bool.and_true, Bool.true_and, Nat.add_sub_cancel, i1p1, i1p0, i0p1, i0p0, nIrem2, va_rf_s, bit1, bit0, pinT, pinLT, pin0, nIc, nIcL, nIlt, nIeq, nIltL, nILlt, nIeqL, nILeq, nIadL, nILad, nILmu, nI_add, nIsbL, nI_sub', decide_true, decide_false, Bool.false_or, Bool.or_false, rX8_all_0, rX8_all_1, rX8_all_1n, rX8_all_3n, rX8_all_3, rX8_all_6, rX8_all_6n, rX8_all_7, rX8_all_7n, rX8_all_8c9, rX8_all_8c10, rX8_all_8c11, rX8_all_8c12, rX8_all_11, rX8_all_11n, rX8_all_12, rX8_all_15, rX8_all_15n, rX8_all_16, rX8_all_19, hmd, f0, va_rf_n]
    | some q' => simp (disch := first | assumption | omega | decide | exact hcl _) only [pis_i, pis_l, pis_r, pis_n, p1_i, p1_r, p1_n, p1_u, pw0, pw1, pw2, pw3, pw4, pK_v, pK_0, pK_ite, if_true, if_false, if_pos, if_neg, Nat.reduceAdd, pok_r, i10, i01, Bool.true_or, Bool.or_true, Bool.and_true, Bool.true_and, Nat.add_sub_cancel, i1p1, i1p0, i0p1, i0p0, nIrem2, va_rf_s, bit1, bit0, pinT, pinLT, pin0, nIc, nIcL, nIlt, nIeq, nIltL, nILlt, nIeqL, nILeq, nIadL, nILad, nILmu, nI_add, nIsbL, nI_sub', decide_true, decide_false, Bool.false_or, Bool.or_false, rX8_all_0, rX8_all_1, rX8_all_1n, rX8_all_3n, rX8_all_3, rX8_all_6, rX8_all_6n, rX8_all_7, rX8_all_7n, rX8_all_8c9, rX8_all_8c10, rX8_all_8c11, rX8_all_8c12, rX8_all_11, rX8_all_11n, rX8_all_12, rX8_all_15, rX8_all_15n, rX8_all_16, rX8_all_19, hmd, f0, va_rf_s]
  | ring i c ihi ih =>
    intro k d e a0 H hg hC hk hb
    obtain ⟨q, e', b, rfl, hc, hCi, hC'⟩ := hC
    obtain ⟨hc, hq⟩ := ch_out hc (by decide)
    obtain ⟨g1, g2, g3⟩ := hg
    have hb : H.nb + (bc i + bc c) ≤ 24 := hb
    obtain ⟨j1, j2, j3, j4⟩ := ihi (k - 1) d (some b) b H g2 hCi hk (by omega)
    have hwi : H.wh < (ex i H).np := by have := hk.w; have := hk.e; have := j2.e; omega
    have hk' := j2.joi hwi j2.w
    have hnb : ((ex i H).joi H.wh (ex i H).wh).nb = (ex i H).nb := rfl
    obtain ⟨i1, i2, i3, i4⟩ := ih k d e' a0 ((ex i H).joi H.wh (ex i H).wh) g3 hC' hk' (by rw [hnb]; omega)
    have hcl : ∀ W, pcl (wput g o W) q = 12 := fun W => pcl_of (ch_in hc hq)
    have f1 : ∀ W, pfl (wput g o W) 12 q 1 = .ref b := fun W => pfl_of (ch_in hc hq) rfl rfl
    have f0 : ∀ W, pfl (wput g o W) 8 q 0 = va_rf e' := fun W => pfl_of (ch_in hc hq) rfl rfl
    have hal : pCa 184 (d + 5 + 2 * k) [.ref b, .ref o] (wput g o (wOf H)) = some (.inl none, wput g o (wOf (ex i H))) := by
      rw [eX8_all]
      rw [show d + 7 + 2 * (k - 1) = d + 5 + 2 * k by omega, va_rf_s] at j1
      simp (disch := first | assumption | omega | decide) only [pis_i, pis_l, pis_r, pis_n, p1_i, p1_r, p1_n, p1_u, pw0, pw1, pw2, pw3, pw4, pK_v, pK_0, pK_ite, if_true, if_false, if_pos, if_neg, Nat.reduceAdd, pok_r, i10, i01, Bool.true_or, Bool.or_true, Bool.and_true, Bool.true_and, rX8_all_0, rX8_all_1, rX8_all_1n]
      exact j1
    have hji := kX23_joins (d := d + 4 + 2 * k) (h := g) (o := o) j2.k hwi j2.w
    have hcb : ∀ W, pok 8 (pcl (wput g o W) b) = true := by
      intro W
      cases i with
      | nil => cases hCi
      | blow v c => obtain ⟨z, z', z1, z2, z3⟩ := hCi; cases z1; obtain ⟨z2, z4⟩ := ch_out z2 (by decide); rw [pcl_of (ch_in z2 z4)]; rfl
      | name v c => obtain ⟨z, z', z1, z2, z3⟩ := hCi; cases z1; obtain ⟨z2, z4⟩ := ch_out z2 (by decide); rw [pcl_of (ch_in z2 z4)]; rfl
      | ring v c => obtain ⟨z, z', z5, z1, z2, z3⟩ := hCi; cases z1; obtain ⟨z2, z4⟩ := ch_out z2 (by decide); rw [pcl_of (ch_in z2 z4)]; rfl
      | fresh s v c => obtain ⟨z, z', z5, z1, z2, z3⟩ := hCi; cases z1; obtain ⟨z2, z4⟩ := ch_out z2 (by decide); rw [pcl_of (ch_in z2 z4)]; rfl
    have hmd : pCa 192 (d + 6 + 2 * k) [.ref q, .ref o] (wput g o (wOf H)) = some (.inl none, wput g o (wOf ((ex i H).joi H.wh (ex i H).wh))) := by
      rw [eX12_made, show d + 6 + 2 * k = d + 5 + 2 * k + 1 by omega]
      rw [show d + 4 + 2 * k + 1 = d + 5 + 2 * k by omega] at hji
      simp (disch := first | assumption | omega | decide) only [pis_i, pis_l, pis_r, pis_n, p1_i, p1_r, p1_n, p1_u, pw0, pw1, pw2, pw3, pw4, pK_v, pK_0, pK_ite, if_true, if_false, if_pos, if_neg, Nat.reduceAdd, pok_r, i10, i01, Bool.true_or, Bool.or_true, Bool.and_true, Bool.true_and, Nat.add_sub_cancel, i1p1, i1p0, i0p1, i0p0, nIrem2, va_rf_s, bit1, bit0, pinT, pinLT, pin0, nIc, nIcL, nIlt, nIeq, nIltL, nILlt, nIeqL, nILeq, nIadL, nILad, nILmu, nI_add, nIsbL, nI_sub', decide_true, decide_false, Bool.false_or, Bool.or_false, rX12_made_0, rX12_made_0n, rX12_made_1, rX12_made_4, rX12_made_5, rX12_made_6, rX12_made_9, rX12_made_9n, rX12_made_10, rX12_made_13, rX12_made_13n, rX12_made_14, rX12_made_15, rX12_made_15n, rX12_made_16, rX12_made_19, rX12_made_22, wCl, wF0, wF1, wF2, wF3, wF4, wF5, wF6, wF7, wP7, wF8, wP8, wF9, wP9, wF10, wP10, wF11, wP11, wL1, wL1n, wC1, wW1, wL2, wL2n, wC2, wW2, wL3, wL3n, wC3, wW3, wL4, wL4n, wC4, wW4, wL5, wL5n, wC5, wW5, wL6, wL6n, wC6, wW6, wL7, wL7n, wC7, wW7, f1, wo7, hcb, hal, hji]
    refine ⟨?_, i2, by rw [show ex (.ring i c) H = ex c ((ex i H).joi H.wh (ex i H).wh) from rfl, i3, hnb, j3]; show H.nb + bc i + bc c = H.nb + (bc i + bc c); omega, by rw [show ex (.ring i c) H = ex c ((ex i H).joi H.wh (ex i H).wh) from rfl, i4]; exact j4⟩
    refine Eq.trans ?_ i1
    rw [ va_rf_s, rX8_all_2, show d + 7 + 2 * k = d + 6 + 2 * k + 1 by omega]
    cases e' with
    | none => simp (disch := first | assumption | omega | decide | exact hcl _) only [pis_i, pis_l, pis_r, pis_n, p1_i, p1_r, p1_n, p1_u, pw0, pw1, pw2, pw3, pw4, pK_v, pK_0, pK_ite, if_true, if_false, if_pos, if_neg, Nat.reduceAdd, pok_r, i10, i01, Bool.true_or, Bool.or_true, Bool.and_true, Bool.true_and, Nat.add_sub_cancel, i1p1, i1p0, i0p1, i0p0, nIrem2, va_rf_s, bit1, bit0, pinT, pinLT, pin0, nIc, nIcL, nIlt, nIeq, nIltL, nILlt, nIeqL, nILeq, nIadL, nILad, nILmu, nI_add, nIsbL, nI_sub', decide_true, decide_false, Bool.false_or, Bool.or_false, rX8_all_0, rX8_all_1, rX8_all_1n, rX8_all_3n, rX8_all_3, rX8_all_6, rX8_all_6n, rX8_all_7, rX8_all_7n, rX8_all_8c9, rX8_all_8c10, rX8_all_8c11, rX8_all_8c12, rX8_all_11, rX8_all_11n, rX8_all_12, rX8_all_15, rX8_all_15n, rX8_all_16, rX8_all_19, hmd, f0, va_rf_n]
    | some q' => simp (disch := first | assumption | omega | decide | exact hcl _) only [pis_i, pis_l, pis_r, pis_n, p1_i, p1_r, p1_n, p1_u, pw0, pw1, pw2, pw3, pw4, pK_v, pK_0, pK_ite, if_true, if_false, if_pos, if_neg, Nat.reduceAdd, pok_r, i10, i01, Bool.true_or, Bool.or_true, Bool.and_true, Bool.true_and, Nat.add_sub_cancel, i1p1, i1p0, i0p1, i0p0, nIrem2, va_rf_s, bit1, bit0, pinT, pinLT, pin0, nIc, nIcL, nIlt, nIeq, nIltL, nILlt, nIeqL, nILeq, nIadL, nILad, nILmu, nI_add, nIsbL, nI_sub', decide_true, decide_false, Bool.false_or, Bool.or_false, rX8_all_0, rX8_all_1, rX8_all_1n, rX8_all_3n, rX8_all_3, rX8_all_6, rX8_all_6n, rX8_all_7, rX8_all_7n, rX8_all_8c9, rX8_all_8c10, rX8_all_8c11, rX8_all_8c12, rX8_all_11, rX8_all_11n, rX8_all_12, rX8_all_15, rX8_all_15n, rX8_all_16, rX8_all_19, hmd, f0, va_rf_s]
  | fresh s i c _ _ => intro k d e a0 H hg; exact absurd hg id
end
