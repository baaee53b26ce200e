/-! FIGURES MADE OF FIGURES 2: a hand takes figures; the component's add -/
set_option maxRecDepth 100000
def ptN : Nat → Hd
  | 0 => Hd0
  | k + 1 => (ptN k).pnt
theorem ptN_f : ∀ k, (ptN k).np = k ∧ (ptN k).nb = 0 ∧ (ptN k).nl = 0 ∧ (ptN k).mo = 0 ∧ (ptN k).na = Hd0.na ∧ ∀ p, p < k → (ptN k).jo p = p := by
  intro k
  induction k with
  | zero => exact ⟨rfl, rfl, rfl, rfl, rfl, fun p hp => absurd hp (Nat.not_lt_zero _)⟩
  | succ k ih =>
    obtain ⟨h1, h2, h3, h4, h5, h6⟩ := ih
    refine ⟨by show (ptN k).np + 1 = _; rw [h1], h2, h3, h4, h5, fun p hp => ?_⟩
    show un (ptN k).jo (ptN k).np (ptN k).np p = p
    rw [h1]
    unfold un
    split
    · rename_i e; exact e.symm
    · exact h6 p (by omega)
theorem ptN_ok {k : Nat} (hk : k ≤ 32) : HdOk (ptN k) := by
  obtain ⟨h1, h2, h3, h4, h5, h6⟩ := ptN_f k
  refine ⟨fun p hp => ?_, by omega, by omega, by omega, by omega, fun k hk => by omega, fun w p hw e => ?_⟩
  · rw [h1] at hp; rw [h6 p hp]; exact Nat.le_refl _
  · rw [h5] at e; simp [Hd0, hw] at e
/-- the sorts of a figure -/
def Hd.sor (H : Hd) (F : Fig) : Hd := { H with so := fun k => if H.nl ≤ k ∧ k < H.nl + F.1 1 then F.2.1 3 (k - H.nl) else H.so k, nl := H.nl + F.1 1 }
def tkN (H : Hd) (F : Fig) (a c : Nat) : Nat → Hd
  | 0 => H
  | k + 1 => (tkN H F a c k).add (F.2.2 k) (a + F.2.1 0 k) (a + F.2.1 1 k) (c + F.2.1 2 k)
section
variable {H : Hd} {F : Fig} {a c : Nat}
theorem tk_f : ∀ k, (tkN H F a c k).np = H.np ∧ (tkN H F a c k).nl = H.nl ∧ (tkN H F a c k).jo = H.jo ∧ (tkN H F a c k).so = H.so ∧ (tkN H F a c k).nb = H.nb + k := by
  intro k
  induction k with
  | zero => exact ⟨rfl, rfl, rfl, rfl, rfl⟩
  | succ k ih =>
    obtain ⟨h1, h2, h3, h4, h5⟩ := ih
    exact ⟨h1, h2, h3, h4, by show (tkN H F a c k).nb + 1 = _; rw [h5]; omega⟩
theorem tk_lo : ∀ k i, i < H.nb → (tkN H F a c k).fr i = H.fr i ∧ (tkN H F a c k).tq i = H.tq i ∧ (tkN H F a c k).ba i = H.ba i ∧ (tkN H F a c k).le i = H.le i := by
  intro k
  induction k with
  | zero => intro i _; exact ⟨rfl, rfl, rfl, rfl⟩
  | succ k ih =>
    intro i hi
    obtain ⟨h1, h2, h3, h4⟩ := ih i hi
    have hn := (tk_f (H := H) (F := F) (a := a) (c := c) k).2.2.2.2
    have e : i ≠ (tkN H F a c k).nb := by omega
    exact ⟨by show un (tkN H F a c k).fr _ _ i = _; rw [un_c e]; exact h1, by show un (tkN H F a c k).tq _ _ i = _; rw [un_c e]; exact h2, by show un (tkN H F a c k).ba _ _ i = _; rw [un_c e]; exact h3, by show ul (tkN H F a c k).le _ _ i = _; unfold ul; rw [if_neg e]; exact h4⟩
theorem tk_hi : ∀ k i, i < k → (tkN H F a c k).fr (H.nb + i) = a + F.2.1 0 i ∧ (tkN H F a c k).tq (H.nb + i) = a + F.2.1 1 i ∧ (tkN H F a c k).ba (H.nb + i) = c + F.2.1 2 i ∧ (tkN H F a c k).le (H.nb + i) = F.2.2 i := by
  intro k
  induction k with
  | zero => intro i hi; omega
  | succ k ih =>
    intro i hi
    have hn := (tk_f (H := H) (F := F) (a := a) (c := c) k).2.2.2.2
    by_cases e : i = k
    · subst e
      rw [← hn]
      exact ⟨un_s, un_s, un_s, by show ul _ _ _ _ = _; unfold ul; rw [if_pos rfl]⟩
    · obtain ⟨h1, h2, h3, h4⟩ := ih i (by omega)
      have e : H.nb + i ≠ (tkN H F a c k).nb := by omega
      exact ⟨by show un (tkN H F a c k).fr _ _ _ = _; rw [un_c e]; exact h1, by show un (tkN H F a c k).tq _ _ _ = _; rw [un_c e]; exact h2, by show un (tkN H F a c k).ba _ _ _ = _; rw [un_c e]; exact h3, by show ul (tkN H F a c k).le _ _ _ = _; unfold ul; rw [if_neg e]; exact h4⟩
theorem tk_ok (hk : HdOk H) (hb : H.nb + F.1 0 ≤ 24) (hF : ∀ b, b < F.1 0 → a + F.2.1 0 b < H.np ∧ a + F.2.1 1 b < H.np ∧ c + F.2.1 2 b < H.nl) : ∀ k, k ≤ F.1 0 → HdOk (tkN H F a c k) := by
  intro k
  induction k with
  | zero => intro _; exact hk
  | succ k ih =>
    intro hkk
    obtain ⟨h1, h2, h3, h4, h5⟩ := tk_f (H := H) (F := F) (a := a) (c := c) k
    obtain ⟨g1, g2, g3⟩ := hF k (by omega)
    exact (ih (by omega)).add (by omega) (by rw [h1]; exact g1) (by rw [h1]; exact g2) (by rw [h2]; exact g3)
theorem tk_mq (hm : H.mq) : ∀ k, (tkN H F a c k).mq := by
  intro k
  induction k with
  | zero => exact hm
  | succ k ih => exact mq_add ih
theorem sor_ok (hk : HdOk H) (hl : H.nl + F.1 1 ≤ 6) : HdOk (H.sor F) := ⟨hk.j, hk.n, hk.b, hl, hk.m, fun k hk' => ⟨(hk.f k hk').1, (hk.f k hk').2.1, by have := (hk.f k hk').2.2; show H.ba k < H.nl + F.1 1; omega⟩, hk.a⟩
theorem sor_mq (hm : H.mq) : (H.sor F).mq := by
  unfold Hd.mq at *
  show H.mo = mxn (fun b => ((H.sor F).up (b + 1)).hel) H.nb
  rw [hm]
  exact mxn_cong _ (fun k _ => hel_cong rfl rfl (fun _ _ => ⟨rfl, rfl, rfl⟩))
theorem mq_z (hb : H.nb = 0) (hm : H.mo = 0) : H.mq := by
  unfold Hd.mq
  rw [hb, hm]
  rfl
end
theorem FigAt.cg {g g' : pH} {f : Nat} {F : Fig} (hF : FigAt g f F) (hc : ∀ j, j < 7 → g'.1 (f + j) = g.1 (f + j)) : FigAt g' f F := by
  have h0 := hc 0 (by decide)
  rw [Nat.add_zero] at h0
  unfold FigAt at hF ⊢
  rw [h0, hc 1 (by decide), hc 2 (by decide), hc 3 (by decide), hc 4 (by decide), hc 5 (by decide), hc 6 (by decide)]
  exact hF
theorem FigAt.wp {g : pH} {f o : Nat} {W : WS} {F : Fig} (hF : FigAt g f F) (hd : f + 7 ≤ o ∨ o + 8 ≤ f) : FigAt (wput g o W) f F := hF.cg (fun j hj => wput_out (by omega))
theorem pcp_w {g : pH} {a i j n o : Nat} {W : WS} : pcp (wput g o W) a i (o + 7) j n = wput g o (W.1, us W.2.1 7 (va_cpy (pct (wput g o W) a) (W.2.1 7) i j n), W.2.2) := by
  have e5 : (wput g o W).1 (o + 7) = some (.inl (0, 6, .inl (W.2.1 7))) := wA7
  simp only [pcp, e5]
  refine wput_up (j := 7) (by decide) ?_ (fun i hi h0 => ?_)
  · simp [wcell, us]
  · match i, h0 with
    | 0, h0 => rfl
    | 1, h0 => rfl
    | 2, h0 => rfl
    | 3, h0 => rfl
    | 4, h0 => rfl
    | 5, h0 => rfl
    | 6, h0 => rfl
    | 7, h0 => exact absurd rfl h0
    | i + 8, _ => rfl
section
variable {g : pH} {d o f a : Nat} {F : Fig} {H : Hd}
theorem sor_w {c : Nat → Int32} (hc : ∀ b, b < F.1 1 → c b = nI (F.2.1 3 b)) : ((upd (wOf H).1 10 (nI (H.nl + F.1 1)), us (wOf H).2.1 7 (va_cpy c ((wOf H).2.1 7) 0 H.nl (F.1 1)), (wOf H).2.2) : WS) = wOf (H.sor F) := by
  refine Prod.ext ?_ (Prod.ext ?_ rfl)
  · funext k
    show upd (wOf H).1 10 (nI (H.nl + F.1 1)) k = _
    unfold upd
    by_cases e : k = 10
    · subst e; rfl
    · rw [if_neg e]
      simp only [wOf, e, if_false]
      rfl
  · funext j
    show us (wOf H).2.1 7 (va_cpy c ((wOf H).2.1 7) 0 H.nl (F.1 1)) j = _
    by_cases e : j = 7
    · subst e
      rw [us_same]
      funext k
      rw [va_cpy]
      show (if H.nl ≤ k ∧ k < H.nl + F.1 1 then c (0 + (k - H.nl)) else nI (H.so k)) = nI (if H.nl ≤ k ∧ k < H.nl + F.1 1 then F.2.1 3 (k - H.nl) else H.so k)
      split
      · rw [Nat.zero_add, hc _ (by omega)]
      · rfl
    · rw [us_ne e]
      funext k
      simp only [wOf, e, if_false]
      rfl
theorem kX23_takes (hF0 : FigAt g f F) (hd : f + 7 ≤ o ∨ o + 8 ≤ f) (hkF : FigOk F) (hk : HdOk H) (hb : H.nb + F.1 0 ≤ 24) (hl : H.nl + F.1 1 ≤ 6) (ha : a + F.1 2 ≤ H.np) : pCa 228 (d + 4) [.ref o, .ref f, .int (nI a)] (wput g o (wOf H)) = some (.inl none, wput g o (wOf (tkN (H.sor F) F a H.nl (F.1 0)))) := by
  have hn := hk.n
  have hF := hF0.wp (W := wOf H) hd
  have hk := hk
  have hkH := hk
  have hk := hkF
  (obtain ⟨x0, xf, xt, xl, xw, xs, xe, xb, xa, xp, xh⟩ := hF.o; obtain ⟨⟨l1, c1⟩, ⟨l2, c2⟩, ⟨l3, c3⟩, ⟨l4, c4⟩, ⟨l5, c5⟩, ⟨l6, c6⟩⟩ := hF.a; have hk' := hk; obtain ⟨k1, k2, k3, k4, k5, k6⟩ := hk')
  have hne : (f + 5 == o + 7) = false := by simp; omega
  have hnn : (nI (F.1 1)).toNatClampNeg = F.1 1 := nIc (by omega)
  have hnl : (nI H.nl).toNatClampNeg = H.nl := nIc (by omega)
  have h0n : (0 : Int32) ≤ nI (F.1 1) := nI_nn (by omega)
  have h0l : (0 : Int32) ≤ nI H.nl := nI_nn (by omega)
  have hcpy := pcp_w (g := g) (a := f + 5) (i := 0) (j := H.nl) (n := F.1 1) (o := o) (W := wOf H)
  have hs := sor_w (H := H) (F := F) (c := pct (wput g o (wOf H)) (f + 5)) c5
  have hp5 : pfl (wput g o ((wOf H).1, us (wOf H).2.1 7 (va_cpy (pct (wput g o (wOf H)) (f + 5)) ((wOf H).2.1 7) 0 H.nl (F.1 1)), (wOf H).2.2)) 24 f 7 = .int (nI (F.1 1)) := ((hF0.wp (W := ((wOf H).1, us (wOf H).2.1 7 (va_cpy (pct (wput g o (wOf H)) (f + 5)) ((wOf H).2.1 7) 0 H.nl (F.1 1)), (wOf H).2.2)) hd).o).2.2.2.2.2.2.2.2.1
  have hle6 : 0 + F.1 1 ≤ 6 := by omega
  have hle6' : H.nl + F.1 1 ≤ 6 := by omega
  rw [eX23_takes]
  simp (disch := first | assumption | omega | decide) only [pis_i, pis_l, pis_r, pis_n, p1_i, p1_r, p1_n, p1_u, pw0, pw1, pw2, pw3, pw4, pK_v, pK_0, pK_ite, if_true, if_false, if_pos, if_neg, Nat.reduceAdd, pok_r, i10, i01, Bool.true_or, Bool.or_true, Bool.and_true, Bool.true_and, Nat.add_sub_cancel, i1p1, i1p0, i0p1, i0p0, nIrem2, va_rf_s, bit1, bit0, pinT, pinLT, pin0, nIc, nIcL, nIlt, nIeq, nIltL, nILlt, nIeqL, nILeq, nIadL, nILad, nILmu, nI_add, nIsbL, nI_sub', decide_true, decide_false, Bool.false_or, Bool.or_false, rX23_takes_0, rX23_takes_1, rX23_takes_4, rX23_takes_5, rX23_takes_5n, rX23_takes_6, rX23_takes_9, rX23_takes_10, rX23_takes_11, rX23_takes_14, rX23_takes_15, rX23_takes_15n, rX23_takes_16, rX23_takes_19, rX23_takes_22, rX23_takes_23, rX23_takes_23i, rX23_takes_24, rX23_takes_27, rX23_takes_27n, rX23_takes_28, rX23_takes_31, rX23_takes_32, rX23_takes_35, rX23_takes_36, wCl, wF0, wF1, wF2, wF3, wF4, wF5, wF6, wF7, wP7, wF8, wP8, wF9, wP9, wF10, wP10, wF11, wP11, wL1, wL1n, wC1, wW1, wL2, wL2n, wC2, wW2, wL3, wL3n, wC3, wW3, wL4, wL4n, wC4, wW4, wL5, wL5n, wC5, wW5, wL6, wL6n, wC6, wW6, wL7, wL7n, wC7, wW7, x0, xf, xt, xl, xw, xs, xe, xb, xa, xp, xh, l1, l2, l3, l4, l5, l6, c1, c2, c3, c4, c5, c6, wo10, hne, h0n, h0l, hnn, hnl, hcpy, hp5, Int32.le_refl, show (0 : Int32).toNatClampNeg = 0 from rfl, Bool.not_false, hle6, hle6', show (0 < 6) = True by simp, hs]
  have main := loopN (N := F.1 0) (R := some (.inl none, wput g o (wOf (tkN (H.sor F) F a H.nl (F.1 0))))) (P := fun k => pR 228 (d + 4) 38 [.ref o, .ref f, .int (nI a), .int (nI H.nl), .int (nI k)] [] (wput g o (wOf (tkN (H.sor F) F a H.nl k)))) (fun k hkk R hR => ?_) ?_ 0 (Nat.zero_le _)
  · exact main
  · have hF := hF0.wp (W := wOf (tkN (H.sor F) F a H.nl k)) hd
    (obtain ⟨x0, xf, xt, xl, xw, xs, xe, xb, xa, xp, xh⟩ := hF.o; obtain ⟨⟨l1, c1⟩, ⟨l2, c2⟩, ⟨l3, c3⟩, ⟨l4, c4⟩, ⟨l5, c5⟩, ⟨l6, c6⟩⟩ := hF.a; have hk' := hk; obtain ⟨k1, k2, k3, k4, k5, k6⟩ := hk')
    have k5k := k5 k hkk
    obtain ⟨t1, t2, t3, t4, t5⟩ := tk_f (H := H.sor F) (F := F) (a := a) (c := H.nl) k
    have t1 : (tkN (H.sor F) F a H.nl k).np = H.np := t1
    have t2 : (tkN (H.sor F) F a H.nl k).nl = H.nl + F.1 1 := t2
    have t5 : (tkN (H.sor F) F a H.nl k).nb = H.nb + k := t5
    have hok := tk_ok (a := a) (c := H.nl) (sor_ok hkH hl) (show (H.sor F).nb + F.1 0 ≤ 24 from hb) (fun b hb => by
      obtain ⟨u1, u2, u3⟩ := k5 b hb
      exact ⟨show a + F.2.1 0 b < H.np by omega, show a + F.2.1 1 b < H.np by omega, show H.nl + F.2.1 2 b < H.nl + F.1 1 by omega⟩) k (by omega)
    have had := kX23_adds (d := d) (h := g) (o := o) hok (l := F.2.2 k) (a := a + F.2.1 0 k) (b := a + F.2.1 1 k) (c := H.nl + F.2.1 2 k) (by omega) (by omega) (by omega) (by omega)
    rw [rX23_takes_38]
    simp (disch := first | assumption | omega | decide) only [pis_i, pis_l, pis_r, pis_n, p1_i, p1_r, p1_n, p1_u, pw0, pw1, pw2, pw3, pw4, pK_v, pK_0, pK_ite, if_true, if_false, if_pos, if_neg, Nat.reduceAdd, pok_r, i10, i01, Bool.true_or, Bool.or_true, Bool.and_true, Bool.true_and, Nat.add_sub_cancel, i1p1, i1p0, i0p1, i0p0, nIrem2, va_rf_s, bit1, bit0, pinT, pinLT, pin0, nIc, nIcL, nIlt, nIeq, nIltL, nILlt, nIeqL, nILeq, nIadL, nILad, nILmu, nI_add, nIsbL, nI_sub', decide_true, decide_false, Bool.false_or, Bool.or_false, rX23_takes_40, rX23_takes_40n, rX23_takes_41, rX23_takes_44, rX23_takes_47, rX23_takes_48, rX23_takes_48n, rX23_takes_49, rX23_takes_52, rX23_takes_54, rX23_takes_55, rX23_takes_56, rX23_takes_56n, rX23_takes_57, rX23_takes_60, rX23_takes_62, rX23_takes_63, rX23_takes_64, rX23_takes_65, rX23_takes_65n, rX23_takes_66, rX23_takes_69, rX23_takes_71, rX23_takes_72, rX23_takes_73, rX23_takes_74, rX23_takes_74n, rX23_takes_75, rX23_takes_78, rX23_takes_80, rX23_takes_81, rX23_takes_82, rX23_takes_85, rX23_takes_88, wCl, wF0, wF1, wF2, wF3, wF4, wF5, wF6, wF7, wP7, wF8, wP8, wF9, wP9, wF10, wP10, wF11, wP11, wL1, wL1n, wC1, wW1, wL2, wL2n, wC2, wW2, wL3, wL3n, wC3, wW3, wL4, wL4n, wC4, wW4, wL5, wL5n, wC5, wW5, wL6, wL6n, wC6, wW6, wL7, wL7n, wC7, wW7, x0, xf, xt, xl, xw, xs, xe, xb, xa, xp, xh, l1, l2, l3, l4, l5, l6, c1, c2, c3, c4, c5, c6, had]
    exact hR
  · obtain ⟨x0, xf, xt, xl, xw, xs, xe, xb, -⟩ := (hF0.wp (W := wOf (tkN (H.sor F) F a H.nl (F.1 0))) hd).o
    rw [rX23_takes_38]
    simp (disch := first | assumption | omega | decide) only [pis_i, pis_l, pis_r, pis_n, p1_i, p1_r, p1_n, p1_u, pw0, pw1, pw2, pw3, pw4, pK_v, pK_0, pK_ite, if_true, if_false, if_pos, if_neg, Nat.reduceAdd, pok_r, i10, i01, Bool.true_or, Bool.or_true, Bool.and_true, Bool.true_and, Nat.add_sub_cancel, i1p1, i1p0, i0p1, i0p0, nIrem2, va_rf_s, bit1, bit0, pinT, pinLT, pin0, nIc, nIcL, nIlt, nIeq, nIltL, nILlt, nIeqL, nILeq, nIadL, nILad, nILmu, nI_add, nIsbL, nI_sub', decide_true, decide_false, Bool.false_or, Bool.or_false, rX23_takes_40, rX23_takes_40n, rX23_takes_41, rX23_takes_44, rX23_takes_47, rX23_takes_48, rX23_takes_48n, rX23_takes_49, rX23_takes_52, rX23_takes_54, rX23_takes_55, rX23_takes_56, rX23_takes_56n, rX23_takes_57, rX23_takes_60, rX23_takes_62, rX23_takes_63, rX23_takes_64, rX23_takes_65, rX23_takes_65n, rX23_takes_66, rX23_takes_69, rX23_takes_71, rX23_takes_72, rX23_takes_73, rX23_takes_74, rX23_takes_74n, rX23_takes_75, rX23_takes_78, rX23_takes_80, rX23_takes_81, rX23_takes_82, rX23_takes_85, rX23_takes_88, rX23_takes_91, wCl, wF0, wF1, wF2, wF3, wF4, wF5, wF6, wF7, wP7, wF8, wP8, wF9, wP9, wF10, wP10, wF11, wP11, wL1, wL1n, wC1, wW1, wL2, wL2n, wC2, wW2, wL3, wL3n, wC3, wW3, wL4, wL4n, wC4, wW4, wL5, wL5n, wC5, wW5, wL6, wL6n, wC6, wW6, wL7, wL7n, wC7, wW7, xb]
end
