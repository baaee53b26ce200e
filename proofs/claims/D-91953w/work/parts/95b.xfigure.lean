/-! READING 8: the component's figure, whole -/
set_option maxRecDepth 100000
/-- what holds of a hand between balloons -/
structure HdB (N : Nat) (H : Hd) : Prop where
  k : HdOk H
  e : H.np = H.nb + H.nl
  m : ∀ k, k + 1 < H.nb → H.ba k ≤ H.ba (k + 1)
  j : ∀ k, k + 1 < H.nb → H.ba k = H.ba (k + 1) → H.tq k = H.fr (k + 1)
  s : ∀ b, b < H.nl → H.so b < N
theorem HdR.b {N : Nat} {H : Hd} (h : HdR N H) : HdB N H := ⟨h.k, h.e, h.m, h.j, h.s⟩
theorem HdB_0 {N : Nat} : HdB N Hd0 := ⟨Hd0_ok, rfl, fun k hk => absurd hk (by show ¬ k + 1 < 0; omega), fun k hk => absurd hk (by show ¬ k + 1 < 0; omega), fun b hb => absurd hb (by show ¬ b < 0; omega)⟩
section
variable {g : pH} {o d N : Nat} {H : Hd}
theorem Ch_c8 {W0 W : WS} {c : Mv} {b : Nat} (hC : Ch (wput g o W0) c (some b)) : pok 8 (pcl (wput g o W) b) = true := by
  cases c with
  | nil => cases hC
  | blow v c => obtain ⟨z, z', z1, z2, z3⟩ := hC; cases z1; obtain ⟨z2, z4⟩ := ch_out z2 (by decide); rw [pcl_of (ch_in z2 z4)]; rfl
  | name v c => obtain ⟨z, z', z1, z2, z3⟩ := hC; cases z1; obtain ⟨z2, z4⟩ := ch_out z2 (by decide); rw [pcl_of (ch_in z2 z4)]; rfl
  | ring v c => obtain ⟨z, z', z5, z1, z2, z3⟩ := hC; cases z1; obtain ⟨z2, z4⟩ := ch_out z2 (by decide); rw [pcl_of (ch_in z2 z4)]; rfl
  | fresh s v c => obtain ⟨z, z', z5, z1, z2, z3⟩ := hC; cases z1; obtain ⟨z2, z4⟩ := ch_out z2 (by decide); rw [pcl_of (ch_in z2 z4)]; rfl
theorem all_f {W0 : WS} : ∀ c e (a0 : Nat) H, gF N c → Ch (wput g o W0) c e → HdB N H → H.nb + bc c ≤ 24 → H.nl + fc c ≤ 6 → pR 184 (d + 21) 2 [.ref a0, .ref o, va_rf e] [] (wput g o (wOf H)) = some (.inl none, wput g o (wOf (ex c H))) ∧ HdB N (ex c H) ∧ (ex c H).nb = H.nb + bc c ∧ (ex c H).nl = H.nl + fc c := by
  intro c
  induction c with
  | nil =>
    intro e a0 H hg hC hk hb hl
    have hC : e = none := hC
    subst hC
    refine ⟨?_, hk, rfl, rfl⟩
    rw [va_rf_n, rX8_all_2n]
    simp (disch := first | assumption | omega | decide) only [pis_i, pis_l, pis_r, pis_n, p1_i, p1_r, p1_n, p1_u, pw0, pw1, pw2, pw3, pw4, pK_v, pK_0, pK_ite, if_true, if_false, if_pos, if_neg, Nat.reduceAdd, pok_r, i10, i01, Bool.true_or, Bool.or_true, Bool.and_true, Bool.true_and, rX8_all_0, rX8_all_1, rX8_all_1n, rX8_all_3n, rX8_all_3, rX8_all_6, rX8_all_6n, rX8_all_7, rX8_all_7n, rX8_all_8c9, rX8_all_8c10, rX8_all_8c11, rX8_all_8c12, rX8_all_11, rX8_all_11n, rX8_all_12, rX8_all_15, rX8_all_15n, rX8_all_16, rX8_all_19]
    rfl
  | blow v c ih => intro e a0 H hg; exact absurd hg id
  | name w c ih => intro e a0 H hg; exact absurd hg id
  | ring i c ihi ih => intro e a0 H hg; exact absurd hg id
  | fresh s i c ihi ih =>
    intro e a0 H hg hC hk hb hl
    obtain ⟨q, e', b, rfl, hc, hCi, hC'⟩ := hC
    obtain ⟨hc, hq⟩ := ch_out hc (by decide)
    obtain ⟨g1, g2, g3⟩ := hg
    have hb : H.nb + (bc i + bc c) ≤ 24 := hb
    have hl : H.nl + (fc c + 1) ≤ 6 := hl
    have hkb := HdR_beg (N := N) hk.k hk.e (by omega) hk.m hk.j hk.s g1
    obtain ⟨j1, j2, j3, j4⟩ := all_l (g := g) (o := o) (N := N) i 6 d (some b) b (H.beg s) g2 hCi hkb (by show H.nb + bc i ≤ 24; omega)
    have n1 : (H.beg s).nb = H.nb := rfl
    have n2 : (H.beg s).nl = H.nl + 1 := rfl
    obtain ⟨i1, i2, i3, i4⟩ := ih e' a0 (ex i (H.beg s)) g3 hC' j2.b (by omega) (by omega)
    have hcl : ∀ W, pcl (wput g o W) q = 9 := fun W => pcl_of (ch_in hc hq)
    have f1 : ∀ W, pfl (wput g o W) 9 q 1 = .int (nI s) := fun W => pfl_of (ch_in hc hq) rfl rfl
    have f2 : ∀ W, pfl (wput g o W) 9 q 2 = .ref b := fun W => pfl_of (ch_in hc hq) rfl rfl
    have f0 : ∀ W, pfl (wput g o W) 8 q 0 = va_rf e' := fun W => pfl_of (ch_in hc hq) rfl rfl
    have hal : pCa 184 (d + 19) [.ref b, .ref o] (wput g o (wOf (H.beg s))) = some (.inl none, wput g o (wOf (ex i (H.beg s)))) := by
      rw [eX8_all]
      rw [va_rf_s] at j1
      simp (disch := first | assumption | omega | decide) only [pis_i, pis_l, pis_r, pis_n, p1_i, p1_r, p1_n, p1_u, pw0, pw1, pw2, pw3, pw4, pK_v, pK_0, pK_ite, if_true, if_false, if_pos, if_neg, Nat.reduceAdd, pok_r, i10, i01, Bool.true_or, Bool.or_true, Bool.and_true, Bool.true_and, rX8_all_0, rX8_all_1, rX8_all_1n]
      exact j1
    have hn := hk.e
    have hcb : ∀ W, pok 8 (pcl (wput g o W) b) = true := fun W => Ch_c8 hCi
    have hbg := kX23_begins (d := d + 18) (g := g) (o := o) (H := H) (by omega) (by omega) (s := s)
    have hmd : pCa 186 (d + 20) [.ref q, .ref o] (wput g o (wOf H)) = some (.inl none, wput g o (wOf (ex i (H.beg s)))) := by
      rw [eX9_made]
      simp (disch := first | assumption | omega | decide) only [pis_i, pis_l, pis_r, pis_n, p1_i, p1_r, p1_n, p1_u, pw0, pw1, pw2, pw3, pw4, pK_v, pK_0, pK_ite, if_true, if_false, if_pos, if_neg, Nat.reduceAdd, pok_r, i10, i01, Bool.true_or, Bool.or_true, Bool.and_true, Bool.true_and, Nat.add_sub_cancel, i1p1, i1p0, i0p1, i0p0, nIrem2, va_rf_s, bit1, bit0, pinT, pinLT, pin0, nIc, nIcL, nIlt, nIeq, nIltL, nILlt, nIeqL, nILeq, nIadL, nILad, nILmu, nI_add, nIsbL, nI_sub', decide_true, decide_false, Bool.false_or, Bool.or_false, rX9_made_0, rX9_made_0n, rX9_made_1, rX9_made_2, rX9_made_5, rX9_made_8, rX9_made_9, rX9_made_12, rX9_made_12n, rX9_made_13, rX9_made_16, wCl, wF0, wF1, wF2, wF3, wF4, wF5, wF6, wF7, wP7, wF8, wP8, wF9, wP9, wF10, wP10, wF11, wP11, wL1, wL1n, wC1, wW1, wL2, wL2n, wC2, wW2, wL3, wL3n, wC3, wW3, wL4, wL4n, wC4, wW4, wL5, wL5n, wC5, wW5, wL6, wL6n, wC6, wW6, wL7, wL7n, wC7, wW7, f1, f2, hbg, hcb, hal]
    refine ⟨?_, i2, by rw [show ex (.fresh s i c) H = ex c (ex i (H.beg s)) from rfl, i3, j3, n1]; show _ = H.nb + (bc i + bc c); omega, by rw [show ex (.fresh s i c) H = ex c (ex i (H.beg s)) from rfl, i4, j4, n2]; show _ = H.nl + (fc c + 1); omega⟩
    refine Eq.trans ?_ i1
    rw [va_rf_s, rX8_all_2]
    cases e' with
    | none => simp (disch := first | assumption | omega | decide | exact hcl _) only [pis_i, pis_l, pis_r, pis_n, p1_i, p1_r, p1_n, p1_u, pw0, pw1, pw2, pw3, pw4, pK_v, pK_0, pK_ite, if_true, if_false, if_pos, if_neg, Nat.reduceAdd, pok_r, i10, i01, Bool.true_or, Bool.or_true, Bool.and_true, Bool.true_and, Nat.add_sub_cancel, i1p1, i1p0, i0p1, i0p0, nIrem2, va_rf_s, bit1, bit0, pinT, pinLT, pin0, nIc, nIcL, nIlt, nIeq, nIltL, nILlt, nIeqL, nILeq, nIadL, nILad, nILmu, nI_add, nIsbL, nI_sub', decide_true, decide_false, Bool.false_or, Bool.or_false, rX8_all_0, rX8_all_1, rX8_all_1n, rX8_all_3n, rX8_all_3, rX8_all_6, rX8_all_6n, rX8_all_7, rX8_all_7n, rX8_all_8c9, rX8_all_8c10, rX8_all_8c11, rX8_all_8c12, rX8_all_11, rX8_all_11n, rX8_all_12, rX8_all_15, rX8_all_15n, rX8_all_16, rX8_all_19, hmd, f0, va_rf_n]
    | some q' => simp (disch := first | assumption | omega | decide | exact hcl _) only [pis_i, pis_l, pis_r, pis_n, p1_i, p1_r, p1_n, p1_u, pw0, pw1, pw2, pw3, pw4, pK_v, pK_0, pK_ite, if_true, if_false, if_pos, if_neg, Nat.reduceAdd, pok_r, i10, i01, Bool.true_or, Bool.or_true, Bool.and_true, Bool.true_and, Nat.add_sub_cancel, i1p1, i1p0, i0p1, i0p0, nIrem2, va_rf_s, bit1, bit0, pinT, pinLT, pin0, nIc, nIcL, nIlt, nIeq, nIltL, nILlt, nIeqL, nILeq, nIadL, nILad, nILmu, nI_add, nIsbL, nI_sub', decide_true, decide_false, Bool.false_or, Bool.or_false, rX8_all_0, rX8_all_1, rX8_all_1n, rX8_all_3n, rX8_all_3, rX8_all_6, rX8_all_6n, rX8_all_7, rX8_all_7n, rX8_all_8c9, rX8_all_8c10, rX8_all_8c11, rX8_all_8c12, rX8_all_11, rX8_all_11n, rX8_all_12, rX8_all_15, rX8_all_15n, rX8_all_16, rX8_all_19, hmd, f0, va_rf_s]
end
/-- a heap that has the component's cells already -/
theorem xput_id {g : pH} {x : Nat} {X : XS} (h : ∀ j, j < 14 → g.1 (x + j) = xcell x X j) : xput g x X = g := by
  refine Prod.ext ?_ rfl
  funext q
  show (if x ≤ q ∧ q < x + 14 then xcell x X (q - x) else g.1 q) = g.1 q
  by_cases e : x ≤ q ∧ q < x + 14
  · obtain ⟨j, rfl⟩ : ∃ j, q = x + j := ⟨q - x, by omega⟩
    rw [if_pos e, Nat.add_sub_cancel_left, h j (by omega)]
  · rw [if_neg e]
theorem wput_id {g : pH} {o : Nat} {W : WS} (h : ∀ j, j < 8 → g.1 (o + j) = wcell o W j) : wput g o W = g := by
  refine Prod.ext ?_ rfl
  funext q
  show (if o ≤ q ∧ q < o + 8 then wcell o W (q - o) else g.1 q) = g.1 q
  by_cases e : o ≤ q ∧ q < o + 8
  · obtain ⟨j, rfl⟩ : ∃ j, q = o + j := ⟨q - o, by omega⟩
    rw [if_pos e, Nat.add_sub_cancel_left, h j (by omega)]
  · rw [if_neg e]
/-- how a call may let the heap grow; the component's cells lie at x -/
def Gw (x : Nat) (h h' : pH) : Prop := h.2.1 ≤ h'.2.1 ∧ h'.2.1 ≤ h.2.1 + 1000 ∧ h'.2.2 ≤ h.2.2 + 10000 ∧ ∀ q, q < h.2.1 → (q < x ∨ x + 14 ≤ q) → h'.1 q = h.1 q
theorem Gw.rf {x : Nat} {h : pH} : Gw x h h := ⟨Nat.le_refl _, by omega, by omega, fun _ _ _ => rfl⟩
section
variable {h : pH} {x d G n : Nat} {X : XS} {t : Tp}
theorem kX1_keep {f : Nat} (hS : X.1 5 = nI G) (hG : G < 12) (hf : pcl (xput h x X) f = 24) : pCa 13 d [.ref x, .ref f] (xput h x X) = some (.inl (some (.int (nI G))), xput h x (upd X.1 5 (nI (G + 1)), X.2.1, uq X.2.2.1 3 G (some f), X.2.2.2)) := by
  have hu : upd X.1 5 (nI (G + 1)) 5 = nI (G + 1) := by simp [upd]
  rw [eX1_keep]
  simp (disch := first | omega | decide) only [pis_i, pis_l, pis_r, pis_n, p1_i, p1_r, p1_n, p1_u, pw0, pw1, pw2, pw3, pw4, pK_v, pK_0, pK_ite, if_true, if_false, if_pos, if_neg, Nat.reduceAdd, pok_r, i10, i01, Bool.true_or, Bool.or_true, Bool.and_true, Bool.true_and, Nat.add_sub_cancel, i1p1, i1p0, i0p1, i0p0, nIrem2, va_rf_s, bit1, bit0, pinT, pinLT, pin0, nIc, nIcL, nIlt, nIeq, nIltL, nILlt, nIeqL, nILeq, nIadL, nILad, nILmu, nI_add, nIsbL, nI_sub', decide_true, decide_false, Bool.false_or, Bool.or_false, rX1_keep_0, rX1_keep_1, rX1_keep_4, rX1_keep_5, rX1_keep_8, rX1_keep_8n, rX1_keep_9, rX1_keep_10, rX1_keep_11, rX1_keep_11i, rX1_keep_12, rX1_keep_15, rX1_keep_16, rX1_keep_17, rX1_keep_20, rX1_keep_21, rX1_keep_24, rX1_keep_25, rX1_keep_26, xCl, xF0, xF1, xP1, xF2, xF3, xP3, xF4, xF5, xP5, xF6, xF7, xF8, xF9, xF10, xF11, xF12, xP12, xF13, xP13, xF14, xP14, xF15, xP15, xF16, xP16, xF17, xP17, xF18, xF19, xF20, xP20, xF21, xF22, xP22, xL2, xL2n, xC2, xW2, xL4, xL4n, xC4, xW4, xL5, xL5n, xC5, xW5, xL6, xL6n, xC6, xW6, xL7, xL7n, xC7, xW7, xL8, xL8n, xC8, xW8, xL12, xL12n, xC12, xW12, xL13, xL13n, xC13, xW13, xL1, xK1, xC1, xW1, xL3, xK3, xC3, xW3, xL9, xK9, xC9, xW9, xL10, xK10, xC10, xW10, xLf, xLc, hS, hf, pel, beq_self_eq_true, hu]
/-- a new figure is made of a hand and kept -/
theorem xnew {o : Nat} {H : Hd} (hx : x + 14 ≤ o) (ho : o + 8 ≤ h.2.1) (hk : HdOk H) : ∃ Y, pCa 229 (d + 2) [.ref h.2.1, .ref o] (wput (pnw (xput h x X) (.inr (24, [.null, .null, .null, .null, .null, .null, .int 0, .int 0, .int 0, .int 0])) 10) o (wOf H)) = some (.inl none, xput (wput (yput (gr (xput h x X) 8 176) h.2.1 Y) o (wOf H)) x X) ∧ FigAt (wput (yput (gr (xput h x X) 8 176) h.2.1 Y) o (wOf H)) h.2.1 (figOf H) ∧ (wput (yput (gr (xput h x X) 8 176) h.2.1 Y) o (wOf H)).2.1 = h.2.1 + 8 ∧ (wput (yput (gr (xput h x X) 8 176) h.2.1 Y) o (wOf H)).2.2 = h.2.2 + 176 ∧ ∀ q, q < h.2.1 → (q < o ∨ o + 8 ≤ q) → (wput (yput (gr (xput h x X) 8 176) h.2.1 Y) o (wOf H)).1 q = (xput h x X).1 q := by
  obtain ⟨Y, h1, h2⟩ := kX24_init (d := d) (h := xput h x X) (o := o) (n0 := h.2.1) hk rfl ho
  have hout : ∀ q, q < h.2.1 → (q < o ∨ o + 8 ≤ q) → (wput (yput (gr (xput h x X) 8 176) h.2.1 Y) o (wOf H)).1 q = (xput h x X).1 q := fun q hq hq2 => by
    rw [wput_out hq2, yput_out (Or.inl hq)]
    rfl
  refine ⟨Y, ?_, ?_, rfl, rfl, hout⟩
  · have e : xput (wput (yput (gr (xput h x X) 8 176) h.2.1 Y) o (wOf H)) x X = wput (yput (gr (xput h x X) 8 176) h.2.1 Y) o (wOf H) := xput_id (fun j hj => by rw [hout (x + j) (by omega) (by omega), xput_at hj])
    rw [e]
    exact h1
  · have o' : ∀ j, j ≤ 6 → (wput (yput (gr (xput h x X) 8 176) h.2.1 Y) o (wOf H)).1 (h.2.1 + j) = (yput (gr (xput h x X) 8 176) h.2.1 Y).1 (h.2.1 + j) := fun j hj => wput_out (Or.inr (by omega))
    have o0 := o' 0 (by omega)
    rw [Nat.add_zero] at o0
    have h2 : FigAt (yput (gr (xput h x X) 8 176) h.2.1 Y) h.2.1 (figOf H) := h2
    unfold FigAt at h2 ⊢
    rw [o0, o' 1 (by omega), o' 2 (by omega), o' 3 (by omega), o' 4 (by omega), o' 5 (by omega), o' 6 (by omega)]
    exact h2
end
