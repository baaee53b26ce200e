/-! PLAIN FIGURES 2: the component's plain -/
set_option maxRecDepth 100000
def gnI (F : Fig) : Nat → Int32
  | 0 => 0
  | k + 1 => if sl F k = true then gnI F k ||| (1 : Int32) <<< (nI (F.2.1 1 k) &&& 31) else gnI F k
theorem gnI_bt {F : Fig} (hk : FigOk F) : ∀ k, k ≤ F.1 0 → ∀ q, q < 32 → bt (gnI F k) q = gnB F k q := by
  have h0 : ∀ i, i < 32 → bt 0 i = false := by decide +kernel
  intro k
  induction k with
  | zero => intro _ q hq; exact h0 q hq
  | succ k ih =>
    intro hkk q hq
    have h1 := (hk.2.2.2.2.1 k (by omega)).2.1
    have h2 := hk.2.2.1
    rw [gnI, gnB]
    cases hs : sl F k with
    | false => rw [if_neg (by decide), ih (by omega) q hq]; simp
    | true =>
      rw [if_pos rfl, b_or, ih (by omega) q hq, bt_1 (by omega) hq]
      have : decide (q = F.2.1 1 k) = decide (F.2.1 1 k = q) := by
        by_cases e : q = F.2.1 1 k
        · subst e; rfl
        · simp [e, Ne.symm e]
      rw [this]; simp
def ptA (F : Fig) (p q : Nat) : Int32 := if q < p ∧ kp F q = true then nI (fb_ct (kp F) q) else 0
theorem ptA_s {F : Fig} {p : Nat} (h : kp F p = true) : upd (ptA F p) p (nI (fb_ct (kp F) p)) = ptA F (p + 1) := by
  funext q
  unfold upd ptA
  by_cases e : q = p
  · subst e; simp [h]
  · have : (q < p + 1) = (q < p) := by apply propext; omega
    simp [e, this]
theorem ptA_n {F : Fig} {p : Nat} (h : kp F p = false) : ptA F (p + 1) = ptA F p := by
  funext q
  unfold ptA
  by_cases e : q = p
  · subst e; simp [h]
  · have : (q < p + 1) = (q < p) := by apply propext; omega
    simp [this]
def gA (g : pH) (A : Nat → Int32) : pH := pnw g (.inl (0, 32, .inl A)) 32
section
variable {g : pH} {A : Nat → Int32} {o i : Nat} {W : WS} {v : Int32}
theorem gA_at (ho : o + 8 ≤ g.2.1) : (wput (gA g A) o W).1 g.2.1 = some (.inl (0, 32, .inl A)) := by rw [wput_out (Or.inr ho)]; exact pnw_same
theorem gA_l (ho : o + 8 ≤ g.2.1) : pln (wput (gA g A) o W) 0 g.2.1 = 32 := pln_of (gA_at ho)
theorem gA_c (ho : o + 8 ≤ g.2.1) : pct (wput (gA g A) o W) g.2.1 = A := pct_of (gA_at ho)
theorem gA_w (ho : o + 8 ≤ g.2.1) : pst (wput (gA g A) o W) g.2.1 i v = wput (gA g (upd A i v)) o W := by
  rw [pst_of (gA_at ho), wO_pup (Or.inr ho)]
  congr 1
  unfold gA pup pnw
  simp only [Prod.mk.injEq, and_true]
  funext q
  by_cases e : q = g.2.1 <;> simp [e]
theorem gA_n (ho : o + 8 ≤ g.2.1) : pnw (wput g o W) (.inl (0, 32, .inl A)) 32 = wput (gA g A) o W := wO_pnw ho
theorem gA_f {f : Nat} {F : Fig} (hF : FigAt g f F) (hf : f + 7 ≤ g.2.1) : FigAt (gA g A) f F := hF.cg (fun j hj => pnw_ne (by omega))
end
section
variable {h : pH} {x d G : Nat} {X : XS}
theorem x_plain {f g : Nat} {F : Fig} (hS : X.1 5 = nI G) (hG : G < 12) (hx : x + 14 ≤ h.2.1) (q1 : X.2.2.1 3 g = some f) (hg : g < G) (hF : FigAt h f F) (hxf : x + 14 ≤ f) (hb : f + 7 ≤ h.2.1) (hk : FigOk F) (hX : FigX F) :
    ∃ h' f', pCa 24 (d + 10) [.ref x, .int (nI g)] (xput h x X) = some (.inl (some (.int (nI G))), xput h' x (upd X.1 5 (nI (G + 1)), X.2.1, uq X.2.2.1 3 G (some f'), X.2.2.2)) ∧ Gw x h h' ∧ h.2.1 ≤ f' ∧ f' + 8 ≤ h'.2.1 ∧ FigAt h' f' (figOf (plF F)) := by
  have hF0 := hF
  have hA := hF.put (X := X) hxf
  have isf := kX1_isFigure (d := d + 9) (x := x) (h := h) hS (show G < 1000 by omega) hg
  have hi := kX23_init (d := d + 8) (h := xput h x X) (n0 := h.2.1) rfl
  have hcx : pcl (pnw (xput h x X) (.inr (23, [.null, .null, .null, .null, .null, .null, .null, .int 0, .int 0, .int 0, .int 0, .int 0])) 12) h.2.1 = 23 := pcl_pnw (h := xput h x X)
  let gB : pH := gr (xput h x X) 8 154
  have hi : pCa 219 (d + 9) [.ref h.2.1] (pnw (xput h x X) (.inr (23, [.null, .null, .null, .null, .null, .null, .null, .int 0, .int 0, .int 0, .int 0, .int 0])) 12) = some (.inl none, wput gB h.2.1 (wOf Hd0)) := hi
  have hg21 : gB.2.1 = h.2.1 + 8 := rfl
  have hg22 : gB.2.2 = h.2.2 + 154 := rfl
  have ho : h.2.1 + 8 ≤ gB.2.1 := Nat.le_refl _
  have hB : FigAt gB f F := hA
  have hBA : ∀ A W, FigAt (wput (gA gB A) h.2.1 W) f F := fun A W => (gA_f hB (by omega)).wp (Or.inl hb)
  have hk' := hk
  obtain ⟨k1, k2, k3, k4, k5, k6⟩ := hk'
  have hcl := fb_ct_le (kp F) (F.1 2)
  obtain ⟨w1, w2, w3, w4, w5, w6⟩ := plH_f (F := F)
  have IN := plI hk hX (Nat.le_refl (F.1 0))
  obtain ⟨B, gN, t1, t2, t3, t4, t5, t6, t7, t8⟩ := xtail (d := d + 7) (h := h) (x := x) (X := X) (gB := gA gB (ptA F (F.1 2))) (H := plF F) (o := h.2.1) rfl (fun q hq => pnw_ne (by omega)) hx (show h.2.1 + 8 ≤ gB.2.1 + 1 by omega) IN.ok hS hG
  have hga1 : ∀ A, (gA gB A).2.1 = gB.2.1 + 1 := fun A => rfl
  have hga2 : ∀ A, (gA gB A).2.2 = gB.2.2 + 32 := fun A => rfl
  rw [hga1] at t1 t2 t4 t5 t6
  rw [hga2] at t7
  refine ⟨gN, gB.2.1 + 1, ?_, ⟨by omega, by omega, by omega, t8⟩, by omega, by omega, t5⟩
  clear_value gB
  rw [eX1_plain]
  simp (disch := first | assumption | omega | decide) only [pis_i, pis_l, pis_r, pis_n, p1_i, p1_r, p1_n, p1_u, pw0, pw1, pw2, pw3, pw4, pK_v, pK_0, pK_ite, if_true, if_false, if_pos, if_neg, Nat.reduceAdd, pok_r, i10, i01, Bool.true_or, Bool.or_true, Bool.and_true, Bool.true_and, Nat.add_sub_cancel, i1p1, i1p0, i0p1, i0p0, nIrem2, va_rf_s, bit1, bit0, pinT, pinLT, pin0, nIc, nIcL, nIlt, nIeq, nIltL, nILlt, nIeqL, nILeq, nIadL, nILad, nILmu, nI_add, nIsbL, nI_sub', decide_true, decide_false, Bool.false_or, Bool.or_false, rX1_plain_0, rX1_plain_1, rX1_plain_2, rX1_plain_5, rX1_plain_8, rX1_plain_9, rX1_plain_12, rX1_plain_14, rX1_plain_17, rX1_plain_18, rX1_plain_19, rX1_plain_20, rX1_plain_23, rX1_plain_24, rX1_plain_25, rX1_plain_25n, rX1_plain_26, rX1_plain_27, rX1_plain_28, rX1_plain_29, xCl, xF0, xF1, xP1, xF2, xF3, xP3, xF4, xF5, xP5, xF6, xF7, xF8, xF9, xF10, xF11, xF12, xP12, xF13, xP13, xF14, xP14, xF15, xP15, xF16, xP16, xF17, xP17, xF18, xF19, xF20, xP20, xF21, xF22, xP22, xL2, xL2n, xC2, xW2, xL4, xL4n, xC4, xW4, xL5, xL5n, xC5, xW5, xL6, xL6n, xC6, xW6, xL7, xL7n, xC7, xW7, xL8, xL8n, xC8, xW8, xL12, xL12n, xC12, xW12, xL13, xL13n, xC13, xW13, xL1, xK1, xC1, xW1, xL3, xK3, xC3, xW3, xL9, xK9, xC9, xW9, xL10, xK10, xC10, xW10, xLf, xLc, hS, isf, q1, va_rf_s]
  -- the bubbles
  have lq4 : ∀ j k, k + j = F.1 0 → pR 24 (d + 10) 164 [.ref x, .int (nI g), .ref f, .int (gnI F (F.1 0)), .ref h.2.1, .ref gB.2.1, .int (nI (plS F (plH F) (plK F) k).2.2.1), .int (plS F (plH F) (plK F) k).2.2.2, .int (nI k)] [] (wput (gA gB (ptA F (F.1 2))) h.2.1 (wOf (plS F (plH F) (plK F) k).1)) = some (.inl (some (.int (nI G))), xput gN x (upd X.1 5 (nI (G + 1)), X.2.1, uq X.2.2.1 3 G (some (gB.2.1 + 1)), X.2.2.2)) := by
    intro j
    induction j with
    | zero =>
      intro k hkk
      have hkk : k = F.1 0 := by omega
      subst hkk
      obtain ⟨x0, xf, xt, xl, xw, xs, xe, xb, -⟩ := (hBA (ptA F (F.1 2)) (wOf (plS F (plH F) (plK F) (F.1 0)).1)).o
      have wx : (wput (gA gB (ptA F (F.1 2))) h.2.1 (wOf (plF F))).2.1 = gB.2.1 + 1 := rfl
      rw [rX1_plain_164]
      simp (disch := first | assumption | omega | decide) only [pis_i, pis_l, pis_r, pis_n, p1_i, p1_r, p1_n, p1_u, pw0, pw1, pw2, pw3, pw4, pK_v, pK_0, pK_ite, if_true, if_false, if_pos, if_neg, Nat.reduceAdd, pok_r, i10, i01, Bool.true_or, Bool.or_true, Bool.and_true, Bool.true_and, Nat.add_sub_cancel, i1p1, i1p0, i0p1, i0p0, nIrem2, va_rf_s, bit1, bit0, pinT, pinLT, pin0, nIc, nIcL, nIlt, nIeq, nIltL, nILlt, nIeqL, nILeq, nIadL, nILad, nILmu, nI_add, nIsbL, nI_sub', decide_true, decide_false, Bool.false_or, Bool.or_false, rX1_plain_166, rX1_plain_166n, rX1_plain_167, rX1_plain_170, xb]
      show pR 24 (d + 10) 255 [.ref x, .int (nI g), .ref f, .int (gnI F (F.1 0)), .ref h.2.1, .ref gB.2.1, .int (nI (plS F (plH F) (plK F) (F.1 0)).2.2.1), .int (plS F (plH F) (plK F) (F.1 0)).2.2.2, .int (nI (F.1 0))] [] (wput (gA gB (ptA F (F.1 2))) h.2.1 (wOf (plF F))) = _
      simp (disch := first | assumption | omega | decide) only [pis_i, pis_l, pis_r, pis_n, p1_i, p1_r, p1_n, p1_u, pw0, pw1, pw2, pw3, pw4, pK_v, pK_0, pK_ite, if_true, if_false, if_pos, if_neg, Nat.reduceAdd, pok_r, i10, i01, Bool.true_or, Bool.or_true, Bool.and_true, Bool.true_and, Nat.add_sub_cancel, i1p1, i1p0, i0p1, i0p0, nIrem2, va_rf_s, bit1, bit0, pinT, pinLT, pin0, nIc, nIcL, nIlt, nIeq, nIltL, nILlt, nIeqL, nILeq, nIadL, nILad, nILmu, nI_add, nIsbL, nI_sub', decide_true, decide_false, Bool.false_or, Bool.or_false, rX1_plain_255, rX1_plain_256, rX1_plain_259, rX1_plain_259i, rX1_plain_260, rX1_plain_260n, rX1_plain_262, rX1_plain_265, rX1_plain_268, wx, t1, t2, t3, t4]
    | succ j ih =>
      intro k hkk
      have hk24 : k < F.1 0 := by omega
      have I := plI hk hX (show k ≤ F.1 0 by omega)
      have ih' := ih (k + 1) (by omega)
      rw [plS] at ih'
      generalize plS F (plH F) (plK F) k = z at I ih'
      obtain ⟨H, K, fi, s⟩ := z
      obtain ⟨i1, i2, i3, i4, i5, i6, i7, i8, i9, i10, i11, i12, i13, i14, i15, i16⟩ := I
      dsimp only at i1 i2 i3 i4 i5 i6 i7 i8 i9 i10 i11 i12 i13 i14 i15 i16 ih' ⊢
      have hF := hBA (ptA F (F.1 2)) (wOf H)
      have tw := kX24_isTwist (d := d + 9) hF hk hk24
      have hld := kX24_holds (d := d + 9) hF hk hk24
      (obtain ⟨x0, xf, xt, xl, xw, xs, xe, xb, xa, xp, xh⟩ := hF.o; obtain ⟨⟨l1, c1⟩, ⟨l2, c2⟩, ⟨l3, c3⟩, ⟨l4, c4⟩, ⟨l5, c5⟩, ⟨l6, c6⟩⟩ := hF.a; have hk' := hk; obtain ⟨k1, k2, k3, k4, k5, k6⟩ := hk')
      have ga := gA_l (g := gB) (A := ptA F (F.1 2)) (o := h.2.1) (W := wOf H) ho
      have gc := gA_c (g := gB) (A := ptA F (F.1 2)) (o := h.2.1) (W := wOf H) ho
      obtain ⟨r1, r2, r3⟩ := k5 fi (by omega)
      obtain ⟨u1, u2, u3⟩ := k5 k hk24
      have no : sl F k = false → pR 24 (d + 10) 206 [.ref x, .int (nI g), .ref f, .int (gnI F (F.1 0)), .ref h.2.1, .ref gB.2.1, .int (nI fi), .int (s + F.2.2 k), .int (nI k)] [] (wput (gA gB (ptA F (F.1 2))) h.2.1 (wOf H)) = some (.inl (some (.int (nI G))), xput gN x (upd X.1 5 (nI (G + 1)), X.2.1, uq X.2.2.1 3 G (some (gB.2.1 + 1)), X.2.2.2)) := by
        intro hs
        rw [hs] at ih'
        simp only [Bool.false_eq_true, if_false] at ih'
        have kt := kp_to hX hk24 hs
        have kf := kp_fr hX (show fi < F.1 0 by omega) i3
        have ct := ct_in u2 kt
        have cf := ct_in r1 kf
        have e1 : ptA F (F.1 2) (F.2.1 0 fi) = nI (fb_ct (kp F) (F.2.1 0 fi)) := if_pos ⟨r1, kf⟩
        have e2 : ptA F (F.1 2) (F.2.1 1 k) = nI (fb_ct (kp F) (F.2.1 1 k)) := if_pos ⟨u2, kt⟩
        have had := kX23_adds (d := d + 6) (h := gA gB (ptA F (F.1 2))) (o := h.2.1) i5 (l := s + F.2.2 k) (a := fb_ct (kp F) (F.2.1 0 fi)) (b := fb_ct (kp F) (F.2.1 1 k)) (c := F.2.1 2 k) (by omega) (by omega) (by omega) (by omega)
        have hfi : fi < F.1 0 := by omega
        have p1' : F.2.1 0 fi < 32 := by omega
        have p2' : F.2.1 1 k < 32 := by omega
        simp (disch := first | assumption | omega | decide) only [pis_i, pis_l, pis_r, pis_n, p1_i, p1_r, p1_n, p1_u, pw0, pw1, pw2, pw3, pw4, pK_v, pK_0, pK_ite, if_true, if_false, if_pos, if_neg, Nat.reduceAdd, pok_r, i10, i01, Bool.true_or, Bool.or_true, Bool.and_true, Bool.true_and, Nat.add_sub_cancel, i1p1, i1p0, i0p1, i0p0, nIrem2, va_rf_s, bit1, bit0, pinT, pinLT, pin0, nIc, nIcL, nIlt, nIeq, nIltL, nILlt, nIeqL, nILeq, nIadL, nILad, nILmu, nI_add, nIsbL, nI_sub', decide_true, decide_false, Bool.false_or, Bool.or_false, rX1_plain_206, rX1_plain_206n, rX1_plain_208, rX1_plain_210, rX1_plain_210n, rX1_plain_212, rX1_plain_212n, rX1_plain_213, rX1_plain_216, rX1_plain_218, rX1_plain_219, rX1_plain_220, rX1_plain_220n, rX1_plain_222, rX1_plain_222n, rX1_plain_223, rX1_plain_226, rX1_plain_228, rX1_plain_229, rX1_plain_230, rX1_plain_230n, rX1_plain_231, rX1_plain_234, rX1_plain_236, rX1_plain_237, rX1_plain_240, rX1_plain_242, rX1_plain_243, rX1_plain_244, rX1_plain_246, rX1_plain_247, rX1_plain_249, rX1_plain_252, wCl, wF0, wF1, wF2, wF3, wF4, wF5, wF6, wF7, wP7, wF8, wP8, wF9, wP9, wF10, wP10, wF11, wP11, wL1, wL1n, wC1, wW1, wL2, wL2n, wC2, wW2, wL3, wL3n, wC3, wW3, wL4, wL4n, wC4, wW4, wL5, wL5n, wC5, wW5, wL6, wL6n, wC6, wW6, wL7, wL7n, wC7, wW7, x0, xf, xt, xl, xw, xs, xe, xb, xa, xp, xh, l1, l2, l3, l4, l5, l6, c1, c2, c3, c4, c5, c6, ga, gc, e1, e2, had]
        exact ih'
      rw [rX1_plain_164]
      by_cases ht : fTw F k = true
      · rw [if_pos ht] at tw
        by_cases hh : fHo F k = true
        · rw [if_pos hh] at hld
          have hs : sl F k = false := by simp [sl, ht, hh]
          simp (disch := first | assumption | omega | decide) only [pis_i, pis_l, pis_r, pis_n, p1_i, p1_r, p1_n, p1_u, pw0, pw1, pw2, pw3, pw4, pK_v, pK_0, pK_ite, if_true, if_false, if_pos, if_neg, Nat.reduceAdd, pok_r, i10, i01, Bool.true_or, Bool.or_true, Bool.and_true, Bool.true_and, Nat.add_sub_cancel, i1p1, i1p0, i0p1, i0p0, nIrem2, va_rf_s, bit1, bit0, pinT, pinLT, pin0, nIc, nIcL, nIlt, nIeq, nIltL, nILlt, nIeqL, nILeq, nIadL, nILad, nILmu, nI_add, nIsbL, nI_sub', decide_true, decide_false, Bool.false_or, Bool.or_false, rX1_plain_166, rX1_plain_166n, rX1_plain_167, rX1_plain_170, rX1_plain_173, rX1_plain_175, rX1_plain_175n, rX1_plain_176, rX1_plain_179, rX1_plain_181, rX1_plain_182, rX1_plain_183, rX1_plain_185, rX1_plain_185n, rX1_plain_186, rX1_plain_188, rX1_plain_191, rX1_plain_194, rX1_plain_194n, rX1_plain_195, rX1_plain_197, rX1_plain_200, rX1_plain_203, x0, xf, xt, xl, xw, xs, xe, xb, xa, xp, xh, l1, l2, l3, l4, l5, l6, c1, c2, c3, c4, c5, c6, tw, hld]
          exact no hs
        · rw [if_neg hh] at hld
          have hs : sl F k = true := by simp [sl, ht, hh]
          rw [hs] at ih'
          simp only [if_true] at ih'
          simp (disch := first | assumption | omega | decide) only [pis_i, pis_l, pis_r, pis_n, p1_i, p1_r, p1_n, p1_u, pw0, pw1, pw2, pw3, pw4, pK_v, pK_0, pK_ite, if_true, if_false, if_pos, if_neg, Nat.reduceAdd, pok_r, i10, i01, Bool.true_or, Bool.or_true, Bool.and_true, Bool.true_and, Nat.add_sub_cancel, i1p1, i1p0, i0p1, i0p0, nIrem2, va_rf_s, bit1, bit0, pinT, pinLT, pin0, nIc, nIcL, nIlt, nIeq, nIltL, nILlt, nIeqL, nILeq, nIadL, nILad, nILmu, nI_add, nIsbL, nI_sub', decide_true, decide_false, Bool.false_or, Bool.or_false, rX1_plain_166, rX1_plain_166n, rX1_plain_167, rX1_plain_170, rX1_plain_173, rX1_plain_175, rX1_plain_175n, rX1_plain_176, rX1_plain_179, rX1_plain_181, rX1_plain_182, rX1_plain_183, rX1_plain_185, rX1_plain_185n, rX1_plain_186, rX1_plain_188, rX1_plain_191, rX1_plain_194, rX1_plain_194n, rX1_plain_195, rX1_plain_197, rX1_plain_200, rX1_plain_203, rX1_plain_249, rX1_plain_252, x0, xf, xt, xl, xw, xs, xe, xb, xa, xp, xh, l1, l2, l3, l4, l5, l6, c1, c2, c3, c4, c5, c6, tw, hld]
          exact ih'
      · rw [if_neg ht] at tw
        have hs : sl F k = false := by simp [sl, ht]
        simp (disch := first | assumption | omega | decide) only [pis_i, pis_l, pis_r, pis_n, p1_i, p1_r, p1_n, p1_u, pw0, pw1, pw2, pw3, pw4, pK_v, pK_0, pK_ite, if_true, if_false, if_pos, if_neg, Nat.reduceAdd, pok_r, i10, i01, Bool.true_or, Bool.or_true, Bool.and_true, Bool.true_and, Nat.add_sub_cancel, i1p1, i1p0, i0p1, i0p0, nIrem2, va_rf_s, bit1, bit0, pinT, pinLT, pin0, nIc, nIcL, nIlt, nIeq, nIltL, nILlt, nIeqL, nILeq, nIadL, nILad, nILmu, nI_add, nIsbL, nI_sub', decide_true, decide_false, Bool.false_or, Bool.or_false, rX1_plain_166, rX1_plain_166n, rX1_plain_167, rX1_plain_170, rX1_plain_173, rX1_plain_175, rX1_plain_175n, rX1_plain_176, rX1_plain_179, rX1_plain_181, rX1_plain_182, rX1_plain_183, rX1_plain_185, rX1_plain_185n, rX1_plain_186, rX1_plain_188, rX1_plain_191, rX1_plain_194, rX1_plain_194n, rX1_plain_195, rX1_plain_197, rX1_plain_200, rX1_plain_203, x0, xf, xt, xl, xw, xs, xe, xb, xa, xp, xh, l1, l2, l3, l4, l5, l6, c1, c2, c3, c4, c5, c6, tw]
        exact no hs
  -- the points
  have l3 := loopP (N := F.1 2) (P := fun p => pR 24 (d + 10) 94 [.ref x, .int (nI g), .ref f, .int (gnI F (F.1 0)), .ref h.2.1, .ref gB.2.1, .int (nI p), pU, pU] [] (wput (gA gB (ptA F p)) h.2.1 (wOf (ptN (fb_ct (kp F) p)))) = some (.inl (some (.int (nI G))), xput gN x (upd X.1 5 (nI (G + 1)), X.2.1, uq X.2.2.1 3 G (some (gB.2.1 + 1)), X.2.2.2))) (fun p hp hR => ?_) ?_ 0 (Nat.zero_le _)
  · -- what is gone
    have e0 : ptA F 0 = fun _ => 0 := by funext q; simp [ptA]
    rw [e0] at l3
    have l1 := loopP (N := F.1 0) (P := fun k => pR 24 (d + 10) 31 [.ref x, .int (nI g), .ref f, .int (gnI F k), .int (nI k), pU, pU, pU, pU] [] (xput h x X) = some (.inl (some (.int (nI G))), xput gN x (upd X.1 5 (nI (G + 1)), X.2.1, uq X.2.2.1 3 G (some (gB.2.1 + 1)), X.2.2.2))) (fun k hkk hR => ?_) ?_ 0 (Nat.zero_le _)
    · exact l1
    · have hF := hA
      have tw := kX24_isTwist (d := d + 9) hF hk hkk
      have hld := kX24_holds (d := d + 9) hF hk hkk
      (obtain ⟨x0, xf, xt, xl, xw, xs, xe, xb, xa, xp, xh⟩ := hF.o; obtain ⟨⟨l1, c1⟩, ⟨l2, c2⟩, ⟨l3, c3⟩, ⟨l4, c4⟩, ⟨l5, c5⟩, ⟨l6, c6⟩⟩ := hF.a; have hk' := hk; obtain ⟨k1, k2, k3, k4, k5, k6⟩ := hk')
      obtain ⟨u1, u2, u3⟩ := k5 k hkk
      rw [gnI] at hR
      rw [rX1_plain_31]
      by_cases ht : fTw F k = true
      · rw [if_pos ht] at tw
        by_cases hh : fHo F k = true
        · rw [if_pos hh] at hld
          have hs : sl F k = false := by simp [sl, ht, hh]
          rw [hs, if_neg (by decide)] at hR
          simp (disch := first | assumption | omega | decide) only [pis_i, pis_l, pis_r, pis_n, p1_i, p1_r, p1_n, p1_u, pw0, pw1, pw2, pw3, pw4, pK_v, pK_0, pK_ite, if_true, if_false, if_pos, if_neg, Nat.reduceAdd, pok_r, i10, i01, Bool.true_or, Bool.or_true, Bool.and_true, Bool.true_and, Nat.add_sub_cancel, i1p1, i1p0, i0p1, i0p0, nIrem2, va_rf_s, bit1, bit0, pinT, pinLT, pin0, nIc, nIcL, nIlt, nIeq, nIltL, nILlt, nIeqL, nILeq, nIadL, nILad, nILmu, nI_add, nIsbL, nI_sub', decide_true, decide_false, Bool.false_or, Bool.or_false, rX1_plain_33, rX1_plain_33n, rX1_plain_34, rX1_plain_37, rX1_plain_40, rX1_plain_40n, rX1_plain_41, rX1_plain_43, rX1_plain_46, rX1_plain_49, rX1_plain_49n, rX1_plain_50, rX1_plain_52, rX1_plain_55, rX1_plain_58, rX1_plain_59, rX1_plain_60, rX1_plain_60n, rX1_plain_61, rX1_plain_64, rX1_plain_66, rX1_plain_67, rX1_plain_68, rX1_plain_69, rX1_plain_70, rX1_plain_73, x0, xf, xt, xl, xw, xs, xe, xb, xa, xp, xh, l1, l2, l3, l4, l5, l6, c1, c2, c3, c4, c5, c6, tw, hld]
          exact hR
        · rw [if_neg hh] at hld
          have hs : sl F k = true := by simp [sl, ht, hh]
          rw [hs, if_pos rfl] at hR
          simp (disch := first | assumption | omega | decide) only [pis_i, pis_l, pis_r, pis_n, p1_i, p1_r, p1_n, p1_u, pw0, pw1, pw2, pw3, pw4, pK_v, pK_0, pK_ite, if_true, if_false, if_pos, if_neg, Nat.reduceAdd, pok_r, i10, i01, Bool.true_or, Bool.or_true, Bool.and_true, Bool.true_and, Nat.add_sub_cancel, i1p1, i1p0, i0p1, i0p0, nIrem2, va_rf_s, bit1, bit0, pinT, pinLT, pin0, nIc, nIcL, nIlt, nIeq, nIltL, nILlt, nIeqL, nILeq, nIadL, nILad, nILmu, nI_add, nIsbL, nI_sub', decide_true, decide_false, Bool.false_or, Bool.or_false, rX1_plain_33, rX1_plain_33n, rX1_plain_34, rX1_plain_37, rX1_plain_40, rX1_plain_40n, rX1_plain_41, rX1_plain_43, rX1_plain_46, rX1_plain_49, rX1_plain_49n, rX1_plain_50, rX1_plain_52, rX1_plain_55, rX1_plain_58, rX1_plain_59, rX1_plain_60, rX1_plain_60n, rX1_plain_61, rX1_plain_64, rX1_plain_66, rX1_plain_67, rX1_plain_68, rX1_plain_69, rX1_plain_70, rX1_plain_73, x0, xf, xt, xl, xw, xs, xe, xb, xa, xp, xh, l1, l2, l3, l4, l5, l6, c1, c2, c3, c4, c5, c6, tw, hld]
          exact hR
      · rw [if_neg ht] at tw
        have hs : sl F k = false := by simp [sl, ht]
        rw [hs, if_neg (by decide)] at hR
        simp (disch := first | assumption | omega | decide) only [pis_i, pis_l, pis_r, pis_n, p1_i, p1_r, p1_n, p1_u, pw0, pw1, pw2, pw3, pw4, pK_v, pK_0, pK_ite, if_true, if_false, if_pos, if_neg, Nat.reduceAdd, pok_r, i10, i01, Bool.true_or, Bool.or_true, Bool.and_true, Bool.true_and, Nat.add_sub_cancel, i1p1, i1p0, i0p1, i0p0, nIrem2, va_rf_s, bit1, bit0, pinT, pinLT, pin0, nIc, nIcL, nIlt, nIeq, nIltL, nILlt, nIeqL, nILeq, nIadL, nILad, nILmu, nI_add, nIsbL, nI_sub', decide_true, decide_false, Bool.false_or, Bool.or_false, rX1_plain_33, rX1_plain_33n, rX1_plain_34, rX1_plain_37, rX1_plain_40, rX1_plain_40n, rX1_plain_41, rX1_plain_43, rX1_plain_46, rX1_plain_49, rX1_plain_49n, rX1_plain_50, rX1_plain_52, rX1_plain_55, rX1_plain_58, rX1_plain_59, rX1_plain_60, rX1_plain_60n, rX1_plain_61, rX1_plain_64, rX1_plain_66, rX1_plain_67, rX1_plain_68, rX1_plain_69, rX1_plain_70, rX1_plain_73, x0, xf, xt, xl, xw, xs, xe, xb, xa, xp, xh, l1, l2, l3, l4, l5, l6, c1, c2, c3, c4, c5, c6, tw]
        exact hR
    · obtain ⟨x0, xf, xt, xl, xw, xs, xe, xb, -⟩ := hA.o
      have gn := gA_n (g := gB) (A := fun _ => 0) (o := h.2.1) (W := wOf Hd0) ho
      have wx : (wput gB h.2.1 (wOf Hd0)).2.1 = gB.2.1 := rfl
      rw [rX1_plain_31]
      simp (disch := first | assumption | omega | decide) only [pis_i, pis_l, pis_r, pis_n, p1_i, p1_r, p1_n, p1_u, pw0, pw1, pw2, pw3, pw4, pK_v, pK_0, pK_ite, if_true, if_false, if_pos, if_neg, Nat.reduceAdd, pok_r, i10, i01, Bool.true_or, Bool.or_true, Bool.and_true, Bool.true_and, Nat.add_sub_cancel, i1p1, i1p0, i0p1, i0p0, nIrem2, va_rf_s, bit1, bit0, pinT, pinLT, pin0, nIc, nIcL, nIlt, nIeq, nIltL, nILlt, nIeqL, nILeq, nIadL, nILad, nILmu, nI_add, nIsbL, nI_sub', decide_true, decide_false, Bool.false_or, Bool.or_false, rX1_plain_33, rX1_plain_33n, rX1_plain_34, rX1_plain_37, rX1_plain_76, rX1_plain_79, rX1_plain_79i, rX1_plain_80, rX1_plain_83, rX1_plain_83n, rX1_plain_85, rX1_plain_87, rX1_plain_89, rX1_plain_89n, rX1_plain_91, rX1_plain_92, xb, xput_21, hcx, hi, wx, gn]
      exact l3
  · obtain ⟨x0, xf, xt, xl, xw, xs, xe, xb, xa, xp, -⟩ := (hBA (ptA F p) (wOf (ptN (fb_ct (kp F) p)))).o
    have hbt := gnI_bt hk (F.1 0) (Nat.le_refl _) p (by omega)
    have hcp := fb_ct_le (kp F) p
    have hnp := (ptN_f (fb_ct (kp F) p)).1
    rw [fb_ct_succ] at hR
    rw [rX1_plain_94]
    cases hkp : kp F p with
    | true =>
      have hg0 : bt (gnI F (F.1 0)) p = false := by rw [hbt]; unfold kp at hkp; simpa using hkp
      have hpt := kX23_point (d := d + 9) (h := gA gB (ptA F p)) (o := h.2.1) (H := ptN (fb_ct (kp F) p)) (by omega)
      rw [hnp] at hpt
      have hpt : pCa 221 (d + 9) [.ref h.2.1] (wput (gA gB (ptA F p)) h.2.1 (wOf (ptN (fb_ct (kp F) p)))) = some (.inl (some (.int (nI (fb_ct (kp F) p)))), wput (gA gB (ptA F p)) h.2.1 (wOf (ptN (fb_ct (kp F) p + 1)))) := hpt
      have ga := gA_l (g := gB) (A := ptA F p) (o := h.2.1) (W := wOf (ptN (fb_ct (kp F) p + 1))) ho
      have gw := gA_w (g := gB) (A := ptA F p) (o := h.2.1) (i := p) (v := nI (fb_ct (kp F) p)) (W := wOf (ptN (fb_ct (kp F) p + 1))) ho
      rw [ptA_s hkp] at gw
      rw [hkp, if_pos rfl] at hR
      have p32 : p < 32 := by omega
      simp (disch := first | assumption | omega | decide) only [pis_i, pis_l, pis_r, pis_n, p1_i, p1_r, p1_n, p1_u, pw0, pw1, pw2, pw3, pw4, pK_v, pK_0, pK_ite, if_true, if_false, if_pos, if_neg, Nat.reduceAdd, pok_r, i10, i01, Bool.true_or, Bool.or_true, Bool.and_true, Bool.true_and, Nat.add_sub_cancel, i1p1, i1p0, i0p1, i0p0, nIrem2, va_rf_s, bit1, bit0, pinT, pinLT, pin0, nIc, nIcL, nIlt, nIeq, nIltL, nILlt, nIeqL, nILeq, nIadL, nILad, nILmu, nI_add, nIsbL, nI_sub', decide_true, decide_false, Bool.false_or, Bool.or_false, rX1_plain_96, rX1_plain_96n, rX1_plain_97, rX1_plain_100, rX1_plain_103, rX1_plain_104, rX1_plain_106, rX1_plain_107, rX1_plain_108, rX1_plain_109, rX1_plain_112, rX1_plain_112n, rX1_plain_114, rX1_plain_116, rX1_plain_116n, rX1_plain_118, rX1_plain_121, rX1_plain_122, rX1_plain_125, wCl, wF0, wF1, wF2, wF3, wF4, wF5, wF6, wF7, wP7, wF8, wP8, wF9, wP9, wF10, wP10, wF11, wP11, wL1, wL1n, wC1, wW1, wL2, wL2n, wC2, wW2, wL3, wL3n, wC3, wW3, wL4, wL4n, wC4, wW4, wL5, wL5n, wC5, wW5, wL6, wL6n, wC6, wW6, wL7, wL7n, wC7, wW7, xp, hg0, hpt, ga, gw]
      exact hR
    | false =>
      have hg1 : bt (gnI F (F.1 0)) p = true := by rw [hbt]; unfold kp at hkp; simpa using hkp
      rw [hkp, if_neg (by decide), Nat.add_zero, ptA_n hkp] at hR
      simp (disch := first | assumption | omega | decide) only [pis_i, pis_l, pis_r, pis_n, p1_i, p1_r, p1_n, p1_u, pw0, pw1, pw2, pw3, pw4, pK_v, pK_0, pK_ite, if_true, if_false, if_pos, if_neg, Nat.reduceAdd, pok_r, i10, i01, Bool.true_or, Bool.or_true, Bool.and_true, Bool.true_and, Nat.add_sub_cancel, i1p1, i1p0, i0p1, i0p0, nIrem2, va_rf_s, bit1, bit0, pinT, pinLT, pin0, nIc, nIcL, nIlt, nIeq, nIltL, nILlt, nIeqL, nILeq, nIadL, nILad, nILmu, nI_add, nIsbL, nI_sub', decide_true, decide_false, Bool.false_or, Bool.or_false, rX1_plain_96, rX1_plain_96n, rX1_plain_97, rX1_plain_100, rX1_plain_103, rX1_plain_104, rX1_plain_106, rX1_plain_107, rX1_plain_108, rX1_plain_109, rX1_plain_112, rX1_plain_112n, rX1_plain_114, rX1_plain_116, rX1_plain_116n, rX1_plain_118, rX1_plain_121, rX1_plain_122, rX1_plain_125, xp, hg1, Bool.true_eq_false]
      exact hR
  · have hF := hBA (ptA F (F.1 2)) (wOf (ptN (fb_ct (kp F) (F.1 2))))
    (obtain ⟨x0, xf, xt, xl, xw, xs, xe, xb, xa, xp, xh⟩ := hF.o; obtain ⟨⟨l1, c1⟩, ⟨l2, c2⟩, ⟨l3, c3⟩, ⟨l4, c4⟩, ⟨l5, c5⟩, ⟨l6, c6⟩⟩ := hF.a; have hk' := hk; obtain ⟨k1, k2, k3, k4, k5, k6⟩ := hk')
    have nl0 := (ptN_f (fb_ct (kp F) (F.1 2))).2.2.1
    have hne : (f + 5 == h.2.1 + 7) = false := by simp; omega
    have hnn : (nI (F.1 1)).toNatClampNeg = F.1 1 := nIc (by omega)
    have h0n : (0 : Int32) ≤ nI (F.1 1) := nI_nn (by omega)
    have hcpy := pcp_w (g := gA gB (ptA F (F.1 2))) (a := f + 5) (i := 0) (j := 0) (n := F.1 1) (o := h.2.1) (W := wOf (ptN (fb_ct (kp F) (F.1 2))))
    have hs := sor_w (H := ptN (fb_ct (kp F) (F.1 2))) (F := F) (c := pct (wput (gA gB (ptA F (F.1 2))) h.2.1 (wOf (ptN (fb_ct (kp F) (F.1 2))))) (f + 5)) c5
    rw [nl0, Nat.zero_add (F.1 1)] at hs
    have hs : _ = wOf (plH F) := hs
    have hp5 := ((hBA (ptA F (F.1 2)) ((wOf (ptN (fb_ct (kp F) (F.1 2)))).1, us (wOf (ptN (fb_ct (kp F) (F.1 2)))).2.1 7 (va_cpy (pct (wput (gA gB (ptA F (F.1 2))) h.2.1 (wOf (ptN (fb_ct (kp F) (F.1 2))))) (f + 5)) ((wOf (ptN (fb_ct (kp F) (F.1 2)))).2.1 7) 0 0 (F.1 1)), (wOf (ptN (fb_ct (kp F) (F.1 2)))).2.2)).o).2.2.2.2.2.2.2.2.1
    have hle6 : 0 + F.1 1 ≤ 6 := by omega
    have lq4' := lq4 (F.1 0) 0 (by omega)
    rw [rX1_plain_94]
    simp (disch := first | assumption | omega | decide) only [pis_i, pis_l, pis_r, pis_n, p1_i, p1_r, p1_n, p1_u, pw0, pw1, pw2, pw3, pw4, pK_v, pK_0, pK_ite, if_true, if_false, if_pos, if_neg, Nat.reduceAdd, pok_r, i10, i01, Bool.true_or, Bool.or_true, Bool.and_true, Bool.true_and, Nat.add_sub_cancel, i1p1, i1p0, i0p1, i0p0, nIrem2, va_rf_s, bit1, bit0, pinT, pinLT, pin0, nIc, nIcL, nIlt, nIeq, nIltL, nILlt, nIeqL, nILeq, nIadL, nILad, nILmu, nI_add, nIsbL, nI_sub', decide_true, decide_false, Bool.false_or, Bool.or_false, rX1_plain_96, rX1_plain_96n, rX1_plain_97, rX1_plain_100, rX1_plain_128, rX1_plain_128n, rX1_plain_129, rX1_plain_132, rX1_plain_133, rX1_plain_133n, rX1_plain_135, rX1_plain_138, rX1_plain_139, rX1_plain_139n, rX1_plain_140, rX1_plain_143, rX1_plain_146, rX1_plain_146n, rX1_plain_148, rX1_plain_148n, rX1_plain_149, rX1_plain_152, rX1_plain_155, rX1_plain_156, rX1_plain_158, rX1_plain_159, rX1_plain_161, rX1_plain_162, wCl, wF0, wF1, wF2, wF3, wF4, wF5, wF6, wF7, wP7, wF8, wP8, wF9, wP9, wF10, wP10, wF11, wP11, wL1, wL1n, wC1, wW1, wL2, wL2n, wC2, wW2, wL3, wL3n, wC3, wW3, wL4, wL4n, wC4, wW4, wL5, wL5n, wC5, wW5, wL6, wL6n, wC6, wW6, wL7, wL7n, wC7, wW7, x0, xf, xt, xl, xw, xs, xe, xb, xa, xp, xh, l1, l2, l3, l4, l5, l6, c1, c2, c3, c4, c5, c6, hne, h0n, hnn, hcpy, hp5, Int32.le_refl, show (0 : Int32).toNatClampNeg = 0 from rfl, Bool.not_false, hle6, show (0 < 6) = True by simp, hs]
    exact lq4'
end
