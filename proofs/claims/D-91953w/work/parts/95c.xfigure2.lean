/-! READING 9: the component's figure and fault of a figure -/
set_option maxRecDepth 100000
theorem rq_nw {g : pH} {x : Nat} : rq (pnw g (.inr (6, [.int 0, .int 0, .ref x, .int 0, .int 0, .ref x])) 6) g.2.1 6 0 0 x [.int (nI 0), .int (nI 0), .ref x] = pnw g (.inr (6, [.int 0, .int 0, .ref x, .int 0, .int 0, .ref x])) 6 := by
  unfold rq pup
  refine Prod.ext ?_ rfl
  funext q
  by_cases e : q = g.2.1
  · subst e
    rw [pnw_same]
    simp
    rfl
  · simp [e]
theorem XT_x {h : pH} {x n : Nat} {X : XS} {t : Tp} (hT : XTp X t) (ht : t.1 ≤ 200) (hN : X.1 1 = nI n) (hn : n ≤ 6) : XT (xput h x X) x t n := ⟨by rw [xF3, hT.1], xF2, by rw [xF1, hN], xL2, fun i hi => by rw [xC2]; exact (hT.2 i hi).1, ⟨ht, fun i hi => (hT.2 i hi).2⟩, hn⟩
section
variable {h : pH} {x d G n : Nat} {X : XS} {t : Tp}
theorem x_figure_f (hS : X.1 5 = nI 12) : pCa 12 d [.ref x] (xput h x X) = some (.inl (some (.int (-1))), xput h x X) := by
  rw [eX1_figure]
  simp (disch := first | omega | decide) only [pis_i, pis_l, pis_r, pis_n, p1_i, p1_r, p1_n, p1_u, pw0, pw1, pw2, pw3, pw4, pK_v, pK_0, pK_ite, if_true, if_false, if_pos, if_neg, Nat.reduceAdd, pok_r, i10, i01, Bool.true_or, Bool.or_true, Bool.and_true, Bool.true_and, Nat.add_sub_cancel, i1p1, i1p0, i0p1, i0p0, nIrem2, va_rf_s, bit1, bit0, pinT, pinLT, pin0, nIc, nIcL, nIlt, nIeq, nIltL, nILlt, nIeqL, nILeq, nIadL, nILad, nILmu, nI_add, nIsbL, nI_sub', decide_true, decide_false, Bool.false_or, Bool.or_false, rX1_figure_0, rX1_figure_1, rX1_figure_4, rX1_figure_6, rX1_figure_9, rX1_figure_10, xCl, xF0, xF1, xP1, xF2, xF3, xP3, xF4, xF5, xP5, xF6, xF7, xF8, xF9, xF10, xF11, xF12, xP12, xF13, xP13, xF14, xP14, xF15, xP15, xF16, xP16, xF17, xP17, xF18, xF19, xF20, xP20, xF21, xF22, xP22, xL2, xL2n, xC2, xW2, xL4, xL4n, xC4, xW4, xL5, xL5n, xC5, xW5, xL6, xL6n, xC6, xW6, xL7, xL7n, xC7, xW7, xL8, xL8n, xC8, xW8, xL12, xL12n, xC12, xW12, xL13, xL13n, xC13, xW13, xL1, xK1, xC1, xW1, xL3, xK3, xC3, xW3, xL9, xK9, xC9, xW9, xL10, xK10, xC10, xW10, xLf, xLc, hS]
theorem x_figure (hS : X.1 5 = nI G) (hG : G < 12) (hN : X.1 1 = nI n) (hn : n ≤ 6) (hT : XTp X t) (ht : t.1 ≤ 200) (hx : x + 14 ≤ h.2.1) : (match pfig t n with
    | .inl _ => ∃ h', pCa 12 (d + 40) [.ref x] (xput h x X) = some (.inl (some (.int (-1))), xput h' x X) ∧ Gw x h h'
    | .inr (c, _, _) => ∃ h' f, pCa 12 (d + 40) [.ref x] (xput h x X) = some (.inl (some (.int (nI G))), xput h' x (upd (upd X.1 3 0) 5 (nI (G + 1)), X.2.1, uq X.2.2.1 3 G (some f), X.2.2.2)) ∧ Gw x h h' ∧ h.2.1 ≤ f ∧ f + 8 ≤ h'.2.1 ∧ FigAt h' f (figOf (ex c Hd0)) ∧ HdB n (ex c Hd0)) := by
  have hi := kX23_init (d := d + 38) (h := xput h x X) (n0 := h.2.1) rfl
  have g01 : (wput (gr (xput h x X) 8 154) (xput h x X).2.1 (wOf Hd0)).2.1 = h.2.1 + 8 := rfl
  have g02 : (wput (gr (xput h x X) 8 154) (xput h x X).2.1 (wOf Hd0)).2.2 = h.2.2 + 154 := rfl
  have g0o : ∀ q, q < h.2.1 → (wput (gr (xput h x X) 8 154) (xput h x X).2.1 (wOf Hd0)).1 q = (xput h x X).1 q := fun q hq => wput_out (Or.inl hq)
  have g0w : ∀ j, j < 8 → (wput (gr (xput h x X) 8 154) (xput h x X).2.1 (wOf Hd0)).1 (h.2.1 + j) = wcell h.2.1 (wOf Hd0) j := fun j hj => wput_at hj
  generalize wput (gr (xput h x X) 8 154) (xput h x X).2.1 (wOf Hd0) = g0 at hi g01 g02 g0o g0w
  have hcx : pcl (pnw (xput h x X) (.inr (23, [.null, .null, .null, .null, .null, .null, .null, .int 0, .int 0, .int 0, .int 0, .int 0])) 12) h.2.1 = 23 := pcl_pnw (h := xput h x X)
  let h1 : pH := pnw g0 (.inr (6, [.int 0, .int 0, .ref x, .int 0, .int 0, .ref x])) 6
  have h11 : h1.2.1 = h.2.1 + 9 := by show g0.2.1 + 1 = _; omega
  have h12 : h1.2.2 = h.2.2 + 160 := by show g0.2.2 + 6 = _; omega
  have h1o : ∀ q, q < h.2.1 → h1.1 q = (xput h x X).1 q := fun q hq => by show (pnw g0 _ 6).1 q = _; rw [pnw_ne (by omega), g0o q hq]
  have h1w : ∀ j, j < 8 → h1.1 (h.2.1 + j) = wcell h.2.1 (wOf Hd0) j := fun j hj => by show (pnw g0 _ 6).1 _ = _; rw [pnw_ne (by omega), g0w j hj]
  have hR : RP h1 x g0.2.1 t n := ⟨(XT_x (h := h) hT ht hN hn).fr (h1o x (by omega)) (h1o (x + 2) (by omega)), by omega, by omega, by omega, by omega⟩
  have hw := kX6_whole (d := d + 8) hR
  have hpo := pfig_ok (t := t) (N := n) (Nat.zero_le _)
  rw [eX1_figure]
  have go : pR 12 (d + 40) 0 [.ref x, pU, pU] [] (xput h x X) = pK 12 (d + 40) 27 3 [.ref x, .ref h.2.1, pU] [] (pCa 177 (d + 39) [.ref g0.2.1] (rq h1 g0.2.1 6 0 0 x [.int (nI 0), .int (nI 0), .ref x])) := by
    show _ = pK 12 (d + 40) 27 3 [.ref x, .ref h.2.1, pU] [] (pCa 177 (d + 39) [.ref g0.2.1] (rq (pnw g0 (.inr (6, [.int 0, .int 0, .ref x, .int 0, .int 0, .ref x])) 6) g0.2.1 6 0 0 x [.int (nI 0), .int (nI 0), .ref x]))
    rw [rq_nw]
    simp (disch := first | assumption | omega | decide) only [pis_i, pis_l, pis_r, pis_n, p1_i, p1_r, p1_n, p1_u, pw0, pw1, pw2, pw3, pw4, pK_v, pK_0, pK_ite, if_true, if_false, if_pos, if_neg, Nat.reduceAdd, pok_r, i10, i01, Bool.true_or, Bool.or_true, Bool.and_true, Bool.true_and, Nat.add_sub_cancel, i1p1, i1p0, i0p1, i0p0, nIrem2, va_rf_s, bit1, bit0, pinT, pinLT, pin0, nIc, nIcL, nIlt, nIeq, nIltL, nILlt, nIeqL, nILeq, nIadL, nILad, nILmu, nI_add, nIsbL, nI_sub', decide_true, decide_false, Bool.false_or, Bool.or_false, rX1_figure_0, rX1_figure_1, rX1_figure_4, rX1_figure_6, rX1_figure_9, rX1_figure_10, rX1_figure_11, rX1_figure_14, rX1_figure_14i, rX1_figure_15, rX1_figure_18, rX1_figure_18n, rX1_figure_19, rX1_figure_22, rX1_figure_22i, rX1_figure_23, rX1_figure_24, rX1_figure_27, xCl, xF0, xF1, xP1, xF2, xF3, xP3, xF4, xF5, xP5, xF6, xF7, xF8, xF9, xF10, xF11, xF12, xP12, xF13, xP13, xF14, xP14, xF15, xP15, xF16, xP16, xF17, xP17, xF18, xF19, xF20, xP20, xF21, xF22, xP22, xL2, xL2n, xC2, xW2, xL4, xL4n, xC4, xW4, xL5, xL5n, xC5, xW5, xL6, xL6n, xC6, xW6, xL7, xL7n, xC7, xW7, xL8, xL8n, xC8, xW8, xL12, xL12n, xC12, xW12, xL13, xL13n, xC13, xW13, xL1, xK1, xC1, xW1, xL3, xK3, xC3, xW3, xL9, xK9, xC9, xW9, xL10, xK10, xC10, xW10, xLf, xLc, hS, xput_21, hcx, hi, pcl_pnw, psf_pnw, beq_self_eq_true, List.set_cons_zero, List.set_cons_succ]
  rw [go]
  clear go
  generalize pfig t n = z at hw hpo
  match z, hw, hpo with
  | .inl w, ⟨e, h', a', dp', bu', bl', q1, q2, q3, q4⟩, _ =>
    have e1 : ∀ q, q < h.2.1 → (rq h' g0.2.1 6 a' dp' x [.int (nI bu'), .int (nI bl'), .ref x]).1 q = (xput h x X).1 q := fun q hq => by rw [rq_ne (by omega), q2.2.2.2 q (by omega), h1o q hq]
    have eid : xput (rq h' g0.2.1 6 a' dp' x [.int (nI bu'), .int (nI bl'), .ref x]) x X = rq h' g0.2.1 6 a' dp' x [.int (nI bu'), .int (nI bl'), .ref x] := xput_id (fun j hj => by rw [e1 _ (by omega), xput_at hj])
    refine ⟨rq h' g0.2.1 6 a' dp' x [.int (nI bu'), .int (nI bl'), .ref x], ?_, ?_⟩
    · rw [eid, show pCa 177 (d + 39) [.ref g0.2.1] (rq h1 g0.2.1 6 0 0 x [.int (nI 0), .int (nI 0), .ref x]) = _ from q1]
      have hcl : pcl (rq h' g0.2.1 6 a' dp' x [.int (nI bu'), .int (nI bl'), .ref x]) e = 7 := by rw [qO_pcl q4]; exact pcl_of q3
      have hk : pK 12 (d + 40) 27 3 [.ref x, .ref h.2.1, pU] [] (some (.inr e, rq h' g0.2.1 6 a' dp' x [.int (nI bu'), .int (nI bl'), .ref x])) = pR 12 (d + 40) 37 [.ref x, .ref h.2.1, pU] [.ref e] (rq h' g0.2.1 6 a' dp' x [.int (nI bu'), .int (nI bl'), .ref x]) := by
        simp only [pK, show phd 12 27 = some (37, 7) from rfl, hcl, if_true]
      rw [hk]
      simp (disch := first | assumption | omega | decide) only [pis_i, pis_l, pis_r, pis_n, p1_i, p1_r, p1_n, p1_u, pw0, pw1, pw2, pw3, pw4, pK_v, pK_0, pK_ite, if_true, if_false, if_pos, if_neg, Nat.reduceAdd, pok_r, i10, i01, Bool.true_or, Bool.or_true, Bool.and_true, Bool.true_and, rX1_figure_37, rX1_figure_37n, rX1_figure_38, rX1_figure_39]
    · have f1 := q2.1
      have f2 := q2.2.1
      have f3 := q2.2.2.1
      refine ⟨by show h.2.1 ≤ h'.2.1; omega, by show h'.2.1 ≤ _; omega, by show h'.2.2 ≤ _; omega, fun q hq hq2 => ?_⟩
      rw [e1 q hq, xput_out hq2]
  | .inr (c, q, b), ⟨a, h', bl', q1, q2, q3⟩, ⟨o1, o2, o3, o4, o5, o6⟩ =>
    have f1 := q2.1
    have f2 := q2.2.1
    have f3 := q2.2.2.1
    have q1 : pCa 177 (d + 39) [.ref g0.2.1] (rq h1 g0.2.1 6 0 0 x [.int (nI 0), .int (nI 0), .ref x]) = _ := q1
    have e1 : ∀ z, z < h.2.1 → (rq h' g0.2.1 6 q 0 x [.int (nI b), .int (nI bl'), .ref x]).1 z = (xput h x X).1 z := fun z hz => by rw [rq_ne (by omega), q2.2.2.2 z (by omega), h1o z hz]
    have e2 : ∀ j, j < 8 → (rq h' g0.2.1 6 q 0 x [.int (nI b), .int (nI bl'), .ref x]).1 (h.2.1 + j) = wcell h.2.1 (wOf Hd0) j := fun j hj => by rw [rq_ne (by omega), q2.2.2.2 _ (by omega), h1w j hj]
    have e3 : ag h' (rq h' g0.2.1 6 q 0 x [.int (nI b), .int (nI bl'), .ref x]) h1.2.1 h'.2.1 := fun z z1 z2 => rq_ne (by omega)
    have e4 : (rq h' g0.2.1 6 q 0 x [.int (nI b), .int (nI bl'), .ref x]).2 = h'.2 := rfl
    generalize rq h' g0.2.1 6 q 0 x [.int (nI b), .int (nI bl'), .ref x] = g at q1 e1 e2 e3 e4
    have gid : xput g x X = g := xput_id (fun j hj => by rw [e1 _ (by omega), xput_at hj])
    have wid : wput g h.2.1 (wOf Hd0) = g := wput_id e2
    have hch : Ch (wput g h.2.1 (wOf Hd0)) c (some a) := by rw [wid]; exact q3 g e3
    obtain ⟨r1, r2, r3, r4⟩ := all_f (d := d + 18) c (some a) a Hd0 o5 hch HdB_0 (by show 0 + bc c ≤ 24; omega) (by show 0 + fc c ≤ 6; omega)
    have hca : pok 8 (pcl g a) = true := by
      have := Ch_c8 (W := wOf Hd0) hch
      rwa [wid] at this
    have hal : pCa 184 (d + 39) [.ref a, .ref h.2.1] g = some (.inl none, wput g h.2.1 (wOf (ex c Hd0))) := by
      rw [eX8_all]
      rw [wid, va_rf_s] at r1
      simp (disch := first | assumption | omega | decide) only [pis_i, pis_l, pis_r, pis_n, p1_i, p1_r, p1_n, p1_u, pw0, pw1, pw2, pw3, pw4, pK_v, pK_0, pK_ite, if_true, if_false, if_pos, if_neg, Nat.reduceAdd, pok_r, i10, i01, Bool.true_or, Bool.or_true, Bool.and_true, Bool.true_and, rX8_all_0, rX8_all_1, rX8_all_1n]
      exact r1
    -- the length goes to 0
    let X1 : XS := (upd X.1 3 0, X.2)
    have p0 : psf (wput g h.2.1 (wOf (ex c Hd0))) x 3 (.int 0) = wput (xput g x X1) h.2.1 (wOf (ex c Hd0)) := by
      rw [wO_psf (Or.inl (by omega)), ← gid, xP3, gid]
    have pf : pis (pfl (wput g h.2.1 (wOf (ex c Hd0))) 1 x 3) = true := by
      rw [wO_pfl (Or.inl (by omega)), ← gid, xF3]; rfl
    obtain ⟨Y, y1, y2, y3, y4, y5⟩ := xnew (d := d + 37) (h := g) (x := x) (X := X1) (o := h.2.1) (H := ex c Hd0) (by omega) (by rw [e4]; omega) r2.k
    have hcy : pcl (xput (wput (yput (gr (xput g x X1) 8 176) g.2.1 Y) h.2.1 (wOf (ex c Hd0))) x X1) g.2.1 = 24 := by
      rw [xO_pcl (F := 0) (k := 0) (Or.inr (by rw [e4]; omega))]
      exact pcl_of y2.1
    have hke := kX1_keep (d := d + 39) (X := X1) (G := G) (f := g.2.1) (show upd X.1 3 0 5 = nI G from hS) hG hcy
    have hpn : pnw (wput (xput g x X1) h.2.1 (wOf (ex c Hd0))) (.inr (24, [.null, .null, .null, .null, .null, .null, .int 0, .int 0, .int 0, .int 0])) 10 = wput (pnw (xput g x X1) (.inr (24, [.null, .null, .null, .null, .null, .null, .int 0, .int 0, .int 0, .int 0])) 10) h.2.1 (wOf (ex c Hd0)) := wO_pnw (by show h.2.1 + 8 ≤ g.2.1; rw [e4]; omega)
    have hcn : pcl (wput (pnw (xput g x X1) (.inr (24, [.null, .null, .null, .null, .null, .null, .int 0, .int 0, .int 0, .int 0])) 10) h.2.1 (wOf (ex c Hd0))) g.2.1 = 24 := by
      rw [wq_pcl (Or.inr (by rw [e4]; omega))]
      exact pcl_pnw (h := xput g x X1)
    have hxc : pcl (xput (wput (yput (gr (xput g x X1) 8 176) g.2.1 Y) h.2.1 (wOf (ex c Hd0))) x X1) x = 1 := xCl
    have wx : (wput (xput g x X1) h.2.1 (wOf (ex c Hd0))).2.1 = g.2.1 := rfl
    refine ⟨wput (yput (gr (xput g x X1) 8 176) g.2.1 Y) h.2.1 (wOf (ex c Hd0)), g.2.1, ?_, ?_, by rw [e4]; omega, by rw [y3]; exact Nat.le_refl _, y2, r2⟩
    · rw [q1]
      simp (disch := first | assumption | omega | decide) only [pis_i, pis_l, pis_r, pis_n, p1_i, p1_r, p1_n, p1_u, pw0, pw1, pw2, pw3, pw4, pK_v, pK_0, pK_ite, if_true, if_false, if_pos, if_neg, Nat.reduceAdd, pok_r, i10, i01, Bool.true_or, Bool.or_true, Bool.and_true, Bool.true_and, Nat.add_sub_cancel, i1p1, i1p0, i0p1, i0p0, nIrem2, va_rf_s, bit1, bit0, pinT, pinLT, pin0, nIc, nIcL, nIlt, nIeq, nIltL, nILlt, nIeqL, nILeq, nIadL, nILad, nILmu, nI_add, nIsbL, nI_sub', decide_true, decide_false, Bool.false_or, Bool.or_false, rX1_figure_27, rX1_figure_30, rX1_figure_30n, rX1_figure_31, rX1_figure_34, rX1_figure_37, rX1_figure_37n, rX1_figure_38, rX1_figure_39, rX1_figure_40, rX1_figure_41, rX1_figure_42, rX1_figure_45, rX1_figure_46, rX1_figure_49, rX1_figure_49i, rX1_figure_50, rX1_figure_50n, rX1_figure_51, rX1_figure_54, rX1_figure_57, hca, hal, pf, p0, wx, hpn, hcn, y1, hxc, hke]
      rfl
    · refine ⟨by rw [y3, e4]; omega, by rw [y3, e4]; omega, by rw [y4, e4]; omega, fun z hz hz2 => ?_⟩
      rw [y5 z (by rw [e4]; omega) (Or.inl hz), xput_out hz2, e1 z hz, xput_out hz2]
end
