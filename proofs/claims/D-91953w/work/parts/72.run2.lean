/-! THE STALL 3: the component runs -/
set_option maxRecDepth 100000
def rw4 (r : Nat → Nat → Int32) (k : Nat) (a b c e : Int32) : Nat → Nat → Int32 := fun i j => if i = k then (if j = 0 then a else if j = 1 then b else if j = 2 then c else if j = 3 then e else r k j) else r i j
section
variable {r : Nat → Nat → Int32} {k : Nat} {a b c e v w : Int32}
theorem rw4_0 : rw4 r k a b c e k 0 = a := by simp [rw4]
theorem rw4_1 : rw4 r k a b c e k 1 = b := by simp [rw4]
theorem rw4_2 : rw4 r k a b c e k 2 = c := by simp [rw4]
theorem rw4_3 : rw4 r k a b c e k 3 = e := by simp [rw4]
theorem rw4_u0 : ua (rw4 r k a b c e) k 0 v = rw4 r k v b c e := by
  funext i j
  by_cases h : i = k
  · by_cases h0 : j = 0 <;> simp [h, h0, upd, rw4, ua]
  · simp [h, upd, rw4, ua]
theorem rw4_u23 : ua (ua (rw4 r k a b c e) k 2 v) k 3 w = rw4 r k a b v w := by
  funext i j
  by_cases h : i = k
  · by_cases h0 : j = 0
    · simp [h, h0, upd, rw4, ua]
    · by_cases h1 : j = 1
      · simp [h, h1, upd, rw4, ua]
      · by_cases h2 : j = 2
        · simp [h, h2, upd, rw4, ua]
        · by_cases h3 : j = 3 <;> simp [h, h0, h1, h2, h3, upd, rw4, ua]
  · simp [h, upd, rw4, ua]
theorem rw4_i : ua (ua (ua (ua r k 1 b) k 2 c) k 3 e) k 0 a = rw4 r k a b c e := by
  funext i j
  by_cases h : i = k
  · by_cases h0 : j = 0
    · simp [h, h0, upd, rw4, ua]
    · by_cases h1 : j = 1
      · simp [h, h1, upd, rw4, ua]
      · by_cases h2 : j = 2
        · simp [h, h2, upd, rw4, ua]
        · by_cases h3 : j = 3 <;> simp [h, h0, h1, h2, h3, upd, rw4, ua]
  · simp [h, upd, rw4, ua]
end
/-- a guest's turn: how it went, what is there, the chance, the tick, what is taken -/
abbrev BS : Type := Int32 × (Nat → Nat) × Int64 × Int32 × Int32
def bs1 (F : Fig) (so : Nat → Nat → Int32) (pa pb : Int32) (b : Nat) (z : BS) : BS := if z.1 = 0 then
  (let q := mk (so (F.2.1 3 b) 2) (pa + pb * nI (fb_ct (fOf F b) (F.1 0))) (z.2.1 (F.2.1 3 b)) z.2.2.1 z.2.2.2.1 z.2.2.2.2
   (if q.1 = true then 0 else 3, un z.2.1 (F.2.1 3 b) q.2.1, q.2.2.1, q.2.2.2.1, q.2.2.2.2)) else z
def bl (F : Fig) (so : Nat → Nat → Int32) (pa pb : Int32) (z : BS) : Nat → BS
  | 0 => z
  | b + 1 => bs1 F so pa pb b (bl F so pa pb z b)
def mxI (a b : Int32) : Int32 := if a < b then b else a
def sv0 (F : Fig) (n : Nat) (T : Nat → Nat) (l : Int64) (fr c p : Int32) : BS := (if p < mxI fr c - c then 1 else if (∀ s, s < n → nd1 F (F.1 1) s ≤ T s) then 0 else 2, T, l, mxI fr c, 0)
def sv (F : Fig) (so : Nat → Nat → Int32) (pa pb : Int32) (n : Nat) (T : Nat → Nat) (l : Int64) (fr c p : Int32) : BS := bl F so pa pb (sv0 F n T l fr c p) (F.1 1)
theorem bl_stay {F : Fig} {so : Nat → Nat → Int32} {pa pb : Int32} {z : BS} {b : Nat} (h : (bl F so pa pb z b).1 ≠ 0) : ∀ n, bl F so pa pb z (b + n) = bl F so pa pb z b := by
  intro n
  induction n with
  | zero => rfl
  | succ n ih => rw [← Nat.add_assoc, bl, ih, bs1, if_neg h]
theorem bl_T {F : Fig} {so : Nat → Nat → Int32} {pa pb : Int32} {z : BS} (hz : ∀ s, z.2.1 s < 1000) : ∀ n s, (bl F so pa pb z n).2.1 s < 1000 := by
  intro n
  induction n with
  | zero => exact hz
  | succ n ih =>
    intro s
    rw [bl, bs1]
    split
    · simp only [un]
      split
      · exact Nat.lt_of_le_of_lt (mk_le _ _ _ _) (ih _)
      · exact ih s
    · exact ih s
section
variable {L : Stl} {r : Nat → Nat → Int32} {T N : Nat → Nat} {X : XS} {d k s b : Nat} {w fr : Int32}
theorem Stl.ok_l {l : Int64} (hX : L.ok X) : L.ok (X.1, X.2.1, X.2.2.1, l) := hX
theorem kX1_serves (hX : L.ok X) (hk : k < L.K) (hT : ∀ s, T s < 1000) :
    pCa 51 (d + 3) [.ref L.x, .ref (L.ga k), .int fr] (L.w r T N X) = (let z := sv (L.Fg k) L.so (X.1 15) (X.1 14) L.n T X.2.2.2 fr (L.c k) (L.p k); some (.inl none, L.w (rw4 r k z.1 (mxI fr (L.c k)) z.2.2.2.1 z.2.2.2.2) z.2.1 (if L.p k < mxI fr (L.c k) - L.c k then N else nd1 (L.Fg k) ((L.Fg k).1 1)) (X.1, X.2.1, X.2.2.1, z.2.2.1))) := by
  obtain ⟨-, -, hk2, hso, -, -⟩ := L.hF k hk
  have hn := L.hn
  have k2 := hk2.2.1
  -- the loop
  have lp : ∀ (z0 : BS) (N : Nat → Nat), (∀ s, z0.2.1 s < 1000) → pR 51 (d + 3) 67 [.ref L.x, .ref (L.ga k), .int fr, .int 0] [] (L.w (rw4 r k z0.1 (mxI fr (L.c k)) z0.2.2.2.1 z0.2.2.2.2) z0.2.1 N (X.1, X.2.1, X.2.2.1, z0.2.2.1)) = (let z := bl (L.Fg k) L.so (X.1 15) (X.1 14) z0 ((L.Fg k).1 1); some (.inl none, L.w (rw4 r k z.1 (mxI fr (L.c k)) z.2.2.2.1 z.2.2.2.2) z.2.1 N (X.1, X.2.1, X.2.2.1, z.2.2.1))) := by
    intro z0 N hz0
    refine loopP (N := (L.Fg k).1 1) (P := fun b => (let z := bl (L.Fg k) L.so (X.1 15) (X.1 14) z0 b; pR 51 (d + 3) 67 [.ref L.x, .ref (L.ga k), .int fr, .int (nI b)] [] (L.w (rw4 r k z.1 (mxI fr (L.c k)) z.2.2.2.1 z.2.2.2.2) z.2.1 N (X.1, X.2.1, X.2.2.1, z.2.2.1))) = (let z := bl (L.Fg k) L.so (X.1 15) (X.1 14) z0 ((L.Fg k).1 1); some (.inl none, L.w (rw4 r k z.1 (mxI fr (L.c k)) z.2.2.2.1 z.2.2.2.2) z.2.1 N (X.1, X.2.1, X.2.2.1, z.2.2.1)))) (fun b hb ih => ?_) ?_ 0 (Nat.zero_le _)
    · rw [bl, bs1] at ih
      by_cases c0 : (bl (L.Fg k) L.so (X.1 15) (X.1 14) z0 b).1 = 0
      · rw [if_pos c0] at ih
        have hT' := bl_T (F := L.Fg k) (so := L.so) (pa := X.1 15) (pb := X.1 14) hz0 b
        generalize hz : bl (L.Fg k) L.so (X.1 15) (X.1 14) z0 b = z at c0 ih hT'
        generalize hR : (let z := bl (L.Fg k) L.so (X.1 15) (X.1 14) z0 ((L.Fg k).1 1); some ((Sum.inl none : (Option Value) ⊕ Nat), L.w (rw4 r k z.1 (mxI fr (L.c k)) z.2.2.2.1 z.2.2.2.2) z.2.1 N (X.1, X.2.1, X.2.2.1, z.2.2.1))) = R at ih
        have hF := Stl.fig (L := L) (r := rw4 r k 0 (mxI fr (L.c k)) z.2.2.2.1 z.2.2.2.2) (T := z.2.1) (N := N) (X := (X.1, X.2.1, X.2.2.1, z.2.2.1)) hk
        obtain ⟨x0, xf, xt, xl, xw, xs, xe, xb, xa, xp, xh⟩ := hF.o
        have hm := kX1_makes (d := d + 1) (b := b) (r := rw4 r k 0 (mxI fr (L.c k)) z.2.2.2.1 z.2.2.2.2) (T := z.2.1) (N := N) (Stl.ok_l (l := z.2.2.1) hX) hk hb hT'
        simp only [rw4_2, rw4_3, rw4_u23] at hm
        show pR 51 (d + 3) 67 _ _ _ = R
        rw [c0, rX1_serves_67]
        generalize mk (L.so ((L.Fg k).2.1 3 b) 2) (X.1 15 + X.1 14 * nI (fb_ct (fOf (L.Fg k) b) ((L.Fg k).1 0))) (z.2.1 ((L.Fg k).2.1 3 b)) z.2.2.1 z.2.2.2.1 z.2.2.2.2 = q at hm ih
        cases q1 : q.1
        · simp only [q1, Bool.false_eq_true, if_false] at hm ih
          simp (disch := first | assumption | omega | decide) only [pis_i, pis_l, pis_r, pis_n, p1_i, p1_r, p1_n, p1_u, pw0, pw1, pw2, pw3, pw4, pK_v, pK_0, pK_ite, if_true, if_false, if_pos, if_neg, Nat.reduceAdd, pok_r, i10, i01, Bool.true_or, Bool.or_true, Bool.and_true, Bool.true_and, Nat.add_sub_cancel, i1p1, i1p0, i0p1, i0p0, nIrem2, va_rf_s, bit1, bit0, pinT, pinLT, pin0, nIc, nIcL, nIlt, nIeq, nIltL, nILlt, nIeqL, nILeq, nIadL, nILad, nILmu, nI_add, nIsbL, nI_sub', decide_true, decide_false, Bool.false_or, Bool.or_false, rX1_serves_68, rX1_serves_68n, rX1_serves_69, rX1_serves_72, rX1_serves_75, rX1_serves_78, rX1_serves_78n, rX1_serves_79, rX1_serves_82, rX1_serves_85, rX1_serves_86, rX1_serves_86n, rX1_serves_87, rX1_serves_88, rX1_serves_91, rX1_serves_94, rX1_serves_94n, rX1_serves_95, rX1_serves_96, rX1_serves_99, rX1_serves_102, Stl.f0, Stl.f3, Stl.p3, zCl, xa, rw4_0, hm, rw4_u0]
          exact ih
        · simp only [q1, if_true] at hm ih
          simp (disch := first | assumption | omega | decide) only [pis_i, pis_l, pis_r, pis_n, p1_i, p1_r, p1_n, p1_u, pw0, pw1, pw2, pw3, pw4, pK_v, pK_0, pK_ite, if_true, if_false, if_pos, if_neg, Nat.reduceAdd, pok_r, i10, i01, Bool.true_or, Bool.or_true, Bool.and_true, Bool.true_and, Nat.add_sub_cancel, i1p1, i1p0, i0p1, i0p0, nIrem2, va_rf_s, bit1, bit0, pinT, pinLT, pin0, nIc, nIcL, nIlt, nIeq, nIltL, nILlt, nIeqL, nILeq, nIadL, nILad, nILmu, nI_add, nIsbL, nI_sub', decide_true, decide_false, Bool.false_or, Bool.or_false, rX1_serves_68, rX1_serves_68n, rX1_serves_69, rX1_serves_72, rX1_serves_75, rX1_serves_78, rX1_serves_78n, rX1_serves_79, rX1_serves_82, rX1_serves_85, rX1_serves_86, rX1_serves_86n, rX1_serves_87, rX1_serves_88, rX1_serves_91, rX1_serves_94, rX1_serves_94n, rX1_serves_95, rX1_serves_96, rX1_serves_99, rX1_serves_102, Stl.f0, Stl.f3, Stl.p3, zCl, xa, rw4_0, hm, rw4_u0]
          exact ih
      · have hst := bl_stay c0 ((L.Fg k).1 1 - b)
        rw [Nat.add_sub_cancel' (by omega)] at hst
        rw [hst]
        generalize bl (L.Fg k) L.so (X.1 15) (X.1 14) z0 b = z at c0
        have hF := Stl.fig (L := L) (r := rw4 r k z.1 (mxI fr (L.c k)) z.2.2.2.1 z.2.2.2.2) (T := z.2.1) (N := N) (X := (X.1, X.2.1, X.2.2.1, z.2.2.1)) hk
        obtain ⟨x0, xf, xt, xl, xw, xs, xe, xb, xa, xp, xh⟩ := hF.o
        show pR 51 (d + 3) 67 _ _ _ = _
        rw [rX1_serves_67]
        simp (disch := first | assumption | omega | decide) only [pis_i, pis_l, pis_r, pis_n, p1_i, p1_r, p1_n, p1_u, pw0, pw1, pw2, pw3, pw4, pK_v, pK_0, pK_ite, if_true, if_false, if_pos, if_neg, Nat.reduceAdd, pok_r, i10, i01, Bool.true_or, Bool.or_true, Bool.and_true, Bool.true_and, Nat.add_sub_cancel, i1p1, i1p0, i0p1, i0p0, nIrem2, va_rf_s, bit1, bit0, pinT, pinLT, pin0, nIc, nIcL, nIlt, nIeq, nIltL, nILlt, nIeqL, nILeq, nIadL, nILad, nILmu, nI_add, nIsbL, nI_sub', decide_true, decide_false, Bool.false_or, Bool.or_false, rX1_serves_68, rX1_serves_68n, rX1_serves_69, rX1_serves_72, rX1_serves_75, rX1_serves_78, rX1_serves_78n, rX1_serves_79, rX1_serves_82, rX1_serves_105, Stl.f0, Stl.f3, xa, rw4_0, c0]
    · generalize bl (L.Fg k) L.so (X.1 15) (X.1 14) z0 ((L.Fg k).1 1) = z
      have hF := Stl.fig (L := L) (r := rw4 r k z.1 (mxI fr (L.c k)) z.2.2.2.1 z.2.2.2.2) (T := z.2.1) (N := N) (X := (X.1, X.2.1, X.2.2.1, z.2.2.1)) hk
      obtain ⟨x0, xf, xt, xl, xw, xs, xe, xb, xa, xp, xh⟩ := hF.o
      show pR 51 (d + 3) 67 _ _ _ = _
      rw [rX1_serves_67]
      simp (disch := first | assumption | omega | decide) only [pis_i, pis_l, pis_r, pis_n, p1_i, p1_r, p1_n, p1_u, pw0, pw1, pw2, pw3, pw4, pK_v, pK_0, pK_ite, if_true, if_false, if_pos, if_neg, Nat.reduceAdd, pok_r, i10, i01, Bool.true_or, Bool.or_true, Bool.and_true, Bool.true_and, Nat.add_sub_cancel, i1p1, i1p0, i0p1, i0p0, nIrem2, va_rf_s, bit1, bit0, pinT, pinLT, pin0, nIc, nIcL, nIlt, nIeq, nIltL, nILlt, nIeqL, nILeq, nIadL, nILad, nILmu, nI_add, nIsbL, nI_sub', decide_true, decide_false, Bool.false_or, Bool.or_false, rX1_serves_68, rX1_serves_68n, rX1_serves_69, rX1_serves_72, rX1_serves_75, rX1_serves_105, Stl.f0, xa]
  have hmx : (if fr < L.c k then L.c k else fr) = mxI fr (L.c k) := rfl
  rw [eX1_serves]
  have hhf := kX1_hasFor (d := d + 1) (r := ua (ua (ua r k 1 (mxI fr (L.c k))) k 2 (mxI fr (L.c k))) k 3 0) (T := T) (N := N) hX hk hT
  rw [sv]
  by_cases c1 : L.p k < mxI fr (L.c k) - L.c k
  · simp (disch := first | assumption | omega | decide) only [pis_i, pis_l, pis_r, pis_n, p1_i, p1_r, p1_n, p1_u, pw0, pw1, pw2, pw3, pw4, pK_v, pK_0, pK_ite, if_true, if_false, if_pos, if_neg, Nat.reduceAdd, pok_r, i10, i01, Bool.true_or, Bool.or_true, Bool.and_true, Bool.true_and, Nat.add_sub_cancel, i1p1, i1p0, i0p1, i0p0, nIrem2, va_rf_s, bit1, bit0, pinT, pinLT, pin0, nIc, nIcL, nIlt, nIeq, nIltL, nILlt, nIeqL, nILeq, nIadL, nILad, nILmu, nI_add, nIsbL, nI_sub', decide_true, decide_false, Bool.false_or, Bool.or_false, rX1_serves_0, rX1_serves_0n, rX1_serves_1, rX1_serves_2, rX1_serves_2n, rX1_serves_3, rX1_serves_6, rX1_serves_9, rX1_serves_12, rX1_serves_12n, rX1_serves_13, rX1_serves_13n, rX1_serves_14, rX1_serves_17, rX1_serves_20, rX1_serves_20n, rX1_serves_21, rX1_serves_22, rX1_serves_25, rX1_serves_25n, rX1_serves_26, rX1_serves_26n, rX1_serves_27, rX1_serves_30, rX1_serves_30n, rX1_serves_31, rX1_serves_34, rX1_serves_35, rX1_serves_35n, rX1_serves_36, rX1_serves_39, rX1_serves_42, rX1_serves_43, rX1_serves_46, rX1_serves_47, rX1_serves_47n, rX1_serves_48, rX1_serves_51, rX1_serves_54, rX1_serves_57, rX1_serves_58, rX1_serves_61, rX1_serves_62, rX1_serves_65, rX1_serves_66, Stl.f0, Stl.f1, Stl.f2, Stl.f4, Stl.f3, Stl.f5, Stl.f6, Stl.p3, Stl.p4, Stl.p5, Stl.p6, hmx, ua_s, ua_n, c1, rw4_i]
    exact lp (sv0 (L.Fg k) L.n T X.2.2.2 fr (L.c k) (L.p k)) N hT |> fun e => by
      simp only [sv0, if_pos c1] at e ⊢
      exact e
  · simp (disch := first | assumption | omega | decide) only [pis_i, pis_l, pis_r, pis_n, p1_i, p1_r, p1_n, p1_u, pw0, pw1, pw2, pw3, pw4, pK_v, pK_0, pK_ite, if_true, if_false, if_pos, if_neg, Nat.reduceAdd, pok_r, i10, i01, Bool.true_or, Bool.or_true, Bool.and_true, Bool.true_and, Nat.add_sub_cancel, i1p1, i1p0, i0p1, i0p0, nIrem2, va_rf_s, bit1, bit0, pinT, pinLT, pin0, nIc, nIcL, nIlt, nIeq, nIltL, nILlt, nIeqL, nILeq, nIadL, nILad, nILmu, nI_add, nIsbL, nI_sub', decide_true, decide_false, Bool.false_or, Bool.or_false, rX1_serves_0, rX1_serves_0n, rX1_serves_1, rX1_serves_2, rX1_serves_2n, rX1_serves_3, rX1_serves_6, rX1_serves_9, rX1_serves_12, rX1_serves_12n, rX1_serves_13, rX1_serves_13n, rX1_serves_14, rX1_serves_17, rX1_serves_20, rX1_serves_20n, rX1_serves_21, rX1_serves_22, rX1_serves_25, rX1_serves_25n, rX1_serves_26, rX1_serves_26n, rX1_serves_27, rX1_serves_30, rX1_serves_30n, rX1_serves_31, rX1_serves_34, rX1_serves_35, rX1_serves_35n, rX1_serves_36, rX1_serves_39, rX1_serves_42, rX1_serves_43, rX1_serves_46, rX1_serves_47, rX1_serves_47n, rX1_serves_48, rX1_serves_51, rX1_serves_54, rX1_serves_57, rX1_serves_58, rX1_serves_61, rX1_serves_62, rX1_serves_65, rX1_serves_66, Stl.f0, Stl.f1, Stl.f2, Stl.f4, Stl.f3, Stl.f5, Stl.f6, Stl.p3, Stl.p4, Stl.p5, Stl.p6, hmx, ua_s, ua_n, c1, zCl, hhf]
    have e := lp (sv0 (L.Fg k) L.n T X.2.2.2 fr (L.c k) (L.p k)) (nd1 (L.Fg k) ((L.Fg k).1 1)) hT
    by_cases c2 : ∀ s, s < L.n → nd1 (L.Fg k) ((L.Fg k).1 1) s ≤ T s
    · simp only [sv0, if_neg c1, if_pos c2] at e ⊢
      simp (disch := first | assumption | omega | decide) only [pis_i, pis_l, pis_r, pis_n, p1_i, p1_r, p1_n, p1_u, pw0, pw1, pw2, pw3, pw4, pK_v, pK_0, pK_ite, if_true, if_false, if_pos, if_neg, Nat.reduceAdd, pok_r, i10, i01, Bool.true_or, Bool.or_true, Bool.and_true, Bool.true_and, Nat.add_sub_cancel, i1p1, i1p0, i0p1, i0p0, nIrem2, va_rf_s, bit1, bit0, pinT, pinLT, pin0, nIc, nIcL, nIlt, nIeq, nIltL, nILlt, nIeqL, nILeq, nIadL, nILad, nILmu, nI_add, nIsbL, nI_sub', decide_true, decide_false, Bool.false_or, Bool.or_false, rX1_serves_54, rX1_serves_57, rX1_serves_58, rX1_serves_61, rX1_serves_62, rX1_serves_65, rX1_serves_66, Stl.f3, Stl.p3, rw4_i]
      exact e
    · simp only [sv0, if_neg c1, if_neg c2] at e ⊢
      simp (disch := first | assumption | omega | decide) only [pis_i, pis_l, pis_r, pis_n, p1_i, p1_r, p1_n, p1_u, pw0, pw1, pw2, pw3, pw4, pK_v, pK_0, pK_ite, if_true, if_false, if_pos, if_neg, Nat.reduceAdd, pok_r, i10, i01, Bool.true_or, Bool.or_true, Bool.and_true, Bool.true_and, Nat.add_sub_cancel, i1p1, i1p0, i0p1, i0p0, nIrem2, va_rf_s, bit1, bit0, pinT, pinLT, pin0, nIc, nIcL, nIlt, nIeq, nIltL, nILlt, nIeqL, nILeq, nIadL, nILad, nILmu, nI_add, nIsbL, nI_sub', decide_true, decide_false, Bool.false_or, Bool.or_false, rX1_serves_54, rX1_serves_57, rX1_serves_58, rX1_serves_61, rX1_serves_62, rX1_serves_65, rX1_serves_66, Stl.f3, Stl.p3, rw4_i]
      exact e
end
