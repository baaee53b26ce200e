/-! THE STALL 2: the component serves -/
set_option maxRecDepth 100000
def rnd (x : Int64) : Int64 := x * 6364136223846793005 + 1442695040888963407
def rv (x : Int64) : Int64 := (x.toUInt64 >>> ((33 : Int32).toInt64.toUInt64 &&& Int64.toUInt64 63)).toInt64
/-- does it pop -/
def ppd (x : Int64) (ch : Int32) : Bool := decide (rv x - rv x / 100 * 100 < ch.toInt64)
theorem ppd_i {y : Int64} {ch : Int32} : ((y.toUInt64 >>> ((33 : Int32).toInt64.toUInt64 &&& Int64.toUInt64 63)).toInt64 - (y.toUInt64 >>> ((33 : Int32).toInt64.toUInt64 &&& Int64.toUInt64 63)).toInt64 / 100 * 100 < ch.toInt64) = (ppd y ch = true) := by
  unfold ppd
  rw [decide_eq_true_eq]
  rfl
theorem rnd_i {l : Int64} : l * 6364136223846793005 + 1442695040888963407 = rnd l := rfl
/-- a balloon is made: t are there -/
def mk (ch c : Int32) : Nat → Int64 → Int32 → Int32 → Bool × Nat × Int64 × Int32 × Int32
  | 0, x, e, k => (false, 0, x, e, k)
  | t + 1, x, e, k => if ppd (rnd x) ch = true then mk ch c t (rnd x) (e + c) (k + 1) else (true, t, rnd x, e + c, k + 1)
theorem mk_le {ch c : Int32} : ∀ t x e k, (mk ch c t x e k).2.1 ≤ t := by
  intro t
  induction t with
  | zero => intro x e k; exact Nat.le_refl _
  | succ t ih =>
    intro x e k
    rw [mk]
    split
    · have := ih (rnd x) (e + c) (k + 1); omega
    · exact Nat.le_succ t
/-- how many of a figure's balloons are of a sort -/
def nd1 (F : Fig) (b s : Nat) : Nat := fb_ct (fun b => F.2.1 3 b == s) b
theorem ua_ua {A : Nat → Nat → Int32} {k j : Nat} {v w : Int32} : ua (ua A k j v) k j w = ua A k j w := by
  funext i
  unfold ua
  by_cases e : i = k
  · simp only [e, if_true]; exact upd_upd
  · simp [e]
theorem ua_s {A : Nat → Nat → Int32} {k j : Nat} {v : Int32} : ua A k j v k j = v := by simp [ua, upd]
theorem ua_n {A : Nat → Nat → Int32} {k j i : Nat} {v : Int32} (h : i ≠ j) : ua A k j v k i = A k i := by simp [ua, upd, h]
theorem ua_sw {A : Nat → Nat → Int32} {k i j : Nat} {v w : Int32} (h : i ≠ j) : ua (ua A k i v) k j w = ua (ua A k j w) k i v := by
  funext l q
  unfold ua upd
  by_cases e : l = k
  · by_cases e1 : q = i <;> by_cases e2 : q = j <;> simp_all
  · simp [e]
theorem ua_id {A : Nat → Nat → Int32} {k j : Nat} : ua A k j (A k j) = A := by
  funext l q
  unfold ua upd
  by_cases e : l = k
  · by_cases e2 : q = j <;> simp [e, e2]
  · simp [e]
theorem ua_4 {A : Nat → Nat → Int32} {k : Nat} {a b e t : Int32} : ua (ua (ua (ua A k 3 a) k 2 b) k 2 e) k 3 t = ua (ua A k 2 e) k 3 t := by
  rw [ua_ua, ua_sw (show 3 ≠ 2 by decide), ua_ua]
theorem ua_2' {A : Nat → Nat → Int32} {k : Nat} {b t : Int32} : ua (ua A k 3 t) k 2 b = ua (ua A k 2 b) k 3 t := ua_sw (by decide)
theorem un_id {T : Nat → Nat} {s v : Nat} (h : T s = v) : un T s v = T := by
  funext j; unfold un; by_cases e : j = s <;> simp [e, h]
section
variable {L : Stl} {r : Nat → Nat → Int32} {T N : Nat → Nat} {X : XS} {d k s b : Nat} {w : Int32}
theorem kX1_makes (hX : L.ok X) (hk : k < L.K) (hb : b < (L.Fg k).1 1) (hT : ∀ s, T s < 1000) :
    pCa 53 (d + 1) [.ref L.x, .ref (L.ga k), .int (nI b)] (L.w r T N X) = (let q := mk (L.so ((L.Fg k).2.1 3 b) 2) (X.1 15 + X.1 14 * nI (fb_ct (fOf (L.Fg k) b) ((L.Fg k).1 0))) (T ((L.Fg k).2.1 3 b)) X.2.2.2 (r k 2) (r k 3); some (.inl (some (.int (if q.1 = true then 1 else 0))), L.w (ua (ua r k 2 q.2.2.2.1) k 3 q.2.2.2.2) (un T ((L.Fg k).2.1 3 b) q.2.1) N (X.1, X.2.1, X.2.2.1, q.2.2.1))) := by
  obtain ⟨-, -, hk2, hso, -, -⟩ := L.hF k hk
  have hs := hso b hb
  obtain ⟨o1, o2, o3, o4⟩ := hX
  have hn := L.hn
  have hs1 := o3 _ hs
  have lp : ∀ t (r : Nat → Nat → Int32) (T : Nat → Nat) (l : Int64), T ((L.Fg k).2.1 3 b) = t → t < 1000 → pR 53 (d + 1) 18 [.ref L.x, .ref (L.ga k), .int (nI b), .ref (L.sa ((L.Fg k).2.1 3 b)), .int 1] [] (L.w r T N (X.1, X.2.1, X.2.2.1, l)) = (let q := mk (L.so ((L.Fg k).2.1 3 b) 2) (X.1 15 + X.1 14 * nI (fb_ct (fOf (L.Fg k) b) ((L.Fg k).1 0))) t l (r k 2) (r k 3); some (.inl (some (.int (if q.1 = true then 1 else 0))), L.w (ua (ua r k 2 q.2.2.2.1) k 3 q.2.2.2.2) (un T ((L.Fg k).2.1 3 b) q.2.1) N (X.1, X.2.1, X.2.2.1, q.2.2.1))) := by
    intro t
    induction t with
    | zero =>
      intro r T l hT _
      rw [rX1_makes_18]
      simp (disch := first | assumption | omega | decide) only [pis_i, pis_l, pis_r, pis_n, p1_i, p1_r, p1_n, p1_u, pw0, pw1, pw2, pw3, pw4, pK_v, pK_0, pK_ite, if_true, if_false, if_pos, if_neg, Nat.reduceAdd, pok_r, i10, i01, Bool.true_or, Bool.or_true, Bool.and_true, Bool.true_and, Nat.add_sub_cancel, i1p1, i1p0, i0p1, i0p0, nIrem2, va_rf_s, bit1, bit0, pinT, pinLT, pin0, nIc, nIcL, nIlt, nIeq, nIltL, nILlt, nIeqL, nILeq, nIadL, nILad, nILmu, nI_add, nIsbL, nI_sub', decide_true, decide_false, Bool.false_or, Bool.or_false, rX1_makes_20, rX1_makes_23, rX1_makes_23n, rX1_makes_24, rX1_makes_27, rX1_makes_30, rX1_makes_310, rX1_makes_311, Stl.s4, hT]
      simp only [mk, Bool.false_eq_true, if_false]
      rw [ua_id, ua_id, un_id hT]
    | succ t ih =>
      intro r T l hT hlt
      have hF := Stl.fig (L := L) (r := ua r k 3 (r k 3 + 1)) (T := un T ((L.Fg k).2.1 3 b) t) (N := N) (X := (X.1, X.2.1, X.2.2.1, l)) hk
      have hbo := kX24_bubblesOf (d := d) (o := b) hF hk2 (by have := hk2.2.1; omega)
      obtain ⟨x0, -⟩ := hF.o
      have ih := ih (ua (ua r k 3 (r k 3 + 1)) k 2 (r k 2 + (X.1 15 + X.1 14 * nI (fb_ct (fOf (L.Fg k) b) ((L.Fg k).1 0))))) (un T ((L.Fg k).2.1 3 b) t) (rnd l) un_s (by omega)
      simp only [ua_s, ua_n (show (3 : Nat) ≠ 2 by decide), ua_4, un_un] at ih
      rw [rX1_makes_18]
      simp (disch := first | assumption | omega | decide) only [pis_i, pis_l, pis_r, pis_n, p1_i, p1_r, p1_n, p1_u, pw0, pw1, pw2, pw3, pw4, pK_v, pK_0, pK_ite, if_true, if_false, if_pos, if_neg, Nat.reduceAdd, pok_r, i10, i01, Bool.true_or, Bool.or_true, Bool.and_true, Bool.true_and, Nat.add_sub_cancel, i1p1, i1p0, i0p1, i0p0, nIrem2, va_rf_s, bit1, bit0, pinT, pinLT, pin0, nIc, nIcL, nIlt, nIeq, nIltL, nILlt, nIeqL, nILeq, nIadL, nILad, nILmu, nI_add, nIsbL, nI_sub', decide_true, decide_false, Bool.false_or, Bool.or_false, rX1_makes_20, rX1_makes_23, rX1_makes_23n, rX1_makes_24, rX1_makes_27, rX1_makes_30, rX1_makes_310, rX1_makes_311, rX1_makes_32, rX1_makes_32n, rX1_makes_33, rX1_makes_33i, rX1_makes_34, rX1_makes_37, rX1_makes_38, rX1_makes_39, rX1_makes_42, rX1_makes_42n, rX1_makes_43, rX1_makes_43i, rX1_makes_44, rX1_makes_47, rX1_makes_48, rX1_makes_49, rX1_makes_52, rX1_makes_52n, rX1_makes_53, rX1_makes_53i, rX1_makes_54, rX1_makes_57, rX1_makes_58, rX1_makes_61, rX1_makes_62, rX1_makes_65, rX1_makes_65n, rX1_makes_66, rX1_makes_69, rX1_makes_70, rX1_makes_73, rX1_makes_74, rX1_makes_75, rX1_makes_76, rX1_makes_79, rX1_makes_80, rX1_makes_81, rX1_makes_84, rX1_makes_87, rX1_makes_88, rX1_makes_91, rX1_makes_92, rX1_makes_95, rX1_makes_96, rX1_makes_99, rX1_makes_101, rX1_makes_102, rX1_makes_105, rX1_makes_106, rX1_makes_106n, rX1_makes_107, rX1_makes_110, rX1_makes_111, rX1_makes_112, rX1_makes_115, rX1_makes_116, rX1_makes_119, rX1_makes_120, rX1_makes_122, Stl.s4, Stl.s2, Stl.q4, Stl.f0, Stl.f5, Stl.f6, Stl.p5, Stl.p6, zF14, zF15, zF17, zP17, hT, hbo, x0, ua_n, lc_lt, rnd_i]
      simp only [ppd_i]
      rw [mk]
      cases q : ppd (rnd l) (L.so ((L.Fg k).2.1 3 b) 2)
      · simp only [Bool.false_eq_true, if_false, if_true, ua_2']
        rw [rX1_makes_18]
        simp (disch := first | assumption | omega | decide) only [pis_i, pis_l, pis_r, pis_n, p1_i, p1_r, p1_n, p1_u, pw0, pw1, pw2, pw3, pw4, pK_v, pK_0, pK_ite, if_true, if_false, if_pos, if_neg, Nat.reduceAdd, pok_r, i10, i01, Bool.true_or, Bool.or_true, Bool.and_true, Bool.true_and, Nat.add_sub_cancel, i1p1, i1p0, i0p1, i0p0, nIrem2, va_rf_s, bit1, bit0, pinT, pinLT, pin0, nIc, nIcL, nIlt, nIeq, nIltL, nILlt, nIeqL, nILeq, nIadL, nILad, nILmu, nI_add, nIsbL, nI_sub', decide_true, decide_false, Bool.false_or, Bool.or_false, rX1_makes_20, rX1_makes_125, rX1_makes_1260, rX1_makes_1261]
      · simp only [if_true]
        exact ih
  have hF := Stl.fig (L := L) (r := r) (T := T) (N := N) (X := X) hk
  have hk := hk
  obtain ⟨x0, xf, xt, xl, xw, xs, xe, xb, xa, xp, xh⟩ := hF.o
  obtain ⟨⟨l1, c1⟩, ⟨l2, c2⟩, ⟨l3, c3⟩, ⟨l4, c4⟩, ⟨l5, c5⟩, ⟨l6, c6⟩⟩ := hF.a
  have k2 := hk2.2.1
  rw [eX1_makes]
  simp (disch := first | assumption | omega | decide) only [pis_i, pis_l, pis_r, pis_n, p1_i, p1_r, p1_n, p1_u, pw0, pw1, pw2, pw3, pw4, pK_v, pK_0, pK_ite, if_true, if_false, if_pos, if_neg, Nat.reduceAdd, pok_r, i10, i01, Bool.true_or, Bool.or_true, Bool.and_true, Bool.true_and, Nat.add_sub_cancel, i1p1, i1p0, i0p1, i0p0, nIrem2, va_rf_s, bit1, bit0, pinT, pinLT, pin0, nIc, nIcL, nIlt, nIeq, nIltL, nILlt, nIeqL, nILeq, nIadL, nILad, nILmu, nI_add, nIsbL, nI_sub', decide_true, decide_false, Bool.false_or, Bool.or_false, rX1_makes_0, rX1_makes_1, rX1_makes_4, rX1_makes_4n, rX1_makes_5, rX1_makes_8, rX1_makes_11, rX1_makes_12, rX1_makes_13, rX1_makes_14, rX1_makes_14n, rX1_makes_15, rX1_makes_16, Stl.f0, zF0, zL1, zC1, xs, l5, c5, hs1]
  exact lp _ r T X.2.2.2 rfl (hT _)
theorem kX1_hasFor (hX : L.ok X) (hk : k < L.K) (hT : ∀ s, T s < 1000) :
    pCa 52 (d + 1) [.ref L.x, .ref (L.gf k)] (L.w r T N X) = if (∀ s, s < L.n → nd1 (L.Fg k) ((L.Fg k).1 1) s ≤ T s) then some (.inl (some (.int 1)), L.w r T (nd1 (L.Fg k) ((L.Fg k).1 1)) X) else some (.inl (some (.int 0)), L.w r T (nd1 (L.Fg k) ((L.Fg k).1 1)) X) := by
  obtain ⟨-, -, hk2, hso, -, -⟩ := L.hF k hk
  obtain ⟨o1, o2, o3, o4⟩ := hX
  have hn := L.hn
  have k2 := hk2.2.1
  have hnd : ∀ b s, nd1 (L.Fg k) b s ≤ b := fun b s => fb_ct_le _ _
  rw [eX1_hasFor]
  simp (disch := first | assumption | omega | decide) only [pis_i, pis_l, pis_r, pis_n, p1_i, p1_r, p1_n, p1_u, pw0, pw1, pw2, pw3, pw4, pK_v, pK_0, pK_ite, if_true, if_false, if_pos, if_neg, Nat.reduceAdd, pok_r, i10, i01, Bool.true_or, Bool.or_true, Bool.and_true, Bool.true_and, rX1_hasFor_0, rX1_hasFor_1]
  rw [Stl.wc (L := L) (T := T) (T' := T) (N := N) (N' := fun s => if s < 0 then 0 else N s) (fun _ _ => rfl) (fun _ _ => by simp)]
  refine loopN (N := L.n) (P := fun b => pR 52 (d + 1) 2 [.ref L.x, .ref (L.gf k), .int (nI b)] [] (L.w r T (fun s => if s < b then 0 else N s) X)) (fun b hb R hR => ?_) ?_ 0 (Nat.zero_le _)
  · have hs1 := o3 b hb
    rw [show (fun s => if s < b + 1 then 0 else N s) = un (fun s => if s < b then 0 else N s) b 0 by
      funext j; unfold un; by_cases e : j = b
      · subst e; simp
      · simp only [if_neg e]; by_cases c : j < b
        · rw [if_pos c, if_pos (by omega)]
        · rw [if_neg c, if_neg (by omega)]] at hR
    rw [rX1_hasFor_2]
    have e0 : (0 : Int32) = nI 0 := rfl
    have q5 := Stl.q5 (L := L) (r := r) (T := T) (N := fun s => if s < b then 0 else N s) (X := X) (s := b) (v := 0) hb
    rw [← e0] at q5
    simp (disch := first | assumption | omega | decide) only [pis_i, pis_l, pis_r, pis_n, p1_i, p1_r, p1_n, p1_u, pw0, pw1, pw2, pw3, pw4, pK_v, pK_0, pK_ite, if_true, if_false, if_pos, if_neg, Nat.reduceAdd, pok_r, i10, i01, Bool.true_or, Bool.or_true, Bool.and_true, Bool.true_and, Nat.add_sub_cancel, i1p1, i1p0, i0p1, i0p0, nIrem2, va_rf_s, bit1, bit0, pinT, pinLT, pin0, nIc, nIcL, nIlt, nIeq, nIltL, nILlt, nIeqL, nILeq, nIadL, nILad, nILmu, nI_add, nIsbL, nI_sub', decide_true, decide_false, Bool.false_or, Bool.or_false, rX1_hasFor_3, rX1_hasFor_4, rX1_hasFor_7, rX1_hasFor_10, rX1_hasFor_11, rX1_hasFor_14, rX1_hasFor_15, rX1_hasFor_16, rX1_hasFor_17, rX1_hasFor_20, rX1_hasFor_23, zF1, zF0, zL1, zC1, o1, hs1, Stl.s5, q5]
    exact hR
  rw [rX1_hasFor_2]
  simp (disch := first | assumption | omega | decide) only [pis_i, pis_l, pis_r, pis_n, p1_i, p1_r, p1_n, p1_u, pw0, pw1, pw2, pw3, pw4, pK_v, pK_0, pK_ite, if_true, if_false, if_pos, if_neg, Nat.reduceAdd, pok_r, i10, i01, Bool.true_or, Bool.or_true, Bool.and_true, Bool.true_and, Nat.add_sub_cancel, i1p1, i1p0, i0p1, i0p0, nIrem2, va_rf_s, bit1, bit0, pinT, pinLT, pin0, nIc, nIcL, nIlt, nIeq, nIltL, nILlt, nIeqL, nILeq, nIadL, nILad, nILmu, nI_add, nIsbL, nI_sub', decide_true, decide_false, Bool.false_or, Bool.or_false, rX1_hasFor_3, rX1_hasFor_4, rX1_hasFor_7, rX1_hasFor_26, rX1_hasFor_27, zF1, o1]
  rw [Stl.wc (L := L) (T := T) (T' := T) (N := fun s => if s < L.n then 0 else N s) (N' := nd1 (L.Fg k) 0) (fun _ _ => rfl) (fun s hs => by simp [hs, nd1, fb_ct])]
  refine loopN (N := (L.Fg k).1 1) (P := fun b => pR 52 (d + 1) 28 [.ref L.x, .ref (L.gf k), .int (nI b)] [] (L.w r T (nd1 (L.Fg k) b) X)) (fun b hb R hR => ?_) ?_ 0 (Nat.zero_le _)
  · have hF := Stl.fig (L := L) (r := r) (T := T) (N := nd1 (L.Fg k) b) (X := X) hk
    obtain ⟨x0, xf, xt, xl, xw, xs, xe, xb, xa, xp, xh⟩ := hF.o
    obtain ⟨⟨l1, c1⟩, ⟨l2, c2⟩, ⟨l3, c3⟩, ⟨l4, c4⟩, ⟨l5, c5⟩, ⟨l6, c6⟩⟩ := hF.a
    have hs := hso b hb
    have hs1 := o3 _ hs
    have hb1 := hnd b ((L.Fg k).2.1 3 b)
    rw [show nd1 (L.Fg k) (b + 1) = un (nd1 (L.Fg k) b) ((L.Fg k).2.1 3 b) (nd1 (L.Fg k) b ((L.Fg k).2.1 3 b) + 1) by
      funext j; unfold un nd1
      rw [fb_ct_succ]
      by_cases e : j = (L.Fg k).2.1 3 b
      · simp [e]
      · simp [e, Ne.symm e]] at hR
    rw [rX1_hasFor_28]
    simp (disch := first | assumption | omega | decide) only [pis_i, pis_l, pis_r, pis_n, p1_i, p1_r, p1_n, p1_u, pw0, pw1, pw2, pw3, pw4, pK_v, pK_0, pK_ite, if_true, if_false, if_pos, if_neg, Nat.reduceAdd, pok_r, i10, i01, Bool.true_or, Bool.or_true, Bool.and_true, Bool.true_and, Nat.add_sub_cancel, i1p1, i1p0, i0p1, i0p0, nIrem2, va_rf_s, bit1, bit0, pinT, pinLT, pin0, nIc, nIcL, nIlt, nIeq, nIltL, nILlt, nIeqL, nILeq, nIadL, nILad, nILmu, nI_add, nIsbL, nI_sub', decide_true, decide_false, Bool.false_or, Bool.or_false, rX1_hasFor_29, rX1_hasFor_29n, rX1_hasFor_30, rX1_hasFor_33, rX1_hasFor_36, rX1_hasFor_37, rX1_hasFor_40, rX1_hasFor_40n, rX1_hasFor_41, rX1_hasFor_44, rX1_hasFor_45, rX1_hasFor_46, rX1_hasFor_47, rX1_hasFor_47i, rX1_hasFor_48, rX1_hasFor_51, rX1_hasFor_52, rX1_hasFor_53, rX1_hasFor_56, rX1_hasFor_59, zF0, zL1, zC1, hs1, Stl.s5, Stl.q5, xa, xs, l5, c5]
    exact hR
  have hF := Stl.fig (L := L) (r := r) (T := T) (N := nd1 (L.Fg k) ((L.Fg k).1 1)) (X := X) hk
  obtain ⟨x0, xf, xt, xl, xw, xs, xe, xb, xa, xp, xh⟩ := hF.o
  rw [rX1_hasFor_28]
  simp (disch := first | assumption | omega | decide) only [pis_i, pis_l, pis_r, pis_n, p1_i, p1_r, p1_n, p1_u, pw0, pw1, pw2, pw3, pw4, pK_v, pK_0, pK_ite, if_true, if_false, if_pos, if_neg, Nat.reduceAdd, pok_r, i10, i01, Bool.true_or, Bool.or_true, Bool.and_true, Bool.true_and, Nat.add_sub_cancel, i1p1, i1p0, i0p1, i0p0, nIrem2, va_rf_s, bit1, bit0, pinT, pinLT, pin0, nIc, nIcL, nIlt, nIeq, nIltL, nILlt, nIeqL, nILeq, nIadL, nILad, nILmu, nI_add, nIsbL, nI_sub', decide_true, decide_false, Bool.false_or, Bool.or_false, rX1_hasFor_29, rX1_hasFor_29n, rX1_hasFor_30, rX1_hasFor_33, rX1_hasFor_62, rX1_hasFor_63, xa]
  have main := loopP (N := L.n) (P := fun b => (∀ s, s < b → nd1 (L.Fg k) ((L.Fg k).1 1) s ≤ T s) → pR 52 (d + 1) 64 [.ref L.x, .ref (L.gf k), .int (nI b)] [] (L.w r T (nd1 (L.Fg k) ((L.Fg k).1 1)) X) = if (∀ s, s < L.n → nd1 (L.Fg k) ((L.Fg k).1 1) s ≤ T s) then some (.inl (some (.int 1)), L.w r T (nd1 (L.Fg k) ((L.Fg k).1 1)) X) else some (.inl (some (.int 0)), L.w r T (nd1 (L.Fg k) ((L.Fg k).1 1)) X)) (fun b hb ih hq => ?_) (fun hq => ?_) 0 (Nat.zero_le _)
  · exact main (fun s hs => by omega)
  · have hs1 := o3 b hb
    have hb1 := hnd ((L.Fg k).1 1) b
    have hT1 := hT b
    rw [rX1_hasFor_64]
    by_cases c : T b < nd1 (L.Fg k) ((L.Fg k).1 1) b
    · simp (disch := first | assumption | omega | decide) only [pis_i, pis_l, pis_r, pis_n, p1_i, p1_r, p1_n, p1_u, pw0, pw1, pw2, pw3, pw4, pK_v, pK_0, pK_ite, if_true, if_false, if_pos, if_neg, Nat.reduceAdd, pok_r, i10, i01, Bool.true_or, Bool.or_true, Bool.and_true, Bool.true_and, Nat.add_sub_cancel, i1p1, i1p0, i0p1, i0p0, nIrem2, va_rf_s, bit1, bit0, pinT, pinLT, pin0, nIc, nIcL, nIlt, nIeq, nIltL, nILlt, nIeqL, nILeq, nIadL, nILad, nILmu, nI_add, nIsbL, nI_sub', decide_true, decide_false, Bool.false_or, Bool.or_false, rX1_hasFor_65, rX1_hasFor_66, rX1_hasFor_69, rX1_hasFor_72, rX1_hasFor_73, rX1_hasFor_76, rX1_hasFor_77, rX1_hasFor_78, rX1_hasFor_81, rX1_hasFor_82, rX1_hasFor_85, rX1_hasFor_86, rX1_hasFor_87, rX1_hasFor_90, rX1_hasFor_93, rX1_hasFor_940, rX1_hasFor_941, rX1_hasFor_95, rX1_hasFor_98, zF0, zF1, zL1, zC1, o1, hs1, Stl.s4, Stl.s5, c]
      rw [if_neg (fun q => by have := q b hb; omega)]
    · simp (disch := first | assumption | omega | decide) only [pis_i, pis_l, pis_r, pis_n, p1_i, p1_r, p1_n, p1_u, pw0, pw1, pw2, pw3, pw4, pK_v, pK_0, pK_ite, if_true, if_false, if_pos, if_neg, Nat.reduceAdd, pok_r, i10, i01, Bool.true_or, Bool.or_true, Bool.and_true, Bool.true_and, Nat.add_sub_cancel, i1p1, i1p0, i0p1, i0p0, nIrem2, va_rf_s, bit1, bit0, pinT, pinLT, pin0, nIc, nIcL, nIlt, nIeq, nIltL, nILlt, nIeqL, nILeq, nIadL, nILad, nILmu, nI_add, nIsbL, nI_sub', decide_true, decide_false, Bool.false_or, Bool.or_false, rX1_hasFor_65, rX1_hasFor_66, rX1_hasFor_69, rX1_hasFor_72, rX1_hasFor_73, rX1_hasFor_76, rX1_hasFor_77, rX1_hasFor_78, rX1_hasFor_81, rX1_hasFor_82, rX1_hasFor_85, rX1_hasFor_86, rX1_hasFor_87, rX1_hasFor_90, rX1_hasFor_93, rX1_hasFor_940, rX1_hasFor_941, rX1_hasFor_95, rX1_hasFor_98, zF0, zF1, zL1, zC1, o1, hs1, Stl.s4, Stl.s5, c]
      exact ih (fun s hs => by
        by_cases e : s = b
        · subst e; omega
        · exact hq s (by omega))
  · rw [rX1_hasFor_64, if_pos hq]
    simp (disch := first | assumption | omega | decide) only [pis_i, pis_l, pis_r, pis_n, p1_i, p1_r, p1_n, p1_u, pw0, pw1, pw2, pw3, pw4, pK_v, pK_0, pK_ite, if_true, if_false, if_pos, if_neg, Nat.reduceAdd, pok_r, i10, i01, Bool.true_or, Bool.or_true, Bool.and_true, Bool.true_and, Nat.add_sub_cancel, i1p1, i1p0, i0p1, i0p0, nIrem2, va_rf_s, bit1, bit0, pinT, pinLT, pin0, nIc, nIcL, nIlt, nIeq, nIltL, nILlt, nIeqL, nILeq, nIadL, nILad, nILmu, nI_add, nIsbL, nI_sub', decide_true, decide_false, Bool.false_or, Bool.or_false, rX1_hasFor_65, rX1_hasFor_66, rX1_hasFor_69, rX1_hasFor_101, rX1_hasFor_1020, rX1_hasFor_1021, zF1, o1]
end
