/-! THE STALL 4: run of the component -/
set_option maxRecDepth 100000
/-- a run: results, what is there, what was needed, the chance, free from, served -/
abbrev RS : Type := (Nat → Nat → Int32) × (Nat → Nat) × (Nat → Nat) × Int64 × Int32 × Int32
def rn1 (Fg : Nat → Fig) (so : Nat → Nat → Int32) (c p : Nat → Int32) (pa pb : Int32) (n k : Nat) (z : RS) : RS :=
  let y := sv (Fg k) so pa pb n z.2.1 z.2.2.2.1 z.2.2.2.2.1 (c k) (p k)
  (rw4 z.1 k y.1 (mxI z.2.2.2.2.1 (c k)) y.2.2.2.1 y.2.2.2.2, y.2.1, (if p k < mxI z.2.2.2.2.1 (c k) - c k then z.2.2.1 else nd1 (Fg k) ((Fg k).1 1)), y.2.2.1, y.2.2.2.1, z.2.2.2.2.2 + (if y.1 = 0 then 1 else 0))
def rn (Fg : Nat → Fig) (so : Nat → Nat → Int32) (c p : Nat → Int32) (pa pb : Int32) (n : Nat) (z : RS) : Nat → RS
  | 0 => z
  | k + 1 => rn1 Fg so c p pa pb n k (rn Fg so c p pa pb n z k)
theorem sv_T {F : Fig} {so : Nat → Nat → Int32} {pa pb fr c p : Int32} {n : Nat} {T : Nat → Nat} {l : Int64} (hT : ∀ s, T s < 1000) : ∀ s, (sv F so pa pb n T l fr c p).2.1 s < 1000 := bl_T hT _
theorem rn_T {Fg : Nat → Fig} {so : Nat → Nat → Int32} {c p : Nat → Int32} {pa pb : Int32} {n : Nat} {z : RS} (hz : ∀ s, z.2.1 s < 1000) : ∀ k s, (rn Fg so c p pa pb n z k).2.1 s < 1000 := by
  intro k
  induction k with
  | zero => exact hz
  | succ k ih => intro s; rw [rn, rn1]; exact sv_T ih s
section
variable {L : Stl} {r : Nat → Nat → Int32} {T N st : Nat → Nat} {X : XS} {d k s b : Nat} {l : Int64}
theorem x_run (hX : L.ok X) (hst : ∀ s, s < L.n → L.so s 3 = nI (st s)) (hs2 : ∀ s, st s < 1000) :
    pCa 50 (d + 4) [.ref L.x, .long l] (L.w r T N X) = (let z := rn L.Fg L.so L.c L.p (X.1 15) (X.1 14) L.n (r, st, N, l, 0, 0) L.K; some (.inl (some (.int z.2.2.2.2.2)), L.w z.1 z.2.1 z.2.2.1 (upd X.1 13 (nI L.K), X.2.1, X.2.2.1, z.2.2.2.1))) := by
  have hX' := hX
  obtain ⟨o1, o2, o3, o4⟩ := hX'
  have hn := L.hn
  have hK := L.hK
  rw [eX1_run]
  simp (disch := first | assumption | omega | decide) only [pis_i, pis_l, pis_r, pis_n, p1_i, p1_r, p1_n, p1_u, pw0, pw1, pw2, pw3, pw4, pK_v, pK_0, pK_ite, if_true, if_false, if_pos, if_neg, Nat.reduceAdd, pok_r, i10, i01, Bool.true_or, Bool.or_true, Bool.and_true, Bool.true_and, Nat.add_sub_cancel, i1p1, i1p0, i0p1, i0p0, nIrem2, va_rf_s, bit1, bit0, pinT, pinLT, pin0, nIc, nIcL, nIlt, nIeq, nIltL, nILlt, nIeqL, nILeq, nIadL, nILad, nILmu, nI_add, nIsbL, nI_sub', decide_true, decide_false, Bool.false_or, Bool.or_false, rX1_run_0, rX1_run_1, rX1_run_2, rX1_run_5, rX1_run_6, zF17, zP17, pis_l]
  rw [Stl.wc (L := L) (T := T) (T' := fun s => if s < 0 then st s else T s) (N := N) (N' := N) (fun _ _ => by simp) (fun _ _ => rfl)]
  refine loopN (N := L.n) (P := fun b => pR 50 (d + 4) 7 [.ref L.x, .long l, pV, .int (nI b), pU, pU] [] (L.w r (fun s => if s < b then st s else T s) N (X.1, X.2.1, X.2.2.1, l))) (fun b hb R hR => ?_) ?_ 0 (Nat.zero_le _)
  · have hs1 := o3 b hb
    have hs3 := hst b hb
    rw [show (fun s => if s < b + 1 then st s else T s) = un (fun s => if s < b then st s else T s) b (st b) by
      funext j; unfold un; by_cases e : j = b
      · subst e; simp
      · simp only [if_neg e]; by_cases c : j < b
        · rw [if_pos c, if_pos (by omega)]
        · rw [if_neg c, if_neg (by omega)]] at hR
    rw [rX1_run_7]
    simp (disch := first | assumption | omega | decide) only [pis_i, pis_l, pis_r, pis_n, p1_i, p1_r, p1_n, p1_u, pw0, pw1, pw2, pw3, pw4, pK_v, pK_0, pK_ite, if_true, if_false, if_pos, if_neg, Nat.reduceAdd, pok_r, i10, i01, Bool.true_or, Bool.or_true, Bool.and_true, Bool.true_and, Nat.add_sub_cancel, i1p1, i1p0, i0p1, i0p0, nIrem2, va_rf_s, bit1, bit0, pinT, pinLT, pin0, nIc, nIcL, nIlt, nIeq, nIltL, nILlt, nIeqL, nILeq, nIadL, nILad, nILmu, nI_add, nIsbL, nI_sub', decide_true, decide_false, Bool.false_or, Bool.or_false, rX1_run_8, rX1_run_9, rX1_run_12, rX1_run_15, rX1_run_16, rX1_run_19, rX1_run_20, rX1_run_21, rX1_run_22, rX1_run_25, rX1_run_26, rX1_run_27, rX1_run_30, rX1_run_33, rX1_run_36, zF1, zF0, zL1, zC1, o1, hs1, Stl.s3, Stl.s4, Stl.q4, hs3]
    exact hR
  rw [rX1_run_7]
  simp (disch := first | assumption | omega | decide) only [pis_i, pis_l, pis_r, pis_n, p1_i, p1_r, p1_n, p1_u, pw0, pw1, pw2, pw3, pw4, pK_v, pK_0, pK_ite, if_true, if_false, if_pos, if_neg, Nat.reduceAdd, pok_r, i10, i01, Bool.true_or, Bool.or_true, Bool.and_true, Bool.true_and, Nat.add_sub_cancel, i1p1, i1p0, i0p1, i0p0, nIrem2, va_rf_s, bit1, bit0, pinT, pinLT, pin0, nIc, nIcL, nIlt, nIeq, nIltL, nILlt, nIeqL, nILeq, nIadL, nILad, nILmu, nI_add, nIsbL, nI_sub', decide_true, decide_false, Bool.false_or, Bool.or_false, rX1_run_8, rX1_run_9, rX1_run_12, rX1_run_39, rX1_run_40, rX1_run_41, rX1_run_42, rX1_run_44, rX1_run_45, zF1, o1]
  rw [Stl.wc (L := L) (T := fun s => if s < L.n then st s else T s) (T' := st) (N := N) (N' := N) (fun s hs => by simp [hs]) (fun _ _ => rfl)]
  refine loopN (N := L.K) (P := fun k => (let z := rn L.Fg L.so L.c L.p (X.1 15) (X.1 14) L.n (r, st, N, l, 0, 0) k; pR 50 (d + 4) 47 [.ref L.x, .long l, pV, .int z.2.2.2.2.1, .int z.2.2.2.2.2, .int (nI k)] [] (L.w z.1 z.2.1 z.2.2.1 (X.1, X.2.1, X.2.2.1, z.2.2.2.1)))) (fun k hk R hR => ?_) ?_ 0 (Nat.zero_le _)
  · have hT' := rn_T (Fg := L.Fg) (so := L.so) (c := L.c) (p := L.p) (pa := X.1 15) (pb := X.1 14) (n := L.n) (z := (r, st, N, l, 0, 0)) hs2 k
    rw [rn, rn1] at hR
    generalize rn L.Fg L.so L.c L.p (X.1 15) (X.1 14) L.n (r, st, N, l, 0, 0) k = z at hR hT'
    have hsv := kX1_serves (d := d) (r := z.1) (T := z.2.1) (N := z.2.2.1) (fr := z.2.2.2.2.1) (Stl.ok_l (l := z.2.2.2.1) hX) hk hT'
    simp only at hsv hR
    generalize sv (L.Fg k) L.so (X.1 15) (X.1 14) L.n z.2.1 z.2.2.2.1 z.2.2.2.2.1 (L.c k) (L.p k) = y at hsv hR
    have hg1 := o4 k hk
    show pR 50 (d + 4) 47 _ _ _ = R
    rw [rX1_run_47]
    simp (disch := first | assumption | omega | decide) only [pis_i, pis_l, pis_r, pis_n, p1_i, p1_r, p1_n, p1_u, pw0, pw1, pw2, pw3, pw4, pK_v, pK_0, pK_ite, if_true, if_false, if_pos, if_neg, Nat.reduceAdd, pok_r, i10, i01, Bool.true_or, Bool.or_true, Bool.and_true, Bool.true_and, Nat.add_sub_cancel, i1p1, i1p0, i0p1, i0p0, nIrem2, va_rf_s, bit1, bit0, pinT, pinLT, pin0, nIc, nIcL, nIlt, nIeq, nIltL, nILlt, nIeqL, nILeq, nIadL, nILad, nILmu, nI_add, nIsbL, nI_sub', decide_true, decide_false, Bool.false_or, Bool.or_false, rX1_run_49, rX1_run_50, rX1_run_53, rX1_run_56, rX1_run_57, rX1_run_58, rX1_run_61, rX1_run_63, rX1_run_64, rX1_run_65, rX1_run_68, rX1_run_69, rX1_run_72, rX1_run_74, rX1_run_75, rX1_run_78, rX1_run_79, rX1_run_81, rX1_run_82, rX1_run_85, rX1_run_87, rX1_run_88, rX1_run_91, rX1_run_94, rX1_run_95, rX1_run_98, rX1_run_99, rX1_run_100, rX1_run_102, rX1_run_105, zCl, zF12, zF11, zL9, zC9, o2, hg1, hsv, Stl.f5, Stl.f3, rw4_2, rw4_0]
    by_cases c0 : y.1 = 0
    · simp only [c0, if_true] at hR ⊢
      exact hR
    · simp only [c0, if_false] at hR ⊢
      exact hR
  · generalize rn L.Fg L.so L.c L.p (X.1 15) (X.1 14) L.n (r, st, N, l, 0, 0) L.K = z
    show pR 50 (d + 4) 47 _ _ _ = _
    rw [rX1_run_47]
    simp (disch := first | assumption | omega | decide) only [pis_i, pis_l, pis_r, pis_n, p1_i, p1_r, p1_n, p1_u, pw0, pw1, pw2, pw3, pw4, pK_v, pK_0, pK_ite, if_true, if_false, if_pos, if_neg, Nat.reduceAdd, pok_r, i10, i01, Bool.true_or, Bool.or_true, Bool.and_true, Bool.true_and, Nat.add_sub_cancel, i1p1, i1p0, i0p1, i0p0, nIrem2, va_rf_s, bit1, bit0, pinT, pinLT, pin0, nIc, nIcL, nIlt, nIeq, nIltL, nILlt, nIeqL, nILeq, nIadL, nILad, nILmu, nI_add, nIsbL, nI_sub', decide_true, decide_false, Bool.false_or, Bool.or_false, rX1_run_49, rX1_run_50, rX1_run_53, rX1_run_108, rX1_run_109, rX1_run_110, rX1_run_113, rX1_run_116, rX1_run_118, zF12, zF13, zP13, o2]
end
