/-! HANDS 3: the component's constructor of a figure -/
set_option maxRecDepth 100000
section
variable {h : pH} {d o y : Nat} {H : Hd} {p m b k : Nat}
theorem yu8' {Y : YS} {v : Nat} (hY : Y = yB H p m b) : (upd Y.1 8 (nI v), Y.2) = yB H v m b := by rw [hY]; exact yu8
theorem yN_s (hr : rr H m = true) : upd (yN H m) m (nI (fb_ct (rr H) m)) = yN H (m + 1) := by
  funext q
  simp only [upd, yN]
  by_cases e : q = m
  · subst e; simp [hr]
  · by_cases e2 : q < m
    · simp [e, e2, show q < m + 1 by omega]
    · simp [e, e2, show ¬ q < m + 1 by omega]
theorem yN_n (hr : ¬ rr H m = true) : yN H m = yN H (m + 1) := by
  funext q
  simp only [yN]
  by_cases e : q = m
  · subst e; simp [hr]
  · by_cases e2 : q < m
    · simp [e2, show q < m + 1 by omega]
    · simp [e2, show ¬ q < m + 1 by omega]
theorem yv7 (hr : rr H m = true) : ((yB H p m b).1, ua (yB H p m b).2.1 7 m (nI (fb_ct (rr H) m)), (yB H p m b).2.2) = yB H p (m + 1) b := by
  refine Prod.ext rfl (Prod.ext ?_ rfl)
  funext j k
  by_cases e : j = 7
  · subst e
    exact congrFun (yN_s hr) k
  · simp [ua, e, yB]
theorem yv7n (hr : ¬ rr H m = true) : yB H p m b = yB H p (m + 1) b := by
  refine Prod.ext rfl (Prod.ext ?_ rfl)
  funext j k
  by_cases e : j = 7
  · subst e
    exact congrFun (yN_n hr) k
  · simp [e, yB]
theorem ua_o {A : Nat → Nat → Int32} {j j2 i : Nat} {v : Int32} (h : j2 ≠ j) : ua A j i v j2 = A j2 := by simp [ua, h]
theorem ua_j {A : Nat → Nat → Int32} {j i : Nat} {v : Int32} : ua A j i v j = upd (A j) i v := by simp [ua]
/-- one bubble more -/
theorem yv (hb : b < H.nb) : ((yB H p m b).1, ua (ua (ua (ua (ua (ua (yB H p m b).2.1 1 b (nI (nmb H (H.fr b)))) 2 b (nI (nmb H (H.tq b)))) 3 b (H.le b)) 4 b (nI (H.ba b))) 6 (nmb H (H.fr b)) (nI (fb_sm (fEa (figOf H) (nmb H (H.fr b))) b + 1))) 6 (nmb H (H.tq b)) (nI ((if nmb H (H.tq b) = nmb H (H.fr b) then fb_sm (fEa (figOf H) (nmb H (H.fr b))) b + 1 else fb_sm (fEa (figOf H) (nmb H (H.tq b))) b) + 1)), (yB H p m b).2.2) = yB H p m (b + 1) := by
  refine Prod.ext rfl (Prod.ext ?_ rfl)
  funext j k
  have ek : ∀ (x : Int32), (if k = b then x else if k < b then x else 0) = if k < b + 1 then x else 0 := by
    intro x
    by_cases e : k = b
    · subst e; simp
    · by_cases e2 : k < b
      · simp [e, e2, show k < b + 1 by omega]
      · simp [e, e2, show ¬ k < b + 1 by omega]
  by_cases e1 : j = 1
  · subst e1
    simp (disch := first | assumption | decide) only [ua_o, ua_j, ne_eq]
    simp only [upd, yB]
    by_cases e : k = b
    · subst e; simp
    · have := ek (nI (nmb H (H.fr k))); simpa [e] using this
  by_cases e2 : j = 2
  · subst e2
    simp (disch := first | assumption | decide) only [ua_o, ua_j, ne_eq]
    simp only [upd, yB]
    by_cases e : k = b
    · subst e; simp
    · have := ek (nI (nmb H (H.tq k))); simpa [e] using this
  by_cases e3 : j = 3
  · subst e3
    simp (disch := first | assumption | decide) only [ua_o, ua_j, ne_eq]
    simp only [upd, yB]
    by_cases e : k = b
    · subst e; simp
    · have := ek (H.le k); simpa [e] using this
  by_cases e4 : j = 4
  · subst e4
    simp (disch := first | assumption | decide) only [ua_o, ua_j, ne_eq]
    simp only [upd, yB]
    by_cases e : k = b
    · subst e; simp
    · have := ek (nI (H.ba k)); simpa [e] using this
  by_cases e6 : j = 6
  · subst e6
    simp (disch := first | assumption | decide) only [ua_o, ua_j, ne_eq]
    show upd (upd _ _ _) _ _ k = nI (fb_sm (fEa (figOf H) k) (b + 1))
    rw [fb_sm_succ]
    have ef : fEa (figOf H) k b = (if nmb H (H.fr b) = k then 1 else 0) + (if nmb H (H.tq b) = k then 1 else 0) := rfl
    rw [ef]
    simp only [upd, yB]
    by_cases q1 : k = nmb H (H.tq b)
    · subst q1
      by_cases q2 : nmb H (H.tq b) = nmb H (H.fr b)
      · simp [q2]
      · simp [q2, Ne.symm q2]
    · by_cases q2 : k = nmb H (H.fr b)
      · subst q2; simp [q1, Ne.symm q1]
      · simp [q1, q2, Ne.symm q1, Ne.symm q2]
  · simp (disch := first | assumption | decide) only [ua_o, ua_j, ne_eq]
    simp [yB, e1, e2, e3, e4, e6]
theorem ya7 {q : Nat} (h1 : q < m) (h2 : rr H q = true) : (yB H p m b).2.1 7 q = nI (fb_ct (rr H) q) := by
  show yN H m q = _
  rw [yN, if_pos ⟨h1, h2⟩]
theorem ya6 {q : Nat} : (yB H p m b).2.1 6 q = nI (fb_sm (fEa (figOf H) q) b) := rfl
theorem pcp_wy {a i j n : Nat} {Y : YS} {W : WS} {c : Nat → Int32} (hy : o + 8 ≤ y) (ha : pct (wput (yput h y Y) o W) a = c) : pcp (wput (yput h y Y) o W) a i (y + 5) j n = wput (yput h y (Y.1, us Y.2.1 5 (va_cpy c (Y.2.1 5) i j n), Y.2.2)) o W := by
  have e5 : (wput (yput h y Y) o W).1 (y + 5) = some (.inl (0, 6, .inl (Y.2.1 5))) := by rw [wput_out (Or.inr (by omega))]; exact yA5
  simp only [pcp, e5, ha]
  rw [wO_pup (Or.inr (by omega))]
  congr 1
  refine yput_up (j := 5) (by decide) ?_ (fun i hi h0 => ?_)
  · simp [ycell, us]
  · match i, h0 with
    | 0, h0 => rfl
    | 1, h0 => rfl
    | 2, h0 => rfl
    | 3, h0 => rfl
    | 4, h0 => rfl
    | 5, h0 => exact absurd rfl h0
    | 6, h0 => rfl
    | 7, h0 => rfl
    | i + 8, _ => rfl
theorem kX24_init_1 (hk : HdOk H) (hy : o + 8 ≤ y) {R : Option pO} (hR : pR 229 (d + 1) 131 [.ref y, .ref o, .ref (y + 7), .int (nI (fb_ct (rr H) H.np)), .int 0] [] (wput (yput h y (yB H (fb_ct (rr H) H.np) H.np 0)) o (wOf H)) = R) : pR 229 (d + 1) 86 [.ref y, .ref o, .ref (y + 7), .int 0, .int 0] [] (wput (yput h y (yB H 0 0 0)) o (wOf H)) = R := by
  have hn := hk.n
  refine loopN (N := H.np) (P := fun q => pR 229 (d + 1) 86 [.ref y, .ref o, .ref (y + 7), .int (nI (fb_ct (rr H) q)), .int (nI q)] [] (wput (yput h y (yB H 0 q 0)) o (wOf H))) (fun q hq R hR => ?_) ?_ 0 (Nat.zero_le _)
  · have h1 := ro_lt hk.j hq
    have hc := fb_ct_le (rr H) q
    rw [fb_ct_succ] at hR
    rw [rX24_init_86]
    by_cases hr : rr H q = true
    · have e : ro H.jo q = q := by simpa [rr] using hr
      simp (disch := first | omega | decide) only [pis_i, pis_l, pis_r, pis_n, p1_i, p1_r, p1_n, p1_u, pw0, pw1, pw2, pw3, pw4, pK_v, pK_0, pK_ite, if_true, if_false, if_pos, if_neg, Nat.reduceAdd, pok_r, i10, i01, Bool.true_or, Bool.or_true, Bool.and_true, Bool.true_and, Nat.add_sub_cancel, i1p1, i1p0, i0p1, i0p0, nIrem2, va_rf_s, bit1, bit0, pinT, pinLT, pin0, nIc, nIcL, nIlt, nIeq, nIltL, nILlt, nIeqL, nILeq, nIadL, nILad, nILmu, nI_add, nIsbL, nI_sub', decide_true, decide_false, Bool.false_or, Bool.or_false, rX24_init_0, rX24_init_1, rX24_init_4, rX24_init_5, rX24_init_7, rX24_init_9, rX24_init_9n, rX24_init_12, rX24_init_13, rX24_init_15, rX24_init_17, rX24_init_17n, rX24_init_20, rX24_init_21, rX24_init_23, rX24_init_25, rX24_init_25n, rX24_init_28, rX24_init_29, rX24_init_31, rX24_init_33, rX24_init_33n, rX24_init_36, rX24_init_37, rX24_init_39, rX24_init_41, rX24_init_41n, rX24_init_44, rX24_init_45, rX24_init_47, rX24_init_49, rX24_init_49n, rX24_init_52, rX24_init_53, rX24_init_53n, rX24_init_54, rX24_init_57, rX24_init_60, rX24_init_61, rX24_init_61n, rX24_init_62, rX24_init_65, rX24_init_68, rX24_init_69, rX24_init_69n, rX24_init_70, rX24_init_73, rX24_init_76, rX24_init_78, rX24_init_80, rX24_init_80n, rX24_init_81, rX24_init_82, rX24_init_83, rX24_init_84, rX24_init_88, rX24_init_88n, rX24_init_89, rX24_init_92, rX24_init_95, rX24_init_95n, rX24_init_96, rX24_init_98, rX24_init_101, rX24_init_103, rX24_init_106, rX24_init_109, rX24_init_109n, rX24_init_110, rX24_init_112, rX24_init_113, rX24_init_114, rX24_init_117, rX24_init_120, rX24_init_123, rX24_init_124, rX24_init_125, rX24_init_128, rX24_init_129, rX24_init_133, rX24_init_134, rX24_init_137, rX24_init_140, rX24_init_141, rX24_init_144, rX24_init_146, rX24_init_146n, rX24_init_147, rX24_init_147n, rX24_init_148, rX24_init_148n, rX24_init_149, rX24_init_152, rX24_init_154, rX24_init_155, rX24_init_158, rX24_init_159, rX24_init_160, rX24_init_161, rX24_init_164, rX24_init_166, rX24_init_166n, rX24_init_167, rX24_init_167n, rX24_init_168, rX24_init_168n, rX24_init_169, rX24_init_172, rX24_init_174, rX24_init_175, rX24_init_178, rX24_init_179, rX24_init_180, rX24_init_181, rX24_init_184, rX24_init_186, rX24_init_186n, rX24_init_187, rX24_init_190, rX24_init_192, rX24_init_193, rX24_init_194, rX24_init_195, rX24_init_198, rX24_init_200, rX24_init_200n, rX24_init_201, rX24_init_204, rX24_init_206, rX24_init_207, rX24_init_208, rX24_init_209, rX24_init_212, rX24_init_213, rX24_init_216, rX24_init_218, rX24_init_219, rX24_init_220, rX24_init_221, rX24_init_222, rX24_init_223, rX24_init_224, rX24_init_225, rX24_init_228, rX24_init_229, rX24_init_232, rX24_init_234, rX24_init_235, rX24_init_236, rX24_init_237, rX24_init_238, rX24_init_239, rX24_init_240, rX24_init_243, rX24_init_246, rX24_init_246n, rX24_init_247, rX24_init_250, rX24_init_251, rX24_init_252, rX24_init_255, rX24_init_256, rX24_init_258, rX24_init_261, wCl, wF0, wF1, wF2, wF3, wF4, wF5, wF6, wF7, wP7, wF8, wP8, wF9, wP9, wF10, wP10, wF11, wP11, wL1, wL1n, wC1, wW1, wL2, wL2n, wC2, wW2, wL3, wL3n, wC3, wW3, wL4, wL4n, wC4, wW4, wL5, wL5n, wC5, wW5, wL6, wL6n, wC6, wW6, wL7, wL7n, wC7, wW7, zyCl hy, zyF0 hy, zyF1 hy, zyF2 hy, zyF3 hy, zyF4 hy, zyF5 hy, zyF6 hy, zyP6 hy, zyF7 hy, zyP7 hy, zyF8 hy, zyP8 hy, zyF9 hy, zyP9 hy, zyL1 hy, zyL1n hy, zyC1 hy, zyW1 hy, zyL2 hy, zyL2n hy, zyC2 hy, zyW2 hy, zyL3 hy, zyL3n hy, zyC3 hy, zyW3 hy, zyL4 hy, zyL4n hy, zyC4 hy, zyW4 hy, zyL5 hy, zyL5n hy, zyC5 hy, zyW5 hy, zyL6 hy, zyL6n hy, zyC6 hy, zyW6 hy, zyL7 hy, zyL7n hy, zyC7 hy, zyW7 hy, wo8, kX23_root hk hq, e, yv7 hr]
      rw [if_pos hr] at hR
      exact hR
    · have e : ¬ ro H.jo q = q := by simpa [rr] using hr
      simp (disch := first | omega | decide) only [pis_i, pis_l, pis_r, pis_n, p1_i, p1_r, p1_n, p1_u, pw0, pw1, pw2, pw3, pw4, pK_v, pK_0, pK_ite, if_true, if_false, if_pos, if_neg, Nat.reduceAdd, pok_r, i10, i01, Bool.true_or, Bool.or_true, Bool.and_true, Bool.true_and, Nat.add_sub_cancel, i1p1, i1p0, i0p1, i0p0, nIrem2, va_rf_s, bit1, bit0, pinT, pinLT, pin0, nIc, nIcL, nIlt, nIeq, nIltL, nILlt, nIeqL, nILeq, nIadL, nILad, nILmu, nI_add, nIsbL, nI_sub', decide_true, decide_false, Bool.false_or, Bool.or_false, rX24_init_0, rX24_init_1, rX24_init_4, rX24_init_5, rX24_init_7, rX24_init_9, rX24_init_9n, rX24_init_12, rX24_init_13, rX24_init_15, rX24_init_17, rX24_init_17n, rX24_init_20, rX24_init_21, rX24_init_23, rX24_init_25, rX24_init_25n, rX24_init_28, rX24_init_29, rX24_init_31, rX24_init_33, rX24_init_33n, rX24_init_36, rX24_init_37, rX24_init_39, rX24_init_41, rX24_init_41n, rX24_init_44, rX24_init_45, rX24_init_47, rX24_init_49, rX24_init_49n, rX24_init_52, rX24_init_53, rX24_init_53n, rX24_init_54, rX24_init_57, rX24_init_60, rX24_init_61, rX24_init_61n, rX24_init_62, rX24_init_65, rX24_init_68, rX24_init_69, rX24_init_69n, rX24_init_70, rX24_init_73, rX24_init_76, rX24_init_78, rX24_init_80, rX24_init_80n, rX24_init_81, rX24_init_82, rX24_init_83, rX24_init_84, rX24_init_88, rX24_init_88n, rX24_init_89, rX24_init_92, rX24_init_95, rX24_init_95n, rX24_init_96, rX24_init_98, rX24_init_101, rX24_init_103, rX24_init_106, rX24_init_109, rX24_init_109n, rX24_init_110, rX24_init_112, rX24_init_113, rX24_init_114, rX24_init_117, rX24_init_120, rX24_init_123, rX24_init_124, rX24_init_125, rX24_init_128, rX24_init_129, rX24_init_133, rX24_init_134, rX24_init_137, rX24_init_140, rX24_init_141, rX24_init_144, rX24_init_146, rX24_init_146n, rX24_init_147, rX24_init_147n, rX24_init_148, rX24_init_148n, rX24_init_149, rX24_init_152, rX24_init_154, rX24_init_155, rX24_init_158, rX24_init_159, rX24_init_160, rX24_init_161, rX24_init_164, rX24_init_166, rX24_init_166n, rX24_init_167, rX24_init_167n, rX24_init_168, rX24_init_168n, rX24_init_169, rX24_init_172, rX24_init_174, rX24_init_175, rX24_init_178, rX24_init_179, rX24_init_180, rX24_init_181, rX24_init_184, rX24_init_186, rX24_init_186n, rX24_init_187, rX24_init_190, rX24_init_192, rX24_init_193, rX24_init_194, rX24_init_195, rX24_init_198, rX24_init_200, rX24_init_200n, rX24_init_201, rX24_init_204, rX24_init_206, rX24_init_207, rX24_init_208, rX24_init_209, rX24_init_212, rX24_init_213, rX24_init_216, rX24_init_218, rX24_init_219, rX24_init_220, rX24_init_221, rX24_init_222, rX24_init_223, rX24_init_224, rX24_init_225, rX24_init_228, rX24_init_229, rX24_init_232, rX24_init_234, rX24_init_235, rX24_init_236, rX24_init_237, rX24_init_238, rX24_init_239, rX24_init_240, rX24_init_243, rX24_init_246, rX24_init_246n, rX24_init_247, rX24_init_250, rX24_init_251, rX24_init_252, rX24_init_255, rX24_init_256, rX24_init_258, rX24_init_261, wCl, wF0, wF1, wF2, wF3, wF4, wF5, wF6, wF7, wP7, wF8, wP8, wF9, wP9, wF10, wP10, wF11, wP11, wL1, wL1n, wC1, wW1, wL2, wL2n, wC2, wW2, wL3, wL3n, wC3, wW3, wL4, wL4n, wC4, wW4, wL5, wL5n, wC5, wW5, wL6, wL6n, wC6, wW6, wL7, wL7n, wC7, wW7, zyCl hy, zyF0 hy, zyF1 hy, zyF2 hy, zyF3 hy, zyF4 hy, zyF5 hy, zyF6 hy, zyP6 hy, zyF7 hy, zyP7 hy, zyF8 hy, zyP8 hy, zyF9 hy, zyP9 hy, zyL1 hy, zyL1n hy, zyC1 hy, zyW1 hy, zyL2 hy, zyL2n hy, zyC2 hy, zyW2 hy, zyL3 hy, zyL3n hy, zyC3 hy, zyW3 hy, zyL4 hy, zyL4n hy, zyC4 hy, zyW4 hy, zyL5 hy, zyL5n hy, zyC5 hy, zyW5 hy, zyL6 hy, zyL6n hy, zyC6 hy, zyW6 hy, zyL7 hy, zyL7n hy, zyC7 hy, zyW7 hy, wo8, kX23_root hk hq, e, yv7n hr]
      rw [if_neg hr] at hR
      exact hR
  · rw [rX24_init_86]
    simp (disch := first | omega | decide) only [pis_i, pis_l, pis_r, pis_n, p1_i, p1_r, p1_n, p1_u, pw0, pw1, pw2, pw3, pw4, pK_v, pK_0, pK_ite, if_true, if_false, if_pos, if_neg, Nat.reduceAdd, pok_r, i10, i01, Bool.true_or, Bool.or_true, Bool.and_true, Bool.true_and, Nat.add_sub_cancel, i1p1, i1p0, i0p1, i0p0, nIrem2, va_rf_s, bit1, bit0, pinT, pinLT, pin0, nIc, nIcL, nIlt, nIeq, nIltL, nILlt, nIeqL, nILeq, nIadL, nILad, nILmu, nI_add, nIsbL, nI_sub', decide_true, decide_false, Bool.false_or, Bool.or_false, rX24_init_88, rX24_init_88n, rX24_init_89, rX24_init_92, rX24_init_95, rX24_init_95n, rX24_init_96, rX24_init_98, rX24_init_101, rX24_init_103, rX24_init_106, rX24_init_109, rX24_init_109n, rX24_init_110, rX24_init_112, rX24_init_113, rX24_init_114, rX24_init_117, rX24_init_120, rX24_init_123, rX24_init_124, rX24_init_125, rX24_init_128, rX24_init_129, wCl, wF0, wF1, wF2, wF3, wF4, wF5, wF6, wF7, wP7, wF8, wP8, wF9, wP9, wF10, wP10, wF11, wP11, wL1, wL1n, wC1, wW1, wL2, wL2n, wC2, wW2, wL3, wL3n, wC3, wW3, wL4, wL4n, wC4, wW4, wL5, wL5n, wC5, wW5, wL6, wL6n, wC6, wW6, wL7, wL7n, wC7, wW7, zyCl hy, zyF0 hy, zyF1 hy, zyF2 hy, zyF3 hy, zyF4 hy, zyF5 hy, zyF6 hy, zyP6 hy, zyF7 hy, zyP7 hy, zyF8 hy, zyP8 hy, zyF9 hy, zyP9 hy, zyL1 hy, zyL1n hy, zyC1 hy, zyW1 hy, zyL2 hy, zyL2n hy, zyC2 hy, zyW2 hy, zyL3 hy, zyL3n hy, zyC3 hy, zyW3 hy, zyL4 hy, zyL4n hy, zyC4 hy, zyW4 hy, zyL5 hy, zyL5n hy, zyC5 hy, zyW5 hy, zyL6 hy, zyL6n hy, zyC6 hy, zyW6 hy, zyL7 hy, zyL7n hy, zyC7 hy, zyW7 hy, wo8, yu8]
    exact hR
theorem FigAt_of {Y : YS} {q : Nat} (hY1 : Y.1 = (yB H (fb_ct (rr H) H.np) H.np H.nb).1) (hY : ∀ j, j ≠ 5 → Y.2.1 j = (yB H (fb_ct (rr H) H.np) H.np H.nb).2.1 j) (h5 : ∀ b, b < H.nl → Y.2.1 5 b = nI (H.so b)) : FigAt (yput h y Y) y (figOf H) := by
  have e0 : (yput h y Y).1 y = some (.inr (24, yobj y Y.1)) := yput_o
  rw [hY1] at e0
  refine ⟨e0, ⟨_, yA1, fun b hb => ?_⟩, ⟨_, yA2, fun b hb => ?_⟩, ⟨_, yA3, fun b hb => ?_⟩, ⟨_, yA4, fun b hb => ?_⟩, ⟨_, yA5, fun b hb => h5 b hb⟩, ⟨_, yA6, fun b hb => ?_⟩⟩
  · have hb : b < H.nb := hb
    rw [hY 1 (by decide)]; show (if b < H.nb then _ else _) = _; rw [if_pos hb]; rfl
  · have hb : b < H.nb := hb
    rw [hY 2 (by decide)]; show (if b < H.nb then _ else _) = _; rw [if_pos hb]; rfl
  · have hb : b < H.nb := hb
    rw [hY 3 (by decide)]; show (if b < H.nb then _ else _) = _; rw [if_pos hb]; rfl
  · have hb : b < H.nb := hb
    rw [hY 4 (by decide)]; show (if b < H.nb then _ else _) = _; rw [if_pos hb]; rfl
  · rw [hY 6 (by decide)]; rfl
theorem kX24_init (hk : HdOk H) {n0 : Nat} (h0 : n0 = h.2.1) (ho : o + 8 ≤ h.2.1) : ∃ Y, pCa 229 (d + 2) [.ref n0, .ref o] (wput (pnw h (.inr (24, [.null, .null, .null, .null, .null, .null, .int 0, .int 0, .int 0, .int 0])) 10) o (wOf H)) = some (.inl none, wput (yput (gr h 8 176) h.2.1 Y) o (wOf H)) ∧ FigAt (yput (gr h 8 176) h.2.1 Y) h.2.1 (figOf H) := by
  subst h0
  have hy := ho
  have hn := hk.n
  have hnb := hk.b
  have hnl := hk.l
  have hnn := fb_ct_le (rr H) H.np
  let Y5 : YS := ((yB H (fb_ct (rr H) H.np) H.np H.nb).1, us (yB H (fb_ct (rr H) H.np) H.np H.nb).2.1 5 (va_cpy (fun k => nI (H.so k)) ((yB H (fb_ct (rr H) H.np) H.np H.nb).2.1 5) 0 0 6), ())
  refine ⟨Y5, ?_, FigAt_of (q := 0) rfl (fun j hj => by simp [Y5, us, hj]) (fun b hb => ?_)⟩
  · rw [eX24_init]
    have e := y8 (h := h) (I := (yB H 0 0 0).1) (z := fun _ => 0) (Y := yB H 0 0 0) rfl (fun j h1 h7 => by
      funext k
      match j, h1, h7 with
      | 1, _, _ => rfl
      | 2, _, _ => rfl
      | 3, _, _ => rfl
      | 4, _, _ => rfl
      | 5, _, _ => rfl
      | 6, _, _ => rfl
      | 7, _, _ => simp [yB, yN])
    simp only [yobj, pnw_21, Nat.add_assoc, Nat.reduceAdd, yo6, yo7, yo8, yo9] at e
    simp (disch := first | omega | decide | (simp only [pnw_21, psf_21, wput_21]; omega)) only [pis_i, pis_l, pis_r, pis_n, p1_i, p1_r, p1_n, p1_u, pw0, pw1, pw2, pw3, pw4, pK_v, pK_0, pK_ite, if_true, if_false, if_pos, if_neg, Nat.reduceAdd, pok_r, i10, i01, Bool.true_or, Bool.or_true, Bool.and_true, Bool.true_and, rX24_init_0, rX24_init_1, rX24_init_4, rX24_init_5, rX24_init_7, rX24_init_9, rX24_init_9n, rX24_init_12, rX24_init_13, rX24_init_15, rX24_init_17, rX24_init_17n, rX24_init_20, rX24_init_21, rX24_init_23, rX24_init_25, rX24_init_25n, rX24_init_28, rX24_init_29, rX24_init_31, rX24_init_33, rX24_init_33n, rX24_init_36, rX24_init_37, rX24_init_39, rX24_init_41, rX24_init_41n, rX24_init_44, rX24_init_45, rX24_init_47, rX24_init_49, rX24_init_49n, rX24_init_52, rX24_init_53, rX24_init_53n, rX24_init_54, rX24_init_57, rX24_init_60, rX24_init_61, rX24_init_61n, rX24_init_62, rX24_init_65, rX24_init_68, rX24_init_69, rX24_init_69n, rX24_init_70, rX24_init_73, rX24_init_76, rX24_init_78, rX24_init_80, rX24_init_80n, rX24_init_81, rX24_init_82, rX24_init_83, rX24_init_84, wCl, wF0, wF1, wF2, wF3, wF4, wF5, wF6, wF7, wP7, wF8, wP8, wF9, wP9, wF10, wP10, wF11, wP11, wL1, wL1n, wC1, wW1, wL2, wL2n, wC2, wW2, wL3, wL3n, wC3, wW3, wL4, wL4n, wC4, wW4, wL5, wL5n, wC5, wW5, wL6, wL6n, wC6, wW6, wL7, wL7n, wC7, wW7, wo8, wo9, wo10, wo11, wO_pnw, wO_psf, wO_pfl, pnw_21, psf_21, wput_21, pfl_pnw, pfl_pnw_ne, psf_pnw, psf_pnw_ne, List.set_cons_zero, List.set_cons_succ, List.getD_cons_zero, List.getD_cons_succ, Nat.add_assoc]
    rw [show (.int 0 : Value) = .int (nI 0) from rfl] at *
    rw [e]
    refine kX24_init_1 (d := d + 1) hk (by omega) ?_
    refine loopN (N := H.nb) (P := fun b => pR 229 (d + 2) 131 [.ref h.2.1, .ref o, .ref (h.2.1 + 7), .int (nI (fb_ct (rr H) H.np)), .int (nI b)] [] (wput (yput (gr h 8 176) h.2.1 (yB H (fb_ct (rr H) H.np) H.np b)) o (wOf H))) (fun b hb R hR => ?_) ?_ 0 (Nat.zero_le _)
    · obtain ⟨f1, f2, f3⟩ := hk.f b hb
      have r1 := ro_lt hk.j f1
      have r2 := ro_lt hk.j f2
      have n1 := nmb_lt hk f1
      have n2 := nmb_lt hk f2
      have s1 : rr H (ro H.jo (H.fr b)) = true := decide_eq_true (ro_fix (ro_ro hk.j f1))
      have s2 : rr H (ro H.jo (H.tq b)) = true := decide_eq_true (ro_fix (ro_ro hk.j f2))
      have c1 : fb_ct (rr H) (ro H.jo (H.fr b)) = nmb H (H.fr b) := rfl
      have c2 : fb_ct (rr H) (ro H.jo (H.tq b)) = nmb H (H.tq b) := rfl
      rw [rX24_init_131]
      simp (disch := first | omega | decide | assumption) only [pis_i, pis_l, pis_r, pis_n, p1_i, p1_r, p1_n, p1_u, pw0, pw1, pw2, pw3, pw4, pK_v, pK_0, pK_ite, if_true, if_false, if_pos, if_neg, Nat.reduceAdd, pok_r, i10, i01, Bool.true_or, Bool.or_true, Bool.and_true, Bool.true_and, Nat.add_sub_cancel, i1p1, i1p0, i0p1, i0p0, nIrem2, va_rf_s, bit1, bit0, pinT, pinLT, pin0, nIc, nIcL, nIlt, nIeq, nIltL, nILlt, nIeqL, nILeq, nIadL, nILad, nILmu, nI_add, nIsbL, nI_sub', decide_true, decide_false, Bool.false_or, Bool.or_false, rX24_init_0, rX24_init_1, rX24_init_4, rX24_init_5, rX24_init_7, rX24_init_9, rX24_init_9n, rX24_init_12, rX24_init_13, rX24_init_15, rX24_init_17, rX24_init_17n, rX24_init_20, rX24_init_21, rX24_init_23, rX24_init_25, rX24_init_25n, rX24_init_28, rX24_init_29, rX24_init_31, rX24_init_33, rX24_init_33n, rX24_init_36, rX24_init_37, rX24_init_39, rX24_init_41, rX24_init_41n, rX24_init_44, rX24_init_45, rX24_init_47, rX24_init_49, rX24_init_49n, rX24_init_52, rX24_init_53, rX24_init_53n, rX24_init_54, rX24_init_57, rX24_init_60, rX24_init_61, rX24_init_61n, rX24_init_62, rX24_init_65, rX24_init_68, rX24_init_69, rX24_init_69n, rX24_init_70, rX24_init_73, rX24_init_76, rX24_init_78, rX24_init_80, rX24_init_80n, rX24_init_81, rX24_init_82, rX24_init_83, rX24_init_84, rX24_init_88, rX24_init_88n, rX24_init_89, rX24_init_92, rX24_init_95, rX24_init_95n, rX24_init_96, rX24_init_98, rX24_init_101, rX24_init_103, rX24_init_106, rX24_init_109, rX24_init_109n, rX24_init_110, rX24_init_112, rX24_init_113, rX24_init_114, rX24_init_117, rX24_init_120, rX24_init_123, rX24_init_124, rX24_init_125, rX24_init_128, rX24_init_129, rX24_init_133, rX24_init_134, rX24_init_137, rX24_init_140, rX24_init_141, rX24_init_144, rX24_init_146, rX24_init_146n, rX24_init_147, rX24_init_147n, rX24_init_148, rX24_init_148n, rX24_init_149, rX24_init_152, rX24_init_154, rX24_init_155, rX24_init_158, rX24_init_159, rX24_init_160, rX24_init_161, rX24_init_164, rX24_init_166, rX24_init_166n, rX24_init_167, rX24_init_167n, rX24_init_168, rX24_init_168n, rX24_init_169, rX24_init_172, rX24_init_174, rX24_init_175, rX24_init_178, rX24_init_179, rX24_init_180, rX24_init_181, rX24_init_184, rX24_init_186, rX24_init_186n, rX24_init_187, rX24_init_190, rX24_init_192, rX24_init_193, rX24_init_194, rX24_init_195, rX24_init_198, rX24_init_200, rX24_init_200n, rX24_init_201, rX24_init_204, rX24_init_206, rX24_init_207, rX24_init_208, rX24_init_209, rX24_init_212, rX24_init_213, rX24_init_216, rX24_init_218, rX24_init_219, rX24_init_220, rX24_init_221, rX24_init_222, rX24_init_223, rX24_init_224, rX24_init_225, rX24_init_228, rX24_init_229, rX24_init_232, rX24_init_234, rX24_init_235, rX24_init_236, rX24_init_237, rX24_init_238, rX24_init_239, rX24_init_240, rX24_init_243, rX24_init_246, rX24_init_246n, rX24_init_247, rX24_init_250, rX24_init_251, rX24_init_252, rX24_init_255, rX24_init_256, rX24_init_258, rX24_init_261, wCl, wF0, wF1, wF2, wF3, wF4, wF5, wF6, wF7, wP7, wF8, wP8, wF9, wP9, wF10, wP10, wF11, wP11, wL1, wL1n, wC1, wW1, wL2, wL2n, wC2, wW2, wL3, wL3n, wC3, wW3, wL4, wL4n, wC4, wW4, wL5, wL5n, wC5, wW5, wL6, wL6n, wC6, wW6, wL7, wL7n, wC7, wW7, zyCl hy, zyF0 hy, zyF1 hy, zyF2 hy, zyF3 hy, zyF4 hy, zyF5 hy, zyF6 hy, zyP6 hy, zyF7 hy, zyP7 hy, zyF8 hy, zyP8 hy, zyF9 hy, zyP9 hy, zyL1 hy, zyL1n hy, zyC1 hy, zyW1 hy, zyL2 hy, zyL2n hy, zyC2 hy, zyW2 hy, zyL3 hy, zyL3n hy, zyC3 hy, zyW3 hy, zyL4 hy, zyL4n hy, zyC4 hy, zyW4 hy, zyL5 hy, zyL5n hy, zyC5 hy, zyW5 hy, zyL6 hy, zyL6n hy, zyC6 hy, zyW6 hy, zyL7 hy, zyL7n hy, zyC7 hy, zyW7 hy, wo9, wa3, wa4, wa5, wa6, kX23_root hk f1, kX23_root hk f2, yo6, ya7, c1, c2, ua_o, ua_j, upd_same, ya6]
      have eu : upd ((yB H (fb_ct (rr H) H.np) H.np b).2.1 6) (nmb H (H.fr b)) (nI (fb_sm (fEa (figOf H) (nmb H (H.fr b))) b + 1)) (nmb H (H.tq b)) + 1 = nI ((if nmb H (H.tq b) = nmb H (H.fr b) then fb_sm (fEa (figOf H) (nmb H (H.fr b))) b + 1 else fb_sm (fEa (figOf H) (nmb H (H.tq b))) b) + 1) := by
        unfold upd
        split
        · rw [nIadL]
        · rw [ya6, nIadL]
      rw [eu, yv hb]
      exact hR
    · rw [rX24_init_131]
      have ep : pct (wput (yput (gr h 8 176) h.2.1 (yB H (fb_ct (rr H) H.np) H.np H.nb)) o (wOf H)) (o + 7) = fun k => nI (H.so k) := wC7
      simp (disch := first | omega | decide) only [pis_i, pis_l, pis_r, pis_n, p1_i, p1_r, p1_n, p1_u, pw0, pw1, pw2, pw3, pw4, pK_v, pK_0, pK_ite, if_true, if_false, if_pos, if_neg, Nat.reduceAdd, pok_r, i10, i01, Bool.true_or, Bool.or_true, Bool.and_true, Bool.true_and, Nat.add_sub_cancel, i1p1, i1p0, i0p1, i0p0, nIrem2, va_rf_s, bit1, bit0, pinT, pinLT, pin0, nIc, nIcL, nIlt, nIeq, nIltL, nILlt, nIeqL, nILeq, nIadL, nILad, nILmu, nI_add, nIsbL, nI_sub', decide_true, decide_false, Bool.false_or, Bool.or_false, rX24_init_0, rX24_init_1, rX24_init_4, rX24_init_5, rX24_init_7, rX24_init_9, rX24_init_9n, rX24_init_12, rX24_init_13, rX24_init_15, rX24_init_17, rX24_init_17n, rX24_init_20, rX24_init_21, rX24_init_23, rX24_init_25, rX24_init_25n, rX24_init_28, rX24_init_29, rX24_init_31, rX24_init_33, rX24_init_33n, rX24_init_36, rX24_init_37, rX24_init_39, rX24_init_41, rX24_init_41n, rX24_init_44, rX24_init_45, rX24_init_47, rX24_init_49, rX24_init_49n, rX24_init_52, rX24_init_53, rX24_init_53n, rX24_init_54, rX24_init_57, rX24_init_60, rX24_init_61, rX24_init_61n, rX24_init_62, rX24_init_65, rX24_init_68, rX24_init_69, rX24_init_69n, rX24_init_70, rX24_init_73, rX24_init_76, rX24_init_78, rX24_init_80, rX24_init_80n, rX24_init_81, rX24_init_82, rX24_init_83, rX24_init_84, rX24_init_88, rX24_init_88n, rX24_init_89, rX24_init_92, rX24_init_95, rX24_init_95n, rX24_init_96, rX24_init_98, rX24_init_101, rX24_init_103, rX24_init_106, rX24_init_109, rX24_init_109n, rX24_init_110, rX24_init_112, rX24_init_113, rX24_init_114, rX24_init_117, rX24_init_120, rX24_init_123, rX24_init_124, rX24_init_125, rX24_init_128, rX24_init_129, rX24_init_133, rX24_init_134, rX24_init_137, rX24_init_140, rX24_init_141, rX24_init_144, rX24_init_146, rX24_init_146n, rX24_init_147, rX24_init_147n, rX24_init_148, rX24_init_148n, rX24_init_149, rX24_init_152, rX24_init_154, rX24_init_155, rX24_init_158, rX24_init_159, rX24_init_160, rX24_init_161, rX24_init_164, rX24_init_166, rX24_init_166n, rX24_init_167, rX24_init_167n, rX24_init_168, rX24_init_168n, rX24_init_169, rX24_init_172, rX24_init_174, rX24_init_175, rX24_init_178, rX24_init_179, rX24_init_180, rX24_init_181, rX24_init_184, rX24_init_186, rX24_init_186n, rX24_init_187, rX24_init_190, rX24_init_192, rX24_init_193, rX24_init_194, rX24_init_195, rX24_init_198, rX24_init_200, rX24_init_200n, rX24_init_201, rX24_init_204, rX24_init_206, rX24_init_207, rX24_init_208, rX24_init_209, rX24_init_212, rX24_init_213, rX24_init_216, rX24_init_218, rX24_init_219, rX24_init_220, rX24_init_221, rX24_init_222, rX24_init_223, rX24_init_224, rX24_init_225, rX24_init_228, rX24_init_229, rX24_init_232, rX24_init_234, rX24_init_235, rX24_init_236, rX24_init_237, rX24_init_238, rX24_init_239, rX24_init_240, rX24_init_243, rX24_init_246, rX24_init_246n, rX24_init_247, rX24_init_250, rX24_init_251, rX24_init_252, rX24_init_255, rX24_init_256, rX24_init_258, rX24_init_261, wCl, wF0, wF1, wF2, wF3, wF4, wF5, wF6, wF7, wP7, wF8, wP8, wF9, wP9, wF10, wP10, wF11, wP11, wL1, wL1n, wC1, wW1, wL2, wL2n, wC2, wW2, wL3, wL3n, wC3, wW3, wL4, wL4n, wC4, wW4, wL5, wL5n, wC5, wW5, wL6, wL6n, wC6, wW6, wL7, wL7n, wC7, wW7, zyCl hy, zyF0 hy, zyF1 hy, zyF2 hy, zyF3 hy, zyF4 hy, zyF5 hy, zyF6 hy, zyP6 hy, zyF7 hy, zyP7 hy, zyF8 hy, zyP8 hy, zyF9 hy, zyP9 hy, zyL1 hy, zyL1n hy, zyC1 hy, zyW1 hy, zyL2 hy, zyL2n hy, zyC2 hy, zyW2 hy, zyL3 hy, zyL3n hy, zyC3 hy, zyW3 hy, zyL4 hy, zyL4n hy, zyC4 hy, zyW4 hy, zyL5 hy, zyL5n hy, zyC5 hy, zyW5 hy, zyL6 hy, zyL6n hy, zyC6 hy, zyW6 hy, zyL7 hy, zyL7n hy, zyC7 hy, zyW7 hy, yo6, pcp_wy (show o + 8 ≤ h.2.1 by omega) ep]
      have hne : (o + 7 == h.2.1 + 5) = false := by simp; omega
      rw [hne]
      rfl
  · show us (yB H (fb_ct (rr H) H.np) H.np H.nb).2.1 5 (va_cpy (fun k => nI (H.so k)) ((yB H (fb_ct (rr H) H.np) H.np H.nb).2.1 5) 0 0 6) 5 b = _
    rw [us_same, va_cpy, if_pos ⟨by omega, by omega⟩]
    simp
end
