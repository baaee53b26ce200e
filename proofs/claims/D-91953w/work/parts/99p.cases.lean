/-! THE LAW 1: its cases (printed by genlaw.py) -/
set_option maxRecDepth 100000
def Nx (b L : Nat) (xs : Nat → Int32) (base pc i : Nat) (q5 q6 : Value) (H : pH) : Prop := ∃ H2 q5' q6', p1 q5' = true ∧ p1 q6' = true ∧ pR 3 2048 pc [.ref b, .ref base, .ref (base + 14), .ref (base + 49), .int (nI i), q5, q6] [] H = pR 3 2048 1654 [.ref b, .ref base, .ref (base + 14), .ref (base + 49), .int (nI i), q5', q6'] [] H2 ∧ Good b L xs base H2 ∧ H2.2.1 ≤ H.2.1 + 1000 ∧ H2.2.2 ≤ H.2.2 + 10000
theorem scr_f {h : pH} {b L : Nat} {xs : Nat → Int32} (hb : h.1 b = some (.inl (9, L, .inl xs))) : pln h 0 b = 0 ∧ pln h 9 b = L ∧ pct h b = xs := ⟨by unfold pln; rw [hb]; rfl, by unfold pln; rw [hb]; rfl, pct_of hb⟩
section
variable {b L base i : Nat} {xs : Nat → Int32} {X : XS} {S : MS} {H : pH} {w : Wld} {q5 q6 : Value}
theorem c_sort (F : Full b L xs base X S H) (R : Rel base X S H w) (hL : L ≤ 448) (hi : i + 7 ≤ L) (h5 : p1 q5 = true) (h6 : p1 q6 = true) : Nx b L xs base 196 i q5 q6 H := by
  obtain ⟨r, H1, H2, hx, hm, hs, hp, hG, g1, g2⟩ := s_sort F R (xs (i + 1)) (xs (i + 2)) (xs (i + 3))
  obtain ⟨u0, u9, uc⟩ := scr_f F.s
  obtain ⟨v0, v9, vc⟩ := scr_f hs
  have px := F.px
  refine ⟨H2, q5, q6, h5, h6, ?_, hG, g1, g2⟩
  rw [show (2048 : Nat) = 2047 + 1 from rfl]
  simp (disch := first | assumption | omega | decide) only [pis_i, pis_l, pis_r, pis_n, p1_i, p1_r, p1_n, p1_u, pw0, pw1, pw2, pw3, pw4, pK_v, pK_0, pK_ite, if_true, if_false, if_pos, if_neg, Nat.reduceAdd, pok_r, i10, i01, Bool.true_or, Bool.or_true, Bool.and_true, Bool.true_and, Nat.add_sub_cancel, i1p1, i1p0, i0p1, i0p0, nIrem2, va_rf_s, bit1, bit0, pinT, pinLT, pin0, nIc, nIcL, nIlt, nIeq, nIltL, nILlt, nIeqL, nILeq, nIadL, nILad, nILmu, nI_add, nIsbL, nI_sub', decide_true, decide_false, Bool.false_or, Bool.or_false, rL_law_196, rL_law_196n, rL_law_197, rL_law_197n, rL_law_198, rL_law_200, rL_law_201, rL_law_202, rL_law_203, rL_law_203n, rL_law_204, rL_law_206, rL_law_207, rL_law_208, rL_law_209, rL_law_209n, rL_law_210, rL_law_212, rL_law_213, rL_law_214, rL_law_215, rL_law_218, rL_law_218n, rL_law_219, rL_law_219n, rL_law_220, rL_law_222, rL_law_223, rL_law_224, rL_law_225, rL_law_225n, rL_law_226, rL_law_228, rL_law_229, rL_law_230, rL_law_231, rL_law_231n, rL_law_232, rL_law_234, rL_law_235, rL_law_236, rL_law_237, rL_law_240, u0, u9, uc, v0, v9, vc, px, hp, hx, hm]
theorem c_feed (F : Full b L xs base X S H) (R : Rel base X S H w) (hL : L ≤ 448) (hi : i + 7 ≤ L) (h5 : p1 q5 = true) (h6 : p1 q6 = true) : Nx b L xs base 245 i q5 q6 H := by
  obtain ⟨r, H1, H2, hx, hm, hs, hp, hG, g1, g2⟩ := s_feed F R (xs (i + 1)) (xs (i + 2)) (xs (i + 3)) (xs (i + 4)) (xs (i + 5))
  obtain ⟨u0, u9, uc⟩ := scr_f F.s
  obtain ⟨v0, v9, vc⟩ := scr_f hs
  have px := F.px
  refine ⟨H2, q5, q6, h5, h6, ?_, hG, g1, g2⟩
  rw [show (2048 : Nat) = 2047 + 1 from rfl]
  simp (disch := first | assumption | omega | decide) only [pis_i, pis_l, pis_r, pis_n, p1_i, p1_r, p1_n, p1_u, pw0, pw1, pw2, pw3, pw4, pK_v, pK_0, pK_ite, if_true, if_false, if_pos, if_neg, Nat.reduceAdd, pok_r, i10, i01, Bool.true_or, Bool.or_true, Bool.and_true, Bool.true_and, Nat.add_sub_cancel, i1p1, i1p0, i0p1, i0p0, nIrem2, va_rf_s, bit1, bit0, pinT, pinLT, pin0, nIc, nIcL, nIlt, nIeq, nIltL, nILlt, nIeqL, nILeq, nIadL, nILad, nILmu, nI_add, nIsbL, nI_sub', decide_true, decide_false, Bool.false_or, Bool.or_false, rL_law_245, rL_law_245n, rL_law_246, rL_law_246n, rL_law_247, rL_law_249, rL_law_250, rL_law_251, rL_law_252, rL_law_252n, rL_law_253, rL_law_255, rL_law_256, rL_law_257, rL_law_258, rL_law_258n, rL_law_259, rL_law_261, rL_law_262, rL_law_263, rL_law_264, rL_law_264n, rL_law_265, rL_law_267, rL_law_268, rL_law_269, rL_law_270, rL_law_270n, rL_law_271, rL_law_273, rL_law_274, rL_law_275, rL_law_276, rL_law_279, rL_law_279n, rL_law_280, rL_law_280n, rL_law_281, rL_law_283, rL_law_284, rL_law_285, rL_law_286, rL_law_286n, rL_law_287, rL_law_289, rL_law_290, rL_law_291, rL_law_292, rL_law_292n, rL_law_293, rL_law_295, rL_law_296, rL_law_297, rL_law_298, rL_law_298n, rL_law_299, rL_law_301, rL_law_302, rL_law_303, rL_law_304, rL_law_304n, rL_law_305, rL_law_307, rL_law_308, rL_law_309, rL_law_310, rL_law_313, u0, u9, uc, v0, v9, vc, px, hp, hx, hm]
theorem c_end (F : Full b L xs base X S H) (R : Rel base X S H w) (hL : L ≤ 448) (hi : i + 7 ≤ L) (h5 : p1 q5 = true) (h6 : p1 q6 = true) : Nx b L xs base 318 i q5 q6 H := by
  obtain ⟨r, H1, H2, hx, hm, hs, hp, hG, g1, g2⟩ := s_end F R (xs (i + 1))
  obtain ⟨u0, u9, uc⟩ := scr_f F.s
  obtain ⟨v0, v9, vc⟩ := scr_f hs
  have px := F.px
  refine ⟨H2, q5, q6, h5, h6, ?_, hG, g1, g2⟩
  rw [show (2048 : Nat) = 2047 + 1 from rfl]
  simp (disch := first | assumption | omega | decide) only [pis_i, pis_l, pis_r, pis_n, p1_i, p1_r, p1_n, p1_u, pw0, pw1, pw2, pw3, pw4, pK_v, pK_0, pK_ite, if_true, if_false, if_pos, if_neg, Nat.reduceAdd, pok_r, i10, i01, Bool.true_or, Bool.or_true, Bool.and_true, Bool.true_and, Nat.add_sub_cancel, i1p1, i1p0, i0p1, i0p0, nIrem2, va_rf_s, bit1, bit0, pinT, pinLT, pin0, nIc, nIcL, nIlt, nIeq, nIltL, nILlt, nIeqL, nILeq, nIadL, nILad, nILmu, nI_add, nIsbL, nI_sub', decide_true, decide_false, Bool.false_or, Bool.or_false, rL_law_318, rL_law_318n, rL_law_319, rL_law_319n, rL_law_320, rL_law_322, rL_law_323, rL_law_324, rL_law_325, rL_law_328, rL_law_328n, rL_law_329, rL_law_329n, rL_law_330, rL_law_332, rL_law_333, rL_law_334, rL_law_335, rL_law_338, u0, u9, uc, v0, v9, vc, px, hp, hx, hm]
theorem c_fault (F : Full b L xs base X S H) (R : Rel base X S H w) (hL : L ≤ 448) (hi : i + 7 ≤ L) (h5 : p1 q5 = true) (h6 : p1 q6 = true) : Nx b L xs base 343 i q5 q6 H := by
  obtain ⟨r, H1, H2, hx, hm, hs, hp, hG, g1, g2⟩ := s_fault F R (xs (i + 1))
  obtain ⟨u0, u9, uc⟩ := scr_f F.s
  obtain ⟨v0, v9, vc⟩ := scr_f hs
  have px := F.px
  refine ⟨H2, q5, q6, h5, h6, ?_, hG, g1, g2⟩
  rw [show (2048 : Nat) = 2047 + 1 from rfl]
  simp (disch := first | assumption | omega | decide) only [pis_i, pis_l, pis_r, pis_n, p1_i, p1_r, p1_n, p1_u, pw0, pw1, pw2, pw3, pw4, pK_v, pK_0, pK_ite, if_true, if_false, if_pos, if_neg, Nat.reduceAdd, pok_r, i10, i01, Bool.true_or, Bool.or_true, Bool.and_true, Bool.true_and, Nat.add_sub_cancel, i1p1, i1p0, i0p1, i0p0, nIrem2, va_rf_s, bit1, bit0, pinT, pinLT, pin0, nIc, nIcL, nIlt, nIeq, nIltL, nILlt, nIeqL, nILeq, nIadL, nILad, nILmu, nI_add, nIsbL, nI_sub', decide_true, decide_false, Bool.false_or, Bool.or_false, rL_law_343, rL_law_343n, rL_law_344, rL_law_344n, rL_law_345, rL_law_347, rL_law_348, rL_law_349, rL_law_350, rL_law_353, rL_law_353n, rL_law_354, rL_law_354n, rL_law_355, rL_law_357, rL_law_358, rL_law_359, rL_law_360, rL_law_363, u0, u9, uc, v0, v9, vc, px, hp, hx, hm]
theorem c_figure (F : Full b L xs base X S H) (R : Rel base X S H w) (hL : L ≤ 448) (hi : i + 7 ≤ L) (h5 : p1 q5 = true) (h6 : p1 q6 = true) : Nx b L xs base 368 i q5 q6 H := by
  obtain ⟨r, H1, H2, hx, hm, hs, hp, hG, g1, g2⟩ := s_figure F R 
  obtain ⟨u0, u9, uc⟩ := scr_f F.s
  obtain ⟨v0, v9, vc⟩ := scr_f hs
  have px := F.px
  refine ⟨H2, q5, q6, h5, h6, ?_, hG, g1, g2⟩
  rw [show (2048 : Nat) = 2047 + 1 from rfl]
  simp (disch := first | assumption | omega | decide) only [pis_i, pis_l, pis_r, pis_n, p1_i, p1_r, p1_n, p1_u, pw0, pw1, pw2, pw3, pw4, pK_v, pK_0, pK_ite, if_true, if_false, if_pos, if_neg, Nat.reduceAdd, pok_r, i10, i01, Bool.true_or, Bool.or_true, Bool.and_true, Bool.true_and, Nat.add_sub_cancel, i1p1, i1p0, i0p1, i0p0, nIrem2, va_rf_s, bit1, bit0, pinT, pinLT, pin0, nIc, nIcL, nIlt, nIeq, nIltL, nILlt, nIeqL, nILeq, nIadL, nILad, nILmu, nI_add, nIsbL, nI_sub', decide_true, decide_false, Bool.false_or, Bool.or_false, rL_law_368, rL_law_368n, rL_law_369, rL_law_372, rL_law_372n, rL_law_373, rL_law_376, u0, u9, uc, v0, v9, vc, px, hp, hx, hm]
theorem c_rule (F : Full b L xs base X S H) (R : Rel base X S H w) (hL : L ≤ 448) (hi : i + 7 ≤ L) (h5 : p1 q5 = true) (h6 : p1 q6 = true) : Nx b L xs base 381 i q5 q6 H := by
  obtain ⟨r, H1, H2, hx, hm, hs, hp, hG, g1, g2⟩ := s_rule F R 
  obtain ⟨u0, u9, uc⟩ := scr_f F.s
  obtain ⟨v0, v9, vc⟩ := scr_f hs
  have px := F.px
  refine ⟨H2, q5, q6, h5, h6, ?_, hG, g1, g2⟩
  rw [show (2048 : Nat) = 2047 + 1 from rfl]
  simp (disch := first | assumption | omega | decide) only [pis_i, pis_l, pis_r, pis_n, p1_i, p1_r, p1_n, p1_u, pw0, pw1, pw2, pw3, pw4, pK_v, pK_0, pK_ite, if_true, if_false, if_pos, if_neg, Nat.reduceAdd, pok_r, i10, i01, Bool.true_or, Bool.or_true, Bool.and_true, Bool.true_and, Nat.add_sub_cancel, i1p1, i1p0, i0p1, i0p0, nIrem2, va_rf_s, bit1, bit0, pinT, pinLT, pin0, nIc, nIcL, nIlt, nIeq, nIltL, nILlt, nIeqL, nILeq, nIadL, nILad, nILmu, nI_add, nIsbL, nI_sub', decide_true, decide_false, Bool.false_or, Bool.or_false, rL_law_381, rL_law_381n, rL_law_382, rL_law_385, rL_law_385n, rL_law_386, rL_law_389, u0, u9, uc, v0, v9, vc, px, hp, hx, hm]
theorem c_many (F : Full b L xs base X S H) (R : Rel base X S H w) (hL : L ≤ 448) (hi : i + 7 ≤ L) (h5 : p1 q5 = true) (h6 : p1 q6 = true) : Nx b L xs base 394 i q5 q6 H := by
  obtain ⟨r, H1, H2, hx, hm, hs, hp, hG, g1, g2⟩ := s_many F R (xs (i + 1)) (xs (i + 2))
  obtain ⟨u0, u9, uc⟩ := scr_f F.s
  obtain ⟨v0, v9, vc⟩ := scr_f hs
  have px := F.px
  refine ⟨H2, q5, q6, h5, h6, ?_, hG, g1, g2⟩
  rw [show (2048 : Nat) = 2047 + 1 from rfl]
  simp (disch := first | assumption | omega | decide) only [pis_i, pis_l, pis_r, pis_n, p1_i, p1_r, p1_n, p1_u, pw0, pw1, pw2, pw3, pw4, pK_v, pK_0, pK_ite, if_true, if_false, if_pos, if_neg, Nat.reduceAdd, pok_r, i10, i01, Bool.true_or, Bool.or_true, Bool.and_true, Bool.true_and, Nat.add_sub_cancel, i1p1, i1p0, i0p1, i0p0, nIrem2, va_rf_s, bit1, bit0, pinT, pinLT, pin0, nIc, nIcL, nIlt, nIeq, nIltL, nILlt, nIeqL, nILeq, nIadL, nILad, nILmu, nI_add, nIsbL, nI_sub', decide_true, decide_false, Bool.false_or, Bool.or_false, rL_law_394, rL_law_394n, rL_law_395, rL_law_395n, rL_law_396, rL_law_398, rL_law_399, rL_law_400, rL_law_401, rL_law_401n, rL_law_402, rL_law_404, rL_law_405, rL_law_406, rL_law_407, rL_law_410, rL_law_410n, rL_law_411, rL_law_411n, rL_law_412, rL_law_414, rL_law_415, rL_law_416, rL_law_417, rL_law_417n, rL_law_418, rL_law_420, rL_law_421, rL_law_422, rL_law_423, rL_law_426, u0, u9, uc, v0, v9, vc, px, hp, hx, hm]
theorem c_ends (F : Full b L xs base X S H) (R : Rel base X S H w) (hL : L ≤ 448) (hi : i + 7 ≤ L) (h5 : p1 q5 = true) (h6 : p1 q6 = true) : Nx b L xs base 511 i q5 q6 H := by
  obtain ⟨r, H1, H2, hx, hm, hs, hp, hG, g1, g2⟩ := s_ends F R (xs (i + 1)) (xs (i + 2))
  obtain ⟨u0, u9, uc⟩ := scr_f F.s
  obtain ⟨v0, v9, vc⟩ := scr_f hs
  have px := F.px
  refine ⟨H2, q5, q6, h5, h6, ?_, hG, g1, g2⟩
  rw [show (2048 : Nat) = 2047 + 1 from rfl]
  simp (disch := first | assumption | omega | decide) only [pis_i, pis_l, pis_r, pis_n, p1_i, p1_r, p1_n, p1_u, pw0, pw1, pw2, pw3, pw4, pK_v, pK_0, pK_ite, if_true, if_false, if_pos, if_neg, Nat.reduceAdd, pok_r, i10, i01, Bool.true_or, Bool.or_true, Bool.and_true, Bool.true_and, Nat.add_sub_cancel, i1p1, i1p0, i0p1, i0p0, nIrem2, va_rf_s, bit1, bit0, pinT, pinLT, pin0, nIc, nIcL, nIlt, nIeq, nIltL, nILlt, nIeqL, nILeq, nIadL, nILad, nILmu, nI_add, nIsbL, nI_sub', decide_true, decide_false, Bool.false_or, Bool.or_false, rL_law_511, rL_law_511n, rL_law_512, rL_law_512n, rL_law_513, rL_law_515, rL_law_516, rL_law_517, rL_law_518, rL_law_518n, rL_law_519, rL_law_521, rL_law_522, rL_law_523, rL_law_524, rL_law_527, rL_law_527n, rL_law_528, rL_law_528n, rL_law_529, rL_law_531, rL_law_532, rL_law_533, rL_law_534, rL_law_534n, rL_law_535, rL_law_537, rL_law_538, rL_law_539, rL_law_540, rL_law_543, u0, u9, uc, v0, v9, vc, px, hp, hx, hm]
theorem c_bursts (F : Full b L xs base X S H) (R : Rel base X S H w) (hL : L ≤ 448) (hi : i + 7 ≤ L) (h5 : p1 q5 = true) (h6 : p1 q6 = true) : Nx b L xs base 548 i q5 q6 H := by
  obtain ⟨r, H1, H2, hx, hm, hs, hp, hG, g1, g2⟩ := s_bursts F R (xs (i + 1)) (xs (i + 2))
  obtain ⟨u0, u9, uc⟩ := scr_f F.s
  obtain ⟨v0, v9, vc⟩ := scr_f hs
  have px := F.px
  refine ⟨H2, q5, q6, h5, h6, ?_, hG, g1, g2⟩
  rw [show (2048 : Nat) = 2047 + 1 from rfl]
  simp (disch := first | assumption | omega | decide) only [pis_i, pis_l, pis_r, pis_n, p1_i, p1_r, p1_n, p1_u, pw0, pw1, pw2, pw3, pw4, pK_v, pK_0, pK_ite, if_true, if_false, if_pos, if_neg, Nat.reduceAdd, pok_r, i10, i01, Bool.true_or, Bool.or_true, Bool.and_true, Bool.true_and, Nat.add_sub_cancel, i1p1, i1p0, i0p1, i0p0, nIrem2, va_rf_s, bit1, bit0, pinT, pinLT, pin0, nIc, nIcL, nIlt, nIeq, nIltL, nILlt, nIeqL, nILeq, nIadL, nILad, nILmu, nI_add, nIsbL, nI_sub', decide_true, decide_false, Bool.false_or, Bool.or_false, rL_law_548, rL_law_548n, rL_law_549, rL_law_549n, rL_law_550, rL_law_552, rL_law_553, rL_law_554, rL_law_555, rL_law_555n, rL_law_556, rL_law_558, rL_law_559, rL_law_560, rL_law_561, rL_law_564, rL_law_564n, rL_law_565, rL_law_565n, rL_law_566, rL_law_568, rL_law_569, rL_law_570, rL_law_571, rL_law_571n, rL_law_572, rL_law_574, rL_law_575, rL_law_576, rL_law_577, rL_law_580, u0, u9, uc, v0, v9, vc, px, hp, hx, hm]
theorem c_rest (F : Full b L xs base X S H) (R : Rel base X S H w) (hL : L ≤ 448) (hi : i + 7 ≤ L) (h5 : p1 q5 = true) (h6 : p1 q6 = true) : Nx b L xs base 585 i q5 q6 H := by
  obtain ⟨r, H1, H2, hx, hm, hs, hp, hG, g1, g2⟩ := s_rest F R (xs (i + 1)) (xs (i + 2))
  obtain ⟨u0, u9, uc⟩ := scr_f F.s
  obtain ⟨v0, v9, vc⟩ := scr_f hs
  have px := F.px
  refine ⟨H2, q5, q6, h5, h6, ?_, hG, g1, g2⟩
  rw [show (2048 : Nat) = 2047 + 1 from rfl]
  simp (disch := first | assumption | omega | decide) only [pis_i, pis_l, pis_r, pis_n, p1_i, p1_r, p1_n, p1_u, pw0, pw1, pw2, pw3, pw4, pK_v, pK_0, pK_ite, if_true, if_false, if_pos, if_neg, Nat.reduceAdd, pok_r, i10, i01, Bool.true_or, Bool.or_true, Bool.and_true, Bool.true_and, Nat.add_sub_cancel, i1p1, i1p0, i0p1, i0p0, nIrem2, va_rf_s, bit1, bit0, pinT, pinLT, pin0, nIc, nIcL, nIlt, nIeq, nIltL, nILlt, nIeqL, nILeq, nIadL, nILad, nILmu, nI_add, nIsbL, nI_sub', decide_true, decide_false, Bool.false_or, Bool.or_false, rL_law_585, rL_law_585n, rL_law_586, rL_law_586n, rL_law_587, rL_law_589, rL_law_590, rL_law_591, rL_law_592, rL_law_592n, rL_law_593, rL_law_595, rL_law_596, rL_law_597, rL_law_598, rL_law_601, rL_law_601n, rL_law_602, rL_law_602n, rL_law_603, rL_law_605, rL_law_606, rL_law_607, rL_law_608, rL_law_608n, rL_law_609, rL_law_611, rL_law_612, rL_law_613, rL_law_614, rL_law_617, u0, u9, uc, v0, v9, vc, px, hp, hx, hm]
theorem c_hands (F : Full b L xs base X S H) (R : Rel base X S H w) (hL : L ≤ 448) (hi : i + 7 ≤ L) (h5 : p1 q5 = true) (h6 : p1 q6 = true) : Nx b L xs base 622 i q5 q6 H := by
  obtain ⟨r, H1, H2, hx, hm, hs, hp, hG, g1, g2⟩ := s_hands F R (xs (i + 1))
  obtain ⟨u0, u9, uc⟩ := scr_f F.s
  obtain ⟨v0, v9, vc⟩ := scr_f hs
  have px := F.px
  refine ⟨H2, q5, q6, h5, h6, ?_, hG, g1, g2⟩
  rw [show (2048 : Nat) = 2047 + 1 from rfl]
  simp (disch := first | assumption | omega | decide) only [pis_i, pis_l, pis_r, pis_n, p1_i, p1_r, p1_n, p1_u, pw0, pw1, pw2, pw3, pw4, pK_v, pK_0, pK_ite, if_true, if_false, if_pos, if_neg, Nat.reduceAdd, pok_r, i10, i01, Bool.true_or, Bool.or_true, Bool.and_true, Bool.true_and, Nat.add_sub_cancel, i1p1, i1p0, i0p1, i0p0, nIrem2, va_rf_s, bit1, bit0, pinT, pinLT, pin0, nIc, nIcL, nIlt, nIeq, nIltL, nILlt, nIeqL, nILeq, nIadL, nILad, nILmu, nI_add, nIsbL, nI_sub', decide_true, decide_false, Bool.false_or, Bool.or_false, rL_law_622, rL_law_622n, rL_law_623, rL_law_623n, rL_law_624, rL_law_626, rL_law_627, rL_law_628, rL_law_629, rL_law_632, rL_law_632n, rL_law_633, rL_law_633n, rL_law_634, rL_law_636, rL_law_637, rL_law_638, rL_law_639, rL_law_642, u0, u9, uc, v0, v9, vc, px, hp, hx, hm]
theorem c_holds (F : Full b L xs base X S H) (R : Rel base X S H w) (hL : L ≤ 448) (hi : i + 7 ≤ L) (h5 : p1 q5 = true) (h6 : p1 q6 = true) : Nx b L xs base 647 i q5 q6 H := by
  obtain ⟨r, H1, H2, hx, hm, hs, hp, hG, g1, g2⟩ := s_holds F R (xs (i + 1)) (xs (i + 2))
  obtain ⟨u0, u9, uc⟩ := scr_f F.s
  obtain ⟨v0, v9, vc⟩ := scr_f hs
  have px := F.px
  refine ⟨H2, q5, q6, h5, h6, ?_, hG, g1, g2⟩
  rw [show (2048 : Nat) = 2047 + 1 from rfl]
  simp (disch := first | assumption | omega | decide) only [pis_i, pis_l, pis_r, pis_n, p1_i, p1_r, p1_n, p1_u, pw0, pw1, pw2, pw3, pw4, pK_v, pK_0, pK_ite, if_true, if_false, if_pos, if_neg, Nat.reduceAdd, pok_r, i10, i01, Bool.true_or, Bool.or_true, Bool.and_true, Bool.true_and, Nat.add_sub_cancel, i1p1, i1p0, i0p1, i0p0, nIrem2, va_rf_s, bit1, bit0, pinT, pinLT, pin0, nIc, nIcL, nIlt, nIeq, nIltL, nILlt, nIeqL, nILeq, nIadL, nILad, nILmu, nI_add, nIsbL, nI_sub', decide_true, decide_false, Bool.false_or, Bool.or_false, rL_law_647, rL_law_647n, rL_law_648, rL_law_648n, rL_law_649, rL_law_651, rL_law_652, rL_law_653, rL_law_654, rL_law_654n, rL_law_655, rL_law_657, rL_law_658, rL_law_659, rL_law_660, rL_law_663, rL_law_663n, rL_law_664, rL_law_664n, rL_law_665, rL_law_667, rL_law_668, rL_law_669, rL_law_670, rL_law_670n, rL_law_671, rL_law_673, rL_law_674, rL_law_675, rL_law_676, rL_law_679, u0, u9, uc, v0, v9, vc, px, hp, hx, hm]
theorem c_plain (F : Full b L xs base X S H) (R : Rel base X S H w) (hL : L ≤ 448) (hi : i + 7 ≤ L) (h5 : p1 q5 = true) (h6 : p1 q6 = true) : Nx b L xs base 684 i q5 q6 H := by
  obtain ⟨r, H1, H2, hx, hm, hs, hp, hG, g1, g2⟩ := s_plain F R (xs (i + 1))
  obtain ⟨u0, u9, uc⟩ := scr_f F.s
  obtain ⟨v0, v9, vc⟩ := scr_f hs
  have px := F.px
  refine ⟨H2, q5, q6, h5, h6, ?_, hG, g1, g2⟩
  rw [show (2048 : Nat) = 2047 + 1 from rfl]
  simp (disch := first | assumption | omega | decide) only [pis_i, pis_l, pis_r, pis_n, p1_i, p1_r, p1_n, p1_u, pw0, pw1, pw2, pw3, pw4, pK_v, pK_0, pK_ite, if_true, if_false, if_pos, if_neg, Nat.reduceAdd, pok_r, i10, i01, Bool.true_or, Bool.or_true, Bool.and_true, Bool.true_and, Nat.add_sub_cancel, i1p1, i1p0, i0p1, i0p0, nIrem2, va_rf_s, bit1, bit0, pinT, pinLT, pin0, nIc, nIcL, nIlt, nIeq, nIltL, nILlt, nIeqL, nILeq, nIadL, nILad, nILmu, nI_add, nIsbL, nI_sub', decide_true, decide_false, Bool.false_or, Bool.or_false, rL_law_684, rL_law_684n, rL_law_685, rL_law_685n, rL_law_686, rL_law_688, rL_law_689, rL_law_690, rL_law_691, rL_law_694, rL_law_694n, rL_law_695, rL_law_695n, rL_law_696, rL_law_698, rL_law_699, rL_law_700, rL_law_701, rL_law_704, u0, u9, uc, v0, v9, vc, px, hp, hx, hm]
theorem c_pop (F : Full b L xs base X S H) (R : Rel base X S H w) (hL : L ≤ 448) (hi : i + 7 ≤ L) (h5 : p1 q5 = true) (h6 : p1 q6 = true) : Nx b L xs base 709 i q5 q6 H := by
  obtain ⟨r, H1, H2, hx, hm, hs, hp, hG, g1, g2⟩ := s_pop F R (xs (i + 1)) (xs (i + 2)) (xs (i + 3))
  obtain ⟨u0, u9, uc⟩ := scr_f F.s
  obtain ⟨v0, v9, vc⟩ := scr_f hs
  have px := F.px
  refine ⟨H2, q5, q6, h5, h6, ?_, hG, g1, g2⟩
  rw [show (2048 : Nat) = 2047 + 1 from rfl]
  simp (disch := first | assumption | omega | decide) only [pis_i, pis_l, pis_r, pis_n, p1_i, p1_r, p1_n, p1_u, pw0, pw1, pw2, pw3, pw4, pK_v, pK_0, pK_ite, if_true, if_false, if_pos, if_neg, Nat.reduceAdd, pok_r, i10, i01, Bool.true_or, Bool.or_true, Bool.and_true, Bool.true_and, Nat.add_sub_cancel, i1p1, i1p0, i0p1, i0p0, nIrem2, va_rf_s, bit1, bit0, pinT, pinLT, pin0, nIc, nIcL, nIlt, nIeq, nIltL, nILlt, nIeqL, nILeq, nIadL, nILad, nILmu, nI_add, nIsbL, nI_sub', decide_true, decide_false, Bool.false_or, Bool.or_false, rL_law_709, rL_law_709n, rL_law_710, rL_law_710n, rL_law_711, rL_law_713, rL_law_714, rL_law_715, rL_law_716, rL_law_716n, rL_law_717, rL_law_719, rL_law_720, rL_law_721, rL_law_722, rL_law_722n, rL_law_723, rL_law_725, rL_law_726, rL_law_727, rL_law_728, rL_law_731, rL_law_731n, rL_law_732, rL_law_732n, rL_law_733, rL_law_735, rL_law_736, rL_law_737, rL_law_738, rL_law_738n, rL_law_739, rL_law_741, rL_law_742, rL_law_743, rL_law_744, rL_law_744n, rL_law_745, rL_law_747, rL_law_748, rL_law_749, rL_law_750, rL_law_753, u0, u9, uc, v0, v9, vc, px, hp, hx, hm]
theorem c_weakest (F : Full b L xs base X S H) (R : Rel base X S H w) (hL : L ≤ 448) (hi : i + 7 ≤ L) (h5 : p1 q5 = true) (h6 : p1 q6 = true) : Nx b L xs base 758 i q5 q6 H := by
  obtain ⟨r, H1, H2, hx, hm, hs, hp, hG, g1, g2⟩ := s_weakest F R (xs (i + 1))
  obtain ⟨u0, u9, uc⟩ := scr_f F.s
  obtain ⟨v0, v9, vc⟩ := scr_f hs
  have px := F.px
  refine ⟨H2, q5, q6, h5, h6, ?_, hG, g1, g2⟩
  rw [show (2048 : Nat) = 2047 + 1 from rfl]
  simp (disch := first | assumption | omega | decide) only [pis_i, pis_l, pis_r, pis_n, p1_i, p1_r, p1_n, p1_u, pw0, pw1, pw2, pw3, pw4, pK_v, pK_0, pK_ite, if_true, if_false, if_pos, if_neg, Nat.reduceAdd, pok_r, i10, i01, Bool.true_or, Bool.or_true, Bool.and_true, Bool.true_and, Nat.add_sub_cancel, i1p1, i1p0, i0p1, i0p0, nIrem2, va_rf_s, bit1, bit0, pinT, pinLT, pin0, nIc, nIcL, nIlt, nIeq, nIltL, nILlt, nIeqL, nILeq, nIadL, nILad, nILmu, nI_add, nIsbL, nI_sub', decide_true, decide_false, Bool.false_or, Bool.or_false, rL_law_758, rL_law_758n, rL_law_759, rL_law_759n, rL_law_760, rL_law_762, rL_law_763, rL_law_764, rL_law_765, rL_law_768, rL_law_768n, rL_law_769, rL_law_769n, rL_law_770, rL_law_772, rL_law_773, rL_law_774, rL_law_775, rL_law_778, u0, u9, uc, v0, v9, vc, px, hp, hx, hm]
theorem c_add (F : Full b L xs base X S H) (R : Rel base X S H w) (hL : L ≤ 448) (hi : i + 7 ≤ L) (h5 : p1 q5 = true) (h6 : p1 q6 = true) : Nx b L xs base 783 i q5 q6 H := by
  obtain ⟨r, H1, H2, hx, hm, hs, hp, hG, g1, g2⟩ := s_add F R (xs (i + 1)) (xs (i + 2)) (xs (i + 3)) (xs (i + 4))
  obtain ⟨u0, u9, uc⟩ := scr_f F.s
  obtain ⟨v0, v9, vc⟩ := scr_f hs
  have px := F.px
  refine ⟨H2, q5, q6, h5, h6, ?_, hG, g1, g2⟩
  rw [show (2048 : Nat) = 2047 + 1 from rfl]
  simp (disch := first | assumption | omega | decide) only [pis_i, pis_l, pis_r, pis_n, p1_i, p1_r, p1_n, p1_u, pw0, pw1, pw2, pw3, pw4, pK_v, pK_0, pK_ite, if_true, if_false, if_pos, if_neg, Nat.reduceAdd, pok_r, i10, i01, Bool.true_or, Bool.or_true, Bool.and_true, Bool.true_and, Nat.add_sub_cancel, i1p1, i1p0, i0p1, i0p0, nIrem2, va_rf_s, bit1, bit0, pinT, pinLT, pin0, nIc, nIcL, nIlt, nIeq, nIltL, nILlt, nIeqL, nILeq, nIadL, nILad, nILmu, nI_add, nIsbL, nI_sub', decide_true, decide_false, Bool.false_or, Bool.or_false, rL_law_783, rL_law_783n, rL_law_784, rL_law_784n, rL_law_785, rL_law_787, rL_law_788, rL_law_789, rL_law_790, rL_law_790n, rL_law_791, rL_law_793, rL_law_794, rL_law_795, rL_law_796, rL_law_796n, rL_law_797, rL_law_799, rL_law_800, rL_law_801, rL_law_802, rL_law_802n, rL_law_803, rL_law_805, rL_law_806, rL_law_807, rL_law_808, rL_law_811, rL_law_811n, rL_law_812, rL_law_812n, rL_law_813, rL_law_815, rL_law_816, rL_law_817, rL_law_818, rL_law_818n, rL_law_819, rL_law_821, rL_law_822, rL_law_823, rL_law_824, rL_law_824n, rL_law_825, rL_law_827, rL_law_828, rL_law_829, rL_law_830, rL_law_830n, rL_law_831, rL_law_833, rL_law_834, rL_law_835, rL_law_836, rL_law_839, u0, u9, uc, v0, v9, vc, px, hp, hx, hm]
theorem c_alike (F : Full b L xs base X S H) (R : Rel base X S H w) (hL : L ≤ 448) (hi : i + 7 ≤ L) (h5 : p1 q5 = true) (h6 : p1 q6 = true) : Nx b L xs base 844 i q5 q6 H := by
  obtain ⟨r, H1, H2, hx, hm, hs, hp, hG, g1, g2⟩ := s_alike F R (xs (i + 1)) (xs (i + 2))
  obtain ⟨u0, u9, uc⟩ := scr_f F.s
  obtain ⟨v0, v9, vc⟩ := scr_f hs
  have px := F.px
  refine ⟨H2, q5, q6, h5, h6, ?_, hG, g1, g2⟩
  rw [show (2048 : Nat) = 2047 + 1 from rfl]
  simp (disch := first | assumption | omega | decide) only [pis_i, pis_l, pis_r, pis_n, p1_i, p1_r, p1_n, p1_u, pw0, pw1, pw2, pw3, pw4, pK_v, pK_0, pK_ite, if_true, if_false, if_pos, if_neg, Nat.reduceAdd, pok_r, i10, i01, Bool.true_or, Bool.or_true, Bool.and_true, Bool.true_and, Nat.add_sub_cancel, i1p1, i1p0, i0p1, i0p0, nIrem2, va_rf_s, bit1, bit0, pinT, pinLT, pin0, nIc, nIcL, nIlt, nIeq, nIltL, nILlt, nIeqL, nILeq, nIadL, nILad, nILmu, nI_add, nIsbL, nI_sub', decide_true, decide_false, Bool.false_or, Bool.or_false, rL_law_844, rL_law_844n, rL_law_845, rL_law_845n, rL_law_846, rL_law_848, rL_law_849, rL_law_850, rL_law_851, rL_law_851n, rL_law_852, rL_law_854, rL_law_855, rL_law_856, rL_law_857, rL_law_860, rL_law_860n, rL_law_861, rL_law_861n, rL_law_862, rL_law_864, rL_law_865, rL_law_866, rL_law_867, rL_law_867n, rL_law_868, rL_law_870, rL_law_871, rL_law_872, rL_law_873, rL_law_876, u0, u9, uc, v0, v9, vc, px, hp, hx, hm]
theorem c_match (F : Full b L xs base X S H) (R : Rel base X S H w) (hL : L ≤ 448) (hi : i + 7 ≤ L) (h5 : p1 q5 = true) (h6 : p1 q6 = true) : Nx b L xs base 881 i q5 q6 H := by
  obtain ⟨r, H1, H2, hx, hm, hs, hp, hG, g1, g2⟩ := s_match F R (xs (i + 1)) (xs (i + 2)) (xs (i + 3))
  obtain ⟨u0, u9, uc⟩ := scr_f F.s
  obtain ⟨v0, v9, vc⟩ := scr_f hs
  have px := F.px
  refine ⟨H2, q5, q6, h5, h6, ?_, hG, g1, g2⟩
  rw [show (2048 : Nat) = 2047 + 1 from rfl]
  simp (disch := first | assumption | omega | decide) only [pis_i, pis_l, pis_r, pis_n, p1_i, p1_r, p1_n, p1_u, pw0, pw1, pw2, pw3, pw4, pK_v, pK_0, pK_ite, if_true, if_false, if_pos, if_neg, Nat.reduceAdd, pok_r, i10, i01, Bool.true_or, Bool.or_true, Bool.and_true, Bool.true_and, Nat.add_sub_cancel, i1p1, i1p0, i0p1, i0p0, nIrem2, va_rf_s, bit1, bit0, pinT, pinLT, pin0, nIc, nIcL, nIlt, nIeq, nIltL, nILlt, nIeqL, nILeq, nIadL, nILad, nILmu, nI_add, nIsbL, nI_sub', decide_true, decide_false, Bool.false_or, Bool.or_false, rL_law_881, rL_law_881n, rL_law_882, rL_law_882n, rL_law_883, rL_law_885, rL_law_886, rL_law_887, rL_law_888, rL_law_888n, rL_law_889, rL_law_891, rL_law_892, rL_law_893, rL_law_894, rL_law_894n, rL_law_895, rL_law_897, rL_law_898, rL_law_899, rL_law_900, rL_law_903, rL_law_903n, rL_law_904, rL_law_904n, rL_law_905, rL_law_907, rL_law_908, rL_law_909, rL_law_910, rL_law_910n, rL_law_911, rL_law_913, rL_law_914, rL_law_915, rL_law_916, rL_law_916n, rL_law_917, rL_law_919, rL_law_920, rL_law_921, rL_law_922, rL_law_925, u0, u9, uc, v0, v9, vc, px, hp, hx, hm]
theorem c_far (F : Full b L xs base X S H) (R : Rel base X S H w) (hL : L ≤ 448) (hi : i + 7 ≤ L) (h5 : p1 q5 = true) (h6 : p1 q6 = true) : Nx b L xs base 930 i q5 q6 H := by
  obtain ⟨r, H1, H2, hx, hm, hs, hp, hG, g1, g2⟩ := s_far F R (xs (i + 1)) (xs (i + 2)) (xs (i + 3))
  obtain ⟨u0, u9, uc⟩ := scr_f F.s
  obtain ⟨v0, v9, vc⟩ := scr_f hs
  have px := F.px
  refine ⟨H2, q5, q6, h5, h6, ?_, hG, g1, g2⟩
  rw [show (2048 : Nat) = 2047 + 1 from rfl]
  simp (disch := first | assumption | omega | decide) only [pis_i, pis_l, pis_r, pis_n, p1_i, p1_r, p1_n, p1_u, pw0, pw1, pw2, pw3, pw4, pK_v, pK_0, pK_ite, if_true, if_false, if_pos, if_neg, Nat.reduceAdd, pok_r, i10, i01, Bool.true_or, Bool.or_true, Bool.and_true, Bool.true_and, Nat.add_sub_cancel, i1p1, i1p0, i0p1, i0p0, nIrem2, va_rf_s, bit1, bit0, pinT, pinLT, pin0, nIc, nIcL, nIlt, nIeq, nIltL, nILlt, nIeqL, nILeq, nIadL, nILad, nILmu, nI_add, nIsbL, nI_sub', decide_true, decide_false, Bool.false_or, Bool.or_false, rL_law_930, rL_law_930n, rL_law_931, rL_law_931n, rL_law_932, rL_law_934, rL_law_935, rL_law_936, rL_law_937, rL_law_937n, rL_law_938, rL_law_940, rL_law_941, rL_law_942, rL_law_943, rL_law_943n, rL_law_944, rL_law_946, rL_law_947, rL_law_948, rL_law_949, rL_law_952, rL_law_952n, rL_law_953, rL_law_953n, rL_law_954, rL_law_956, rL_law_957, rL_law_958, rL_law_959, rL_law_959n, rL_law_960, rL_law_962, rL_law_963, rL_law_964, rL_law_965, rL_law_965n, rL_law_966, rL_law_968, rL_law_969, rL_law_970, rL_law_971, rL_law_974, u0, u9, uc, v0, v9, vc, px, hp, hx, hm]
theorem c_span (F : Full b L xs base X S H) (R : Rel base X S H w) (hL : L ≤ 448) (hi : i + 7 ≤ L) (h5 : p1 q5 = true) (h6 : p1 q6 = true) : Nx b L xs base 979 i q5 q6 H := by
  obtain ⟨r, H1, H2, hx, hm, hs, hp, hG, g1, g2⟩ := s_span F R (xs (i + 1))
  obtain ⟨u0, u9, uc⟩ := scr_f F.s
  obtain ⟨v0, v9, vc⟩ := scr_f hs
  have px := F.px
  refine ⟨H2, q5, q6, h5, h6, ?_, hG, g1, g2⟩
  rw [show (2048 : Nat) = 2047 + 1 from rfl]
  simp (disch := first | assumption | omega | decide) only [pis_i, pis_l, pis_r, pis_n, p1_i, p1_r, p1_n, p1_u, pw0, pw1, pw2, pw3, pw4, pK_v, pK_0, pK_ite, if_true, if_false, if_pos, if_neg, Nat.reduceAdd, pok_r, i10, i01, Bool.true_or, Bool.or_true, Bool.and_true, Bool.true_and, Nat.add_sub_cancel, i1p1, i1p0, i0p1, i0p0, nIrem2, va_rf_s, bit1, bit0, pinT, pinLT, pin0, nIc, nIcL, nIlt, nIeq, nIltL, nILlt, nIeqL, nILeq, nIadL, nILad, nILmu, nI_add, nIsbL, nI_sub', decide_true, decide_false, Bool.false_or, Bool.or_false, rL_law_979, rL_law_979n, rL_law_980, rL_law_980n, rL_law_981, rL_law_983, rL_law_984, rL_law_985, rL_law_986, rL_law_989, rL_law_989n, rL_law_990, rL_law_990n, rL_law_991, rL_law_993, rL_law_994, rL_law_995, rL_law_996, rL_law_999, u0, u9, uc, v0, v9, vc, px, hp, hx, hm]
theorem c_strokes (F : Full b L xs base X S H) (R : Rel base X S H w) (hL : L ≤ 448) (hi : i + 7 ≤ L) (h5 : p1 q5 = true) (h6 : p1 q6 = true) : Nx b L xs base 1004 i q5 q6 H := by
  obtain ⟨r, H1, H2, hx, hm, hs, hp, hG, g1, g2⟩ := s_strokes F R (xs (i + 1))
  obtain ⟨u0, u9, uc⟩ := scr_f F.s
  obtain ⟨v0, v9, vc⟩ := scr_f hs
  have px := F.px
  refine ⟨H2, q5, q6, h5, h6, ?_, hG, g1, g2⟩
  rw [show (2048 : Nat) = 2047 + 1 from rfl]
  simp (disch := first | assumption | omega | decide) only [pis_i, pis_l, pis_r, pis_n, p1_i, p1_r, p1_n, p1_u, pw0, pw1, pw2, pw3, pw4, pK_v, pK_0, pK_ite, if_true, if_false, if_pos, if_neg, Nat.reduceAdd, pok_r, i10, i01, Bool.true_or, Bool.or_true, Bool.and_true, Bool.true_and, Nat.add_sub_cancel, i1p1, i1p0, i0p1, i0p0, nIrem2, va_rf_s, bit1, bit0, pinT, pinLT, pin0, nIc, nIcL, nIlt, nIeq, nIltL, nILlt, nIeqL, nILeq, nIadL, nILad, nILmu, nI_add, nIsbL, nI_sub', decide_true, decide_false, Bool.false_or, Bool.or_false, rL_law_1004, rL_law_1004n, rL_law_1005, rL_law_1005n, rL_law_1006, rL_law_1008, rL_law_1009, rL_law_1010, rL_law_1011, rL_law_1014, rL_law_1014n, rL_law_1015, rL_law_1015n, rL_law_1016, rL_law_1018, rL_law_1019, rL_law_1020, rL_law_1021, rL_law_1024, u0, u9, uc, v0, v9, vc, px, hp, hx, hm]
theorem c_made (F : Full b L xs base X S H) (R : Rel base X S H w) (hL : L ≤ 448) (hi : i + 7 ≤ L) (h5 : p1 q5 = true) (h6 : p1 q6 = true) : Nx b L xs base 1029 i q5 q6 H := by
  obtain ⟨r, H1, H2, hx, hm, hs, hp, hG, g1, g2⟩ := s_made F R (xs (i + 1)) (xs (i + 2))
  obtain ⟨u0, u9, uc⟩ := scr_f F.s
  obtain ⟨v0, v9, vc⟩ := scr_f hs
  have px := F.px
  refine ⟨H2, q5, q6, h5, h6, ?_, hG, g1, g2⟩
  rw [show (2048 : Nat) = 2047 + 1 from rfl]
  simp (disch := first | assumption | omega | decide) only [pis_i, pis_l, pis_r, pis_n, p1_i, p1_r, p1_n, p1_u, pw0, pw1, pw2, pw3, pw4, pK_v, pK_0, pK_ite, if_true, if_false, if_pos, if_neg, Nat.reduceAdd, pok_r, i10, i01, Bool.true_or, Bool.or_true, Bool.and_true, Bool.true_and, Nat.add_sub_cancel, i1p1, i1p0, i0p1, i0p0, nIrem2, va_rf_s, bit1, bit0, pinT, pinLT, pin0, nIc, nIcL, nIlt, nIeq, nIltL, nILlt, nIeqL, nILeq, nIadL, nILad, nILmu, nI_add, nIsbL, nI_sub', decide_true, decide_false, Bool.false_or, Bool.or_false, rL_law_1029, rL_law_1029n, rL_law_1030, rL_law_1030n, rL_law_1031, rL_law_1033, rL_law_1034, rL_law_1035, rL_law_1036, rL_law_1036n, rL_law_1037, rL_law_1039, rL_law_1040, rL_law_1041, rL_law_1042, rL_law_1045, rL_law_1045n, rL_law_1046, rL_law_1046n, rL_law_1047, rL_law_1049, rL_law_1050, rL_law_1051, rL_law_1052, rL_law_1052n, rL_law_1053, rL_law_1055, rL_law_1056, rL_law_1057, rL_law_1058, rL_law_1061, u0, u9, uc, v0, v9, vc, px, hp, hx, hm]
theorem c_set (F : Full b L xs base X S H) (R : Rel base X S H w) (hL : L ≤ 448) (hi : i + 7 ≤ L) (h5 : p1 q5 = true) (h6 : p1 q6 = true) : Nx b L xs base 1066 i q5 q6 H := by
  obtain ⟨r, H1, H2, hx, hm, hs, hp, hG, g1, g2⟩ := s_set F R (xs (i + 1)) (xs (i + 2)) (xs (i + 3))
  obtain ⟨u0, u9, uc⟩ := scr_f F.s
  obtain ⟨v0, v9, vc⟩ := scr_f hs
  have px := F.px
  refine ⟨H2, q5, q6, h5, h6, ?_, hG, g1, g2⟩
  rw [show (2048 : Nat) = 2047 + 1 from rfl]
  simp (disch := first | assumption | omega | decide) only [pis_i, pis_l, pis_r, pis_n, p1_i, p1_r, p1_n, p1_u, pw0, pw1, pw2, pw3, pw4, pK_v, pK_0, pK_ite, if_true, if_false, if_pos, if_neg, Nat.reduceAdd, pok_r, i10, i01, Bool.true_or, Bool.or_true, Bool.and_true, Bool.true_and, Nat.add_sub_cancel, i1p1, i1p0, i0p1, i0p0, nIrem2, va_rf_s, bit1, bit0, pinT, pinLT, pin0, nIc, nIcL, nIlt, nIeq, nIltL, nILlt, nIeqL, nILeq, nIadL, nILad, nILmu, nI_add, nIsbL, nI_sub', decide_true, decide_false, Bool.false_or, Bool.or_false, rL_law_1066, rL_law_1066n, rL_law_1067, rL_law_1067n, rL_law_1068, rL_law_1070, rL_law_1071, rL_law_1072, rL_law_1073, rL_law_1073n, rL_law_1074, rL_law_1076, rL_law_1077, rL_law_1078, rL_law_1079, rL_law_1079n, rL_law_1080, rL_law_1082, rL_law_1083, rL_law_1084, rL_law_1085, rL_law_1088, rL_law_1088n, rL_law_1089, rL_law_1089n, rL_law_1090, rL_law_1092, rL_law_1093, rL_law_1094, rL_law_1095, rL_law_1095n, rL_law_1096, rL_law_1098, rL_law_1099, rL_law_1100, rL_law_1101, rL_law_1101n, rL_law_1102, rL_law_1104, rL_law_1105, rL_law_1106, rL_law_1107, rL_law_1110, u0, u9, uc, v0, v9, vc, px, hp, hx, hm]
theorem c_twice (F : Full b L xs base X S H) (R : Rel base X S H w) (hL : L ≤ 448) (hi : i + 7 ≤ L) (h5 : p1 q5 = true) (h6 : p1 q6 = true) : Nx b L xs base 1115 i q5 q6 H := by
  obtain ⟨r, H1, H2, hx, hm, hs, hp, hG, g1, g2⟩ := s_twice F R (xs (i + 1))
  obtain ⟨u0, u9, uc⟩ := scr_f F.s
  obtain ⟨v0, v9, vc⟩ := scr_f hs
  have px := F.px
  refine ⟨H2, q5, q6, h5, h6, ?_, hG, g1, g2⟩
  rw [show (2048 : Nat) = 2047 + 1 from rfl]
  simp (disch := first | assumption | omega | decide) only [pis_i, pis_l, pis_r, pis_n, p1_i, p1_r, p1_n, p1_u, pw0, pw1, pw2, pw3, pw4, pK_v, pK_0, pK_ite, if_true, if_false, if_pos, if_neg, Nat.reduceAdd, pok_r, i10, i01, Bool.true_or, Bool.or_true, Bool.and_true, Bool.true_and, Nat.add_sub_cancel, i1p1, i1p0, i0p1, i0p0, nIrem2, va_rf_s, bit1, bit0, pinT, pinLT, pin0, nIc, nIcL, nIlt, nIeq, nIltL, nILlt, nIeqL, nILeq, nIadL, nILad, nILmu, nI_add, nIsbL, nI_sub', decide_true, decide_false, Bool.false_or, Bool.or_false, rL_law_1115, rL_law_1115n, rL_law_1116, rL_law_1116n, rL_law_1117, rL_law_1119, rL_law_1120, rL_law_1121, rL_law_1122, rL_law_1125, rL_law_1125n, rL_law_1126, rL_law_1126n, rL_law_1127, rL_law_1129, rL_law_1130, rL_law_1131, rL_law_1132, rL_law_1135, u0, u9, uc, v0, v9, vc, px, hp, hx, hm]
theorem c_stock (F : Full b L xs base X S H) (R : Rel base X S H w) (hL : L ≤ 448) (hi : i + 7 ≤ L) (h5 : p1 q5 = true) (h6 : p1 q6 = true) : Nx b L xs base 1140 i q5 q6 H := by
  obtain ⟨r, H1, H2, hx, hm, hs, hp, hG, g1, g2⟩ := s_stock F R (xs (i + 1)) (xs (i + 2))
  obtain ⟨u0, u9, uc⟩ := scr_f F.s
  obtain ⟨v0, v9, vc⟩ := scr_f hs
  have px := F.px
  refine ⟨H2, q5, q6, h5, h6, ?_, hG, g1, g2⟩
  rw [show (2048 : Nat) = 2047 + 1 from rfl]
  simp (disch := first | assumption | omega | decide) only [pis_i, pis_l, pis_r, pis_n, p1_i, p1_r, p1_n, p1_u, pw0, pw1, pw2, pw3, pw4, pK_v, pK_0, pK_ite, if_true, if_false, if_pos, if_neg, Nat.reduceAdd, pok_r, i10, i01, Bool.true_or, Bool.or_true, Bool.and_true, Bool.true_and, Nat.add_sub_cancel, i1p1, i1p0, i0p1, i0p0, nIrem2, va_rf_s, bit1, bit0, pinT, pinLT, pin0, nIc, nIcL, nIlt, nIeq, nIltL, nILlt, nIeqL, nILeq, nIadL, nILad, nILmu, nI_add, nIsbL, nI_sub', decide_true, decide_false, Bool.false_or, Bool.or_false, rL_law_1140, rL_law_1140n, rL_law_1141, rL_law_1141n, rL_law_1142, rL_law_1144, rL_law_1145, rL_law_1146, rL_law_1147, rL_law_1147n, rL_law_1148, rL_law_1150, rL_law_1151, rL_law_1152, rL_law_1153, rL_law_1156, rL_law_1156n, rL_law_1157, rL_law_1157n, rL_law_1158, rL_law_1160, rL_law_1161, rL_law_1162, rL_law_1163, rL_law_1163n, rL_law_1164, rL_law_1166, rL_law_1167, rL_law_1168, rL_law_1169, rL_law_1172, u0, u9, uc, v0, v9, vc, px, hp, hx, hm]
theorem c_pace (F : Full b L xs base X S H) (R : Rel base X S H w) (hL : L ≤ 448) (hi : i + 7 ≤ L) (h5 : p1 q5 = true) (h6 : p1 q6 = true) : Nx b L xs base 1177 i q5 q6 H := by
  obtain ⟨r, H1, H2, hx, hm, hs, hp, hG, g1, g2⟩ := s_pace F R (xs (i + 1)) (xs (i + 2))
  obtain ⟨u0, u9, uc⟩ := scr_f F.s
  obtain ⟨v0, v9, vc⟩ := scr_f hs
  have px := F.px
  refine ⟨H2, q5, q6, h5, h6, ?_, hG, g1, g2⟩
  rw [show (2048 : Nat) = 2047 + 1 from rfl]
  simp (disch := first | assumption | omega | decide) only [pis_i, pis_l, pis_r, pis_n, p1_i, p1_r, p1_n, p1_u, pw0, pw1, pw2, pw3, pw4, pK_v, pK_0, pK_ite, if_true, if_false, if_pos, if_neg, Nat.reduceAdd, pok_r, i10, i01, Bool.true_or, Bool.or_true, Bool.and_true, Bool.true_and, Nat.add_sub_cancel, i1p1, i1p0, i0p1, i0p0, nIrem2, va_rf_s, bit1, bit0, pinT, pinLT, pin0, nIc, nIcL, nIlt, nIeq, nIltL, nILlt, nIeqL, nILeq, nIadL, nILad, nILmu, nI_add, nIsbL, nI_sub', decide_true, decide_false, Bool.false_or, Bool.or_false, rL_law_1177, rL_law_1177n, rL_law_1178, rL_law_1178n, rL_law_1179, rL_law_1181, rL_law_1182, rL_law_1183, rL_law_1184, rL_law_1184n, rL_law_1185, rL_law_1187, rL_law_1188, rL_law_1189, rL_law_1190, rL_law_1193, rL_law_1193n, rL_law_1194, rL_law_1194n, rL_law_1195, rL_law_1197, rL_law_1198, rL_law_1199, rL_law_1200, rL_law_1200n, rL_law_1201, rL_law_1203, rL_law_1204, rL_law_1205, rL_law_1206, rL_law_1209, u0, u9, uc, v0, v9, vc, px, hp, hx, hm]
theorem c_comes (F : Full b L xs base X S H) (R : Rel base X S H w) (hL : L ≤ 448) (hi : i + 7 ≤ L) (h5 : p1 q5 = true) (h6 : p1 q6 = true) : Nx b L xs base 1214 i q5 q6 H := by
  obtain ⟨r, H1, H2, hx, hm, hs, hp, hG, g1, g2⟩ := s_comes F R (xs (i + 1)) (xs (i + 2)) (xs (i + 3))
  obtain ⟨u0, u9, uc⟩ := scr_f F.s
  obtain ⟨v0, v9, vc⟩ := scr_f hs
  have px := F.px
  refine ⟨H2, q5, q6, h5, h6, ?_, hG, g1, g2⟩
  rw [show (2048 : Nat) = 2047 + 1 from rfl]
  simp (disch := first | assumption | omega | decide) only [pis_i, pis_l, pis_r, pis_n, p1_i, p1_r, p1_n, p1_u, pw0, pw1, pw2, pw3, pw4, pK_v, pK_0, pK_ite, if_true, if_false, if_pos, if_neg, Nat.reduceAdd, pok_r, i10, i01, Bool.true_or, Bool.or_true, Bool.and_true, Bool.true_and, Nat.add_sub_cancel, i1p1, i1p0, i0p1, i0p0, nIrem2, va_rf_s, bit1, bit0, pinT, pinLT, pin0, nIc, nIcL, nIlt, nIeq, nIltL, nILlt, nIeqL, nILeq, nIadL, nILad, nILmu, nI_add, nIsbL, nI_sub', decide_true, decide_false, Bool.false_or, Bool.or_false, rL_law_1214, rL_law_1214n, rL_law_1215, rL_law_1215n, rL_law_1216, rL_law_1218, rL_law_1219, rL_law_1220, rL_law_1221, rL_law_1221n, rL_law_1222, rL_law_1224, rL_law_1225, rL_law_1226, rL_law_1227, rL_law_1227n, rL_law_1228, rL_law_1230, rL_law_1231, rL_law_1232, rL_law_1233, rL_law_1236, rL_law_1236n, rL_law_1237, rL_law_1237n, rL_law_1238, rL_law_1240, rL_law_1241, rL_law_1242, rL_law_1243, rL_law_1243n, rL_law_1244, rL_law_1246, rL_law_1247, rL_law_1248, rL_law_1249, rL_law_1249n, rL_law_1250, rL_law_1252, rL_law_1253, rL_law_1254, rL_law_1255, rL_law_1258, u0, u9, uc, v0, v9, vc, px, hp, hx, hm]
theorem c_close (F : Full b L xs base X S H) (R : Rel base X S H w) (hL : L ≤ 448) (hi : i + 7 ≤ L) (h5 : p1 q5 = true) (h6 : p1 q6 = true) : Nx b L xs base 1263 i q5 q6 H := by
  obtain ⟨r, H1, H2, hx, hm, hs, hp, hG, g1, g2⟩ := s_close F R 
  obtain ⟨u0, u9, uc⟩ := scr_f F.s
  obtain ⟨v0, v9, vc⟩ := scr_f hs
  have px := F.px
  refine ⟨H2, q5, q6, h5, h6, ?_, hG, g1, g2⟩
  rw [show (2048 : Nat) = 2047 + 1 from rfl]
  simp (disch := first | assumption | omega | decide) only [pis_i, pis_l, pis_r, pis_n, p1_i, p1_r, p1_n, p1_u, pw0, pw1, pw2, pw3, pw4, pK_v, pK_0, pK_ite, if_true, if_false, if_pos, if_neg, Nat.reduceAdd, pok_r, i10, i01, Bool.true_or, Bool.or_true, Bool.and_true, Bool.true_and, Nat.add_sub_cancel, i1p1, i1p0, i0p1, i0p0, nIrem2, va_rf_s, bit1, bit0, pinT, pinLT, pin0, nIc, nIcL, nIlt, nIeq, nIltL, nILlt, nIeqL, nILeq, nIadL, nILad, nILmu, nI_add, nIsbL, nI_sub', decide_true, decide_false, Bool.false_or, Bool.or_false, rL_law_1263, rL_law_1263n, rL_law_1264, rL_law_1267, rL_law_1267n, rL_law_1268, rL_law_1271, u0, u9, uc, v0, v9, vc, px, hp, hx, hm]
theorem c_run (F : Full b L xs base X S H) (R : Rel base X S H w) (hL : L ≤ 448) (hi : i + 7 ≤ L) (h5 : p1 q5 = true) (h6 : p1 q6 = true) : Nx b L xs base 1276 i q5 q6 H := by
  obtain ⟨r, H1, H2, hx, hm, hs, hp, hG, g1, g2⟩ := s_run F R ((xs (i + 1)).toInt64 <<< ((32 : Int32).toInt64 &&& 63) ||| ((xs (i + 2)).toInt64 &&& 4294967295))
  obtain ⟨u0, u9, uc⟩ := scr_f F.s
  obtain ⟨v0, v9, vc⟩ := scr_f hs
  have px := F.px
  refine ⟨H2, q5, q6, h5, h6, ?_, hG, g1, g2⟩
  rw [show (2048 : Nat) = 2047 + 1 from rfl]
  simp (disch := first | assumption | omega | decide) only [pis_i, pis_l, pis_r, pis_n, p1_i, p1_r, p1_n, p1_u, pw0, pw1, pw2, pw3, pw4, pK_v, pK_0, pK_ite, if_true, if_false, if_pos, if_neg, Nat.reduceAdd, pok_r, i10, i01, Bool.true_or, Bool.or_true, Bool.and_true, Bool.true_and, Nat.add_sub_cancel, i1p1, i1p0, i0p1, i0p0, nIrem2, va_rf_s, bit1, bit0, pinT, pinLT, pin0, nIc, nIcL, nIlt, nIeq, nIltL, nILlt, nIeqL, nILeq, nIadL, nILad, nILmu, nI_add, nIsbL, nI_sub', decide_true, decide_false, Bool.false_or, Bool.or_false, rL_law_1276, rL_law_1276n, rL_law_1277, rL_law_1277n, rL_law_1278, rL_law_1280, rL_law_1281, rL_law_1282, rL_law_1283, rL_law_1284, rL_law_1286, rL_law_1287, rL_law_1287n, rL_law_1288, rL_law_1290, rL_law_1291, rL_law_1292, rL_law_1293, rL_law_1294, rL_law_1297, rL_law_1298, rL_law_1299, rL_law_1302, rL_law_1302n, rL_law_1303, rL_law_1303n, rL_law_1304, rL_law_1306, rL_law_1307, rL_law_1308, rL_law_1309, rL_law_1310, rL_law_1312, rL_law_1313, rL_law_1313n, rL_law_1314, rL_law_1316, rL_law_1317, rL_law_1318, rL_law_1319, rL_law_1320, rL_law_1323, rL_law_1324, rL_law_1325, rL_law_1328, u0, u9, uc, v0, v9, vc, px, hp, hx, hm]
theorem c_aged (F : Full b L xs base X S H) (R : Rel base X S H w) (hL : L ≤ 448) (hi : i + 7 ≤ L) (h5 : p1 q5 = true) (h6 : p1 q6 = true) : Nx b L xs base 1519 i q5 q6 H := by
  obtain ⟨r, H1, H2, hx, hm, hs, hp, hG, g1, g2⟩ := s_aged F R (xs (i + 1)) (xs (i + 2)) (xs (i + 3)) (xs (i + 4))
  obtain ⟨u0, u9, uc⟩ := scr_f F.s
  obtain ⟨v0, v9, vc⟩ := scr_f hs
  have px := F.px
  refine ⟨H2, q5, q6, h5, h6, ?_, hG, g1, g2⟩
  rw [show (2048 : Nat) = 2047 + 1 from rfl]
  simp (disch := first | assumption | omega | decide) only [pis_i, pis_l, pis_r, pis_n, p1_i, p1_r, p1_n, p1_u, pw0, pw1, pw2, pw3, pw4, pK_v, pK_0, pK_ite, if_true, if_false, if_pos, if_neg, Nat.reduceAdd, pok_r, i10, i01, Bool.true_or, Bool.or_true, Bool.and_true, Bool.true_and, Nat.add_sub_cancel, i1p1, i1p0, i0p1, i0p0, nIrem2, va_rf_s, bit1, bit0, pinT, pinLT, pin0, nIc, nIcL, nIlt, nIeq, nIltL, nILlt, nIeqL, nILeq, nIadL, nILad, nILmu, nI_add, nIsbL, nI_sub', decide_true, decide_false, Bool.false_or, Bool.or_false, rL_law_1519, rL_law_1519n, rL_law_1520, rL_law_1520n, rL_law_1521, rL_law_1523, rL_law_1524, rL_law_1525, rL_law_1526, rL_law_1526n, rL_law_1527, rL_law_1529, rL_law_1530, rL_law_1531, rL_law_1532, rL_law_1532n, rL_law_1533, rL_law_1535, rL_law_1536, rL_law_1537, rL_law_1538, rL_law_1538n, rL_law_1539, rL_law_1541, rL_law_1542, rL_law_1543, rL_law_1544, rL_law_1547, rL_law_1547n, rL_law_1548, rL_law_1548n, rL_law_1549, rL_law_1551, rL_law_1552, rL_law_1553, rL_law_1554, rL_law_1554n, rL_law_1555, rL_law_1557, rL_law_1558, rL_law_1559, rL_law_1560, rL_law_1560n, rL_law_1561, rL_law_1563, rL_law_1564, rL_law_1565, rL_law_1566, rL_law_1566n, rL_law_1567, rL_law_1569, rL_law_1570, rL_law_1571, rL_law_1572, rL_law_1575, u0, u9, uc, v0, v9, vc, px, hp, hx, hm]
theorem c_falls (F : Full b L xs base X S H) (R : Rel base X S H w) (hL : L ≤ 448) (hi : i + 7 ≤ L) (h5 : p1 q5 = true) (h6 : p1 q6 = true) : Nx b L xs base 1580 i q5 q6 H := by
  obtain ⟨r, H1, H2, hx, hm, hs, hp, hG, g1, g2⟩ := s_falls F R (xs (i + 1)) (xs (i + 2)) (xs (i + 3))
  obtain ⟨u0, u9, uc⟩ := scr_f F.s
  obtain ⟨v0, v9, vc⟩ := scr_f hs
  have px := F.px
  refine ⟨H2, q5, q6, h5, h6, ?_, hG, g1, g2⟩
  rw [show (2048 : Nat) = 2047 + 1 from rfl]
  simp (disch := first | assumption | omega | decide) only [pis_i, pis_l, pis_r, pis_n, p1_i, p1_r, p1_n, p1_u, pw0, pw1, pw2, pw3, pw4, pK_v, pK_0, pK_ite, if_true, if_false, if_pos, if_neg, Nat.reduceAdd, pok_r, i10, i01, Bool.true_or, Bool.or_true, Bool.and_true, Bool.true_and, Nat.add_sub_cancel, i1p1, i1p0, i0p1, i0p0, nIrem2, va_rf_s, bit1, bit0, pinT, pinLT, pin0, nIc, nIcL, nIlt, nIeq, nIltL, nILlt, nIeqL, nILeq, nIadL, nILad, nILmu, nI_add, nIsbL, nI_sub', decide_true, decide_false, Bool.false_or, Bool.or_false, rL_law_1580, rL_law_1580n, rL_law_1581, rL_law_1581n, rL_law_1582, rL_law_1584, rL_law_1585, rL_law_1586, rL_law_1587, rL_law_1587n, rL_law_1588, rL_law_1590, rL_law_1591, rL_law_1592, rL_law_1593, rL_law_1593n, rL_law_1594, rL_law_1596, rL_law_1597, rL_law_1598, rL_law_1599, rL_law_1602, rL_law_1602n, rL_law_1603, rL_law_1603n, rL_law_1604, rL_law_1606, rL_law_1607, rL_law_1608, rL_law_1609, rL_law_1609n, rL_law_1610, rL_law_1612, rL_law_1613, rL_law_1614, rL_law_1615, rL_law_1615n, rL_law_1616, rL_law_1618, rL_law_1619, rL_law_1620, rL_law_1621, rL_law_1624, u0, u9, uc, v0, v9, vc, px, hp, hx, hm]
theorem c_count (F : Full b L xs base X S H) (R : Rel base X S H w) (hL : L ≤ 448) (hi : i + 7 ≤ L) (h5 : p1 q5 = true) (h6 : p1 q6 = true) : Nx b L xs base 1629 i q5 q6 H := by
  obtain ⟨r, H1, H2, hx, hm, hs, hp, hG, g1, g2⟩ := s_count F R (xs (i + 1))
  obtain ⟨u0, u9, uc⟩ := scr_f F.s
  obtain ⟨v0, v9, vc⟩ := scr_f hs
  have px := F.px
  refine ⟨H2, q5, q6, h5, h6, ?_, hG, g1, g2⟩
  rw [show (2048 : Nat) = 2047 + 1 from rfl]
  simp (disch := first | assumption | omega | decide) only [pis_i, pis_l, pis_r, pis_n, p1_i, p1_r, p1_n, p1_u, pw0, pw1, pw2, pw3, pw4, pK_v, pK_0, pK_ite, if_true, if_false, if_pos, if_neg, Nat.reduceAdd, pok_r, i10, i01, Bool.true_or, Bool.or_true, Bool.and_true, Bool.true_and, Nat.add_sub_cancel, i1p1, i1p0, i0p1, i0p0, nIrem2, va_rf_s, bit1, bit0, pinT, pinLT, pin0, nIc, nIcL, nIlt, nIeq, nIltL, nILlt, nIeqL, nILeq, nIadL, nILad, nILmu, nI_add, nIsbL, nI_sub', decide_true, decide_false, Bool.false_or, Bool.or_false, rL_law_1629, rL_law_1629n, rL_law_1630, rL_law_1630n, rL_law_1631, rL_law_1633, rL_law_1634, rL_law_1635, rL_law_1636, rL_law_1639, rL_law_1639n, rL_law_1640, rL_law_1640n, rL_law_1641, rL_law_1643, rL_law_1644, rL_law_1645, rL_law_1646, rL_law_1649, u0, u9, uc, v0, v9, vc, px, hp, hx, hm]
theorem c_bubble (F : Full b L xs base X S H) (R : Rel base X S H w) (hL : L ≤ 448) (hi : i + 7 ≤ L) (h5 : p1 q5 = true) (h6 : p1 q6 = true) : Nx b L xs base 431 i q5 q6 H := by
  obtain ⟨k, r, H1, H2, hx, hm, ht, hk, hl, hs, hp1, hp2, hG, g1, g2⟩ := w_bubble F R (xs (i + 1)) (xs (i + 2)) (xs (i + 3))
  have hx : pCa 0 2047 [.ref base, .int (xs (i + 1)), .int (xs (i + 2)), .int (xs (i + 3)), .ref (base + 49)] H = some (.inl (some (.int k)), H1) := hx
  obtain ⟨u0, u9, uc⟩ := scr_f F.s
  obtain ⟨v0, v9, vc⟩ := scr_f hs
  have px := F.px
  refine ⟨H2, .int k, .int r, rfl, rfl, ?_, hG, g1, g2⟩
  rw [show (2048 : Nat) = 2047 + 1 from rfl]
  rcases hk with ⟨rfl, hc⟩ | rfl
  · have hlc : lg_cmp r.toInt64 r.toInt64 = 0 := by simp [lg_cmp]
    simp (disch := first | assumption | omega | decide) only [pis_i, pis_l, pis_r, pis_n, p1_i, p1_r, p1_n, p1_u, pw0, pw1, pw2, pw3, pw4, pK_v, pK_0, pK_ite, if_true, if_false, if_pos, if_neg, Nat.reduceAdd, pok_r, i10, i01, Bool.true_or, Bool.or_true, Bool.and_true, Bool.true_and, Nat.add_sub_cancel, i1p1, i1p0, i0p1, i0p0, nIrem2, va_rf_s, bit1, bit0, pinT, pinLT, pin0, nIc, nIcL, nIlt, nIeq, nIltL, nILlt, nIeqL, nILeq, nIadL, nILad, nILmu, nI_add, nIsbL, nI_sub', decide_true, decide_false, Bool.false_or, Bool.or_false, rL_law_431, rL_law_431n, rL_law_432, rL_law_432n, rL_law_433, rL_law_435, rL_law_436, rL_law_437, rL_law_438, rL_law_438n, rL_law_439, rL_law_441, rL_law_442, rL_law_443, rL_law_444, rL_law_444n, rL_law_445, rL_law_447, rL_law_448, rL_law_449, rL_law_450, rL_law_450n, rL_law_451, rL_law_454, rL_law_456, rL_law_456n, rL_law_457, rL_law_457n, rL_law_458, rL_law_460, rL_law_461, rL_law_462, rL_law_463, rL_law_463n, rL_law_464, rL_law_466, rL_law_467, rL_law_468, rL_law_469, rL_law_469n, rL_law_470, rL_law_472, rL_law_473, rL_law_474, rL_law_475, rL_law_478, rL_law_480, rL_law_480n, rL_law_481, rL_law_484, rL_law_486, rL_law_489, rL_law_4900, rL_law_4901, rL_law_491, rL_law_493, rL_law_496, rL_law_496n, rL_law_497, rL_law_498, rL_law_499, rL_law_501, rL_law_502, rL_law_503, rL_law_506, rL_law_5070, rL_law_5071, rL_law_508, u0, u9, uc, v0, v9, vc, px, hp1, hp2, hx, hm, ht, hl, hc, hlc, show pin 0 1 = true by decide, show (0 : Int32).toNatClampNeg = 0 from rfl]
  · simp (disch := first | assumption | omega | decide) only [pis_i, pis_l, pis_r, pis_n, p1_i, p1_r, p1_n, p1_u, pw0, pw1, pw2, pw3, pw4, pK_v, pK_0, pK_ite, if_true, if_false, if_pos, if_neg, Nat.reduceAdd, pok_r, i10, i01, Bool.true_or, Bool.or_true, Bool.and_true, Bool.true_and, Nat.add_sub_cancel, i1p1, i1p0, i0p1, i0p0, nIrem2, va_rf_s, bit1, bit0, pinT, pinLT, pin0, nIc, nIcL, nIlt, nIeq, nIltL, nILlt, nIeqL, nILeq, nIadL, nILad, nILmu, nI_add, nIsbL, nI_sub', decide_true, decide_false, Bool.false_or, Bool.or_false, rL_law_431, rL_law_431n, rL_law_432, rL_law_432n, rL_law_433, rL_law_435, rL_law_436, rL_law_437, rL_law_438, rL_law_438n, rL_law_439, rL_law_441, rL_law_442, rL_law_443, rL_law_444, rL_law_444n, rL_law_445, rL_law_447, rL_law_448, rL_law_449, rL_law_450, rL_law_450n, rL_law_451, rL_law_454, rL_law_456, rL_law_456n, rL_law_457, rL_law_457n, rL_law_458, rL_law_460, rL_law_461, rL_law_462, rL_law_463, rL_law_463n, rL_law_464, rL_law_466, rL_law_467, rL_law_468, rL_law_469, rL_law_469n, rL_law_470, rL_law_472, rL_law_473, rL_law_474, rL_law_475, rL_law_478, rL_law_480, rL_law_480n, rL_law_481, rL_law_484, rL_law_486, rL_law_489, rL_law_4900, rL_law_4901, rL_law_491, rL_law_493, rL_law_496, rL_law_496n, rL_law_497, rL_law_498, rL_law_499, rL_law_501, rL_law_502, rL_law_503, rL_law_506, rL_law_5070, rL_law_5071, rL_law_508, u0, u9, uc, v0, v9, vc, px, hp1, hp2, hx, hm, ht, show ((1 : Int32) = 0) = False by decide]
theorem c_guest (F : Full b L xs base X S H) (R : Rel base X S H w) (hL : L ≤ 448) (hi : i + 7 ≤ L) (h5 : p1 q5 = true) (h6 : p1 q6 = true) : Nx b L xs base 1333 i q5 q6 H := by
  obtain ⟨k, r, H1, H2, hx, hm, ht, hk, hl, hs, hp1, hp2, hG, g1, g2⟩ := w_guest F R (xs (i + 1)) (xs (i + 2))
  have hx : pCa 1 2047 [.ref base, .int (xs (i + 1)), .int (xs (i + 2)), .ref (base + 49)] H = some (.inl (some (.int k)), H1) := hx
  obtain ⟨u0, u9, uc⟩ := scr_f F.s
  obtain ⟨v0, v9, vc⟩ := scr_f hs
  have px := F.px
  refine ⟨H2, .int k, .int r, rfl, rfl, ?_, hG, g1, g2⟩
  rw [show (2048 : Nat) = 2047 + 1 from rfl]
  rcases hk with ⟨rfl, hc⟩ | rfl
  · have hlc : lg_cmp r.toInt64 r.toInt64 = 0 := by simp [lg_cmp]
    simp (disch := first | assumption | omega | decide) only [pis_i, pis_l, pis_r, pis_n, p1_i, p1_r, p1_n, p1_u, pw0, pw1, pw2, pw3, pw4, pK_v, pK_0, pK_ite, if_true, if_false, if_pos, if_neg, Nat.reduceAdd, pok_r, i10, i01, Bool.true_or, Bool.or_true, Bool.and_true, Bool.true_and, Nat.add_sub_cancel, i1p1, i1p0, i0p1, i0p0, nIrem2, va_rf_s, bit1, bit0, pinT, pinLT, pin0, nIc, nIcL, nIlt, nIeq, nIltL, nILlt, nIeqL, nILeq, nIadL, nILad, nILmu, nI_add, nIsbL, nI_sub', decide_true, decide_false, Bool.false_or, Bool.or_false, rL_law_1333, rL_law_1333n, rL_law_1334, rL_law_1334n, rL_law_1335, rL_law_1337, rL_law_1338, rL_law_1339, rL_law_1340, rL_law_1340n, rL_law_1341, rL_law_1343, rL_law_1344, rL_law_1345, rL_law_1346, rL_law_1346n, rL_law_1347, rL_law_1350, rL_law_1352, rL_law_1352n, rL_law_1353, rL_law_1353n, rL_law_1354, rL_law_1356, rL_law_1357, rL_law_1358, rL_law_1359, rL_law_1359n, rL_law_1360, rL_law_1362, rL_law_1363, rL_law_1364, rL_law_1365, rL_law_1368, rL_law_1370, rL_law_1370n, rL_law_1371, rL_law_1374, rL_law_1376, rL_law_1379, rL_law_13800, rL_law_13801, rL_law_1381, rL_law_1383, rL_law_1386, rL_law_1386n, rL_law_1387, rL_law_1388, rL_law_1389, rL_law_1391, rL_law_1392, rL_law_1393, rL_law_1396, rL_law_13970, rL_law_13971, rL_law_1398, u0, u9, uc, v0, v9, vc, px, hp1, hp2, hx, hm, ht, hl, hc, hlc, show pin 0 1 = true by decide, show (0 : Int32).toNatClampNeg = 0 from rfl]
  · simp (disch := first | assumption | omega | decide) only [pis_i, pis_l, pis_r, pis_n, p1_i, p1_r, p1_n, p1_u, pw0, pw1, pw2, pw3, pw4, pK_v, pK_0, pK_ite, if_true, if_false, if_pos, if_neg, Nat.reduceAdd, pok_r, i10, i01, Bool.true_or, Bool.or_true, Bool.and_true, Bool.true_and, Nat.add_sub_cancel, i1p1, i1p0, i0p1, i0p0, nIrem2, va_rf_s, bit1, bit0, pinT, pinLT, pin0, nIc, nIcL, nIlt, nIeq, nIltL, nILlt, nIeqL, nILeq, nIadL, nILad, nILmu, nI_add, nIsbL, nI_sub', decide_true, decide_false, Bool.false_or, Bool.or_false, rL_law_1333, rL_law_1333n, rL_law_1334, rL_law_1334n, rL_law_1335, rL_law_1337, rL_law_1338, rL_law_1339, rL_law_1340, rL_law_1340n, rL_law_1341, rL_law_1343, rL_law_1344, rL_law_1345, rL_law_1346, rL_law_1346n, rL_law_1347, rL_law_1350, rL_law_1352, rL_law_1352n, rL_law_1353, rL_law_1353n, rL_law_1354, rL_law_1356, rL_law_1357, rL_law_1358, rL_law_1359, rL_law_1359n, rL_law_1360, rL_law_1362, rL_law_1363, rL_law_1364, rL_law_1365, rL_law_1368, rL_law_1370, rL_law_1370n, rL_law_1371, rL_law_1374, rL_law_1376, rL_law_1379, rL_law_13800, rL_law_13801, rL_law_1381, rL_law_1383, rL_law_1386, rL_law_1386n, rL_law_1387, rL_law_1388, rL_law_1389, rL_law_1391, rL_law_1392, rL_law_1393, rL_law_1396, rL_law_13970, rL_law_13971, rL_law_1398, u0, u9, uc, v0, v9, vc, px, hp1, hp2, hx, hm, ht, show ((1 : Int32) = 0) = False by decide]
theorem c_worth (F : Full b L xs base X S H) (R : Rel base X S H w) (hL : L ≤ 448) (hi : i + 7 ≤ L) (h5 : p1 q5 = true) (h6 : p1 q6 = true) : Nx b L xs base 1401 i q5 q6 H := by
  obtain ⟨k, r, H1, H2, hx, hm, ht, hk, hl, hs, hp1, hp2, hG, g1, g2⟩ := w_worth F R (xs (i + 1)) (xs (i + 2)) (xs (i + 3)) (xs (i + 4)) (xs (i + 5)) (xs (i + 6))
  have hx : pCa 2 2047 [.ref base, .int (xs (i + 1)), .int (xs (i + 2)), .int (xs (i + 3)), .int (xs (i + 4)), .int (xs (i + 5)), .int (xs (i + 6)), .ref (base + 49)] H = some (.inl (some (.int k)), H1) := hx
  obtain ⟨u0, u9, uc⟩ := scr_f F.s
  obtain ⟨v0, v9, vc⟩ := scr_f hs
  have px := F.px
  refine ⟨H2, .int k, .int r, rfl, rfl, ?_, hG, g1, g2⟩
  rw [show (2048 : Nat) = 2047 + 1 from rfl]
  rcases hk with ⟨rfl, hc⟩ | rfl
  · have hlc : lg_cmp r.toInt64 r.toInt64 = 0 := by simp [lg_cmp]
    simp (disch := first | assumption | omega | decide) only [pis_i, pis_l, pis_r, pis_n, p1_i, p1_r, p1_n, p1_u, pw0, pw1, pw2, pw3, pw4, pK_v, pK_0, pK_ite, if_true, if_false, if_pos, if_neg, Nat.reduceAdd, pok_r, i10, i01, Bool.true_or, Bool.or_true, Bool.and_true, Bool.true_and, Nat.add_sub_cancel, i1p1, i1p0, i0p1, i0p0, nIrem2, va_rf_s, bit1, bit0, pinT, pinLT, pin0, nIc, nIcL, nIlt, nIeq, nIltL, nILlt, nIeqL, nILeq, nIadL, nILad, nILmu, nI_add, nIsbL, nI_sub', decide_true, decide_false, Bool.false_or, Bool.or_false, rL_law_1401, rL_law_1401n, rL_law_1402, rL_law_1402n, rL_law_1403, rL_law_1405, rL_law_1406, rL_law_1407, rL_law_1408, rL_law_1408n, rL_law_1409, rL_law_1411, rL_law_1412, rL_law_1413, rL_law_1414, rL_law_1414n, rL_law_1415, rL_law_1417, rL_law_1418, rL_law_1419, rL_law_1420, rL_law_1420n, rL_law_1421, rL_law_1423, rL_law_1424, rL_law_1425, rL_law_1426, rL_law_1426n, rL_law_1427, rL_law_1429, rL_law_1430, rL_law_1431, rL_law_1432, rL_law_1432n, rL_law_1433, rL_law_1435, rL_law_1437, rL_law_1438, rL_law_1439, rL_law_1439n, rL_law_1440, rL_law_1443, rL_law_1445, rL_law_1445n, rL_law_1446, rL_law_1446n, rL_law_1447, rL_law_1449, rL_law_1450, rL_law_1451, rL_law_1452, rL_law_1452n, rL_law_1453, rL_law_1455, rL_law_1456, rL_law_1457, rL_law_1458, rL_law_1458n, rL_law_1459, rL_law_1461, rL_law_1462, rL_law_1463, rL_law_1464, rL_law_1464n, rL_law_1465, rL_law_1467, rL_law_1468, rL_law_1469, rL_law_1470, rL_law_1470n, rL_law_1471, rL_law_1473, rL_law_1474, rL_law_1475, rL_law_1476, rL_law_1476n, rL_law_1477, rL_law_1479, rL_law_1481, rL_law_1482, rL_law_1483, rL_law_1486, rL_law_1488, rL_law_1488n, rL_law_1489, rL_law_1492, rL_law_1494, rL_law_1497, rL_law_14980, rL_law_14981, rL_law_1499, rL_law_1501, rL_law_1504, rL_law_1504n, rL_law_1505, rL_law_1506, rL_law_1507, rL_law_1509, rL_law_1510, rL_law_1511, rL_law_1514, rL_law_15150, rL_law_15151, rL_law_1516, u0, u9, uc, v0, v9, vc, px, hp1, hp2, hx, hm, ht, hl, hc, hlc, show pin 0 1 = true by decide, show (0 : Int32).toNatClampNeg = 0 from rfl]
  · simp (disch := first | assumption | omega | decide) only [pis_i, pis_l, pis_r, pis_n, p1_i, p1_r, p1_n, p1_u, pw0, pw1, pw2, pw3, pw4, pK_v, pK_0, pK_ite, if_true, if_false, if_pos, if_neg, Nat.reduceAdd, pok_r, i10, i01, Bool.true_or, Bool.or_true, Bool.and_true, Bool.true_and, Nat.add_sub_cancel, i1p1, i1p0, i0p1, i0p0, nIrem2, va_rf_s, bit1, bit0, pinT, pinLT, pin0, nIc, nIcL, nIlt, nIeq, nIltL, nILlt, nIeqL, nILeq, nIadL, nILad, nILmu, nI_add, nIsbL, nI_sub', decide_true, decide_false, Bool.false_or, Bool.or_false, rL_law_1401, rL_law_1401n, rL_law_1402, rL_law_1402n, rL_law_1403, rL_law_1405, rL_law_1406, rL_law_1407, rL_law_1408, rL_law_1408n, rL_law_1409, rL_law_1411, rL_law_1412, rL_law_1413, rL_law_1414, rL_law_1414n, rL_law_1415, rL_law_1417, rL_law_1418, rL_law_1419, rL_law_1420, rL_law_1420n, rL_law_1421, rL_law_1423, rL_law_1424, rL_law_1425, rL_law_1426, rL_law_1426n, rL_law_1427, rL_law_1429, rL_law_1430, rL_law_1431, rL_law_1432, rL_law_1432n, rL_law_1433, rL_law_1435, rL_law_1437, rL_law_1438, rL_law_1439, rL_law_1439n, rL_law_1440, rL_law_1443, rL_law_1445, rL_law_1445n, rL_law_1446, rL_law_1446n, rL_law_1447, rL_law_1449, rL_law_1450, rL_law_1451, rL_law_1452, rL_law_1452n, rL_law_1453, rL_law_1455, rL_law_1456, rL_law_1457, rL_law_1458, rL_law_1458n, rL_law_1459, rL_law_1461, rL_law_1462, rL_law_1463, rL_law_1464, rL_law_1464n, rL_law_1465, rL_law_1467, rL_law_1468, rL_law_1469, rL_law_1470, rL_law_1470n, rL_law_1471, rL_law_1473, rL_law_1474, rL_law_1475, rL_law_1476, rL_law_1476n, rL_law_1477, rL_law_1479, rL_law_1481, rL_law_1482, rL_law_1483, rL_law_1486, rL_law_1488, rL_law_1488n, rL_law_1489, rL_law_1492, rL_law_1494, rL_law_1497, rL_law_14980, rL_law_14981, rL_law_1499, rL_law_1501, rL_law_1504, rL_law_1504n, rL_law_1505, rL_law_1506, rL_law_1507, rL_law_1509, rL_law_1510, rL_law_1511, rL_law_1514, rL_law_15150, rL_law_15151, rL_law_1516, u0, u9, uc, v0, v9, vc, px, hp1, hp2, hx, hm, ht, show ((1 : Int32) = 0) = False by decide]
end
