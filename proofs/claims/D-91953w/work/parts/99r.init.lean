/-! THE LAW 3: the start -/
set_option maxRecDepth 100000
def nwL (h : pH) : List (va_E × Nat) → pH
  | [] => h
  | (c, n) :: l => nwL (pnw h c n) l
theorem nwL_app : ∀ (l : List (va_E × Nat)) (h : pH) (c : va_E) (n : Nat), nwL h (l ++ [(c, n)]) = pnw (nwL h l) c n := by
  intro l
  induction l with
  | nil => intro h c n; rfl
  | cons a l ih => intro h c n; exact ih (pnw h a.1 a.2) c n
theorem nwL_21 : ∀ (l : List (va_E × Nat)) (h : pH), (nwL h l).2.1 = h.2.1 + l.length := by
  intro l
  induction l with
  | nil => intro h; rfl
  | cons a l ih => intro h; show (nwL (pnw h a.1 a.2) l).2.1 = _; rw [ih]; show h.2.1 + 1 + l.length = h.2.1 + (l.length + 1); omega
theorem nwL_lo : ∀ (l : List (va_E × Nat)) (h : pH) (q : Nat), q < h.2.1 → (nwL h l).1 q = h.1 q := by
  intro l
  induction l with
  | nil => intro h q _; rfl
  | cons a l ih =>
    intro h q hq
    show (nwL (pnw h a.1 a.2) l).1 q = _
    rw [ih _ _ (by show q < h.2.1 + 1; omega), pnw_ne (by omega)]
theorem nwL_at : ∀ (l : List (va_E × Nat)) (h : pH) (i : Nat) (c : va_E) (n : Nat), l[i]? = some (c, n) → (nwL h l).1 (h.2.1 + i) = some c := by
  intro l
  induction l with
  | nil => intro h i c n e; simp at e
  | cons a l ih =>
    intro h i c n e
    show (nwL (pnw h a.1 a.2) l).1 _ = _
    cases i with
    | zero =>
      simp at e
      rw [Nat.add_zero, nwL_lo _ _ _ (by show h.2.1 < h.2.1 + 1; omega), e]
      exact pnw_same
    | succ i =>
      have := ih (pnw h a.1 a.2) i c n (by simpa using e)
      rw [show h.2.1 + (i + 1) = (pnw h a.1 a.2).2.1 + i by show _ = h.2.1 + 1 + i; omega]
      exact this
theorem nwL_sf {k : Nat} {v : Value} {a : Nat} : ∀ (l : List (va_E × Nat)) (h : pH), a < h.2.1 → psf (nwL h l) a k v = nwL (psf h a k v) l := by
  intro l
  induction l with
  | nil => intro h _; rfl
  | cons c l ih =>
    intro h ha
    show psf (nwL (pnw h c.1 c.2) l) a k v = nwL (pnw (psf h a k v) c.1 c.2) l
    rw [ih _ (by show a < h.2.1 + 1; omega), psf_pnw_ne (by omega)]
def obH (h : pH) (k : Nat) (fs : List Value) (n : Nat) (l : List (va_E × Nat)) : pH := nwL (pnw h (.inr (k, fs)) n) l
section
variable {h : pH} {k n n' j : Nat} {fs : List Value} {l : List (va_E × Nat)} {c : va_E} {v : Value}
theorem obH_nw : pnw (obH h k fs n l) c n' = obH h k fs n (l ++ [(c, n')]) := (nwL_app l _ c n').symm
theorem obH_sf : psf (obH h k fs n l) h.2.1 j v = obH h k (fs.set j v) n l := by
  unfold obH
  rw [nwL_sf _ _ (by show h.2.1 < h.2.1 + 1; omega), psf_pnw]
theorem obH_o : (obH h k fs n l).1 h.2.1 = some (.inr (k, fs)) := by
  unfold obH
  rw [nwL_lo _ _ _ (by show h.2.1 < h.2.1 + 1; omega)]
  exact pnw_same
theorem obH_fl : pfl (obH h k fs n l) k h.2.1 j = fs.getD j pU := by
  have := obH_o (h := h) (k := k) (fs := fs) (n := n) (l := l)
  simp [pfl, this, pok_r]
theorem obH_cl : pcl (obH h k fs n l) h.2.1 = k := pcl_of obH_o
theorem obH_21 : (obH h k fs n l).2.1 = h.2.1 + (1 + l.length) := by
  unfold obH
  rw [nwL_21]
  show h.2.1 + 1 + l.length = _
  omega
theorem obH_lo {q : Nat} (hq : q < h.2.1) : (obH h k fs n l).1 q = h.1 q := by
  unfold obH
  rw [nwL_lo _ _ _ (by show q < h.2.1 + 1; omega), pnw_ne (by omega)]
theorem obH_at {i : Nat} (e : l[i]? = some (c, n')) : (obH h k fs n l).1 (h.2.1 + (i + 1)) = some c := by
  have := nwL_at l (pnw h (.inr (k, fs)) n) i c n' e
  rw [show h.2.1 + (i + 1) = (pnw h (.inr (k, fs)) n).2.1 + i by show _ = h.2.1 + 1 + i; omega]
  exact this
end
section
variable {h : pH} {d : Nat}
theorem kX2_init {g : pH} {a : Nat} (ha : a = g.2.1) : pCa 65 (d + 1) [.ref a] (pnw g (.inr (2, [.null])) 1) = some (.inl none, pnw (pnw g (.inr (2, [.ref (g.2.1 + 1)])) 1) (.inl (0, 128, .inl fun _ => 0)) 128) := by
  subst ha
  rw [eX2_init]
  simp (disch := first | omega | decide | (simp only [pnw_21, psf_21]; omega)) only [pis_i, pis_l, pis_r, pis_n, p1_i, p1_r, p1_n, p1_u, pw0, pw1, pw2, pw3, pw4, pK_v, pK_0, pK_ite, if_true, if_false, if_pos, if_neg, Nat.reduceAdd, pok_r, i10, i01, Bool.true_or, Bool.or_true, Bool.and_true, Bool.true_and, rX2_init_0, rX2_init_1, rX2_init_4, rX2_init_5, rX2_init_8, rX2_init_10, rX2_init_10n, rX2_init_13, pnw_21, psf_21, pfl_pnw, pfl_pnw_ne, psf_pnw, psf_pnw_ne, List.set_cons_zero, List.set_cons_succ, List.getD_cons_zero, List.getD_cons_succ, Nat.add_assoc]
abbrev zI : Nat → Int32 := fun _ => 0
abbrev zQ (k n : Nat) : va_E := .inl (k, n, .inr (.inr (.inr (.inr fun _ => none))))
abbrev zA (k n : Nat) : va_E := .inl (k, n, .inl zI)
def xl : List (va_E × Nat) := [(zQ 4 6, 6), (zA 1 200, 200), (zQ 5 12, 12), (zA 0 8, 8), (zA 0 1024, 1024), (zA 0 1024, 1024), (zA 0 1024, 1024), (zA 0 32, 32), (zQ 6 30, 30), (zQ 7 6, 6)]
theorem kX1_init {a : Nat} (h21 : a = h.2.1) : ∃ l, pCa 4 (d + 3) [.ref a] (pnw h (.inr (1, [.null, .int 0, .null, .int 0, .null, .int 0, .null, .null, .null, .null, .null, .null, .int 0, .int 0, .int 0, .int 0, .int 0, .long 0, .null, .null, .int 0, .null, .int 0])) 23) = some (.inl none, obH h 1 (xobj h.2.1 (fun k => if k = 14 then 1 else 0) 0) 23 l) ∧ l = xl ++ [(.inr (2, [.ref (h.2.1 + 12)]), 1), (zA 0 128, 128), (zA 0 24, 24)] := by
  subst h21
  refine ⟨_, ?_, rfl⟩
  rw [eX1_init, show pnw h (.inr (1, [.null, .int 0, .null, .int 0, .null, .int 0, .null, .null, .null, .null, .null, .null, .int 0, .int 0, .int 0, .int 0, .int 0, .long 0, .null, .null, .int 0, .null, .int 0])) 23 = obH h 1 [.null, .int 0, .null, .int 0, .null, .int 0, .null, .null, .null, .null, .null, .null, .int 0, .int 0, .int 0, .int 0, .int 0, .long 0, .null, .null, .int 0, .null, .int 0] 23 [] from rfl]
  simp (disch := first | omega | decide) only [pis_i, pis_l, pis_r, pis_n, p1_i, p1_r, p1_n, p1_u, pw0, pw1, pw2, pw3, pw4, pK_v, pK_0, pK_ite, if_true, if_false, if_pos, if_neg, Nat.reduceAdd, pok_r, i10, i01, Bool.true_or, Bool.or_true, Bool.and_true, Bool.true_and, rX1_init_0, rX1_init_1, rX1_init_4, rX1_init_5, rX1_init_7, rX1_init_10, rX1_init_10n, rX1_init_13, rX1_init_14, rX1_init_17, rX1_init_19, rX1_init_19n, rX1_init_22, rX1_init_23, rX1_init_25, rX1_init_28, rX1_init_28n, rX1_init_31, rX1_init_32, rX1_init_34, rX1_init_36, rX1_init_36n, rX1_init_39, rX1_init_40, rX1_init_43, rX1_init_45, rX1_init_45n, rX1_init_48, rX1_init_49, rX1_init_52, rX1_init_54, rX1_init_54n, rX1_init_57, rX1_init_58, rX1_init_61, rX1_init_63, rX1_init_63n, rX1_init_66, rX1_init_67, rX1_init_69, rX1_init_71, rX1_init_71n, rX1_init_74, rX1_init_75, rX1_init_77, rX1_init_80, rX1_init_80n, rX1_init_83, rX1_init_84, rX1_init_85, rX1_init_88, rX1_init_89, rX1_init_91, rX1_init_94, rX1_init_94n, rX1_init_97, obH_nw, obH_sf, obH_fl, obH_21, List.set_cons_zero, List.set_cons_succ, List.getD_cons_zero, List.getD_cons_succ, List.nil_append, List.cons_append, List.length_cons, List.length_nil]
  rw [rX1_init_98, rX1_init_101]
  simp (disch := first | omega | decide) only [pis_i, pis_l, pis_r, pis_n, p1_i, p1_r, p1_n, p1_u, pw0, pw1, pw2, pw3, pw4, pK_v, pK_0, pK_ite, if_true, if_false, if_pos, if_neg, Nat.reduceAdd, pok_r, i10, i01, Bool.true_or, Bool.or_true, Bool.and_true, Bool.true_and, rX1_init_102, pcl_pnw]
  rw [kX2_init rfl]
  simp (disch := first | omega | decide) only [pis_i, pis_l, pis_r, pis_n, p1_i, p1_r, p1_n, p1_u, pw0, pw1, pw2, pw3, pw4, pK_v, pK_0, pK_ite, if_true, if_false, if_pos, if_neg, Nat.reduceAdd, pok_r, i10, i01, Bool.true_or, Bool.or_true, Bool.and_true, Bool.true_and, rX1_init_105, rX1_init_105n, rX1_init_108, rX1_init_109, rX1_init_111, rX1_init_113, rX1_init_113n, rX1_init_116, obH_nw, obH_sf, obH_fl, obH_21, List.set_cons_zero, List.set_cons_succ, List.getD_cons_zero, List.getD_cons_succ, List.nil_append, List.cons_append, List.length_cons, List.length_nil, Nat.add_assoc]
  rfl
def ml : List (va_E × Nat) := [(zA 0 6, 6), (zA 0 6, 6), (zA 0 6, 6), (zA 0 6, 6), (zA 0 200, 200), (zA 0 13, 13), (zA 0 78, 78), (zA 0 13, 13), (zA 0 13, 13), (zA 0 312, 312), (zA 0 312, 312), (zA 0 312, 312), (zA 0 312, 312), (zA 0 13, 13), (zA 0 60, 60), (zA 0 8, 8), (zA 0 60, 60), (zA 0 2800, 2800), (zA 0 7, 7), (zA 0 448, 448), (zA 0 448, 448), (.inl (3, 400, .inr (.inl fun _ => 0)), 400), (zA 0 8, 8), (zA 0 3600, 3600), (zA 0 1024, 1024), (zA 2 1024, 1024), (zA 0 24, 24), (zA 0 30, 30), (zA 0 30, 30), (zA 0 30, 30), (zA 0 120, 120), (zA 0 6, 6), (zA 0 24, 24), (zA 0 24, 24)]
theorem kX3_init {a : Nat} (h21 : a = h.2.1) : pCa 66 (d + 3) [.ref a] (pnw h (.inr (3, [.int 0, .null, .null, .null, .null, .int 0, .null, .int 0, .int 0, .int 0, .int 0, .null, .null, .null, .null, .null, .null, .null, .null, .null, .int 0, .null, .null, .int 0, .int 0, .int 0, .null, .null, .null, .null, .null, .int 0, .int 0, .int 0, .null, .null, .null, .null, .null, .null, .null, .null, .null, .null, .null, .int 0, .int 0, .int 0, .int 0, .null, .null, .int 0])) 52) = some (.inl none, obH h 3 (mobj h.2.1 (fun k => if k = 47 then 1 else 0)) 52 ml) := by
  subst h21
  rw [eX3_init, show pnw h (.inr (3, [.int 0, .null, .null, .null, .null, .int 0, .null, .int 0, .int 0, .int 0, .int 0, .null, .null, .null, .null, .null, .null, .null, .null, .null, .int 0, .null, .null, .int 0, .int 0, .int 0, .null, .null, .null, .null, .null, .int 0, .int 0, .int 0, .null, .null, .null, .null, .null, .null, .null, .null, .null, .null, .null, .int 0, .int 0, .int 0, .int 0, .null, .null, .int 0])) 52 = obH h 3 [.int 0, .null, .null, .null, .null, .int 0, .null, .int 0, .int 0, .int 0, .int 0, .null, .null, .null, .null, .null, .null, .null, .null, .null, .int 0, .null, .null, .int 0, .int 0, .int 0, .null, .null, .null, .null, .null, .int 0, .int 0, .int 0, .null, .null, .null, .null, .null, .null, .null, .null, .null, .null, .null, .int 0, .int 0, .int 0, .int 0, .null, .null, .int 0] 52 [] from rfl]
  simp (maxSteps := 2000000) (disch := first | omega | decide) only [pis_i, pis_l, pis_r, pis_n, p1_i, p1_r, p1_n, p1_u, pw0, pw1, pw2, pw3, pw4, pK_v, pK_0, pK_ite, if_true, if_false, if_pos, if_neg, Nat.reduceAdd, pok_r, i10, i01, Bool.true_or, Bool.or_true, Bool.and_true, Bool.true_and, rX3_init_0, rX3_init_1, rX3_init_4, rX3_init_5, rX3_init_7, rX3_init_9, rX3_init_9n, rX3_init_12, rX3_init_13, rX3_init_15, rX3_init_17, rX3_init_17n, rX3_init_20, rX3_init_21, rX3_init_23, rX3_init_25, rX3_init_25n, rX3_init_28, rX3_init_29, rX3_init_31, rX3_init_33, rX3_init_33n, rX3_init_36, rX3_init_37, rX3_init_40, rX3_init_42, rX3_init_42n, rX3_init_45, rX3_init_46, rX3_init_48, rX3_init_50, rX3_init_50n, rX3_init_53, rX3_init_54, rX3_init_56, rX3_init_58, rX3_init_58n, rX3_init_61, rX3_init_62, rX3_init_64, rX3_init_66, rX3_init_66n, rX3_init_69, rX3_init_70, rX3_init_72, rX3_init_74, rX3_init_74n, rX3_init_77, rX3_init_78, rX3_init_81, rX3_init_83, rX3_init_83n, rX3_init_86, rX3_init_87, rX3_init_90, rX3_init_92, rX3_init_92n, rX3_init_95, rX3_init_96, rX3_init_99, rX3_init_101, rX3_init_101n, rX3_init_104, rX3_init_105, rX3_init_108, rX3_init_110, rX3_init_110n, rX3_init_113, rX3_init_114, rX3_init_116, rX3_init_118, rX3_init_118n, rX3_init_121, rX3_init_122, rX3_init_124, rX3_init_126, rX3_init_126n, rX3_init_129, rX3_init_130, rX3_init_132, rX3_init_134, rX3_init_134n, rX3_init_137, rX3_init_138, rX3_init_140, rX3_init_142, rX3_init_142n, rX3_init_145, rX3_init_146, rX3_init_149, rX3_init_151, rX3_init_151n, rX3_init_154, rX3_init_155, rX3_init_157, rX3_init_159, rX3_init_159n, rX3_init_162, rX3_init_163, rX3_init_166, rX3_init_168, rX3_init_168n, rX3_init_171, rX3_init_172, rX3_init_175, rX3_init_177, rX3_init_177n, rX3_init_180, rX3_init_181, rX3_init_184, rX3_init_186, rX3_init_186n, rX3_init_189, rX3_init_190, rX3_init_192, rX3_init_194, rX3_init_194n, rX3_init_197, rX3_init_198, rX3_init_201, rX3_init_203, rX3_init_203n, rX3_init_206, rX3_init_207, rX3_init_210, rX3_init_212, rX3_init_212n, rX3_init_215, rX3_init_216, rX3_init_219, rX3_init_221, rX3_init_221n, rX3_init_224, rX3_init_225, rX3_init_227, rX3_init_229, rX3_init_229n, rX3_init_232, rX3_init_233, rX3_init_235, rX3_init_237, rX3_init_237n, rX3_init_240, rX3_init_241, rX3_init_243, rX3_init_245, rX3_init_245n, rX3_init_248, rX3_init_249, rX3_init_251, rX3_init_253, rX3_init_253n, rX3_init_256, rX3_init_257, rX3_init_259, rX3_init_261, rX3_init_261n, rX3_init_264, rX3_init_265, rX3_init_267, rX3_init_269, rX3_init_269n, rX3_init_272, rX3_init_273, rX3_init_274, rX3_init_277, rX3_init_278, rX3_init_280, rX3_init_282, rX3_init_282n, rX3_init_285, rX3_init_286, rX3_init_288, rX3_init_290, rX3_init_290n, rX3_init_293, obH_nw, obH_sf, obH_fl, obH_21, List.set_cons_zero, List.set_cons_succ, List.getD_cons_zero, List.getD_cons_succ, List.nil_append, List.cons_append, List.length_cons, List.length_nil]
  rfl
end
