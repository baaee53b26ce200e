/-! SETS 2: what hangs together -/
set_option maxRecDepth 100000
theorem or_0 (x : Int32) : x ||| 0 = x := by
  apply b_ext; intro i hi; rw [b_or, b_0]; simp
/-- does bubble k meet one of a set -/
def mt (F : Fig) (k : Nat) (got : Int32) : Bool := decide (0 < fb_ct (fun o => bt got o && fMe F k o) (F.1 0))
def hs (F : Fig) (set : Int32) (k : Nat) (got : Int32) : Int32 := if bt set k = true ∧ mt F k got = true then got ||| (1 : Int32) <<< (nI k &&& 31) else got
def hp (F : Fig) (set got : Int32) : Nat → Int32
  | 0 => got
  | k + 1 => hs F set k (hp F set got k)
def hx (F : Fig) (set : Int32) : Nat → Int32 → Int32
  | 0, got => got
  | k + 1, got => if hp F set got (F.1 0) = got then got else hx F set k (hp F set got (F.1 0))
section
variable {F : Fig} {set got : Int32} {k : Nat}
theorem fMe_comm {a b : Nat} : fMe F a b = fMe F b a := by
  unfold fMe
  rw [Bool.eq_iff_iff]
  simp only [Bool.or_eq_true, beq_iff_eq]
  constructor <;> (intro h; rcases h with ((h | h) | h) | h <;> simp [h])
theorem hs_sub : sub got (hs F set k got) := by
  intro i hi h
  unfold hs
  split
  · rw [b_or, h]; rfl
  · exact h
theorem hs_in {n : Nat} (hs1 : inS n set) (hn : k < 32) (h : inS n got) : inS n (hs F set k got) := by
  intro i hi hni
  unfold hs
  split
  · rename_i hc
    rw [b_or, h i hi hni, bt_1 hn hi]
    by_cases e : i = k
    · subst e; rw [hs1 i hi hni] at hc; cases hc.1
    · simp [e]
  · exact h i hi hni
theorem hs_same (h : bt got k = true) (hk : k < 32) : hs F set k got = got := by
  unfold hs
  split
  · apply b_ext
    intro i hi
    rw [b_or, bt_1 hk hi]
    by_cases e : i = k
    · subst e; simp [h]
    · simp [e]
  · rfl
theorem hp_sub : ∀ n, sub got (hp F set got n) := by
  intro n
  induction n with
  | zero => exact sub.rf
  | succ n ih => exact ih.tr hs_sub
theorem hp_in {N : Nat} (hs1 : inS N set) (h : inS N got) : ∀ n, n ≤ 32 → inS N (hp F set got n) := by
  intro n
  induction n with
  | zero => intro _; exact h
  | succ n ih => intro hn; exact hs_in hs1 (by omega) (ih (by omega))
theorem hx_sub : ∀ n got, sub got (hx F set n got) := by
  intro n
  induction n with
  | zero => intro got; exact sub.rf
  | succ n ih =>
    intro got
    rw [hx]
    split
    · exact sub.rf
    · exact (hp_sub _).tr (ih _)
theorem hx_in (hk : FigOk F) (hs1 : inS (F.1 0) set) : ∀ n got, inS (F.1 0) got → inS (F.1 0) (hx F set n got) := by
  have := hk.1
  intro n
  induction n with
  | zero => intro got h; exact h
  | succ n ih =>
    intro got h
    rw [hx]
    split
    · exact h
    · exact ih _ (hp_in hs1 h _ (by omega))
theorem mt_step {o : Nat} : decide (0 < fb_ct (fun o => bt got o && fMe F k o) (o + 1)) = (decide (0 < fb_ct (fun o => bt got o && fMe F k o) o) || (bt got o && fMe F k o)) := by
  rw [fb_ct_succ]
  cases bt got o && fMe F k o
  · simp
  · simp
variable {H : pH} {f d : Nat}
theorem kX24_hang (hF : FigAt H f F) (hk : FigOk F) {w : Nat} (hw : w < F.1 0) (hset : inS (F.1 0) set) : pCa 241 (d + 1) [.ref f, .int set, .int (nI w)] H = some (.inl (some (.int (hx F set 25 ((1 : Int32) <<< (nI w &&& 31))))), H) := by
  have hF0 := hF
  (obtain ⟨x0, xf, xt, xl, xw, xs, xe, xb, xa, xp, xh⟩ := hF.o; obtain ⟨⟨l1, c1⟩, ⟨l2, c2⟩, ⟨l3, c3⟩, ⟨l4, c4⟩, ⟨l5, c5⟩, ⟨l6, c6⟩⟩ := hF.a; have hk' := hk; obtain ⟨k1, k2, k3, k4, k5, k6⟩ := hk')
  have outer : ∀ k got before q5 q6, p1 q5 = true → p1 q6 = true → before ≠ got → inS (F.1 0) got → F.1 0 - fb_ct (bt got) (F.1 0) < k → pR 241 (d + 1) 7 [.ref f, .int set, .int (nI w), .int got, .int before, q5, q6] [] H = some (.inl (some (.int (hx F set k got))), H) := by
    intro k
    induction k with
    | zero => intro got before q5 q6 _ _ _ _ h; omega
    | succ k ih =>
      intro got before q5 q6 h5 h6 hne hin hm
      rw [rX24_hang_7]
      simp (disch := first | omega | decide) only [pis_i, pis_l, pis_r, pis_n, p1_i, p1_r, p1_n, p1_u, pw0, pw1, pw2, pw3, pw4, pK_v, pK_0, pK_ite, if_true, if_false, if_pos, if_neg, Nat.reduceAdd, pok_r, i10, i01, Bool.true_or, Bool.or_true, Bool.and_true, Bool.true_and, rX24_hang_0, rX24_hang_1, rX24_hang_2, rX24_hang_3, rX24_hang_4, rX24_hang_5, rX24_hang_9, rX24_hang_10, rX24_hang_13, rX24_hang_14, rX24_hang_16, rX24_hang_17, rX24_hang_21, rX24_hang_22, rX24_hang_25, rX24_hang_28, rX24_hang_29, rX24_hang_31, rX24_hang_32, rX24_hang_33, rX24_hang_34, rX24_hang_37, rX24_hang_38, rX24_hang_40, rX24_hang_41, rX24_hang_42, rX24_hang_43, rX24_hang_44, rX24_hang_47, rX24_hang_50, rX24_hang_51, rX24_hang_55, rX24_hang_56, rX24_hang_59, rX24_hang_62, rX24_hang_63, rX24_hang_65, rX24_hang_66, rX24_hang_67, rX24_hang_68, rX24_hang_69, rX24_hang_72, rX24_hang_73, rX24_hang_75, rX24_hang_77, rX24_hang_80, rX24_hang_83, rX24_hang_84, rX24_hang_85, rX24_hang_87, rX24_hang_88, rX24_hang_89, rX24_hang_90, rX24_hang_93, rX24_hang_96, rX24_hang_99, rX24_hang_102, rX24_hang_105, rX24_hang_106, hne, h5]
      refine loopP (N := F.1 0) (P := fun b => ∀ q6, p1 q6 = true → pR 241 (d + 1) 19 [.ref f, .int set, .int (nI w), .int (hp F set got b), .int got, .int (nI b), q6] [] H = some (.inl (some (.int (hx F set (k + 1) got))), H)) (fun b hb ihb q6 h6 => ?_) (fun q6 h6 => ?_) 0 (Nat.zero_le _) q6 h6
      · rw [rX24_hang_19]
        by_cases c1 : bt set b = true
        · by_cases c2 : bt (hp F set got b) b = true
          · have e : hp F set got (b + 1) = hp F set got b := hs_same c2 (by omega)
            rw [e] at ihb
            simp (disch := first | omega | decide) only [pis_i, pis_l, pis_r, pis_n, p1_i, p1_r, p1_n, p1_u, pw0, pw1, pw2, pw3, pw4, pK_v, pK_0, pK_ite, if_true, if_false, if_pos, if_neg, Nat.reduceAdd, pok_r, i10, i01, Bool.true_or, Bool.or_true, Bool.and_true, Bool.true_and, Nat.add_sub_cancel, i1p1, i1p0, i0p1, i0p0, nIrem2, va_rf_s, bit1, bit0, pinT, pinLT, pin0, nIc, nIcL, nIlt, nIeq, nIltL, nILlt, nIeqL, nILeq, nIadL, nILad, nILmu, nI_add, nIsbL, nI_sub', decide_true, decide_false, Bool.false_or, Bool.or_false, rX24_hang_0, rX24_hang_1, rX24_hang_2, rX24_hang_3, rX24_hang_4, rX24_hang_5, rX24_hang_9, rX24_hang_10, rX24_hang_13, rX24_hang_14, rX24_hang_16, rX24_hang_17, rX24_hang_21, rX24_hang_22, rX24_hang_25, rX24_hang_28, rX24_hang_29, rX24_hang_31, rX24_hang_32, rX24_hang_33, rX24_hang_34, rX24_hang_37, rX24_hang_38, rX24_hang_40, rX24_hang_41, rX24_hang_42, rX24_hang_43, rX24_hang_44, rX24_hang_47, rX24_hang_50, rX24_hang_51, rX24_hang_55, rX24_hang_56, rX24_hang_59, rX24_hang_62, rX24_hang_63, rX24_hang_65, rX24_hang_66, rX24_hang_67, rX24_hang_68, rX24_hang_69, rX24_hang_72, rX24_hang_73, rX24_hang_75, rX24_hang_77, rX24_hang_80, rX24_hang_83, rX24_hang_84, rX24_hang_85, rX24_hang_87, rX24_hang_88, rX24_hang_89, rX24_hang_90, rX24_hang_93, rX24_hang_96, rX24_hang_99, rX24_hang_102, rX24_hang_105, rX24_hang_106, x0, xf, xt, xl, xw, xs, xe, xb, xa, xp, xh, l1, l2, l3, l4, l5, l6, c1, c2, c3, c4, c5, c6, c1, c2, Bool.true_eq_false]
            exact ihb q6 h6
          · have c2' : bt (hp F set got b) b = false := by simpa using c2
            simp (disch := first | omega | decide) only [pis_i, pis_l, pis_r, pis_n, p1_i, p1_r, p1_n, p1_u, pw0, pw1, pw2, pw3, pw4, pK_v, pK_0, pK_ite, if_true, if_false, if_pos, if_neg, Nat.reduceAdd, pok_r, i10, i01, Bool.true_or, Bool.or_true, Bool.and_true, Bool.true_and, Nat.add_sub_cancel, i1p1, i1p0, i0p1, i0p0, nIrem2, va_rf_s, bit1, bit0, pinT, pinLT, pin0, nIc, nIcL, nIlt, nIeq, nIltL, nILlt, nIeqL, nILeq, nIadL, nILad, nILmu, nI_add, nIsbL, nI_sub', decide_true, decide_false, Bool.false_or, Bool.or_false, rX24_hang_0, rX24_hang_1, rX24_hang_2, rX24_hang_3, rX24_hang_4, rX24_hang_5, rX24_hang_9, rX24_hang_10, rX24_hang_13, rX24_hang_14, rX24_hang_16, rX24_hang_17, rX24_hang_21, rX24_hang_22, rX24_hang_25, rX24_hang_28, rX24_hang_29, rX24_hang_31, rX24_hang_32, rX24_hang_33, rX24_hang_34, rX24_hang_37, rX24_hang_38, rX24_hang_40, rX24_hang_41, rX24_hang_42, rX24_hang_43, rX24_hang_44, rX24_hang_47, rX24_hang_50, rX24_hang_51, rX24_hang_55, rX24_hang_56, rX24_hang_59, rX24_hang_62, rX24_hang_63, rX24_hang_65, rX24_hang_66, rX24_hang_67, rX24_hang_68, rX24_hang_69, rX24_hang_72, rX24_hang_73, rX24_hang_75, rX24_hang_77, rX24_hang_80, rX24_hang_83, rX24_hang_84, rX24_hang_85, rX24_hang_87, rX24_hang_88, rX24_hang_89, rX24_hang_90, rX24_hang_93, rX24_hang_96, rX24_hang_99, rX24_hang_102, rX24_hang_105, rX24_hang_106, x0, xf, xt, xl, xw, xs, xe, xb, xa, xp, xh, l1, l2, l3, l4, l5, l6, c1, c2, c3, c4, c5, c6, c1, c2', h6, Bool.true_eq_false, Bool.false_eq_true]
            have inner := loopN (N := F.1 0) (R := some (.inl (some (.int (hx F set (k + 1) got))), H)) (P := fun o => pR 241 (d + 1) 53 [.ref f, .int set, .int (nI w), .int (if decide (0 < fb_ct (fun o => bt (hp F set got b) o && fMe F b o) o) = true then hp F set got b ||| (1 : Int32) <<< (nI b &&& 31) else hp F set got b), .int got, .int (nI b), .int (nI o)] [] H) (fun o ho R hR => ?_) ?_ 0 (Nat.zero_le _)
            · simp only [fb_ct, Nat.lt_irrefl, decide_false, Bool.false_eq_true, if_false] at inner
              exact inner
            · rw [mt_step] at hR
              rw [rX24_hang_53]
              cases q : decide (0 < fb_ct (fun o => bt (hp F set got b) o && fMe F b o) o)
              · rw [q] at hR
                simp only [Bool.false_or] at hR
                simp (disch := first | omega | decide) only [pis_i, pis_l, pis_r, pis_n, p1_i, p1_r, p1_n, p1_u, pw0, pw1, pw2, pw3, pw4, pK_v, pK_0, pK_ite, if_true, if_false, if_pos, if_neg, Nat.reduceAdd, pok_r, i10, i01, Bool.true_or, Bool.or_true, Bool.and_true, Bool.true_and, Nat.add_sub_cancel, i1p1, i1p0, i0p1, i0p0, nIrem2, va_rf_s, bit1, bit0, pinT, pinLT, pin0, nIc, nIcL, nIlt, nIeq, nIltL, nILlt, nIeqL, nILeq, nIadL, nILad, nILmu, nI_add, nIsbL, nI_sub', decide_true, decide_false, Bool.false_or, Bool.or_false, rX24_hang_0, rX24_hang_1, rX24_hang_2, rX24_hang_3, rX24_hang_4, rX24_hang_5, rX24_hang_9, rX24_hang_10, rX24_hang_13, rX24_hang_14, rX24_hang_16, rX24_hang_17, rX24_hang_21, rX24_hang_22, rX24_hang_25, rX24_hang_28, rX24_hang_29, rX24_hang_31, rX24_hang_32, rX24_hang_33, rX24_hang_34, rX24_hang_37, rX24_hang_38, rX24_hang_40, rX24_hang_41, rX24_hang_42, rX24_hang_43, rX24_hang_44, rX24_hang_47, rX24_hang_50, rX24_hang_51, rX24_hang_55, rX24_hang_56, rX24_hang_59, rX24_hang_62, rX24_hang_63, rX24_hang_65, rX24_hang_66, rX24_hang_67, rX24_hang_68, rX24_hang_69, rX24_hang_72, rX24_hang_73, rX24_hang_75, rX24_hang_77, rX24_hang_80, rX24_hang_83, rX24_hang_84, rX24_hang_85, rX24_hang_87, rX24_hang_88, rX24_hang_89, rX24_hang_90, rX24_hang_93, rX24_hang_96, rX24_hang_99, rX24_hang_102, rX24_hang_105, rX24_hang_106, x0, xf, xt, xl, xw, xs, xe, xb, xa, xp, xh, l1, l2, l3, l4, l5, l6, c1, c2, c3, c4, c5, c6, Bool.false_eq_true, kX24_meets hF0 hk hb ho]
                cases q1 : bt (hp F set got b) o <;> cases q2 : fMe F b o <;> rw [q1, q2] at hR <;> simpa using hR
              · rw [q] at hR
                simp only [Bool.true_or, if_true] at hR
                have e2 : hp F set got b ||| (1 : Int32) <<< (nI b &&& 31) ||| (1 : Int32) <<< (nI b &&& 31) = hp F set got b ||| (1 : Int32) <<< (nI b &&& 31) := by
                  apply b_ext; intro i hi; simp only [b_or]; cases bt (hp F set got b) i <;> cases bt ((1 : Int32) <<< (nI b &&& 31)) i <;> rfl
                simp (disch := first | omega | decide) only [pis_i, pis_l, pis_r, pis_n, p1_i, p1_r, p1_n, p1_u, pw0, pw1, pw2, pw3, pw4, pK_v, pK_0, pK_ite, if_true, if_false, if_pos, if_neg, Nat.reduceAdd, pok_r, i10, i01, Bool.true_or, Bool.or_true, Bool.and_true, Bool.true_and, Nat.add_sub_cancel, i1p1, i1p0, i0p1, i0p0, nIrem2, va_rf_s, bit1, bit0, pinT, pinLT, pin0, nIc, nIcL, nIlt, nIeq, nIltL, nILlt, nIeqL, nILeq, nIadL, nILad, nILmu, nI_add, nIsbL, nI_sub', decide_true, decide_false, Bool.false_or, Bool.or_false, rX24_hang_0, rX24_hang_1, rX24_hang_2, rX24_hang_3, rX24_hang_4, rX24_hang_5, rX24_hang_9, rX24_hang_10, rX24_hang_13, rX24_hang_14, rX24_hang_16, rX24_hang_17, rX24_hang_21, rX24_hang_22, rX24_hang_25, rX24_hang_28, rX24_hang_29, rX24_hang_31, rX24_hang_32, rX24_hang_33, rX24_hang_34, rX24_hang_37, rX24_hang_38, rX24_hang_40, rX24_hang_41, rX24_hang_42, rX24_hang_43, rX24_hang_44, rX24_hang_47, rX24_hang_50, rX24_hang_51, rX24_hang_55, rX24_hang_56, rX24_hang_59, rX24_hang_62, rX24_hang_63, rX24_hang_65, rX24_hang_66, rX24_hang_67, rX24_hang_68, rX24_hang_69, rX24_hang_72, rX24_hang_73, rX24_hang_75, rX24_hang_77, rX24_hang_80, rX24_hang_83, rX24_hang_84, rX24_hang_85, rX24_hang_87, rX24_hang_88, rX24_hang_89, rX24_hang_90, rX24_hang_93, rX24_hang_96, rX24_hang_99, rX24_hang_102, rX24_hang_105, rX24_hang_106, x0, xf, xt, xl, xw, xs, xe, xb, xa, xp, xh, l1, l2, l3, l4, l5, l6, c1, c2, c3, c4, c5, c6, kX24_meets hF0 hk hb ho, e2]
                cases bt (hp F set got b ||| (1 : Int32) <<< (nI b &&& 31)) o <;> cases fMe F b o <;> simpa using hR
            · rw [rX24_hang_53]
              have e : hp F set got (b + 1) = if decide (0 < fb_ct (fun o => bt (hp F set got b) o && fMe F b o) (F.1 0)) = true then hp F set got b ||| (1 : Int32) <<< (nI b &&& 31) else hp F set got b := by
                show hs F set b (hp F set got b) = _
                unfold hs mt
                simp [c1]
              rw [← e]
              simp (disch := first | omega | decide) only [pis_i, pis_l, pis_r, pis_n, p1_i, p1_r, p1_n, p1_u, pw0, pw1, pw2, pw3, pw4, pK_v, pK_0, pK_ite, if_true, if_false, if_pos, if_neg, Nat.reduceAdd, pok_r, i10, i01, Bool.true_or, Bool.or_true, Bool.and_true, Bool.true_and, Nat.add_sub_cancel, i1p1, i1p0, i0p1, i0p0, nIrem2, va_rf_s, bit1, bit0, pinT, pinLT, pin0, nIc, nIcL, nIlt, nIeq, nIltL, nILlt, nIeqL, nILeq, nIadL, nILad, nILmu, nI_add, nIsbL, nI_sub', decide_true, decide_false, Bool.false_or, Bool.or_false, rX24_hang_0, rX24_hang_1, rX24_hang_2, rX24_hang_3, rX24_hang_4, rX24_hang_5, rX24_hang_9, rX24_hang_10, rX24_hang_13, rX24_hang_14, rX24_hang_16, rX24_hang_17, rX24_hang_21, rX24_hang_22, rX24_hang_25, rX24_hang_28, rX24_hang_29, rX24_hang_31, rX24_hang_32, rX24_hang_33, rX24_hang_34, rX24_hang_37, rX24_hang_38, rX24_hang_40, rX24_hang_41, rX24_hang_42, rX24_hang_43, rX24_hang_44, rX24_hang_47, rX24_hang_50, rX24_hang_51, rX24_hang_55, rX24_hang_56, rX24_hang_59, rX24_hang_62, rX24_hang_63, rX24_hang_65, rX24_hang_66, rX24_hang_67, rX24_hang_68, rX24_hang_69, rX24_hang_72, rX24_hang_73, rX24_hang_75, rX24_hang_77, rX24_hang_80, rX24_hang_83, rX24_hang_84, rX24_hang_85, rX24_hang_87, rX24_hang_88, rX24_hang_89, rX24_hang_90, rX24_hang_93, rX24_hang_96, rX24_hang_99, rX24_hang_102, rX24_hang_105, rX24_hang_106, x0, xf, xt, xl, xw, xs, xe, xb, xa, xp, xh, l1, l2, l3, l4, l5, l6, c1, c2, c3, c4, c5, c6]
              exact ihb _ rfl
        · have e : hp F set got (b + 1) = hp F set got b := by
            show hs F set b (hp F set got b) = _
            unfold hs
            rw [if_neg (fun c => c1 c.1)]
          rw [e] at ihb
          have c1' : bt set b = false := by simpa using c1
          simp (disch := first | omega | decide) only [pis_i, pis_l, pis_r, pis_n, p1_i, p1_r, p1_n, p1_u, pw0, pw1, pw2, pw3, pw4, pK_v, pK_0, pK_ite, if_true, if_false, if_pos, if_neg, Nat.reduceAdd, pok_r, i10, i01, Bool.true_or, Bool.or_true, Bool.and_true, Bool.true_and, Nat.add_sub_cancel, i1p1, i1p0, i0p1, i0p0, nIrem2, va_rf_s, bit1, bit0, pinT, pinLT, pin0, nIc, nIcL, nIlt, nIeq, nIltL, nILlt, nIeqL, nILeq, nIadL, nILad, nILmu, nI_add, nIsbL, nI_sub', decide_true, decide_false, Bool.false_or, Bool.or_false, rX24_hang_0, rX24_hang_1, rX24_hang_2, rX24_hang_3, rX24_hang_4, rX24_hang_5, rX24_hang_9, rX24_hang_10, rX24_hang_13, rX24_hang_14, rX24_hang_16, rX24_hang_17, rX24_hang_21, rX24_hang_22, rX24_hang_25, rX24_hang_28, rX24_hang_29, rX24_hang_31, rX24_hang_32, rX24_hang_33, rX24_hang_34, rX24_hang_37, rX24_hang_38, rX24_hang_40, rX24_hang_41, rX24_hang_42, rX24_hang_43, rX24_hang_44, rX24_hang_47, rX24_hang_50, rX24_hang_51, rX24_hang_55, rX24_hang_56, rX24_hang_59, rX24_hang_62, rX24_hang_63, rX24_hang_65, rX24_hang_66, rX24_hang_67, rX24_hang_68, rX24_hang_69, rX24_hang_72, rX24_hang_73, rX24_hang_75, rX24_hang_77, rX24_hang_80, rX24_hang_83, rX24_hang_84, rX24_hang_85, rX24_hang_87, rX24_hang_88, rX24_hang_89, rX24_hang_90, rX24_hang_93, rX24_hang_96, rX24_hang_99, rX24_hang_102, rX24_hang_105, rX24_hang_106, x0, xf, xt, xl, xw, xs, xe, xb, xa, xp, xh, l1, l2, l3, l4, l5, l6, c1, c2, c3, c4, c5, c6, c1']
          exact ihb q6 h6
      · rw [rX24_hang_19]
        simp (disch := first | omega | decide) only [pis_i, pis_l, pis_r, pis_n, p1_i, p1_r, p1_n, p1_u, pw0, pw1, pw2, pw3, pw4, pK_v, pK_0, pK_ite, if_true, if_false, if_pos, if_neg, Nat.reduceAdd, pok_r, i10, i01, Bool.true_or, Bool.or_true, Bool.and_true, Bool.true_and, Nat.add_sub_cancel, i1p1, i1p0, i0p1, i0p0, nIrem2, va_rf_s, bit1, bit0, pinT, pinLT, pin0, nIc, nIcL, nIlt, nIeq, nIltL, nILlt, nIeqL, nILeq, nIadL, nILad, nILmu, nI_add, nIsbL, nI_sub', decide_true, decide_false, Bool.false_or, Bool.or_false, rX24_hang_0, rX24_hang_1, rX24_hang_2, rX24_hang_3, rX24_hang_4, rX24_hang_5, rX24_hang_9, rX24_hang_10, rX24_hang_13, rX24_hang_14, rX24_hang_16, rX24_hang_17, rX24_hang_21, rX24_hang_22, rX24_hang_25, rX24_hang_28, rX24_hang_29, rX24_hang_31, rX24_hang_32, rX24_hang_33, rX24_hang_34, rX24_hang_37, rX24_hang_38, rX24_hang_40, rX24_hang_41, rX24_hang_42, rX24_hang_43, rX24_hang_44, rX24_hang_47, rX24_hang_50, rX24_hang_51, rX24_hang_55, rX24_hang_56, rX24_hang_59, rX24_hang_62, rX24_hang_63, rX24_hang_65, rX24_hang_66, rX24_hang_67, rX24_hang_68, rX24_hang_69, rX24_hang_72, rX24_hang_73, rX24_hang_75, rX24_hang_77, rX24_hang_80, rX24_hang_83, rX24_hang_84, rX24_hang_85, rX24_hang_87, rX24_hang_88, rX24_hang_89, rX24_hang_90, rX24_hang_93, rX24_hang_96, rX24_hang_99, rX24_hang_102, rX24_hang_105, rX24_hang_106, x0, xf, xt, xl, xw, xs, xe, xb, xa, xp, xh, l1, l2, l3, l4, l5, l6, c1, c2, c3, c4, c5, c6]
        rw [hx]
        by_cases he : hp F set got (F.1 0) = got
        · rw [if_pos he, he, rX24_hang_7]
          simp (disch := first | omega | decide) only [pis_i, pis_l, pis_r, pis_n, p1_i, p1_r, p1_n, p1_u, pw0, pw1, pw2, pw3, pw4, pK_v, pK_0, pK_ite, if_true, if_false, if_pos, if_neg, Nat.reduceAdd, pok_r, i10, i01, Bool.true_or, Bool.or_true, Bool.and_true, Bool.true_and, rX24_hang_0, rX24_hang_1, rX24_hang_2, rX24_hang_3, rX24_hang_4, rX24_hang_5, rX24_hang_9, rX24_hang_10, rX24_hang_13, rX24_hang_14, rX24_hang_16, rX24_hang_17, rX24_hang_21, rX24_hang_22, rX24_hang_25, rX24_hang_28, rX24_hang_29, rX24_hang_31, rX24_hang_32, rX24_hang_33, rX24_hang_34, rX24_hang_37, rX24_hang_38, rX24_hang_40, rX24_hang_41, rX24_hang_42, rX24_hang_43, rX24_hang_44, rX24_hang_47, rX24_hang_50, rX24_hang_51, rX24_hang_55, rX24_hang_56, rX24_hang_59, rX24_hang_62, rX24_hang_63, rX24_hang_65, rX24_hang_66, rX24_hang_67, rX24_hang_68, rX24_hang_69, rX24_hang_72, rX24_hang_73, rX24_hang_75, rX24_hang_77, rX24_hang_80, rX24_hang_83, rX24_hang_84, rX24_hang_85, rX24_hang_87, rX24_hang_88, rX24_hang_89, rX24_hang_90, rX24_hang_93, rX24_hang_96, rX24_hang_99, rX24_hang_102, rX24_hang_105, rX24_hang_106]
        · rw [if_neg he]
          have hin' := hp_in (F := F) hset hin (F.1 0) (by omega)
          refine ih _ _ _ _ rfl h6 (fun e => he e.symm) hin' ?_
          have := ct_ne (show F.1 0 ≤ 32 by omega) (hp_sub (F := F) (set := set) (got := got) (F.1 0)) hin hin' (fun e => he e.symm)
          have := fb_ct_le (bt (hp F set got (F.1 0))) (F.1 0)
          omega
  rw [eX24_hang]
  simp (disch := first | omega | decide) only [pis_i, pis_l, pis_r, pis_n, p1_i, p1_r, p1_n, p1_u, pw0, pw1, pw2, pw3, pw4, pK_v, pK_0, pK_ite, if_true, if_false, if_pos, if_neg, Nat.reduceAdd, pok_r, i10, i01, Bool.true_or, Bool.or_true, Bool.and_true, Bool.true_and, rX24_hang_0, rX24_hang_1, rX24_hang_2, rX24_hang_3, rX24_hang_4, rX24_hang_5, rX24_hang_9, rX24_hang_10, rX24_hang_13, rX24_hang_14, rX24_hang_16, rX24_hang_17, rX24_hang_21, rX24_hang_22, rX24_hang_25, rX24_hang_28, rX24_hang_29, rX24_hang_31, rX24_hang_32, rX24_hang_33, rX24_hang_34, rX24_hang_37, rX24_hang_38, rX24_hang_40, rX24_hang_41, rX24_hang_42, rX24_hang_43, rX24_hang_44, rX24_hang_47, rX24_hang_50, rX24_hang_51, rX24_hang_55, rX24_hang_56, rX24_hang_59, rX24_hang_62, rX24_hang_63, rX24_hang_65, rX24_hang_66, rX24_hang_67, rX24_hang_68, rX24_hang_69, rX24_hang_72, rX24_hang_73, rX24_hang_75, rX24_hang_77, rX24_hang_80, rX24_hang_83, rX24_hang_84, rX24_hang_85, rX24_hang_87, rX24_hang_88, rX24_hang_89, rX24_hang_90, rX24_hang_93, rX24_hang_96, rX24_hang_99, rX24_hang_102, rX24_hang_105, rX24_hang_106]
  refine outer 25 _ _ _ _ rfl rfl (fun e => ?_) (fun i hi hn => ?_) (by omega)
  · have := congrArg (fun z => bt z w) e
    simp only [b_0, bt_1 (show w < 32 by omega) (show w < 32 by omega)] at this
    simp at this
  · rw [bt_1 (by omega) hi]; simp; omega
end
