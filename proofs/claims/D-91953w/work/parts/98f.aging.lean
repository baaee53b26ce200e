/-! AGING 1: the plain law; the component's hour -/
set_option maxRecDepth 100000
def agE (F : Fig) (L : Int32) (b : Nat) : Nat := fb_sm (fLe F (F.2.1 0 b) L) (F.1 0) + fb_sm (fLe F (F.2.1 1 b) L) (F.1 0)
def mx0 (a w : Int32) : Int32 := if 0 < (if w < a then w else a) then (if w < a then w else a) else 0
theorem mx0_e {a w : Int32} : (if 0 < (if w < a then w else a) then (if w < a then w else a) else 0) = mx0 a w := rfl
/-- the worth that is asked for -/
def agW (cl : List Cl) (F : Fig) (so : Nat → Nat → Int32) (hr L : Int32) (A : Nat → Int32) (b : Nat) : Int32 := wth (Lf (A b) hr (nI (agE F L b)) (so (F.2.1 3 (F.2.1 2 b)) 1) (so (F.2.1 3 (F.2.1 2 b)) 0)) cl
def agA (cl : List Cl) (F : Fig) (so : Nat → Nat → Int32) (hr L : Int32) (A : Nat → Int32) (b : Nat) : Int32 := if bt L b = true then A b else A b - mx0 (A b) (agW cl F so hr L A b)
def agB (cl : List Cl) (F : Fig) (so : Nat → Nat → Int32) (hr L : Int32) (A : Nat → Int32) (k b : Nat) : Int32 := if b < k then agA cl F so hr L A b else A b
def agL (L : Int32) (A' : Nat → Int32) : Nat → Int32
  | 0 => L
  | k + 1 => if bt L k = true then agL L A' k else if A' k = 0 then agL L A' k ||| (1 : Int32) <<< (nI k &&& 31) else agL L A' k
theorem agL_in {n : Nat} {L : Int32} {A' : Nat → Int32} (hn : n ≤ 32) (hL : inS n L) : ∀ k, k ≤ n → inS n (agL L A' k) := by
  intro k
  induction k with
  | zero => intro _; exact hL
  | succ k ih =>
    intro hk
    rw [agL]
    split
    · exact ih (by omega)
    · split
      · exact or1_in (ih (by omega)) (by omega) hn
      · exact ih (by omega)
theorem agL_bt {L : Int32} {A' : Nat → Int32} : ∀ k, k ≤ 32 → ∀ i, i < 32 → bt (agL L A' k) i = (bt L i || (decide (i < k) && decide (A' i = 0))) := by
  intro k
  induction k with
  | zero => intro _ i hi; simp [agL]
  | succ k ih =>
    intro hk i hi
    rw [agL]
    by_cases c1 : bt L k = true
    · rw [if_pos c1, ih (by omega) i hi]
      by_cases e : i = k
      · subst e; simp [c1]
      · have : (i < k + 1) = (i < k) := by apply propext; omega
        simp only [this]
    · rw [if_neg c1]
      by_cases c2 : A' k = 0
      · rw [if_pos c2, b_or, bt_1 (by omega) hi, ih (by omega) i hi]
        by_cases e : i = k
        · subst e; simp [c2]
        · have : (i < k + 1) = (i < k) := by apply propext; omega
          simp [this, e]
      · rw [if_neg c2, ih (by omega) i hi]
        by_cases e : i = k
        · subst e; simp [c2]
        · have : (i < k + 1) = (i < k) := by apply propext; omega
          simp only [this]
theorem nI_nn {n : Nat} (h : n < 1000) : (0 : Int32) ≤ nI n := by
  have h1 : ¬ nI n < nI 0 := by rw [nIlt (by omega) (by omega)]; omega
  have h2 : ¬ nI n < 0 := h1
  exact Int32.not_lt.mp h2
theorem agB_k {cl : List Cl} {F : Fig} {so : Nat → Nat → Int32} {hr L : Int32} {A : Nat → Int32} {k : Nat} : agB cl F so hr L A k k = A k := by simp [agB]
theorem agB_s {cl : List Cl} {F : Fig} {so : Nat → Nat → Int32} {hr L : Int32} {A : Nat → Int32} {k : Nat} : agB cl F so hr L A (k + 1) = upd (agB cl F so hr L A k) k (agA cl F so hr L A k) := by
  funext b
  unfold agB upd
  by_cases e : b = k
  · subst e; simp
  · have : (b < k + 1) = (b < k) := by apply propext; omega
    simp [e, this]
theorem agB_l {cl : List Cl} {F : Fig} {so : Nat → Nat → Int32} {hr L : Int32} {A : Nat → Int32} {k : Nat} (h : bt L k = true) : agB cl F so hr L A (k + 1) = agB cl F so hr L A k := by
  rw [agB_s]
  funext b
  unfold upd
  split
  · rename_i e; subst e; rw [agB_k, agA, if_pos h]
  · rfl
theorem agB_0 {cl : List Cl} {F : Fig} {so : Nat → Nat → Int32} {hr L : Int32} {A : Nat → Int32} : agB cl F so hr L A 0 = A := by
  funext b; simp [agB]
/-- the component while it ages -/
def xAg (X : XS) (L : Int32) (A B : Nat → Int32) : XS := (upd X.1 22 L, us (us X.2.1 13 A) 12 B, X.2.2)
section
variable {X : XS} {L v : Int32} {A B : Nat → Int32} {i : Nat} {l1 l2 l3 l4 l5 : Int32}
theorem xAg_22 : (xAg X L A B).1 22 = L := by show upd X.1 22 L 22 = L; exact upd_same
theorem xAg_f {k : Nat} (h : k ≠ 22) : (xAg X L A B).1 k = X.1 k := upd_ne h
theorem xAg_13 : (xAg X L A B).2.1 13 = A := by show us (us X.2.1 13 A) 12 B 13 = A; rw [us_ne (by decide), us_same]
theorem xAg_q : (xAg X L A B).2.2 = X.2.2 := rfl
theorem xAg_p : ((upd (xAg X L A B).1 22 v, (xAg X L A B).2) : XS) = xAg X v A B := by unfold xAg; rw [upd_upd]
theorem xAg_p' : ((upd (xAg X L A B).1 22 v, (xAg X L A B).2.1, X.2.2) : XS) = xAg X v A B := xAg_p
theorem xAg_w : (((xAg X L A B).1, ua (xAg X L A B).2.1 13 i v, X.2.2) : XS) = xAg X L (upd A i v) B := by
  rw [ua_us, xAg_13]
  unfold xAg
  rw [us_c (j := 12) (j2 := 13) (by decide), us_us, us_c (j := 13) (j2 := 12) (by decide), us_c (j := 12) (j2 := 13) (by decide)]
theorem xAg_L : xL (xAg X L A B) l1 l2 l3 l4 l5 = xAg X L A (Lw B l1 l2 l3 l4 l5) := by
  have e : (xAg X L A B).2.1 12 = B := by show us (us X.2.1 13 A) 12 B 12 = B; exact us_same
  unfold xL
  rw [e]
  unfold xAg
  rw [us_us]
theorem xAg_xsc : xsc X (xAg X L A B) := ⟨fun k hk => upd_ne hk, by show us (us X.2.1 13 A) 12 B 2 = _; rw [us_ne (by decide), us_ne (by decide)], rfl⟩
end
section
variable {d x f a : Nat} {h : pH} {X : XS} {F : Fig} {cl : List Cl} {n : Nat} {so : Nat → Nat → Int32} {sa : Nat → Nat} {L hr : Int32} {A : Nat → Int32}
theorem xho_l (hF1 : FigAt h f F) (hf : x + 14 ≤ f) (hk : FigOk F) (hr1 : RuAt x h cl a) (hX : XSo0 x X h n so sa) (hn : n ≤ 6) (hs : ∀ b, b < F.1 1 → F.2.1 3 b < n) (hL : inS (F.1 0) L) : ∀ j k B (q6 q7 : Value), p1 q6 = true → p1 q7 = true → k + j = F.1 0 → ∃ B', pR 58 (d + 203) 9 [.ref x, .ref f, .ref a, .int hr, .int L, .int (nI k), q6, q7] [] (xput h x (xAg X (agL L (agA cl F so hr L A) k) (agB cl F so hr L A k) B)) = some (.inl none, xput h x (xAg X (fx F 25 (agL L (agA cl F so hr L A) (F.1 0))) (agB cl F so hr L A (F.1 0)) B')) := by
  intro j
  induction j with
  | zero =>
    intro k B q6 q7 h6 h7 hj
    have hj : k = F.1 0 := by omega
    subst hj
    refine ⟨B, ?_⟩
    have hF := hF1.put (X := xAg X (agL L (agA cl F so hr L A) (F.1 0)) (agB cl F so hr L A (F.1 0)) B) hf
    obtain ⟨x0, xf, xt, xl, xw, xs, xe, xb, xa, xp, xh⟩ := hF.o
    have k1 := hk.1
    have hlo := kX24_lostWith (d := d + 201) hF hk (agL_in (A' := agA cl F so hr L A) (show F.1 0 ≤ 32 by omega) hL (F.1 0) (Nat.le_refl _))
    rw [rX1_hour_9]
    simp (disch := first | assumption | omega | decide) only [pis_i, pis_l, pis_r, pis_n, p1_i, p1_r, p1_n, p1_u, pw0, pw1, pw2, pw3, pw4, pK_v, pK_0, pK_ite, if_true, if_false, if_pos, if_neg, Nat.reduceAdd, pok_r, i10, i01, Bool.true_or, Bool.or_true, Bool.and_true, Bool.true_and, Nat.add_sub_cancel, i1p1, i1p0, i0p1, i0p0, nIrem2, va_rf_s, bit1, bit0, pinT, pinLT, pin0, nIc, nIcL, nIlt, nIeq, nIltL, nILlt, nIeqL, nILeq, nIadL, nILad, nILmu, nI_add, nIsbL, nI_sub', decide_true, decide_false, Bool.false_or, Bool.or_false, rX1_hour_0, rX1_hour_1, rX1_hour_4, rX1_hour_6, rX1_hour_7, rX1_hour_11, rX1_hour_11n, rX1_hour_12, rX1_hour_15, rX1_hour_18, rX1_hour_20, rX1_hour_22, rX1_hour_23, rX1_hour_24, rX1_hour_25, rX1_hour_26, rX1_hour_29, rX1_hour_32, rX1_hour_33, rX1_hour_36, rX1_hour_36n, rX1_hour_37, rX1_hour_40, rX1_hour_40n, rX1_hour_41, rX1_hour_44, rX1_hour_46, rX1_hour_47, rX1_hour_48, rX1_hour_49, rX1_hour_49n, rX1_hour_51, rX1_hour_52, rX1_hour_52n, rX1_hour_53, rX1_hour_54, rX1_hour_57, rX1_hour_59, rX1_hour_60, rX1_hour_61, rX1_hour_61n, rX1_hour_62, rX1_hour_64, rX1_hour_64n, rX1_hour_65, rX1_hour_68, rX1_hour_70, rX1_hour_71, rX1_hour_74, rX1_hour_74n, rX1_hour_75, rX1_hour_77, rX1_hour_77n, rX1_hour_78, rX1_hour_81, rX1_hour_83, rX1_hour_84, rX1_hour_87, rX1_hour_88, rX1_hour_88n, rX1_hour_90, rX1_hour_93, rX1_hour_93n, rX1_hour_95, rX1_hour_98, rX1_hour_101, rX1_hour_103, rX1_hour_104, rX1_hour_107, rX1_hour_109, rX1_hour_110, rX1_hour_111, rX1_hour_112, rX1_hour_113, rX1_hour_116, rX1_hour_118, rX1_hour_119, rX1_hour_121, rX1_hour_124, rX1_hour_127, rX1_hour_128, rX1_hour_129, rX1_hour_130, rX1_hour_133, rX1_hour_135, rX1_hour_136, rX1_hour_139, rX1_hour_140, rX1_hour_140i, rX1_hour_141, rX1_hour_144, rX1_hour_145, rX1_hour_147, rX1_hour_148, rX1_hour_149, rX1_hour_152, rX1_hour_155, rX1_hour_158, rX1_hour_159, rX1_hour_159n, rX1_hour_160, rX1_hour_161, rX1_hour_164, rX1_hour_167, rX1_hour_170, xCl, xF0, xF1, xP1, xF2, xF3, xP3, xF4, xF5, xP5, xF6, xF7, xF8, xF9, xF10, xF11, xF12, xP12, xF13, xP13, xF14, xP14, xF15, xP15, xF16, xP16, xF17, xP17, xF18, xF19, xF20, xP20, xF21, xF22, xP22, xL2, xL2n, xC2, xW2, xL4, xL4n, xC4, xW4, xL5, xL5n, xC5, xW5, xL6, xL6n, xC6, xW6, xL7, xL7n, xC7, xW7, xL8, xL8n, xC8, xW8, xL12, xL12n, xC12, xW12, xL13, xL13n, xC13, xW13, xL1, xK1, xC1, xW1, xL3, xK3, xC3, xW3, xL9, xK9, xC9, xW9, xL10, xK10, xC10, xW10, xLf, xLc, x0, xb, xAg_22, hlo, xAg_p, xAg_p', xAg_q]
  | succ j ih =>
    intro k B q6 q7 h6 h7 hj
    have hF := hF1.put (X := xAg X (agL L (agA cl F so hr L A) k) (agB cl F so hr L A k) B) hf
    have hFF := hF
    (obtain ⟨x0, xf, xt, xl, xw, xs, xe, xb, xa, xp, xh⟩ := hF.o; obtain ⟨⟨l1, c1⟩, ⟨l2, c2⟩, ⟨l3, c3⟩, ⟨l4, c4⟩, ⟨l5, c5⟩, ⟨l6, c6⟩⟩ := hF.a; have hk' := hk; obtain ⟨k1, k2, k3, k4, k5, k6⟩ := hk')
    have hkk : k < F.1 0 := by omega
    have k5b := k5 k hkk
    rw [rX1_hour_9]
    by_cases hb : bt L k = true
    · obtain ⟨B', hB⟩ := ih (k + 1) B q6 q7 h6 h7 (by omega)
      rw [agB_l hb, agL, if_pos hb] at hB
      refine ⟨B', ?_⟩
      simp (disch := first | assumption | omega | decide) only [pis_i, pis_l, pis_r, pis_n, p1_i, p1_r, p1_n, p1_u, pw0, pw1, pw2, pw3, pw4, pK_v, pK_0, pK_ite, if_true, if_false, if_pos, if_neg, Nat.reduceAdd, pok_r, i10, i01, Bool.true_or, Bool.or_true, Bool.and_true, Bool.true_and, Nat.add_sub_cancel, i1p1, i1p0, i0p1, i0p0, nIrem2, va_rf_s, bit1, bit0, pinT, pinLT, pin0, nIc, nIcL, nIlt, nIeq, nIltL, nILlt, nIeqL, nILeq, nIadL, nILad, nILmu, nI_add, nIsbL, nI_sub', decide_true, decide_false, Bool.false_or, Bool.or_false, rX1_hour_0, rX1_hour_1, rX1_hour_4, rX1_hour_6, rX1_hour_7, rX1_hour_11, rX1_hour_11n, rX1_hour_12, rX1_hour_15, rX1_hour_18, rX1_hour_20, rX1_hour_22, rX1_hour_23, rX1_hour_24, rX1_hour_25, rX1_hour_26, rX1_hour_29, rX1_hour_32, rX1_hour_33, rX1_hour_36, rX1_hour_36n, rX1_hour_37, rX1_hour_40, rX1_hour_40n, rX1_hour_41, rX1_hour_44, rX1_hour_46, rX1_hour_47, rX1_hour_48, rX1_hour_49, rX1_hour_49n, rX1_hour_51, rX1_hour_52, rX1_hour_52n, rX1_hour_53, rX1_hour_54, rX1_hour_57, rX1_hour_59, rX1_hour_60, rX1_hour_61, rX1_hour_61n, rX1_hour_62, rX1_hour_64, rX1_hour_64n, rX1_hour_65, rX1_hour_68, rX1_hour_70, rX1_hour_71, rX1_hour_74, rX1_hour_74n, rX1_hour_75, rX1_hour_77, rX1_hour_77n, rX1_hour_78, rX1_hour_81, rX1_hour_83, rX1_hour_84, rX1_hour_87, rX1_hour_88, rX1_hour_88n, rX1_hour_90, rX1_hour_93, rX1_hour_93n, rX1_hour_95, rX1_hour_98, rX1_hour_101, rX1_hour_103, rX1_hour_104, rX1_hour_107, rX1_hour_109, rX1_hour_110, rX1_hour_111, rX1_hour_112, rX1_hour_113, rX1_hour_116, rX1_hour_118, rX1_hour_119, rX1_hour_121, rX1_hour_124, rX1_hour_127, rX1_hour_128, rX1_hour_129, rX1_hour_130, rX1_hour_133, rX1_hour_135, rX1_hour_136, rX1_hour_139, rX1_hour_140, rX1_hour_140i, rX1_hour_141, rX1_hour_144, rX1_hour_145, rX1_hour_147, rX1_hour_148, rX1_hour_149, rX1_hour_152, rX1_hour_155, rX1_hour_158, rX1_hour_159, rX1_hour_159n, rX1_hour_160, rX1_hour_161, rX1_hour_164, rX1_hour_167, rX1_hour_170, xb, hb, hB]
    · have hso := hs _ k5b.2.2
      obtain ⟨z0, z1, z2⟩ := hX.2 _ hso
      obtain ⟨y0, y1, y2, -⟩ := (z2.put (X := xAg X (agL L (agA cl F so hr L A) k) (agB cl F so hr L A k) B) z1).o
      have u1 := kX24_left (d := d + 202) (p := F.2.1 0 k) (set := L) hFF hk (by omega)
      have u2 := kX24_left (d := d + 202) (p := F.2.1 1 k) (set := L) hFF hk (by omega)
      have v1 := fb_sm_bound (f := fLe F (F.2.1 0 k) L) (c := 2) (n := F.1 0) (fun k _ => by unfold fLe; split <;> (try split) <;> (try split) <;> omega)
      have v2 := fb_sm_bound (f := fLe F (F.2.1 1 k) L) (c := 2) (n := F.1 0) (fun k _ => by unfold fLe; split <;> (try split) <;> (try split) <;> omega)
      have hw := kX1_worthOf (d := d) (X := xAg X (agL L (agA cl F so hr L A) k) (agB cl F so hr L A k) B) (l1 := A k) (l2 := hr) (l3 := nI (agE F L k)) (l4 := so (F.2.1 3 (F.2.1 2 k)) 1) (l5 := so (F.2.1 3 (F.2.1 2 k)) 0) hr1
      rw [xAg_L] at hw
      unfold agE at hw
      have hw' : wth (Lf (A k) hr (nI (fb_sm (fLe F (F.2.1 0 k) L) (F.1 0) + fb_sm (fLe F (F.2.1 1 k) L) (F.1 0))) (so (F.2.1 3 (F.2.1 2 k)) 1) (so (F.2.1 3 (F.2.1 2 k)) 0)) cl = agW cl F so hr L A k := rfl
      rw [hw'] at hw
      have eA : agA cl F so hr L A k = A k - mx0 (A k) (agW cl F so hr L A k) := by rw [agA, if_neg hb]
      obtain ⟨B', hB⟩ := ih (k + 1) (Lw B (A k) hr (nI (agE F L k)) (so (F.2.1 3 (F.2.1 2 k)) 1) (so (F.2.1 3 (F.2.1 2 k)) 0)) (.ref (sa (F.2.1 3 (F.2.1 2 k)))) (.int (agW cl F so hr L A k)) rfl rfl (by omega)
      rw [agB_s, agL, if_neg hb, eA] at hB
      unfold agE at hB
      have hpw : ∀ v1 v2 v3 : Int32, pw [.int v1, .int v2, .int v3, .ref a, .ref x] = true := fun _ _ _ => rfl
      refine ⟨B', ?_⟩
      by_cases hz : A k - mx0 (A k) (agW cl F so hr L A k) = 0
      · rw [if_pos hz, hz] at hB
        simp (disch := first | assumption | omega | decide) only [pis_i, pis_l, pis_r, pis_n, p1_i, p1_r, p1_n, p1_u, pw0, pw1, pw2, pw3, pw4, pK_v, pK_0, pK_ite, if_true, if_false, if_pos, if_neg, Nat.reduceAdd, pok_r, i10, i01, Bool.true_or, Bool.or_true, Bool.and_true, Bool.true_and, Nat.add_sub_cancel, i1p1, i1p0, i0p1, i0p0, nIrem2, va_rf_s, bit1, bit0, pinT, pinLT, pin0, nIc, nIcL, nIlt, nIeq, nIltL, nILlt, nIeqL, nILeq, nIadL, nILad, nILmu, nI_add, nIsbL, nI_sub', decide_true, decide_false, Bool.false_or, Bool.or_false, rX1_hour_0, rX1_hour_1, rX1_hour_4, rX1_hour_6, rX1_hour_7, rX1_hour_11, rX1_hour_11n, rX1_hour_12, rX1_hour_15, rX1_hour_18, rX1_hour_20, rX1_hour_22, rX1_hour_23, rX1_hour_24, rX1_hour_25, rX1_hour_26, rX1_hour_29, rX1_hour_32, rX1_hour_33, rX1_hour_36, rX1_hour_36n, rX1_hour_37, rX1_hour_40, rX1_hour_40n, rX1_hour_41, rX1_hour_44, rX1_hour_46, rX1_hour_47, rX1_hour_48, rX1_hour_49, rX1_hour_49n, rX1_hour_51, rX1_hour_52, rX1_hour_52n, rX1_hour_53, rX1_hour_54, rX1_hour_57, rX1_hour_59, rX1_hour_60, rX1_hour_61, rX1_hour_61n, rX1_hour_62, rX1_hour_64, rX1_hour_64n, rX1_hour_65, rX1_hour_68, rX1_hour_70, rX1_hour_71, rX1_hour_74, rX1_hour_74n, rX1_hour_75, rX1_hour_77, rX1_hour_77n, rX1_hour_78, rX1_hour_81, rX1_hour_83, rX1_hour_84, rX1_hour_87, rX1_hour_88, rX1_hour_88n, rX1_hour_90, rX1_hour_93, rX1_hour_93n, rX1_hour_95, rX1_hour_98, rX1_hour_101, rX1_hour_103, rX1_hour_104, rX1_hour_107, rX1_hour_109, rX1_hour_110, rX1_hour_111, rX1_hour_112, rX1_hour_113, rX1_hour_116, rX1_hour_118, rX1_hour_119, rX1_hour_121, rX1_hour_124, rX1_hour_127, rX1_hour_128, rX1_hour_129, rX1_hour_130, rX1_hour_133, rX1_hour_135, rX1_hour_136, rX1_hour_139, rX1_hour_140, rX1_hour_140i, rX1_hour_141, rX1_hour_144, rX1_hour_145, rX1_hour_147, rX1_hour_148, rX1_hour_149, rX1_hour_152, rX1_hour_155, rX1_hour_158, rX1_hour_159, rX1_hour_159n, rX1_hour_160, rX1_hour_161, rX1_hour_164, rX1_hour_167, rX1_hour_170, xCl, xF0, xF1, xP1, xF2, xF3, xP3, xF4, xF5, xP5, xF6, xF7, xF8, xF9, xF10, xF11, xF12, xP12, xF13, xP13, xF14, xP14, xF15, xP15, xF16, xP16, xF17, xP17, xF18, xF19, xF20, xP20, xF21, xF22, xP22, xL2, xL2n, xC2, xW2, xL4, xL4n, xC4, xW4, xL5, xL5n, xC5, xW5, xL6, xL6n, xC6, xW6, xL7, xL7n, xC7, xW7, xL8, xL8n, xC8, xW8, xL12, xL12n, xC12, xW12, xL13, xL13n, xC13, xW13, xL1, xK1, xC1, xW1, xL3, xK3, xC3, xW3, xL9, xK9, xC9, xW9, xL10, xK10, xC10, xW10, xLf, xLc, x0, xf, xt, xl, xw, xs, xe, xb, xa, xp, xh, l1, l2, l3, l4, l5, l6, c1, c2, c3, c4, c5, c6, hb, xAg_13, xAg_22, xAg_q, z0, y0, y1, y2, u1, u2, agB_k, hw, hpw, mx0_e, xAg_w, xAg_p, xAg_p', upd_same, hz]
        exact hB
      · rw [if_neg hz] at hB
        simp (disch := first | assumption | omega | decide) only [pis_i, pis_l, pis_r, pis_n, p1_i, p1_r, p1_n, p1_u, pw0, pw1, pw2, pw3, pw4, pK_v, pK_0, pK_ite, if_true, if_false, if_pos, if_neg, Nat.reduceAdd, pok_r, i10, i01, Bool.true_or, Bool.or_true, Bool.and_true, Bool.true_and, Nat.add_sub_cancel, i1p1, i1p0, i0p1, i0p0, nIrem2, va_rf_s, bit1, bit0, pinT, pinLT, pin0, nIc, nIcL, nIlt, nIeq, nIltL, nILlt, nIeqL, nILeq, nIadL, nILad, nILmu, nI_add, nIsbL, nI_sub', decide_true, decide_false, Bool.false_or, Bool.or_false, rX1_hour_0, rX1_hour_1, rX1_hour_4, rX1_hour_6, rX1_hour_7, rX1_hour_11, rX1_hour_11n, rX1_hour_12, rX1_hour_15, rX1_hour_18, rX1_hour_20, rX1_hour_22, rX1_hour_23, rX1_hour_24, rX1_hour_25, rX1_hour_26, rX1_hour_29, rX1_hour_32, rX1_hour_33, rX1_hour_36, rX1_hour_36n, rX1_hour_37, rX1_hour_40, rX1_hour_40n, rX1_hour_41, rX1_hour_44, rX1_hour_46, rX1_hour_47, rX1_hour_48, rX1_hour_49, rX1_hour_49n, rX1_hour_51, rX1_hour_52, rX1_hour_52n, rX1_hour_53, rX1_hour_54, rX1_hour_57, rX1_hour_59, rX1_hour_60, rX1_hour_61, rX1_hour_61n, rX1_hour_62, rX1_hour_64, rX1_hour_64n, rX1_hour_65, rX1_hour_68, rX1_hour_70, rX1_hour_71, rX1_hour_74, rX1_hour_74n, rX1_hour_75, rX1_hour_77, rX1_hour_77n, rX1_hour_78, rX1_hour_81, rX1_hour_83, rX1_hour_84, rX1_hour_87, rX1_hour_88, rX1_hour_88n, rX1_hour_90, rX1_hour_93, rX1_hour_93n, rX1_hour_95, rX1_hour_98, rX1_hour_101, rX1_hour_103, rX1_hour_104, rX1_hour_107, rX1_hour_109, rX1_hour_110, rX1_hour_111, rX1_hour_112, rX1_hour_113, rX1_hour_116, rX1_hour_118, rX1_hour_119, rX1_hour_121, rX1_hour_124, rX1_hour_127, rX1_hour_128, rX1_hour_129, rX1_hour_130, rX1_hour_133, rX1_hour_135, rX1_hour_136, rX1_hour_139, rX1_hour_140, rX1_hour_140i, rX1_hour_141, rX1_hour_144, rX1_hour_145, rX1_hour_147, rX1_hour_148, rX1_hour_149, rX1_hour_152, rX1_hour_155, rX1_hour_158, rX1_hour_159, rX1_hour_159n, rX1_hour_160, rX1_hour_161, rX1_hour_164, rX1_hour_167, rX1_hour_170, xCl, xF0, xF1, xP1, xF2, xF3, xP3, xF4, xF5, xP5, xF6, xF7, xF8, xF9, xF10, xF11, xF12, xP12, xF13, xP13, xF14, xP14, xF15, xP15, xF16, xP16, xF17, xP17, xF18, xF19, xF20, xP20, xF21, xF22, xP22, xL2, xL2n, xC2, xW2, xL4, xL4n, xC4, xW4, xL5, xL5n, xC5, xW5, xL6, xL6n, xC6, xW6, xL7, xL7n, xC7, xW7, xL8, xL8n, xC8, xW8, xL12, xL12n, xC12, xW12, xL13, xL13n, xC13, xW13, xL1, xK1, xC1, xW1, xL3, xK3, xC3, xW3, xL9, xK9, xC9, xW9, xL10, xK10, xC10, xW10, xLf, xLc, x0, xf, xt, xl, xw, xs, xe, xb, xa, xp, xh, l1, l2, l3, l4, l5, l6, c1, c2, c3, c4, c5, c6, hb, xAg_13, xAg_22, xAg_q, z0, y0, y1, y2, u1, u2, agB_k, hw, hpw, mx0_e, xAg_w, xAg_p, xAg_p', upd_same, hz]
        exact hB
theorem kX1_hour (hF1 : FigAt h f F) (hf : x + 14 ≤ f) (hk : FigOk F) (hr1 : RuAt x h cl a) (hX : XSo0 x X h n so sa) (hn : n ≤ 6) (hs : ∀ b, b < F.1 1 → F.2.1 3 b < n) (hL : inS (F.1 0) L) (B : Nat → Int32) : ∃ B', pCa 58 (d + 203) [.ref x, .ref f, .ref a, .int hr] (xput h x (xAg X L A B)) = some (.inl none, xput h x (xAg X (fx F 25 (agL L (agA cl F so hr L A) (F.1 0))) (agB cl F so hr L A (F.1 0)) B')) := by
  obtain ⟨B', hB⟩ := xho_l (d := d) (A := A) (hr := hr) hF1 hf hk hr1 hX hn hs hL (F.1 0) 0 B pU pU rfl rfl (by omega)
  refine ⟨B', ?_⟩
  rw [agB_0, agL] at hB
  rw [eX1_hour]
  simp (disch := first | assumption | omega | decide) only [pis_i, pis_l, pis_r, pis_n, p1_i, p1_r, p1_n, p1_u, pw0, pw1, pw2, pw3, pw4, pK_v, pK_0, pK_ite, if_true, if_false, if_pos, if_neg, Nat.reduceAdd, pok_r, i10, i01, Bool.true_or, Bool.or_true, Bool.and_true, Bool.true_and, Nat.add_sub_cancel, i1p1, i1p0, i0p1, i0p0, nIrem2, va_rf_s, bit1, bit0, pinT, pinLT, pin0, nIc, nIcL, nIlt, nIeq, nIltL, nILlt, nIeqL, nILeq, nIadL, nILad, nILmu, nI_add, nIsbL, nI_sub', decide_true, decide_false, Bool.false_or, Bool.or_false, rX1_hour_0, rX1_hour_1, rX1_hour_4, rX1_hour_6, rX1_hour_7, xCl, xF0, xF1, xP1, xF2, xF3, xP3, xF4, xF5, xP5, xF6, xF7, xF8, xF9, xF10, xF11, xF12, xP12, xF13, xP13, xF14, xP14, xF15, xP15, xF16, xP16, xF17, xP17, xF18, xF19, xF20, xP20, xF21, xF22, xP22, xL2, xL2n, xC2, xW2, xL4, xL4n, xC4, xW4, xL5, xL5n, xC5, xW5, xL6, xL6n, xC6, xW6, xL7, xL7n, xC7, xW7, xL8, xL8n, xC8, xW8, xL12, xL12n, xC12, xW12, xL13, xL13n, xC13, xW13, xL1, xK1, xC1, xW1, xL3, xK3, xC3, xW3, xL9, xK9, xC9, xW9, xL10, xK10, xC10, xW10, xLf, xLc, xAg_22]
  exact hB
theorem kX1_fresh (hF1 : FigAt h f F) (hf : x + 14 ≤ f) (hk : FigOk F) : ∃ A, pCa 57 (d + 1) [.ref x, .ref f] (xput h x X) = some (.inl none, xput h x (xAg X 0 A (X.2.1 12))) ∧ ∀ b, b < F.1 0 → A b = F.2.2 b := by
  have hF := hF1.put (X := X) hf
  (obtain ⟨x0, xf, xt, xl, xw, xs, xe, xb, xa, xp, xh⟩ := hF.o; obtain ⟨⟨l1, c1⟩, ⟨l2, c2⟩, ⟨l3, c3⟩, ⟨l4, c4⟩, ⟨l5, c5⟩, ⟨l6, c6⟩⟩ := hF.a; have hk' := hk; obtain ⟨k1, k2, k3, k4, k5, k6⟩ := hk')
  have e13 : (xput h x X).1 (x + 13) = some (.inl (0, 24, .inl (X.2.1 13))) := xA13
  have hp : pcp (xput h x X) (f + 3) 0 (x + 13) 0 (F.1 0) = xput h x (X.1, us X.2.1 13 (va_cpy (pct (xput h x X) (f + 3)) (X.2.1 13) 0 0 (F.1 0)), X.2.2) := by
    simp only [pcp, e13]
    refine xput_up (j := 13) (by decide) ?_ (fun i hi h0 => ?_)
    · simp [xcell, us]
    · match i, h0 with
      | 0, h0 => rfl
      | 1, h0 => rfl
      | 2, h0 => rfl
      | 3, h0 => rfl
      | 4, h0 => rfl
      | 5, h0 => rfl
      | 6, h0 => rfl
      | 7, h0 => rfl
      | 8, h0 => rfl
      | 9, h0 => rfl
      | 10, h0 => rfl
      | 11, h0 => rfl
      | 12, h0 => rfl
      | 13, h0 => exact absurd rfl h0
      | i + 14, _ => rfl
  refine ⟨va_cpy (pct (xput h x X) (f + 3)) (X.2.1 13) 0 0 (F.1 0), ?_, fun b hb => ?_⟩
  · have hne : (f + 3 == x + 13) = false := by simp; omega
    have hnn : (nI (F.1 0)).toNatClampNeg = F.1 0 := nIc (by omega)
    have h0n : (0 : Int32) ≤ nI (F.1 0) := nI_nn (by omega)
    rw [eX1_fresh]
    simp (disch := first | assumption | omega | decide) only [pis_i, pis_l, pis_r, pis_n, p1_i, p1_r, p1_n, p1_u, pw0, pw1, pw2, pw3, pw4, pK_v, pK_0, pK_ite, if_true, if_false, if_pos, if_neg, Nat.reduceAdd, pok_r, i10, i01, Bool.true_or, Bool.or_true, Bool.and_true, Bool.true_and, Nat.add_sub_cancel, i1p1, i1p0, i0p1, i0p0, nIrem2, va_rf_s, bit1, bit0, pinT, pinLT, pin0, nIc, nIcL, nIlt, nIeq, nIltL, nILlt, nIeqL, nILeq, nIadL, nILad, nILmu, nI_add, nIsbL, nI_sub', decide_true, decide_false, Bool.false_or, Bool.or_false, rX1_fresh_0, rX1_fresh_0n, rX1_fresh_1, rX1_fresh_4, rX1_fresh_5, rX1_fresh_6, rX1_fresh_9, rX1_fresh_10, rX1_fresh_10n, rX1_fresh_11, rX1_fresh_14, rX1_fresh_17, rX1_fresh_18, rX1_fresh_19, rX1_fresh_22, xCl, xF0, xF1, xP1, xF2, xF3, xP3, xF4, xF5, xP5, xF6, xF7, xF8, xF9, xF10, xF11, xF12, xP12, xF13, xP13, xF14, xP14, xF15, xP15, xF16, xP16, xF17, xP17, xF18, xF19, xF20, xP20, xF21, xF22, xP22, xL2, xL2n, xC2, xW2, xL4, xL4n, xC4, xW4, xL5, xL5n, xC5, xW5, xL6, xL6n, xC6, xW6, xL7, xL7n, xC7, xW7, xL8, xL8n, xC8, xW8, xL12, xL12n, xC12, xW12, xL13, xL13n, xC13, xW13, xL1, xK1, xC1, xW1, xL3, xK3, xC3, xW3, xL9, xK9, xC9, xW9, xL10, xK10, xC10, xW10, xLf, xLc, x0, xf, xt, xl, xw, xs, xe, xb, xa, xp, xh, l1, l2, l3, l4, l5, l6, c1, c2, c3, c4, c5, c6, hne, h0n, hnn, hp, Int32.le_refl, show (0 : Int32).toNatClampNeg = 0 from rfl, Nat.zero_add, Bool.not_false, k1, show (0 < 24) = True by simp]
    unfold xAg
    rw [show us (us X.2.1 13 (va_cpy (pct (xput h x X) (f + 3)) (X.2.1 13) 0 0 (F.1 0))) 12 (X.2.1 12) = us X.2.1 13 (va_cpy (pct (xput h x X) (f + 3)) (X.2.1 13) 0 0 (F.1 0)) by
      have : us X.2.1 13 (va_cpy (pct (xput h x X) (f + 3)) (X.2.1 13) 0 0 (F.1 0)) 12 = X.2.1 12 := us_ne (by decide)
      rw [← this, us_id]]
  · rw [va_cpy, if_pos ⟨by omega, by omega⟩]
    show pct (xput h x X) (f + 3) (0 + b) = _
    rw [Nat.zero_add]
    exact c3 _ (by omega)
end
