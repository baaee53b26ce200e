/-! HANDS 2: a new Hand; the figure of a hand (the component's constructor) -/
set_option maxRecDepth 100000
section
variable {h : pH} {a o n k F : Nat} {c : va_E} {fs : List Value} {v : Value} {W : WS} {Y : YS} {kk : Nat}
/-- more room -/
def gr (h : pH) (a b : Nat) : pH := (h.1, h.2.1 + a, h.2.2 + b)
theorem psf_21 : (psf h a k v).2.1 = h.2.1 := by rw [psf_2]
theorem pnw_21 : (pnw h c n).2.1 = h.2.1 + 1 := rfl
theorem psf_pnw_ne (ha : a ≠ h.2.1) : psf (pnw h c n) a k v = pnw (psf h a k v) c n := by
  unfold psf
  rw [pnw_ne ha]
  split
  · unfold pup pnw
    simp only [Prod.mk.injEq, and_true]
    funext q
    by_cases e : q = a
    · subst e; rw [if_pos rfl, if_neg ha, if_pos rfl]
    · rw [if_neg e]; by_cases e2 : q = h.2.1 <;> simp [e, e2]
  · rfl
theorem pfl_pnw_ne (ha : a ≠ h.2.1) : pfl (pnw h c n) F a k = pfl h F a k := by simp only [pfl, pnw_ne ha]
theorem pcl_pnw_ne (ha : a ≠ h.2.1) : pcl (pnw h c n) a = pcl h a := by simp only [pcl, pnw_ne ha]
theorem pln_pnw_ne (ha : a ≠ h.2.1) : pln (pnw h c n) F a = pln h F a := by simp only [pln, pnw_ne ha]
theorem pct_pnw_ne (ha : a ≠ h.2.1) : pct (pnw h c n) a = pct h a := by simp only [pct, pnw_ne ha]
theorem wO_pnw (ho : o + 8 ≤ h.2.1) : pnw (wput h o W) c n = wput (pnw h c n) o W := by
  unfold pnw wput
  simp only [Prod.mk.injEq, and_true]
  funext q
  by_cases hq : q = h.2.1
  · subst hq
    rw [if_pos rfl, if_neg (by omega), if_pos rfl]
  · rw [if_neg hq, if_neg hq]
theorem wput_21 : (wput h o W).2.1 = h.2.1 := rfl
theorem yput_21 : (yput h o Y).2.1 = h.2.1 := rfl
end
section
variable {h : pH} {d : Nat}
def Hd0 : Hd := ⟨fun _ => 0, fun k => if k < 8 then none else some 0, fun _ => 0, fun _ => 0, fun _ => 0, fun _ => 0, fun _ => 0, 0, 0, 0, 0, 0⟩
theorem Hd0_ok : HdOk Hd0 := ⟨fun p hp => absurd hp (Nat.not_lt_zero _), by decide, by decide, by decide, by decide, fun k hk => absurd hk (Nat.not_lt_zero _), fun w p hw e => by simp [Hd0, hw] at e⟩
theorem w8 {I : Nat → Int32} {z : Nat → Int32} {W : WS} (hI : W.1 = I) (hA : ∀ j, 1 ≤ j → j ≤ 7 → W.2.1 j = z) : pnw (pnw (pnw (pnw (pnw (pnw (pnw (pnw h (.inr (23, wobj h.2.1 I)) 12) (.inl (0, 32, .inl z)) 32) (.inl (0, 8, .inl z)) 8) (.inl (0, 24, .inl z)) 24) (.inl (0, 24, .inl z)) 24) (.inl (0, 24, .inl z)) 24) (.inl (0, 24, .inl z)) 24) (.inl (0, 6, .inl z)) 6 = wput (gr h 8 154) h.2.1 W := by
  refine Prod.ext ?_ (Prod.ext rfl ?_)
  · funext q
    by_cases hq : h.2.1 ≤ q ∧ q < h.2.1 + 8
    · obtain ⟨j, rfl⟩ : ∃ j, q = h.2.1 + j := ⟨q - h.2.1, by omega⟩
      show _ = if _ then _ else _
      rw [if_pos hq, Nat.add_sub_cancel_left]
      match j, (show j < 8 by omega) with
      | 0, _ => simp [pnw, wcell, hI, Nat.add_assoc]
      | 1, _ => simp [pnw, wcell, hA, Nat.add_assoc]
      | 2, _ => simp [pnw, wcell, hA, Nat.add_assoc]
      | 3, _ => simp [pnw, wcell, hA, Nat.add_assoc]
      | 4, _ => simp [pnw, wcell, hA, Nat.add_assoc]
      | 5, _ => simp [pnw, wcell, hA, Nat.add_assoc]
      | 6, _ => simp [pnw, wcell, hA, Nat.add_assoc]
      | 7, _ => simp [pnw, wcell, hA, Nat.add_assoc]
    · show _ = if _ then _ else _
      rw [if_neg hq]
      have e0 : q ≠ h.2.1 := by omega
      have e1 : q ≠ h.2.1 + 1 := by omega
      have e2 : q ≠ h.2.1 + 2 := by omega
      have e3 : q ≠ h.2.1 + 3 := by omega
      have e4 : q ≠ h.2.1 + 4 := by omega
      have e5 : q ≠ h.2.1 + 5 := by omega
      have e6 : q ≠ h.2.1 + 6 := by omega
      have e7 : q ≠ h.2.1 + 7 := by omega
      simp only [pnw, gr, Nat.add_assoc, Nat.reduceAdd, e0, e1, e2, e3, e4, e5, e6, e7, if_false]
  · simp [pnw, wput, gr]
theorem y8 {I : Nat → Int32} {z : Nat → Int32} {Y : YS} (hI : Y.1 = I) (hA : ∀ j, 1 ≤ j → j ≤ 7 → Y.2.1 j = z) : pnw (pnw (pnw (pnw (pnw (pnw (pnw (pnw h (.inr (24, yobj h.2.1 I)) 10) (.inl (0, 24, .inl z)) 24) (.inl (0, 24, .inl z)) 24) (.inl (0, 24, .inl z)) 24) (.inl (0, 24, .inl z)) 24) (.inl (0, 6, .inl z)) 6) (.inl (0, 32, .inl z)) 32) (.inl (0, 32, .inl z)) 32 = yput (gr h 8 176) h.2.1 Y := by
  refine Prod.ext ?_ (Prod.ext rfl ?_)
  · funext q
    by_cases hq : h.2.1 ≤ q ∧ q < h.2.1 + 8
    · obtain ⟨j, rfl⟩ : ∃ j, q = h.2.1 + j := ⟨q - h.2.1, by omega⟩
      show _ = if _ then _ else _
      rw [if_pos hq, Nat.add_sub_cancel_left]
      match j, (show j < 8 by omega) with
      | 0, _ => simp [pnw, ycell, hI, Nat.add_assoc]
      | 1, _ => simp [pnw, ycell, hA, Nat.add_assoc]
      | 2, _ => simp [pnw, ycell, hA, Nat.add_assoc]
      | 3, _ => simp [pnw, ycell, hA, Nat.add_assoc]
      | 4, _ => simp [pnw, ycell, hA, Nat.add_assoc]
      | 5, _ => simp [pnw, ycell, hA, Nat.add_assoc]
      | 6, _ => simp [pnw, ycell, hA, Nat.add_assoc]
      | 7, _ => simp [pnw, ycell, hA, Nat.add_assoc]
    · show _ = if _ then _ else _
      rw [if_neg hq]
      have e0 : q ≠ h.2.1 := by omega
      have e1 : q ≠ h.2.1 + 1 := by omega
      have e2 : q ≠ h.2.1 + 2 := by omega
      have e3 : q ≠ h.2.1 + 3 := by omega
      have e4 : q ≠ h.2.1 + 4 := by omega
      have e5 : q ≠ h.2.1 + 5 := by omega
      have e6 : q ≠ h.2.1 + 6 := by omega
      have e7 : q ≠ h.2.1 + 7 := by omega
      simp only [pnw, gr, Nat.add_assoc, Nat.reduceAdd, e0, e1, e2, e3, e4, e5, e6, e7, if_false]
  · simp [pnw, yput, gr]
/-- a new hand -/
def wI (b : Nat) : WS := (fun _ => 0, fun j k => if j = 2 ∧ k < b then -1 else 0, ())
theorem wI_8 {o : Nat} : wput h o (wI 8) = wput h o (wOf Hd0) := by
  have e : (wI 8).2.1 = (wOf Hd0).2.1 := by
    funext j k
    simp only [wI, wOf, Hd0]
    by_cases e2 : j = 2
    · subst e2
      by_cases e3 : k < 8
      · simp [e3, nO]
      · simp only [e3, if_false, and_false, nO]; rfl
    · simp only [e2, false_and, if_false]
      repeat' split
      all_goals rfl
  have e1 : wobj o (wI 8).1 = wobj o (wOf Hd0).1 := rfl
  unfold wput
  congr 1
  funext q
  congr 1
  unfold wcell
  rw [e1, e]
theorem kX23_init {n0 : Nat} (h0 : n0 = h.2.1) : pCa 219 (d + 1) [.ref n0] (pnw h (.inr (23, [.null, .null, .null, .null, .null, .null, .null, .int 0, .int 0, .int 0, .int 0, .int 0])) 12) = some (.inl none, wput (gr h 8 154) h.2.1 (wOf Hd0)) := by
  subst h0
  rw [eX23_init]
  simp (disch := first | omega | decide | (simp only [pnw_21, psf_21]; omega)) only [pis_i, pis_l, pis_r, pis_n, p1_i, p1_r, p1_n, p1_u, pw0, pw1, pw2, pw3, pw4, pK_v, pK_0, pK_ite, if_true, if_false, if_pos, if_neg, Nat.reduceAdd, pok_r, i10, i01, Bool.true_or, Bool.or_true, Bool.and_true, Bool.true_and, rX23_init_0, rX23_init_1, rX23_init_4, rX23_init_5, rX23_init_7, rX23_init_9, rX23_init_9n, rX23_init_12, rX23_init_13, rX23_init_15, rX23_init_17, rX23_init_17n, rX23_init_20, rX23_init_21, rX23_init_23, rX23_init_25, rX23_init_25n, rX23_init_28, rX23_init_29, rX23_init_31, rX23_init_33, rX23_init_33n, rX23_init_36, rX23_init_37, rX23_init_39, rX23_init_41, rX23_init_41n, rX23_init_44, rX23_init_45, rX23_init_47, rX23_init_49, rX23_init_49n, rX23_init_52, rX23_init_53, rX23_init_55, rX23_init_57, rX23_init_57n, rX23_init_60, rX23_init_61, rX23_init_63, rX23_init_65, rX23_init_68, rX23_init_69, rX23_init_72, rX23_init_73, rX23_init_74, rX23_init_75, rX23_init_78, rX23_init_81, pnw_21, psf_21, pfl_pnw, pfl_pnw_ne, psf_pnw, psf_pnw_ne, List.set_cons_zero, List.set_cons_succ, List.getD_cons_zero, List.getD_cons_succ, Nat.add_assoc]
  have e := w8 (h := h) (I := fun _ => 0) (z := fun _ => 0) (W := wI 0) rfl (fun j _ _ => by funext k; simp [wI])
  simp only [wobj, pnw_21, Nat.add_assoc, Nat.reduceAdd] at e
  rw [e]
  refine loopN (N := 8) (P := fun b => pR 219 (d + 1) 62 [.ref h.2.1, .int (nI b)] [] (wput (gr h 8 154) h.2.1 (wI b))) (fun b hb R hR => ?_) ?_ 0 (Nat.zero_le _)
  · have eu : ((wI b).1, ua (wI b).2.1 2 b (-1), (wI b).2.2) = wI (b + 1) := by
      refine Prod.ext rfl (Prod.ext ?_ rfl)
      funext j k
      simp only [wI, ua, upd]
      by_cases e : j = 2
      · subst e
        by_cases e2 : k = b
        · subst e2; simp [upd]
        · by_cases e3 : k < b
          · simp [upd, e2, e3, show k < b + 1 by omega]
          · simp [upd, e2, e3, show ¬ k < b + 1 by omega]
      · simp [e]
    rw [rX23_init_62]
    simp (disch := first | omega | decide) only [pis_i, pis_l, pis_r, pis_n, p1_i, p1_r, p1_n, p1_u, pw0, pw1, pw2, pw3, pw4, pK_v, pK_0, pK_ite, if_true, if_false, if_pos, if_neg, Nat.reduceAdd, pok_r, i10, i01, Bool.true_or, Bool.or_true, Bool.and_true, Bool.true_and, Nat.add_sub_cancel, i1p1, i1p0, i0p1, i0p0, nIrem2, va_rf_s, bit1, bit0, pinT, pinLT, pin0, nIc, nIcL, nIlt, nIeq, nIltL, nILlt, nIeqL, nILeq, nIadL, nILad, nILmu, nI_add, nIsbL, nI_sub', decide_true, decide_false, Bool.false_or, Bool.or_false, rX23_init_0, rX23_init_1, rX23_init_4, rX23_init_5, rX23_init_7, rX23_init_9, rX23_init_9n, rX23_init_12, rX23_init_13, rX23_init_15, rX23_init_17, rX23_init_17n, rX23_init_20, rX23_init_21, rX23_init_23, rX23_init_25, rX23_init_25n, rX23_init_28, rX23_init_29, rX23_init_31, rX23_init_33, rX23_init_33n, rX23_init_36, rX23_init_37, rX23_init_39, rX23_init_41, rX23_init_41n, rX23_init_44, rX23_init_45, rX23_init_47, rX23_init_49, rX23_init_49n, rX23_init_52, rX23_init_53, rX23_init_55, rX23_init_57, rX23_init_57n, rX23_init_60, rX23_init_61, rX23_init_63, rX23_init_65, rX23_init_68, rX23_init_69, rX23_init_72, rX23_init_73, rX23_init_74, rX23_init_75, rX23_init_78, rX23_init_81, wCl, wF0, wF1, wF2, wF3, wF4, wF5, wF6, wF7, wP7, wF8, wP8, wF9, wP9, wF10, wP10, wF11, wP11, wL1, wL1n, wC1, wW1, wL2, wL2n, wC2, wW2, wL3, wL3n, wC3, wW3, wL4, wL4n, wC4, wW4, wL5, wL5n, wC5, wW5, wL6, wL6n, wC6, wW6, wL7, wL7n, wC7, wW7, eu]
    exact hR
  · rw [rX23_init_62]
    simp (disch := first | omega | decide) only [pis_i, pis_l, pis_r, pis_n, p1_i, p1_r, p1_n, p1_u, pw0, pw1, pw2, pw3, pw4, pK_v, pK_0, pK_ite, if_true, if_false, if_pos, if_neg, Nat.reduceAdd, pok_r, i10, i01, Bool.true_or, Bool.or_true, Bool.and_true, Bool.true_and, Nat.add_sub_cancel, i1p1, i1p0, i0p1, i0p0, nIrem2, va_rf_s, bit1, bit0, pinT, pinLT, pin0, nIc, nIcL, nIlt, nIeq, nIltL, nILlt, nIeqL, nILeq, nIadL, nILad, nILmu, nI_add, nIsbL, nI_sub', decide_true, decide_false, Bool.false_or, Bool.or_false, rX23_init_0, rX23_init_1, rX23_init_4, rX23_init_5, rX23_init_7, rX23_init_9, rX23_init_9n, rX23_init_12, rX23_init_13, rX23_init_15, rX23_init_17, rX23_init_17n, rX23_init_20, rX23_init_21, rX23_init_23, rX23_init_25, rX23_init_25n, rX23_init_28, rX23_init_29, rX23_init_31, rX23_init_33, rX23_init_33n, rX23_init_36, rX23_init_37, rX23_init_39, rX23_init_41, rX23_init_41n, rX23_init_44, rX23_init_45, rX23_init_47, rX23_init_49, rX23_init_49n, rX23_init_52, rX23_init_53, rX23_init_55, rX23_init_57, rX23_init_57n, rX23_init_60, rX23_init_61, rX23_init_63, rX23_init_65, rX23_init_68, rX23_init_69, rX23_init_72, rX23_init_73, rX23_init_74, rX23_init_75, rX23_init_78, rX23_init_81, wI_8]
/-- heads, the number of a point -/
def rr (H : Hd) (q : Nat) : Bool := decide (ro H.jo q = q)
def nmb (H : Hd) (p : Nat) : Nat := fb_ct (rr H) (ro H.jo p)
def figOf (H : Hd) : Fig := (fun i => if i = 0 then H.nb else if i = 1 then H.nl else if i = 2 then fb_ct (rr H) H.np else H.mo, fun i k => if i = 0 then nmb H (H.fr k) else if i = 1 then nmb H (H.tq k) else if i = 2 then H.ba k else H.so k, H.le)
theorem ct_lt1 {p : Nat → Bool} {i : Nat} (h1 : p i = true) : ∀ n, i < n → fb_ct p i < fb_ct p n := by
  intro n
  induction n with
  | zero => intro q; omega
  | succ n ih =>
    intro q
    rw [fb_ct_succ]
    by_cases e : i = n
    · subst e; rw [if_pos h1]; omega
    · have := ih (by omega); omega
theorem nmb_lt {H : Hd} (hk : HdOk H) {p : Nat} (hp : p < H.np) : nmb H p < fb_ct (rr H) H.np := by
  have h1 := ro_lt hk.j hp
  have h2 : rr H (ro H.jo p) = true := decide_eq_true (ro_fix (ro_ro hk.j hp))
  exact ct_lt1 h2 _ h1
theorem nmb_inj {H : Hd} (hk : HdOk H) {p q : Nat} (hp : p < H.np) (hq : q < H.np) : (nmb H p = nmb H q) = (ro H.jo p = ro H.jo q) := by
  apply propext
  constructor
  · intro e
    have h1 : rr H (ro H.jo p) = true := decide_eq_true (ro_fix (ro_ro hk.j hp))
    have h2 : rr H (ro H.jo q) = true := decide_eq_true (ro_fix (ro_ro hk.j hq))
    rcases Nat.lt_trichotomy (ro H.jo p) (ro H.jo q) with l | l | l
    · have := ct_lt1 h1 _ l; unfold nmb at e; omega
    · exact l
    · have := ct_lt1 h2 _ l; unfold nmb at e; omega
  · intro e; unfold nmb; rw [e]
theorem figOf_ok {H : Hd} (hk : HdOk H) (hn : fb_ct (rr H) H.np ≤ 30) (hs : ∀ b, b < H.nl → H.so b < 6) : FigOk (figOf H) := by
  refine ⟨hk.b, hk.l, hn, hk.m, fun b hb => ?_, hs⟩
  obtain ⟨f1, f2, f3⟩ := hk.f b hb
  exact ⟨nmb_lt hk f1, nmb_lt hk f2, f3⟩
/-- the figure's cells while it is made -/
def yN (H : Hd) (n : Nat) : Nat → Int32 := fun q => if q < n ∧ rr H q = true then nI (fb_ct (rr H) q) else 0
def yB (H : Hd) (p m b : Nat) : YS := (fun k => if k = 6 then nI H.nb else if k = 7 then nI H.nl else if k = 8 then nI p else if k = 9 then nI H.mo else 0, fun j k => if j = 1 then (if k < b then nI (nmb H (H.fr k)) else 0) else if j = 2 then (if k < b then nI (nmb H (H.tq k)) else 0) else if j = 3 then (if k < b then H.le k else 0) else if j = 4 then (if k < b then nI (H.ba k) else 0) else if j = 6 then nI (fb_sm (fEa (figOf H) k) b) else if j = 7 then yN H m k else 0, ())
section
variable {H : Hd} {p m b k : Nat}
theorem yo6 : (yB H p m b).1 6 = nI H.nb := rfl
theorem yo7 : (yB H p m b).1 7 = nI H.nl := rfl
theorem yo8 : (yB H p m b).1 8 = nI p := rfl
theorem yo9 : (yB H p m b).1 9 = nI H.mo := rfl
theorem yu8 {v : Nat} : (upd (yB H p m b).1 8 (nI v), (yB H p m b).2) = yB H v m b := by
  refine Prod.ext ?_ rfl
  funext k
  simp only [yB, upd]
  by_cases e : k = 8 <;> simp [e]
end
end
