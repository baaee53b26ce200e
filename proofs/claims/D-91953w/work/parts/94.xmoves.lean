/-! READING 4: the component's FigureReader: move, moves -/
set_option maxRecDepth 100000
def FL (lo : Nat) (h h' : pH) (n : Nat) : Prop := h.2.1 ≤ h'.2.1 ∧ h'.2.1 ≤ h.2.1 + n ∧ h'.2.2 ≤ h.2.2 + 8 * n ∧ ∀ q, q < lo → h'.1 q = h.1 q
theorem Fr.fl {h h' : pH} {n lo : Nat} (H : Fr h h' n) (hl : lo ≤ h.2.1) : FL lo h h' n := ⟨H.1, H.2.1, H.2.2.1, fun q hq => H.2.2.2 q (by omega)⟩
theorem FL.tr {lo : Nat} {h h' h'' : pH} {n m : Nat} (h1 : FL lo h h' n) (h2 : FL lo h' h'' m) : FL lo h h'' (n + m) := ⟨by have := h1.1; have := h2.1; omega, by have := h1.2.1; have := h2.2.1; omega, by have := h1.2.2.1; have := h2.2.2.1; omega, fun q hq => (h2.2.2.2 q hq).trans (h1.2.2.2 q hq)⟩
theorem FL.wk {lo : Nat} {h h' : pH} {n m : Nat} (h1 : FL lo h h' n) (hm : n ≤ m) : FL lo h h' m := ⟨h1.1, by have := h1.2.1; omega, by have := h1.2.2.1; omega, h1.2.2.2⟩
/-- how a reader's method ends: a node, a chain -/
def oN (t : Tp) (x o dp bl : Nat) (h : pH) (p : Nat) (r : Option pO) : PR Nd → Prop
  | .inl w => ∃ e h' a' dp' bu' bl', r = some (.inr e, (rq (h') o 6 (a') (dp') x [.int (nI (bu')), .int (nI (bl')), .ref x])) ∧ Fr h h' (t.1 - p + 2) ∧ h'.1 e = some (wr (nI w)) ∧ e ≠ o
  | .inr (nd, q, b) => ∃ a h', r = some (.inl (some (.ref a)), (rq (h') o 6 (q) (dp) x [.int (nI (b)), .int (nI (bl)), .ref x])) ∧ Fr h h' (q - p) ∧ Wd h' h.2.1 h'.2.1 a a nd.c
def oL (t : Tp) (x o dp bl : Nat) (h : pH) (p : Nat) (r : Option pO) : PR Mv → Prop
  | .inl w => ∃ e h' a' dp' bu' bl', r = some (.inr e, (rq (h') o 6 (a') (dp') x [.int (nI (bu')), .int (nI (bl')), .ref x])) ∧ Fr h h' (t.1 - p + 2) ∧ h'.1 e = some (wr (nI w)) ∧ e ≠ o
  | .inr (c, q, b) => ∃ a h', r = some (.inl (some (.ref a)), (rq (h') o 6 (q) (dp) x [.int (nI (b)), .int (nI (bl)), .ref x])) ∧ Fr h h' (q - p) ∧ ChS h' h.2.1 h'.2.1 c (some a)
theorem pone_skp {I : Option (Nat → Nat → PR Mv)} {t : Tp} {p bu : Nat} : pone I t (skp t p) bu = pone I t p bu := by
  unfold pone
  rw [skp_sk]
section
variable {h : pH} {o c a dp x d N p bu bl : Nat} {r : List Value} {t : Tp} {w : Int32}
theorem kX10_init (ho : o ≠ h.2.1) : pCa 187 (d + 2) [.ref h.2.1, .int w] (rq (pnw h (.inr (10, [.null, .int 0])) 2) o c a dp x r) = some (.inl none, rq (pnw h (.inr (10, [.null, .int w])) 2) o c a dp x r) := by
  have hn : h.2.1 ≠ o := Ne.symm ho
  have e8 : ∀ {H : pH}, pCa 183 (d + 1) [.ref h.2.1] H = some (.inl none, H) := by intro H; rw [eX8_init]; simp (disch := first | assumption | omega | decide) only [pis_i, pis_l, pis_r, pis_n, p1_i, p1_r, p1_n, p1_u, pw0, pw1, pw2, pw3, pw4, pK_v, pK_0, pK_ite, if_true, if_false, if_pos, if_neg, Nat.reduceAdd, pok_r, i10, i01, Bool.true_or, Bool.or_true, Bool.and_true, Bool.true_and, rX8_init_0, rX8_init_1, rX8_init_4]
  rw [eX10_init]
  simp (disch := first | assumption | omega | decide) only [pis_i, pis_l, pis_r, pis_n, p1_i, p1_r, p1_n, p1_u, pw0, pw1, pw2, pw3, pw4, pK_v, pK_0, pK_ite, if_true, if_false, if_pos, if_neg, Nat.reduceAdd, pok_r, i10, i01, Bool.true_or, Bool.or_true, Bool.and_true, Bool.true_and, rX10_init_0, rX10_init_1, rX10_init_4, rX10_init_5, rX10_init_6, rX10_init_9, e8, qO_pcl hn, qO_pfl hn, qO_psf hn, pcl_pnw, pfl_pnw, psf_pnw, List.set_cons_zero, List.set_cons_succ, List.getD_cons_zero, List.getD_cons_succ]
theorem kX11_init (ho : o ≠ h.2.1) : pCa 189 (d + 2) [.ref h.2.1, .int w] (rq (pnw h (.inr (11, [.null, .int 0])) 2) o c a dp x r) = some (.inl none, rq (pnw h (.inr (11, [.null, .int w])) 2) o c a dp x r) := by
  have hn : h.2.1 ≠ o := Ne.symm ho
  have e8 : ∀ {H : pH}, pCa 183 (d + 1) [.ref h.2.1] H = some (.inl none, H) := by intro H; rw [eX8_init]; simp (disch := first | assumption | omega | decide) only [pis_i, pis_l, pis_r, pis_n, p1_i, p1_r, p1_n, p1_u, pw0, pw1, pw2, pw3, pw4, pK_v, pK_0, pK_ite, if_true, if_false, if_pos, if_neg, Nat.reduceAdd, pok_r, i10, i01, Bool.true_or, Bool.or_true, Bool.and_true, Bool.true_and, rX8_init_0, rX8_init_1, rX8_init_4]
  rw [eX11_init]
  simp (disch := first | assumption | omega | decide) only [pis_i, pis_l, pis_r, pis_n, p1_i, p1_r, p1_n, p1_u, pw0, pw1, pw2, pw3, pw4, pK_v, pK_0, pK_ite, if_true, if_false, if_pos, if_neg, Nat.reduceAdd, pok_r, i10, i01, Bool.true_or, Bool.or_true, Bool.and_true, Bool.true_and, rX11_init_0, rX11_init_1, rX11_init_4, rX11_init_5, rX11_init_6, rX11_init_9, e8, qO_pcl hn, qO_pfl hn, qO_psf hn, pcl_pnw, pfl_pnw, psf_pnw, List.set_cons_zero, List.set_cons_succ, List.getD_cons_zero, List.getD_cons_succ]
theorem kX12_init (ho : o ≠ h.2.1) {b : Nat} : pCa 191 (d + 2) [.ref h.2.1, .ref b] (rq (pnw h (.inr (12, [.null, .null])) 2) o c a dp x r) = some (.inl none, rq (pnw h (.inr (12, [.null, .ref b])) 2) o c a dp x r) := by
  have hn : h.2.1 ≠ o := Ne.symm ho
  have e8 : ∀ {H : pH}, pCa 183 (d + 1) [.ref h.2.1] H = some (.inl none, H) := by intro H; rw [eX8_init]; simp (disch := first | assumption | omega | decide) only [pis_i, pis_l, pis_r, pis_n, p1_i, p1_r, p1_n, p1_u, pw0, pw1, pw2, pw3, pw4, pK_v, pK_0, pK_ite, if_true, if_false, if_pos, if_neg, Nat.reduceAdd, pok_r, i10, i01, Bool.true_or, Bool.or_true, Bool.and_true, Bool.true_and, rX8_init_0, rX8_init_1, rX8_init_4]
  rw [eX12_init]
  simp (disch := first | assumption | omega | decide) only [pis_i, pis_l, pis_r, pis_n, p1_i, p1_r, p1_n, p1_u, pw0, pw1, pw2, pw3, pw4, pK_v, pK_0, pK_ite, if_true, if_false, if_pos, if_neg, Nat.reduceAdd, pok_r, i10, i01, Bool.true_or, Bool.or_true, Bool.and_true, Bool.true_and, rX12_init_0, rX12_init_1, rX12_init_4, rX12_init_5, rX12_init_5n, rX12_init_6, rX12_init_6n, rX12_init_9, e8, qO_pcl hn, qO_pfl hn, qO_psf hn, pcl_pnw, pfl_pnw, psf_pnw, List.set_cons_zero, List.set_cons_succ, List.getD_cons_zero, List.getD_cons_succ]
theorem kX5_goIn (hR : RP h x o t N) (hc : pok 5 c = true) (hp : p < t.1) (hd : dp < 6) : pCa 174 (d + 9) [.ref o] (rq h o c p dp x r) = some (.inl none, rq h o c (p + 1) (dp + 1) x r) := by
  have hq0 : o ≠ x ∧ o ≠ x + 2 := ⟨hR.n0, hR.n2⟩
  have ht1 := hR.X.k.1
  rw [eX5_goIn]
  simp (disch := first | assumption | omega | decide | rfl) only [pis_i, pis_l, pis_r, pis_n, p1_i, p1_r, p1_n, p1_u, pw0, pw1, pw2, pw3, pw4, pK_v, pK_0, pK_ite, if_true, if_false, if_pos, if_neg, Nat.reduceAdd, pok_r, i10, i01, Bool.true_or, Bool.or_true, Bool.and_true, Bool.true_and, Nat.add_sub_cancel, i1p1, i1p0, i0p1, i0p0, nIrem2, va_rf_s, bit1, bit0, pinT, pinLT, pin0, nIc, nIcL, nIlt, nIeq, nIltL, nILlt, nIeqL, nILeq, nIadL, nILad, nILmu, nI_add, nIsbL, nI_sub', decide_true, decide_false, Bool.false_or, Bool.or_false, rX5_goIn_0, rX5_goIn_1, rX5_goIn_2, rX5_goIn_5, rX5_goIn_7, rX5_goIn_10, rX5_goIn_11, rX5_goIn_14, rX5_goIn_15, rX5_goIn_18, rX5_goIn_19, rX5_goIn_20, rX5_goIn_20i, rX5_goIn_21, rX5_goIn_24, rX5_goIn_25, rX5_goIn_26, rX5_goIn_29, qCl, hc, qF1 hc, qP1, kX5_take hR.X hq0 hc hp]
theorem kX5_goIn0 (hR : RP h x o t N) (hc : pok 5 c = true) (hd : dp = 6) : pCa 174 (d + 9) [.ref o] (rq h o c p dp x r) = some (.inr h.2.1, rq (pnw h (wr (nI p)) 7) o c p dp x r) := by
  subst hd
  rw [eX5_goIn]
  have ho := hR.ol
  simp (disch := first | assumption | omega | decide | rfl) only [pis_i, pis_l, pis_r, pis_n, p1_i, p1_r, p1_n, p1_u, pw0, pw1, pw2, pw3, pw4, pK_v, pK_0, pK_ite, if_true, if_false, if_pos, if_neg, Nat.reduceAdd, pok_r, i10, i01, Bool.true_or, Bool.or_true, Bool.and_true, Bool.true_and, Nat.add_sub_cancel, i1p1, i1p0, i0p1, i0p0, nIrem2, va_rf_s, bit1, bit0, pinT, pinLT, pin0, nIc, nIcL, nIlt, nIeq, nIltL, nILlt, nIeqL, nILeq, nIadL, nILad, nILmu, nI_add, nIsbL, nI_sub', decide_true, decide_false, Bool.false_or, Bool.or_false, rX5_goIn_0, rX5_goIn_1, rX5_goIn_2, rX5_goIn_5, rX5_goIn_7, rX5_goIn_10, rX5_goIn_11, rX5_goIn_14, rX5_goIn_15, rX5_goIn_18, rX5_goIn_19, rX5_goIn_20, rX5_goIn_20i, rX5_goIn_21, rX5_goIn_24, rX5_goIn_25, rX5_goIn_26, rX5_goIn_29, qCl, hc, qF1 hc, kX5_take0 hc ho, pK_t]
theorem kX5_goOut (hR : RP h x o t N) (hc : pok 5 c = true) (hp : p ≤ t.1) {z : Nat} (hz : z < 256) (hd : dp < 7) (he : isC t (skp t p) z = true) : pCa 175 (d + 9) [.ref o, .int (nI z)] (rq h o c p (dp + 1) x r) = some (.inl none, rq h o c (skp t p + 1) dp x r) := by
  have hq0 : o ≠ x ∧ o ≠ x + 2 := ⟨hR.n0, hR.n2⟩
  have h1 := isC_lt he
  have ht1 := hR.X.k.1
  have e : hr t (skp t p) = nI z := by rw [hr_in h1.1, h1.2]
  rw [eX5_goOut]
  simp (disch := first | assumption | omega | decide | rfl) only [pis_i, pis_l, pis_r, pis_n, p1_i, p1_r, p1_n, p1_u, pw0, pw1, pw2, pw3, pw4, pK_v, pK_0, pK_ite, if_true, if_false, if_pos, if_neg, Nat.reduceAdd, pok_r, i10, i01, Bool.true_or, Bool.or_true, Bool.and_true, Bool.true_and, Nat.add_sub_cancel, i1p1, i1p0, i0p1, i0p0, nIrem2, va_rf_s, bit1, bit0, pinT, pinLT, pin0, nIc, nIcL, nIlt, nIeq, nIltL, nILlt, nIeqL, nILeq, nIadL, nILad, nILmu, nI_add, nIsbL, nI_sub', decide_true, decide_false, Bool.false_or, Bool.or_false, rX5_goOut_0, rX5_goOut_1, rX5_goOut_2, rX5_goOut_5, rX5_goOut_6, rX5_goOut_9, rX5_goOut_10, rX5_goOut_13, rX5_goOut_14, rX5_goOut_17, rX5_goOut_18, rX5_goOut_19, rX5_goOut_19i, rX5_goOut_20, rX5_goOut_23, rX5_goOut_24, rX5_goOut_25, rX5_goOut_28, qCl, hc, qF1 hc, qP1, kX5_look hR.X hq0 hc hp, e, kX5_take hR.X hq0 hc h1.1]
theorem kX5_goOut0 (hR : RP h x o t N) (hc : pok 5 c = true) (hp : p ≤ t.1) {z : Nat} (hz : z < 256) (he : ¬ isC t (skp t p) z = true) : pCa 175 (d + 9) [.ref o, .int (nI z)] (rq h o c p dp x r) = some (.inr h.2.1, rq (pnw h (wr (nI (skp t p))) 7) o c (skp t p) dp x r) := by
  have hq0 : o ≠ x ∧ o ≠ x + 2 := ⟨hR.n0, hR.n2⟩
  have ho := hR.ol
  have e : ¬ hr t (skp t p) = nI z := by
    have := hr_eq (t := t) (a := skp t p) (c := z) hR.X.k (by show z < 2147483648; omega)
    intro q
    exact he (this.mp q)
  rw [eX5_goOut]
  simp (disch := first | assumption | omega | decide | rfl) only [pis_i, pis_l, pis_r, pis_n, p1_i, p1_r, p1_n, p1_u, pw0, pw1, pw2, pw3, pw4, pK_v, pK_0, pK_ite, if_true, if_false, if_pos, if_neg, Nat.reduceAdd, pok_r, i10, i01, Bool.true_or, Bool.or_true, Bool.and_true, Bool.true_and, Nat.add_sub_cancel, i1p1, i1p0, i0p1, i0p0, nIrem2, va_rf_s, bit1, bit0, pinT, pinLT, pin0, nIc, nIcL, nIlt, nIeq, nIltL, nILlt, nIeqL, nILeq, nIadL, nILad, nILmu, nI_add, nIsbL, nI_sub', decide_true, decide_false, Bool.false_or, Bool.or_false, rX5_goOut_0, rX5_goOut_1, rX5_goOut_2, rX5_goOut_5, rX5_goOut_6, rX5_goOut_9, rX5_goOut_10, rX5_goOut_13, rX5_goOut_14, rX5_goOut_17, rX5_goOut_18, rX5_goOut_19, rX5_goOut_19i, rX5_goOut_20, rX5_goOut_23, rX5_goOut_24, rX5_goOut_25, rX5_goOut_28, qCl, hc, kX5_look hR.X hq0 hc hp, e, kX5_take0 hc ho, pK_t]
/-- the moves inside, one level deeper -/
def CI (x o N : Nat) (t : Tp) (dp bl D : Nat) : Option (Nat → Nat → PR Mv) → Prop
  | none => dp = 6
  | some f => dp < 6 ∧ ∃ k, okI t k (some f) ∧ ∀ h p bu, RP h x o t N → p ≤ t.1 → bu ≤ 24 → oL t x o (dp + 1) bl h p (pCa 179 D [.ref o] (rq (h) o 6 (p) (dp + 1) x [.int (nI (bu)), .int (nI (bl)), .ref x])) (f p bu)
theorem kX6_move {I : Option (Nat → Nat → PR Mv)} (hI : CI x o N t dp bl (d + 10) I) (hR : RP h x o t N) (hp : p ≤ t.1) (hb : bu ≤ 24) : oN t x o dp bl h p (pCa 180 (d + 11) [.ref o] (rq (h) o 6 (p) (dp) x [.int (nI (bu)), .int (nI (bl)), .ref x])) (pone I t p bu) := by
  have hq0 : o ≠ x ∧ o ≠ x + 2 := ⟨hR.n0, hR.n2⟩
  have ho := hR.ol
  have ht := hR.X.k
  have ht1 := ht.1
  have hpo : pok 5 6 = true := rfl
  have s1 := skp_le (t := t) (a := p)
  have s2 := skp_t hp
  have hF0 : ∀ (h : pH) (a dp bu : Nat), pfl (rq (h) o 6 (a) (dp) x [.int (nI (bu)), .int (nI (bl)), .ref x]) 6 o 0 = .int (nI a) := fun h a dp bu => qF0 rfl
  have hlk := kX5_look (d := d + 9) (dp := dp) (c := 6) (r := [.int (nI bu), .int (nI bl), .ref x]) hR.X hq0 hpo hp
  have him := kX6_isMove (d := d + 10) (o := o) (p := skp t p) (H := (rq (h) o 6 (skp t p) (dp) x [.int (nI (bu)), .int (nI (bl)), .ref x])) ht
  rw [eX6_move]
  unfold pone
  by_cases h1 : isM t (skp t p) = false
  · rw [if_pos h1]
    refine ⟨h.2.1, pnw h (wr (nI (skp t p))) 7, skp t p, dp, bu, bl, ?_, (Fr.nw (by decide)).wk (by omega), pnw_same, by omega⟩
    simp (disch := first | assumption | omega | decide | rfl | (refine kWd ?_; omega)) only [pis_i, pis_l, pis_r, pis_n, p1_i, p1_r, p1_n, p1_u, pw0, pw1, pw2, pw3, pw4, pK_v, pK_0, pK_ite, if_true, if_false, if_pos, if_neg, Nat.reduceAdd, pok_r, i10, i01, Bool.true_or, Bool.or_true, Bool.and_true, Bool.true_and, Nat.add_sub_cancel, i1p1, i1p0, i0p1, i0p0, nIrem2, va_rf_s, bit1, bit0, pinT, pinLT, pin0, nIc, nIcL, nIlt, nIeq, nIltL, nILlt, nIeqL, nILeq, nIadL, nILad, nILmu, nI_add, nIsbL, nI_sub', decide_true, decide_false, Bool.false_or, Bool.or_false, rX6_move_0, rX6_move_1, rX6_move_4, rX6_move_5, rX6_move_6, rX6_move_7, rX6_move_10, rX6_move_13, rX6_move_16, rX6_move_16i, rX6_move_17, rX6_move_18, rX6_move_21, rX6_move_24, rX6_move_25, rX6_move_26, rX6_move_28, rX6_move_31, rX6_move_34, rX6_move_34i, rX6_move_35, rX6_move_36, rX6_move_37, rX6_move_40, rX6_move_42, rX6_move_43, rX6_move_46, rX6_move_47, rX6_move_48, rX6_move_50, rX6_move_53, rX6_move_56, rX6_move_56i, rX6_move_57, rX6_move_58, rX6_move_61, rX6_move_64, rX6_move_65, rX6_move_66, rX6_move_69, rX6_move_70, rX6_move_73, rX6_move_73n, rX6_move_74, rX6_move_75, rX6_move_77, rX6_move_80, rX6_move_83, rX6_move_83i, rX6_move_84, rX6_move_84n, rX6_move_85, rX6_move_88, qCl, hlk, him, h1, Bool.false_eq_true, rq_21, qO_pnw, hF0, kWc, kWr]
  rw [if_neg h1]
  have h1' : isM t (skp t p) = true := by simpa using h1
  have hhead : pR 180 (d + 11) 0 [.ref o, pU, pU] [] (rq (h) o 6 (p) (dp) x [.int (nI (bu)), .int (nI (bl)), .ref x]) = pR 180 (d + 11) 25 [.ref o, .int (hr t (skp t p)), pU] [] (rq (h) o 6 (skp t p) (dp) x [.int (nI (bu)), .int (nI (bl)), .ref x]) := by
    simp (disch := first | assumption | omega | decide | rfl) only [pis_i, pis_l, pis_r, pis_n, p1_i, p1_r, p1_n, p1_u, pw0, pw1, pw2, pw3, pw4, pK_v, pK_0, pK_ite, if_true, if_false, if_pos, if_neg, Nat.reduceAdd, pok_r, i10, i01, Bool.true_or, Bool.or_true, Bool.and_true, Bool.true_and, rX6_move_0, rX6_move_1, rX6_move_4, rX6_move_5, rX6_move_6, rX6_move_7, rX6_move_10, qCl, hlk, him, h1']
  rw [hhead]
  clear hhead hlk him
  by_cases h2 : inC t (skp t p) 97 104 = true
  · rw [if_pos h2]
    have h3 := inC_lt h2
    have e7 : (nI (t.2 (skp t p))).toInt8.toInt32 = nI (t.2 (skp t p)) := byte7 _ (by omega)
    have hf1 : Fr h (pnw h (.inr (10, [.null, .int 0])) 2) 1 := Fr.nw (by decide)
    have htk := kX5_take (d := d + 10) (dp := dp) (c := 6) (r := [.int (nI bu), .int (nI bl), .ref x]) (hR.fr hf1).X hq0 hpo h3.1
    rw [e7] at htk
    refine ⟨h.2.1, pnw h (.inr (10, [.null, .int (nI (t.2 (skp t p) - 97))])) 2, ?_, (Fr.nw (by decide)).wk (by omega), ?_⟩
    · simp (disch := first | assumption | omega | decide | rfl) only [pis_i, pis_l, pis_r, pis_n, p1_i, p1_r, p1_n, p1_u, pw0, pw1, pw2, pw3, pw4, pK_v, pK_0, pK_ite, if_true, if_false, if_pos, if_neg, Nat.reduceAdd, pok_r, i10, i01, Bool.true_or, Bool.or_true, Bool.and_true, Bool.true_and, Nat.add_sub_cancel, i1p1, i1p0, i0p1, i0p0, nIrem2, va_rf_s, bit1, bit0, pinT, pinLT, pin0, nIc, nIcL, nIlt, nIeq, nIltL, nILlt, nIeqL, nILeq, nIadL, nILad, nILmu, nI_add, nIsbL, nI_sub', decide_true, decide_false, Bool.false_or, Bool.or_false, rX6_move_25, rX6_move_26, rX6_move_28, rX6_move_31, rX6_move_34, rX6_move_34i, rX6_move_35, rX6_move_36, rX6_move_37, rX6_move_40, rX6_move_42, rX6_move_43, rX6_move_46, hr_in h3.1, rq_21, qO_pnw, qCl, htk, qO_pcl, pcl_pnw, kX10_init]
    · exact Wd_1 (Nat.le_refl _) (Nat.lt_succ_self _) rfl pnw_same (fun h' e dd g1 g2 g3 => ⟨_, _, rfl, g2, g3⟩)
  rw [if_neg h2]
  by_cases h3 : dg t (skp t p) = true
  · rw [if_pos h3]
    have h4 := inC_lt h3
    have hf1 : Fr h (pnw h (.inr (11, [.null, .int 0])) 2) 1 := Fr.nw (by decide)
    have hbb := kX6_bubble (d := d) (dp := dp) (bl := bl) (hR.fr hf1) h3 hb
    have hq := bubQ_b h3
    generalize hz : bubP t (skp t p) bu = z at hbb
    match z, hbb with
    | .inl ww, ⟨a', bu', hbb⟩ =>
      refine ⟨h.2.1 + 1, pnw (pnw h (.inr (11, [.null, .int 0])) 2) (wr (nI ww)) 7, a', dp, bu', bl, ?_, (hf1.tr (Fr.nw (by decide))).wk (by omega), pnw_same, by omega⟩
      simp (disch := first | assumption | omega | decide | rfl) only [pis_i, pis_l, pis_r, pis_n, p1_i, p1_r, p1_n, p1_u, pw0, pw1, pw2, pw3, pw4, pK_v, pK_0, pK_ite, if_true, if_false, if_pos, if_neg, Nat.reduceAdd, pok_r, i10, i01, Bool.true_or, Bool.or_true, Bool.and_true, Bool.true_and, Nat.add_sub_cancel, i1p1, i1p0, i0p1, i0p0, nIrem2, va_rf_s, bit1, bit0, pinT, pinLT, pin0, nIc, nIcL, nIlt, nIeq, nIltL, nILlt, nIeqL, nILeq, nIadL, nILad, nILmu, nI_add, nIsbL, nI_sub', decide_true, decide_false, Bool.false_or, Bool.or_false, rX6_move_25, rX6_move_26, rX6_move_28, rX6_move_31, rX6_move_34, rX6_move_34i, rX6_move_35, rX6_move_36, rX6_move_37, rX6_move_40, rX6_move_42, rX6_move_43, rX6_move_46, rX6_move_47, rX6_move_48, rX6_move_50, rX6_move_53, rX6_move_56, rX6_move_56i, rX6_move_57, rX6_move_58, rX6_move_61, rX6_move_64, hr_in h4.1, rq_21, qO_pnw, qCl, hbb, pK_t, pnw_21]
    | .inr (v, q), hbb =>
      have hq2 : q = bubQ t (skp t p) := by
        unfold bubP at hz
        split at hz
        · cases hz
        · split at hz
          · cases hz
          · split at hz
            · cases hz
            · cases hz; rfl
      refine ⟨h.2.1, pnw h (.inr (11, [.null, .int (nI v)])) 2, ?_, (Fr.nw (by decide)).wk (by omega), ?_⟩
      · simp (disch := first | assumption | omega | decide | rfl) only [pis_i, pis_l, pis_r, pis_n, p1_i, p1_r, p1_n, p1_u, pw0, pw1, pw2, pw3, pw4, pK_v, pK_0, pK_ite, if_true, if_false, if_pos, if_neg, Nat.reduceAdd, pok_r, i10, i01, Bool.true_or, Bool.or_true, Bool.and_true, Bool.true_and, Nat.add_sub_cancel, i1p1, i1p0, i0p1, i0p0, nIrem2, va_rf_s, bit1, bit0, pinT, pinLT, pin0, nIc, nIcL, nIlt, nIeq, nIltL, nILlt, nIeqL, nILeq, nIadL, nILad, nILmu, nI_add, nIsbL, nI_sub', decide_true, decide_false, Bool.false_or, Bool.or_false, rX6_move_25, rX6_move_26, rX6_move_28, rX6_move_31, rX6_move_34, rX6_move_34i, rX6_move_35, rX6_move_36, rX6_move_37, rX6_move_40, rX6_move_42, rX6_move_43, rX6_move_46, rX6_move_47, rX6_move_48, rX6_move_50, rX6_move_53, rX6_move_56, rX6_move_56i, rX6_move_57, rX6_move_58, rX6_move_61, rX6_move_64, hr_in h4.1, rq_21, qO_pnw, qCl, hbb, qO_pcl, pcl_pnw, kX11_init]
      · exact Wd_1 (Nat.le_refl _) (Nat.lt_succ_self _) rfl pnw_same (fun h' e dd g1 g2 g3 => ⟨_, _, rfl, g2, g3⟩)
  rw [if_neg h3]
  have h4 : isC t (skp t p) 40 = true := by simpa [isM, h2, h3] using h1'
  have h5 := isC_lt h4
  cases I with
  | none =>
    refine ⟨h.2.1, pnw h (wr (nI (skp t p))) 7, skp t p, dp, bu, bl, ?_, (Fr.nw (by decide)).wk (by omega), pnw_same, by omega⟩
    have hg := kX5_goIn0 (d := d + 1) (p := skp t p) (c := 6) (r := [.int (nI bu), .int (nI bl), .ref x]) hR hpo hI
    simp (disch := first | assumption | omega | decide | rfl) only [pis_i, pis_l, pis_r, pis_n, p1_i, p1_r, p1_n, p1_u, pw0, pw1, pw2, pw3, pw4, pK_v, pK_0, pK_ite, if_true, if_false, if_pos, if_neg, Nat.reduceAdd, pok_r, i10, i01, Bool.true_or, Bool.or_true, Bool.and_true, Bool.true_and, Nat.add_sub_cancel, i1p1, i1p0, i0p1, i0p0, nIrem2, va_rf_s, bit1, bit0, pinT, pinLT, pin0, nIc, nIcL, nIlt, nIeq, nIltL, nILlt, nIeqL, nILeq, nIadL, nILad, nILmu, nI_add, nIsbL, nI_sub', decide_true, decide_false, Bool.false_or, Bool.or_false, rX6_move_25, rX6_move_26, rX6_move_28, rX6_move_31, rX6_move_34, rX6_move_34i, rX6_move_35, rX6_move_36, rX6_move_37, rX6_move_40, rX6_move_42, rX6_move_43, rX6_move_46, rX6_move_47, rX6_move_48, rX6_move_50, rX6_move_53, rX6_move_56, rX6_move_56i, rX6_move_57, rX6_move_58, rX6_move_61, rX6_move_64, rX6_move_65, rX6_move_66, rX6_move_69, rX6_move_70, rX6_move_73, rX6_move_73n, rX6_move_74, rX6_move_75, rX6_move_77, rX6_move_80, rX6_move_83, rX6_move_83i, rX6_move_84, rX6_move_84n, rX6_move_85, rX6_move_88, hr_in h5.1, h5.2, qCl, hg, pK_t]
  | some f =>
    obtain ⟨hdp, k, hok, hI⟩ := hI
    have hg := kX5_goIn (d := d + 1) (p := skp t p) (c := 6) (r := [.int (nI bu), .int (nI bl), .ref x]) hR hpo h5.1 hdp
    have hin := hI h (skp t p + 1) bu hR (by omega) hb
    have hokp := hok.2 (skp t p + 1) bu (by omega) hb
    show oN t x o dp bl h p _ (match f (skp t p + 1) bu with | .inl w => .inl w | .inr (i, q, b) => if isC t (skp t q) 41 = true then .inr (.ring i, skp t q + 1, b) else .inl (skp t q))
    generalize f (skp t p + 1) bu = z at hin hokp
    match z, hin, hokp with
    | .inl ww, ⟨e, h', a', dp', bu', bl', q1, q2, q3, q4⟩, _ =>
      refine ⟨e, h', a', dp', bu', bl', ?_, q2.wk (by omega), q3, q4⟩
      simp (disch := first | assumption | omega | decide | rfl) only [pis_i, pis_l, pis_r, pis_n, p1_i, p1_r, p1_n, p1_u, pw0, pw1, pw2, pw3, pw4, pK_v, pK_0, pK_ite, if_true, if_false, if_pos, if_neg, Nat.reduceAdd, pok_r, i10, i01, Bool.true_or, Bool.or_true, Bool.and_true, Bool.true_and, Nat.add_sub_cancel, i1p1, i1p0, i0p1, i0p0, nIrem2, va_rf_s, bit1, bit0, pinT, pinLT, pin0, nIc, nIcL, nIlt, nIeq, nIltL, nILlt, nIeqL, nILeq, nIadL, nILad, nILmu, nI_add, nIsbL, nI_sub', decide_true, decide_false, Bool.false_or, Bool.or_false, rX6_move_25, rX6_move_26, rX6_move_28, rX6_move_31, rX6_move_34, rX6_move_34i, rX6_move_35, rX6_move_36, rX6_move_37, rX6_move_40, rX6_move_42, rX6_move_43, rX6_move_46, rX6_move_47, rX6_move_48, rX6_move_50, rX6_move_53, rX6_move_56, rX6_move_56i, rX6_move_57, rX6_move_58, rX6_move_61, rX6_move_64, rX6_move_65, rX6_move_66, rX6_move_69, rX6_move_70, rX6_move_73, rX6_move_73n, rX6_move_74, rX6_move_75, rX6_move_77, rX6_move_80, rX6_move_83, rX6_move_83i, rX6_move_84, rX6_move_84n, rX6_move_85, rX6_move_88, hr_in h5.1, h5.2, qCl, hg, q1, pK_t]
    | .inr (i, q, b), ⟨a, h', q1, q2, q3⟩, ⟨k1, k2, k3, k4, k5⟩ =>
      have hR' := hR.fr q2
      have ho' := hR'.ol
      have s3 := skp_le (t := t) (a := q)
      have s4 := skp_t k2
      show oN t x o dp bl h p _ (if isC t (skp t q) 41 = true then _ else _)
      by_cases h6 : isC t (skp t q) 41 = true
      · rw [if_pos h6]
        have h7 := isC_lt h6
        have hgo := kX5_goOut (d := d + 1) (dp := dp) (c := 6) (r := [.int (nI b), .int (nI bl), .ref x]) hR' hpo k2 (show 41 < 256 by decide) (by omega) h6
        refine ⟨h'.2.1, pnw h' (.inr (12, [.null, .ref a])) 2, ?_, (q2.tr (Fr.nw (by decide))).wk (by omega), ?_⟩
        · simp (disch := first | assumption | omega | decide | rfl) only [pis_i, pis_l, pis_r, pis_n, p1_i, p1_r, p1_n, p1_u, pw0, pw1, pw2, pw3, pw4, pK_v, pK_0, pK_ite, if_true, if_false, if_pos, if_neg, Nat.reduceAdd, pok_r, i10, i01, Bool.true_or, Bool.or_true, Bool.and_true, Bool.true_and, Nat.add_sub_cancel, i1p1, i1p0, i0p1, i0p0, nIrem2, va_rf_s, bit1, bit0, pinT, pinLT, pin0, nIc, nIcL, nIlt, nIeq, nIltL, nILlt, nIeqL, nILeq, nIadL, nILad, nILmu, nI_add, nIsbL, nI_sub', decide_true, decide_false, Bool.false_or, Bool.or_false, rX6_move_25, rX6_move_26, rX6_move_28, rX6_move_31, rX6_move_34, rX6_move_34i, rX6_move_35, rX6_move_36, rX6_move_37, rX6_move_40, rX6_move_42, rX6_move_43, rX6_move_46, rX6_move_47, rX6_move_48, rX6_move_50, rX6_move_53, rX6_move_56, rX6_move_56i, rX6_move_57, rX6_move_58, rX6_move_61, rX6_move_64, rX6_move_65, rX6_move_66, rX6_move_69, rX6_move_70, rX6_move_73, rX6_move_73n, rX6_move_74, rX6_move_75, rX6_move_77, rX6_move_80, rX6_move_83, rX6_move_83i, rX6_move_84, rX6_move_84n, rX6_move_85, rX6_move_88, hr_in h5.1, h5.2, qCl, hg, q1, rq_21, qO_pnw, qO_pcl, pcl_pnw, show (41 : Int32) = nI 41 from rfl, hgo, kX12_init]
        · refine Wd_1 (cl := 12) (fs := [.ref a]) q2.1 (Nat.lt_succ_self _) rfl pnw_same (fun h2 e dd g1 g2 g3 => ⟨_, _, _, rfl, g2, q3 h2 (fun z z1 z2 => ?_), g3⟩)
          rw [g1 z z1 (by show z < h'.2.1 + 1; omega) (by omega), pnw_ne (by omega)]
      · rw [if_neg h6]
        have hgo := kX5_goOut0 (d := d + 1) (dp := dp + 1) (c := 6) (r := [.int (nI b), .int (nI bl), .ref x]) hR' hpo k2 (show 41 < 256 by decide) h6
        refine ⟨h'.2.1, pnw h' (wr (nI (skp t q))) 7, skp t q, dp + 1, b, bl, ?_, (q2.tr (Fr.nw (by decide))).wk (by omega), pnw_same, by omega⟩
        simp (disch := first | assumption | omega | decide | rfl) only [pis_i, pis_l, pis_r, pis_n, p1_i, p1_r, p1_n, p1_u, pw0, pw1, pw2, pw3, pw4, pK_v, pK_0, pK_ite, if_true, if_false, if_pos, if_neg, Nat.reduceAdd, pok_r, i10, i01, Bool.true_or, Bool.or_true, Bool.and_true, Bool.true_and, Nat.add_sub_cancel, i1p1, i1p0, i0p1, i0p0, nIrem2, va_rf_s, bit1, bit0, pinT, pinLT, pin0, nIc, nIcL, nIlt, nIeq, nIltL, nILlt, nIeqL, nILeq, nIadL, nILad, nILmu, nI_add, nIsbL, nI_sub', decide_true, decide_false, Bool.false_or, Bool.or_false, rX6_move_25, rX6_move_26, rX6_move_28, rX6_move_31, rX6_move_34, rX6_move_34i, rX6_move_35, rX6_move_36, rX6_move_37, rX6_move_40, rX6_move_42, rX6_move_43, rX6_move_46, rX6_move_47, rX6_move_48, rX6_move_50, rX6_move_53, rX6_move_56, rX6_move_56i, rX6_move_57, rX6_move_58, rX6_move_61, rX6_move_64, rX6_move_65, rX6_move_66, rX6_move_69, rX6_move_70, rX6_move_73, rX6_move_73n, rX6_move_74, rX6_move_75, rX6_move_77, rX6_move_80, rX6_move_83, rX6_move_83i, rX6_move_84, rX6_move_84n, rX6_move_85, rX6_move_88, hr_in h5.1, h5.2, qCl, hg, q1, show (41 : Int32) = nI 41 from rfl, hgo, pK_t]
end
