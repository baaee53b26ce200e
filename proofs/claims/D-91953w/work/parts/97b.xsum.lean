/-! RULES 2: the component's RuleReader: sums (printed by genr.py) -/
set_option maxRecDepth 100000
def SmAt (h : pH) : Sm → Nat → Prop
  | .pl v, a => h.1 a = some (.inr (18, [.int (nI v)]))
  | .le c, a => h.1 a = some (.inr (17, [.int (nI c)]))
  | .pa op x y, a => ∃ b c, h.1 a = some (.inr (19, [.int (nI op), .ref b, .ref c])) ∧ SmAt h x b ∧ SmAt h y c
def TsAt (h : pH) : Ts → Nat → Prop
  | .cm op x y, a => ∃ b c, h.1 a = some (.inr (20, [.int (nI op), .ref b, .ref c])) ∧ SmAt h x b ∧ SmAt h y c
  | .no x, a => ∃ b, h.1 a = some (.inr (15, [.ref b])) ∧ TsAt h x b
  | .bo all x y, a => ∃ b c, h.1 a = some (.inr (21, [.int (if all = true then 1 else 0), .ref b, .ref c])) ∧ TsAt h x b ∧ TsAt h y c
/-- it stays so while the cells from lo to hi stay -/
def PS {α : Type} (P : pH → α → Nat → Prop) (h : pH) (lo hi : Nat) (s : α) (a : Nat) : Prop := ∀ h', ag h h' lo hi → P h' s a
theorem PS.agr {α : Type} {P : pH → α → Nat → Prop} {h h' : pH} {lo hi lo' hi' : Nat} {s : α} {a : Nat} (H : PS P h lo hi s a) (hg : ag h h' lo hi) (h1 : lo' ≤ lo) (h2 : hi ≤ hi') : PS P h' lo' hi' s a := fun h2 g => H h2 (fun q q1 q2 => (g q (by omega) (by omega)).trans (hg q q1 q2))
/-- how a method of the RuleReader ends -/
def oG {α : Type} (P : pH → α → Nat → Prop) (t : Tp) (x o dp : Nat) (h : pH) (p : Nat) (r : Option pO) : QR α → Prop
  | .inl w => ∃ e h' a' dp', r = some (.inr e, rq h' o 13 a' dp' x [.ref x]) ∧ Fr h h' (t.1 - p + 2) ∧ h'.1 e = some (wr (nI w)) ∧ e ≠ o
  | .inr (s, q) => ∃ a h', r = some (.inl (some (.ref a)), rq h' o 13 q dp x [.ref x]) ∧ Fr h h' (q - p) ∧ PS P h' h.2.1 h'.2.1 s a
section
variable {h g : pH} {o c a b dp x d N p q v : Nat} {r : List Value} {t : Tp} {w : Int32} {l : List Value} {cl k : Nat} {y : Value}
theorem pup_id {z : va_E} (hc : h.1 q = some z) : pup h q z = h := by
  refine Prod.ext ?_ rfl
  funext i
  show (if i = q then some z else h.1 i) = h.1 i
  by_cases e : i = q
  · subst e; rw [if_pos rfl, hc]
  · rw [if_neg e]
theorem psf_pup : psf (pup g q (.inr (cl, l))) q k y = pup g q (.inr (cl, l.set k y)) := by
  rw [psf_of pup_same]
  unfold pup
  simp only [Prod.mk.injEq, and_true]
  funext i
  by_cases e : i = q <;> simp [e]
theorem pfl_pup : pfl (pup g q (.inr (cl, l))) cl q k = l.getD k pU := by simp [pfl, pup, pok_r]
theorem pcl_pup : pcl (pup g q (.inr (cl, l))) q = cl := pcl_of pup_same
theorem kX16_init {H : pH} : pCa 206 (d + 1) [.ref q] H = some (.inl none, H) := by rw [eX16_init]; simp (disch := first | assumption | omega | decide) only [pis_i, pis_l, pis_r, pis_n, p1_i, p1_r, p1_n, p1_u, pw0, pw1, pw2, pw3, pw4, pK_v, pK_0, pK_ite, if_true, if_false, if_pos, if_neg, Nat.reduceAdd, pok_r, i10, i01, Bool.true_or, Bool.or_true, Bool.and_true, Bool.true_and, rX16_init_0, rX16_init_1, rX16_init_4]
theorem kX14_init {H : pH} : pCa 203 (d + 1) [.ref q] H = some (.inl none, H) := by rw [eX14_init]; simp (disch := first | assumption | omega | decide) only [pis_i, pis_l, pis_r, pis_n, p1_i, p1_r, p1_n, p1_u, pw0, pw1, pw2, pw3, pw4, pK_v, pK_0, pK_ite, if_true, if_false, if_pos, if_neg, Nat.reduceAdd, pok_r, i10, i01, Bool.true_or, Bool.or_true, Bool.and_true, Bool.true_and, rX14_init_0, rX14_init_1, rX14_init_4]
theorem kX19_init (hq : q ≠ o) : pCa 211 (d + 2) [.ref q, .int w, .ref a, .ref b] (rq (pup g q (.inr (19, [.int 0, .null, .null]))) o c p dp x r) = some (.inl none, rq (pup g q (.inr (19, [.int w, .ref a, .ref b]))) o c p dp x r) := by
  rw [eX19_init]
  simp (disch := first | assumption | omega | decide) only [pis_i, pis_l, pis_r, pis_n, p1_i, p1_r, p1_n, p1_u, pw0, pw1, pw2, pw3, pw4, pK_v, pK_0, pK_ite, if_true, if_false, if_pos, if_neg, Nat.reduceAdd, pok_r, i10, i01, Bool.true_or, Bool.or_true, Bool.and_true, Bool.true_and, rX19_init_0, rX19_init_1, rX19_init_4, rX19_init_5, rX19_init_6, rX19_init_9, rX19_init_10, rX19_init_10n, rX19_init_11, rX19_init_11n, rX19_init_14, rX19_init_15, rX19_init_15n, rX19_init_16, rX19_init_16n, rX19_init_19, kX16_init, qO_pcl hq, qO_pfl hq, qO_psf hq, pcl_pup, pfl_pup, psf_pup, List.set_cons_zero, List.set_cons_succ, List.getD_cons_zero, List.getD_cons_succ]
theorem kX20_init (hq : q ≠ o) : pCa 213 (d + 2) [.ref q, .int w, .ref a, .ref b] (rq (pup g q (.inr (20, [.int 0, .null, .null]))) o c p dp x r) = some (.inl none, rq (pup g q (.inr (20, [.int w, .ref a, .ref b]))) o c p dp x r) := by
  rw [eX20_init]
  simp (disch := first | assumption | omega | decide) only [pis_i, pis_l, pis_r, pis_n, p1_i, p1_r, p1_n, p1_u, pw0, pw1, pw2, pw3, pw4, pK_v, pK_0, pK_ite, if_true, if_false, if_pos, if_neg, Nat.reduceAdd, pok_r, i10, i01, Bool.true_or, Bool.or_true, Bool.and_true, Bool.true_and, rX20_init_0, rX20_init_1, rX20_init_4, rX20_init_5, rX20_init_6, rX20_init_9, rX20_init_10, rX20_init_10n, rX20_init_11, rX20_init_11n, rX20_init_14, rX20_init_15, rX20_init_15n, rX20_init_16, rX20_init_16n, rX20_init_19, kX14_init, qO_pcl hq, qO_pfl hq, qO_psf hq, pcl_pup, pfl_pup, psf_pup, List.set_cons_zero, List.set_cons_succ, List.getD_cons_zero, List.getD_cons_succ]
theorem kX21_init1 (hq : q ≠ o) : pCa 215 (d + 2) [.ref q, .int 1, .ref a, .ref b] (rq (pup g q (.inr (21, [.int 0, .null, .null]))) o c p dp x r) = some (.inl none, rq (pup g q (.inr (21, [.int 1, .ref a, .ref b]))) o c p dp x r) := by
  rw [eX21_init]
  simp (disch := first | assumption | omega | decide) only [pis_i, pis_l, pis_r, pis_n, p1_i, p1_r, p1_n, p1_u, pw0, pw1, pw2, pw3, pw4, pK_v, pK_0, pK_ite, if_true, if_false, if_pos, if_neg, Nat.reduceAdd, pok_r, i10, i01, Bool.true_or, Bool.or_true, Bool.and_true, Bool.true_and, rX21_init_0, rX21_init_1, rX21_init_4, rX21_init_5, rX21_init_6, rX21_init_9, rX21_init_10, rX21_init_10n, rX21_init_11, rX21_init_11n, rX21_init_14, rX21_init_15, rX21_init_15n, rX21_init_16, rX21_init_16n, rX21_init_19, kX14_init, qO_pcl hq, qO_pfl hq, qO_psf hq, pcl_pup, pfl_pup, psf_pup, List.set_cons_zero, List.set_cons_succ, List.getD_cons_zero, List.getD_cons_succ, beq_self_eq_true]
theorem kX21_init0 (hq : q ≠ o) : pCa 215 (d + 2) [.ref q, .int 0, .ref a, .ref b] (rq (pup g q (.inr (21, [.int 0, .null, .null]))) o c p dp x r) = some (.inl none, rq (pup g q (.inr (21, [.int 0, .ref a, .ref b]))) o c p dp x r) := by
  rw [eX21_init]
  simp (disch := first | assumption | omega | decide) only [pis_i, pis_l, pis_r, pis_n, p1_i, p1_r, p1_n, p1_u, pw0, pw1, pw2, pw3, pw4, pK_v, pK_0, pK_ite, if_true, if_false, if_pos, if_neg, Nat.reduceAdd, pok_r, i10, i01, Bool.true_or, Bool.or_true, Bool.and_true, Bool.true_and, rX21_init_0, rX21_init_1, rX21_init_4, rX21_init_5, rX21_init_6, rX21_init_9, rX21_init_10, rX21_init_10n, rX21_init_11, rX21_init_11n, rX21_init_14, rX21_init_15, rX21_init_15n, rX21_init_16, rX21_init_16n, rX21_init_19, kX14_init, qO_pcl hq, qO_pfl hq, qO_psf hq, pcl_pup, pfl_pup, psf_pup, List.set_cons_zero, List.set_cons_succ, List.getD_cons_zero, List.getD_cons_succ, beq_self_eq_true]
theorem kX15_init (hq : q ≠ o) : pCa 204 (d + 2) [.ref q, .ref a] (rq (pup g q (.inr (15, [.null]))) o c p dp x r) = some (.inl none, rq (pup g q (.inr (15, [.ref a]))) o c p dp x r) := by
  rw [eX15_init]
  simp (disch := first | assumption | omega | decide) only [pis_i, pis_l, pis_r, pis_n, p1_i, p1_r, p1_n, p1_u, pw0, pw1, pw2, pw3, pw4, pK_v, pK_0, pK_ite, if_true, if_false, if_pos, if_neg, Nat.reduceAdd, pok_r, i10, i01, Bool.true_or, Bool.or_true, Bool.and_true, Bool.true_and, rX15_init_0, rX15_init_1, rX15_init_4, rX15_init_5, rX15_init_5n, rX15_init_6, rX15_init_6n, rX15_init_9, kX14_init, qO_pcl hq, qO_pfl hq, qO_psf hq, pcl_pup, pfl_pup, psf_pup, List.set_cons_zero, List.set_cons_succ, List.getD_cons_zero, List.getD_cons_succ]
theorem kX22_init (hq : q ≠ o) : pCa 217 (d + 2) [.ref q, .ref a, .ref b] (rq (pup g q (.inr (22, [.null, .null, .null]))) o c p dp x r) = some (.inl none, rq (pup g q (.inr (22, [.ref a, .ref b, .null]))) o c p dp x r) := by
  rw [eX22_init]
  simp (disch := first | assumption | omega | decide) only [pis_i, pis_l, pis_r, pis_n, p1_i, p1_r, p1_n, p1_u, pw0, pw1, pw2, pw3, pw4, pK_v, pK_0, pK_ite, if_true, if_false, if_pos, if_neg, Nat.reduceAdd, pok_r, i10, i01, Bool.true_or, Bool.or_true, Bool.and_true, Bool.true_and, rX22_init_0, rX22_init_1, rX22_init_4, rX22_init_5, rX22_init_5n, rX22_init_6, rX22_init_6n, rX22_init_9, rX22_init_10, rX22_init_10n, rX22_init_11, rX22_init_11n, rX22_init_14, qO_pcl hq, qO_pfl hq, qO_psf hq, pcl_pup, pfl_pup, psf_pup, List.set_cons_zero, List.set_cons_succ, List.getD_cons_zero, List.getD_cons_succ]
theorem kX22_initn (hq : q ≠ o) : pCa 217 (d + 2) [.ref q, .null, .ref b] (rq (pup g q (.inr (22, [.null, .null, .null]))) o c p dp x r) = some (.inl none, rq (pup g q (.inr (22, [.null, .ref b, .null]))) o c p dp x r) := by
  rw [eX22_initn]
  simp (disch := first | assumption | omega | decide) only [pis_i, pis_l, pis_r, pis_n, p1_i, p1_r, p1_n, p1_u, pw0, pw1, pw2, pw3, pw4, pK_v, pK_0, pK_ite, if_true, if_false, if_pos, if_neg, Nat.reduceAdd, pok_r, i10, i01, Bool.true_or, Bool.or_true, Bool.and_true, Bool.true_and, rX22_init_0, rX22_init_1, rX22_init_4, rX22_init_5, rX22_init_5n, rX22_init_6, rX22_init_6n, rX22_init_9, rX22_init_10, rX22_init_10n, rX22_init_11, rX22_init_11n, rX22_init_14, qO_pcl hq, qO_pfl hq, qO_psf hq, pcl_pup, pfl_pup, psf_pup, List.set_cons_zero, List.set_cons_succ, List.getD_cons_zero, List.getD_cons_succ]
theorem kX17_init (hq : q ≠ o) : pCa 207 (d + 2) [.ref q, .int w] (rq (pup g q (.inr (17, [.int 0]))) o c p dp x r) = some (.inl none, rq (pup g q (.inr (17, [.int w]))) o c p dp x r) := by
  rw [eX17_init]
  simp (disch := first | assumption | omega | decide) only [pis_i, pis_l, pis_r, pis_n, p1_i, p1_r, p1_n, p1_u, pw0, pw1, pw2, pw3, pw4, pK_v, pK_0, pK_ite, if_true, if_false, if_pos, if_neg, Nat.reduceAdd, pok_r, i10, i01, Bool.true_or, Bool.or_true, Bool.and_true, Bool.true_and, rX17_init_0, rX17_init_1, rX17_init_4, rX17_init_5, rX17_init_6, rX17_init_9, kX16_init, qO_pcl hq, qO_pfl hq, qO_psf hq, pcl_pup, pfl_pup, psf_pup, List.set_cons_zero, List.set_cons_succ, List.getD_cons_zero, List.getD_cons_succ]
theorem kX18_init (hq : q ≠ o) : pCa 209 (d + 2) [.ref q, .int w] (rq (pup g q (.inr (18, [.int 0]))) o c p dp x r) = some (.inl none, rq (pup g q (.inr (18, [.int w]))) o c p dp x r) := by
  rw [eX18_init]
  simp (disch := first | assumption | omega | decide) only [pis_i, pis_l, pis_r, pis_n, p1_i, p1_r, p1_n, p1_u, pw0, pw1, pw2, pw3, pw4, pK_v, pK_0, pK_ite, if_true, if_false, if_pos, if_neg, Nat.reduceAdd, pok_r, i10, i01, Bool.true_or, Bool.or_true, Bool.and_true, Bool.true_and, rX18_init_0, rX18_init_1, rX18_init_4, rX18_init_5, rX18_init_6, rX18_init_9, kX16_init, qO_pcl hq, qO_pfl hq, qO_psf hq, pcl_pup, pfl_pup, psf_pup, List.set_cons_zero, List.set_cons_succ, List.getD_cons_zero, List.getD_cons_succ]
theorem Fr.pup {h h' : pH} {n q : Nat} {z : va_E} (H : Fr h h' n) (hq : h.2.1 ≤ q) : Fr h (pup h' q z) n := ⟨H.1, H.2.1, H.2.2.1, fun i hi => by rw [pup_ne (by omega)]; exact H.2.2.2 i hi⟩
theorem pnw_pup {z : va_E} {n : Nat} : pnw h z n = Pilot.CBalloonStallLaw_law_r2619_f7ee69.pup (pnw h z n) h.2.1 z := (pup_id pnw_same).symm
theorem isC_o {q c : Nat} (ht : TpOk t) (hc : c < 256) : (hr t q = nI c) = (isC t q c = true) := hr_eq (c := c) ht (by show c < 2147483648; omega)
theorem lpP_ge {sub : Nat → QR Sm} {o1 o2 : Nat} (hs : ∀ p, p ≤ t.1 → okQs t p (sub p)) : ∀ n a p, p ≤ t.1 → ∀ {s r}, lpP sub o1 o2 t n a p = .inr (s, r) → p ≤ r := by
  intro n
  induction n with
  | zero => intro a p _ s r h; cases h
  | succ n ih =>
    intro a p hp s r h
    have s1 := skp_le (t := t) (a := p)
    have s2 := skp_t hp
    rw [lpP] at h
    by_cases h1 : isC t (skp t p) o1 = true ∨ isC t (skp t p) o2 = true
    · rw [if_pos h1] at h
      have h2 : skp t p < t.1 := by rcases h1 with z | z <;> (have := isC_lt z; omega)
      have := hs (skp t p + 1) (by omega)
      generalize sub (skp t p + 1) = z at this h
      match z, this, h with
      | .inr (b, q), ⟨r1, r2, r3, r4⟩, h => have := ih _ q r2 h; omega
    · rw [if_neg h1] at h
      cases h
      exact s1
theorem kX13_term_l {sub : Nat → QR Sm} {lo : Nat} (hs : ∀ h p, RP h x o t N → p ≤ t.1 → oG SmAt t x o dp h p (pCa 200 (d + 11) [.ref o] (rq h o 13 p dp x [.ref x])) (sub p)) (hok : ∀ p, p ≤ t.1 → okQs t p (sub p)) : ∀ n h p a s, RP h x o t N → lo ≤ h.2.1 → p ≤ t.1 → t.1 - p < n → PS SmAt h lo h.2.1 s a → (match lpP sub 42 47 t n s p with
    | .inl w => ∃ e h' a' dp', pR 199 (d + 12) 10 [.ref o, .ref a, .int (hr t (skp t p))] [] (rq h o 13 (skp t p) dp x [.ref x]) = some (.inr e, rq h' o 13 a' dp' x [.ref x]) ∧ Fr h h' (t.1 - p + 2) ∧ h'.1 e = some (wr (nI w)) ∧ e ≠ o
    | .inr (s', q) => ∃ a1 h', pR 199 (d + 12) 10 [.ref o, .ref a, .int (hr t (skp t p))] [] (rq h o 13 (skp t p) dp x [.ref x]) = some (.inl (some (.ref a1)), rq h' o 13 q dp x [.ref x]) ∧ Fr h h' (q - p) ∧ PS SmAt h' lo h'.2.1 s' a1) := by
  intro n
  induction n with
  | zero => intro h p a s _ _ _ hn; omega
  | succ n ih =>
    intro h p a s hR hl hp hn hP
    have hq0 : o ≠ x ∧ o ≠ x + 2 := ⟨hR.n0, hR.n2⟩
    have ho := hR.ol
    have ht := hR.X.k
    have ht1 := ht.1
    have hpo : pok 5 13 = true := rfl
    have s1 := skp_le (t := t) (a := p)
    have s2 := skp_t hp
    rw [lpP]
    by_cases h1 : isC t (skp t p) 42 = true ∨ isC t (skp t p) 47 = true
    · rw [if_pos h1]
      have h2 : skp t p < t.1 ∧ (t.2 (skp t p) = 42 ∨ t.2 (skp t p) = 47) := by rcases h1 with z | z <;> (have := isC_lt z; omega)
      have hf1 : Fr h (pnw h (.inr (19, [.int 0, .null, .null])) 3) 1 := Fr.nw (by decide)
      have hs1 := hs _ (skp t p + 1) (hR.fr hf1) (by omega)
      have ok1 := hok (skp t p + 1) (by omega)
      have hno : h.2.1 ≠ o := by omega
      have go : pR 199 (d + 12) 10 [.ref o, .ref a, .int (hr t (skp t p))] [] (rq h o 13 (skp t p) dp x [.ref x]) = pK 199 (d + 12) 39 3 [.ref o, .ref a, .int (nI (t.2 (skp t p)))] [.ref a, .int (nI (t.2 (skp t p))), .ref h.2.1, .ref h.2.1] (pCa 200 (d + 11) [.ref o] (rq (pnw h (.inr (19, [.int 0, .null, .null])) 3) o 13 (skp t p + 1) dp x [.ref x])) := by
        rw [rX13_term_10, hr_in h2.1]
        rcases h2.2 with e | e <;> simp (disch := first | assumption | omega | decide | rfl) only [pis_i, pis_l, pis_r, pis_n, p1_i, p1_r, p1_n, p1_u, pw0, pw1, pw2, pw3, pw4, pK_v, pK_0, pK_ite, if_true, if_false, if_pos, if_neg, Nat.reduceAdd, pok_r, i10, i01, Bool.true_or, Bool.or_true, Bool.and_true, Bool.true_and, Nat.add_sub_cancel, i1p1, i1p0, i0p1, i0p0, nIrem2, va_rf_s, bit1, bit0, pinT, pinLT, pin0, nIc, nIcL, nIlt, nIeq, nIltL, nILlt, nIeqL, nILeq, nIadL, nILad, nILmu, nI_add, nIsbL, nI_sub', decide_true, decide_false, Bool.false_or, Bool.or_false, rX13_term_11, rX13_term_13, rX13_term_16, rX13_term_17, rX13_term_19, rX13_term_22, rX13_term_23, rX13_term_23i, rX13_term_24, rX13_term_27, rX13_term_28, rX13_term_29, rX13_term_32, rX13_term_35, rX13_term_35i, rX13_term_36, rX13_term_37, rX13_term_37n, rX13_term_38, rX13_term_39, e, qCl, qF0, qP0, rq_21, qO_pnw]
      rw [go]
      generalize sub (skp t p + 1) = z at hs1 ok1
      match z, hs1, ok1 with
      | .inl w, ⟨e, h', a', dp', q1, q2, q3, q4⟩, _ =>
        refine ⟨e, h', a', dp', ?_, (hf1.tr q2).wk (by omega), q3, q4⟩
        rw [q1, pK_t rfl]
      | .inr (b, q), ⟨a1, h1', q1, q2, q3⟩, ⟨k1, k2, k3, k4⟩ =>
        have hcell : h1'.1 h.2.1 = some (.inr (19, [.int 0, .null, .null])) := by rw [q2.2.2.2 h.2.1 (Nat.lt_succ_self _)]; exact pnw_same
        have hg1 : h.2.1 + 1 ≤ h1'.2.1 := q2.1
        have fr2 := (hf1.tr q2).pup (q := h.2.1) (z := .inr (19, [.int (nI (t.2 (skp t p))), .ref a, .ref a1])) (Nat.le_refl _)
        have hR2 := hR.fr fr2
        have hP3 : PS SmAt (pup h1' h.2.1 (.inr (19, [.int (nI (t.2 (skp t p))), .ref a, .ref a1]))) lo (pup h1' h.2.1 (.inr (19, [.int (nI (t.2 (skp t p))), .ref a, .ref a1]))).2.1 (.pa (t.2 (skp t p)) s b) h.2.1 := by
          intro h2 g2
          refine ⟨a, a1, ?_, hP h2 (fun z z1 z2 => ?_), q3 h2 (fun z z1 z2 => ?_)⟩
          · rw [g2 h.2.1 hl (by show h.2.1 < h1'.2.1; omega)]; exact pup_same
          · rw [g2 z z1 (by show z < h1'.2.1; omega), fr2.2.2.2 z z2]
          · have z1 : h.2.1 + 1 ≤ z := z1
            rw [g2 z (by omega) z2, pup_ne (by omega)]
        have hi := ih (pup h1' h.2.1 (.inr (19, [.int (nI (t.2 (skp t p))), .ref a, .ref a1]))) q h.2.1 (.pa (t.2 (skp t p)) s b) hR2 (by show lo ≤ h1'.2.1; omega) k2 (by omega) hP3
        have hlk := kX5_look (d := d + 10) (dp := dp) (c := 13) (r := [.ref x]) hR2.X hq0 hpo k2
        have e1 : rq h1' o 13 q dp x [.ref x] = rq (pup h1' h.2.1 (.inr (19, [.int 0, .null, .null]))) o 13 q dp x [.ref x] := by rw [pup_id hcell]
        have go2 : pK 199 (d + 12) 39 3 [.ref o, .ref a, .int (nI (t.2 (skp t p)))] [.ref a, .int (nI (t.2 (skp t p))), .ref h.2.1, .ref h.2.1] (some (.inl (some (.ref a1)), rq h1' o 13 q dp x [.ref x])) = pR 199 (d + 12) 10 [.ref o, .ref h.2.1, .int (hr t (skp t q))] [] (rq (pup h1' h.2.1 (.inr (19, [.int (nI (t.2 (skp t p))), .ref a, .ref a1]))) o 13 (skp t q) dp x [.ref x]) := by
          rw [e1]
          simp (disch := first | assumption | omega | decide | rfl) only [pis_i, pis_l, pis_r, pis_n, p1_i, p1_r, p1_n, p1_u, pw0, pw1, pw2, pw3, pw4, pK_v, pK_0, pK_ite, if_true, if_false, if_pos, if_neg, Nat.reduceAdd, pok_r, i10, i01, Bool.true_or, Bool.or_true, Bool.and_true, Bool.true_and, Nat.add_sub_cancel, i1p1, i1p0, i0p1, i0p0, nIrem2, va_rf_s, bit1, bit0, pinT, pinLT, pin0, nIc, nIcL, nIlt, nIeq, nIltL, nILlt, nIeqL, nILeq, nIadL, nILad, nILmu, nI_add, nIsbL, nI_sub', decide_true, decide_false, Bool.false_or, Bool.or_false, rX13_term_42, rX13_term_45, rX13_term_45n, rX13_term_46, rX13_term_47, rX13_term_50, rX13_term_51, qO_pcl hno, pcl_pup, kX19_init hno, qCl, hlk]
        rw [q1, go2]
        show (match lpP sub 42 47 t n (.pa (t.2 (skp t p)) s b) q with | .inl w => _ | .inr (s', q) => _)
        have okq : ∀ s' r, lpP sub 42 47 t n (.pa (t.2 (skp t p)) s b) q = .inr (s', r) → q ≤ r := fun s' r e => lpP_ge hok n _ q k2 e
        generalize lpP sub 42 47 t n (.pa (t.2 (skp t p)) s b) q = y at hi okq
        match y, hi, okq with
        | .inl w, ⟨e, h', a', dp', r1, r2, r3, r4⟩, _ => exact ⟨e, h', a', dp', r1, (fr2.tr r2).wk (by omega), r3, r4⟩
        | .inr (s', q'), ⟨a2, h', r1, r2, r3⟩, okq =>
          have := okq s' q' rfl
          exact ⟨a2, h', r1, (fr2.tr r2).wk (by omega), r3⟩
    · rw [if_neg h1]
      refine ⟨a, h, ?_, Fr.rf, hP⟩
      have h3 : ¬ isC t (skp t p) 42 = true := fun z => h1 (Or.inl z)
      have h4 : ¬ isC t (skp t p) 47 = true := fun z => h1 (Or.inr z)
      rw [rX13_term_10]
      simp (disch := first | assumption | omega | decide | rfl) only [pis_i, pis_l, pis_r, pis_n, p1_i, p1_r, p1_n, p1_u, pw0, pw1, pw2, pw3, pw4, pK_v, pK_0, pK_ite, if_true, if_false, if_pos, if_neg, Nat.reduceAdd, pok_r, i10, i01, Bool.true_or, Bool.or_true, Bool.and_true, Bool.true_and, Nat.add_sub_cancel, i1p1, i1p0, i0p1, i0p0, nIrem2, va_rf_s, bit1, bit0, pinT, pinLT, pin0, nIc, nIcL, nIlt, nIeq, nIltL, nILlt, nIeqL, nILeq, nIadL, nILad, nILmu, nI_add, nIsbL, nI_sub', decide_true, decide_false, Bool.false_or, Bool.or_false, rX13_term_11, rX13_term_13, rX13_term_16, rX13_term_17, rX13_term_19, rX13_term_22, rX13_term_23, rX13_term_23i, rX13_term_24, rX13_term_27, rX13_term_28, rX13_term_29, rX13_term_32, rX13_term_35, rX13_term_35i, rX13_term_36, rX13_term_37, rX13_term_37n, rX13_term_38, rX13_term_39, rX13_term_42, rX13_term_45, rX13_term_45n, rX13_term_46, rX13_term_47, rX13_term_50, rX13_term_51, rX13_term_54, rX13_term_54n, rX13_term_55, hr_eq ht, h3, h4]
theorem kX13_term {sub : Nat → QR Sm} (hs : ∀ h p, RP h x o t N → p ≤ t.1 → oG SmAt t x o dp h p (pCa 200 (d + 11) [.ref o] (rq h o 13 p dp x [.ref x])) (sub p)) (hok : ∀ p, p ≤ t.1 → okQs t p (sub p)) (hR : RP h x o t N) (hp : p ≤ t.1) : oG SmAt t x o dp h p (pCa 199 (d + 12) [.ref o] (rq h o 13 p dp x [.ref x])) (match sub p with
    | .inl w => .inl w
    | .inr (a, q) => lpP sub 42 47 t 201 a q) := by
  have hq0 : o ≠ x ∧ o ≠ x + 2 := ⟨hR.n0, hR.n2⟩
  have ht1 := hR.X.k.1
  have hpo : pok 5 13 = true := rfl
  have h1 := hs h p hR hp
  have ok1 := hok p hp
  rw [eX13_term]
  generalize sub p = z at h1 ok1
  match z, h1, ok1 with
  | .inl w, ⟨e, h', a', dp', q1, q2, q3, q4⟩, _ =>
    refine ⟨e, h', a', dp', ?_, q2, q3, q4⟩
    simp (disch := first | assumption | omega | decide | rfl) only [pis_i, pis_l, pis_r, pis_n, p1_i, p1_r, p1_n, p1_u, pw0, pw1, pw2, pw3, pw4, pK_v, pK_0, pK_ite, if_true, if_false, if_pos, if_neg, Nat.reduceAdd, pok_r, i10, i01, Bool.true_or, Bool.or_true, Bool.and_true, Bool.true_and, Nat.add_sub_cancel, i1p1, i1p0, i0p1, i0p0, nIrem2, va_rf_s, bit1, bit0, pinT, pinLT, pin0, nIc, nIcL, nIlt, nIeq, nIltL, nILlt, nIeqL, nILeq, nIadL, nILad, nILmu, nI_add, nIsbL, nI_sub', decide_true, decide_false, Bool.false_or, Bool.or_false, rX13_term_0, rX13_term_1, rX13_term_4, rX13_term_4n, qCl, q1, pK_t]
  | .inr (s, q), ⟨a1, h1', q1, q2, q3⟩, ⟨k1, k2, k3, k4⟩ =>
    have hR1 := hR.fr q2
    have hlk := kX5_look (d := d + 10) (dp := dp) (c := 13) (r := [.ref x]) hR1.X hq0 hpo k2
    have go : pR 199 (d + 12) 0 [.ref o, pU, pU] [] (rq h o 13 p dp x [.ref x]) = pR 199 (d + 12) 10 [.ref o, .ref a1, .int (hr t (skp t q))] [] (rq h1' o 13 (skp t q) dp x [.ref x]) := by
      simp (disch := first | assumption | omega | decide | rfl) only [pis_i, pis_l, pis_r, pis_n, p1_i, p1_r, p1_n, p1_u, pw0, pw1, pw2, pw3, pw4, pK_v, pK_0, pK_ite, if_true, if_false, if_pos, if_neg, Nat.reduceAdd, pok_r, i10, i01, Bool.true_or, Bool.or_true, Bool.and_true, Bool.true_and, Nat.add_sub_cancel, i1p1, i1p0, i0p1, i0p0, nIrem2, va_rf_s, bit1, bit0, pinT, pinLT, pin0, nIc, nIcL, nIlt, nIeq, nIltL, nILlt, nIeqL, nILeq, nIadL, nILad, nILmu, nI_add, nIsbL, nI_sub', decide_true, decide_false, Bool.false_or, Bool.or_false, rX13_term_0, rX13_term_1, rX13_term_4, rX13_term_4n, rX13_term_5, rX13_term_6, rX13_term_9, qCl, q1, hlk]
    rw [go]
    have hl := kX13_term_l (lo := h.2.1) (d := d) hs hok 201 h1' q a1 s hR1 q2.1 k2 (by omega) q3
    have okq : ∀ s' r, lpP sub 42 47 t 201 s q = .inr (s', r) → q ≤ r := fun s' r e => lpP_ge hok 201 _ q k2 e
    show oG SmAt t x o dp h p _ (lpP sub 42 47 t 201 s q)
    generalize lpP sub 42 47 t 201 s q = y at hl okq
    match y, hl, okq with
    | .inl w, ⟨e, h', a', dp', r1, r2, r3, r4⟩, _ => exact ⟨e, h', a', dp', r1, (q2.tr r2).wk (by omega), r3, r4⟩
    | .inr (s', q'), ⟨a2, h', r1, r2, r3⟩, okq =>
      have := okq s' q' rfl
      exact ⟨a2, h', r1, (q2.tr r2).wk (by omega), r3⟩
theorem kX13_sum_l {sub : Nat → QR Sm} {lo : Nat} (hs : ∀ h p, RP h x o t N → p ≤ t.1 → oG SmAt t x o dp h p (pCa 199 (d + 11) [.ref o] (rq h o 13 p dp x [.ref x])) (sub p)) (hok : ∀ p, p ≤ t.1 → okQs t p (sub p)) : ∀ n h p a s, RP h x o t N → lo ≤ h.2.1 → p ≤ t.1 → t.1 - p < n → PS SmAt h lo h.2.1 s a → (match lpP sub 43 45 t n s p with
    | .inl w => ∃ e h' a' dp', pR 198 (d + 12) 10 [.ref o, .ref a, .int (hr t (skp t p))] [] (rq h o 13 (skp t p) dp x [.ref x]) = some (.inr e, rq h' o 13 a' dp' x [.ref x]) ∧ Fr h h' (t.1 - p + 2) ∧ h'.1 e = some (wr (nI w)) ∧ e ≠ o
    | .inr (s', q) => ∃ a1 h', pR 198 (d + 12) 10 [.ref o, .ref a, .int (hr t (skp t p))] [] (rq h o 13 (skp t p) dp x [.ref x]) = some (.inl (some (.ref a1)), rq h' o 13 q dp x [.ref x]) ∧ Fr h h' (q - p) ∧ PS SmAt h' lo h'.2.1 s' a1) := by
  intro n
  induction n with
  | zero => intro h p a s _ _ _ hn; omega
  | succ n ih =>
    intro h p a s hR hl hp hn hP
    have hq0 : o ≠ x ∧ o ≠ x + 2 := ⟨hR.n0, hR.n2⟩
    have ho := hR.ol
    have ht := hR.X.k
    have ht1 := ht.1
    have hpo : pok 5 13 = true := rfl
    have s1 := skp_le (t := t) (a := p)
    have s2 := skp_t hp
    rw [lpP]
    by_cases h1 : isC t (skp t p) 43 = true ∨ isC t (skp t p) 45 = true
    · rw [if_pos h1]
      have h2 : skp t p < t.1 ∧ (t.2 (skp t p) = 43 ∨ t.2 (skp t p) = 45) := by rcases h1 with z | z <;> (have := isC_lt z; omega)
      have hf1 : Fr h (pnw h (.inr (19, [.int 0, .null, .null])) 3) 1 := Fr.nw (by decide)
      have hs1 := hs _ (skp t p + 1) (hR.fr hf1) (by omega)
      have ok1 := hok (skp t p + 1) (by omega)
      have hno : h.2.1 ≠ o := by omega
      have go : pR 198 (d + 12) 10 [.ref o, .ref a, .int (hr t (skp t p))] [] (rq h o 13 (skp t p) dp x [.ref x]) = pK 198 (d + 12) 39 3 [.ref o, .ref a, .int (nI (t.2 (skp t p)))] [.ref a, .int (nI (t.2 (skp t p))), .ref h.2.1, .ref h.2.1] (pCa 199 (d + 11) [.ref o] (rq (pnw h (.inr (19, [.int 0, .null, .null])) 3) o 13 (skp t p + 1) dp x [.ref x])) := by
        rw [rX13_sum_10, hr_in h2.1]
        rcases h2.2 with e | e <;> simp (disch := first | assumption | omega | decide | rfl) only [pis_i, pis_l, pis_r, pis_n, p1_i, p1_r, p1_n, p1_u, pw0, pw1, pw2, pw3, pw4, pK_v, pK_0, pK_ite, if_true, if_false, if_pos, if_neg, Nat.reduceAdd, pok_r, i10, i01, Bool.true_or, Bool.or_true, Bool.and_true, Bool.true_and, Nat.add_sub_cancel, i1p1, i1p0, i0p1, i0p0, nIrem2, va_rf_s, bit1, bit0, pinT, pinLT, pin0, nIc, nIcL, nIlt, nIeq, nIltL, nILlt, nIeqL, nILeq, nIadL, nILad, nILmu, nI_add, nIsbL, nI_sub', decide_true, decide_false, Bool.false_or, Bool.or_false, rX13_sum_11, rX13_sum_13, rX13_sum_16, rX13_sum_17, rX13_sum_19, rX13_sum_22, rX13_sum_23, rX13_sum_23i, rX13_sum_24, rX13_sum_27, rX13_sum_28, rX13_sum_29, rX13_sum_32, rX13_sum_35, rX13_sum_35i, rX13_sum_36, rX13_sum_37, rX13_sum_37n, rX13_sum_38, rX13_sum_39, e, qCl, qF0, qP0, rq_21, qO_pnw]
      rw [go]
      generalize sub (skp t p + 1) = z at hs1 ok1
      match z, hs1, ok1 with
      | .inl w, ⟨e, h', a', dp', q1, q2, q3, q4⟩, _ =>
        refine ⟨e, h', a', dp', ?_, (hf1.tr q2).wk (by omega), q3, q4⟩
        rw [q1, pK_t rfl]
      | .inr (b, q), ⟨a1, h1', q1, q2, q3⟩, ⟨k1, k2, k3, k4⟩ =>
        have hcell : h1'.1 h.2.1 = some (.inr (19, [.int 0, .null, .null])) := by rw [q2.2.2.2 h.2.1 (Nat.lt_succ_self _)]; exact pnw_same
        have hg1 : h.2.1 + 1 ≤ h1'.2.1 := q2.1
        have fr2 := (hf1.tr q2).pup (q := h.2.1) (z := .inr (19, [.int (nI (t.2 (skp t p))), .ref a, .ref a1])) (Nat.le_refl _)
        have hR2 := hR.fr fr2
        have hP3 : PS SmAt (pup h1' h.2.1 (.inr (19, [.int (nI (t.2 (skp t p))), .ref a, .ref a1]))) lo (pup h1' h.2.1 (.inr (19, [.int (nI (t.2 (skp t p))), .ref a, .ref a1]))).2.1 (.pa (t.2 (skp t p)) s b) h.2.1 := by
          intro h2 g2
          refine ⟨a, a1, ?_, hP h2 (fun z z1 z2 => ?_), q3 h2 (fun z z1 z2 => ?_)⟩
          · rw [g2 h.2.1 hl (by show h.2.1 < h1'.2.1; omega)]; exact pup_same
          · rw [g2 z z1 (by show z < h1'.2.1; omega), fr2.2.2.2 z z2]
          · have z1 : h.2.1 + 1 ≤ z := z1
            rw [g2 z (by omega) z2, pup_ne (by omega)]
        have hi := ih (pup h1' h.2.1 (.inr (19, [.int (nI (t.2 (skp t p))), .ref a, .ref a1]))) q h.2.1 (.pa (t.2 (skp t p)) s b) hR2 (by show lo ≤ h1'.2.1; omega) k2 (by omega) hP3
        have hlk := kX5_look (d := d + 10) (dp := dp) (c := 13) (r := [.ref x]) hR2.X hq0 hpo k2
        have e1 : rq h1' o 13 q dp x [.ref x] = rq (pup h1' h.2.1 (.inr (19, [.int 0, .null, .null]))) o 13 q dp x [.ref x] := by rw [pup_id hcell]
        have go2 : pK 198 (d + 12) 39 3 [.ref o, .ref a, .int (nI (t.2 (skp t p)))] [.ref a, .int (nI (t.2 (skp t p))), .ref h.2.1, .ref h.2.1] (some (.inl (some (.ref a1)), rq h1' o 13 q dp x [.ref x])) = pR 198 (d + 12) 10 [.ref o, .ref h.2.1, .int (hr t (skp t q))] [] (rq (pup h1' h.2.1 (.inr (19, [.int (nI (t.2 (skp t p))), .ref a, .ref a1]))) o 13 (skp t q) dp x [.ref x]) := by
          rw [e1]
          simp (disch := first | assumption | omega | decide | rfl) only [pis_i, pis_l, pis_r, pis_n, p1_i, p1_r, p1_n, p1_u, pw0, pw1, pw2, pw3, pw4, pK_v, pK_0, pK_ite, if_true, if_false, if_pos, if_neg, Nat.reduceAdd, pok_r, i10, i01, Bool.true_or, Bool.or_true, Bool.and_true, Bool.true_and, Nat.add_sub_cancel, i1p1, i1p0, i0p1, i0p0, nIrem2, va_rf_s, bit1, bit0, pinT, pinLT, pin0, nIc, nIcL, nIlt, nIeq, nIltL, nILlt, nIeqL, nILeq, nIadL, nILad, nILmu, nI_add, nIsbL, nI_sub', decide_true, decide_false, Bool.false_or, Bool.or_false, rX13_sum_42, rX13_sum_45, rX13_sum_45n, rX13_sum_46, rX13_sum_47, rX13_sum_50, rX13_sum_51, qO_pcl hno, pcl_pup, kX19_init hno, qCl, hlk]
        rw [q1, go2]
        show (match lpP sub 43 45 t n (.pa (t.2 (skp t p)) s b) q with | .inl w => _ | .inr (s', q) => _)
        have okq : ∀ s' r, lpP sub 43 45 t n (.pa (t.2 (skp t p)) s b) q = .inr (s', r) → q ≤ r := fun s' r e => lpP_ge hok n _ q k2 e
        generalize lpP sub 43 45 t n (.pa (t.2 (skp t p)) s b) q = y at hi okq
        match y, hi, okq with
        | .inl w, ⟨e, h', a', dp', r1, r2, r3, r4⟩, _ => exact ⟨e, h', a', dp', r1, (fr2.tr r2).wk (by omega), r3, r4⟩
        | .inr (s', q'), ⟨a2, h', r1, r2, r3⟩, okq =>
          have := okq s' q' rfl
          exact ⟨a2, h', r1, (fr2.tr r2).wk (by omega), r3⟩
    · rw [if_neg h1]
      refine ⟨a, h, ?_, Fr.rf, hP⟩
      have h3 : ¬ isC t (skp t p) 43 = true := fun z => h1 (Or.inl z)
      have h4 : ¬ isC t (skp t p) 45 = true := fun z => h1 (Or.inr z)
      rw [rX13_sum_10]
      simp (disch := first | assumption | omega | decide | rfl) only [pis_i, pis_l, pis_r, pis_n, p1_i, p1_r, p1_n, p1_u, pw0, pw1, pw2, pw3, pw4, pK_v, pK_0, pK_ite, if_true, if_false, if_pos, if_neg, Nat.reduceAdd, pok_r, i10, i01, Bool.true_or, Bool.or_true, Bool.and_true, Bool.true_and, Nat.add_sub_cancel, i1p1, i1p0, i0p1, i0p0, nIrem2, va_rf_s, bit1, bit0, pinT, pinLT, pin0, nIc, nIcL, nIlt, nIeq, nIltL, nILlt, nIeqL, nILeq, nIadL, nILad, nILmu, nI_add, nIsbL, nI_sub', decide_true, decide_false, Bool.false_or, Bool.or_false, rX13_sum_11, rX13_sum_13, rX13_sum_16, rX13_sum_17, rX13_sum_19, rX13_sum_22, rX13_sum_23, rX13_sum_23i, rX13_sum_24, rX13_sum_27, rX13_sum_28, rX13_sum_29, rX13_sum_32, rX13_sum_35, rX13_sum_35i, rX13_sum_36, rX13_sum_37, rX13_sum_37n, rX13_sum_38, rX13_sum_39, rX13_sum_42, rX13_sum_45, rX13_sum_45n, rX13_sum_46, rX13_sum_47, rX13_sum_50, rX13_sum_51, rX13_sum_54, rX13_sum_54n, rX13_sum_55, hr_eq ht, h3, h4]
theorem kX13_sum {sub : Nat → QR Sm} (hs : ∀ h p, RP h x o t N → p ≤ t.1 → oG SmAt t x o dp h p (pCa 199 (d + 11) [.ref o] (rq h o 13 p dp x [.ref x])) (sub p)) (hok : ∀ p, p ≤ t.1 → okQs t p (sub p)) (hR : RP h x o t N) (hp : p ≤ t.1) : oG SmAt t x o dp h p (pCa 198 (d + 12) [.ref o] (rq h o 13 p dp x [.ref x])) (match sub p with
    | .inl w => .inl w
    | .inr (a, q) => lpP sub 43 45 t 201 a q) := by
  have hq0 : o ≠ x ∧ o ≠ x + 2 := ⟨hR.n0, hR.n2⟩
  have ht1 := hR.X.k.1
  have hpo : pok 5 13 = true := rfl
  have h1 := hs h p hR hp
  have ok1 := hok p hp
  rw [eX13_sum]
  generalize sub p = z at h1 ok1
  match z, h1, ok1 with
  | .inl w, ⟨e, h', a', dp', q1, q2, q3, q4⟩, _ =>
    refine ⟨e, h', a', dp', ?_, q2, q3, q4⟩
    simp (disch := first | assumption | omega | decide | rfl) only [pis_i, pis_l, pis_r, pis_n, p1_i, p1_r, p1_n, p1_u, pw0, pw1, pw2, pw3, pw4, pK_v, pK_0, pK_ite, if_true, if_false, if_pos, if_neg, Nat.reduceAdd, pok_r, i10, i01, Bool.true_or, Bool.or_true, Bool.and_true, Bool.true_and, Nat.add_sub_cancel, i1p1, i1p0, i0p1, i0p0, nIrem2, va_rf_s, bit1, bit0, pinT, pinLT, pin0, nIc, nIcL, nIlt, nIeq, nIltL, nILlt, nIeqL, nILeq, nIadL, nILad, nILmu, nI_add, nIsbL, nI_sub', decide_true, decide_false, Bool.false_or, Bool.or_false, rX13_sum_0, rX13_sum_1, rX13_sum_4, rX13_sum_4n, qCl, q1, pK_t]
  | .inr (s, q), ⟨a1, h1', q1, q2, q3⟩, ⟨k1, k2, k3, k4⟩ =>
    have hR1 := hR.fr q2
    have hlk := kX5_look (d := d + 10) (dp := dp) (c := 13) (r := [.ref x]) hR1.X hq0 hpo k2
    have go : pR 198 (d + 12) 0 [.ref o, pU, pU] [] (rq h o 13 p dp x [.ref x]) = pR 198 (d + 12) 10 [.ref o, .ref a1, .int (hr t (skp t q))] [] (rq h1' o 13 (skp t q) dp x [.ref x]) := by
      simp (disch := first | assumption | omega | decide | rfl) only [pis_i, pis_l, pis_r, pis_n, p1_i, p1_r, p1_n, p1_u, pw0, pw1, pw2, pw3, pw4, pK_v, pK_0, pK_ite, if_true, if_false, if_pos, if_neg, Nat.reduceAdd, pok_r, i10, i01, Bool.true_or, Bool.or_true, Bool.and_true, Bool.true_and, Nat.add_sub_cancel, i1p1, i1p0, i0p1, i0p0, nIrem2, va_rf_s, bit1, bit0, pinT, pinLT, pin0, nIc, nIcL, nIlt, nIeq, nIltL, nILlt, nIeqL, nILeq, nIadL, nILad, nILmu, nI_add, nIsbL, nI_sub', decide_true, decide_false, Bool.false_or, Bool.or_false, rX13_sum_0, rX13_sum_1, rX13_sum_4, rX13_sum_4n, rX13_sum_5, rX13_sum_6, rX13_sum_9, qCl, q1, hlk]
    rw [go]
    have hl := kX13_sum_l (lo := h.2.1) (d := d) hs hok 201 h1' q a1 s hR1 q2.1 k2 (by omega) q3
    have okq : ∀ s' r, lpP sub 43 45 t 201 s q = .inr (s', r) → q ≤ r := fun s' r e => lpP_ge hok 201 _ q k2 e
    show oG SmAt t x o dp h p _ (lpP sub 43 45 t 201 s q)
    generalize lpP sub 43 45 t 201 s q = y at hl okq
    match y, hl, okq with
    | .inl w, ⟨e, h', a', dp', r1, r2, r3, r4⟩, _ => exact ⟨e, h', a', dp', r1, (q2.tr r2).wk (by omega), r3, r4⟩
    | .inr (s', q'), ⟨a2, h', r1, r2, r3⟩, okq =>
      have := okq s' q' rfl
      exact ⟨a2, h', r1, (q2.tr r2).wk (by omega), r3⟩
end
