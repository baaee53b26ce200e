/-! STEPS 6: bubble, guest, worth, which may throw -/
set_option maxRecDepth 100000
def Thr (b L : Nat) (xs : Nat → Int32) (base Mw Mm : Nat) (as : List Value) (H : pH) : Prop := ∃ k r H1 H2, pCa Mw 2047 (.ref base :: (as ++ [.ref (base + 49)])) H = some (.inl (some (.int k)), H1) ∧ pCa Mm 2047 (.ref (base + 14) :: as) H1 = some (.inl (some (.int r)), H2) ∧ pCa 67 2047 [.ref (base + 14)] H2 = some (.inl (some (.int k)), H2) ∧ (k = 0 ∧ pctL H2 (base + 49) 0 = r.toInt64 ∨ k = 1) ∧ plnL H2 (base + 49) = 1 ∧ H1.1 b = some (.inl (9, L, .inl xs)) ∧ pcl H1 (base + 14) = 3 ∧ pcl H2 (base + 14) = 3 ∧ Good b L xs base H2 ∧ H2.2.1 ≤ H.2.1 + 1000 ∧ H2.2.2 ≤ H.2.2 + 10000
section
variable {b L base Mw Mi Mm : Nat} {xs : Nat → Int32} {X X' : XS} {S S' : MS} {H h : pH} {w w' : Wld} {as : List Value}
theorem kX3_thrown {d m : Nat} : pCa 67 d [.ref m] (mput h m S) = some (.inl (some (.int (S.1 0))), mput h m S) := by
  rw [eX3_thrown]
  simp only [pis_i, pis_l, pis_r, pis_n, p1_i, p1_r, p1_n, p1_u, pw0, pw1, pw2, pw3, pw4, pK_v, pK_0, pK_ite, if_true, if_false, if_pos, if_neg, Nat.reduceAdd, pok_r, i10, i01, Bool.true_or, Bool.or_true, Bool.and_true, Bool.true_and, rX3_thrown_0, rX3_thrown_1, rX3_thrown_4, mCl, mF0, mP0, mF1, mF2, mF3, mF4, mF5, mP5, mF6, mF7, mP7, mF8, mP8, mF9, mP9, mF10, mP10, mF11, mF12, mF13, mF14, mF15, mF16, mF17, mF18, mF19, mF20, mP20, mF21, mF22, mF23, mP23, mF24, mP24, mF25, mP25, mF26, mF27, mF28, mF29, mF30, mF31, mP31, mF32, mP32, mF33, mP33, mF34, mF35, mF36, mF37, mF38, mF39, mF40, mF41, mF42, mF43, mF44, mF45, mP45, mF46, mP46, mF47, mP47, mF48, mP48, mF49, mF50, mF51, mP51, mL1, mL1n, mC1, mW1, mL2, mL2n, mC2, mW2, mL3, mL3n, mC3, mW3, mL4, mL4n, mC4, mW4, mL5, mL5n, mC5, mW5, mL6, mL6n, mC6, mW6, mL7, mL7n, mC7, mW7, mL8, mL8n, mC8, mW8, mL9, mL9n, mC9, mW9, mL10, mL10n, mC10, mW10, mL11, mL11n, mC11, mW11, mL12, mL12n, mC12, mW12, mL13, mL13n, mC13, mW13, mL14, mL14n, mC14, mW14, mL15, mL15n, mC15, mW15, mL16, mL16n, mC16, mW16, mL17, mL17n, mC17, mW17, mL18, mL18n, mC18, mW18, mL19, mL19n, mC19, mW19, mL20, mL20n, mC20, mW20, mL21, mL21n, mC21, mW21, mL23, mL23n, mC23, mW23, mL24, mL24n, mC24, mW24, mL25, mL25n, mC25, mW25, mL26, mL26n, mC26, mW26, mL27, mL27n, mC27, mW27, mL28, mL28n, mC28, mW28, mL29, mL29n, mC29, mW29, mL30, mL30n, mC30, mW30, mL31, mL31n, mC31, mW31, mL32, mL32n, mC32, mW32, mL33, mL33n, mC33, mW33, mL34, mL34n, mC34, mW34, mL22, mC22, mW22]
theorem Full.out (F : Full b L xs base X S H) (v : Int64) : Full b L xs base X S (pstL H (base + 49) 0 v) ∧ pctL (pstL H (base + 49) 0 v) (base + 49) 0 = v ∧ Hle (base + 50) H (pstL H (base + 49) 0 v) ∧ (pstL H (base + 49) 0 v).2 = H.2 := by
  obtain ⟨f1, f2, f3, ⟨f, f4⟩, f5, f6⟩ := F
  have e : pstL H (base + 49) 0 v = pup H (base + 49) (.inl (3, 1, .inr (.inl (vp_updL f 0 v)))) := by unfold pstL; rw [f4]
  rw [e]
  have ne : ∀ q, q ≠ base + 49 → (pup H (base + 49) (.inl (3, 1, .inr (.inl (vp_updL f 0 v))))).1 q = H.1 q := fun q hq => pup_ne hq
  have sm : (pup H (base + 49) (.inl (3, 1, .inr (.inl (vp_updL f 0 v))))).1 (base + 49) = some (.inl (3, 1, .inr (.inl (vp_updL f 0 v)))) := by simp [pup]
  refine ⟨⟨fun j hj => (ne _ (by omega)).trans (f1 j hj), fun j hj => (ne _ (by omega)).trans (f2 j hj), (ne _ (by omega)).trans f3, ⟨_, sm⟩, f5, f6⟩, ?_, ⟨Nat.le_refl _, fun q q1 _ => ne q (by omega)⟩, rfl⟩
  unfold pctL
  rw [sm]
  exact upL_s
theorem Full.ol (F : Full b L xs base X S H) : plnL H (base + 49) = 1 := by
  obtain ⟨f, hf⟩ := F.o
  unfold plnL
  rw [hf]
  rfl
theorem thr_mk (F : Full b L xs base X S H) (R : Rel base X S H w)
    (hq : ∀ h : pH, ∃ (r k : Int32) (S' : MS) (X' : XS), pCa Mm 2047 (.ref (base + 14) :: as) (mput h (base + 14) S) = some (.inl (some (.int r)), mput h (base + 14) S') ∧ S'.1 0 = k ∧ mrel S S' ∧ ((k = 0 ∧ pCa Mi 2046 (.ref base :: as) (xput H base X) = some (.inl (some (.int r)), xput H base X') ∧ xrel X X') ∨ (k = 1 ∧ pCa Mi 2046 (.ref base :: as) (xput H base X) = some (.inr H.2.1, pnw (xput H base X) (.inr (26, [])) 6))))
    (hw0 : ∀ Ha r, pCa Mi 2046 (.ref base :: as) H = some (.inl (some (.int r)), Ha) → plnL Ha (base + 49) = 1 → pCa Mw 2047 (.ref base :: (as ++ [.ref (base + 49)])) H = some (.inl (some (.int 0)), pstL Ha (base + 49) 0 r.toInt64))
    (hw1 : ∀ Ha e, pCa Mi 2046 (.ref base :: as) H = some (.inr e, Ha) → pcl Ha e = 26 → pCa Mw 2047 (.ref base :: (as ++ [.ref (base + 49)])) H = some (.inl (some (.int 1)), Ha)) : Thr b L xs base Mw Mm as H := by
  obtain ⟨r, k, S1, X1, -, -, -, hx⟩ := hq H
  rcases hx with ⟨rfl, hx, xr⟩ | ⟨rfl, hx⟩
  · have F1 := F.stepx (X' := X1) (Gw.rf.gx F.n)
    obtain ⟨F2, o1, o2, o3⟩ := F1.out r.toInt64
    obtain ⟨r2, k2, S2, X2, m1, m2, m3, hx2⟩ := hq (pstL (xput H base X1) (base + 49) 0 r.toInt64)
    have e : r2 = r ∧ k2 = 0 := by
      rcases hx2 with ⟨e1, e2, -⟩ | ⟨e1, e2⟩
      · rw [hx] at e2
        have e3 := congrArg (fun z => z.map Prod.fst) e2
        have e3 : r = r2 := by simpa using e3
        exact ⟨e3.symm, e1⟩
      · rw [hx] at e2
        have e3 := congrArg (fun z => z.map Prod.fst) e2
        simp at e3
    obtain ⟨rfl, rfl⟩ := e
    have F3 := F2.stepm (S' := S2)
    have hx' := hx
    rw [F.xid] at hx'
    refine ⟨0, r2, _, mput (pstL (xput H base X1) (base + 49) 0 r2.toInt64) (base + 14) S2, hw0 _ _ hx' F1.ol, ?_, ?_, Or.inl ⟨rfl, ?_⟩, F3.ol, F2.s, F2.pm, F3.pm, ⟨X1, S2, w, F3, R.fr ((Hle.putx (by omega)).tr (o2.tr (Hle.putm (by omega)))) xr m3⟩, ?_, ?_⟩
    · rw [← m1, F2.mid]
    · rw [kX3_thrown, m2]
    · refine Eq.trans ?_ o1
      unfold pctL
      rw [mput_out (Or.inr (by omega))]
    · show (pstL (xput H base X1) (base + 49) 0 r2.toInt64).2.1 ≤ _
      rw [o3]; show H.2.1 ≤ _; omega
    · show (pstL (xput H base X1) (base + 49) 0 r2.toInt64).2.2 ≤ _
      rw [o3]; show H.2.2 ≤ _; omega
  · have hxx : base + 14 ≤ H.2.1 := by have := F.n; omega
    rw [xO_pnw hxx] at hx
    have F1 := F.stepx (X' := X) (Gx.pnw (c := .inr (26, [])) (n := 6) F.n (by decide))
    obtain ⟨r2, k2, S2, X2, m1, m2, m3, hx2⟩ := hq (xput (pnw H (.inr (26, [])) 6) base X)
    rw [xO_pnw hxx] at hx2
    have e : k2 = 1 := by
      rcases hx2 with ⟨e1, e2, -⟩ | ⟨e1, e2⟩
      · rw [hx] at e2
        have e3 := congrArg (fun z => z.map Prod.fst) e2
        simp at e3
      · exact e1
    subst e
    have F3 := F1.stepm (S' := S2)
    have hx' := hx
    rw [F.xid] at hx'
    have hcl : pcl (xput (pnw H (.inr (26, [])) 6) base X) H.2.1 = 26 := by
      rw [xO_pcl (F := 0) (k := 0) (Or.inr hxx)]
      exact pcl_pnw
    refine ⟨1, r2, xput (pnw H (.inr (26, [])) 6) base X, mput (xput (pnw H (.inr (26, [])) 6) base X) (base + 14) S2, hw1 _ _ hx' hcl, ?_, ?_, Or.inr rfl, F3.ol, F1.s, F1.pm, F3.pm, ⟨X, S2, w, F3, R.fr (Hle.pnw.tr ((Hle.putx (by omega)).tr (Hle.putm (by omega)))) xrel.rf m3⟩, ?_, ?_⟩
    · rw [← m1, F1.mid]
    · rw [kX3_thrown, m2]
    · show H.2.1 + 1 ≤ _; omega
    · show H.2.2 + 6 ≤ _; omega
theorem mrel.z {k : Int32} : mrel S (upd S.1 0 k, S.2) := ⟨fun j hj => by show upd S.1 0 k j = _; exact upd_ne (by omega), fun _ _ => rfl⟩
theorem w_bubble (F : Full b L xs base X S H) (R : Rel base X S H w) (v u z : Int32) : Thr b L xs base 0 114 [.int v, .int u, .int z] H := by
  have px := F.px
  refine thr_mk (Mi := 62) F R (fun h => ?_) (fun Ha r hx hl => ?_) (fun Ha e hx hc => ?_)
  · obtain ⟨r, k, h1, h2⟩ := q_bubble2 (d := 2035) (e := 2034) (m := base + 14) (h := h) R.f.1 R.xf0.up v u z
    exact ⟨r, k, _, X, h1, by show upd S.1 0 k 0 = k; exact upd_same, mrel.z, h2.imp (fun q => ⟨q.1, q.2, xrel.rf⟩) id⟩
  · show pCa 0 2047 [.ref base, .int v, .int u, .int z, .ref (base + 49)] H = _
    rw [eX0_bubble, show (2047 : Nat) = 2046 + 1 from rfl]
    simp (disch := first | assumption | omega | decide) only [pis_i, pis_l, pis_r, pis_n, p1_i, p1_r, p1_n, p1_u, pw0, pw1, pw2, pw3, pw4, pK_v, pK_0, pK_ite, if_true, if_false, if_pos, if_neg, Nat.reduceAdd, pok_r, i10, i01, Bool.true_or, Bool.or_true, Bool.and_true, Bool.true_and, Nat.add_sub_cancel, i1p1, i1p0, i0p1, i0p0, nIrem2, va_rf_s, bit1, bit0, pinT, pinLT, pin0, nIc, nIcL, nIlt, nIeq, nIltL, nILlt, nIeqL, nILeq, nIadL, nILad, nILmu, nI_add, nIsbL, nI_sub', decide_true, decide_false, Bool.false_or, Bool.or_false, rX0_bubble_0, rX0_bubble_0n, rX0_bubble_2, rX0_bubble_3, rX0_bubble_3n, rX0_bubble_4, rX0_bubble_5, rX0_bubble_6, rX0_bubble_7, rX0_bubble_10, rX0_bubble_11, rX0_bubble_12, rX0_bubble_15, rX0_bubble_15n, rX0_bubble_17, rX0_bubble_18, rX0_bubble_19, rX0_bubble_20, px, hx, hl, show pin 0 1 = true by decide, show (0 : Int32).toNatClampNeg = 0 from rfl]
  · show pCa 0 2047 [.ref base, .int v, .int u, .int z, .ref (base + 49)] H = _
    rw [eX0_bubble, show (2047 : Nat) = 2046 + 1 from rfl]
    have hk : pK 0 (2046 + 1) 7 3 [.ref base, .int v, .int u, .int z, .ref (base + 49), pU] [.int 0, .ref (base + 49)] (some (.inr e, Ha)) = pR 0 (2046 + 1) 15 [.ref base, .int v, .int u, .int z, .ref (base + 49), pU] [.ref e] Ha := by
      simp only [pK, show phd 0 7 = some (15, 26) from rfl, hc, if_true]
    simp (disch := first | assumption | omega | decide) only [pis_i, pis_l, pis_r, pis_n, p1_i, p1_r, p1_n, p1_u, pw0, pw1, pw2, pw3, pw4, pK_v, pK_0, pK_ite, if_true, if_false, if_pos, if_neg, Nat.reduceAdd, pok_r, i10, i01, Bool.true_or, Bool.or_true, Bool.and_true, Bool.true_and, Nat.add_sub_cancel, i1p1, i1p0, i0p1, i0p0, nIrem2, va_rf_s, bit1, bit0, pinT, pinLT, pin0, nIc, nIcL, nIlt, nIeq, nIltL, nILlt, nIeqL, nILeq, nIadL, nILad, nILmu, nI_add, nIsbL, nI_sub', decide_true, decide_false, Bool.false_or, Bool.or_false, rX0_bubble_0, rX0_bubble_0n, rX0_bubble_2, rX0_bubble_3, rX0_bubble_3n, rX0_bubble_4, rX0_bubble_5, rX0_bubble_6, rX0_bubble_7, rX0_bubble_10, rX0_bubble_11, rX0_bubble_12, rX0_bubble_15, rX0_bubble_15n, rX0_bubble_17, rX0_bubble_18, rX0_bubble_19, rX0_bubble_20, px, hx, hk]
theorem w_guest (F : Full b L xs base X S H) (R : Rel base X S H w) (v u : Int32) : Thr b L xs base 1 162 [.int v, .int u] H := by
  have px := F.px
  have G := R.g
  have grk := G.rk
  have gk := G.k
  refine thr_mk (Mi := 63) F R (fun h => ?_) (fun Ha r hx hl => ?_) (fun Ha e hx hc => ?_)
  · obtain ⟨r, k, h1, h2⟩ := q_guest2 (d := 2035) (e := 2034) (m := base + 14) (h := h) (x := base) (h' := H) (ga := w.g.ga) (r := w.g.r) G.xr G.mr (by omega) (fun k hk => by
      obtain ⟨u1, u2, u3, u4⟩ := G.x k (by omega)
      exact ⟨u1, by omega, ⟨_, _, _, u4⟩, fun j hj => G.w k hk j hj⟩) v u
    exact ⟨r, k, _, X, h1, by show upd S.1 0 k 0 = k; exact upd_same, mrel.z, h2.imp (fun q => ⟨q.1, q.2, xrel.rf⟩) id⟩
  · show pCa 1 2047 [.ref base, .int v, .int u, .ref (base + 49)] H = _
    rw [eX0_guest, show (2047 : Nat) = 2046 + 1 from rfl]
    simp (disch := first | assumption | omega | decide) only [pis_i, pis_l, pis_r, pis_n, p1_i, p1_r, p1_n, p1_u, pw0, pw1, pw2, pw3, pw4, pK_v, pK_0, pK_ite, if_true, if_false, if_pos, if_neg, Nat.reduceAdd, pok_r, i10, i01, Bool.true_or, Bool.or_true, Bool.and_true, Bool.true_and, Nat.add_sub_cancel, i1p1, i1p0, i0p1, i0p0, nIrem2, va_rf_s, bit1, bit0, pinT, pinLT, pin0, nIc, nIcL, nIlt, nIeq, nIltL, nILlt, nIeqL, nILeq, nIadL, nILad, nILmu, nI_add, nIsbL, nI_sub', decide_true, decide_false, Bool.false_or, Bool.or_false, rX0_guest_0, rX0_guest_0n, rX0_guest_1, rX0_guest_2, rX0_guest_2n, rX0_guest_3, rX0_guest_4, rX0_guest_5, rX0_guest_8, rX0_guest_9, rX0_guest_10, rX0_guest_13, rX0_guest_13n, rX0_guest_15, rX0_guest_16, rX0_guest_17, rX0_guest_18, px, hx, hl, show pin 0 1 = true by decide, show (0 : Int32).toNatClampNeg = 0 from rfl]
  · show pCa 1 2047 [.ref base, .int v, .int u, .ref (base + 49)] H = _
    rw [eX0_guest, show (2047 : Nat) = 2046 + 1 from rfl]
    have hk : pK 1 (2046 + 1) 5 3 [.ref base, .int v, .int u, .ref (base + 49), pU] [.int 0, .ref (base + 49)] (some (.inr e, Ha)) = pR 1 (2046 + 1) 13 [.ref base, .int v, .int u, .ref (base + 49), pU] [.ref e] Ha := by
      simp only [pK, show phd 1 5 = some (13, 26) from rfl, hc, if_true]
    simp (disch := first | assumption | omega | decide) only [pis_i, pis_l, pis_r, pis_n, p1_i, p1_r, p1_n, p1_u, pw0, pw1, pw2, pw3, pw4, pK_v, pK_0, pK_ite, if_true, if_false, if_pos, if_neg, Nat.reduceAdd, pok_r, i10, i01, Bool.true_or, Bool.or_true, Bool.and_true, Bool.true_and, Nat.add_sub_cancel, i1p1, i1p0, i0p1, i0p0, nIrem2, va_rf_s, bit1, bit0, pinT, pinLT, pin0, nIc, nIcL, nIlt, nIeq, nIltL, nILlt, nIeqL, nILeq, nIadL, nILad, nILmu, nI_add, nIsbL, nI_sub', decide_true, decide_false, Bool.false_or, Bool.or_false, rX0_guest_0, rX0_guest_0n, rX0_guest_1, rX0_guest_2, rX0_guest_2n, rX0_guest_3, rX0_guest_4, rX0_guest_5, rX0_guest_8, rX0_guest_9, rX0_guest_10, rX0_guest_13, rX0_guest_13n, rX0_guest_15, rX0_guest_16, rX0_guest_17, rX0_guest_18, px, hx, hk]
theorem w_worth (F : Full b L xs base X S H) (R : Rel base X S H w) (v l1 l2 l3 l4 l5 : Int32) : Thr b L xs base 2 102 [.int v, .int l1, .int l2, .int l3, .int l4, .int l5] H := by
  have px := F.px
  refine thr_mk (Mi := 64) F R (fun h => ?_) (fun Ha r hx hl => ?_) (fun Ha e hx hc => ?_)
  · obtain ⟨r, k, P, X', h1, h2⟩ := q_worth2 (d := 1842) (e := 1841) (m := base + 14) (h := h) (x := base) (h' := H) R.r.1 R.xr0 v l1 l2 l3 l4 l5
    refine ⟨r, k, _, X', h1, by show upd S.1 0 k 0 = k; exact upd_same, ⟨fun j hj => by show upd S.1 0 k j = _; exact upd_ne (by omega), fun _ _ => rfl⟩, ?_⟩
    rcases h2 with ⟨e1, e2, A, e3⟩ | ⟨e1, e2, e3⟩
    · exact Or.inl ⟨e1, e2, by rw [e3]; exact ⟨fun _ _ => rfl, by show us X.2.1 12 A 2 = X.2.1 2; exact us_ne (by decide), rfl⟩⟩
    · exact Or.inr ⟨e1, e3⟩
  · show pCa 2 2047 [.ref base, .int v, .int l1, .int l2, .int l3, .int l4, .int l5, .ref (base + 49)] H = _
    rw [eX0_worth, show (2047 : Nat) = 2046 + 1 from rfl]
    simp (disch := first | assumption | omega | decide) only [pis_i, pis_l, pis_r, pis_n, p1_i, p1_r, p1_n, p1_u, pw0, pw1, pw2, pw3, pw4, pK_v, pK_0, pK_ite, if_true, if_false, if_pos, if_neg, Nat.reduceAdd, pok_r, i10, i01, Bool.true_or, Bool.or_true, Bool.and_true, Bool.true_and, Nat.add_sub_cancel, i1p1, i1p0, i0p1, i0p0, nIrem2, va_rf_s, bit1, bit0, pinT, pinLT, pin0, nIc, nIcL, nIlt, nIeq, nIltL, nILlt, nIeqL, nILeq, nIadL, nILad, nILmu, nI_add, nIsbL, nI_sub', decide_true, decide_false, Bool.false_or, Bool.or_false, rX0_worth_0, rX0_worth_0n, rX0_worth_2, rX0_worth_3, rX0_worth_3n, rX0_worth_4, rX0_worth_5, rX0_worth_6, rX0_worth_7, rX0_worth_9, rX0_worth_11, rX0_worth_13, rX0_worth_16, rX0_worth_17, rX0_worth_18, rX0_worth_21, rX0_worth_21n, rX0_worth_23, rX0_worth_24, rX0_worth_25, rX0_worth_26, px, hx, hl, show pin 0 1 = true by decide, show (0 : Int32).toNatClampNeg = 0 from rfl]
  · show pCa 2 2047 [.ref base, .int v, .int l1, .int l2, .int l3, .int l4, .int l5, .ref (base + 49)] H = _
    rw [eX0_worth, show (2047 : Nat) = 2046 + 1 from rfl]
    have hk : pK 2 (2046 + 1) 13 3 [.ref base, .int v, .int l1, .int l2, .int l3, .int l4, .int l5, .ref (base + 49), pU] [.int 0, .ref (base + 49)] (some (.inr e, Ha)) = pR 2 (2046 + 1) 21 [.ref base, .int v, .int l1, .int l2, .int l3, .int l4, .int l5, .ref (base + 49), pU] [.ref e] Ha := by
      simp only [pK, show phd 2 13 = some (21, 26) from rfl, hc, if_true]
    simp (disch := first | assumption | omega | decide) only [pis_i, pis_l, pis_r, pis_n, p1_i, p1_r, p1_n, p1_u, pw0, pw1, pw2, pw3, pw4, pK_v, pK_0, pK_ite, if_true, if_false, if_pos, if_neg, Nat.reduceAdd, pok_r, i10, i01, Bool.true_or, Bool.or_true, Bool.and_true, Bool.true_and, Nat.add_sub_cancel, i1p1, i1p0, i0p1, i0p0, nIrem2, va_rf_s, bit1, bit0, pinT, pinLT, pin0, nIc, nIcL, nIlt, nIeq, nIltL, nILlt, nIeqL, nILeq, nIadL, nILad, nILmu, nI_add, nIsbL, nI_sub', decide_true, decide_false, Bool.false_or, Bool.or_false, rX0_worth_0, rX0_worth_0n, rX0_worth_2, rX0_worth_3, rX0_worth_3n, rX0_worth_4, rX0_worth_5, rX0_worth_6, rX0_worth_7, rX0_worth_9, rX0_worth_11, rX0_worth_13, rX0_worth_16, rX0_worth_17, rX0_worth_18, rX0_worth_21, rX0_worth_21n, rX0_worth_23, rX0_worth_24, rX0_worth_25, rX0_worth_26, px, hx, hk]
end
