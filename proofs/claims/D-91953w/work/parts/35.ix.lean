/-! SOUNDNESS 20: the steps that stand for calls and the throw (sIx, sIt) -/
set_option maxRecDepth 100000
theorem pd260 : (parseMethodDescriptor (sY 260).desc).map (fun d => d.parameters.length) = some 1 := by decide +kernel
theorem pd261 : (parseMethodDescriptor (sY 261).desc).map (fun d => d.parameters.length) = some 1 := by decide +kernel
theorem pd259 : (parseMethodDescriptor (sY 259).desc).map (fun d => d.parameters.length) = some 4 := by decide +kernel
section
variable {l : Launch} {D : sD} {base : Nat}
theorem sIx_ok : sIx l D base jnw jao := by
  intro M pc n t a b lst ht hj d ls st st' h h' pc' hp p e R s m args below meth c z0 H locs cells slots lsa Q hC hP hsz hfr hlo hcl hsl kk
  have hC' := hC
  obtain ⟨hx, hb, hret, hlk, hml, hown, hnm, hts, hK, hxt⟩ := hC'
  have hcs := hP.2.2.1
  have hss := hP.2.2.2
  rcases ht with rfl | rfl
  · obtain ⟨idx, j1, j2, j3⟩ := hj
    rw [j2] at hown
    simp only [paX] at hp
    split at hp
    · split at hp
      · rename_i x o st0 hv
        simp only [Bool.and_eq_true, beq_iff_eq, decide_eq_true_eq] at hv
        obtain ⟨⟨hv1, hv2⟩, hv3⟩ := hv
        have hw := pw_sum hv2
        cases hp
        rcases j3 with ⟨rfl, rfl⟩ | ⟨rfl, rfl⟩
        · have hM := sMt_X6 (l := l) (D := D) (base := base) (x := x) (d := d - 1) hv1 (by omega)
          refine sCallW jnw_ok hC hP hM (jc_260 _) (rest := st') (ig := .invokespecial 98) (fun T hT X => ?_) j1 hw hsz (by omega) (by omega) (by rw [psf_h2, psf_h2]; omega) (by rw [psf_h2, psf_h2]; omega) (sLe_psf.tr sLe_psf) ?_ ?_
          · exact sBg_IN (M' := 260) (host := "BalloonStall") X hx hown hts rfl (hK.2.2.1 _ jw_q298) q299 q300 (by decide) (as := [.ref x]) pd260 rfl rfl (by rw [hb]; exact j1)
          · intro v hv H' locs' cells' slots' hP'
            cases hv
            have e1 : cells' = cells := by have := hP'.2.2.1; rw [psf_h2, psf_h2] at this; omega
            have e2 : slots' = slots := by have := hP'.2.2.2; rw [psf_h2, psf_h2] at this; omega
            subst e1; subst e2
            exact kk H' locs' hP'
          · intro y hy; cases hy
        · have hM := sMt_X13 (l := l) (D := D) (base := base) (x := x) (d := d - 1) hv1 (by omega)
          refine sCallW jnw_ok hC hP hM (jc_261 _) (rest := st') (ig := .invokespecial 107) (fun T hT X => ?_) j1 hw hsz (by omega) (by omega) (by rw [psf_h2, psf_h2]; omega) (by rw [psf_h2, psf_h2]; omega) (sLe_psf.tr sLe_psf) ?_ ?_
          · exact sBg_IN (M' := 261) (host := "BalloonStall") X hx hown hts rfl (hK.2.2.1 _ jw_q518) q519 q520 (by decide) (as := [.ref x]) pd261 rfl rfl (by rw [hb]; exact j1)
          · intro v hv H' locs' cells' slots' hP'
            cases hv
            have e1 : cells' = cells := by have := hP'.2.2.1; rw [psf_h2, psf_h2] at this; omega
            have e2 : slots' = slots := by have := hP'.2.2.2; rw [psf_h2, psf_h2] at this; omega
            subst e1; subst e2
            exact kk H' locs' hP'
          · intro y hy; cases hy
      · cases hp
    · cases hp
  · obtain ⟨idx, j1, j2⟩ := hj
    simp only [paX] at hp
    split at hp
    · split at hp
      · rename_i x y o st0 hv
        simp only [Bool.and_eq_true, beq_iff_eq, decide_eq_true_eq] at hv
        obtain ⟨⟨⟨⟨⟨⟨⟨rfl, rfl⟩, h0⟩, h1⟩, h2⟩, h3⟩, hv2⟩, hv3⟩ := hv
        have hw := pw_sum hv2
        cases hp
        have hM := sMt_J0 (l := l) (D := D) (base := base) (d := d - 1) h0 h1 h2 h3 (by omega)
        refine sCallW jnw_ok hC hP hM (jc_259 _) (rest := st') (ig := .invokespecial idx) (fun T hT X => ?_) j1 hw hsz (by omega) (by omega) (by rw [psf_h2, psf_h2, psf_h2, psf_h2]; omega) (by rw [psf_h2, psf_h2, psf_h2, psf_h2]; omega) (((sLe_psf.tr sLe_psf).tr sLe_psf).tr sLe_psf) ?_ ?_
        · exact sBg_I (M' := 259) X hx hown hts rfl j2 q404 q405 (by decide) (as := [.null, .null, .int 0, .int 0]) pd259 rfl rfl (by rw [hb]; exact j1)
        · intro v hv H' locs' cells' slots' hP'
          cases hv
          have e1 : cells' = cells := by have := hP'.2.2.1; rw [psf_h2, psf_h2, psf_h2, psf_h2] at this; omega
          have e2 : slots' = slots := by have := hP'.2.2.2; rw [psf_h2, psf_h2, psf_h2, psf_h2] at this; omega
          subst e1; subst e2
          exact kk H' locs' hP'
        · intro y hy; cases hy
      · cases hp
    · cases hp
theorem sIt_ok (htr : l.stackTraces = false) : sIt l D base jnw jao := by
  intro M pc n a b lst hj d st h hpw hd hph p e R s m args below meth c z0 H locs cells slots lsa hC hP hsz hfr hlo hcl hsl
  have hC' := hC
  obtain ⟨hx, hb, hret, hlk, hml, hown, hnm, hts, hK, hxt⟩ := hC'
  obtain ⟨idx, idx', j1, j2, j3, j4, j5, j6, rfl, rfl⟩ := hj
  have hKn := hK.1 26 _ rfl
  have hw := pw_sum hpw
  refine W.newcK hx hb hown (hts _ j2) (hts _ q1271) (hts _ q132) rfl j1 hcl hsl hKn.2.1 hP.1.1 fun H1 kC hkC e1 z1 o1 => ?_
  have hR1 : sRep D base (pnw h (.inr (26, [])) 6) s H1 := by
    refine hP.1.nw ?_ z1 o1
    exact ⟨_, rfl, rfl, _, e1, rfl, rfl, fun k hk => by cases hk⟩
  refine lv_dup hx hb j3 rfl ?_
  intro T hT X
  obtain ⟨hfc, kX, hkX, -⟩ : s.vm.findClass "java/util/NoSuchElementException" = some (D.1 26) ∧ _ := hKn.2
  have hkk : kX = kC := Option.some.inj (hkX.symm.trans hkC)
  subst hkk
  have hb1 : base ≤ h.2.1 := hP.1.2.1
  obtain ⟨U, u1, u2, u3, u4, ⟨L, u5, u6⟩, u7, u8, ce, u9, u10, u11⟩ := sNse (base := base) (D := D) hx htr X (own := (sY M).cls) (ic := idx') (a := h.2.1) hown hts hK j5 hfc hkX (by rw [hT]; exact e1) hb1 (by rw [hT]; exact hR1.2.2.2)
    (g := F0 m (pc + 3 + 1) lsa (.ref h.2.1 :: .ref h.2.1 :: st)) rfl (by rw [hml]; exact hsz) rfl rfl (rest := st) rfl (by rw [hb]; exact j4) (by rw [hb]; exact j6) (by rw [hxt]; exact (sHdOk_ok M (pc + 7)).1 hph) (by omega) (by show 2 * 0 + _ + 80 ≤ _; simp only [List.map_cons, List.sum_cons]; have : (Value.ref h.2.1).category = 1 := rfl; omega) hlk
  refine ⟨U, u1, .threw h.2.1, u2, u3, rfl, ⟨hK.warm jnw_ok u4, ?_⟩, L, ⟨u4, ?_⟩, ?_⟩
  · have : sRep D base (pnw h (.inr (26, [])) 6) s U.heap := by
      refine hP.1.nw ⟨_, rfl, rfl, ce, u9, u10, u11, fun k hk => by cases hk⟩ (by rw [u7, hT]; exact z1) (fun q hq => ?_)
      rw [u8 q (by omega), hT]
      exact o1 q hq
    exact this.moved u4.alike
  · have e1 : (pnw h (.inr (26, [])) 6).2.1 - s.heap.size = cells + 1 := by have := hP.2.2.1; dsimp only [pnw]; omega
    have e2 : (pnw h (.inr (26, [])) 6).2.2 - z0 = slots + 6 := by have := hP.2.2.2; dsimp only [pnw]; omega
    show s.sameButNew _ L ((pnw h (.inr (26, [])) 6).2.1 - s.heap.size) ((pnw h (.inr (26, [])) 6).2.2 - z0)
    rw [e1, e2]
    exact u5
  · intro q hq
    rcases u6 q hq with h1 | h1
    · exact hP.2.1 q h1
    · rw [h1]; exact hb1
end
