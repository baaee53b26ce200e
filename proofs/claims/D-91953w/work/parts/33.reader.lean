/-! SOUNDNESS 18: the readers' constructors (two fields of one name) -/
set_option maxRecDepth 100000
section
variable {p : Program} {l : Launch} {e : Env} {R : Room} {s : State} {m : MethodId} {args : Array Value} {below : List Frame} {meth : Method} {c : Code} {H : Heap} {locs : List Loc} {cells slots : Nat} {Q : State → Prop}
variable {D : sD} {base z0 : Nat} {h : pH} {nw : List Cond} {ao : List String} {pc : Nat} {ls : Array Slot} {rest : List Value} {cc : ByteArray}
/-- a store into a final field, where another field may lie in the same slot -/
theorem sW_putR {c0 k a idx : Nat} {own name desc : String} {ty : FieldType} {v : Value} {r : vw_C} {fs fs' : List Value} (hx : p.tables.exec = Jvm.exec) (hb : c.code = cc) (hts : ∀ w ∈ lw_all, w.before args s = true) (hown : s.vm.findClass own = some m.cls) (hK : sKn D nw ao s) (hR : sRep D base h s H) (ha : h.1 a = some (.inr (c0, fs))) (hr : sCl c0 = some r) (hkN : k < r.2.2)
    (hT : r.2.1 k = (own, name, desc, true)) (hl : Cond.fieldLink own idx own name desc ∈ lw_all) (hin2 : meth.name = "<init>") (hty : parseFieldDescriptor desc = some ty) (hkd : sKd 3 ty) (hv : pfit 3 v = true) (hlen' : fs'.length = r.2.2) (hfs : ∀ j, j < r.2.2 → vp_V fs' j = if D.2.1 c0 j = D.2.1 c0 k then v else vp_V fs j) (hdg : decode cc pc = .ok (.putfield idx, 3))
    (kk : ∀ H' z, base ≤ a → sRep D base (pup h a (.inr (c0, fs'))) s H' → W p l e R s m args below meth c H' (locs ++ [⟨a, z⟩]) cells slots Q (F0 m (pc + 3) ls rest)) : W p l e R s m args below meth c H locs cells slots Q (F0 m pc ls (v :: .ref a :: rest)) := by
  obtain ⟨hnar, hfit⟩ := sKd_ok hkd hv
  obtain ⟨⟨r', hr', hlen, cell, q1, q2, q3, q4⟩, hba⟩ := hR.obj ha
  cases hr.symm.trans hr'
  obtain ⟨hS, hfc, kC, hkC, hkind⟩ := hK.1 _ r hr
  obtain ⟨cf, kf, fi, f, hi0, hsl⟩ := hS k hkN
  have hlays := u_lays hts (sIn c0 r hr) hkN
  have hst := (u_facts hfc hkC hlays hi0).1
  have hi := hi0
  rw [hT] at hi
  have hty' : parseFieldDescriptor (r.2.1 k).2.2.1 = some ty := by rw [hT]; exact hty
  have hlay := hts _ (sIn c0 r hr _ (u_in_lay hkN))
  unfold u_lay at hlay
  rw [if_pos (by rw [hT])] at hlay
  have hcf : m.cls = cf := by
    obtain ⟨_, _, c', _, _, _, -, -, hf', -, -, -, hown2, -⟩ := Cond.laysFinal_spec hlay
    have e1 : c' = cf := by have := hi0.symm.trans hf'; simp at this; exact this.1.symm
    rw [hT] at hown2
    rw [← e1]; exact Option.some.inj (hown.symm.trans hown2)
  have h6 := u_fits hfc hkC hkind (Or.inr hlay) hi0 hty' hnar hfit
  have hgo : ∀ H1 : Heap, H1[a]? = some (cell.setSlot f.slot v) → H1.size = H.size → (∀ q, q ≠ a → H1[q]? = H[q]?) → sRep D base (pup h a (.inr (c0, fs'))) s H1 := by
    intro H1 e1 z oq
    refine hR.up hba ⟨r, hr, hlen', _, e1, q2, q3, fun j hj => ?_⟩ z oq
    rw [hsl, hfs j hj]
    have hlt : D.2.1 c0 k < cell.slots.size := (Array.getElem?_eq_some_iff.mp (q4 k hkN)).1
    by_cases hjk : D.2.1 c0 j = D.2.1 c0 k
    · rw [if_pos hjk, hjk]
      simp [Cell.setSlot, Array.getElem?_setIfInBounds, hlt]
    · rw [if_neg hjk, ← q4 j hj]
      simp [Cell.setSlot, Array.getElem?_setIfInBounds, Ne.symm hjk]
  exact W.putFinK hx hb hown (hts _ hl) hi hst hcf hin2 (by rw [q2]; exact h6) q1 q3 (by rw [hsl]; exact k2_hasslot (q4 k hkN)) rfl rfl hdg fun H1 e1 z oq => kk H1 _ hba (hgo H1 e1 z oq)
/-- fields of other names lie in other slots -/
theorem sApart {c0 j k : Nat} {r : vw_C} (hts : ∀ w ∈ lw_all, w.before args s = true) (hK : sKn D nw ao s) (hr : sCl c0 = some r) (hj : j < r.2.2) (hk : k < r.2.2) (hn : (r.2.1 j).2.1 ≠ (r.2.1 k).2.1) : D.2.1 c0 j ≠ D.2.1 c0 k := by
  obtain ⟨hS, hfc, kC, hkC, hkind⟩ := hK.1 _ r hr
  obtain ⟨_, _, _, fa, hia, ea⟩ := hS j hj
  obtain ⟨_, _, _, fb, hib, eb⟩ := hS k hk
  rw [← ea, ← eb]
  refine u_apart (u_lays hts (sIn c0 r hr) hj) (u_lays hts (sIn c0 r hr) hk) hia hib ?_
  rw [(State.fieldFound?_type hia (sTf_ok c0 r hr j hj)).1, (State.fieldFound?_type hib (sTf_ok c0 r hr k hk)).1]
  exact hn
end
section
variable {l : Launch} {D : sD} {base : Nat} {h : pH} {o x d : Nat} {fs : List Value}
theorem pd262 : (parseMethodDescriptor (sY 262).desc).map (fun d => d.parameters.length) = some 1 := by decide +kernel
theorem jc_262 (own : String) : sJc jnw own 262 := ⟨q303, q107, by decide, by decide, by decide +kernel⟩
theorem jc_260 (own : String) : sJc jnw own 260 := ⟨q300, q108, by decide, by decide, by decide +kernel⟩
theorem jc_261 (own : String) : sJc jnw own 261 := ⟨q520, q118, by decide, by decide, by decide +kernel⟩
theorem sMt_X5_6 (ho : h.1 o = some (.inr (6, fs))) (hq : D.2.1 6 5 = D.2.1 6 2 → vp_V fs 5 = .ref x) (hlen : fs.length = 6) (hd : 1 ≤ d) :
    sMt l D jnw jao base 262 d [.ref o, .ref x] h (.inl none, pup h o (.inr (6, fs.set 2 (.ref x)))) := by
  refine sMt_of (own := "") (jc_262 _) rfl ?_
  intro p e R s m args below meth c z0 H locs cells slots lsa hC hP hL hfr hlo hce hsl
  have hC' := hC
  obtain ⟨hx, hb, hret, hlk, hml, hown, hnm, hts, hK, hxt⟩ := hC'
  have hL : sLs [.ref o, .ref x] lsa 2 := hL
  refine sL hx hb rfl dX5_init_0 rfl hL (fun lsa hL => ?_)
  refine sL hx hb rfl dX5_init_1 rfl hL (fun lsa hL => ?_)
  refine sW_putR (c0 := 6) (k := 2) (r := (RX6, TX6, 6)) (fs' := fs.set 2 (.ref x)) hx hb hts hown hK hP.1 ho rfl (show 2 < 6 by decide) rfl q314 hnm (tyX6_ok 2 (by decide)) (Or.inr (Or.inr (Or.inr ⟨rfl, jRf rfl⟩))) rfl (by rw [List.length_set]; exact hlen) ?_ dX5_init_2 (fun H' z hba hR => ?_)
  · intro j hj
    rw [← vp_updV_set (by rw [hlen]; decide) (.ref x) j]
    by_cases h2 : j = 2
    · subst h2; rw [if_pos rfl]; simp [updV]
    · by_cases hl : j = 5
      · subst hl
        by_cases hs : D.2.1 6 5 = D.2.1 6 2
        · rw [if_pos hs, ← hq hs]; simp [updV]
        · rw [if_neg hs]; simp [updV]
      · rw [if_neg (sApart (r := (RX6, TX6, 6)) hts hK rfl hj (show 2 < 6 by decide) (by
          have hj' : j < 6 := hj
          clear hP hC
          revert j
          decide +kernel))]
        simp [updV, h2]
  · have hP := hP.st (z := z) hR hba rfl
    refine sL hx hb rfl dX5_init_5 rfl hL (fun lsa hL => ?_)
    refine W.objInit hx hb hown (hts _ q304) (hts _ q141) (hts _ q142) rfl (by rw [hml]; exact hL.2.2.1) rfl dX5_init_6 (by omega) (by show 2 * 0 + _ + 12 ≤ _; simp; omega) ?_
    exact sRet_v jnw_ok hC hP rfl dX5_init_9
theorem sMt_X6 (ho : pcl h o = 6) (hd : 2 ≤ d) : sMt l D jnw jao base 260 d [.ref o, .ref x] h (.inl none, psf (psf h o 5 (.ref x)) o 2 (.ref x)) := by
  refine sMt_of (own := "") (jc_260 _) rfl ?_
  intro p e R s m args below meth c z0 H locs cells slots lsa hC hP hL hfr hlo hce hsl
  have hC' := hC
  obtain ⟨hx, hb, hret, hlk, hml, hown, hnm, hts, hK, hxt⟩ := hC'
  have hL : sLs [.ref o, .ref x] lsa 2 := hL
  obtain ⟨fs, ho⟩ := pcl_some ho (by decide)
  have hlen : fs.length = 6 := by
    obtain ⟨⟨r', hr', hlen, -⟩, -⟩ := hP.1.obj ho
    cases hr'
    exact hlen
  have hres : psf (psf h o 5 (.ref x)) o 2 (.ref x) = pup h o (.inr (6, (fs.set 5 (.ref x)).set 2 (.ref x))) := by
    simp only [psf, ho, pup_same, pup_pup]
  have hce : h.2.1 ≤ s.heap.size + R.cells := by rw [hres] at hce; exact hce
  have hsl : h.2.2 ≤ z0 + R.slots := by rw [hres] at hsl; exact hsl
  rw [hres]
  refine sL hx hb rfl dX6_init_0 rfl hL (fun lsa hL => ?_)
  refine sL hx hb rfl dX6_init_1 rfl hL (fun lsa hL => ?_)
  refine sW_putR (c0 := 6) (k := 5) (r := (RX6, TX6, 6)) (fs' := if D.2.1 6 5 = D.2.1 6 2 then (fs.set 5 (.ref x)).set 2 (.ref x) else fs.set 5 (.ref x)) hx hb hts hown hK hP.1 ho rfl (show 5 < 6 by decide) rfl q307 hnm (tyX6_ok 5 (by decide)) (Or.inr (Or.inr (Or.inr ⟨rfl, jRf rfl⟩))) rfl (by split <;> simp [hlen]) ?_ dX6_init_2 (fun H' z hba hR => ?_)
  · intro j hj
    have hap : j ≠ 2 → j ≠ 5 → D.2.1 6 j ≠ D.2.1 6 5 := fun h2 hl => sApart (r := (RX6, TX6, 6)) hts hK rfl hj (show 5 < 6 by decide) (by
          have hj' : j < 6 := hj
          clear hP hC
          revert j
          decide +kernel)
    by_cases hs : D.2.1 6 5 = D.2.1 6 2
    · rw [if_pos hs, ← vp_updV_set (by rw [List.length_set, hlen]; decide) (.ref x) j]
      by_cases h2 : j = 2
      · subst h2; rw [if_pos hs.symm]; simp [updV]
      · have h3 : updV (vp_V (fs.set 5 (.ref x))) 2 (.ref x) j = vp_V (fs.set 5 (.ref x)) j := by simp [updV, h2]
        rw [h3, ← vp_updV_set (by rw [hlen]; decide) (.ref x) j]
        by_cases hl : j = 5
        · subst hl; rw [if_pos rfl]; simp [updV]
        · rw [if_neg (hap h2 hl)]; simp [updV, hl]
    · rw [if_neg hs, ← vp_updV_set (by rw [hlen]; decide) (.ref x) j]
      by_cases hl : j = 5
      · subst hl; rw [if_pos rfl]; simp [updV]
      · by_cases h2 : j = 2
        · subst h2; rw [if_neg (Ne.symm hs)]; simp [updV]
        · rw [if_neg (hap h2 hl)]; simp [updV, hl]
  · have hP := hP.st (z := z) hR hba rfl
    refine sL hx hb rfl dX6_init_5 rfl hL (fun lsa hL => ?_)
    refine sL hx hb rfl dX6_init_6 rfl hL (fun lsa hL => ?_)
    have hM := sMt_X5_6 (l := l) (base := base) (o := o) (x := x) (d := d - 1) (pup_same (h := h) (a := o) (c := .inr (6, if D.2.1 6 5 = D.2.1 6 2 then (fs.set 5 (.ref x)).set 2 (.ref x) else fs.set 5 (.ref x)))) (fun hs => by
      rw [if_pos hs, ← vp_updV_set (by rw [List.length_set, hlen]; decide) (.ref x) 5]
      have h3 : updV (vp_V (fs.set 5 (.ref x))) 2 (.ref x) 5 = vp_V (fs.set 5 (.ref x)) 5 := by simp [updV]
      rw [h3, ← vp_updV_set (by rw [hlen]; decide) (.ref x) 5]
      simp [updV]) (by split <;> simp [hlen]) (by omega)
    rw [pup_pup, show (if D.2.1 6 5 = D.2.1 6 2 then (fs.set 5 (.ref x)).set 2 (.ref x) else fs.set 5 (.ref x)).set 2 (.ref x) = (fs.set 5 (.ref x)).set 2 (.ref x) by split <;> simp] at hM
    refine sCallW jnw_ok hC hP hM (jc_262 _) (rest := []) (ig := .invokespecial 9) (fun T hT X => ?_) dX6_init_7 (by decide) hL.2.2.1 (by omega) (by omega) hce hsl ⟨Nat.le_refl _, Nat.le_refl _⟩ ?_ ?_
    · exact sBg_IN (M' := 262) (host := "BalloonStall") X hx hown hts rfl (hK.2.2.1 _ jw_q301) q302 q303 (by decide) (as := [.ref x]) pd262 rfl rfl (by rw [hb]; exact dX6_init_7)
    · intro v hv H' locs' cells' slots' hP'
      cases hv
      exact sRet_v jnw_ok hC hP' rfl dX6_init_10
    · intro y hy; cases hy
theorem sMt_X5_13 (ho : h.1 o = some (.inr (13, fs))) (hq : D.2.1 13 3 = D.2.1 13 2 → vp_V fs 3 = .ref x) (hlen : fs.length = 4) (hd : 1 ≤ d) :
    sMt l D jnw jao base 262 d [.ref o, .ref x] h (.inl none, pup h o (.inr (13, fs.set 2 (.ref x)))) := by
  refine sMt_of (own := "") (jc_262 _) rfl ?_
  intro p e R s m args below meth c z0 H locs cells slots lsa hC hP hL hfr hlo hce hsl
  have hC' := hC
  obtain ⟨hx, hb, hret, hlk, hml, hown, hnm, hts, hK, hxt⟩ := hC'
  have hL : sLs [.ref o, .ref x] lsa 2 := hL
  refine sL hx hb rfl dX5_init_0 rfl hL (fun lsa hL => ?_)
  refine sL hx hb rfl dX5_init_1 rfl hL (fun lsa hL => ?_)
  refine sW_putR (c0 := 13) (k := 2) (r := (RX13, TX13, 4)) (fs' := fs.set 2 (.ref x)) hx hb hts hown hK hP.1 ho rfl (show 2 < 4 by decide) rfl q314 hnm (tyX13_ok 2 (by decide)) (Or.inr (Or.inr (Or.inr ⟨rfl, jRf rfl⟩))) rfl (by rw [List.length_set]; exact hlen) ?_ dX5_init_2 (fun H' z hba hR => ?_)
  · intro j hj
    rw [← vp_updV_set (by rw [hlen]; decide) (.ref x) j]
    by_cases h2 : j = 2
    · subst h2; rw [if_pos rfl]; simp [updV]
    · by_cases hl : j = 3
      · subst hl
        by_cases hs : D.2.1 13 3 = D.2.1 13 2
        · rw [if_pos hs, ← hq hs]; simp [updV]
        · rw [if_neg hs]; simp [updV]
      · rw [if_neg (sApart (r := (RX13, TX13, 4)) hts hK rfl hj (show 2 < 4 by decide) (by
          have hj' : j < 4 := hj
          clear hP hC
          revert j
          decide +kernel))]
        simp [updV, h2]
  · have hP := hP.st (z := z) hR hba rfl
    refine sL hx hb rfl dX5_init_5 rfl hL (fun lsa hL => ?_)
    refine W.objInit hx hb hown (hts _ q304) (hts _ q141) (hts _ q142) rfl (by rw [hml]; exact hL.2.2.1) rfl dX5_init_6 (by omega) (by show 2 * 0 + _ + 12 ≤ _; simp; omega) ?_
    exact sRet_v jnw_ok hC hP rfl dX5_init_9
theorem sMt_X13 (ho : pcl h o = 13) (hd : 2 ≤ d) : sMt l D jnw jao base 261 d [.ref o, .ref x] h (.inl none, psf (psf h o 3 (.ref x)) o 2 (.ref x)) := by
  refine sMt_of (own := "") (jc_261 _) rfl ?_
  intro p e R s m args below meth c z0 H locs cells slots lsa hC hP hL hfr hlo hce hsl
  have hC' := hC
  obtain ⟨hx, hb, hret, hlk, hml, hown, hnm, hts, hK, hxt⟩ := hC'
  have hL : sLs [.ref o, .ref x] lsa 2 := hL
  obtain ⟨fs, ho⟩ := pcl_some ho (by decide)
  have hlen : fs.length = 4 := by
    obtain ⟨⟨r', hr', hlen, -⟩, -⟩ := hP.1.obj ho
    cases hr'
    exact hlen
  have hres : psf (psf h o 3 (.ref x)) o 2 (.ref x) = pup h o (.inr (13, (fs.set 3 (.ref x)).set 2 (.ref x))) := by
    simp only [psf, ho, pup_same, pup_pup]
  have hce : h.2.1 ≤ s.heap.size + R.cells := by rw [hres] at hce; exact hce
  have hsl : h.2.2 ≤ z0 + R.slots := by rw [hres] at hsl; exact hsl
  rw [hres]
  refine sL hx hb rfl dX13_init_0 rfl hL (fun lsa hL => ?_)
  refine sL hx hb rfl dX13_init_1 rfl hL (fun lsa hL => ?_)
  refine sW_putR (c0 := 13) (k := 3) (r := (RX13, TX13, 4)) (fs' := if D.2.1 13 3 = D.2.1 13 2 then (fs.set 3 (.ref x)).set 2 (.ref x) else fs.set 3 (.ref x)) hx hb hts hown hK hP.1 ho rfl (show 3 < 4 by decide) rfl q522 hnm (tyX13_ok 3 (by decide)) (Or.inr (Or.inr (Or.inr ⟨rfl, jRf rfl⟩))) rfl (by split <;> simp [hlen]) ?_ dX13_init_2 (fun H' z hba hR => ?_)
  · intro j hj
    have hap : j ≠ 2 → j ≠ 3 → D.2.1 13 j ≠ D.2.1 13 3 := fun h2 hl => sApart (r := (RX13, TX13, 4)) hts hK rfl hj (show 3 < 4 by decide) (by
          have hj' : j < 4 := hj
          clear hP hC
          revert j
          decide +kernel)
    by_cases hs : D.2.1 13 3 = D.2.1 13 2
    · rw [if_pos hs, ← vp_updV_set (by rw [List.length_set, hlen]; decide) (.ref x) j]
      by_cases h2 : j = 2
      · subst h2; rw [if_pos hs.symm]; simp [updV]
      · have h3 : updV (vp_V (fs.set 3 (.ref x))) 2 (.ref x) j = vp_V (fs.set 3 (.ref x)) j := by simp [updV, h2]
        rw [h3, ← vp_updV_set (by rw [hlen]; decide) (.ref x) j]
        by_cases hl : j = 3
        · subst hl; rw [if_pos rfl]; simp [updV]
        · rw [if_neg (hap h2 hl)]; simp [updV, hl]
    · rw [if_neg hs, ← vp_updV_set (by rw [hlen]; decide) (.ref x) j]
      by_cases hl : j = 3
      · subst hl; rw [if_pos rfl]; simp [updV]
      · by_cases h2 : j = 2
        · subst h2; rw [if_neg (Ne.symm hs)]; simp [updV]
        · rw [if_neg (hap h2 hl)]; simp [updV, hl]
  · have hP := hP.st (z := z) hR hba rfl
    refine sL hx hb rfl dX13_init_5 rfl hL (fun lsa hL => ?_)
    refine sL hx hb rfl dX13_init_6 rfl hL (fun lsa hL => ?_)
    have hM := sMt_X5_13 (l := l) (base := base) (o := o) (x := x) (d := d - 1) (pup_same (h := h) (a := o) (c := .inr (13, if D.2.1 13 3 = D.2.1 13 2 then (fs.set 3 (.ref x)).set 2 (.ref x) else fs.set 3 (.ref x)))) (fun hs => by
      rw [if_pos hs, ← vp_updV_set (by rw [List.length_set, hlen]; decide) (.ref x) 3]
      have h3 : updV (vp_V (fs.set 3 (.ref x))) 2 (.ref x) 3 = vp_V (fs.set 3 (.ref x)) 3 := by simp [updV]
      rw [h3, ← vp_updV_set (by rw [hlen]; decide) (.ref x) 3]
      simp [updV]) (by split <;> simp [hlen]) (by omega)
    rw [pup_pup, show (if D.2.1 13 3 = D.2.1 13 2 then (fs.set 3 (.ref x)).set 2 (.ref x) else fs.set 3 (.ref x)).set 2 (.ref x) = (fs.set 3 (.ref x)).set 2 (.ref x) by split <;> simp] at hM
    refine sCallW jnw_ok hC hP hM (jc_262 _) (rest := []) (ig := .invokespecial 9) (fun T hT X => ?_) dX13_init_7 (by decide) hL.2.2.1 (by omega) (by omega) hce hsl ⟨Nat.le_refl _, Nat.le_refl _⟩ ?_ ?_
    · exact sBg_IN (M' := 262) (host := "BalloonStall") X hx hown hts rfl (hK.2.2.1 _ jw_q521) q302 q303 (by decide) (as := [.ref x]) pd262 rfl rfl (by rw [hb]; exact dX13_init_7)
    · intro v hv H' locs' cells' slots' hP'
      cases hv
      exact sRet_v jnw_ok hC hP' rfl dX13_init_10
    · intro y hy; cases hy
end
