/-! SOUNDNESS 15: instructions with links in the run -/
set_option maxRecDepth 100000
section
variable {l : Launch} {D : sD} {base : Nat} {nw : List Cond} {ao : List String} {p : Program} {e : Env} {R : Room} {s : State} {m : MethodId} {args : Array Value} {below : List Frame} {meth : Method} {c : Code} {z0 : Nat} {H : Heap} {locs : List Loc} {cells slots : Nat} {lsa : Array Slot}
theorem sPt.new1 {h : pH} {H' : Heap} {x : va_E} {n : Nat} (hP : sPt s D base z0 h H locs cells slots) (hr : sRep D base (pnw h x n) s H') : sPt s D base z0 (pnw h x n) H' locs (cells + 1) (slots + n) :=
  ⟨hr, hP.2.1, by show _ = h.2.1 + 1; have := hP.2.2.1; omega, by show _ = h.2.2 + n; have := hP.2.2.2; omega⟩
theorem sRun_pc {k M' d M pc n : Nat} {ls as rest : List Value} {h : pH} {o : pO} (hp : pcont k (pcallA M' d M pc n ls as rest h) = some o) : ∃ d' o1, d = d' + 1 ∧ pw rest = true ∧ pwa M' as = true ∧ prun k (d', M', 0, pent (pml M') as, [], h) = some o1 ∧ (match pk (d' + 1) M pc n ls rest o1 with
        | none => none
        | some (.inl o') => some o'
        | some (.inr f'') => prun k f'') = some o := by
  unfold pcallA at hp
  split at hp
  · rename_i d'
    split at hp
    · rename_i hw
      split at hp
      · rename_i hwa
        dsimp only [pcont] at hp
        cases h1 : prun k (d', M', 0, pent (pml M') as, [], h) with
        | none => rw [h1] at hp; cases hp
        | some o1 => rw [h1] at hp; exact ⟨d', o1, rfl, hw, hwa, h1, hp⟩
      · cases hp
    · cases hp
  · cases hp
theorem pwa_len {M' : Nat} {as : List Value} (h : pwa M' as = true) : as.length = pna M' := by
  simp only [pwa, Bool.and_eq_true, decide_eq_true_eq] at h
  exact h.1.1
theorem pwa_len1 {M' nb o : Nat} {as : List Value} (h : pwa M' (.ref o :: as) = true) (hn : pna M' = nb + 1) : as.length = nb := by
  have := pwa_len h
  rw [hn, List.length_cons] at this
  omega
theorem int_nn {z : Int32} (h : 0 ≤ z) : ¬ z < 0 := by
  rw [Int32.le_iff_toInt_le] at h
  rw [Int32.lt_iff_toInt_lt]
  omega
theorem sRun_X {k d M pc n t a b : Nat} {lst : List Nat} {ls st : List Value} {h : pH} {o : pO} (hnw : ∀ w ∈ nw, sNk w) (hHd : sHdOk) (hIx : sIx l D base nw ao) (hIt : sIt l D base nw ao) (ih : sRn l D base nw ao k) (hp : pcont k (paX t a b lst n d M pc ls st h) = some o) (hj : sJX nw ao M pc n t a b lst)
    (hC : sCx p s m args meth c D nw ao M) (hP : sPt s D base z0 h H locs cells slots) (hL : sLs ls lsa (pml M)) (hfr : d ≤ R.frames) (hlo : 41 * d ≤ R.locals) (hce : o.2.2.1 ≤ s.heap.size + R.cells) (hsl : o.2.2.2 ≤ z0 + R.slots) :
    W p l e R s m args below meth c H locs cells slots (sMQ below s D nw ao base z0 o) (F0 m pc lsa st) := by
  have go : ∀ {pc' : Nat} {ls' st' : List Value} {h' : pH} {H' : Heap} {locs' : List Loc} {cells' slots' : Nat} {lsa' : Array Slot}, prun k (d, M, pc', ls', st', h') = some o → sPt s D base z0 h' H' locs' cells' slots' → sLs ls' lsa' (pml M) → W p l e R s m args below meth c H' locs' cells' slots' (sMQ below s D nw ao base z0 o) (F0 m pc' lsa' st') :=
    fun q1 q2 q3 => ih _ _ _ _ _ _ _ q1 p e R s m args below meth c z0 _ _ _ _ _ hC q2 q3 hfr hlo hce hsl
  have hC' := hC
  obtain ⟨hx, hb, hret, hlk, hml, hown, hnm, hts, hK, hxt⟩ := hC'
  have hcs := hP.2.2.1
  have hss := hP.2.2.2
  unfold paX at hp
  split at hp
  · obtain ⟨idx, ref, name, desc, j1, j2, j3⟩ := hj
    split at hp
    · split at hp
      · rename_i hv
        exact sW_get hx hb hts hown hK hP.1 j2 j3 hv j1 (go hp hP hL)
      · cases hp
    · cases hp
  · obtain ⟨idx, ref, name, desc, bb, ty, j1, j2, j3, j4, j5, j6, j7⟩ := hj
    split at hp
    · split at hp
      · rename_i hv
        exact sW_put hx hb hts hown hK hP.1 j2 j3 j4 (by
          rcases j5 with j5 | ⟨q1, q2, q3⟩
          · exact Or.inl j5
          · exact Or.inr ⟨q1, q2, by rw [hnm]; exact q3⟩) j6 j7 hv j1 (fun H' z ha hr => go hp (hP.st hr ha psf_h2) hL)
      · cases hp
    · cases hp
  · obtain ⟨idx, rfl, j1, j2⟩ := hj
    exact lv_ldcw hx hb hown (hts _ j2) j1 (go hp hP hL)
  · obtain ⟨idx, rfl, j1, j2⟩ := hj
    exact lv_ldc2 hx hb hown (hts _ j2) j1 (go hp hP hL)
  · obtain ⟨idx, na, F, rfl, hF99, hn3, jc, j⟩ := hj
    dsimp only at hp
    have hst : st = ((st.take na).reverse).reverse ++ st.drop na := by rw [List.reverse_reverse, List.take_append_drop]
    split at hp
    · rename_i hb0
      rcases j with ⟨-, j1, j2, j3, j4⟩ | ⟨q, -⟩ | ⟨q, -⟩
      · obtain ⟨d', o1, rfl, hw, hwa, h1, h2⟩ := sRun_pc hp
        refine sRun_call hnw hHd ih hn3 hwa h1 h2 hC hP hL hfr hlo hce hsl hw jc (fun T hT X => ?_) j1
        obtain ⟨mk, hnamed⟩ : ∃ mk, s.methodNamed? (sY a) = some mk := by
          have := hts _ jc.1
          unfold sWord at this
          split at this
          · exact Cond.code_named this
          · obtain ⟨m', _, _, hn', -⟩ := Cond.codeWith_spec this
            exact ⟨m', hn'⟩
        rcases j4 with j4 | ⟨host, j4⟩
        · exact sBg_S X hx hown hts j4 j2 jc.2.1 hnamed jc.1 jc.2.2.1 (by rw [pwa_len hwa]; exact j3) rfl hst (by rw [hb]; exact j1)
        · exact sBg_SN X hx hown hts (hK.2.2.1 _ j4) j2 jc.2.1 hnamed jc.1 jc.2.2.1 (by rw [pwa_len hwa]; exact j3) rfl hst (by rw [hb]; exact j1)
      · omega
      · omega
    · rename_i hb0
      split at hp
      · rename_i o0 as0 has
        rw [has] at hst
        have hst' : st = as0.reverse ++ .ref o0 :: st.drop na := by
          rw [List.reverse_cons, List.append_assoc] at hst
          exact hst
        split at hp
        · rename_i hok
          obtain ⟨d', o1, rfl, hw, hwa, h1, h2⟩ := sRun_pc hp
          have hobj : ∃ fs, h.1 o0 = some (.inr (pcl h o0, fs)) := by
            by_cases h99 : pcl h o0 = 99
            · rw [h99] at hok
              exact absurd (by simpa [pok] using hok) hF99
            · exact pcl_some rfl h99
          obtain ⟨fs, hfs⟩ := hobj
          obtain ⟨⟨r, hr, -, cellB, g1, g2, g3, -⟩, -⟩ := hP.1.obj hfs
          have hcls := (hK.1 _ r hr).2.1
          rcases j with ⟨q, -⟩ | ⟨-, j1, j2, j3⟩ | ⟨-, j1, j2, j3, ⟨bb, LL, j4⟩, ⟨nb, j5, j6⟩, j7⟩
          · exact absurd q hb0
          · refine sRun_call hnw hHd ih hn3 hwa h1 h2 hC hP hL hfr hlo hce hsl hw jc (fun T hT X => ?_) j1
            rcases j3 with ⟨nb, k1, k2, k3, k4⟩ | ⟨nb, x, owner, k1, k2, k3, k4, k5, k6, k7⟩
            · rcases k3 with k3 | ⟨host, k3⟩
              · exact sBg_V X hx hown hts k3 j2 (k4 _ _ hok hr) jc.1 jc.2.2.1 (by rw [pwa_len1 hwa k1]; exact k2) (by rw [hT]; exact g1) (by rw [g3]; rfl) (by rw [g2]; exact hcls) rfl hst' (by rw [hb]; exact j1)
              · exact sBg_VN X hx hown hts (hK.2.2.1 _ k3) j2 (k4 _ _ hok hr) jc.1 jc.2.2.1 (by rw [pwa_len1 hwa k1]; exact k2) (by rw [hT]; exact g1) (by rw [g3]; rfl) (by rw [g2]; exact hcls) rfl hst' (by rw [hb]; exact j1)
            · exact sBg_U X hx hown hts k3 k4 (hK.2.2.1 _ k5) k6 j2 (k7 _ _ hok hr) (by rw [pwa_len1 hwa k1]; exact k2) (by rw [hT]; exact g1) (by rw [g3]; rfl) (by rw [g2]; exact hcls) rfl hst' (by rw [hb]; exact j1)
          · refine sRun_call hnw hHd ih hn3 hwa h1 h2 hC hP hL hfr hlo hce hsl hw jc (fun T hT X => ?_) j1
            rcases j7 with j7 | ⟨host, j7⟩
            · exact sBg_I X hx hown hts j2 j7 j3 j4 jc.2.2.1 (by rw [pwa_len1 hwa j5]; exact j6) rfl hst' (by rw [hb]; exact j1)
            · exact sBg_IN X hx hown hts j2 (hK.2.2.1 _ j7) j3 j4 jc.2.2.1 (by rw [pwa_len1 hwa j5]; exact j6) rfl hst' (by rw [hb]; exact j1)
        · cases hp
      · cases hp
  · obtain ⟨idx, nb, x, owner, hn3, j1, k2, k3, k4, k5, k6, k7⟩ := hj
    split at hp
    · rename_i o0 as0 has
      have hst : st = ((st.take a).reverse).reverse ++ st.drop a := by rw [List.reverse_reverse, List.take_append_drop]
      rw [has] at hst
      have hst' : st = as0.reverse ++ .ref o0 :: st.drop a := by
        rw [List.reverse_cons, List.append_assoc] at hst
        exact hst
      split at hp
      · rename_i M' hv
        obtain ⟨h99, k1, jc, j2, k8⟩ := k7 _ _ hv
        obtain ⟨d', o1, rfl, hw, hwa, h1, h2⟩ := sRun_pc hp
        obtain ⟨fs, hfs⟩ := pcl_some rfl h99
        obtain ⟨⟨r, hr, -, cellB, g1, g2, g3, -⟩, -⟩ := hP.1.obj hfs
        have hcls := (hK.1 _ r hr).2.1
        refine sRun_call hnw hHd ih hn3 hwa h1 h2 hC hP hL hfr hlo hce hsl hw jc (fun T hT X => ?_) j1
        exact sBg_U X hx hown hts k3 k4 (hK.2.2.1 _ k5) k6 j2 (k8 _ hr) (by rw [pwa_len1 hwa k1]; exact k2) (by rw [hT]; exact g1) (by rw [g3]; rfl) (by rw [g2]; exact hcls) rfl hst' (by rw [hb]; exact j1)
      · cases hp
    · cases hp
  · obtain ⟨idx, r, j1, j2, j3, j4, j5⟩ := hj
    have hg := prun_grow k _ _ hp
    have g1 : h.2.1 + 1 ≤ o.2.2.1 := hg.1
    have g2 : h.2.2 + b ≤ o.2.2.2 := hg.2
    exact sW_new hx hb hts hown hK hP.1 j2 j3 j4 j5 (by omega) (by omega) j1 (fun H' hr => go hp (hP.new1 hr) hL)
  · obtain ⟨atype, ty, j1, j2, j3, j4, j5, j6, j7, j8⟩ := hj
    split at hp
    · split at hp
      · rename_i m0 st0 hv
        have hg := prun_grow k _ _ hp
        have g1 : h.2.1 + 1 ≤ o.2.2.1 := hg.1
        have g2 : h.2.2 + m0.toNatClampNeg ≤ o.2.2.2 := hg.2
        exact sW_newa hx hb hts hK hP.1 j2 j3 j4 j5 j6 (fun cA => j8 cA _) hv j7 (by omega) (by omega) j1 (fun H' hr => go hp (hP.new1 hr) hL)
      · cases hp
    · cases hp
  · obtain ⟨idx, C, j1, j2, j3, j4, j5⟩ := hj
    split at hp
    · split at hp
      · rename_i m0 st0 hv
        have hg := prun_grow k _ _ hp
        have g1 : h.2.1 + 1 ≤ o.2.2.1 := hg.1
        have g2 : h.2.2 + m0.toNatClampNeg ≤ o.2.2.2 := hg.2
        exact sW_newq hx hb hts hown hK hP.1 j2 j3 j4 j5 hv (by omega) (by omega) j1 (fun H' hr => go hp (hP.new1 hr) hL)
      · cases hp
    · cases hp
  · obtain ⟨idx, j1, j2, j3, j4, j5⟩ := hj
    split at hp
    · split at hp
      · rename_i hv
        simp only [Bool.and_eq_true, decide_eq_true_eq] at hv
        obtain ⟨⟨⟨⟨⟨⟨⟨⟨⟨v1, v2⟩, v3⟩, v4⟩, v5⟩, v6⟩, v7⟩, v8⟩, v9⟩, v10⟩ := hv
        have hw := pw_sum v9
        exact sW_copy hx hb (by rw [hml]; exact hL.2.2.1.symm) hts hown hK hP.1 j2 j3 j4 j5 (int_nn v3) (int_nn v4) (int_nn v5) v6 v7 v1 v2 (by omega) (by
          have : nativeFrameWords "java/lang/System" "arraycopy" 5 + 11 ≤ 33 := by decide
          omega) j1 (fun H' locs' ha hq hr => go hp ⟨hr, fun q hq' => by
            rcases List.mem_append.mp hq' with z | z
            · exact hP.2.1 q z
            · rw [hq q z]; exact ha, by rw [pcp_h2]; exact hcs, by rw [pcp_h2]; exact hss⟩ hL)
      · cases hp
    · cases hp
  · obtain ⟨idx, j1, j2, j3, j4⟩ := hj
    split at hp
    · split at hp
      · rename_i st0 hv
        simp only [Bool.and_eq_true, decide_eq_true_eq] at hv
        have hw := pw_sum hv.1
        exact W.objInit hx hb hown (hts _ j2) (hts _ j3) (hts _ j4) rfl (by rw [hml]; exact hL.2.2.1) rfl j1 (by omega) (by show 2 * 0 + _ + 12 ≤ _; omega) (go hp hP hL)
      · cases hp
    · cases hp
  · split at hp
    · split at hp
      · rename_i hv
        have hg := prun_grow k _ _ hp
        have g1 : h.2.1 ≤ o.2.2.1 := Nat.le_trans (by first | exact Nat.le_refl _ | (split <;> simp [psf_h2]) | simp [psf_h2]) hg.1
        have g2 : h.2.2 ≤ o.2.2.2 := Nat.le_trans (by first | exact Nat.le_refl _ | (split <;> simp [psf_h2]) | simp [psf_h2]) hg.2
        exact hIx M pc n 11 a b lst (Or.inl rfl) hj d ls _ _ h _ _ (by simp only [paX, hv, if_true]) p e R s m args below meth c z0 H locs cells slots lsa _ hC hP hL.2.2.1 hfr hlo (by omega) (by omega) (fun H' locs' hP' => go hp hP' hL)
      · cases hp
    · cases hp
  · split at hp
    · split at hp
      · rename_i hv
        have hg := prun_grow k _ _ hp
        have g1 : h.2.1 ≤ o.2.2.1 := Nat.le_trans (by first | exact Nat.le_refl _ | (split <;> simp [psf_h2]) | simp [psf_h2]) hg.1
        have g2 : h.2.2 ≤ o.2.2.2 := Nat.le_trans (by first | exact Nat.le_refl _ | (split <;> simp [psf_h2]) | simp [psf_h2]) hg.2
        exact hIx M pc n 12 a b lst (Or.inr rfl) hj d ls _ _ h _ _ (by simp only [paX, hv, if_true]) p e R s m args below meth c z0 H locs cells slots lsa _ hC hP hL.2.2.1 hfr hlo (by omega) (by omega) (fun H' locs' hP' => go hp hP' hL)
      · cases hp
    · cases hp
  · split at hp
    · rename_i hv
      simp only [Bool.and_eq_true, decide_eq_true_eq, Option.isNone_iff_eq_none] at hv
      cases hp
      exact hIt M pc n a b lst hj d st h hv.1.1 hv.1.2 hv.2 p e R s m args below meth c z0 H locs cells slots lsa hC hP hL.2.2.1 hfr hlo (by have := hP.2.2.1; dsimp only [pnw] at hce; omega) (by have := hP.2.2.2; dsimp only [pnw] at hsl; omega)
    · cases hp
  · obtain ⟨idx, j1, j2⟩ := hj
    split at hp
    · split at hp
      · rename_i hv
        simp only [Bool.and_eq_true, decide_eq_true_eq] at hv
        have hw := pw_sum hv.1
        have hg := prun_grow k _ _ hp
        have g1 : h.2.1 ≤ o.2.2.1 := hg.1
        have g2 : h.2.2 ≤ o.2.2.2 := hg.2
        exact va_mmax hx hb (by rw [hml]; exact hL.2.2.1.symm) hown (hts _ j2) (hts _ q794) (hts _ q128) (hts _ q795) (by omega) (by omega) (by omega) (by omega) j1 (go hp hP hL)
      · cases hp
    · split at hp
      · rename_i hv
        simp only [Bool.and_eq_true, decide_eq_true_eq] at hv
        have hw := pw_sum hv.1
        have hg := prun_grow k _ _ hp
        have g1 : h.2.1 ≤ o.2.2.1 := hg.1
        have g2 : h.2.2 ≤ o.2.2.2 := hg.2
        exact va_mmin hx hb (by rw [hml]; exact hL.2.2.1.symm) hown (hts _ j2) (hts _ q812) (hts _ q128) (hts _ q813) (by omega) (by omega) (by omega) (by omega) j1 (go hp hP hL)
      · cases hp
    · split at hp
      · rename_i hv
        simp only [Bool.and_eq_true, decide_eq_true_eq] at hv
        have hw := pw_sum hv.1
        have hg := prun_grow k _ _ hp
        have g1 : h.2.1 ≤ o.2.2.1 := hg.1
        have g2 : h.2.2 ≤ o.2.2.2 := hg.2
        exact va_mmin_long hx hb (by rw [hml]; exact hL.2.2.1.symm) hown (hts _ j2) (hts _ q1240) (hts _ q128) (hts _ q1241) (by omega) (by omega) (by omega) (by omega) j1 (go hp hP hL)
      · cases hp
    · split at hp
      · rename_i hv
        simp only [Bool.and_eq_true, decide_eq_true_eq] at hv
        have hw := pw_sum hv.1
        have hg := prun_grow k _ _ hp
        have g1 : h.2.1 ≤ o.2.2.1 := hg.1
        have g2 : h.2.2 ≤ o.2.2.2 := hg.2
        exact va_mmax_long hx hb (by rw [hml]; exact hL.2.2.1.symm) hown (hts _ j2) (hts _ q1243) (hts _ q128) (hts _ q1244) (by omega) (by omega) (by omega) (by omega) j1 (go hp hP hL)
      · cases hp
    · cases hp
  · cases hp
end
