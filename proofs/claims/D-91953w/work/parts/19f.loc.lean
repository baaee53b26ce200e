/-! SOUNDNESS 14: one instruction of the run, links apart -/
set_option maxRecDepth 100000
/-- what a run does behind a step -/
def pcont (k : Nat) (r : pA) : Option pO := match r with
  | none => none
  | some (.inl o) => some o
  | some (.inr (.inl f')) => prun k f'
  | some (.inr (.inr (f', kk))) => (match prun k f' with
    | none => none
    | some o => (match kk o with
      | none => none
      | some (.inl o') => some o'
      | some (.inr f'') => prun k f''))
theorem prun_cont {k : Nat} {f : pF} : prun (k + 1) f = pcont k (pact f) := rfl
section
variable {l : Launch} {D : sD} {base : Nat} {nw : List Cond} {ao : List String} {p : Program} {e : Env} {R : Room} {s : State} {m : MethodId} {args : Array Value} {below : List Frame} {meth : Method} {c : Code} {z0 : Nat} {H : Heap} {locs : List Loc} {cells slots : Nat} {lsa : Array Slot}
theorem sPt.st {h h' : pH} {H' : Heap} {a z : Nat} (hP : sPt s D base z0 h H locs cells slots) (hr : sRep D base h' s H') (ha : base ≤ a) (h2 : h'.2 = h.2) : sPt s D base z0 h' H' (locs ++ [⟨a, z⟩]) cells slots := by
  refine ⟨hr, fun q hq => ?_, by rw [h2]; exact hP.2.2.1, by rw [h2]; exact hP.2.2.2⟩
  rcases List.mem_append.mp hq with q' | q'
  · exact hP.2.1 q q'
  · rw [List.mem_singleton.mp q']; exact ha
theorem pst_h2 {h : pH} {a i : Nat} {x : Int32} : (pst h a i x).2 = h.2 := by unfold pst; split <;> rfl
theorem pstL_h2 {h : pH} {a i : Nat} {x : Int64} : (pstL h a i x).2 = h.2 := by unfold pstL; split <;> rfl
theorem pstQ_h2 {h : pH} {a i : Nat} {x : Option Nat} : (pstQ h a i x).2 = h.2 := by unfold pstQ; split <;> rfl
theorem psf_h2 {h : pH} {a i : Nat} {x : Value} : (psf h a i x).2 = h.2 := by unfold psf; split <;> rfl
theorem pcp_h2 {h : pH} {a i b j n : Nat} : (pcp h a i b j n).2 = h.2 := by unfold pcp; split <;> rfl
theorem sRun_L {k d M pc n : Nat} {i : Instr} {ls st : List Value} {h : pH} {o : pO} (hnw : ∀ w ∈ nw, sNk w) (hRt : sRtOk) (hHd : sHdOk) (ih : sRn l D base nw ao k) (hp : pcont k (paL i n d M pc ls st h) = some o) (hdg : decode (sCode M) pc = .ok (i, n)) (hj : sJi i n pc = true)
    (hC : sCx p s m args meth c D nw ao M) (hP : sPt s D base z0 h H locs cells slots) (hL : sLs ls lsa (pml M)) (hfr : d ≤ R.frames) (hlo : 41 * d ≤ R.locals) (hce : o.2.2.1 ≤ s.heap.size + R.cells) (hsl : o.2.2.2 ≤ z0 + R.slots) :
    W p l e R s m args below meth c H locs cells slots (sMQ below s D nw ao base z0 o) (F0 m pc lsa st) := by
  have go : ∀ {pc' : Nat} {ls' st' : List Value} {h' : pH} {H' : Heap} {locs' : List Loc} {cells' slots' : Nat} {lsa' : Array Slot}, prun k (d, M, pc', ls', st', h') = some o → sPt s D base z0 h' H' locs' cells' slots' → sLs ls' lsa' (pml M) → W p l e R s m args below meth c H' locs' cells' slots' (sMQ below s D nw ao base z0 o) (F0 m pc' lsa' st') :=
    fun q1 q2 q3 => ih _ _ _ _ _ _ _ q1 p e R s m args below meth c z0 _ _ _ _ _ hC q2 q3 hfr hlo hce hsl
  have hC' := hC
  obtain ⟨hx, hb, hret, hlk, hml, hown, hnm, hts, hK, hxt⟩ := hC'
  obtain ⟨t0, t1, t2, t3, t4⟩ := hRt M
  unfold paL at hp
  split at hp
  · obtain rfl : n = 1 := by simpa [sJi] using hj
    split at hp
    · split at hp
      · rename_i hq
        exact sW_iald hx hb hK hP.1 hq hdg (go hp hP hL)
      · cases hp
    · cases hp
  · obtain rfl : n = 1 := by simpa [sJi] using hj
    split at hp
    · split at hp
      · rename_i hq
        exact sW_iast hx hb hK hP.1 hq hdg (fun H' z ha hr => go hp (hP.st hr ha pst_h2) hL)
      · cases hp
    · cases hp
  · obtain rfl : n = 1 := by simpa [sJi] using hj
    split at hp
    · split at hp
      · rename_i hq
        exact sW_bald hx hb hK hP.1 hq hdg (go hp hP hL)
      · cases hp
    · cases hp
  · obtain rfl : n = 1 := by simpa [sJi] using hj
    split at hp
    · split at hp
      · rename_i hq
        exact sW_bast hx hb hK hP.1 hq hdg (fun H' z ha hr => go hp (hP.st hr ha pst_h2) hL)
      · split at hp
        · rename_i hq
          simp only [Bool.and_eq_true] at hq
          exact sW_zast hx hb hK hP.1 hq.1 hq.2 hdg (fun H' z ha hr => go hp (hP.st hr ha pst_h2) hL)
        · cases hp
    · cases hp
  · obtain rfl : n = 1 := by simpa [sJi] using hj
    split at hp
    · split at hp
      · rename_i hq
        exact sW_lald hx hb hK hP.1 hq hdg (go hp hP hL)
      · cases hp
    · cases hp
  · obtain rfl : n = 1 := by simpa [sJi] using hj
    split at hp
    · split at hp
      · rename_i hq
        exact sW_last hx hb hK hP.1 hq hdg (fun H' z ha hr => go hp (hP.st hr ha pstL_h2) hL)
      · cases hp
    · cases hp
  · obtain rfl : n = 1 := by simpa [sJi] using hj
    split at hp
    · split at hp
      · rename_i hq
        exact sW_aald hx hb hK hP.1 hq hdg (go hp hP hL)
      · cases hp
    · cases hp
  · obtain rfl : n = 1 := by simpa [sJi] using hj
    split at hp
    · split at hp
      · rename_i hq
        exact sW_aast hx hb hK hP.1 hq hdg (fun H' z ha hr => go hp (hP.st hr ha pstQ_h2) hL)
      · cases hp
    · cases hp
  · obtain rfl : n = 1 := by simpa [sJi] using hj
    split at hp
    · split at hp
      · rename_i ha
        split at hp
        · rename_i hk
          exact sW_alen hx hb hK hP.1 ha hk hdg (go hp hP hL)
        · cases hp
      · cases hp
    · cases hp
  · obtain rfl : n = 1 := by simpa [sJi] using hj
    split at hp
    · split at hp
      · rename_i hq
        cases hp
        exact sRet_i hnw hC hP (t0 hq) hdg
      · split at hp
        · rename_i hq
          split at hp
          · rename_i hv
            cases hp
            exact sRet_z hnw hC hP (t2 hq) hv hdg
          · cases hp
        · cases hp
    · cases hp
  · obtain rfl : n = 1 := by simpa [sJi] using hj
    split at hp
    · split at hp
      · rename_i hq
        cases hp
        exact sRet_l hnw hC hP (t1 hq) hdg
      · cases hp
    · cases hp
  · obtain rfl : n = 1 := by simpa [sJi] using hj
    split at hp
    · split at hp
      · rename_i hq
        cases hp
        obtain ⟨C, hc⟩ := t3 hq
        exact sRet_a hnw hC hP hc hdg
      · cases hp
    · cases hp
  · obtain rfl : n = 1 := by simpa [sJi] using hj
    split at hp
    · split at hp
      · rename_i hq
        cases hp
        exact sRet_v hnw hC hP (t4 hq) hdg
      · cases hp
    · cases hp
  · obtain rfl : n = 1 := by simpa [sJi] using hj
    split at hp
    · split at hp
      · rename_i a st' hq
        unfold pth at hp
        cases hph : phd M pc with
        | none =>
          rw [hph] at hp
          cases hp
          intro T hT X
          obtain ⟨h1, h2, h3, h4, h5⟩ := X.athrowLeaves hx (g := F0 m pc lsa (.ref a :: st')) rfl rfl rfl (by rw [hxt]; exact (hHd M pc).1 hph) (a := a) (rest := st') rfl (by rw [hb]; exact hdg) (hlocks := hlk)
          refine ⟨_, h1, .threw a, h2, h3, rfl, ⟨hK.warm hnw h4, ?_⟩, locs, ⟨h4, ?_⟩, hP.2.1⟩
          · have hT' : (T.setFrames (.throwing a :: below)).heap = H := hT
            rw [hT']
            exact hP.1.moved h4.alike
          · have e1 : h.2.1 - s.heap.size = cells := by have := hP.2.2.1; omega
            have e2 : h.2.2 - z0 = slots := by have := hP.2.2.2; omega
            rw [show ((.inr a, h) : pO).2.2.1 = h.2.1 from rfl, show ((.inr a, h) : pO).2.2.2 = h.2.2 from rfl, e1, e2]
            exact h5
        | some q =>
          rw [hph] at hp
          dsimp only at hp
          split at hp
          · rename_i o' ho'
            split at ho' <;> cases ho'
          · cases hp
      · cases hp
    · cases hp
  · split at hp
    · rename_i hq
      exact sL hx hb hq hdg hj hL (fun lsa' hl => go hp hP hl)
    · cases hp
end
