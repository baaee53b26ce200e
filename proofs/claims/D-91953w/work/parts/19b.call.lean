/-! SOUNDNESS 10: a call in the run; something thrown in the run -/
set_option maxRecDepth 100000
section
variable {p : Program} {l : Launch} {e : Env} {R : Room} {s : State} {m : MethodId} {args : Array Value} {below : List Frame} {meth : Method} {c : Code} {H : Heap} {locs : List Loc} {cells slots : Nat} {Q : State → Prop}
variable {D : sD} {base z0 : Nat} {h : pH} {nw : List Cond} {ao : List String} {pc : Nat} {lsa : Array Slot}
theorem sCallW {M M' d' : Nat} {as stk rest : List Value} {o1 : pO} {ig : Instr} (hnw : ∀ w ∈ nw, sNk w) (hC : sCx p s m args meth c D nw ao M) (hP : sPt s D base z0 h H locs cells slots) (hM : sMt l D nw ao base M' d' as h o1) (hJ : sJc nw (sY M).cls M')
    (hbg : ∀ T : State, T.heap = H → Stand p l e R s m args below meth c T locs cells slots → sBg p l e R s m args below meth c T locs cells slots (F0 m pc lsa stk) rest (sY M') as.toArray) (hdg : decode (sCode M) pc = .ok (ig, 3)) (hw : (rest.map fun v => v.category).sum ≤ 8) (hsize : lsa.size = pml M) (hfr : d' + 1 ≤ R.frames) (hlo : 41 * (d' + 1) ≤ R.locals) (hce : o1.2.2.1 ≤ s.heap.size + R.cells) (hsl : o1.2.2.2 ≤ z0 + R.slots) (hgr : sLe h o1.2)
    (kr : ∀ v, o1.1 = .inl v → ∀ H' locs' cells' slots', sPt s D base z0 o1.2 H' locs' cells' slots' → W p l e R s m args below meth c H' locs' cells' slots' Q (F0 m (pc + 3) lsa (v.toList ++ rest)))
    (kt : ∀ x, o1.1 = .inr x → ∀ (T' : State) locs' cells' slots', sPt s D base z0 o1.2 T'.heap locs' cells' slots' → Stand p l e R s m args below meth c T' locs' cells' slots' → ∃ t, Steps p.tables e below ((T'.setTop (F0 m pc lsa rest)).pushFrame (.throwing x)) t ∧ Q t) : W p l e R s m args below meth c H locs cells slots Q (F0 m pc lsa stk) := by
  intro T hT X
  obtain ⟨hx, hb, hret, hlk, hml, hown, hnm, hts, hK, hxt⟩ := hC
  obtain ⟨hR, hlc, hcs, hss⟩ := hP
  obtain ⟨j1, j2, j3, j4, -⟩ := hJ
  obtain ⟨vm₁, mk, X₁, hn, hgo⟩ := hbg T hT X
  have hWm : s.WarmedH vm₁ := X₁.warmed
  have hws : ∀ w ∈ sWs M', w.before as.toArray (T.setVm vm₁) = true := by
    intro w hw'
    have hin : w ∈ lw_all := by
      rcases List.mem_cons.mp hw' with q | q
      · rw [q]; exact j1
      · exact q
    exact word_at hWm (lw_self w hin).2 (hts w hin)
  have hini : (Cond.initialized (sY M').cls).before as.toArray (T.setVm vm₁) = true := word_at hWm (lw_self _ j2).2 (hts _ j2)
  have hsW : sW D nw ao base h (T.setVm vm₁) := ⟨hK.warm hnw hWm, by rw [show (T.setVm vm₁).heap = H from hT]; exact hR.moved hWm.alike⟩
  have g1 := hgr.1
  have g2 := hgr.2
  obtain ⟨T', L, X', hL, hsW', hret', hthr'⟩ := sBack (g := F0 m pc lsa rest) (n := 3) (ig := ig) hnw hM X₁ rfl (by rw [hml]; exact hsize) (by rw [hb]; exact hdg) (by show 2 * 0 + (rest.map fun v => v.category).sum ≤ 8; omega) hn hws hini j4 hfr hlo (by omega) (by omega) hsW
  have hpt : sPt s D base z0 o1.2 T'.heap (locs ++ L) (cells + (o1.2.2.1 - h.2.1)) (slots + (o1.2.2.2 - h.2.2)) := by
    refine ⟨hsW'.2.moved X'.warmed.alike.symm, fun q hq => ?_, by omega, by omega⟩
    rcases List.mem_append.mp hq with q' | q'
    · exact hlc q q'
    · exact hL q q'
  cases ho : o1.1 with
  | inl v =>
    obtain ⟨t, a1, b1⟩ := kr v ho _ _ _ _ hpt T' rfl X'
    exact ⟨t, hgo t ((hret' v ho).trans a1), b1⟩
  | inr x =>
    obtain ⟨t, a1, b1⟩ := kt x ho T' _ _ _ hpt X'
    exact ⟨t, hgo t ((hthr' x ho).trans a1), b1⟩
/-- thrown out of the method -/
theorem sThrOut {M a : Nat} {rest : List Value} {T' : State} (hnw : ∀ w ∈ nw, sNk w) (hC : sCx p s m args meth c D nw ao M) (hP : sPt s D base z0 h T'.heap locs cells slots) (X : Stand p l e R s m args below meth c T' locs cells slots) (hout : ∀ x ∈ tableOf (sHH M), covers x pc = false) :
    ∃ t, Steps p.tables e below ((T'.setTop (F0 m pc lsa rest)).pushFrame (.throwing a)) t ∧ sMQ below s D nw ao base z0 (.inr a, h) t := by
  obtain ⟨hx, hb, hret, hlk, hml, hown, hnm, hts, hK, hxt⟩ := hC
  obtain ⟨h1, h2, h3, h4, h5⟩ := X.leaveThrown a (g := F0 m pc lsa rest) rfl rfl rfl (by rw [hxt]; exact hout) hlk
  refine ⟨_, h1, .threw a, h2, h3, rfl, ⟨hK.warm hnw h4, hP.1.moved h4.alike⟩, locs, ⟨h4, ?_⟩, hP.2.1⟩
  have e1 : h.2.1 - s.heap.size = cells := by have := hP.2.2.1; omega
  have e2 : h.2.2 - z0 = slots := by have := hP.2.2.2; omega
  rw [show ((.inr a, h) : pO).2.2.1 = h.2.1 from rfl, show ((.inr a, h) : pO).2.2.2 = h.2.2 from rfl, e1, e2]
  exact h5
/-- caught by the method's one handler -/
theorem sThrIn {M a k : Nat} {rest : List Value} {T' : State} {x : Nat × Nat × Nat × Nat} {r : vw_C} (hC : sCx p s m args meth c D nw ao M) (hP : sPt s D base z0 h T'.heap locs cells slots) (X : Stand p l e R s m args below meth c T' locs cells slots) (hH : sHH M = [x]) (hcov : (decide (x.1 ≤ pc) && decide (pc < x.2.1)) = true) (h0 : x.2.2.2 ≠ 0) (hk : pcl h a = k) (hk9 : k ≠ 99) (hr : sCl k = some r) (hcl : Cond.classLink (sY M).cls x.2.2.2 r.1 ∈ lw_all)
    (kk : ∀ H', H' = T'.heap → W p l e R s m args below meth c H' locs cells slots Q (F0 m x.2.2.1 lsa [.ref a])) :
    ∃ t, Steps p.tables e below ((T'.setTop (F0 m pc lsa rest)).pushFrame (.throwing a)) t ∧ Q t := by
  obtain ⟨hx, hb, hret, hlk, hml, hown, hnm, hts, hK, hxt⟩ := hC
  obtain ⟨fs, hfs⟩ := pcl_some hk hk9
  obtain ⟨⟨r', hr', -, cell, g1, g2, g3, -⟩, -⟩ := hP.1.obj hfs
  cases hr.symm.trans hr'
  obtain ⟨vm', X', hgo⟩ := sCatch X (x := ⟨x.1, x.2.1, x.2.2.1, x.2.2.2⟩) (g := F0 m pc lsa rest) hown (hts _ hcl) rfl (by rw [hxt, hH]; rfl) hcov h0 g1 (fun q hq => by rw [g3] at hq; cases hq) (by rw [g2]; exact (hK.1 k r hr).2)
  obtain ⟨t, a1, b1⟩ := kk _ rfl (T'.setVm vm') rfl X'
  exact ⟨t, hgo t a1, b1⟩
end
