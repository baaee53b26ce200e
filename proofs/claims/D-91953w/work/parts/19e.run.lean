/-! SOUNDNESS 13: the run of the pure machine is a run of the machine -/
set_option maxRecDepth 100000
def sRtOk : Prop := ∀ M, (prt M = 0 → sRt M = some .int) ∧ (prt M = 1 → sRt M = some .long) ∧ (prt M = 2 → sRt M = some .boolean) ∧ (prt M = 3 → ∃ C, sRt M = some (.object C)) ∧ (prt M = 4 → sRt M = none)
def sHdOk : Prop := ∀ M pc, (phd M pc = none → ∀ x ∈ tableOf (sHH M), covers x pc = false) ∧ ∀ q, phd M pc = some q → q.2 ≠ 99 ∧ ∃ x r, sHH M = [x] ∧ (decide (x.1 ≤ pc) && decide (pc < x.2.1)) = true ∧ x.2.2.2 ≠ 0 ∧ x.2.2.1 = q.1 ∧ sCl q.2 = some r ∧ Cond.classLink (sY M).cls x.2.2.2 r.1 ∈ lw_all
/-- the claim of the run, at one fuel -/
def sRn (l : Launch) (D : sD) (base : Nat) (nw : List Cond) (ao : List String) (k : Nat) : Prop := ∀ (d M pc : Nat) (ls st : List Value) (h : pH) (o : pO), prun k (d, M, pc, ls, st, h) = some o →
  ∀ (p : Program) (e : Env) (R : Room) (s : State) (m : MethodId) (args : Array Value) (below : List Frame) (meth : Method) (c : Code) (z0 : Nat) (H : Heap) (locs : List Loc) (cells slots : Nat) (lsa : Array Slot), sCx p s m args meth c D nw ao M → sPt s D base z0 h H locs cells slots → sLs ls lsa (pml M) → d ≤ R.frames → 41 * d ≤ R.locals → o.2.2.1 ≤ s.heap.size + R.cells → o.2.2.2 ≤ z0 + R.slots →
    W p l e R s m args below meth c H locs cells slots (sMQ below s D nw ao base z0 o) (F0 m pc lsa st)
theorem pw_sum {st : List Value} (h : pw st = true) : (st.map fun v => v.category).sum ≤ 8 := by
  rw [pw, Bool.or_eq_true] at h
  rcases h with h | h
  case inr => exact of_decide_eq_true h
  have h1 : st.length ≤ 4 := of_decide_eq_true h
  have h2 : ∀ l : List Value, (l.map fun v => v.category).sum ≤ 2 * l.length := by
    intro l
    induction l with
    | nil => simp
    | cons v l ih =>
      rw [List.map_cons, List.sum_cons, List.length_cons]
      rcases lv_cat v with q | q <;> omega
  have := h2 st
  omega
section
variable {l : Launch} {D : sD} {base : Nat} {nw : List Cond} {ao : List String}
/-- a call, in the run -/
theorem sRun_call {k d' M M' pc n : Nat} {ls as stk rest : List Value} {h : pH} {o o1 : pO} {p : Program} {e : Env} {R : Room} {s : State} {m : MethodId} {args : Array Value} {below : List Frame} {meth : Method} {c : Code} {z0 : Nat} {H : Heap} {locs : List Loc} {cells slots : Nat} {lsa : Array Slot} {ig : Instr}
    (hnw : ∀ w ∈ nw, sNk w) (hHd : sHdOk) (ih : sRn l D base nw ao k) (hn : n = 3) (hp : pwa M' as = true) (h1 : prun k (d', M', 0, pent (pml M') as, [], h) = some o1) (h2 : (match pk (d' + 1) M pc n ls rest o1 with
        | none => none
        | some (.inl o') => some o'
        | some (.inr f'') => prun k f'') = some o)
    (hC : sCx p s m args meth c D nw ao M) (hP : sPt s D base z0 h H locs cells slots) (hL : sLs ls lsa (pml M)) (hfr : d' + 1 ≤ R.frames) (hlo : 41 * (d' + 1) ≤ R.locals) (hce : o.2.2.1 ≤ s.heap.size + R.cells) (hsl : o.2.2.2 ≤ z0 + R.slots) (hw : pw rest = true) (hJ : sJc nw (sY M).cls M')
    (hbg : ∀ T : State, T.heap = H → Stand p l e R s m args below meth c T locs cells slots → sBg p l e R s m args below meth c T locs cells slots (F0 m pc lsa stk) rest (sY M') as.toArray) (hdg : decode (sCode M) pc = .ok (ig, 3)) :
    W p l e R s m args below meth c H locs cells slots (sMQ below s D nw ao base z0 o) (F0 m pc lsa stk) := by
  subst hn
  have hgr : sLe h o1.2 := prun_grow k _ _ h1
  have hgr2 : sLe o1.2 o.2 := by
    cases h3 : pk (d' + 1) M pc 3 ls rest o1 with
    | none => rw [h3] at h2; cases h2
    | some q =>
      rw [h3] at h2
      have hq : sQg o1.2 q := by
        unfold pk at h3
        split at h3
        · cases h3; exact sLe.rf
        · cases h3; exact sLe.rf
        · exact sGr_pth h3
      cases q with
      | inl x => cases h2; exact hq
      | inr f => exact sLe.tr hq (prun_grow k _ _ h2)
  have hMt : sMt l D nw ao base M' d' as h o1 := sMt_of hJ hp (fun p e R s m args below meth c z0 H locs cells slots lsa hC hP hL f1 f2 f3 f4 => ih d' M' 0 _ [] h o1 h1 p e R s m args below meth c z0 H locs cells slots lsa hC hP hL f1 f2 f3 f4)
  have g1 := hgr2.1
  have g2 := hgr2.2
  refine sCallW hnw hC hP hMt hJ hbg hdg (pw_sum hw) hL.2.2.1 hfr hlo (by omega) (by omega) hgr ?_ ?_
  · intro v hv H' locs' cells' slots' hP'
    obtain ⟨oo, hh⟩ := o1
    cases hv
    cases v with
    | none => exact ih _ _ _ _ _ _ _ h2 p e R s m args below meth c z0 H' locs' cells' slots' lsa hC hP' hL hfr hlo hce hsl
    | some v => exact ih _ _ _ _ _ _ _ h2 p e R s m args below meth c z0 H' locs' cells' slots' lsa hC hP' hL hfr hlo hce hsl
  · intro x hx T' locs' cells' slots' hP' X'
    obtain ⟨oo, hh⟩ := o1
    cases hx
    dsimp only [pk, pth] at h2
    obtain ⟨d1, d2⟩ := hHd M pc
    cases hph : phd M pc with
    | none =>
      rw [hph] at h2
      cases h2
      exact sThrOut hnw hC hP' X' (d1 hph)
    | some q =>
      rw [hph] at h2
      dsimp only at h2
      obtain ⟨q99, xx, r, k1, k2, k3, k4, k5, k6⟩ := d2 q hph
      by_cases hq : q.2 = pcl hh x
      · rw [if_pos hq] at h2
        refine sThrIn hC hP' X' k1 k2 k3 hq.symm q99 k5 k6 (fun H' hH' => ?_)
        subst hH'
        rw [k4]
        exact ih _ _ _ _ _ _ _ h2 p e R s m args below meth c z0 _ locs' cells' slots' lsa hC hP' hL hfr hlo hce hsl
      · rw [if_neg hq] at h2
        cases h2
end
