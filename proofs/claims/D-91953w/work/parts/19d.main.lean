/-! SOUNDNESS 12: a contract out of a run -/
set_option maxRecDepth 100000
section
variable {l : Launch} {D : sD} {base : Nat} {h : pH} {nw : List Cond} {ao : List String}
theorem sMt_of {M' d' : Nat} {as : List Value} {o : pO} {own : String} (hJc : sJc nw own M') (hw : pwa M' as = true)
    (hrun : ∀ (p : Program) (e : Env) (R : Room) (s : State) (m : MethodId) (args : Array Value) (below : List Frame) (meth : Method) (c : Code) (z0 : Nat) (H : Heap) (locs : List Loc) (cells slots : Nat) (lsa : Array Slot), sCx p s m args meth c D nw ao M' → sPt s D base z0 h H locs cells slots → sLs (pent (pml M') as) lsa (pml M') → d' ≤ R.frames → 41 * d' ≤ R.locals → o.2.2.1 ≤ s.heap.size + R.cells → o.2.2.2 ≤ z0 + R.slots →
      W p l e R s m args below meth c H locs cells slots (sMQ below s D nw ao base z0 o) (F0 m 0 lsa [])) : sMt l D nw ao base M' d' as h o := by
  refine MetFree.of_bodyS (code := sCode M') (maxLocals := pml M') (ret := sRt M') hJc.2.2.2.2 ?_ ?_
  · intro args s m hpre hn
    obtain ⟨meth, c, h1, h2, h3, h4, h5, h6, -, -⟩ := sWord_spec hn (atoms_spec (ws := sWs M') hpre _ List.mem_cons_self)
    exact ⟨meth, c, h1, h2, h3, h4, h5, h6⟩
  · intro p e s m args below meth c s₁ B hml hP _
    obtain ⟨rfl, hsW⟩ := hP
    have hts0 := atoms_spec (ws := sWs M') B.pre
    obtain ⟨meth', c', e1, e2, -, -, -, -, e7, -⟩ := sWord_spec B.named (hts0 _ List.mem_cons_self)
    have X := Stand.of_body B
    cases e1.symm.trans B.method
    cases e2.symm.trans X.code
    have hsz : s.heap.size = h.2.1 := hsW.2.1
    have hC : sCx p s m as.toArray meth c D nw ao M' := ⟨B.exec, B.bytes, B.returns, B.notSynchronized, hml, findClass_of_methodNamed B.named, (name_of_methodNamed B.named B.method).1, fun w hw => hts0 w (List.mem_cons_of_mem _ hw), hsW.1, e7⟩
    have hPt : sPt s D base h.2.2 h s.heap [] 0 0 := ⟨hsW.2, fun q hq => (by cases hq), hsz, rfl⟩
    have hW := hrun p e (sRoom d' h o) s m as.toArray below meth c h.2.2 s.heap [] 0 0 _ hC hPt (sLs_entry hw) (Nat.le_refl _) (Nat.le_refl _) (by show _ ≤ _ + (o.2.2.1 - h.2.1); omega) (by show _ ≤ _ + (o.2.2.2 - h.2.2); omega)
    have hh0 : s₁.heap = s.heap := by rw [B.state]; rfl
    obtain ⟨t, a1, oc, b1, b2, b3, b4, L, b5, b6⟩ := hW s₁ hh0 X
    refine ⟨t, oc, by rw [lg_entry_eq]; exact a1, b1, b2, b3, b4, L, ?_, b6⟩
    rw [← hsz]
    exact b5
/-- the calls that the pure machine does as one step -/
def sIx (l : Launch) (D : sD) (base : Nat) (nw : List Cond) (ao : List String) : Prop := ∀ (M pc n t a b : Nat) (lst : List Nat), (t = 11 ∨ t = 12) → sJX nw ao M pc n t a b lst → ∀ (d : Nat) (ls st st' : List Value) (h h' : pH) (pc' : Nat), paX t a b lst n d M pc ls st h = pgo (d, M, pc', ls, st', h') →
    ∀ (p : Program) (e : Env) (R : Room) (s : State) (m : MethodId) (args : Array Value) (below : List Frame) (meth : Method) (c : Code) (z0 : Nat) (H : Heap) (locs : List Loc) (cells slots : Nat) (lsa : Array Slot) (Q : State → Prop), sCx p s m args meth c D nw ao M → sPt s D base z0 h H locs cells slots → lsa.size = pml M → d ≤ R.frames → 41 * d ≤ R.locals → cells ≤ R.cells → slots ≤ R.slots →
    (∀ H' locs', sPt s D base z0 h' H' locs' cells slots → W p l e R s m args below meth c H' locs' cells slots Q (F0 m pc' lsa st')) → W p l e R s m args below meth c H locs cells slots Q (F0 m pc lsa st)
/-- the throw that the pure machine does as one step -/
def sIt (l : Launch) (D : sD) (base : Nat) (nw : List Cond) (ao : List String) : Prop := ∀ (M pc n a b : Nat) (lst : List Nat), sJX nw ao M pc n 13 a b lst → ∀ (d : Nat) (st : List Value) (h : pH), pw st = true → 10 < d → phd M (pc + 7) = none →
    ∀ (p : Program) (e : Env) (R : Room) (s : State) (m : MethodId) (args : Array Value) (below : List Frame) (meth : Method) (c : Code) (z0 : Nat) (H : Heap) (locs : List Loc) (cells slots : Nat) (lsa : Array Slot), sCx p s m args meth c D nw ao M → sPt s D base z0 h H locs cells slots → lsa.size = pml M → d ≤ R.frames → 41 * d ≤ R.locals → cells + 1 ≤ R.cells → slots + b ≤ R.slots →
    W p l e R s m args below meth c H locs cells slots (sMQ below s D nw ao base z0 (.inr h.2.1, pnw h (.inr (26, [])) b)) (F0 m pc lsa st)
end
