/-! SOUNDNESS 16: the run -/
set_option maxRecDepth 100000
section
variable {l : Launch} {D : sD} {base : Nat} {nw : List Cond} {ao : List String}
theorem sRun (hnw : ∀ w ∈ nw, sNk w) (hJ : ∀ M pc r n, pins M pc = some (r, n) → sJ nw ao M pc r n) (hRt : sRtOk) (hHd : sHdOk) (hIx : sIx l D base nw ao) (hIt : sIt l D base nw ao) : ∀ k, sRn l D base nw ao k := by
  intro k
  induction k with
  | zero => intro d M pc ls st h o hp; cases hp
  | succ k ih =>
    intro d M pc ls st h o hp p e R s m args below meth c z0 H locs cells slots lsa hC hP hL f1 f2 f3 f4
    rw [prun_cont] at hp
    unfold pact at hp
    dsimp only at hp
    split at hp
    · rename_i i n hi
      obtain ⟨j1, j2⟩ := hJ _ _ _ _ hi
      exact sRun_L hnw hRt hHd ih hp j1 j2 hC hP hL f1 f2 f3 f4
    · rename_i t a b lst n hi
      exact sRun_X hnw hHd hIx hIt ih hp (hJ _ _ _ _ hi) hC hP hL f1 f2 f3 f4
    · cases hp
/-- a call whose outcome the pure machine gives is so on the machine -/
theorem sSound (hnw : ∀ w ∈ nw, sNk w) (hJ : ∀ M pc r n, pins M pc = some (r, n) → sJ nw ao M pc r n) (hRt : sRtOk) (hHd : sHdOk) (hIx : sIx l D base nw ao) (hIt : sIt l D base nw ao) {M d pc : Nat} {ls st : List Value} {h : pH} {o : pO} (hR : pR M d pc ls st h = some o)
    {p : Program} {e : Env} {R : Room} {s : State} {m : MethodId} {args : Array Value} {below : List Frame} {meth : Method} {c : Code} {z0 : Nat} {H : Heap} {locs : List Loc} {cells slots : Nat} {lsa : Array Slot} (hC : sCx p s m args meth c D nw ao M) (hP : sPt s D base z0 h H locs cells slots) (hL : sLs ls lsa (pml M)) (f1 : d ≤ R.frames) (f2 : 41 * d ≤ R.locals) (f3 : o.2.2.1 ≤ s.heap.size + R.cells) (f4 : o.2.2.2 ≤ z0 + R.slots) :
    W p l e R s m args below meth c H locs cells slots (sMQ below s D nw ao base z0 o) (F0 m pc lsa st) := by
  obtain ⟨k, hk⟩ := pRf_iff.mp hR
  exact sRun hnw hJ hRt hHd hIx hIt k d M pc ls st h o hk p e R s m args below meth c z0 H locs cells slots lsa hC hP hL f1 f2 f3 f4
end
