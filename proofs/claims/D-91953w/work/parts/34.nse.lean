/-! SOUNDNESS 19: the throw of a NoSuchElementException -/
set_option maxRecDepth 100000
section
variable {p : Program} {l : Launch} {e : Env} {R : Room} {s : State} {m : MethodId} {args : Array Value} {below : List Frame} {meth : Method} {c : Code} {H : Heap} {locs : List Loc} {cells slots : Nat} {Q : State → Prop}
variable {D : sD} {base z0 : Nat} {h : pH} {pc : Nat} {ls : Array Slot} {rest : List Value}
theorem sSq.word {n d : String} {A : Array Value} (hZ : sSq base n d s H) : (Cond.laysStatic "java/lang/Throwable" n d).before A { s with heap := H } = true := by
  obtain ⟨c, k, i, f, a, cell, h0, h1, h2, h3, h4, h5, h6, h7, h8, h9, h10, h11⟩ := hZ
  exact Cond.laysStatic_of (s := { s with heap := H }) h0 h1 h2 h4 h5 h6 h7 h8 h9
theorem tAtoms : ∀ a ∈ Bundle.throwableAtoms, a ∈ lw_all ∨ a = .laysStatic "java/lang/Throwable" "UNASSIGNED_STACK" "[Ljava/lang/StackTraceElement;" ∨ a = .laysStatic "java/lang/Throwable" "SUPPRESSED_SENTINEL" "Ljava/util/List;" := by
  intro a ha
  simp only [Bundle.throwableAtoms, List.mem_cons, List.not_mem_nil, or_false] at ha
  rcases ha with rfl | rfl | rfl | rfl | rfl | rfl | rfl | rfl | rfl | rfl | rfl | rfl | rfl | rfl | rfl | rfl | rfl | rfl | rfl | rfl | rfl | rfl | rfl | rfl
  · exact Or.inl q109
  · exact Or.inl q376
  · exact Or.inl q385
  · exact Or.inl q388
  · exact Or.inl q391
  · exact Or.inl q393
  · exact Or.inl q377
  · exact Or.inl q378
  · exact Or.inl q141
  · exact Or.inl q142
  · exact Or.inl q379
  · exact Or.inl q384
  · exact Or.inl q389
  · exact Or.inl q410
  · exact Or.inl q366
  · exact Or.inl q411
  · exact Or.inl q368
  · exact Or.inl q412
  · exact Or.inl q370
  · exact Or.inl q380
  · exact Or.inr (Or.inl rfl)
  · exact Or.inl q382
  · exact Or.inr (Or.inr rfl)
  · exact Or.inl q372
theorem lw_tabs {w : Cond} (hw : w ∈ lw_all) (hn : ∀ ty, w ≠ .arrayClass ty) : w.onTables = true := by
  have h := (List.mem_filter.mp hw).2
  rcases good_of_word h with h | ⟨ty, h⟩
  · rw [Bool.and_eq_true] at h; exact h.1
  · exact absurd h (hn ty)
theorem tLinks {T : ThrowableC} {pl : Platform} (L : T.Links pl { s with heap := H }) : T.Links pl s :=
  { owns := L.owns, noFinalization := L.noFinalization, cls := L.cls, name := L.name, boot := L.boot, notInterface := L.notInterface, initialized := L.initialized, statics := L.statics, fillAt := L.fillAt, fillCode := L.fillCode, fillBytes := L.fillBytes, fillLocals := L.fillLocals, fillLocks := L.fillLocks, fillStatic := L.fillStatic, fillAbstract := L.fillAbstract, fillReturns := L.fillReturns, fillParams := L.fillParams, fill0At := L.fill0At, fill0Name := L.fill0Name, fill0Desc := L.fill0Desc, fill0Params := L.fill0Params, fill0Static := L.fill0Static, fill0Native := L.fill0Native, fill0Code := L.fill0Code, fill0Locks := L.fill0Locks, fill0Abstract := L.fill0Abstract, stackInstance := L.stackInstance, stackNotFinal := L.stackNotFinal, unassignedStatic := L.unassignedStatic, objClass := L.objClass, objClassName := L.objClassName, objMethod := L.objMethod, objName := L.objName, objStatic := L.objStatic, objAbstract := L.objAbstract, objFound := L.objFound, objParams := L.objParams, objCode := L.objCode, objBytes := L.objBytes, objLocks := L.objLocks, causeInstance := L.causeInstance, causeNotFinal := L.causeNotFinal, sentinelStatic := L.sentinelStatic, suppInstance := L.suppInstance, suppNotFinal := L.suppNotFinal, msgInstance := L.msgInstance, msgNotFinal := L.msgNotFinal, stackApartSupp := L.stackApartSupp, file := L.file, mlink1 := L.mlink1, mright1 := L.mright1, pool1 := L.pool1, mlink27 := L.mlink27, mright27 := L.mright27, pool27 := L.pool27, mlink202 := L.mlink202, mright202 := L.mright202, pool202 := L.pool202, link7 := L.link7, right7 := L.right7, at7 := L.at7, link13 := L.link13, right13 := L.right13, at13 := L.at13, link17 := L.link17, right17 := L.right17, at17 := L.at17, link20 := L.link20, right20 := L.right20, at20 := L.at20, link24 := L.link24, right24 := L.right24, at24 := L.at24 }
theorem sNse (hx : p.tables.exec = Jvm.exec) (htr : l.stackTraces = false) {T' : State} (X : Stand p l e R s m args below meth c T' locs cells slots) {own : String} {ic a : Nat} (hown : s.vm.findClass own = some m.cls) (hts : ∀ w ∈ lw_all, w.before args s = true) (hK : sKn D jnw jao s) (hlink : Cond.methodLink own ic yJ4_init ∈ lw_all)
    {cX : ClassId} {kX : Class} (hfoundX : s.vm.findClass "java/util/NoSuchElementException" = some cX) (hkX : s.vm.classes[cX]? = some kX) (hcell : T'.heap[a]? = some (freshCell cX kX)) (hba : base ≤ a) (hS : sSt base s T'.heap)
    {g : JFrame} (hg : g.method = m) (hsize : g.locals.size = c.maxLocals) (hlocked : g.locked = none) (hentered : g.entered = []) {rest : List Value} (hstack : g.stack = .ref a :: .ref a :: rest)
    (hd6 : decode c.code g.pc = .ok (.invokespecial ic, 3)) (hd9 : decode c.code (g.pc + 3) = .ok (.athrow, 1)) (hout : ∀ x ∈ c.exceptionTable.toList, covers x (g.pc + 3) = false)
    (hRframes : 5 < R.frames) (hRlocals : 2 * g.monitorRoom + ((Value.ref a :: rest).map fun v => v.category).sum + 80 ≤ R.locals) (hlocks : meth.locks = false) :
    ∃ U : State, Steps p.tables e below (T'.setTop g) U ∧ U.status = .running ∧ Ended U below (.threw a) ∧ s.WarmedH U.vm ∧ (∃ L, s.sameButNew ({ U with vm := s.vm } : State) L cells slots ∧ ∀ q ∈ L, q ∈ locs ∨ q.base = a) ∧ U.heap.size = T'.heap.size ∧ (∀ q, q ≠ a → U.heap[q]? = T'.heap[q]?) ∧
      ∃ ce, U.heap[a]? = some ce ∧ ce.cls = cX ∧ ce.vm = .none := by
  have htr' : e.platform.stackTraces = false := by rw [X.admits.platform]; exact htr
  have howns : e.platform.frameOwnsMonitors = true := by rw [X.admits.platform]
  have hfin : e.platform.finalization = false := by rw [X.admits.platform]
  have hpl : e.platform.magicAccessors = ({} : Platform).magicAccessors := by rw [X.admits.platform]
  have hat : ∀ x ∈ Bundle.throwableAtoms, x.before args { s with heap := T'.heap } = true := by
    intro x hx
    rcases tAtoms x hx with h1 | rfl | rfl
    · exact va_tabs (lw_tabs h1 (fun ty he => by subst he; simp [Bundle.throwableAtoms] at hx)) (u := s) rfl (hts x h1)
    · exact hS.1.word
    · exact hS.2.word
  obtain ⟨T, Z, L', LZ, Y⟩ := ThrowableC.of_atoms (args := args) howns hfin hpl hat
  have L := tLinks L'
  have hinit0 : s.methodNamed? (Bundle.init0 Bundle.tN) = some (Z.m T.toThrowableT) := Y.init0
  obtain ⟨P1, Ps, hlen, L1, hL, hP1m, hlink1, hlink2⟩ := Bundle.chain0 (args := args) hpl hinit0 ["java/lang/RuntimeException", "java/lang/Exception"] "java/util/NoSuchElementException" (by decide) (by decide) (by
    intro x hx
    simp only [Bundle.chain0Atoms, Bundle.passAtoms, List.mem_append, List.mem_cons, List.not_mem_nil, or_false] at hx
    rcases hx with (rfl | rfl | rfl | rfl | rfl) | (rfl | rfl | rfl | rfl | rfl) | (rfl | rfl | rfl | rfl | rfl)
    · exact hts _ q1280
    · exact hts _ q1281
    · exact hts _ q1282
    · exact hts _ q1283
    · exact va_Nw.use rfl (hK.2.2.1 _ jw_q357)
    · exact hts _ q1283
    · exact hts _ q1284
    · exact hts _ q1285
    · exact hts _ q1286
    · exact va_Nw.use rfl (hK.2.2.1 _ jw_q359)
    · exact hts _ q1286
    · exact hts _ q1287
    · exact hts _ q1288
    · exact hts _ q377
    · exact va_Nw.use rfl (hK.2.2.1 _ jw_q361))
  have hfound : s.vm.findClass "java/util/NoSuchElementException" = some P1.m.cls := findClass_of_methodNamed hP1m
  cases Option.some.inj (hfoundX.symm.trans hfound)
  obtain ⟨c1, kX', hc1, hk, hord, -, -, hn6⟩ := Cond.instantiable_spec (hts _ q1271)
  cases Option.some.inj (hc1.symm.trans hfound)
  cases Option.some.inj (hkX.symm.trans hk)
  have hsel0 : selectMethod e.platform s.vm P1.m.cls T.fill0 = .method T.fill0 := by
    obtain ⟨c2, r2, m2, q1, q2, q3, q4, -⟩ := Cond.selects_spec (hts _ q1273)
    cases Option.some.inj (q1.symm.trans hfound)
    cases Option.some.inj (q2.symm.trans (State.methodFound?_of_named (s := s) Y.fill0 (by decide)))
    cases Option.some.inj (q3.symm.trans (show s.methodNamed? Bundle.tFill0 = _ from Y.fill0))
    rw [Launch.admits_selectMethod X.admits]; exact q4
  have hselF : selectMethod e.platform s.vm P1.m.cls T.fill = .method T.fill := by
    obtain ⟨c2, r2, m2, q1, q2, q3, q4, -⟩ := Cond.selects_spec (hts _ q387)
    cases Option.some.inj (q1.symm.trans hfound)
    cases Option.some.inj (q2.symm.trans (State.methodFound?_of_named (s := s) Y.fill (by decide)))
    cases Option.some.inj (q3.symm.trans (show s.methodNamed? Bundle.tFill = _ from Y.fill))
    rw [Launch.admits_selectMethod X.admits]; exact q4
  obtain ⟨cu, ku, iu, fu, au, cellS, -, u1, -, -, u4, u5, u6, -, -, -, u10, u11⟩ := hS.1
  obtain ⟨cv, kv, iv, fv, av, cellV, -, v1, -, -, v4, v5, v6, -, -, -, v10, v11⟩ := hS.2
  have eu := Option.some.inj (u1.symm.trans (show s.fieldFound? _ _ _ = _ from Y.unassigned))
  have ev := Option.some.inj (v1.symm.trans (show s.fieldFound? _ _ _ = _ from Y.sentinel))
  simp only [Prod.mk.injEq] at eu ev
  obtain ⟨-, rfl, -, rfl⟩ := eu
  obtain ⟨-, rfl, -, rfl⟩ := ev
  cases Option.some.inj (u4.symm.trans L.statics)
  cases Option.some.inj (v4.symm.trans L.statics)
  cases Option.some.inj (u5.symm.trans v5)
  obtain ⟨u0, hu0⟩ : ∃ u0 : RefV, cellS.slots[T.fUnassigned.slot]? = some u0.v := by
    rcases u10 with q | ⟨t, q⟩
    · exact ⟨⟨.null, rfl⟩, q⟩
    · exact ⟨⟨.ref t, rfl⟩, q⟩
  obtain ⟨sen, hsen⟩ : ∃ u0 : RefV, cellS.slots[T.fSentinel.slot]? = some u0.v := by
    rcases v10 with q | ⟨t, q⟩
    · exact ⟨⟨.null, rfl⟩, q⟩
    · exact ⟨⟨.ref t, rfl⟩, q⟩
  obtain ⟨ci198, i198, fB, hk198, hg198, ha198, hsB, -, hnB, htB, hffB⟩ := Cond.ownField (s := s) (t := .object "java/lang/Object") Y.found L.cls (by decide +kernel) (hts _ q375) (hts _ q374) e.platform hpl
  have hknownS : cellS.vm ≠ .unknown := fun hu => by rw [hu] at u6; cases u6
  have hneS : T.aS ≠ a := fun he => u11 (he ▸ hba)
  have Yc : s.fieldFound? _ _ _ = _ := Y.cause
  have Ys : s.fieldFound? _ _ _ = _ := Y.stack
  have Yp : s.fieldFound? _ _ _ = _ := Y.supp
  obtain ⟨tyC, dC, hdC, hdnC⟩ := Cond.laysAt hfound hk Yc (hts _ q1274)
  obtain ⟨tyS, dS, hdS, hdnS⟩ := Cond.laysAt hfound hk Ys (hts _ q1275)
  obtain ⟨tyP, dP, hdP, hdnP⟩ := Cond.laysAt hfound hk Yp (hts _ q1276)
  obtain ⟨tyB, dB, hdB, hdnB⟩ := Cond.laysAt hfound hk hffB (hts _ q1278)
  have bC := Cond.laysApart hdB hdC hdnB hdnC (by rw [hnB, Y.causeName]; decide)
  have bS := Cond.laysApart hdB hdS hdnB hdnS (by rw [hnB, Y.stackName]; decide)
  have bP := Cond.laysApart hdB hdP hdnB hdnP (by rw [hnB, Y.suppName]; decide)
  have hskip : SkipFacts T e.platform s (fun u => u) u0 ((preparedCellV T.toThrowableT (freshCell P1.m.cls kX) a u0 sen).withEntry T'.cur) :=
    ⟨{ ci198 := ci198, i198 := i198, fBack := fB }, ⟨hk198, hg198, ha198, hsB⟩, by
      have := fresh_default (c := P1.m.cls) tyB
      rw [htB] at this
      simpa [preparedCellV, Cell.setSlot, Cell.withEntry, Array.getElem?_setIfInBounds, bC, bS, bP, bC.symm, bS.symm, bP.symm, defaultValue] using this, fun _ _ => rfl⟩
  obtain ⟨tm, methC, cdC, kC, vm₁, hnC, -, -, -, -, -, -, -, hW₁, st1⟩ := Steps.initCold (tb := p.tables) (e := e) (below := below) (s := s) (U := T') X.here hx X.warmed hpl hown (t := yJ4_init) rfl rfl (by decide)
    (hts _ hlink) (hts _ q1280) (bytes := Bundle.five) (maxL := 1) (hts _ q1281)
    (f := g) hg (a := a) (rest := .ref a :: rest) hstack hd6
  cases Option.some.inj (hnC.symm.trans hP1m)
  have X₁ := X.noted hW₁
  obtain ⟨vm₂, X₂, st2⟩ := X₁.ctorPlainOffV hx (g := { g with stack := .ref a :: rest }) hg hsize T L Z LZ (P1 :: Ps)
    (fun P hP => by rcases List.mem_cons.mp hP with rfl | hP; exact L1; exact hL P hP) ⟨hlink1, hlink2⟩ (u0 := u0) (sen := sen) (self := a) (cell := freshCell P1.m.cls kX) (cellS := cellS)
    hcell (fun _ => by simp) (by simp) rfl rfl hsel0 hselF u5 hneS hknownS hu0 hsen
    (Takes.of_laid hk hord tyC (by rw [Y.causeType]; rfl)) (Takes.of_laid hk hord tyS (by rw [Y.stackType]; exact fits_refV_array _ u0)) (Takes.of_laid hk hord tyP (by rw [Y.suppType]; exact fits_refV_object _ sen)) Y.objLocals hskip htr' [] hd6
    (by simp only [List.length_cons, hlen]; simp; omega) (by simp only [List.length_cons, hlen]; simp at hRlocals ⊢; omega)
  obtain ⟨hwalk, hrun, hended, hWU, hsame⟩ := X₂.athrowLeaves hx (g := { g with stack := .ref a :: rest, pc := g.pc + 3 }) hg hlocked hentered hout (a := a) (rest := rest) rfl hd9 hlocks
  have hlt : a < ((T'.setVm vm₁).setVm vm₂).heap.size := (Array.getElem?_eq_some_iff.mp hcell).1
  have hU := heapAt_setCell_self (s := (T'.setVm vm₁).setVm vm₂) ((preparedCellV T.toThrowableT (freshCell P1.m.cls kX) a u0 sen).setSlot T.fStack.slot u0.v) hlt
  refine ⟨_, st1 _ (fun acts => ?_), hrun, hended, hWU, ⟨_, hsame, fun q hq => ?_⟩, ?_, ?_, _, hU, rfl, rfl⟩
  · rw [doInvoke_state]
    exact st2 _ hwalk
  · rcases List.mem_append.mp hq with h1 | h1
    · exact Or.inl h1
    · refine Or.inr ?_
      simp only [List.mem_cons, List.not_mem_nil, or_false] at h1
      rcases h1 with rfl | rfl | rfl | rfl <;> rfl
  · show (((T'.setVm vm₁).setVm vm₂).setCell a _).heap.size = _
    simp [State.setCell]
  · intro q hq
    show (((T'.setVm vm₁).setVm vm₂).setCell a _).heap[q]? = _
    simp [State.setCell, Array.getElem?_setIfInBounds, Ne.symm hq]
end
