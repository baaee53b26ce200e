/-! SOUNDNESS 7: a handler whose class entry may not have been resolved yet -/
set_option maxRecDepth 100000
theorem sFinds_cold {e : Env} {s : State} {f : JFrame} {a : Addr} {meth : Method} {code : Code} {x : ExceptionTableEntry} (hm : s.vm.method? f.method = some meth) (hc : meth.code = some code) (hx : code.exceptionTable.toList = [x]) (hcov : covers x f.pc = true) (h0 : x.catchType ≠ 0)
    {cC : ClassId} {cell : Cell} {vm' : Vm} (hg : (Jvm.resolveClass f.method.cls x.catchType).Gives e.toSetting s.vm (.ok cC) vm') (hsz : vm'.classes.size ≤ s.vm.classes.size) (hcell : s.heap[a]? = some cell) (hobj : ∀ k, cell.vm ≠ .statics k) (hk : ∃ k, vm'.classes[cell.cls]? = some k) (hcl : ∃ k, vm'.classes[cC]? = some k) (hfit : vm'.assignable cell.cls cC = true)
    (Q : Handler → Pre) (E : CtlPost) (d : Bool) (acts : List Action) (hQ : ∀ d', Q (.found x.handlerPc) d' acts (s.setVm vm')) : wp (findHandler f a) Q E e d acts s := by
  rw [W.findHandler_eq hm hc, hx]
  simp only [covers] at hcov
  obtain ⟨ha, ht⟩ := hg.op (op := VmOp.resolveClass f.method.cls x.catchType) rfl
  simp [findHandler.go, hcov, h0, ha, ht, hsz, hcell, hobj, hk, hcl, hfit, hQ]
  exact hQ _
theorem sStep_cold {e : Env} {s : State} {f : JFrame} {a : Addr} {r : List Frame} {meth : Method} {code : Code} {x : ExceptionTableEntry} (hm : s.vm.method? f.method = some meth) (hc : meth.code = some code) (hx : code.exceptionTable.toList = [x]) (hcov : covers x f.pc = true) (h0 : x.catchType ≠ 0)
    {cC : ClassId} {cell : Cell} {vm' : Vm} (hg : (Jvm.resolveClass f.method.cls x.catchType).Gives e.toSetting s.vm (.ok cC) vm') (hsz : vm'.classes.size ≤ s.vm.classes.size) (hcell : s.heap[a]? = some cell) (hobj : ∀ k, cell.vm ≠ .statics k) (hk : ∃ k, vm'.classes[cell.cls]? = some k) (hcl : ∃ k, vm'.classes[cC]? = some k) (hfit : vm'.assignable cell.cls cC = true) :
    (stepThrowing e s a (.java f :: r)).1 = (s.setVm vm').setFrames (.java { f with pc := x.handlerPc, stack := [.ref a] } :: r) := by
  simp only [stepThrowing, searchFrame, vmDo]
  generalize hr : Sem.go _ e false [] s = res
  obtain ⟨as, rfl, ha⟩ := Sem.eq_ok_of hr (a := Handler.found x.handlerPc) (s' := s.setVm vm') (acts' := []) (by
    rw [wp_bind']
    exact sFinds_cold hm hc hx hcov h0 hg hsz hcell hobj hk hcl hfit _ _ _ _ (fun d' => by simp))
  rfl
section
variable {p : Program} {l : Launch} {e : Env} {R : Room} {s : State} {m : MethodId} {args : Array Value} {below : List Frame} {meth : Method} {c : Code} {T : State} {locs : List Loc} {cells slots : Nat}
/-- caught by the method's one handler, whose class entry may be open: the walk goes on at the handler -/
theorem sCatch (X : Stand p l e R s m args below meth c T locs cells slots) {own C : String} {x : ExceptionTableEntry} {g : JFrame} {a : Addr} {cell : Cell} (hown : s.vm.findClass own = some m.cls) (hclink : (Cond.classLink own x.catchType C).before args s = true) (hg : g.method = m) (hx : c.exceptionTable.toList = [x]) (hcov : covers x g.pc = true) (h0 : x.catchType ≠ 0)
    (hcell : T.heap[a]? = some cell) (hobj : ∀ k, cell.vm ≠ .statics k) (hcls : ClassAt s C cell.cls) :
    ∃ vm', Stand p l e R s m args below meth c (T.setVm vm') locs cells slots ∧ ∀ target, Steps p.tables e below ((T.setVm vm').setTop { g with pc := x.handlerPc, stack := [.ref a] }) target → Steps p.tables e below ((T.setTop g).pushFrame (.throwing a)) target := by
  subst hg
  have hpl : e.platform.magicAccessors = ({} : Platform).magicAccessors := by rw [X.admits.platform]
  obtain ⟨cc, hfcc, hcl⟩ := Cond.classLink_spec hown hclink e.platform hpl
  have hcc : cell.cls = cc := Option.some.inj (hcls.1.symm.trans hfcc)
  obtain ⟨hg₁, hwarm₁, hready₁⟩ := State.classEntry (e := e) X.warmed hcl
  have hsz : (T.vm.noted g.method.cls x.catchType (.cls cc)).classes.size ≤ T.vm.classes.size := by no_record
  generalize T.vm.noted g.method.cls x.catchType (.cls cc) = vm₁ at hg₁ hwarm₁ hready₁ hsz
  have X₁ := X.noted hwarm₁
  refine ⟨vm₁, X₁, fun target hrest => ?_⟩
  obtain ⟨hgo, hw⟩ := X.here.throwing (g := g) a
  refine Steps.head hgo hw ?_
  have hcls0 := hcls
  obtain ⟨-, k, hkk, hkind⟩ := hcls
  obtain ⟨k₁, hk₁, he₁⟩ := hwarm₁.alike.2.2 _ _ hkk
  have hvm : ((T.setTop g).pushFrame (.throwing a)).vm = T.vm := Stand.throwing_vm T g a
  rw [stepThread_throwing (frames_entered X.here.top _)]
  rw [sStep_cold (s := (T.setTop g).pushFrame (.throwing a)) (meth := meth) (code := c) (x := x) (cC := cc) (cell := cell) (vm' := vm₁) (by rw [hvm]; exact X.method') X.code hx hcov h0 (by rw [hvm]; exact hg₁) (by rw [hvm]; exact hsz) (by rw [Stand.throwing_heap]; exact hcell) hobj ⟨k₁, hk₁⟩ (by rw [← hcc]; exact ⟨k₁, hk₁⟩) (by
    rw [← hcc]
    exact va_assign (s := T.setVm vm₁) (classAt_moved (E := T.setVm vm₁) hwarm₁.alike hcls0))]
  obtain ⟨g₀, hg0⟩ := Option.isSome_iff_exists.mp X.here.top
  obtain ⟨r, hr⟩ := State.topJava?_eq_some.mp hg0
  have hr' : (T.setVm vm₁).frames = .java g₀ :: r := hr
  rw [State.setTop_of_frames _ hr'] at hrest
  rw [State.pushFrame, State.setTop_of_frames _ hr, State.setFrames_setFrames]
  rw [hr]
  rw [show ∀ A B, ((T.setFrames A).setVm vm₁).setFrames B = (T.setVm vm₁).setFrames B from fun A B => by
    rw [show (T.setFrames A).setVm vm₁ = (T.setVm vm₁).setFrames A from rfl, State.setFrames_setFrames]]
  exact hrest
end
