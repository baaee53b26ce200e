/-! SOUNDNESS 6: how a call begins, by its kind -/
set_option maxRecDepth 100000
/-- the invoking instruction has been done up to the entry of the callee -/
def sBg (p : Program) (l : Launch) (e : Env) (R : Room) (s : State) (m : MethodId) (args : Array Value) (below : List Frame) (meth : Method) (c : Code) (T : State) (locs : List Loc) (cells slots : Nat) (g : JFrame) (rest : List Value) (y : MethodName) (a : Array Value) : Prop :=
  ∃ vm₁ mk, Stand p l e R s m args below meth c (T.setVm vm₁) locs cells slots ∧ (T.setVm vm₁).methodNamed? y = some mk ∧ ∀ target, Steps p.tables e below (doInvoke e ((T.setVm vm₁).setTop { g with stack := rest }) [] mk a).1 target → Steps p.tables e below (T.setTop g) target
section
variable {p : Program} {l : Launch} {e : Env} {R : Room} {s : State} {m : MethodId} {args : Array Value} {below : List Frame} {meth : Method} {c : Code} {T : State} {locs : List Loc} {cells slots : Nat}
variable {own : String} {idx M' : Nat} {g : JFrame} {as rest : List Value}
theorem sBg_V (X : Stand p l e R s m args below meth c T locs cells slots) (hx : p.tables.exec = Jvm.exec) {C : String} (hown : s.vm.findClass own = some m.cls) (hts : ∀ w ∈ lw_all, w.before args s = true)
    (hlink : Cond.methodLink own idx (sY M') ∈ lw_all) (hinst : Cond.instanceMethod (sY M') ∈ lw_all) (hsel : Cond.selects C (sY M') (sY M') ∈ lw_all) (hword : sWord M' ∈ lw_all) (hy : (sY M').cls ≠ "java/lang/invoke/MethodHandle" ∧ (sY M').cls ≠ "java/lang/invoke/VarHandle") (hlen : (parseMethodDescriptor (sY M').desc).map (fun d => d.parameters.length) = some as.length)
    {b : Addr} {cellB : Cell} (hcell : T.heap[b]? = some cellB) (hobj : cellB.vm.isStatics = false) (hcls : s.vm.findClass C = some cellB.cls) (hg : g.method = m) (hstack : g.stack = as.reverse ++ .ref b :: rest) (hdg : decode c.code g.pc = .ok (.invokevirtual idx, 3)) :
    sBg p l e R s m args below meth c T locs cells slots g rest (sY M') (Value.ref b :: as).toArray := by
  obtain ⟨mk, methM, hnamed, hmethM, hstM, habM⟩ := Cond.instanceMethod_spec (hts _ hinst)
  obtain ⟨methM', cM, hmethM', -, -, -, -, -, -, hsigM⟩ := sWord_spec hnamed (hts _ hword)
  cases hmethM.symm.trans hmethM'
  obtain ⟨c2, r2, m2, q1, q2, q3, q4, kP, hkP, hkPi⟩ := Cond.selects_spec (hts _ hsel)
  cases hcls.symm.trans q1
  cases (State.methodFound?_of_named hnamed hy).symm.trans q2
  cases hnamed.symm.trans q3
  rw [hsigM] at hlen
  have hselP : selectMethod e.platform s.vm cellB.cls mk = .method mk := by rw [Launch.admits_selectMethod X.admits]; exact q4
  obtain ⟨vm₁, X₁, hstep₁⟩ := X.invokevirtual hx hown (hts _ hlink) hnamed hmethM hstM hkP hkPi hy (a := b) (cell := cellB) hcell
    (fun z h => by rw [h] at hobj; cases hobj) hselP hmethM habM hkP hkPi (g := g) hg (argsL := as) (rest := rest) (Option.some.inj hlen).symm hstack hdg
  exact ⟨vm₁, mk, X₁, X₁.named hnamed, fun target h => hstep₁ _ fun acts => by rw [doInvoke_state]; exact h⟩
theorem sBg_VN (X : Stand p l e R s m args below meth c T locs cells slots) (hx : p.tables.exec = Jvm.exec) {C host : String} (hown : s.vm.findClass own = some m.cls) (hts : ∀ w ∈ lw_all, w.before args s = true)
    (hlink : va_Nw (.methodLinkNest own idx (sY M') host) s) (hinst : Cond.instanceMethod (sY M') ∈ lw_all) (hsel : Cond.selects C (sY M') (sY M') ∈ lw_all) (hword : sWord M' ∈ lw_all) (hy : (sY M').cls ≠ "java/lang/invoke/MethodHandle" ∧ (sY M').cls ≠ "java/lang/invoke/VarHandle") (hlen : (parseMethodDescriptor (sY M').desc).map (fun d => d.parameters.length) = some as.length)
    {b : Addr} {cellB : Cell} (hcell : T.heap[b]? = some cellB) (hobj : cellB.vm.isStatics = false) (hcls : s.vm.findClass C = some cellB.cls) (hg : g.method = m) (hstack : g.stack = as.reverse ++ .ref b :: rest) (hdg : decode c.code g.pc = .ok (.invokevirtual idx, 3)) :
    sBg p l e R s m args below meth c T locs cells slots g rest (sY M') (Value.ref b :: as).toArray := by
  obtain ⟨mk, methM, hnamed, hmethM, hstM, habM⟩ := Cond.instanceMethod_spec (hts _ hinst)
  obtain ⟨methM', cM, hmethM', -, -, -, -, -, -, hsigM⟩ := sWord_spec hnamed (hts _ hword)
  cases hmethM.symm.trans hmethM'
  obtain ⟨c2, r2, m2, q1, q2, q3, q4, kP, hkP, hkPi⟩ := Cond.selects_spec (hts _ hsel)
  cases hcls.symm.trans q1
  cases (State.methodFound?_of_named hnamed hy).symm.trans q2
  cases hnamed.symm.trans q3
  rw [hsigM] at hlen
  have hselP : selectMethod e.platform s.vm cellB.cls mk = .method mk := by rw [Launch.admits_selectMethod X.admits]; exact q4
  obtain ⟨vm₁, X₁, hstep₁⟩ := X.invokevirtualNest hx hown (va_Nw.use rfl hlink) hnamed hmethM hstM hkP hkPi hy (a := b) (cell := cellB) hcell
    (fun z h => by rw [h] at hobj; cases hobj) hselP hmethM habM hkP hkPi (g := g) hg (argsL := as) (rest := rest) (Option.some.inj hlen).symm hstack hdg
  exact ⟨vm₁, mk, X₁, X₁.named hnamed, fun target h => hstep₁ _ fun acts => by rw [doInvoke_state]; exact h⟩
/-- an inherited or an abstract method is named -/
theorem sBg_U (X : Stand p l e R s m args below meth c T locs cells slots) (hx : p.tables.exec = Jvm.exec) {C owner : String} {x : MethodName} (hown : s.vm.findClass own = some m.cls) (hts : ∀ w ∈ lw_all, w.before args s = true)
    (hlink : Cond.methodLink own idx x ∈ lw_all) (hsame : Cond.sameMethod x.cls owner x.name x.desc ∈ lw_all) (hdec : va_Nw (.declares ⟨owner, x.name, x.desc⟩) s) (howner : owner ≠ "java/lang/invoke/MethodHandle" ∧ owner ≠ "java/lang/invoke/VarHandle") (hinst : Cond.instanceMethod (sY M') ∈ lw_all) (hsel : Cond.selects C x (sY M') ∈ lw_all) (hlen : (parseMethodDescriptor x.desc).map (fun d => d.parameters.length) = some as.length)
    {b : Addr} {cellB : Cell} (hcell : T.heap[b]? = some cellB) (hobj : cellB.vm.isStatics = false) (hcls : s.vm.findClass C = some cellB.cls) (hg : g.method = m) (hstack : g.stack = as.reverse ++ .ref b :: rest) (hdg : decode c.code g.pc = .ok (.invokevirtual idx, 3)) :
    sBg p l e R s m args below meth c T locs cells slots g rest (sY M') (Value.ref b :: as).toArray := by
  obtain ⟨r0, r, hn, hrm, hstR, hsigR⟩ := va_Decl.abs hdec
  obtain ⟨cn, ck, r1, hcn, hck, hni, hf, hn1⟩ := Cond.sameMethod_found (hts _ hsame)
  cases hn.symm.trans hn1
  obtain ⟨mk, methM, hnamed, hmethM, -, habM⟩ := Cond.instanceMethod_spec (hts _ hinst)
  obtain ⟨c2, r2, m2, q1, q2, q3, q4, kP, hkP, hkPi⟩ := Cond.selects_spec (hts _ hsel)
  cases hcls.symm.trans q1
  cases hf.symm.trans q2
  cases hnamed.symm.trans q3
  have hlen' : as.length = r.sig.parameters.length := by
    have h1 : parseMethodDescriptor x.desc = some r.sig := hsigR
    rw [h1] at hlen
    exact (Option.some.inj hlen).symm
  have hselP : selectMethod e.platform s.vm cellB.cls r0 = .method mk := by rw [Launch.admits_selectMethod X.admits]; exact q4
  obtain ⟨vm₁, X₁, hstep₁⟩ := X.invokevirtualUp hx hown (hts _ hlink) (hts _ hsame) howner hn hrm hstR (a := b) (cell := cellB) hcell
    (fun z h => by rw [h] at hobj; cases hobj) hselP hmethM habM hkP hkPi (g := g) hg (argsL := as) (rest := rest) hlen' hstack hdg
  exact ⟨vm₁, mk, X₁, X₁.named hnamed, fun target h => hstep₁ _ fun acts => by rw [doInvoke_state]; exact h⟩
theorem sBg_S (X : Stand p l e R s m args below meth c T locs cells slots) (hx : p.tables.exec = Jvm.exec) {mk : MethodId} (hown : s.vm.findClass own = some m.cls) (hts : ∀ w ∈ lw_all, w.before args s = true)
    (hlink : Cond.methodLink own idx (sY M') ∈ lw_all) (hstat : Cond.static (sY M') ∈ lw_all) (hini : Cond.initialized (sY M').cls ∈ lw_all) (hnamed : s.methodNamed? (sY M') = some mk) (hword : sWord M' ∈ lw_all) (hy : (sY M').cls ≠ "java/lang/invoke/MethodHandle" ∧ (sY M').cls ≠ "java/lang/invoke/VarHandle") (hlen : (parseMethodDescriptor (sY M').desc).map (fun d => d.parameters.length) = some as.length)
    (hg : g.method = m) (hstack : g.stack = as.reverse ++ rest) (hdg : decode c.code g.pc = .ok (.invokestatic idx, 3)) :
    sBg p l e R s m args below meth c T locs cells slots g rest (sY M') as.toArray := by
  obtain ⟨methM, cM, hmethM, -, -, -, -, -, -, hsigM⟩ := sWord_spec hnamed (hts _ hword)
  have hstatic : methM.isStatic = true := Cond.static_spec hnamed hmethM (hts _ hstat)
  obtain ⟨kP, hkP, -⟩ := className_of_methodNamed hnamed
  have hinitP : kP.init = .initialized := Cond.initialized_spec (findClass_of_methodNamed hnamed) hkP (hts _ hini)
  rw [hsigM] at hlen
  obtain ⟨vm₁, X₁, hstep₁⟩ := X.invokestatic hx hown (hts _ hlink) hnamed hmethM hstatic hkP hinitP hy (g := g) hg (argsL := as) (rest := rest) (Option.some.inj hlen).symm hstack hdg
  exact ⟨vm₁, mk, X₁, X₁.named hnamed, fun target h => hstep₁ _ fun acts => by rw [doInvoke_state]; exact h⟩
theorem sBg_SN (X : Stand p l e R s m args below meth c T locs cells slots) (hx : p.tables.exec = Jvm.exec) {mk : MethodId} {host : String} (hown : s.vm.findClass own = some m.cls) (hts : ∀ w ∈ lw_all, w.before args s = true)
    (hlink : va_Nw (.methodLinkNest own idx (sY M') host) s) (hstat : Cond.static (sY M') ∈ lw_all) (hini : Cond.initialized (sY M').cls ∈ lw_all) (hnamed : s.methodNamed? (sY M') = some mk) (hword : sWord M' ∈ lw_all) (hy : (sY M').cls ≠ "java/lang/invoke/MethodHandle" ∧ (sY M').cls ≠ "java/lang/invoke/VarHandle") (hlen : (parseMethodDescriptor (sY M').desc).map (fun d => d.parameters.length) = some as.length)
    (hg : g.method = m) (hstack : g.stack = as.reverse ++ rest) (hdg : decode c.code g.pc = .ok (.invokestatic idx, 3)) :
    sBg p l e R s m args below meth c T locs cells slots g rest (sY M') as.toArray := by
  obtain ⟨methM, cM, hmethM, -, -, -, -, -, -, hsigM⟩ := sWord_spec hnamed (hts _ hword)
  have hstatic : methM.isStatic = true := Cond.static_spec hnamed hmethM (hts _ hstat)
  obtain ⟨kP, hkP, -⟩ := className_of_methodNamed hnamed
  have hinitP : kP.init = .initialized := Cond.initialized_spec (findClass_of_methodNamed hnamed) hkP (hts _ hini)
  rw [hsigM] at hlen
  obtain ⟨vm₁, X₁, hstep₁⟩ := X.invokestaticNest hx hown (va_Nw.use rfl hlink) hnamed hmethM hstatic hkP hinitP hy (g := g) hg (argsL := as) (rest := rest) (Option.some.inj hlen).symm hstack hdg
  exact ⟨vm₁, mk, X₁, X₁.named hnamed, fun target h => hstep₁ _ fun acts => by rw [doInvoke_state]; exact h⟩
theorem sBg_I (X : Stand p l e R s m args below meth c T locs cells slots) (hx : p.tables.exec = Jvm.exec) {b : ByteArray} {L : Nat} (hown : s.vm.findClass own = some m.cls) (hts : ∀ w ∈ lw_all, w.before args s = true) (hy1 : (sY M').name = "<init>")
    (hlink : Cond.methodLink own idx (sY M') ∈ lw_all) (hinst : Cond.instanceMethod (sY M') ∈ lw_all) (hcode : Cond.code (sY M') b L none ∈ lw_all) (hy : (sY M').cls ≠ "java/lang/invoke/MethodHandle" ∧ (sY M').cls ≠ "java/lang/invoke/VarHandle") (hlen : (parseMethodDescriptor (sY M').desc).map (fun d => d.parameters.length) = some as.length)
    {a : Addr} (hg : g.method = m) (hstack : g.stack = as.reverse ++ .ref a :: rest) (hdg : decode c.code g.pc = .ok (.invokespecial idx, 3)) :
    sBg p l e R s m args below meth c T locs cells slots g rest (sY M') (Value.ref a :: as).toArray := by
  subst hg
  have hpl : e.platform.magicAccessors = ({} : Platform).magicAccessors := by rw [X.admits.platform]
  obtain ⟨mk, methM, cM, kP, vm₁, hnamed, hmethM, hcodeM, -, hlocalsM, -, hkP, -, hW₁, hstep₁⟩ := Steps.initColdArgs (e := e) X.here hx X.warmed hpl hown hy1 hy (hts _ hlink) (hts _ hinst) (hts _ hcode) (f := g) rfl (fun sig h => by rw [h] at hlen; exact (Option.some.inj hlen).symm) hstack hdg
  have X₁ := X.noted hW₁
  exact ⟨vm₁, mk, X₁, X₁.named hnamed, fun target h => hstep₁ _ fun acts => by rw [doInvoke_state]; exact h⟩
theorem sBg_IN (X : Stand p l e R s m args below meth c T locs cells slots) (hx : p.tables.exec = Jvm.exec) {b : ByteArray} {L : Nat} {host : String} (hown : s.vm.findClass own = some m.cls) (hts : ∀ w ∈ lw_all, w.before args s = true) (hy1 : (sY M').name = "<init>")
    (hlink : va_Nw (.methodLinkNest own idx (sY M') host) s) (hinst : Cond.instanceMethod (sY M') ∈ lw_all) (hcode : Cond.code (sY M') b L none ∈ lw_all) (hy : (sY M').cls ≠ "java/lang/invoke/MethodHandle" ∧ (sY M').cls ≠ "java/lang/invoke/VarHandle") (hlen : (parseMethodDescriptor (sY M').desc).map (fun d => d.parameters.length) = some as.length)
    {a : Addr} (hg : g.method = m) (hstack : g.stack = as.reverse ++ .ref a :: rest) (hdg : decode c.code g.pc = .ok (.invokespecial idx, 3)) :
    sBg p l e R s m args below meth c T locs cells slots g rest (sY M') (Value.ref a :: as).toArray := by
  subst hg
  have hpl : e.platform.magicAccessors = ({} : Platform).magicAccessors := by rw [X.admits.platform]
  obtain ⟨mk, methM, cM, kP, vm₁, hnamed, hmethM, hcodeM, -, hlocalsM, -, hkP, -, hW₁, hstep₁⟩ := Steps.initColdArgsNest (e := e) X.here hx X.warmed hpl hown hy1 hy (va_Nw.use rfl hlink) (hts _ hinst) (hts _ hcode) (f := g) rfl (fun sig h => by rw [h] at hlen; exact (Option.some.inj hlen).symm) hstack hdg
  have X₁ := X.noted hW₁
  exact ⟨vm₁, mk, X₁, X₁.named hnamed, fun target h => hstep₁ _ fun acts => by rw [doInvoke_state]; exact h⟩
end
