/-! SOUNDNESS 9: what the table owes (sJ), and the run -/
set_option maxRecDepth 100000
/-- a call's words -/
def sJc (nw : List Cond) (own : String) (M' : Nat) : Prop := sWord M' ∈ lw_all ∧ Cond.initialized (sY M').cls ∈ lw_all ∧ ((sY M').cls ≠ "java/lang/invoke/MethodHandle" ∧ (sY M').cls ≠ "java/lang/invoke/VarHandle") ∧ pml M' ≤ 22 ∧ plainName (sY M').cls = true
def sJX (nw : List Cond) (ao : List String) (M pc n t a b : Nat) (l : List Nat) : Prop := match t with
  | 0 => ∃ idx ref name desc, decode (sCode M) pc = .ok (.getfield idx, 3) ∧ sFk a b ref name desc ∧ sLk nw (sY M).cls idx ref name desc
  | 1 => ∃ idx ref name desc bb ty, decode (sCode M) pc = .ok (.putfield idx, 3) ∧ sFk a b ref name desc ∧ sAp a b ∧ sFin a b bb (sY M).cls ∧ ((bb = false ∧ sLk nw (sY M).cls idx ref name desc) ∨ (bb = true ∧ Cond.fieldLink (sY M).cls idx ref name desc ∈ lw_all ∧ (sY M).name = "<init>")) ∧ parseFieldDescriptor desc = some ty ∧ sKd (l.getD 0 9) ty
  | 2 => ∃ idx, n = 3 ∧ decode (sCode M) pc = .ok (.ldc_w idx, 3) ∧ Cond.constant (sY M).cls idx (Int32.ofNat a) ∈ lw_all
  | 3 => ∃ idx, n = 3 ∧ decode (sCode M) pc = .ok (.ldc2_w idx, 3) ∧ Cond.constantLong (sY M).cls idx (Int64.ofNat a) ∈ lw_all
  | 4 => ∃ idx na F, l = [na, F] ∧ F ≠ 99 ∧ n = 3 ∧ sJc nw (sY M).cls a ∧
      ((b = 0 ∧ decode (sCode M) pc = .ok (.invokestatic idx, 3) ∧ Cond.static (sY a) ∈ lw_all ∧ (parseMethodDescriptor (sY a).desc).map (fun d => d.parameters.length) = some (pna a) ∧ (Cond.methodLink (sY M).cls idx (sY a) ∈ lw_all ∨ ∃ host, Cond.methodLinkNest (sY M).cls idx (sY a) host ∈ nw)) ∨
       (b = 1 ∧ decode (sCode M) pc = .ok (.invokevirtual idx, 3) ∧ Cond.instanceMethod (sY a) ∈ lw_all ∧
         ((∃ nb, pna a = nb + 1 ∧ (parseMethodDescriptor (sY a).desc).map (fun d => d.parameters.length) = some nb ∧ (Cond.methodLink (sY M).cls idx (sY a) ∈ lw_all ∨ ∃ host, Cond.methodLinkNest (sY M).cls idx (sY a) host ∈ nw) ∧ ∀ c r, pok F c = true → sCl c = some r → Cond.selects r.1 (sY a) (sY a) ∈ lw_all) ∨
          (∃ nb x owner, pna a = nb + 1 ∧ (parseMethodDescriptor x.desc).map (fun d => d.parameters.length) = some nb ∧ Cond.methodLink (sY M).cls idx x ∈ lw_all ∧ Cond.sameMethod x.cls owner x.name x.desc ∈ lw_all ∧ Cond.declares ⟨owner, x.name, x.desc⟩ ∈ nw ∧ (owner ≠ "java/lang/invoke/MethodHandle" ∧ owner ≠ "java/lang/invoke/VarHandle") ∧ ∀ c r, pok F c = true → sCl c = some r → Cond.selects r.1 x (sY a) ∈ lw_all))) ∨
       (b = 2 ∧ decode (sCode M) pc = .ok (.invokespecial idx, 3) ∧ (sY a).name = "<init>" ∧ Cond.instanceMethod (sY a) ∈ lw_all ∧ (∃ bb L, Cond.code (sY a) bb L none ∈ lw_all) ∧ (∃ nb, pna a = nb + 1 ∧ (parseMethodDescriptor (sY a).desc).map (fun d => d.parameters.length) = some nb) ∧ (Cond.methodLink (sY M).cls idx (sY a) ∈ lw_all ∨ ∃ host, Cond.methodLinkNest (sY M).cls idx (sY a) host ∈ nw)))
  | 5 => ∃ idx nb x owner, n = 3 ∧ decode (sCode M) pc = .ok (.invokevirtual idx, 3) ∧ (parseMethodDescriptor x.desc).map (fun d => d.parameters.length) = some nb ∧ Cond.methodLink (sY M).cls idx x ∈ lw_all ∧ Cond.sameMethod x.cls owner x.name x.desc ∈ lw_all ∧ Cond.declares ⟨owner, x.name, x.desc⟩ ∈ nw ∧ (owner ≠ "java/lang/invoke/MethodHandle" ∧ owner ≠ "java/lang/invoke/VarHandle") ∧ ∀ c M', pvt l c = some M' → c ≠ 99 ∧ pna M' = nb + 1 ∧ sJc nw (sY M).cls M' ∧ Cond.instanceMethod (sY M') ∈ lw_all ∧ ∀ r, sCl c = some r → Cond.selects r.1 x (sY M') ∈ lw_all
  | 6 => ∃ idx r, decode (sCode M) pc = .ok (.new idx, 3) ∧ sCl a = some r ∧ Cond.classLink (sY M).cls idx r.1 ∈ lw_all ∧ Cond.instantiable r.1 b ∈ lw_all ∧ Cond.initialized r.1 ∈ lw_all
  | 7 => ∃ atype ty, decode (sCode M) pc = .ok (.newarray atype, 2) ∧ sTy a = some ty ∧ newarray.typeOf atype = ty ∧ (∀ U cA, va_RA U cA ty = (U.vm.findClass ("[" ++ ty.toString) = some cA)) ∧ a ≠ 9 ∧ Cond.arrayClass ty ∈ lw_all ∧ componentBytes ty ≤ 8 ∧ ∀ (cA : ClassId) (k : Nat), vp_cell cA (k, if a = 3 then .inr (.inl fun _ => 0) else .inl fun _ => 0) = arrV cA k (fun _ => defaultValue ty)
  | 8 => ∃ idx C, decode (sCode M) pc = .ok (.anewarray idx, 3) ∧ sTy a = some (.object C) ∧ a ≠ 9 ∧ Cond.classLink (sY M).cls idx C ∈ lw_all ∧ C ∈ ao
  | 9 => ∃ idx, decode (sCode M) pc = .ok (.invokestatic idx, 3) ∧ Cond.methodLink (sY M).cls idx arraycopyName ∈ lw_all ∧ Cond.native arraycopyName ∈ lw_all ∧ Cond.static arraycopyName ∈ lw_all ∧ Cond.initialized "java/lang/System" ∈ lw_all
  | 10 => ∃ idx, decode (sCode M) pc = .ok (.invokespecial idx, 3) ∧ Cond.methodLink (sY M).cls idx objectInit ∈ lw_all ∧ Cond.instanceMethod objectInit ∈ lw_all ∧ Cond.code objectInit ⟨#[0xb1]⟩ 1 none ∈ lw_all
  | 11 => ∃ idx, decode (sCode M) pc = .ok (.invokespecial idx, 3) ∧ (sY M).cls = RX1 ∧ ((a = 6 ∧ idx = 98) ∨ (a = 13 ∧ idx = 107))
  | 12 => ∃ idx, decode (sCode M) pc = .ok (.invokespecial idx, 3) ∧ Cond.methodLink (sY M).cls idx (sY 259) ∈ lw_all
  | 13 => ∃ idx idx', decode (sCode M) pc = .ok (.new idx, 3) ∧ Cond.classLink (sY M).cls idx RJ4 ∈ lw_all ∧ decode (sCode M) (pc + 3) = .ok (.dup, 1) ∧ decode (sCode M) (pc + 4) = .ok (.invokespecial idx', 3) ∧ Cond.methodLink (sY M).cls idx' yJ4_init ∈ lw_all ∧ decode (sCode M) (pc + 7) = .ok (.athrow, 1) ∧ a = 26 ∧ b = 6
  | 14 => ∃ idx, decode (sCode M) pc = .ok (.invokestatic idx, 3) ∧ Cond.methodLink (sY M).cls idx (sY (250 + a)) ∈ lw_all
  | _ => False
def sJ (nw : List Cond) (ao : List String) (M pc : Nat) (r : pI) (n : Nat) : Prop := match r with
  | .inl i => decode (sCode M) pc = .ok (i, n) ∧ sJi i n pc = true
  | .inr (t, a, b, l) => sJX nw ao M pc n t a b l
/-- what stays all through a method's run -/
def sCx (p : Program) (s : State) (m : MethodId) (args : Array Value) (meth : Method) (c : Code) (D : sD) (nw : List Cond) (ao : List String) (M : Nat) : Prop :=
  p.tables.exec = Jvm.exec ∧ c.code = sCode M ∧ meth.sig.returnType = sRt M ∧ meth.locks = false ∧ c.maxLocals = pml M ∧ s.vm.findClass (sY M).cls = some m.cls ∧ meth.name = (sY M).name ∧ (∀ w ∈ lw_all, w.before args s = true) ∧ sKn D nw ao s ∧ c.exceptionTable.toList = tableOf (sHH M)
/-- the end of a method's run, outcome o -/
def sMQ (below : List Frame) (s : State) (D : sD) (nw : List Cond) (ao : List String) (base z0 : Nat) (o : pO) : State → Prop := fun t => ∃ oc, t.status = .running ∧ Ended t below oc ∧ sOut o.1 oc ∧ sW D nw ao base o.2 t ∧ ∃ L, sFE s t L (o.2.2.1 - s.heap.size) (o.2.2.2 - z0) ∧ ∀ q ∈ L, base ≤ q.base
/-- where a run stands -/
def sPt (s : State) (D : sD) (base z0 : Nat) (h : pH) (H : Heap) (locs : List Loc) (cells slots : Nat) : Prop := sRep D base h s H ∧ (∀ q ∈ locs, base ≤ q.base) ∧ s.heap.size + cells = h.2.1 ∧ z0 + slots = h.2.2
section
variable {p : Program} {l : Launch} {e : Env} {R : Room} {s : State} {m : MethodId} {args : Array Value} {below : List Frame} {meth : Method} {c : Code} {H : Heap} {locs : List Loc} {cells slots : Nat} {Q : State → Prop}
variable {D : sD} {base z0 : Nat} {h : pH} {nw : List Cond} {ao : List String} {pc : Nat} {ls : Array Slot}
theorem W.mono' {Q' : State → Prop} {g : JFrame} (hq : ∀ t, Q t → Q' t) (k : W p l e R s m args below meth c H locs cells slots Q g) : W p l e R s m args below meth c H locs cells slots Q' g := fun T hT X => by
  obtain ⟨t, a, b⟩ := k T hT X
  exact ⟨t, a, hq t b⟩
/-- an answer: the end of the run -/
theorem sMQ_of {v : Option Value} {t : State} (hnw : ∀ w ∈ nw, sNk w) (hK : sKn D nw ao s) (hP : sPt s D base z0 h H locs cells slots) (hm : MQ below (fun _ st oc t => oc = .returned v ∧ t.heap = H ∧ st.WarmedH t.vm) args s cells slots (fun q => base ≤ q) t) : sMQ below s D nw ao base z0 (.inl v, h) t := by
  obtain ⟨oc, h1, h2, ⟨h3, h4, h5⟩, L, ⟨-, h6, h7⟩, h8⟩ := hm
  refine ⟨oc, h1, h2, h3, ⟨hK.warm hnw h5, by rw [h4]; exact hP.1.moved h5.alike⟩, L, ⟨h6, ?_⟩, h8⟩
  have e1 : h.2.1 - s.heap.size = cells := by have := hP.2.2.1; omega
  have e2 : h.2.2 - z0 = slots := by have := hP.2.2.2; omega
  rw [show ((.inl v, h) : pO).2.2.1 = h.2.1 from rfl, show ((.inl v, h) : pO).2.2.2 = h.2.2 from rfl, e1, e2]
  exact h7
theorem sRet_i {M : Nat} {v : Int32} (hnw : ∀ w ∈ nw, sNk w) (hC : sCx p s m args meth c D nw ao M) (hP : sPt s D base z0 h H locs cells slots) (hr : sRt M = some .int) (hdg : decode (sCode M) pc = .ok (.ireturn, 1)) : W p l e R s m args below meth c H locs cells slots (sMQ below s D nw ao base z0 (.inl (some (.int v)), h)) (F0 m pc ls [.int v]) := by
  obtain ⟨hx, hb, hret, hlk, -, -, -, -, hK, -⟩ := hC
  exact W.mono' (fun t ht => sMQ_of hnw hK hP ht) (W.iret hx hb (hret.trans hr) (fun t ht hW => ⟨rfl, ht, hW⟩) hP.2.1 hdg)
theorem sRet_z {M : Nat} {v : Int32} (hnw : ∀ w ∈ nw, sNk w) (hC : sCx p s m args meth c D nw ao M) (hP : sPt s D base z0 h H locs cells slots) (hr : sRt M = some .boolean) (hv : (v == 0 || v == 1) = true) (hdg : decode (sCode M) pc = .ok (.ireturn, 1)) : W p l e R s m args below meth c H locs cells slots (sMQ below s D nw ao base z0 (.inl (some (.int v)), h)) (F0 m pc ls [.int v]) := by
  obtain ⟨hx, hb, hret, hlk, -, -, -, -, hK, -⟩ := hC
  have hn : narrow .boolean (.int v) = .int v := by
    simp only [Bool.or_eq_true, beq_iff_eq] at hv
    rcases hv with rfl | rfl <;> rfl
  exact W.mono' (fun t ht => sMQ_of hnw hK hP ht) (W.zret hx hb (hret.trans hr) hn (fun t ht hW => ⟨rfl, ht, hW⟩) hP.2.1 hdg)
theorem sRet_v {M : Nat} (hnw : ∀ w ∈ nw, sNk w) (hC : sCx p s m args meth c D nw ao M) (hP : sPt s D base z0 h H locs cells slots) (hr : sRt M = none) (hdg : decode (sCode M) pc = .ok (.return_, 1)) : W p l e R s m args below meth c H locs cells slots (sMQ below s D nw ao base z0 (.inl none, h)) (F0 m pc ls []) := by
  obtain ⟨hx, hb, hret, hlk, -, -, -, -, hK, -⟩ := hC
  exact W.mono' (fun t ht => sMQ_of hnw hK hP ht) (W.vret hx hb (hret.trans hr) (fun t ht hW => ⟨rfl, ht, hW⟩) hP.2.1 hdg)
theorem sRet_l {M : Nat} {v : Int64} (hnw : ∀ w ∈ nw, sNk w) (hC : sCx p s m args meth c D nw ao M) (hP : sPt s D base z0 h H locs cells slots) (hr : sRt M = some .long) (hdg : decode (sCode M) pc = .ok (.lreturn, 1)) : W p l e R s m args below meth c H locs cells slots (sMQ below s D nw ao base z0 (.inl (some (.long v)), h)) (F0 m pc ls [.long v]) := by
  obtain ⟨hx, hb, hret, hlk, -, -, -, -, hK, -⟩ := hC
  exact W.mono' (fun t ht => sMQ_of hnw hK hP ht) (W.lret hx hb (hret.trans hr) (fun t ht hW => ⟨rfl, ht, hW⟩) hP.2.1 hdg)
theorem sRet_a {M a : Nat} {C : String} (hnw : ∀ w ∈ nw, sNk w) (hC : sCx p s m args meth c D nw ao M) (hP : sPt s D base z0 h H locs cells slots) (hr : sRt M = some (.object C)) (hdg : decode (sCode M) pc = .ok (.areturn, 1)) : W p l e R s m args below meth c H locs cells slots (sMQ below s D nw ao base z0 (.inl (some (.ref a)), h)) (F0 m pc ls [.ref a]) := by
  obtain ⟨hx, hb, hret, hlk, -, -, -, -, hK, -⟩ := hC
  exact W.mono' (fun t ht => sMQ_of hnw hK hP ht) (W.aret hx hb (hret.trans hr) (Or.inl ⟨C, rfl⟩) (Or.inr ⟨a, rfl⟩) (fun t ht hW => ⟨rfl, ht, hW⟩) hP.2.1 hdg)
end
