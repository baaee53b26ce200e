/-! THE START: what is known at the law's entry; the claim out of the pure law -/
set_option maxRecDepth 100000
section
variable {s : State} {A : Array Value}
theorem st_cls (hts : ∀ w ∈ lw_all, w.before A s = true) : ∀ c : Nat, ∃ q : ClassId × (Nat → Nat), ∀ r, sCl c = some r → u_Kn s r.1 r.2.1 r.2.2 q.1 q.2 := by
  intro c
  cases hc : sCl c with
  | none => exact ⟨(0, fun _ => 0), fun r hr => by cases hr⟩
  | some r =>
    have hi : ∃ n, (Cond.instantiable r.1 n).before A s = true := by
      have hc' := hc
      unfold sCl at hc'
      split at hc' <;> cases hc'
      · exact ⟨_, hts _ q136⟩
      · exact ⟨_, hts _ q152⟩
      · exact ⟨_, hts _ q1307⟩
      · exact ⟨_, hts _ q249⟩
      · exact ⟨_, hts _ q297⟩
      · exact ⟨_, hts _ q355⟩
      · exact ⟨_, hts _ q424⟩
      · exact ⟨_, hts _ q440⟩
      · exact ⟨_, hts _ q457⟩
      · exact ⟨_, hts _ q494⟩
      · exact ⟨_, hts _ q517⟩
      · exact ⟨_, hts _ q559⟩
      · exact ⟨_, hts _ q593⟩
      · exact ⟨_, hts _ q609⟩
      · exact ⟨_, hts _ q619⟩
      · exact ⟨_, hts _ q639⟩
      · exact ⟨_, hts _ q655⟩
      · exact ⟨_, hts _ q675⟩
      · exact ⟨_, hts _ q699⟩
      · exact ⟨_, hts _ q819⟩
      · exact ⟨_, hts _ q1129⟩
      · exact ⟨_, hts _ q1271⟩
    obtain ⟨n, hi⟩ := hi
    obtain ⟨cC, iS, hK⟩ := u_known (ws := lw_all) hts (sIn c r hc) hi
    exact ⟨(cC, iS), fun r' hr => by cases hr; exact hK⟩
theorem st_arr (hts : ∀ w ∈ lw_tbl, w.before A s = true) : ∀ k : Nat, ∃ cA : ClassId, ∀ ty, sTy k = some ty → ArrOfT s cA ty ∧ va_RA s cA ty := by
  have hp : ∀ ty : FieldType, (∀ U cA, va_RA U cA ty = (U.vm.findClass ("[" ++ ty.toString) = some cA)) → Cond.arrayClass ty ∈ lw_tbl → ∃ cA : ClassId, ArrOfT s cA ty ∧ va_RA s cA ty := by
    intro ty hra hw
    obtain ⟨c, k, comp, h1, h2, h3⟩ := Cond.arrayClass_spec (hts _ hw)
    exact ⟨c, fun n z => ⟨fun q hq => (by cases hq), k, h2, comp, h3⟩, by rw [hra]; exact h1⟩
  have hq : ∀ C : String, Cond.arrayOver (.object C) ∈ lw_tbl → ∃ cA : ClassId, ArrOfT s cA (.object C) ∧ va_RA s cA (.object C) := by
    intro C hw
    obtain ⟨comp, c, k, h1, h2, h3, h4, h5⟩ := Cond.arrayOver_spec (hts _ hw)
    exact ⟨c, fun n z => ⟨fun q hq => (by cases hq), k, h3, comp, h4⟩, k, comp, h3, h4, h1, h5⟩
  intro k
  have go : ∀ ty, sTy k = some ty → (∃ cA : ClassId, ArrOfT s cA ty ∧ va_RA s cA ty) → ∃ cA : ClassId, ∀ ty, sTy k = some ty → ArrOfT s cA ty ∧ va_RA s cA ty := by
    intro ty h1 ⟨cA, h2⟩
    refine ⟨cA, fun ty' h' => ?_⟩
    cases h1.symm.trans h'
    exact h2
  cases hk : sTy k with
  | none => exact ⟨0, fun ty h => by cases h⟩
  | some ty =>
    rw [← hk]
    refine go ty hk ?_
    unfold sTy at hk
    split at hk <;> cases hk
    · exact hp _ (fun _ _ => rfl) (lw_all_tbl q164)
    · exact hp _ (fun _ _ => rfl) (lw_all_tbl q163)
    · exact hp _ (fun _ _ => rfl) (lw_all_tbl q1470)
    · exact hp _ (fun _ _ => rfl) (lw_all_tbl q1469)
    · exact hq _ q144
    · exact hq _ q146
    · exact hq _ q148
    · exact hq _ q150
theorem st_Kn (hts : ∀ w ∈ lw_tbl, w.before A s = true) : ∃ D : sD, sKn D jnw jao s := by
  have hall : ∀ w ∈ lw_all, w.before A s = true := fun w hw => hts w (lw_all_tbl hw)
  obtain ⟨f, hf⟩ := Classical.axiomOfChoice (st_cls hall)
  obtain ⟨g, hg⟩ := Classical.axiomOfChoice (st_arr hts)
  refine ⟨(fun c => (f c).1, fun c => (f c).2, g), fun c r hr => hf c r hr, fun k ty hk => hg k ty hk, fun w hw => ?_, fun C hC => ?_⟩
  · have hon : w.onTables = true := by
      have : jnw.all (fun w => w.onTables) = true := by decide +kernel
      exact List.all_eq_true.mp this w hw
    exact va_Nw.of hon (hts w (jnw_tbl w hw))
  · simp only [jao, List.mem_cons, List.not_mem_nil, or_false] at hC
    rcases hC with rfl | rfl | rfl | rfl
    · exact va_AO.of (hts _ q144)
    · exact va_AO.of (hts _ q146)
    · exact va_AO.of (hts _ q148)
    · exact va_AO.of (hts _ q150)
theorem st_Sq {n d : String} {t : FieldType} (hts : ∀ w ∈ lw_tbl, w.before A s = true) (hl : (Cond.laysStatic "java/lang/Throwable" n d).before A s = true) (hr : (Cond.isRef (.static "java/lang/Throwable" n d)).before A s = true) : sSq s.heap.size n d s s.heap := by
  obtain ⟨c, k, i, f, a, cell, hc, hf, hst, hsta, hcell, hiss, hcls, hlt, hty⟩ := Cond.laysStatic_spec hl
  have hk : s.vm.classes[c]? = some k := (State.fieldFound?_spec hf).1
  have hinit := Cond.initialized_spec hc hk (hts _ (lw_all_tbl q109))
  obtain ⟨u0, hu0⟩ := Cond.staticRefV hf hst hsta hcell hiss hr
  refine ⟨c, k, i, f, a, cell, hc, hf, hst, hinit, hsta, hcell, hiss, hcls, hlt, hty, ?_, ?_⟩
  · obtain ⟨v, hv⟩ := u0
    cases v with
    | null => exact Or.inl hu0
    | ref t => exact Or.inr ⟨t, hu0⟩
    | _ => cases hv
  · have := (Array.getElem?_eq_some_iff.mp hcell).1
    omega
/-- the pure heap at the start: the script alone -/
def h0 (b L : Nat) (xs : Nat → Int32) (base : Nat) : pH := (fun q => if q = b then some (.inl (9, L, .inl xs)) else none, base, 0)
/-- what is owed of the pure machine -/
def LawPure : Prop := ∀ (b L : Nat) (xs : Nat → Int32) (base : Nat), L ≤ 448 → b < base → ∃ h : pH, pR 3 2048 0 [.ref b, pU, pU, pU, pU, pU, pU] [] (h0 b L xs base) = some (.inl (some (.int 1)), h) ∧ h.2.1 ≤ base + 601024 ∧ h.2.2 ≤ 7293034
end
def R_law : String := "BalloonStallLaw"
def lw_P (b : Addr) (xs : List Int32) (args : Array Value) (s : State) : Prop := args = #[.ref b] ∧ s.IntsAt b xs ∧ xs.length ≤ 448 ∧ (Jvm.Cond.and given_1 narrow_1).before args s = true
def lw_Q (_ : Array Value) (s : State) (o : Outcome) (t : State) : Prop := o = .returned (some (.int 1)) ∧ Framed s o t [] 601024 7293034
theorem whole_start {p : Program} {e : Env} {s : State} {m : MethodId} {below : List Frame} {meth : Method} {c : Code} (l : Launch) (hpure : LawPure) (hfl : l.flags = flags0) {b L : Nat} {xs : Nat → Int32} (hL : L ≤ 448) (hx : p.tables.exec = Jvm.exec) (hb : c.code = code) (hret : meth.sig.returnType = ret) (hml : c.maxLocals = 7) (hown : s.vm.findClass R_law = some m.cls) (hts : ∀ w ∈ lw_tbl, w.before #[Value.ref b] s = true) (hX : va_X b L xs s s.heap) (hbl : b < s.heap.size) (hlk : meth.locks = false)
    (hgv : (Jvm.Cond.and given_1 narrow_1).before #[Value.ref b] s = true) (hnm : meth.name = "law") (hxt : c.exceptionTable.toList = []) : ∃ h : pH, ∃ D : sD, W p l e room_1 s m #[Value.ref b] below meth c s.heap [] 0 0 (sMQ below s D jnw jao s.heap.size 0 (.inl (some (.int 1)), h)) (entryFrame m ([Value.ref b] : List Value).toArray 7) ∧ h.2.1 ≤ s.heap.size + 601024 ∧ h.2.2 ≤ 7293034 := by
  obtain ⟨D, hK⟩ := st_Kn hts
  obtain ⟨h, hR, hn, hs⟩ := hpure b L xs s.heap.size hL hbl
  have hfl' := flat_of_before _ hgv
  have hSt : sSt s.heap.size s s.heap := ⟨st_Sq (t := .int) hts (hts _ q381) (hfl' _ (by decide +kernel)), st_Sq (t := .int) hts (hts _ q383) (hfl' _ (by decide +kernel))⟩
  have hRep : sRep D s.heap.size (h0 b L xs s.heap.size) s s.heap := by
    refine ⟨rfl, Nat.le_refl _, fun a x hx => ?_, hSt⟩
    unfold h0 at hx
    dsimp only at hx
    split at hx
    · rename_i ha
      subst ha
      cases hx
      exact ⟨⟨xs, rfl, hX⟩, Or.inr ⟨_, _, rfl⟩⟩
    · cases hx
  have htr : l.stackTraces = false := by unfold Launch.stackTraces; rw [hfl]; decide +kernel
  refine ⟨h, D, ?_, hn, hs⟩
  rw [lg_entry_eq]
  exact sSound jnw_ok hJ_ok sRtOk_ok sHdOk_ok sIx_ok (sIt_ok htr) hR ⟨hx, hb, hret, hlk, hml, hown, hnm, fun w hw => hts w (lw_all_tbl hw), hK, hxt⟩ ⟨hRep, fun q hq => (by cases hq), rfl, rfl⟩ (sLs_entry (M := 3) (as := [.ref b]) rfl) (by decide) (by decide) hn (by show _ ≤ 0 + 7293034; omega)
set_option maxHeartbeats 4000000 in
theorem lw_walk (l : Launch) (hpure : LawPure) (hfl : l.flags = flags0) (b : Addr) (xs : List Int32) : MetFree l x (headSpec (Jvm.Cond.code x code maxLocals ret :: tables_1) room_1) (lw_P b xs) (fun _ _ _ _ _ => True) lw_Q := by
  refine MetFree.of_bodyS (code := code) (maxLocals := maxLocals) (ret := ret) (by decide) ?_ ?_
  · intro args s m h hn
    obtain ⟨meth, c, h1, h2, h3, h4, h5, h6, -, -⟩ := Cond.code_spec hn (atoms_spec (ws := Jvm.Cond.code x code maxLocals ret :: tables_1) h _ List.mem_cons_self)
    exact ⟨meth, c, h1, h2, h3, h4, h5, h6⟩
  · intro p e s m args below meth c s₁ B hml0 hP _
    obtain ⟨rfl, hx, hbd, hgv⟩ := hP
    obtain ⟨scr, harrAt, hlist, hof, hsmall⟩ := hx
    obtain ⟨hcb, hkn, -, -⟩ := State.arrayAt?_spec harrAt
    have hown : s.vm.findClass R_law = some m.cls := findClass_of_methodNamed B.named
    have hts0 : ∀ c ∈ (Jvm.Cond.code x code maxLocals ret :: tables_1), c.before #[Value.ref b] s = true := atoms_spec (ws := Jvm.Cond.code x code maxLocals ret :: tables_1) B.pre
    have hts : ∀ w ∈ lw_tbl, w.before #[Value.ref b] s = true := k2_hts_sels lw_privs (fun w hw => hts0 w (List.mem_cons_of_mem _ hw)) lw_privs_ok
    have hml : c.maxLocals = 7 := B.maxLocals_eq (hts0 _ List.mem_cons_self)
    have X₀ : Stand p l e room_1 s m #[Value.ref b] below meth c s₁ [] 0 0 := Stand.of_body B
    have hh0 : s₁.heap = s.heap := by rw [B.state]; rfl
    have hsz : scr.slots.size = xs.length := by rw [← Array.length_toList, hlist, List.length_map]
    have hval : ∀ j : Nat, j < xs.length → scr.slots[j]? = some (.int (xs.getD j 0)) := fun j hj => by
      rw [← Array.getElem?_toList, hlist]
      simp [hj]
    have hbl : b < s.heap.size := (Array.getElem?_eq_some_iff.mp hcb).1
    have hX : va_X b xs.length (fun j => xs.getD j 0) s s.heap := ⟨scr, hcb, hof, hkn, hsz, hval⟩
    obtain ⟨meth', c', e1, e2, -, -, -, -, e7, -⟩ := sWord_spec (M := 3) B.named (hts0 _ List.mem_cons_self)
    cases e1.symm.trans B.method
    cases e2.symm.trans X₀.code
    obtain ⟨h, D, K, hn, hs⟩ := whole_start (e := e) (below := below) l hpure hfl hbd B.exec B.bytes B.returns hml hown hts hX hbl B.notSynchronized hgv (name_of_methodNamed B.named B.method).1 e7
    obtain ⟨t, a1, oc, b1, b2, b3, b4, L, ⟨b5, b6⟩, b7⟩ := K s₁ hh0 X₀
    have b3 : oc = .returned (some (.int 1)) := b3
    subst b3
    refine ⟨t, _, a1, b1, b2, rfl, ⟨_, rfl⟩, b5, ?_⟩
    exact b6.weaken (fun q hq hlt => absurd (b7 q hq) (Nat.not_le.mpr hlt)) (by show h.2.1 - s.heap.size ≤ _; omega) (by show h.2.2 - 0 ≤ _; omega)
theorem lw_pre_spec {args : Array Value} {s : State} (h : (Jvm.Cond.and given_1 narrow_1).before args s = true) (hr : rest_1_c.before args s = true) : ∃ (b : Addr) (xs : List Int32), lw_P b xs args s := by
  have hs := flat_of_before _ h
  have hq := flat_of_before _ hr
  have hc : (Cond.count 1).before args s = true := hs _ (by decide +kernel)
  have harr : (Cond.arrayOf (.arg 0) .int).before args s = true := hs _ (by decide +kernel)
  have hle : (Cond.le (.length (.arg 0)) (.int 448)).before args s = true := hs _ (by decide +kernel)
  have hlen : (Cond.isInt (.length (.arg 0))).before args s = true := hq _ (by decide +kernel)
  have hall : (Cond.all (.arg 0) (.isInt (.elem (.arg 0) (.index 0)))).before args s = true := hq _ (by decide +kernel)
  obtain ⟨b, xs, hb, hx⟩ := State.ints_of_pre rfl harr hlen hall
  have hsm : xs.length < 2 ^ 31 := hx.choose_spec.2.2.2
  have hev : (Term.length (.arg 0)).eval args s none [] s = some (.int xs.length.toInt32) := hx.length_eval hb
  have hv := Cond.le_ints hev (show (Term.int 448).eval args s none [] s = some (.int 448) from rfl)
  have hd : xs.length.toInt32 ≤ 448 := by
    simpa [Cond.before, Cond.holds, hv] using hle
  have hN : xs.length ≤ 448 := (Int32.ofNat_le_ofNat hsm (by decide)).mp (show Int32.ofNat xs.length ≤ Int32.ofNat 448 from hd)
  exact ⟨b, xs, Cond.one_arg hc (show args[0]? = some (.ref b) from hb), hx, hN, h⟩
theorem lw_comes (l : Launch) (hpure : LawPure) (hfl : l.flags = flags0) : Comes l x (Jvm.Cond.code x code maxLocals ret :: tables_1) room_1 (fun tb e args s => Calls_1 tb e args s ∧ rest_1 tb e args s ∧ Pre_1 tb e args s)
    (fun _ _ args s o t => lw_Q args s o t) := by
  intro p e ha hc hk s m args below hf hfit hheap happ hpre
  obtain ⟨b, xs, hP⟩ := lw_pre_spec hpre.2.2 hpre.2.1
  obtain ⟨k, o, h1, h2, h3, hQ⟩ := lw_walk l hpure hfl b xs p e ha hc hk s m args below hf ((Spec.applies_iff_loose hf).mp happ).1 hP trivial
  exact ⟨k, o, h1, h2, h3, hQ⟩
theorem lw_frame {s t : State} {o : Outcome} {args : Array Value} (h : Framed s o t [] 601024 7293034) :
    Framed s o t (fieldLocs frame_1_writes args s ++ arrayLocs frame_1_arrays args s ++ staticLocs frame_1_statics s) 601024 7293034 := h
theorem lw_limb (hpure : LawPure) (L : Cond) (hL : ∀ (args : Array Value) (s t : State), L.after args s (.returned (some (.int 1))) t = true) :
    ArmFor flags0 classFile x code maxLocals ret World_1 tables_1 room_1 Calls_1 rest_1 Pre_1
      (fun tb e a s o t => postC L tb e a s o t ∧ Framed s o t (fieldLocs frame_1_writes a s ++ arrayLocs frame_1_arrays a s ++ staticLocs frame_1_statics s) 601024 7293034) := by
  intro l hfl _ _ p e ha hc hk s m args below hf hfit hheap happ hpre
  obtain ⟨k, o, h1, h2, h3, rfl, hF⟩ := lw_comes l hpure hfl p e ha hc hk s m args below hf hfit hheap happ hpre
  exact ⟨k, _, h1, h2, h3, hL args s _, lw_frame hF⟩
theorem claim_of (hpure : LawPure) : Claimed_1_1 ∧ Claimed_1_2 := ⟨lw_limb hpure limb_1_1 (fun args s t => by simp [limb_1_1, Cond.after, Cond.holds, Cond.value]), lw_limb hpure limb_1_2 (fun args s t => Cond.after_iff.mpr (by
  first | (rw [show limb_1_2 = Cond.eq .result (.int 1) from rfl, Cond.eq_ints (x := 1) (y := 1) rfl rfl]; simp; done) | (simp [limb_1_2, Cond.value, Term.eval]; done)))⟩
