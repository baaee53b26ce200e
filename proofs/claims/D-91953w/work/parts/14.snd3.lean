/-! SOUNDNESS 4: stores into fields, new cells, arraycopy, returns -/
set_option maxRecDepth 100000
def sAp (F k : Nat) : Prop := ∀ c r, pok F c = true → sCl c = some r → k < r.2.2 → ∀ j, j < r.2.2 → j ≠ k → (r.2.1 j).2.1 ≠ (r.2.1 k).2.1
def sFin (F k : Nat) (b : Bool) (own : String) : Prop := ∀ c r, pok F c = true → sCl c = some r → k < r.2.2 → (r.2.1 k).2.2.2 = b ∧ (b = true → (r.2.1 k).1 = own)
/-- the type of a field by the number that the table gives it -/
def sKd (q : Nat) (ty : FieldType) : Prop := (q = 0 ∧ ty = .int) ∨ (q = 1 ∧ ty = .long) ∨ (q = 2 ∧ ty = .boolean) ∨ (q = 3 ∧ ((∃ C, ty = .object C) ∨ ∃ t, ty = .array t))
theorem sKd_ok {q : Nat} {ty : FieldType} {v : Value} (h : sKd q ty) (hv : pfit q v = true) : narrow ty v = v ∧ fits ty v = true := by
  rcases h with ⟨rfl, rfl⟩ | ⟨rfl, rfl⟩ | ⟨rfl, rfl⟩ | ⟨rfl, h⟩
  · cases v <;> first | exact ⟨rfl, rfl⟩ | cases hv
  · cases v <;> first | exact ⟨rfl, rfl⟩ | cases hv
  · cases v with
    | int x =>
      have h01 : x = 0 ∨ x = 1 := by simpa [pfit] using hv
      rcases h01 with rfl | rfl <;> exact ⟨rfl, rfl⟩
    | _ => cases hv
  · rcases h with ⟨C, rfl⟩ | ⟨t, rfl⟩ <;> cases v <;> first | exact ⟨rfl, rfl⟩ | cases hv
section
variable {p : Program} {l : Launch} {e : Env} {R : Room} {s : State} {m : MethodId} {args : Array Value} {below : List Frame} {meth : Method} {c : Code} {H : Heap} {locs : List Loc} {cells slots : Nat} {Q : State → Prop} {cc : ByteArray}
variable {D : sD} {base : Nat} {h : pH} {nw : List Cond} {ao : List String} {pc : Nat} {ls : Array Slot} {rest : List Value}
/-- one field of an object is written: the others are apart by their names -/
theorem t_set1 {cell : Cell} {N : Nat} {iS : Nat → Nat} {V : Nat → Value} (h : ∀ k, k < N → cell.slots[iS k]? = some (V k)) {k : Nat} (hk : k < N) (hap : ∀ b, b < N → b ≠ k → iS b ≠ iS k) (v : Value) :
    ∀ j, j < N → (cell.setSlot (iS k) v).slots[iS j]? = some (updV V k v j) := by
  intro j hj
  by_cases e : j = k
  · subst e
    have hl := (Array.getElem?_eq_some_iff.mp (h j hj)).1
    simp [Cell.setSlot, updV, Array.getElem?_setIfInBounds, hl]
  · have h1 := hap j hj e
    simp only [updV, if_neg e]
    rw [← h j hj]
    simp [Cell.setSlot, Array.getElem?_setIfInBounds, Ne.symm h1]
theorem sW_put {F k q a idx : Nat} {own ref name desc : String} {b : Bool} {ty : FieldType} {v : Value} (hx : p.tables.exec = Jvm.exec) (hb : c.code = cc) (hts : ∀ w ∈ lw_all, w.before args s = true) (hown : s.vm.findClass own = some m.cls) (hK : sKn D nw ao s) (hR : sRep D base h s H) (hF : sFk F k ref name desc) (hap : sAp F k) (hfin : sFin F k b own)
    (hl : (b = false ∧ sLk nw own idx ref name desc) ∨ (b = true ∧ Cond.fieldLink own idx ref name desc ∈ lw_all ∧ meth.name = "<init>")) (hty : parseFieldDescriptor desc = some ty) (hkd : sKd q ty) (hv : (pis (pfl h F a k) && pfit q v) = true) (hdg : decode cc pc = .ok (.putfield idx, 3))
    (kk : ∀ H' z, base ≤ a → sRep D base (psf h a k v) s H' → W p l e R s m args below meth c H' (locs ++ [⟨a, z⟩]) cells slots Q (F0 m (pc + 3) ls rest)) : W p l e R s m args below meth c H locs cells slots Q (F0 m pc ls (v :: .ref a :: rest)) := by
  simp only [Bool.and_eq_true] at hv
  obtain ⟨hv, hpf⟩ := hv
  obtain ⟨hnar, hfit⟩ := sKd_ok hkd hpf
  obtain ⟨c0, fs, ha, hpk, hfk⟩ := pfl_some hv
  obtain ⟨⟨r, hr, hlen, cell, q1, q2, q3, q4⟩, hba⟩ := hR.obj ha
  have hkN : k < r.2.2 := by rw [← hlen]; exact (List.getElem?_eq_some_iff.mp hfk).1
  obtain ⟨hS, hfc, kC, hkC, hkind⟩ := hK.1 _ r hr
  obtain ⟨cf, kf, fi, f, hi0, hsl⟩ := hS k hkN
  obtain ⟨n1, n2, n3⟩ := hF c0 r hpk hr hkN
  have hlays := u_lays hts (sIn c0 r hr) hkN
  have hst := (u_facts hfc hkC hlays hi0).1
  have hi := hi0
  rw [n1, n2] at hi
  have hty' : parseFieldDescriptor (r.2.1 k).2.2.1 = some ty := by rw [n2]; exact hty
  have hapart : ∀ j, j < r.2.2 → j ≠ k → (D.2.1 c0) j ≠ (D.2.1 c0) k := by
    intro j hj hne
    obtain ⟨_, _, _, fa, hia, ea⟩ := hS j hj
    rw [← ea, ← hsl]
    refine u_apart (u_lays hts (sIn c0 r hr) hj) hlays hia hi0 ?_
    rw [(State.fieldFound?_type hia (sTf_ok c0 r hr j hj)).1, (State.fieldFound?_type hi0 (sTf_ok c0 r hr k hkN)).1]
    exact hap c0 r hpk hr hkN j hj hne
  have hgo : ∀ H1 : Heap, H1[a]? = some (cell.setSlot f.slot v) → H1.size = H.size → (∀ q, q ≠ a → H1[q]? = H[q]?) → sRep D base (psf h a k v) s H1 := by
    intro H1 e1 z oq
    rw [show psf h a k v = pup h a (.inr (c0, fs.set k v)) by simp [psf, ha]]
    refine hR.up hba ⟨r, hr, by rw [List.length_set]; exact hlen, ?_⟩ z oq
    rw [hsl] at e1
    exact t_OB.to (V := updV (vp_V fs) k v) ⟨_, e1, q2, q3, t_set1 q4 hkN hapart v⟩ (fun j _ => vp_updV_set (by rw [hlen]; exact hkN) v j)
  have hlay := hts _ (sIn c0 r hr _ (u_in_lay hkN))
  unfold u_lay at hlay
  rcases hl with ⟨rfl, hl⟩ | ⟨rfl, hl, hin2⟩
  · rw [if_neg (by rw [(hfin c0 r hpk hr hkN).1]; decide)] at hlay
    have h6 := u_store hfc hkC hkind hlay hi0 hty' hnar hfit
    rcases hl with hl | ⟨host, hl⟩
    · exact W.putK hx hb (f := f) ⟨hown, hts _ hl, ⟨_, _, _, sSame hts n3 _ hi⟩, hst⟩ (by rw [q2]; exact h6) q1 q3 (by rw [hsl]; exact k2_hasslot (q4 k hkN)) rfl rfl hdg fun H1 e1 z oq => kk H1 _ hba (hgo H1 e1 z oq)
    · exact va_WputK hx hb (f := f) hown (va_Nw.use rfl (hK.2.2.1 _ hl)) (sSame hts n3 _ hi) hst (by rw [q2]; exact h6) q1 q3 (by rw [hsl]; exact k2_hasslot (q4 k hkN)) rfl rfl hdg fun H1 e1 z oq => kk H1 _ hba (hgo H1 e1 z oq)
  · rw [if_pos (hfin c0 r hpk hr hkN).1] at hlay
    have hcf : m.cls = cf := by
      obtain ⟨_, _, c', _, _, _, -, -, hf', -, -, -, hown2, -⟩ := Cond.laysFinal_spec hlay
      have e1 : c' = cf := by have := hi0.symm.trans hf'; simp at this; exact this.1.symm
      rw [(hfin c0 r hpk hr hkN).2 rfl] at hown2
      rw [← e1]; exact Option.some.inj (hown.symm.trans hown2)
    have h6 := u_fits hfc hkC hkind (Or.inr hlay) hi0 hty' hnar hfit
    exact W.putFinK hx hb hown (hts _ hl) (sSame hts n3 _ hi) hst hcf hin2 (by rw [q2]; exact h6) q1 q3 (by rw [hsl]; exact k2_hasslot (q4 k hkN)) rfl rfl hdg fun H1 e1 z oq => kk H1 _ hba (hgo H1 e1 z oq)
theorem sW_new {k n idx : Nat} {own : String} {r : vw_C} (hx : p.tables.exec = Jvm.exec) (hb : c.code = cc) (hts : ∀ w ∈ lw_all, w.before args s = true) (hown : s.vm.findClass own = some m.cls) (hK : sKn D nw ao s) (hR : sRep D base h s H) (hr : sCl k = some r) (h1 : Cond.classLink own idx r.1 ∈ lw_all) (h2 : Cond.instantiable r.1 n ∈ lw_all) (h3 : Cond.initialized r.1 ∈ lw_all)
    (hcells : cells + 1 ≤ R.cells) (hslots : slots + n ≤ R.slots) (hdg : decode cc pc = .ok (.new idx, 3))
    (kk : ∀ H', sRep D base (pnw h (.inr (k, pDF.getD k [])) n) s H' → W p l e R s m args below meth c H' locs (cells + 1) (slots + n) Q (F0 m (pc + 3) ls (.ref h.2.1 :: rest))) : W p l e R s m args below meth c H locs cells slots Q (F0 m pc ls rest) := by
  have hKn := hK.1 k _ hr
  refine W.newcK hx hb hown (hts _ h1) (hts _ h2) (hts _ h3) rfl hdg hcells hslots hKn.2.1 hR.1 fun H1 kC hkC e1 z1 o1 => ?_
  refine kk H1 (hR.nw ?_ z1 o1)
  obtain ⟨d1, d2⟩ := sDf_ok k r hr
  exact ⟨r, hr, d1, (u_born (sTf k) hts (sIn k r hr) hKn hkC e1 (sTf_ok k r hr)).to d2⟩
theorem sW_newa {k : Nat} {ty : FieldType} {atype : ArrayType} {x} {n : Int32} (hx : p.tables.exec = Jvm.exec) (hb : c.code = cc) (hts : ∀ w ∈ lw_all, w.before args s = true) (hK : sKn D nw ao s) (hR : sRep D base h s H) (hk : sTy k = some ty) (hat : newarray.typeOf atype = ty) (hra : ∀ U cA, va_RA U cA ty = (U.vm.findClass ("[" ++ ty.toString) = some cA)) (hk9 : k ≠ 9) (hw : Cond.arrayClass ty ∈ lw_all)
    (hcell : ∀ cA : ClassId, vp_cell cA (n.toNatClampNeg, x) = arrV cA n.toNatClampNeg (fun _ => defaultValue ty)) (hn : (decide (0 ≤ n) && decide (n.toNatClampNeg ≤ 65536)) = true) (hcb : componentBytes ty ≤ 8)
    (hcells : cells + 1 ≤ R.cells) (hslots : slots + n.toNatClampNeg ≤ R.slots) (hdg : decode cc pc = .ok (.newarray atype, 2))
    (kk : ∀ H', sRep D base (pnw h (.inl (k, n.toNatClampNeg, x)) n.toNatClampNeg) s H' → W p l e R s m args below meth c H' locs (cells + 1) (slots + n.toNatClampNeg) Q (F0 m (pc + 2) ls (.ref h.2.1 :: rest))) : W p l e R s m args below meth c H locs cells slots Q (F0 m pc ls (.int n :: rest)) := by
  subst hat
  simp only [Bool.and_eq_true, decide_eq_true_eq] at hn
  have hn0 : ¬ n < 0 := by
    have h1 := hn.1
    rw [Int32.le_iff_toInt_le] at h1
    rw [Int32.lt_iff_toInt_lt]
    omega
  have hbytes : n.toNatClampNeg * componentBytes (newarray.typeOf atype) ≤ 536870912 := Nat.le_trans (Nat.mul_le_mul hn.2 hcb) (by decide)
  refine va_newaK hx hb (hts _ hw) rfl hdg rfl hn0 rfl hbytes hcells hslots hR.1 fun H1 cA e1 z1 o1 hAr hNm => ?_
  have hra2 := (hK.2.1 k _ hk).2
  rw [hra] at hra2
  have hcA : cA = D.2.2 k := Option.some.inj (hNm.symm.trans hra2)
  subst hcA
  refine kk H1 (hR.nw ?_ z1 o1)
  unfold sCell
  dsimp only
  rw [if_neg hk9]
  exact ⟨⟨_, hk⟩, by rw [hcell]; exact e1⟩
theorem sW_newq {k idx : Nat} {own C : String} {n : Int32} (hx : p.tables.exec = Jvm.exec) (hb : c.code = cc) (hts : ∀ w ∈ lw_all, w.before args s = true) (hown : s.vm.findClass own = some m.cls) (hK : sKn D nw ao s) (hR : sRep D base h s H) (hk : sTy k = some (.object C)) (hk9 : k ≠ 9) (hw : Cond.classLink own idx C ∈ lw_all) (hao : C ∈ ao)
    (hn : (decide (0 ≤ n) && decide (n.toNatClampNeg ≤ 65536)) = true)
    (hcells : cells + 1 ≤ R.cells) (hslots : slots + n.toNatClampNeg ≤ R.slots) (hdg : decode cc pc = .ok (.anewarray idx, 3))
    (kk : ∀ H', sRep D base (pnw h (.inl (k, n.toNatClampNeg, .inr (.inr (.inr (.inr fun _ => none))))) n.toNatClampNeg) s H' → W p l e R s m args below meth c H' locs (cells + 1) (slots + n.toNatClampNeg) Q (F0 m (pc + 3) ls (.ref h.2.1 :: rest))) : W p l e R s m args below meth c H locs cells slots Q (F0 m pc ls (.int n :: rest)) := by
  simp only [Bool.and_eq_true, decide_eq_true_eq] at hn
  have hn0 : ¬ n < 0 := by
    have h1 := hn.1
    rw [Int32.le_iff_toInt_le] at h1
    rw [Int32.lt_iff_toInt_lt]
    omega
  have hbytes : n.toNatClampNeg * 4 ≤ 536870912 := by omega
  refine W.anew hx hb hown (hts _ hw) (va_AO.use (hK.2.2.2 _ hao)) rfl hdg rfl hn0 hbytes hcells hslots fun cA kA comp f1 f2 f3 f4 => ?_
  generalize hH1 : H.push ({ cls := cA, slots := Array.replicate n.toNatClampNeg .null, vm := .none } : Cell) = H1
  have z1 : H1.size = h.2.1 + 1 := by rw [← hH1, Array.size_push, hR.1]
  have e1 : H1[h.2.1]? = some (arrV cA n.toNatClampNeg (fun _ => .null)) := by rw [← hH1, ← hR.1, Array.getElem?_push_size, ← arrV_new]
  have o1 : ∀ q : Nat, q < h.2.1 → H1[q]? = H[q]? := fun q hq => by rw [← hH1, Array.getElem?_push, if_neg (by rw [hR.1]; exact Nat.ne_of_lt hq)]
  obtain ⟨kA', comp', g1, g2, g3, g4⟩ := (hK.2.1 k _ hk).2
  have hcA : cA = D.2.2 k := Option.some.inj (f1.symm.trans g4)
  subst hcA
  rw [hR.1]
  refine kk H1 (hR.nw ?_ z1 o1)
  unfold sCell
  dsimp only
  rw [if_neg hk9]
  exact ⟨⟨_, hk⟩, by rw [vp_cell_q]; exact e1⟩
theorem sW_copy {a0 a idx : Nat} {own : String} {sp dp n : Int32} (hx : p.tables.exec = Jvm.exec) (hb : c.code = cc) (hml : c.maxLocals = ls.size) (hts : ∀ w ∈ lw_all, w.before args s = true) (hown : s.vm.findClass own = some m.cls) (hK : sKn D nw ao s) (hR : sRep D base h s H)
    (hw1 : Cond.methodLink own idx arraycopyName ∈ lw_all) (hw2 : Cond.native arraycopyName ∈ lw_all) (hw3 : Cond.static arraycopyName ∈ lw_all) (hw4 : Cond.initialized "java/lang/System" ∈ lw_all)
    (h1 : ¬ sp < 0) (h2 : ¬ dp < 0) (h3 : ¬ n < 0) (h4 : sp.toNatClampNeg + n.toNatClampNeg ≤ pln h 0 a0) (h5 : dp.toNatClampNeg + n.toNatClampNeg ≤ pln h 0 a) (hp0 : 0 < pln h 0 a0) (hp1 : 0 < pln h 0 a)
    (hframes : 1 ≤ R.frames) (hlocals : (rest.map fun v => v.category).sum + (nativeFrameWords "java/lang/System" "arraycopy" 5 + 11) ≤ R.locals) (hdg : decode cc pc = .ok (.invokestatic idx, 3))
    (kk : ∀ H' locs', base ≤ a → (∀ q ∈ locs', q.base = a) → sRep D base (pcp h a0 sp.toNatClampNeg a dp.toNatClampNeg n.toNatClampNeg) s H' → W p l e R s m args below meth c H' (locs ++ locs') cells slots Q (F0 m (pc + 3) ls rest)) : W p l e R s m args below meth c H locs cells slots Q (F0 m pc ls (.int n :: .int dp :: .ref a :: .int sp :: .ref a0 :: rest)) := by
  have ha0 := pln_some hp0 rfl
  have ha1 := pln_some hp1 rfl
  obtain ⟨-, hc0, -⟩ := hR.arr ha0 (by decide)
  obtain ⟨hty, hc1, hba⟩ := hR.arr ha1 (by decide)
  have nn : ∀ z : Int32, ¬ z < 0 → z.toInt = (z.toNatClampNeg : Int) := by
    intro z hz
    have hz0 : (0 : Int) ≤ z.toInt := by
      have := Int32.not_lt.mp hz
      simpa using Int32.le_iff_toInt_le.mp this
    show z.toInt = ((z.toInt.toNat : Nat) : Int)
    omega
  intro T hT X
  obtain ⟨-, k0, hk0, cm0, hkk0⟩ := (hK.2.1 0 _ rfl).1 (pln h 0 a0) (fun j => .int (pct h a0 j))
  obtain ⟨-, k1, hk1, cm1, hkk1⟩ := (hK.2.1 0 _ rfl).1 (pln h 0 a) (fun j => .int (pct h a j))
  obtain ⟨vm', X', step⟩ := X.arraycopy hx hown (hts _ hw1) (hts _ hw2) (hts _ hw3) (hts _ hw4) (src := a0) (dst := a) (cs := vp_cell (D.2.2 0) (pln h 0 a0, .inl (pct h a0))) (cd := vp_cell (D.2.2 0) (pln h 0 a, .inl (pct h a))) (srcPos := sp) (destPos := dp) (n := n) (by rw [hT]; exact hc0) (by rw [hT]; exact hc1)
    (fun _ h => by cases h) (fun _ h => by cases h) (fun h => by cases h) (fun h => by cases h) hk0 hk1 hkk0 hkk1 (by simp [refKind]) h1 h2 h3
    (by rw [nn sp h1, nn n h3]; show ¬ _ > ((arrV _ (pln h 0 a0) _).slots.size : Int); rw [arrV_size]; omega)
    (by rw [nn dp h2, nn n h3]; show ¬ _ > ((arrV _ (pln h 0 a) _).slots.size : Int); rw [arrV_size]; omega)
    (fun vm₁ _ i hi => by
      have e : (vp_cell (D.2.2 0) (pln h 0 a0, .inl (pct h a0))).slots.getD (sp.toNatClampNeg + i) .null = .int (pct h a0 (sp.toNatClampNeg + i)) := by
        show (arrV _ (pln h 0 a0) (fun j => .int (pct h a0 j))).slots.getD _ _ = _
        rw [Array.getD_eq_getD_getElem?, arrV_read _ _ (by omega)]
        rfl
      refine ⟨?_, ?_⟩
      · rw [e]; rfl
      · rw [e]
        exact trivial)
    (g := F0 m pc ls (.int n :: .int dp :: .ref a :: .int sp :: .ref a0 :: rest)) rfl (by rw [hml]) (rest := rest) rfl (by rw [hb]; exact hdg) hframes (by show 2 * 0 + _ + _ ≤ _; omega)
  have e1 : copied (vp_cell (D.2.2 0) (pln h 0 a0, .inl (pct h a0))) (vp_cell (D.2.2 0) (pln h 0 a, .inl (pct h a))) sp dp n = vp_cell (D.2.2 0) (pln h 0 a, .inl (va_cpy (pct h a0) (pct h a) sp.toNatClampNeg dp.toNatClampNeg n.toNatClampNeg)) := va_copied (fun z => .int z) _ _ _ _ h4
  rw [e1] at X' step
  have hl : a < H.size := (Array.getElem?_eq_some_iff.mp hc1).1
  have hheap : ((T.setVm vm').setCell a (vp_cell (D.2.2 0) (pln h 0 a, .inl (va_cpy (pct h a0) (pct h a) sp.toNatClampNeg dp.toNatClampNeg n.toNatClampNeg)))).heap = H.setIfInBounds a (vp_cell (D.2.2 0) (pln h 0 a, .inl (va_cpy (pct h a0) (pct h a) sp.toNatClampNeg dp.toNatClampNeg n.toNatClampNeg))) := by rw [← hT]; rfl
  have hrep : sRep D base (pcp h a0 sp.toNatClampNeg a dp.toNatClampNeg n.toNatClampNeg) s (H.setIfInBounds a (vp_cell (D.2.2 0) (pln h 0 a, .inl (va_cpy (pct h a0) (pct h a) sp.toNatClampNeg dp.toNatClampNeg n.toNatClampNeg)))) := by
    rw [show pcp h a0 sp.toNatClampNeg a dp.toNatClampNeg n.toNatClampNeg = pup h a (.inl (0, pln h 0 a, .inl (va_cpy (pct h a0) (pct h a) sp.toNatClampNeg dp.toNatClampNeg n.toNatClampNeg))) by rw [pcp, ha1]]
    refine hR.up hba ?_ (by simp) (fun q hq => by simp [Array.getElem?_setIfInBounds, Ne.symm hq])
    unfold sCell
    dsimp only
    rw [if_neg (by decide)]
    exact ⟨hty, by simp [Array.getElem?_setIfInBounds, hl]⟩
  obtain ⟨t, a1, b1⟩ := kk _ _ hba (fun q hq => by
      obtain ⟨z, -, hz⟩ := List.mem_map.mp hq
      rw [← hz]) hrep _ hheap X'
  exact ⟨t, step t a1, b1⟩
end
