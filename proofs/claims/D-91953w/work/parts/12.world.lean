/-! SOUNDNESS 2: the world (printed by mk12.py out of the names), and instructions on the heap -/
set_option maxRecDepth 100000
/-- the kinds of object, by number -/
def sCl (c : Nat) : Option vw_C := match c with
  | 1 => some (RX1, TX1, 23)
  | 2 => some (RX2, TX2, 1)
  | 3 => some (RX3, TX3, 52)
  | 4 => some (RX4, TX4, 6)
  | 6 => some (RX6, TX6, 6)
  | 7 => some (RX7, TX7, 7)
  | 9 => some (RX9, TX9, 3)
  | 10 => some (RX10, TX10, 2)
  | 11 => some (RX11, TX11, 2)
  | 12 => some (RX12, TX12, 2)
  | 13 => some (RX13, TX13, 4)
  | 15 => some (RX15, TX15, 1)
  | 17 => some (RX17, TX17, 1)
  | 18 => some (RX18, TX18, 1)
  | 19 => some (RX19, TX19, 3)
  | 20 => some (RX20, TX20, 3)
  | 21 => some (RX21, TX21, 3)
  | 22 => some (RX22, TX22, 3)
  | 23 => some (RX23, TX23, 12)
  | 24 => some (RX24, TX24, 10)
  | 25 => some (RX25, TX25, 7)
  | 26 => some (RJ4, TJ4, 0)
  | _ => none
def sTy (k : Nat) : Option FieldType := match k with
  | 0 => some .int
  | 1 => some .byte
  | 2 => some .boolean
  | 3 => some .long
  | 4 => some (.object RX4)
  | 5 => some (.object RX24)
  | 6 => some (.object RX25)
  | 7 => some (.object RX22)
  | _ => none
def sTf (c k : Nat) : FieldType := match c with
  | 1 => tyX1 k
  | 2 => tyX2 k
  | 3 => tyX3 k
  | 4 => tyX4 k
  | 6 => tyX6 k
  | 7 => tyX7 k
  | 9 => tyX9 k
  | 10 => tyX10 k
  | 11 => tyX11 k
  | 12 => tyX12 k
  | 13 => tyX13 k
  | 15 => tyX15 k
  | 17 => tyX17 k
  | 18 => tyX18 k
  | 19 => tyX19 k
  | 20 => tyX20 k
  | 21 => tyX21 k
  | 22 => tyX22 k
  | 23 => tyX23 k
  | 24 => tyX24 k
  | 25 => tyX25 k
  | _ => .int
theorem sIn : ∀ (c : Nat) (r : vw_C), sCl c = some r → ∀ w ∈ u_ws r.1 r.2.1 r.2.2, w ∈ lw_all := by
  intro c r h
  unfold sCl at h
  split at h <;> cases h
  · exact in_X1
  · exact in_X2
  · exact in_X3
  · exact in_X4
  · exact in_X6
  · exact in_X7
  · exact in_X9
  · exact in_X10
  · exact in_X11
  · exact in_X12
  · exact in_X13
  · exact in_X15
  · exact in_X17
  · exact in_X18
  · exact in_X19
  · exact in_X20
  · exact in_X21
  · exact in_X22
  · exact in_X23
  · exact in_X24
  · exact in_X25
  · intro w hw; cases hw
theorem sTf_ok : ∀ (c : Nat) (r : vw_C), sCl c = some r → ∀ k, k < r.2.2 → parseFieldDescriptor (r.2.1 k).2.2.1 = some (sTf c k) := by
  intro c r h
  unfold sCl at h
  split at h <;> cases h
  · exact tyX1_ok
  · exact tyX2_ok
  · exact tyX3_ok
  · exact tyX4_ok
  · exact tyX6_ok
  · exact tyX7_ok
  · exact tyX9_ok
  · exact tyX10_ok
  · exact tyX11_ok
  · exact tyX12_ok
  · exact tyX13_ok
  · exact tyX15_ok
  · exact tyX17_ok
  · exact tyX18_ok
  · exact tyX19_ok
  · exact tyX20_ok
  · exact tyX21_ok
  · exact tyX22_ok
  · exact tyX23_ok
  · exact tyX24_ok
  · exact tyX25_ok
  · intro k hk; cases hk
theorem sDf_ok : ∀ (c : Nat) (r : vw_C), sCl c = some r → (pDF.getD c []).length = r.2.2 ∧ ∀ k, k < r.2.2 → defaultValue (sTf c k) = vp_V (pDF.getD c []) k := by
  intro c r h
  unfold sCl at h
  split at h <;> cases h <;> exact ⟨rfl, by decide +kernel⟩
/-- class numbers, slots of fields, numbers of array classes -/
abbrev sD : Type := (Nat → ClassId) × (Nat → Nat → Nat) × (Nat → ClassId)
def sCell (D : sD) (U : State) (a : Nat) (e : va_E) (H : Heap) : Prop := match e with
  | .inl (k, n, x) => if k = 9 then ∃ f, x = .inl f ∧ va_X a n f U H else (∃ ty, sTy k = some ty) ∧ H[a]? = some (vp_cell (D.2.2 k) (n, x))
  | .inr (c, fs) => ∃ r, sCl c = some r ∧ fs.length = r.2.2 ∧ t_OB a (D.1 c) r.2.2 (D.2.1 c) H (vp_V fs)
theorem sCell.kept {D : sD} {U : State} {a : Nat} {e : va_E} {H H' : Heap} (h : sCell D U a e H) (hq : H'[a]? = H[a]?) : sCell D U a e H' := by
  cases e with
  | inl x =>
    obtain ⟨k, n, x⟩ := x
    unfold sCell at h ⊢
    dsimp only at h ⊢
    by_cases hk : k = 9
    · rw [if_pos hk] at h ⊢
      obtain ⟨f, h1, h2⟩ := h
      exact ⟨f, h1, h2.kept hq⟩
    · rw [if_neg hk] at h ⊢
      exact ⟨h.1, hq.trans h.2⟩
  | inr x =>
    obtain ⟨r, h1, h2, h3⟩ := h
    exact ⟨r, h1, h2, h3.kept hq⟩
theorem sCell.moved {D : sD} {U U' : State} {a : Nat} {e : va_E} {H : Heap} (hvm : U.vm.Alike U'.vm) (h : sCell D U a e H) : sCell D U' a e H := by
  cases e with
  | inl x =>
    obtain ⟨k, n, x⟩ := x
    unfold sCell at h ⊢
    dsimp only at h ⊢
    by_cases hk : k = 9
    · rw [if_pos hk] at h ⊢
      obtain ⟨f, h1, scr, g1, g2, g3⟩ := h
      exact ⟨f, h1, scr, g1, State.isArrayOf_alike hvm g2, g3⟩
    · rw [if_neg hk] at h ⊢
      exact h
  | inr x => exact h
theorem sCell.lt {D : sD} {U : State} {a : Nat} {e : va_E} {H : Heap} (h : sCell D U a e H) : a < H.size := by
  cases e with
  | inl x =>
    obtain ⟨k, n, x⟩ := x
    unfold sCell at h
    dsimp only at h
    by_cases hk : k = 9
    · rw [if_pos hk] at h
      obtain ⟨f, h1, scr, g1, g2⟩ := h
      exact (Array.getElem?_eq_some_iff.mp g1).1
    · rw [if_neg hk] at h
      exact (Array.getElem?_eq_some_iff.mp h.2).1
  | inr x =>
    obtain ⟨r, h1, h2, cell, h3, -⟩ := h
    exact (Array.getElem?_eq_some_iff.mp h3).1
/-- a static of Throwable stays what it is: nobody writes below base -/
def sSq (base : Nat) (n d : String) (U : State) (H : Heap) : Prop := ∃ (c : ClassId) (k : Class) (i : Nat) (f : Field) (a : Nat) (cell : Cell), U.vm.findClass "java/lang/Throwable" = some c ∧ U.fieldFound? "java/lang/Throwable" n d = some (c, k, i, f) ∧ f.isStatic = true ∧ k.init = .initialized ∧ k.statics = some a ∧ H[a]? = some cell ∧ cell.vm.isStatics = true ∧ cell.cls = c ∧ f.slot < cell.slots.size ∧ k.staticTypes[f.slot]? = some f.type ∧ (cell.slots[f.slot]? = some .null ∨ ∃ t, cell.slots[f.slot]? = some (.ref t)) ∧ ¬ base ≤ a
theorem sSq.moved {base : Nat} {n d : String} {U U' : State} {H : Heap} (hvm : U.vm.Alike U'.vm) (h : sSq base n d U H) : sSq base n d U' H := by
  obtain ⟨c, k, i, f, a, cell, h0, h1, h2, h3, h4, h5, h6, h7, h8, h9, h10⟩ := h
  obtain ⟨k', hi', he⟩ := State.fieldFound?_setVm hvm h1
  exact ⟨c, k', i, f, a, cell, by rw [hvm.findClass]; exact h0, hi', h2, by rw [he]; exact h3, by rw [he]; exact h4, h5, h6, h7, h8, by rw [he]; exact h9, h10⟩
theorem sSq.kept {base : Nat} {n d : String} {U : State} {H H' : Heap} (h : sSq base n d U H) (hq : ∀ a : Nat, a < H.size → ¬ base ≤ a → H'[a]? = H[a]?) : sSq base n d U H' := by
  obtain ⟨c, k, i, f, a, cell, h0, h1, h2, h3, h4, h5, h6, h7, h8, h9, h10, h11⟩ := h
  exact ⟨c, k, i, f, a, cell, h0, h1, h2, h3, h4, by rw [hq a (Array.getElem?_eq_some_iff.mp h5).1 h11]; exact h5, h6, h7, h8, h9, h10, h11⟩
/-- the two statics of Throwable -/
def sSt (base : Nat) (U : State) (H : Heap) : Prop := sSq base "UNASSIGNED_STACK" "[Ljava/lang/StackTraceElement;" U H ∧ sSq base "SUPPRESSED_SENTINEL" "Ljava/util/List;" U H
theorem sSt.moved {base : Nat} {U U' : State} {H : Heap} (hvm : U.vm.Alike U'.vm) (h : sSt base U H) : sSt base U' H := ⟨h.1.moved hvm, h.2.moved hvm⟩
theorem sSt.kept {base : Nat} {U : State} {H H' : Heap} (h : sSt base U H) (hq : ∀ a : Nat, a < H.size → ¬ base ≤ a → H'[a]? = H[a]?) : sSt base U H' := ⟨h.1.kept hq, h.2.kept hq⟩
/-- the heap of the machine holds the pure heap -/
def sRep (D : sD) (base : Nat) (h : pH) (U : State) (H : Heap) : Prop := H.size = h.2.1 ∧ base ≤ h.2.1 ∧ (∀ (a : Nat) (e : va_E), h.1 a = some e → sCell D U a e H ∧ (base ≤ a ∨ ∃ n x, e = .inl (9, n, x))) ∧ sSt base U H
theorem sRep.moved {D : sD} {base : Nat} {h : pH} {U U' : State} {H : Heap} (hvm : U.vm.Alike U'.vm) (hR : sRep D base h U H) : sRep D base h U' H := ⟨hR.1, hR.2.1, fun a e he => ⟨(hR.2.2.1 a e he).1.moved hvm, (hR.2.2.1 a e he).2⟩, hR.2.2.2.moved hvm⟩
theorem sRep.up {D : sD} {base : Nat} {h : pH} {U : State} {H H' : Heap} {a : Nat} {e : va_E} (hR : sRep D base h U H) (hb : base ≤ a) (hnew : sCell D U a e H') (hsz : H'.size = H.size) (ho : ∀ q, q ≠ a → H'[q]? = H[q]?) : sRep D base (pup h a e) U H' := by
  refine ⟨hsz.trans hR.1, hR.2.1, fun q x hx => ?_, hR.2.2.2.kept (fun q _ hq => ho q (fun he => hq (he ▸ hb)))⟩
  by_cases hq : q = a
  · subst hq
    rw [show (pup h q e).1 q = some e by simp [pup]] at hx
    cases hx
    exact ⟨hnew, Or.inl hb⟩
  · rw [show (pup h a e).1 q = h.1 q by simp [pup, hq]] at hx
    exact ⟨(hR.2.2.1 q x hx).1.kept (ho q hq), (hR.2.2.1 q x hx).2⟩
theorem sRep.nw {D : sD} {base : Nat} {h : pH} {U : State} {H H' : Heap} {e : va_E} {n : Nat} (hR : sRep D base h U H) (hnew : sCell D U h.2.1 e H') (hsz : H'.size = h.2.1 + 1) (ho : ∀ q, q < h.2.1 → H'[q]? = H[q]?) : sRep D base (pnw h e n) U H' := by
  refine ⟨hsz, Nat.le_succ_of_le hR.2.1, fun q x hx => ?_, hR.2.2.2.kept (fun q hq _ => ho q (by rw [← hR.1]; exact hq))⟩
  by_cases hq : q = h.2.1
  · subst hq
    rw [show (pnw h e n).1 h.2.1 = some e by simp [pnw]] at hx
    cases hx
    exact ⟨hnew, Or.inl hR.2.1⟩
  · rw [show (pnw h e n).1 q = h.1 q by simp [pnw, hq]] at hx
    have hc := hR.2.2.1 q x hx
    exact ⟨hc.1.kept (ho q (by rw [← hR.1]; exact hc.1.lt)), hc.2⟩
/-- what is known of the tables -/
def sKn (D : sD) (nw : List Cond) (ao : List String) (U : State) : Prop := (∀ c r, sCl c = some r → u_Kn U r.1 r.2.1 r.2.2 (D.1 c) (D.2.1 c)) ∧ (∀ k ty, sTy k = some ty → ArrOfT U (D.2.2 k) ty ∧ va_RA U (D.2.2 k) ty) ∧ (∀ w ∈ nw, va_Nw w U) ∧ ∀ C ∈ ao, va_AO C U
section
variable {p : Program} {l : Launch} {e : Env} {R : Room} {s : State} {m : MethodId} {args : Array Value} {below : List Frame} {meth : Method} {c : Code} {H : Heap} {locs : List Loc} {cells slots : Nat} {Q : State → Prop} {cc : ByteArray}
variable {D : sD} {base : Nat} {h : pH} {nw : List Cond} {ao : List String} {pc : Nat} {ls : Array Slot} {rest : List Value}
theorem pin_in {i : Int32} {n : Nat} (h : pin i n = true) : vp_in i n := by
  simp only [pin, Bool.and_eq_true, decide_eq_true_eq] at h
  intro q
  rcases q with q | q
  · have h1 := h.1
    rw [Int32.le_iff_toInt_le] at h1
    rw [Int32.lt_iff_toInt_lt] at q
    omega
  · omega
/-- an int array of a kind -/
theorem pln_some {k a n : Nat} (hn : 0 < n) (h1 : pln h k a = n) : h.1 a = some (.inl (k, n, .inl (pct h a))) := by
  unfold pln at h1
  split at h1
  · rename_i k' m f hc
    by_cases hk : k' = k
    · rw [if_pos hk] at h1
      subst hk; subst h1
      rw [hc]; simp [pct, hc]
    · rw [if_neg hk] at h1; omega
  · omega
theorem pin_pos {i : Int32} {n : Nat} (h : pin i n = true) : 0 < n := by
  simp only [pin, Bool.and_eq_true, decide_eq_true_eq] at h
  omega
theorem sRep.arr {k a n : Nat} {x} (hR : sRep D base h s H) (ha : h.1 a = some (.inl (k, n, x))) (hk : k ≠ 9) : (∃ ty, sTy k = some ty) ∧ H[a]? = some (vp_cell (D.2.2 k) (n, x)) ∧ base ≤ a := by
  have hc := hR.2.2.1 _ _ ha
  have h1 := hc.1
  unfold sCell at h1
  dsimp only at h1
  rw [if_neg hk] at h1
  refine ⟨h1.1, h1.2, ?_⟩
  rcases hc.2 with h2 | ⟨n', x', h2⟩
  · exact h2
  · cases h2; exact absurd rfl hk
theorem sW_iald {a : Nat} {i : Int32} (hx : p.tables.exec = Jvm.exec) (hb : c.code = cc) (hK : sKn D nw ao s) (hR : sRep D base h s H) (hin : (pin i (pln h 0 a) || pin i (pln h 9 a)) = true) (hdg : decode cc pc = .ok (.iaload, 1))
    (kk : W p l e R s m args below meth c H locs cells slots Q (F0 m (pc + 1) ls (.int (pct h a i.toNatClampNeg) :: rest))) : W p l e R s m args below meth c H locs cells slots Q (F0 m pc ls (.int i :: .ref a :: rest)) := by
  rw [Bool.or_eq_true] at hin
  rcases hin with hin | hin
  · have ha := pln_some (pin_pos hin) rfl
    obtain ⟨-, hc, -⟩ := hR.arr ha (by decide)
    have hv := pin_in hin
    have hlt : i.toNatClampNeg < pln h 0 a := Nat.not_le.mp fun q => hv (Or.inr q)
    exact W.iald (v := .int (pct h a i.toNatClampNeg)) hx hb hc ((hK.2.1 0 _ rfl).1 _ (fun j => .int (pct h a j))) (fun q => by cases q) (by show ¬ (i < 0 ∨ (arrV _ _ _).slots.size ≤ _); rw [arrV_size]; exact hv) (by show (arrV _ _ _).slots[_]? = _; rw [arrV_read _ _ hlt]) rfl rfl hdg kk
  · have ha := pln_some (pin_pos hin) rfl
    have hc := (hR.2.2.1 _ _ ha).1
    unfold sCell at hc
    dsimp only at hc
    rw [if_pos rfl] at hc
    obtain ⟨f, hf, scr, g1, g2, g3, g4, g5⟩ := hc
    cases hf
    have hv := pin_in hin
    have hlt : i.toNatClampNeg < pln h 9 a := Nat.not_le.mp fun q => hv (Or.inr q)
    exact W.iald (v := .int (pct h a i.toNatClampNeg)) hx hb g1 g2 g3 (by rw [g4]; exact hv) (g5 _ hlt) rfl rfl hdg kk
theorem sW_bald {a : Nat} {i : Int32} (hx : p.tables.exec = Jvm.exec) (hb : c.code = cc) (hK : sKn D nw ao s) (hR : sRep D base h s H) (hin : (pin i (pln h 1 a) || pin i (pln h 2 a)) = true) (hdg : decode cc pc = .ok (.baload, 1))
    (kk : W p l e R s m args below meth c H locs cells slots Q (F0 m (pc + 1) ls (.int (pct h a i.toNatClampNeg) :: rest))) : W p l e R s m args below meth c H locs cells slots Q (F0 m pc ls (.int i :: .ref a :: rest)) := by
  rw [Bool.or_eq_true] at hin
  rcases hin with hin | hin
  · have ha := pln_some (pin_pos hin) rfl
    obtain ⟨-, hc, -⟩ := hR.arr ha (by decide)
    have hv := pin_in hin
    have hlt : i.toNatClampNeg < pln h 1 a := Nat.not_le.mp fun q => hv (Or.inr q)
    exact W.bald (v := .int (pct h a i.toNatClampNeg)) hx hb hc ((hK.2.1 1 _ rfl).1 _ (fun j => .int (pct h a j))) (fun q => by cases q) (by show ¬ (i < 0 ∨ (arrV _ _ _).slots.size ≤ _); rw [arrV_size]; exact hv) (by show (arrV _ _ _).slots[_]? = _; rw [arrV_read _ _ hlt]) rfl rfl hdg kk
  · have ha := pln_some (pin_pos hin) rfl
    obtain ⟨-, hc, -⟩ := hR.arr ha (by decide)
    have hv := pin_in hin
    have hlt : i.toNatClampNeg < pln h 2 a := Nat.not_le.mp fun q => hv (Or.inr q)
    exact W.zald (v := .int (pct h a i.toNatClampNeg)) hx hb hc ((hK.2.1 2 _ rfl).1 _ (fun j => .int (pct h a j))) (fun q => by cases q) (by show ¬ (i < 0 ∨ (arrV _ _ _).slots.size ≤ _); rw [arrV_size]; exact hv) (by show (arrV _ _ _).slots[_]? = _; rw [arrV_read _ _ hlt]) rfl rfl hdg kk
theorem pst_some {k a n i : Nat} {f : Nat → Int32} {x : Int32} (ha : h.1 a = some (.inl (k, n, .inl f))) : pst h a i x = pup h a (.inl (k, n, .inl (upd f i x))) := by simp [pst, ha]
theorem sW_iast {a : Nat} {i x : Int32} (hx : p.tables.exec = Jvm.exec) (hb : c.code = cc) (hK : sKn D nw ao s) (hR : sRep D base h s H) (hin : pin i (pln h 0 a) = true) (hdg : decode cc pc = .ok (.iastore, 1))
    (kk : ∀ H' z, base ≤ a → sRep D base (pst h a i.toNatClampNeg x) s H' → W p l e R s m args below meth c H' (locs ++ [⟨a, z⟩]) cells slots Q (F0 m (pc + 1) ls rest)) : W p l e R s m args below meth c H locs cells slots Q (F0 m pc ls (.int x :: .int i :: .ref a :: rest)) := by
  have ha := pln_some (pin_pos hin) rfl
  obtain ⟨hty, hc, hba⟩ := hR.arr ha (by decide)
  have hv := pin_in hin
  refine W.iast hx hb hc ((hK.2.1 0 _ rfl).1 _ (fun j => .int (pct h a j))) (fun q => by cases q) (by show ¬ (i < 0 ∨ (arrV _ _ _).slots.size ≤ _); rw [arrV_size]; exact hv) rfl rfl hdg fun H1 e1 z oq => ?_
  refine kk H1 _ hba ?_
  rw [pst_some ha]
  refine hR.up hba ?_ z oq
  unfold sCell
  dsimp only
  rw [if_neg (by decide)]
  refine ⟨hty, ?_⟩
  rw [e1, vp_cell_i, vp_cell_i, arrV_store]
  congr 2
  funext q
  by_cases hq : q = i.toNatClampNeg
  · subst hq; simp [updV, upd]
  · simp [updV, upd, hq]
end
