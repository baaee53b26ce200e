/-! SOUNDNESS 3: the other instructions on the heap -/
set_option maxRecDepth 100000
/-- a field that is named (ref, name, desc) is the k-th of every kind that may stand for F -/
def sFk (F k : Nat) (ref name desc : String) : Prop := ∀ c r, pok F c = true → sCl c = some r → k < r.2.2 → (r.2.1 k).2.1 = name ∧ (r.2.1 k).2.2.1 = desc ∧ ((r.2.1 k).1 = ref ∨ Cond.sameField ref (r.2.1 k).1 name desc ∈ lw_all)
def sLk (nw : List Cond) (own : String) (idx : Nat) (ref name desc : String) : Prop := Cond.fieldLink own idx ref name desc ∈ lw_all ∨ ∃ host, Cond.fieldLinkNest own idx ref name desc host ∈ nw
section
variable {p : Program} {l : Launch} {e : Env} {R : Room} {s : State} {m : MethodId} {args : Array Value} {below : List Frame} {meth : Method} {c : Code} {H : Heap} {locs : List Loc} {cells slots : Nat} {Q : State → Prop} {cc : ByteArray}
variable {D : sD} {base : Nat} {h : pH} {nw : List Cond} {ao : List String} {pc : Nat} {ls : Array Slot} {rest : List Value}
theorem sW_bast {a : Nat} {i x : Int32} (hx : p.tables.exec = Jvm.exec) (hb : c.code = cc) (hK : sKn D nw ao s) (hR : sRep D base h s H) (hin : pin i (pln h 1 a) = true) (hdg : decode cc pc = .ok (.bastore, 1))
    (kk : ∀ H' z, base ≤ a → sRep D base (pst h a i.toNatClampNeg x.toInt8.toInt32) s H' → W p l e R s m args below meth c H' (locs ++ [⟨a, z⟩]) cells slots Q (F0 m (pc + 1) ls rest)) : W p l e R s m args below meth c H locs cells slots Q (F0 m pc ls (.int x :: .int i :: .ref a :: rest)) := by
  have ha := pln_some (pin_pos hin) rfl
  obtain ⟨hty, hc, hba⟩ := hR.arr ha (by decide)
  have hv := pin_in hin
  refine W.bast hx hb hc ((hK.2.1 1 _ rfl).1 _ (fun j => .int (pct h a j))) (fun q => by cases q) (by show ¬ (i < 0 ∨ (arrV _ _ _).slots.size ≤ _); rw [arrV_size]; exact hv) rfl rfl hdg fun H1 e1 z oq => ?_
  refine kk H1 _ hba ?_
  rw [pst_some ha]
  refine hR.up hba ?_ z oq
  unfold sCell
  dsimp only
  rw [if_neg (by decide)]
  refine ⟨hty, ?_⟩
  rw [e1, vp_cell_i, vp_cell_i, arrV_store]
  congr 2
  funext q
  by_cases hq : q = i.toNatClampNeg
  · subst hq; simp [updV, upd, narrow]
  · simp [updV, upd, hq]
theorem sW_zast {a : Nat} {i x : Int32} (hx : p.tables.exec = Jvm.exec) (hb : c.code = cc) (hK : sKn D nw ao s) (hR : sRep D base h s H) (hin : pin i (pln h 2 a) = true) (h01 : (x == 0 || x == 1) = true) (hdg : decode cc pc = .ok (.bastore, 1))
    (kk : ∀ H' z, base ≤ a → sRep D base (pst h a i.toNatClampNeg x) s H' → W p l e R s m args below meth c H' (locs ++ [⟨a, z⟩]) cells slots Q (F0 m (pc + 1) ls rest)) : W p l e R s m args below meth c H locs cells slots Q (F0 m pc ls (.int x :: .int i :: .ref a :: rest)) := by
  have ha := pln_some (pin_pos hin) rfl
  obtain ⟨hty, hc, hba⟩ := hR.arr ha (by decide)
  have hv := pin_in hin
  refine W.zast hx hb hc ((hK.2.1 2 _ rfl).1 _ (fun j => .int (pct h a j))) (fun q => by cases q) (by show ¬ (i < 0 ∨ (arrV _ _ _).slots.size ≤ _); rw [arrV_size]; exact hv) rfl rfl hdg fun H1 e1 z oq => ?_
  refine kk H1 _ hba ?_
  rw [pst_some ha]
  refine hR.up hba ?_ z oq
  unfold sCell
  dsimp only
  rw [if_neg (by decide)]
  refine ⟨hty, ?_⟩
  rw [e1, vp_cell_i, vp_cell_i, arrV_store]
  congr 2
  funext q
  by_cases hq : q = i.toNatClampNeg
  · subst hq
    simp only [Bool.or_eq_true, beq_iff_eq] at h01
    rcases h01 with rfl | rfl <;> (simp [updV, upd]; try rfl)
  · simp [updV, upd, hq]
theorem plnL_some {a n : Nat} (hn : 0 < n) (h1 : plnL h a = n) : h.1 a = some (.inl (3, n, .inr (.inl (pctL h a)))) := by
  unfold plnL at h1
  split at h1
  · rename_i k' m f hc
    by_cases hk : k' = 3
    · rw [if_pos hk] at h1
      subst hk; subst h1
      rw [hc]; simp [pctL, hc]
    · rw [if_neg hk] at h1; omega
  · omega
theorem sW_lald {a : Nat} {i : Int32} (hx : p.tables.exec = Jvm.exec) (hb : c.code = cc) (hK : sKn D nw ao s) (hR : sRep D base h s H) (hin : pin i (plnL h a) = true) (hdg : decode cc pc = .ok (.laload, 1))
    (kk : W p l e R s m args below meth c H locs cells slots Q (F0 m (pc + 1) ls (.long (pctL h a i.toNatClampNeg) :: rest))) : W p l e R s m args below meth c H locs cells slots Q (F0 m pc ls (.int i :: .ref a :: rest)) := by
  have ha := plnL_some (pin_pos hin) rfl
  obtain ⟨-, hc, -⟩ := hR.arr ha (by decide)
  have hv := pin_in hin
  have hlt : i.toNatClampNeg < plnL h a := Nat.not_le.mp fun q => hv (Or.inr q)
  exact W.lald (v := .long (pctL h a i.toNatClampNeg)) hx hb hc ((hK.2.1 3 _ rfl).1 _ (fun j => .long (pctL h a j))) (fun q => by cases q) (by show ¬ (i < 0 ∨ (arrV _ _ _).slots.size ≤ _); rw [arrV_size]; exact hv) (by show (arrV _ _ _).slots[_]? = _; rw [arrV_read _ _ hlt]) rfl rfl hdg kk
theorem sW_last {a : Nat} {i : Int32} {x : Int64} (hx : p.tables.exec = Jvm.exec) (hb : c.code = cc) (hK : sKn D nw ao s) (hR : sRep D base h s H) (hin : pin i (plnL h a) = true) (hdg : decode cc pc = .ok (.lastore, 1))
    (kk : ∀ H' z, base ≤ a → sRep D base (pstL h a i.toNatClampNeg x) s H' → W p l e R s m args below meth c H' (locs ++ [⟨a, z⟩]) cells slots Q (F0 m (pc + 1) ls rest)) : W p l e R s m args below meth c H locs cells slots Q (F0 m pc ls (.long x :: .int i :: .ref a :: rest)) := by
  have ha := plnL_some (pin_pos hin) rfl
  obtain ⟨hty, hc, hba⟩ := hR.arr ha (by decide)
  have hv := pin_in hin
  refine W.last hx hb hc ((hK.2.1 3 _ rfl).1 _ (fun j => .long (pctL h a j))) (fun q => by cases q) (by show ¬ (i < 0 ∨ (arrV _ _ _).slots.size ≤ _); rw [arrV_size]; exact hv) rfl rfl hdg fun H1 e1 z oq => ?_
  refine kk H1 _ hba ?_
  rw [show pstL h a i.toNatClampNeg x = pup h a (.inl (3, plnL h a, .inr (.inl (vp_updL (pctL h a) i.toNatClampNeg x)))) by unfold pstL; rw [ha]]
  refine hR.up hba ?_ z oq
  unfold sCell
  dsimp only
  rw [if_neg (by decide)]
  refine ⟨hty, ?_⟩
  rw [e1, vp_cell_l, vp_cell_l, arrV_store]
  congr 2
  funext q
  by_cases hq : q = i.toNatClampNeg
  · subst hq; simp [updV, vp_updL]
  · simp [updV, vp_updL, hq]
theorem plnQ_some {a n : Nat} (hn : 0 < n) (h1 : plnQ h a = n) : h.1 a = some (.inl (pkdQ h a, n, .inr (.inr (.inr (.inr (pctQ h a)))))) ∧ 4 ≤ pkdQ h a ∧ pkdQ h a ≤ 7 := by
  unfold plnQ at h1
  split at h1
  · rename_i k' m f hc
    by_cases hk : 4 ≤ k' ∧ k' ≤ 7
    · rw [if_pos hk] at h1
      subst h1
      refine ⟨by rw [hc]; simp [pctQ, pkdQ, hc], ?_⟩
      simp only [pkdQ, hc]; exact hk
    · rw [if_neg hk] at h1; omega
  · omega
theorem sTy_ref {k : Nat} (h1 : 4 ≤ k) (h2 : k ≤ 7) : ∃ r, sTy k = some (.object r.1) ∧ sCl (pel k) = some r := by
  rcases (show k = 4 ∨ k = 5 ∨ k = 6 ∨ k = 7 by omega) with rfl | rfl | rfl | rfl
  · exact ⟨_, rfl, rfl⟩
  · exact ⟨_, rfl, rfl⟩
  · exact ⟨_, rfl, rfl⟩
  · exact ⟨_, rfl, rfl⟩
theorem sW_aald {a : Nat} {i : Int32} (hx : p.tables.exec = Jvm.exec) (hb : c.code = cc) (hK : sKn D nw ao s) (hR : sRep D base h s H) (hin : pin i (plnQ h a) = true) (hdg : decode cc pc = .ok (.aaload, 1))
    (kk : W p l e R s m args below meth c H locs cells slots Q (F0 m (pc + 1) ls (va_rf (pctQ h a i.toNatClampNeg) :: rest))) : W p l e R s m args below meth c H locs cells slots Q (F0 m pc ls (.int i :: .ref a :: rest)) := by
  obtain ⟨ha, h4, h7⟩ := plnQ_some (pin_pos hin) rfl
  obtain ⟨-, hc, -⟩ := hR.arr ha (by omega)
  obtain ⟨r, ht, -⟩ := sTy_ref h4 h7
  have hv := pin_in hin
  have hlt : i.toNatClampNeg < plnQ h a := Nat.not_le.mp fun q => hv (Or.inr q)
  exact W.aald (v := va_rf (pctQ h a i.toNatClampNeg)) (ty := .object r.1) hx hb hc ((hK.2.1 _ _ ht).1 _ (fun j => va_rf (pctQ h a j))) rfl (fun q => by cases q) (by show ¬ (i < 0 ∨ (arrV _ _ _).slots.size ≤ _); rw [arrV_size]; exact hv) (by show (arrV _ _ _).slots[_]? = _; rw [arrV_read _ _ hlt]) rfl rfl hdg kk
theorem sRep.obj {a k : Nat} {fs : List Value} (hR : sRep D base h s H) (ha : h.1 a = some (.inr (k, fs))) : (∃ r, sCl k = some r ∧ fs.length = r.2.2 ∧ t_OB a (D.1 k) r.2.2 (D.2.1 k) H (vp_V fs)) ∧ base ≤ a := by
  have hc := hR.2.2.1 _ _ ha
  refine ⟨hc.1, ?_⟩
  rcases hc.2 with h2 | ⟨n', x', h2⟩
  · exact h2
  · cases h2
theorem pcl_some {a k : Nat} (hk : pcl h a = k) (h9 : k ≠ 99) : ∃ fs, h.1 a = some (.inr (k, fs)) := by
  unfold pcl at hk
  split at hk
  · rename_i c0 fs hc
    subst hk
    exact ⟨fs, hc⟩
  · exact absurd hk.symm h9
theorem pel_99 {k : Nat} (h4 : 4 ≤ k) (h7 : k ≤ 7) : pel k ≠ 99 := by
  rcases (show k = 4 ∨ k = 5 ∨ k = 6 ∨ k = 7 by omega) with rfl | rfl | rfl | rfl <;> decide
theorem sW_aast {a v : Nat} {i : Int32} (hx : p.tables.exec = Jvm.exec) (hb : c.code = cc) (hK : sKn D nw ao s) (hR : sRep D base h s H) (hin : (pin i (plnQ h a) && pcl h v == pel (pkdQ h a)) = true) (hdg : decode cc pc = .ok (.aastore, 1))
    (kk : ∀ H' z, base ≤ a → sRep D base (pstQ h a i.toNatClampNeg (some v)) s H' → W p l e R s m args below meth c H' (locs ++ [⟨a, z⟩]) cells slots Q (F0 m (pc + 1) ls rest)) : W p l e R s m args below meth c H locs cells slots Q (F0 m pc ls (.ref v :: .int i :: .ref a :: rest)) := by
  simp only [Bool.and_eq_true, beq_iff_eq] at hin
  obtain ⟨hin, hcv⟩ := hin
  obtain ⟨ha, h4, h7⟩ := plnQ_some (pin_pos hin) rfl
  obtain ⟨hty, hc, hba⟩ := hR.arr ha (by omega)
  obtain ⟨r, ht, hr⟩ := sTy_ref h4 h7
  have hv := pin_in hin
  have hlt : i.toNatClampNeg < plnQ h a := Nat.not_le.mp fun q => hv (Or.inr q)
  have h0 : ¬ i < 0 := fun q => hv (Or.inl q)
  obtain ⟨fs, hfs⟩ := pcl_some hcv (pel_99 h4 h7)
  obtain ⟨⟨r', hr', -, cellV, g1, g2, g3, -⟩, -⟩ := hR.obj hfs
  cases hr.symm.trans hr'
  have hcls := (hK.1 _ r hr).2
  obtain ⟨kA, comp, k1, k2, k3, -⟩ := (hK.2.1 _ _ ht).2
  have hcomp : comp = D.1 (pel (pkdQ h a)) := Option.some.inj (k3.symm.trans hcls.1)
  subst hcomp
  obtain ⟨kC, hkC, -⟩ := hcls.2
  refine W.aast hx hb hc (fun q h => by cases h) (fun h => by cases h) k1 k2 rfl hkC ⟨h0, by show _ < (arrV _ _ _).slots.size; rw [arrV_size]; exact hlt⟩ g1 (fun q h => by rw [g3] at h; cases h) (by rw [g2]; exact hkC) (by rw [g2]; exact va_assign hcls) rfl rfl hdg fun H1 e1 z oq => ?_
  refine kk H1 _ hba ?_
  rw [show pstQ h a i.toNatClampNeg (some v) = pup h a (.inl (pkdQ h a, plnQ h a, .inr (.inr (.inr (.inr (va_up (pctQ h a) i.toNatClampNeg (some v))))))) by rw [pstQ, ha]]
  refine hR.up hba ?_ z oq
  unfold sCell
  dsimp only
  rw [if_neg (show ¬ pkdQ h a = 9 by omega)]
  refine ⟨hty, ?_⟩
  rw [e1, vp_cell_q, vp_cell_q, arrV_store]
  congr 2
  funext q
  by_cases hq : q = i.toNatClampNeg
  · subst hq; simp [updV, va_up, va_rf]
  · simp [updV, va_up, hq]
theorem sW_alen {a n k : Nat} {f : Nat → Int32} (hx : p.tables.exec = Jvm.exec) (hb : c.code = cc) (hK : sKn D nw ao s) (hR : sRep D base h s H) (ha : h.1 a = some (.inl (k, n, .inl f))) (hk : k = 0 ∨ k = 9) (hdg : decode cc pc = .ok (.arraylength, 1))
    (kk : W p l e R s m args below meth c H locs cells slots Q (F0 m (pc + 1) ls (.int (Int32.ofNat n) :: rest))) : W p l e R s m args below meth c H locs cells slots Q (F0 m pc ls (.ref a :: rest)) := by
  rcases hk with rfl | rfl
  · obtain ⟨-, hc, -⟩ := hR.arr ha (by decide)
    exact W.alen hx hb hc ((hK.2.1 0 _ rfl).1 n (fun j => .int (f j))) (by rw [vp_cell_i, arrV_size]) rfl rfl hdg kk
  · have hc := (hR.2.2.1 _ _ ha).1
    unfold sCell at hc
    dsimp only at hc
    rw [if_pos rfl] at hc
    obtain ⟨f', hf, scr, g1, g2, g3, g4, g5⟩ := hc
    exact W.alen hx hb g1 g2 (by rw [g4]) rfl rfl hdg kk
/-- a field's value stands in an object of a fitting kind -/
theorem pfl_some {F a k : Nat} (hv : pis (pfl h F a k) = true) : ∃ c fs, h.1 a = some (.inr (c, fs)) ∧ pok F c = true ∧ fs[k]? = some (pfl h F a k) := by
  unfold pfl at hv ⊢
  split at hv
  · rename_i c0 fs hc
    by_cases hF : pok F c0 = true
    · refine ⟨c0, fs, by assumption, hF, ?_⟩
      rw [if_pos hF] at hv
      have hk : k < fs.length := by
        rcases Nat.lt_or_ge k fs.length with q | q
        · exact q
        · rw [List.getD, List.getElem?_eq_none q] at hv; cases hv
      simp only [hc, hF, if_true]
      rw [List.getD, List.getElem?_eq_getElem hk]; rfl
    · rw [if_neg hF] at hv; cases hv
  · cases hv
theorem sSame {O ref name desc : String} (hts : ∀ w ∈ lw_all, w.before args s = true) (hr : O = ref ∨ Cond.sameField ref O name desc ∈ lw_all) : ∀ x, s.fieldFound? O name desc = some x → s.fieldFound? ref name desc = some x := by
  intro x hx
  rcases hr with rfl | hr
  · exact hx
  · exact u_same (hts _ hr) x hx
theorem sW_get {F k a idx : Nat} {own ref name desc : String} (hx : p.tables.exec = Jvm.exec) (hb : c.code = cc) (hts : ∀ w ∈ lw_all, w.before args s = true) (hown : s.vm.findClass own = some m.cls) (hK : sKn D nw ao s) (hR : sRep D base h s H) (hF : sFk F k ref name desc) (hl : sLk nw own idx ref name desc) (hv : pis (pfl h F a k) = true) (hdg : decode cc pc = .ok (.getfield idx, 3))
    (kk : W p l e R s m args below meth c H locs cells slots Q (F0 m (pc + 3) ls (pfl h F a k :: rest))) : W p l e R s m args below meth c H locs cells slots Q (F0 m pc ls (.ref a :: rest)) := by
  obtain ⟨c0, fs, ha, hpk, hfk⟩ := pfl_some hv
  obtain ⟨⟨r, hr, hlen, cell, q1, q2, q3, q4⟩, -⟩ := hR.obj ha
  have hkN : k < r.2.2 := by rw [← hlen]; exact (List.getElem?_eq_some_iff.mp hfk).1
  obtain ⟨hS, hfc, kC, hkC, hkind⟩ := hK.1 _ r hr
  obtain ⟨cf, kf, fi, f, hi, hsl⟩ := hS k hkN
  obtain ⟨n1, n2, n3⟩ := hF c0 r hpk hr hkN
  have hst := (u_facts hfc hkC (u_lays hts (sIn c0 r hr) hkN) hi).1
  rw [n1, n2] at hi
  have hslot : cell.slots[f.slot]? = some (pfl h F a k) := by
    rw [hsl, q4 k hkN]
    simp [vp_V, List.getD, hfk]
  rcases hl with hl | ⟨host, hl⟩
  · exact W.getf hx hb hown (hts _ hl) (sSame hts n3 _ hi) hst q1 (by rw [q3]; exact fun h => by cases h) hslot rfl rfl hdg kk
  · exact va_Wgetf hx hb hown (va_Nw.use rfl (hK.2.2.1 _ hl)) (sSame hts n3 _ hi) hst q1 (by rw [q3]; exact fun h => by cases h) hslot rfl rfl hdg kk
end
