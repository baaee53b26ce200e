/-! ONE EQUATION A KIND OF INSTRUCTION, for the printed rows -/
set_option maxRecDepth 100000
section
variable {M d pc n : Nat} {ls st : List Value} {h : pH}
theorem pR_L {i : Instr} {f' : pF} (hI : pins M pc = some (.inl i, n)) (ha : paL i n d M pc ls st h = pgo f') : pR M d pc ls st h = pRf f' := pRf_go (by simp only [pact, hI]; exact ha)
theorem pR_X {t a b : Nat} {l : List Nat} {f' : pF} (hI : pins M pc = some (.inr (t, a, b, l), n)) (ha : paX t a b l n d M pc ls st h = pgo f') : pR M d pc ls st h = pRf f' := pRf_go (by simp only [pact, hI]; exact ha)
theorem pR_E {i : Instr} {o : pO} (hI : pins M pc = some (.inl i, n)) (ha : paL i n d M pc ls st h = pend o) : pR M d pc ls st h = some o := pRf_end (by simp only [pact, hI]; exact ha)
theorem pR_Lif {i : Instr} {f' : pF} {b : Bool} (hI : pins M pc = some (.inl i, n)) (ha : paL i n d M pc ls st h = if b = true then pgo f' else none) : pR M d pc ls st h = if b = true then pRf f' else none := by
  cases b with
  | true => exact pR_L hI ha
  | false => exact pRf_none (by simp only [pact, hI]; exact ha)
theorem pR_Xif {t a b : Nat} {l : List Nat} {f' : pF} {c : Bool} (hI : pins M pc = some (.inr (t, a, b, l), n)) (ha : paX t a b l n d M pc ls st h = if c = true then pgo f' else none) : pR M d pc ls st h = if c = true then pRf f' else none := by
  cases c with
  | true => exact pR_X hI ha
  | false => exact pRf_none (by simp only [pact, hI]; exact ha)
/-- a branch, by a condition and its opposite -/
theorem pR_br {i : Instr} {f1 f2 : pF} {c : Prop} [Decidable c] {b : Bool} (hc : b = true ↔ c) (hI : pins M pc = some (.inl i, n)) (ha : paL i n d M pc ls st h = (match (if b = true then some f1.2.2 else some f2.2.2 : Option (Nat × List Value × List Value × pH)) with | some q => pgo (d, M, q.1, q.2.1, q.2.2.1, h) | none => none)) (h1 : f1 = (d, M, f1.2.2.1, f1.2.2.2.1, f1.2.2.2.2.1, h)) (h2 : f2 = (d, M, f2.2.2.1, f2.2.2.2.1, f2.2.2.2.2.1, h)) : pR M d pc ls st h = if c then pRf f1 else pRf f2 := by
  by_cases hb : b = true
  · rw [if_pos (hc.mp hb)]
    refine pR_L hI ?_
    rw [ha, if_pos hb]
    rw [h1]
  · rw [if_neg (fun q => hb (hc.mpr q))]
    refine pR_L hI ?_
    rw [ha, if_neg hb]
    rw [h2]
theorem pR_icmp {c : Jvm.ClassFile.Cond} {o : Int} {x y : Int32} (hI : pins M pc = some (.inl (.if_icmp c o), n)) : pR M d pc ls (.int y :: .int x :: st) h = if pcmp c x y = true then pR M d (pj pc o) ls st h else pR M d (pc + 3) ls st h := by
  by_cases hb : pcmp c x y = true
  · rw [if_pos hb]
    exact pR_L hI (by simp only [paL, pl, hb, if_true])
  · rw [if_neg hb]
    exact pR_L hI (by simp only [paL, pl, hb]; rfl)
theorem pR_ifc {c : Jvm.ClassFile.Cond} {o : Int} {x : Int32} (hI : pins M pc = some (.inl (.ifCond c o), n)) : pR M d pc ls (.int x :: st) h = if pcmp c x 0 = true then pR M d (pj pc o) ls st h else pR M d (pc + 3) ls st h := by
  by_cases hb : pcmp c x 0 = true
  · rw [if_pos hb]
    exact pR_L hI (by simp only [paL, pl, hb, if_true])
  · rw [if_neg hb]
    exact pR_L hI (by simp only [paL, pl, hb]; rfl)
theorem ite_sw {α : Type} {c c' : Prop} [Decidable c] [Decidable c'] {b : Bool} {A B : α} (hb : b = true ↔ ¬ c) : (if b = true then A else B) = if c then B else A := by
  by_cases h : c
  · rw [if_pos h, if_neg (fun q => (hb.mp q) h)]
  · rw [if_neg h, if_pos (hb.mpr h)]
theorem ite_st {α : Type} {c : Prop} [Decidable c] {b : Bool} {A B : α} (hb : b = true ↔ c) : (if b = true then A else B) = if c then A else B := by
  by_cases h : c
  · rw [if_pos h, if_pos (hb.mpr h)]
  · rw [if_neg h, if_neg (fun q => h (hb.mp q))]
theorem pc_eq {x y : Int32} : pcmp .eq x y = true ↔ x = y := by simp [pcmp]
theorem pc_ne {x y : Int32} : pcmp .ne x y = true ↔ ¬ x = y := by simp [pcmp]
theorem pc_lt {x y : Int32} : pcmp .lt x y = true ↔ x < y := by simp [pcmp]
theorem pc_gt {x y : Int32} : pcmp .gt x y = true ↔ y < x := by simp [pcmp]
theorem pc_ge {x y : Int32} : pcmp .ge x y = true ↔ ¬ x < y := by
  simp only [pcmp, decide_eq_true_eq, Int32.le_iff_toInt_le, Int32.lt_iff_toInt_lt]; omega
theorem pc_le {x y : Int32} : pcmp .le x y = true ↔ ¬ y < x := by
  simp only [pcmp, decide_eq_true_eq, Int32.le_iff_toInt_le, Int32.lt_iff_toInt_lt]; omega
theorem r_ceq {o : Int} {t : Nat} {x y : Int32} (hI : pins M pc = some (.inl (.if_icmp .eq o), n)) (ht : pj pc o = t) : pR M d pc ls (.int y :: .int x :: st) h = if x = y then pR M d t ls st h else pR M d (pc + 3) ls st h := by rw [pR_icmp hI, ht]; exact ite_st pc_eq
theorem r_cne {o : Int} {t : Nat} {x y : Int32} (hI : pins M pc = some (.inl (.if_icmp .ne o), n)) (ht : pj pc o = t) : pR M d pc ls (.int y :: .int x :: st) h = if x = y then pR M d (pc + 3) ls st h else pR M d t ls st h := by rw [pR_icmp hI, ht]; exact ite_sw (c' := True) pc_ne
theorem r_clt {o : Int} {t : Nat} {x y : Int32} (hI : pins M pc = some (.inl (.if_icmp .lt o), n)) (ht : pj pc o = t) : pR M d pc ls (.int y :: .int x :: st) h = if x < y then pR M d t ls st h else pR M d (pc + 3) ls st h := by rw [pR_icmp hI, ht]; exact ite_st pc_lt
theorem r_cge {o : Int} {t : Nat} {x y : Int32} (hI : pins M pc = some (.inl (.if_icmp .ge o), n)) (ht : pj pc o = t) : pR M d pc ls (.int y :: .int x :: st) h = if x < y then pR M d (pc + 3) ls st h else pR M d t ls st h := by rw [pR_icmp hI, ht]; exact ite_sw (c' := True) pc_ge
theorem r_cgt {o : Int} {t : Nat} {x y : Int32} (hI : pins M pc = some (.inl (.if_icmp .gt o), n)) (ht : pj pc o = t) : pR M d pc ls (.int y :: .int x :: st) h = if y < x then pR M d t ls st h else pR M d (pc + 3) ls st h := by rw [pR_icmp hI, ht]; exact ite_st pc_gt
theorem r_cle {o : Int} {t : Nat} {x y : Int32} (hI : pins M pc = some (.inl (.if_icmp .le o), n)) (ht : pj pc o = t) : pR M d pc ls (.int y :: .int x :: st) h = if y < x then pR M d (pc + 3) ls st h else pR M d t ls st h := by rw [pR_icmp hI, ht]; exact ite_sw (c' := True) pc_le
theorem r_ieq {o : Int} {t : Nat} {x : Int32} (hI : pins M pc = some (.inl (.ifCond .eq o), n)) (ht : pj pc o = t) : pR M d pc ls (.int x :: st) h = if x = 0 then pR M d t ls st h else pR M d (pc + 3) ls st h := by rw [pR_ifc hI, ht]; exact ite_st pc_eq
theorem r_ine {o : Int} {t : Nat} {x : Int32} (hI : pins M pc = some (.inl (.ifCond .ne o), n)) (ht : pj pc o = t) : pR M d pc ls (.int x :: st) h = if x = 0 then pR M d (pc + 3) ls st h else pR M d t ls st h := by rw [pR_ifc hI, ht]; exact ite_sw (c' := True) pc_ne
theorem r_ilt {o : Int} {t : Nat} {x : Int32} (hI : pins M pc = some (.inl (.ifCond .lt o), n)) (ht : pj pc o = t) : pR M d pc ls (.int x :: st) h = if x < 0 then pR M d t ls st h else pR M d (pc + 3) ls st h := by rw [pR_ifc hI, ht]; exact ite_st pc_lt
theorem r_ige {o : Int} {t : Nat} {x : Int32} (hI : pins M pc = some (.inl (.ifCond .ge o), n)) (ht : pj pc o = t) : pR M d pc ls (.int x :: st) h = if x < 0 then pR M d (pc + 3) ls st h else pR M d t ls st h := by rw [pR_ifc hI, ht]; exact ite_sw (c' := True) pc_ge
theorem r_igt {o : Int} {t : Nat} {x : Int32} (hI : pins M pc = some (.inl (.ifCond .gt o), n)) (ht : pj pc o = t) : pR M d pc ls (.int x :: st) h = if 0 < x then pR M d t ls st h else pR M d (pc + 3) ls st h := by rw [pR_ifc hI, ht]; exact ite_st pc_gt
theorem r_ile {o : Int} {t : Nat} {x : Int32} (hI : pins M pc = some (.inl (.ifCond .le o), n)) (ht : pj pc o = t) : pR M d pc ls (.int x :: st) h = if 0 < x then pR M d (pc + 3) ls st h else pR M d t ls st h := by rw [pR_ifc hI, ht]; exact ite_sw (c' := True) pc_le
/-- a store into a local -/
theorem r_sto {i : Instr} {k : Nat} {v o : Value} {st' : List Value} (hI : pins M pc = some (.inl i, n)) (hi : paL i n d M pc ls st h = (match psto ls k n pc v st' with | some (pc', ls', st') => pgo (d, M, pc', ls', st', h) | none => none)) (hk : ls[k]? = some o) : pR M d pc ls st h = if p1 o = true then pR M d (pc + n) (ls.set k v) st' h else none := by
  by_cases hb : p1 o = true
  · rw [if_pos hb]
    exact pR_L hI (by rw [hi]; simp only [psto, hk, hb, if_true])
  · rw [if_neg hb]
    exact pRf_none (by simp only [pact, hI]; rw [hi]; simp only [psto, hk, hb]; rfl)
theorem r_stoL {i : Instr} {k : Nat} {x : Int64} {o o2 : Value} {st' : List Value} (hI : pins M pc = some (.inl i, n)) (hi : paL i n d M pc ls st h = (match pstoL ls k n pc x st' with | some (pc', ls', st') => pgo (d, M, pc', ls', st', h) | none => none)) (hk : ls[k]? = some o) (hk2 : ls[k + 1]? = some o2) : pR M d pc ls st h = if p2 o o2 = true then pR M d (pc + n) ((ls.set k (.long x)).set (k + 1) pV) st' h else none := by
  by_cases hb : p2 o o2 = true
  · rw [if_pos hb]
    exact pR_L hI (by rw [hi]; simp only [pstoL, hk, hk2, hb, if_true])
  · rw [if_neg hb]
    exact pRf_none (by simp only [pact, hI]; rw [hi]; simp only [pstoL, hk, hk2, hb]; rfl)
theorem r_get {F k : Nat} {o : Nat} (hI : pins M pc = some (.inr (0, F, k, []), n)) : pR M d pc ls (.ref o :: st) h = if pis (pfl h F o k) = true then pR M d (pc + 3) ls (pfl h F o k :: st) h else none := pR_Xif hI rfl
theorem r_put {F k q : Nat} {o : Nat} {v : Value} (hI : pins M pc = some (.inr (1, F, k, [q]), n)) (hf : pfit q v = true) : pR M d pc ls (v :: .ref o :: st) h = if pis (pfl h F o k) = true then pR M d (pc + 3) ls st (psf h o k v) else none := pR_Xif hI (by simp only [paX, List.getD_cons_zero, hf, Bool.and_true])
theorem r_putz {F k : Nat} {o : Nat} {x : Int32} (hI : pins M pc = some (.inr (1, F, k, [2]), n)) : pR M d pc ls (.int x :: .ref o :: st) h = if (pis (pfl h F o k) && (x == 0 || x == 1)) = true then pR M d (pc + 3) ls st (psf h o k (.int x)) else none := pR_Xif hI rfl
theorem r_div {x y : Int32} (hI : pins M pc = some (.inl .idiv, n)) : pR M d pc ls (.int y :: .int x :: st) h = if y = 0 then none else pR M d (pc + 1) ls (.int (x / y) :: st) h := by
  by_cases hb : y = 0
  · rw [if_pos hb]
    exact pRf_none (by simp only [pact, hI, paL, pl, hb, if_true])
  · rw [if_neg hb]
    exact pR_L hI (by simp only [paL, pl, hb]; rfl)
theorem r_rem {x y : Int32} (hI : pins M pc = some (.inl .irem, n)) : pR M d pc ls (.int y :: .int x :: st) h = if y = 0 then none else pR M d (pc + 1) ls (.int (x - x / y * y) :: st) h := by
  by_cases hb : y = 0
  · rw [if_pos hb]
    exact pRf_none (by simp only [pact, hI, paL, pl, hb, if_true])
  · rw [if_neg hb]
    exact pR_L hI (by simp only [paL, pl, hb]; rfl)
theorem r_ldiv {x y : Int64} (hI : pins M pc = some (.inl .ldiv, n)) : pR M d pc ls (.long y :: .long x :: st) h = if y = 0 then none else pR M d (pc + 1) ls (.long (x / y) :: st) h := by
  by_cases hb : y = 0
  · rw [if_pos hb]
    exact pRf_none (by simp only [pact, hI, paL, pl, hb, if_true])
  · rw [if_neg hb]
    exact pR_L hI (by simp only [paL, pl, hb]; rfl)
theorem r_lrem {x y : Int64} (hI : pins M pc = some (.inl .lrem, n)) : pR M d pc ls (.long y :: .long x :: st) h = if y = 0 then none else pR M d (pc + 1) ls (.long (x - x / y * y) :: st) h := by
  by_cases hb : y = 0
  · rw [if_pos hb]
    exact pRf_none (by simp only [pact, hI, paL, pl, hb, if_true])
  · rw [if_neg hb]
    exact pR_L hI (by simp only [paL, pl, hb]; rfl)
theorem r_alen {a m k : Nat} {f : Nat → Int32} (hI : pins M pc = some (.inl .arraylength, n)) (ha : h.1 a = some (.inl (k, m, .inl f))) (hk : k = 0 ∨ k = 9) : pR M d pc ls (.ref a :: st) h = pR M d (pc + 1) ls (.int (Int32.ofNat m) :: st) h := pR_L hI (by simp only [paL, ha]; rw [if_pos hk])
/-! calls -/
theorem pK_of {d' M' : Nat} {as : List Value} {f : pF} (ha : pact f = if pwa M' as = true then some (.inr (.inr ((d', M', 0, pent (pml M') as, [], h), pk d M pc n ls st))) else none) : pRf f = pK M d pc n ls st (pCa M' d' as h) := by
  by_cases hw : pwa M' as = true
  · rw [if_pos hw] at ha
    rw [pRf_call ha]
    have hc : pCa M' d' as h = pRf (d', M', 0, pent (pml M') as, [], h) := if_pos hw
    rw [hc]
    cases pRf (d', M', 0, pent (pml M') as, [], h) with
    | none => rfl
    | some o =>
      obtain ⟨o, h'⟩ := o
      cases o with
      | inl v => cases v <;> rfl
      | inr a =>
        simp only [pK, pk, pth]
        cases phd M pc with
        | none => rfl
        | some q => by_cases hq : q.2 = pcl h' a <;> simp only [hq, if_true, if_false] <;> rfl
  · rw [if_neg hw] at ha
    have hc : pCa M' d' as h = none := if_neg hw
    rw [hc, pRf_none ha]
    rfl
theorem r_callS {M' na F : Nat} {as st' : List Value} (hI : pins M pc = some (.inr (4, M', 0, [na, F]), n)) (h1 : (st.take na).reverse = as) (h2 : st.drop na = st') : pR M (d + 1) pc ls st h = if pw st' = true then pK M (d + 1) pc n ls st' (pCa M' d as h) else none := by
  by_cases hb : pw st' = true
  · rw [if_pos hb]
    exact pK_of (by simp only [pact, hI, paX, if_true, pcallA, h1, h2, hb])
  · rw [if_neg hb]
    exact pRf_none (by simp only [pact, hI, paX, if_true, pcallA, h1, h2, hb]; rfl)
theorem r_callV {M' na F b o : Nat} {as st' : List Value} (hI : pins M pc = some (.inr (4, M', b + 1, [na, F]), n)) (h1 : (st.take na).reverse = .ref o :: as) (h2 : st.drop na = st') : pR M (d + 1) pc ls st h = if (pok F (pcl h o) && pw st') = true then pK M (d + 1) pc n ls st' (pCa M' d (.ref o :: as) h) else none := by
  by_cases hb : (pok F (pcl h o) && pw st') = true
  · rw [if_pos hb]
    simp only [Bool.and_eq_true] at hb
    exact pK_of (by simp only [pact, hI, paX, pcallA, h1, h2, hb, if_true]; rfl)
  · rw [if_neg hb]
    refine pRf_none ?_
    simp only [pact, hI, paX, pcallA, h1, h2]
    simp only [Bool.and_eq_true, not_and] at hb
    by_cases hc : pok F (pcl h o) = true
    · simp only [hc, hb hc, if_true]; rfl
    · simp only [hc]; rfl
theorem r_callA {M' na o : Nat} {l : List Nat} {as st' : List Value} (hI : pins M pc = some (.inr (5, na, 0, l), n)) (h1 : (st.take na).reverse = .ref o :: as) (h2 : st.drop na = st') (hv : pvt l (pcl h o) = some M') : pR M (d + 1) pc ls st h = if pw st' = true then pK M (d + 1) pc n ls st' (pCa M' d (.ref o :: as) h) else none := by
  by_cases hb : pw st' = true
  · rw [if_pos hb]
    exact pK_of (by simp only [pact, hI, paX, pcallA, h1, h2, hv, hb, if_true])
  · rw [if_neg hb]
    exact pRf_none (by simp only [pact, hI, paX, pcallA, h1, h2, hv, hb]; rfl)
theorem pK_v {v : Value} : pK M d pc n ls st (some (.inl (some v), h)) = pR M d (pc + n) ls (v :: st) h := rfl
theorem pK_0 : pK M d pc n ls st (some (.inl none, h)) = pR M d (pc + n) ls st h := rfl
theorem pK_out {a : Nat} (hh : phd M pc = none) : pK M d pc n ls st (some (.inr a, h)) = some (.inr a, h) := by simp only [pK, hh]
theorem pK_in {a q c : Nat} (hh : phd M pc = some (q, c)) (hc : c = pcl h a) : pK M d pc n ls st (some (.inr a, h)) = pR M d q ls [.ref a] h := by simp only [pK, hh, if_pos hc]
theorem pK_none : pK M d pc n ls st none = none := rfl
theorem r_throw {a : Nat} (hI : pins M pc = some (.inl .athrow, n)) (hc : pcl h a = 7 ∨ pcl h a = 26) (hh : phd M pc = none) : pR M d pc ls (.ref a :: st) h = some (.inr a, h) := pR_E hI (by simp only [paL, if_pos hc, pth, hh])
end
theorem pw0 : pw [] = true := rfl
theorem pw1 {a : Value} : pw [a] = true := rfl
theorem pw2 {a b : Value} : pw [a, b] = true := rfl
theorem pw3 {a b c : Value} : pw [a, b, c] = true := rfl
theorem pw4 {a b c e : Value} : pw [a, b, c, e] = true := rfl
theorem pis_i {x : Int32} : pis (.int x) = true := rfl
theorem pis_l {x : Int64} : pis (.long x) = true := rfl
theorem pis_r {x : Nat} : pis (.ref x) = true := rfl
theorem pis_n : pis .null = true := rfl
theorem p1_i {x : Int32} : p1 (.int x) = true := rfl
theorem p1_r {x : Nat} : p1 (.ref x) = true := rfl
theorem p1_n : p1 .null = true := rfl
theorem p1_u : p1 pU = true := rfl
section
variable {M d pc n : Nat} {ls st : List Value} {h : pH}
theorem r_bast {a : Nat} {x j : Int32} (hI : pins M pc = some (.inl .bastore, n)) : pR M d pc ls (.int x :: .int j :: .ref a :: st) h = if pin j (pln h 1 a) = true then pR M d (pc + 1) ls st (pst h a j.toNatClampNeg x.toInt8.toInt32) else if (pin j (pln h 2 a) && (x == 0 || x == 1)) = true then pR M d (pc + 1) ls st (pst h a j.toNatClampNeg x) else none := by
  by_cases hb : pin j (pln h 1 a) = true
  · rw [if_pos hb]
    exact pR_L hI (by simp only [paL, hb, if_true])
  · rw [if_neg hb]
    exact pR_Lif hI (by simp only [paL, hb]; rfl)
theorem r_obj {o : Nat} (hI : pins M pc = some (.inr (10, 0, 0, []), n)) : pR M (d + 1) pc ls (.ref o :: st) h = if pw st = true then pR M (d + 1) (pc + 3) ls st h else none := pR_Xif hI (by simp only [paX, Nat.zero_lt_succ, decide_true, Bool.and_true])
theorem r_cpy {x y : Nat} {i j c : Int32} (hI : pins M pc = some (.inr (9, 0, 0, []), n)) : pR M (d + 1) pc ls (.int c :: .int j :: .ref y :: .int i :: .ref x :: st) h = if (decide (0 < pln h 0 x) && decide (0 < pln h 0 y) && decide (0 ≤ i) && decide (0 ≤ j) && decide (0 ≤ c) && decide (i.toNatClampNeg + c.toNatClampNeg ≤ pln h 0 x) && decide (j.toNatClampNeg + c.toNatClampNeg ≤ pln h 0 y) && !(x == y) && pw st) = true then pR M (d + 1) (pc + 3) ls st (pcp h x i.toNatClampNeg y j.toNatClampNeg c.toNatClampNeg) else none := pR_Xif hI (by simp only [paX, Nat.zero_lt_succ, decide_true, Bool.and_true])
theorem r_rd6 {x o : Nat} (hI : pins M pc = some (.inr (11, 6, 0, []), n)) : pR M (d + 11) pc ls (.ref x :: .ref o :: st) h = if (pcl h o == 6 && pw st) = true then pR M (d + 11) (pc + 3) ls st (psf (psf h o 5 (.ref x)) o 2 (.ref x)) else none := pR_Xif hI (by simp only [paX, show decide (2 < d + 11) = true from decide_eq_true (by omega), Bool.and_true, if_true])
theorem r_rd13 {x o : Nat} (hI : pins M pc = some (.inr (11, 13, 0, []), n)) : pR M (d + 11) pc ls (.ref x :: .ref o :: st) h = if (pcl h o == 13 && pw st) = true then pR M (d + 11) (pc + 3) ls st (psf (psf h o 3 (.ref x)) o 2 (.ref x)) else none := pR_Xif hI (by simp only [paX, show decide (2 < d + 11) = true from decide_eq_true (by omega), Bool.and_true]; rfl)
theorem r_wr {o : Nat} (hI : pins M pc = some (.inr (12, 7, 0, []), n)) : pR M (d + 3) pc ls (.int 0 :: .int 0 :: .null :: .null :: .ref o :: st) h = if (pis (pfl h 7 o 0) && pis (pfl h 7 o 1) && pis (pfl h 7 o 2) && pis (pfl h 7 o 3) && pw st) = true then pR M (d + 3) (pc + 3) ls st (psf (psf (psf (psf h o 0 .null) o 1 .null) o 2 .null) o 3 .null) else none := pR_Xif hI (by simp only [paX, show decide (2 < d + 3) = true from decide_eq_true (by omega), Bool.and_true, beq_self_eq_true, Bool.true_and])
theorem r_ns {b : Nat} (hI : pins M pc = some (.inr (13, 26, b, []), n)) (hp : phd M (pc + 7) = none) : pR M (d + 11) pc ls st h = if pw st = true then some (.inr h.2.1, pnw h (.inr (26, [])) b) else none := by
  by_cases hw : pw st = true
  · rw [if_pos hw]
    exact pRf_end (by simp only [pact, hI]; simp only [paX, show decide (10 < d + 11) = true from decide_eq_true (by omega), Bool.and_true, hw, hp, Option.isNone_none, if_true])
  · rw [if_neg hw]
    exact pRf_none (by simp only [pact, hI]; simp only [paX, Bool.eq_false_iff.mpr hw, Bool.false_and, Bool.false_eq_true, if_false])
theorem r_mx {x y : Int32} (hI : pins M pc = some (.inr (14, 0, 0, []), n)) : pR M (d + 1) pc ls (.int y :: .int x :: st) h = if pw st = true then pR M (d + 1) (pc + 3) ls (.int (if x < y then y else x) :: st) h else none := pR_Xif hI (by simp only [paX, show decide (0 < d + 1) = true from decide_eq_true (by omega), Bool.and_true])
theorem r_mn {x y : Int32} (hI : pins M pc = some (.inr (14, 1, 0, []), n)) : pR M (d + 1) pc ls (.int y :: .int x :: st) h = if pw st = true then pR M (d + 1) (pc + 3) ls (.int (if y < x then y else x) :: st) h else none := pR_Xif hI (by simp only [paX, show decide (0 < d + 1) = true from decide_eq_true (by omega), Bool.and_true])
theorem r_mnl {x y : Int64} (hI : pins M pc = some (.inr (14, 2, 0, []), n)) : pR M (d + 1) pc ls (.long y :: .long x :: st) h = if pw st = true then pR M (d + 1) (pc + 3) ls (.long (if y < x then y else x) :: st) h else none := pR_Xif hI (by simp only [paX, show decide (0 < d + 1) = true from decide_eq_true (by omega), Bool.and_true])
theorem r_mxl {x y : Int64} (hI : pins M pc = some (.inr (14, 3, 0, []), n)) : pR M (d + 1) pc ls (.long y :: .long x :: st) h = if pw st = true then pR M (d + 1) (pc + 3) ls (.long (if y < x then x else y) :: st) h else none := pR_Xif hI (by simp only [paX, show decide (0 < d + 1) = true from decide_eq_true (by omega), Bool.and_true])
theorem r_sw {dflt lo hi : Int} {offs : Array Int} {x : Int32} {t : Nat} (hI : pins M pc = some (.inl (.tableswitch dflt lo hi offs), n)) (ht : pj pc dflt = t) (hx : x.toInt < lo ∨ hi < x.toInt) : pR M d pc ls (.int x :: st) h = pR M d t ls st h := by
  subst ht
  exact pR_L hI (by simp only [paL, pl, psw, if_pos hx])
end
