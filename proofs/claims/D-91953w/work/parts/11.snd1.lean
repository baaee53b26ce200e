/-! SOUNDNESS 1: instructions without the heap -/
set_option maxRecDepth 100000
def sJi (i : Instr) (n pc : Nat) : Bool := match i with
  | .bipush _ => n == 2
  | .iload _ => n == 2
  | .lload _ => n == 2
  | .aload _ => n == 2
  | .istore _ => n == 2
  | .lstore _ => n == 2
  | .astore _ => n == 2
  | .sipush _ => n == 3
  | .iinc _ _ => n == 3
  | .goto o => n == 3 && decide (0 ≤ (pc : Int) + o)
  | .ifCond _ o => n == 3 && decide (0 ≤ (pc : Int) + o)
  | .if_icmp _ o => n == 3 && decide (0 ≤ (pc : Int) + o)
  | .ifnull o => n == 3 && decide (0 ≤ (pc : Int) + o)
  | .ifnonnull o => n == 3 && decide (0 ≤ (pc : Int) + o)
  | .tableswitch d lo hi offs => decide (0 ≤ (pc : Int) + d) && offs.toList.all (fun o => decide (0 ≤ (pc : Int) + o)) && decide (hi - lo + 1 = (offs.size : Int))
  | _ => n == 1
/-- the values among the locals -/
def sPrs (ls : List Value) : List (Nat × Value) := ls.zipIdx.filterMap (fun q => match q.1 with
  | .retAddr _ => none
  | v => some (q.2, v))
def sNr : Value → Prop
  | .retAddr _ => False
  | _ => True
theorem mem_sPrs {ls : List Value} {q : Nat × Value} : q ∈ sPrs ls ↔ ls[q.1]? = some q.2 ∧ sNr q.2 := by
  unfold sPrs
  rw [List.mem_filterMap]
  constructor
  · rintro ⟨⟨v, i⟩, h1, h2⟩
    rw [List.mem_zipIdx_iff_getElem?] at h1
    dsimp only at h1 h2
    cases v <;> first | (cases h2; exact ⟨h1, trivial⟩) | cases h2
  · rintro ⟨h1, h2⟩
    obtain ⟨i, v⟩ := q
    refine ⟨(v, i), List.mem_zipIdx_iff_getElem?.mpr h1, ?_⟩
    cases v <;> first | rfl | exact h2.elim
def sWf (ls : List Value) : Prop := ∀ (i : Nat) (v : Value), ls[i]? = some v → v.category = 2 → ls[i + 1]? = some pV
def sLs (ls : List Value) (lsa : Array Slot) (n : Nat) : Prop := ls.length = n ∧ sWf ls ∧ lv_has lsa n (sPrs ls)
theorem sLs.at {ls : List Value} {lsa : Array Slot} {n i : Nat} {v : Value} (h : sLs ls lsa n) (hi : ls[i]? = some v) (hv : sNr v) : lsa[i]? = some (.val v) := h.2.2.2.2 (i, v) (mem_sPrs.mpr ⟨hi, hv⟩)
theorem p1_nl {v : Value} (h : p1 v = true) : v.category = 1 ∧ v ≠ pV := by
  cases v with
  | long x => cases h
  | float x => cases h
  | double x => cases h
  | retAddr k => refine ⟨rfl, fun e => ?_⟩; cases e; cases h
  | int x => exact ⟨rfl, fun e => by cases e⟩
  | ref x => exact ⟨rfl, fun e => by cases e⟩
  | null => exact ⟨rfl, fun e => by cases e⟩
theorem sLs.set1 {ls : List Value} {lsa lsa' : Array Slot} {n i : Nat} {o v : Value} (h : sLs ls lsa n) (hi : ls[i]? = some o) (ho : p1 o = true) (hv : v.category = 1)
    (hl : lv_has lsa' n ((i, v) :: (sPrs ls).filter (fun q => !(q.1 == i) && !(q.1 + 1 == i && q.2.category == 2)))) : sLs (ls.set i v) lsa' n := by
  obtain ⟨h1, h2, h3⟩ := h
  have hlt : i < ls.length := (List.getElem?_eq_some_iff.mp hi).1
  have hne := (p1_nl ho).2
  refine ⟨by rw [List.length_set]; exact h1, fun j w hj hw => ?_, hl.1, hl.2.1, fun q hq => ?_⟩
  · by_cases e : j = i
    · subst e
      rw [List.getElem?_set_self hlt] at hj
      cases hj
      omega
    · rw [List.getElem?_set_ne (Ne.symm e)] at hj
      have h4 := h2 j w hj hw
      have e2 : i ≠ j + 1 := fun e2 => by
        rw [← e2, hi] at h4
        exact hne (Option.some.inj h4)
      rw [List.getElem?_set_ne e2]
      exact h4
  · obtain ⟨q1, q2⟩ := mem_sPrs.mp hq
    by_cases e : q.1 = i
    · rw [e, List.getElem?_set_self hlt] at q1
      have : q = (i, v) := Prod.ext e (Option.some.inj q1).symm
      rw [this]
      exact hl.2.2 (i, v) List.mem_cons_self
    · rw [List.getElem?_set_ne (Ne.symm e)] at q1
      refine hl.2.2 q (List.mem_cons_of_mem _ (List.mem_filter.mpr ⟨mem_sPrs.mpr ⟨q1, q2⟩, ?_⟩))
      have e2 : ¬ (q.1 + 1 = i ∧ q.2.category = 2) := fun ⟨a, b⟩ => by
        have h4 := h2 q.1 q.2 q1 b
        rw [a, hi] at h4
        exact hne (Option.some.inj h4)
      simp only [Bool.and_eq_true, Bool.not_eq_true', beq_eq_false_iff_ne, ne_eq, e, not_false_eq_true, true_and, Bool.and_eq_false_iff, beq_eq_false_iff_ne]
      by_cases a : q.1 + 1 = i
      · exact Or.inr fun b => e2 ⟨a, b⟩
      · exact Or.inl a
theorem sLs.set2 {ls : List Value} {lsa lsa' : Array Slot} {n i : Nat} {o o2 : Value} {x : Int64} (h : sLs ls lsa n) (hi : ls[i]? = some o) (hi2 : ls[i + 1]? = some o2) (ho : p2 o o2 = true)
    (hl : lv_has lsa' n ((i, .long x) :: (sPrs ls).filter (fun q => !(q.1 == i) && (!(q.1 == i + 1) && !(q.1 + 1 == i && q.2.category == 2))))) : sLs ((ls.set i (.long x)).set (i + 1) pV) lsa' n := by
  obtain ⟨h1, h2, h3⟩ := h
  have hlt : i < ls.length := (List.getElem?_eq_some_iff.mp hi).1
  have hlt2 : i + 1 < ls.length := (List.getElem?_eq_some_iff.mp hi2).1
  have hne : o ≠ pV := by
    rintro rfl
    simp [p2, p1] at ho
  refine ⟨by rw [List.length_set, List.length_set]; exact h1, fun j w hj hw => ?_, hl.1, hl.2.1, fun q hq => ?_⟩
  · by_cases e : j = i + 1
    · subst e
      rw [List.getElem?_set_self (by rw [List.length_set]; exact hlt2)] at hj
      cases hj
      cases hw
    · rw [List.getElem?_set_ne (Ne.symm e)] at hj
      by_cases e1 : j = i
      · subst e1
        rw [List.getElem?_set_self (by rw [List.length_set]; exact hlt2)]
      · rw [List.getElem?_set_ne (Ne.symm e1)] at hj
        have h4 := h2 j w hj hw
        have e2 : i ≠ j + 1 := fun e2 => by
          rw [← e2, hi] at h4
          exact hne (Option.some.inj h4)
        rw [List.getElem?_set_ne (by omega), List.getElem?_set_ne e2]
        exact h4
  · obtain ⟨q1, q2⟩ := mem_sPrs.mp hq
    by_cases e : q.1 = i + 1
    · rw [e, List.getElem?_set_self (by rw [List.length_set]; exact hlt2)] at q1
      rw [← Option.some.inj q1] at q2
      exact q2.elim
    · rw [List.getElem?_set_ne (Ne.symm e)] at q1
      by_cases e1 : q.1 = i
      · rw [e1, List.getElem?_set_self hlt] at q1
        have : q = (i, .long x) := Prod.ext e1 (Option.some.inj q1).symm
        rw [this]
        exact hl.2.2 (i, .long x) List.mem_cons_self
      · rw [List.getElem?_set_ne (Ne.symm e1)] at q1
        refine hl.2.2 q (List.mem_cons_of_mem _ (List.mem_filter.mpr ⟨mem_sPrs.mpr ⟨q1, q2⟩, ?_⟩))
        have e2 : ¬ (q.1 + 1 = i ∧ q.2.category = 2) := fun ⟨a, b⟩ => by
          have h4 := h2 q.1 q.2 q1 b
          rw [a, hi] at h4
          exact hne (Option.some.inj h4)
        simp only [Bool.and_eq_true, Bool.not_eq_true', beq_eq_false_iff_ne, ne_eq, e, e1, not_false_eq_true, true_and, Bool.and_eq_false_iff, beq_eq_false_iff_ne]
        by_cases a : q.1 + 1 = i
        · exact Or.inr fun b => e2 ⟨a, b⟩
        · exact Or.inl a
theorem pld_0 {ls st : List Value} {i n pc : Nat} {q : Nat × List Value × List Value} (h : pld ls i n pc st 0 = some q) : ∃ x, ls[i]? = some (.int x) ∧ q = (pc + n, ls, .int x :: st) := by
  unfold pld at h
  cases hv : ls[i]? with
  | none => rw [hv] at h; cases h
  | some v => rw [hv] at h; cases v <;> cases h; exact ⟨_, rfl, rfl⟩
theorem pld_1 {ls st : List Value} {i n pc : Nat} {q : Nat × List Value × List Value} (h : pld ls i n pc st 1 = some q) : ∃ x, ls[i]? = some (.long x) ∧ q = (pc + n, ls, .long x :: st) := by
  unfold pld at h
  cases hv : ls[i]? with
  | none => rw [hv] at h; cases h
  | some v => rw [hv] at h; cases v <;> cases h; exact ⟨_, rfl, rfl⟩
theorem pld_3 {ls st : List Value} {i n pc : Nat} {q : Nat × List Value × List Value} (h : pld ls i n pc st 3 = some q) : (∃ x, ls[i]? = some (.ref x) ∧ q = (pc + n, ls, .ref x :: st)) ∨ (ls[i]? = some .null ∧ q = (pc + n, ls, .null :: st)) := by
  unfold pld at h
  cases hv : ls[i]? with
  | none => rw [hv] at h; cases h
  | some v =>
    rw [hv] at h
    cases v <;> cases h
    · exact Or.inr ⟨rfl, rfl⟩
    · exact Or.inl ⟨_, rfl, rfl⟩
theorem pj_eq {pc : Nat} {o : Int} (h : 0 ≤ (pc : Int) + o) : (pc : Int) + o = ((pj pc o : Nat) : Int) := (Int.toNat_of_nonneg h).symm
section
variable {p : Program} {l : Launch} {e : Env} {R : Room} {s : State} {m : MethodId} {args : Array Value} {below : List Frame} {meth : Method} {c : Code} {H : Heap} {locs : List Loc} {cells slots : Nat} {Q : State → Prop} {cc : ByteArray}
theorem sL_cmp {cd : Jvm.ClassFile.Cond} {o : Int} {pc : Nat} {ls : Array Slot} {st : List Value} {x y : Int32} (hx : p.tables.exec = Jvm.exec) (hb : c.code = cc) (hd : decode cc pc = .ok (.if_icmp cd o, 3)) (h0 : 0 ≤ (pc : Int) + o)
    (k1 : pcmp cd x y = true → W p l e R s m args below meth c H locs cells slots Q (F0 m (pj pc o) ls st)) (k2 : ¬ pcmp cd x y = true → W p l e R s m args below meth c H locs cells slots Q (F0 m (pc + 3) ls st)) : W p l e R s m args below meth c H locs cells slots Q (F0 m pc ls (.int y :: .int x :: st)) := by
  cases cd with
  | eq => exact lv_icmp_eq hx hb hd (pj_eq h0) (fun q => k1 (by simpa [pcmp] using q)) (fun q => k2 (by simpa [pcmp] using q))
  | ne => exact lv_icmp_ne hx hb hd (pj_eq h0) (fun q => k1 (by simpa [pcmp] using q)) (fun q => k2 (by simpa [pcmp] using q))
  | lt => exact lv_icmp_lt hx hb hd (pj_eq h0) (fun q => k1 (by simpa [pcmp] using q)) (fun q => k2 (by simpa [pcmp] using q))
  | ge => exact lv_icmp_ge hx hb hd (pj_eq h0) (fun q => k1 (by simpa [pcmp] using q)) (fun q => k2 (by simpa [pcmp] using q))
  | gt => exact lv_icmp_gt hx hb hd (pj_eq h0) (fun q => k1 (by simpa [pcmp] using q)) (fun q => k2 (by simpa [pcmp] using q))
  | le => exact lv_icmp_le hx hb hd (pj_eq h0) (fun q => k1 (by simpa [pcmp] using q)) (fun q => k2 (by simpa [pcmp] using q))
theorem sL_ifc {cd : Jvm.ClassFile.Cond} {o : Int} {pc : Nat} {ls : Array Slot} {st : List Value} {x : Int32} (hx : p.tables.exec = Jvm.exec) (hb : c.code = cc) (hd : decode cc pc = .ok (.ifCond cd o, 3)) (h0 : 0 ≤ (pc : Int) + o)
    (k1 : pcmp cd x 0 = true → W p l e R s m args below meth c H locs cells slots Q (F0 m (pj pc o) ls st)) (k2 : ¬ pcmp cd x 0 = true → W p l e R s m args below meth c H locs cells slots Q (F0 m (pc + 3) ls st)) : W p l e R s m args below meth c H locs cells slots Q (F0 m pc ls (.int x :: st)) := by
  cases cd with
  | eq => exact lv_if_eq hx hb hd (pj_eq h0) (fun q => k1 (by simpa [pcmp] using q)) (fun q => k2 (by simpa [pcmp] using q))
  | ne => exact lv_if_ne hx hb hd (pj_eq h0) (fun q => k1 (by simpa [pcmp] using q)) (fun q => k2 (by simpa [pcmp] using q))
  | lt => exact lv_if_lt hx hb hd (pj_eq h0) (fun q => k1 (by simpa [pcmp] using q)) (fun q => k2 (by simpa [pcmp] using q))
  | ge => exact lv_if_ge hx hb hd (pj_eq h0) (fun q => k1 (by simpa [pcmp] using q)) (fun q => k2 (by simpa [pcmp] using q))
  | gt => exact lv_if_gt hx hb hd (pj_eq h0) (fun q => k1 (by simpa [pcmp] using q)) (fun q => k2 (by simpa [pcmp] using q))
  | le => exact lv_if_le hx hb hd (pj_eq h0) (fun q => k1 (by simpa [pcmp] using q)) (fun q => k2 (by simpa [pcmp] using q))
theorem sL {i : Instr} {n pc pc' nL : Nat} {ls ls' st st' : List Value} {lsa : Array Slot} (hx : p.tables.exec = Jvm.exec) (hb : c.code = cc) (hp : pl i n pc ls st = some (pc', ls', st')) (hd : decode cc pc = .ok (i, n)) (hj : sJi i n pc = true) (hL : sLs ls lsa nL)
    (kk : ∀ lsa', sLs ls' lsa' nL → W p l e R s m args below meth c H locs cells slots Q (F0 m pc' lsa' st')) : W p l e R s m args below meth c H locs cells slots Q (F0 m pc lsa st) := by
  have hlen : ∀ {k : Nat} {o : Value}, ls[k]? = some o → k < nL := fun hk => by rw [← hL.1]; exact (List.getElem?_eq_some_iff.mp hk).1
  unfold pl at hp
  split at hp
  case h_1 => 
    obtain rfl : n = 1 := by simpa [sJi] using hj
    cases hp
    exact lv_iconst hx hb hd rfl (kk _ hL)
  case h_2 => 
    obtain rfl : n = 2 := by simpa [sJi] using hj
    cases hp
    exact lv_bipush hx hb hd rfl (kk _ hL)
  case h_3 => 
    obtain rfl : n = 3 := by simpa [sJi] using hj
    cases hp
    exact lv_sipush hx hb hd rfl (kk _ hL)
  case h_4 => 
    obtain rfl : n = 1 := by simpa [sJi] using hj
    cases hp
    exact lv_lconst hx hb hd rfl (kk _ hL)
  case h_5 => 
    obtain rfl : n = 1 := by simpa [sJi] using hj
    cases hp
    exact lv_null hx hb hd (kk _ hL)
  case h_6 => 
    obtain rfl : n = 1 := by simpa [sJi] using hj
    obtain ⟨x, h1, h2⟩ := pld_0 hp
    cases h2
    exact lv_iload_n hx hb hd rfl (hL.at h1 trivial) (kk _ hL)
  case h_7 => 
    obtain rfl : n = 2 := by simpa [sJi] using hj
    obtain ⟨x, h1, h2⟩ := pld_0 hp
    cases h2
    exact lv_iload hx hb hd (hL.at h1 trivial) (kk _ hL)
  case h_8 => 
    obtain rfl : n = 1 := by simpa [sJi] using hj
    obtain ⟨x, h1, h2⟩ := pld_1 hp
    cases h2
    exact lv_lload_n hx hb hd rfl (hL.at h1 trivial) (kk _ hL)
  case h_9 => 
    obtain rfl : n = 2 := by simpa [sJi] using hj
    obtain ⟨x, h1, h2⟩ := pld_1 hp
    cases h2
    exact lv_lload hx hb hd (hL.at h1 trivial) (kk _ hL)
  case h_10 => 
    obtain rfl : n = 1 := by simpa [sJi] using hj
    rcases pld_3 hp with ⟨x, h1, h2⟩ | ⟨h1, h2⟩
    · cases h2
      exact lv_aload_n hx hb hd rfl (hL.at h1 trivial) (kk _ hL)
    · cases h2
      exact lv_aload_nN hx hb hd rfl (hL.at h1 trivial) (kk _ hL)
  case h_11 => 
    obtain rfl : n = 2 := by simpa [sJi] using hj
    rcases pld_3 hp with ⟨x, h1, h2⟩ | ⟨h1, h2⟩
    · cases h2
      exact lv_aload hx hb hd (hL.at h1 trivial) (kk _ hL)
    · cases h2
      exact lv_aloadN hx hb hd (hL.at h1 trivial) (kk _ hL)
  case h_12 => 
    obtain rfl : n = 1 := by simpa [sJi] using hj
    split at hp
    · unfold psto at hp
      split at hp
      · rename_i o ho
        split at hp
        · rename_i h1
          cases hp
          exact lv_istore_n hx hb hd rfl hL.2.2 (hlen ho) rfl (fun lsa hl => kk lsa (hL.set1 ho h1 rfl hl))
        · cases hp
      · cases hp
    · cases hp
  case h_13 => 
    obtain rfl : n = 2 := by simpa [sJi] using hj
    split at hp
    · unfold psto at hp
      split at hp
      · rename_i o ho
        split at hp
        · rename_i h1
          cases hp
          exact lv_istore hx hb hd hL.2.2 (hlen ho) rfl (fun lsa hl => kk lsa (hL.set1 ho h1 rfl hl))
        · cases hp
      · cases hp
    · cases hp
  case h_14 => 
    obtain rfl : n = 1 := by simpa [sJi] using hj
    split at hp
    · unfold psto at hp
      split at hp
      · rename_i o ho
        split at hp
        · rename_i h1
          cases hp
          exact lv_astore_n hx hb hd rfl hL.2.2 (hlen ho) rfl (fun lsa hl => kk lsa (hL.set1 ho h1 rfl hl))
        · cases hp
      · cases hp
    · unfold psto at hp
      split at hp
      · rename_i o ho
        split at hp
        · rename_i h1
          cases hp
          exact lv_astore_nN hx hb hd rfl hL.2.2 (hlen ho) rfl (fun lsa hl => kk lsa (hL.set1 ho h1 rfl hl))
        · cases hp
      · cases hp
    · cases hp
  case h_15 => 
    obtain rfl : n = 2 := by simpa [sJi] using hj
    split at hp
    · unfold psto at hp
      split at hp
      · rename_i o ho
        split at hp
        · rename_i h1
          cases hp
          exact lv_astore hx hb hd hL.2.2 (hlen ho) rfl (fun lsa hl => kk lsa (hL.set1 ho h1 rfl hl))
        · cases hp
      · cases hp
    · unfold psto at hp
      split at hp
      · rename_i o ho
        split at hp
        · rename_i h1
          cases hp
          exact lv_astoreN hx hb hd hL.2.2 (hlen ho) rfl (fun lsa hl => kk lsa (hL.set1 ho h1 rfl hl))
        · cases hp
      · cases hp
    · cases hp
  case h_16 => 
    obtain rfl : n = 1 := by simpa [sJi] using hj
    split at hp
    · unfold pstoL at hp
      split at hp
      · rename_i o o2 ho ho2
        split at hp
        · rename_i h1
          cases hp
          exact lv_lstore_n hx hb hd rfl hL.2.2 (hlen ho2) rfl (fun lsa hl => kk lsa (hL.set2 ho ho2 h1 hl))
        · cases hp
      · cases hp
    · cases hp
  case h_17 => 
    obtain rfl : n = 2 := by simpa [sJi] using hj
    split at hp
    · unfold pstoL at hp
      split at hp
      · rename_i o o2 ho ho2
        split at hp
        · rename_i h1
          cases hp
          exact lv_lstore hx hb hd hL.2.2 (hlen ho2) rfl (fun lsa hl => kk lsa (hL.set2 ho ho2 h1 hl))
        · cases hp
      · cases hp
    · cases hp
  case h_18 => 
    obtain rfl : n = 3 := by simpa [sJi] using hj
    split at hp
    · rename_i x hk
      cases hp
      obtain ⟨q, hq⟩ := List.getElem?_of_mem ((mem_sPrs (q := (_, .int x))).mpr ⟨hk, trivial⟩)
      exact lv_iinc hx hb hd hL.2.2 hq rfl (hlen hk) rfl (fun lsa hl => kk lsa (hL.set1 hk rfl rfl hl))
    · cases hp
  case h_19 => 
    obtain rfl : n = 1 := by simpa [sJi] using hj
    split at hp <;> cases hp
    exact lv_iadd hx hb hd (kk _ hL)
  case h_20 => 
    obtain rfl : n = 1 := by simpa [sJi] using hj
    split at hp <;> cases hp
    exact lv_isub hx hb hd (kk _ hL)
  case h_21 => 
    obtain rfl : n = 1 := by simpa [sJi] using hj
    split at hp <;> cases hp
    exact lv_imul hx hb hd (kk _ hL)
  case h_22 => 
    obtain rfl : n = 1 := by simpa [sJi] using hj
    split at hp <;> cases hp
    exact lv_iand hx hb hd (kk _ hL)
  case h_23 => 
    obtain rfl : n = 1 := by simpa [sJi] using hj
    split at hp <;> cases hp
    exact lv_ior hx hb hd (kk _ hL)
  case h_24 => 
    obtain rfl : n = 1 := by simpa [sJi] using hj
    split at hp <;> cases hp
    exact lv_ixor hx hb hd (kk _ hL)
  case h_25 => 
    obtain rfl : n = 1 := by simpa [sJi] using hj
    split at hp
    · split at hp
      · cases hp
      · rename_i hne
        cases hp
        exact lv_idiv hx hb hd hne (kk _ hL)
    · cases hp
  case h_26 => 
    obtain rfl : n = 1 := by simpa [sJi] using hj
    split at hp
    · split at hp
      · cases hp
      · rename_i hne
        cases hp
        exact lv_irem hx hb hd hne (kk _ hL)
    · cases hp
  case h_27 => 
    obtain rfl : n = 1 := by simpa [sJi] using hj
    split at hp <;> cases hp
    exact lv_ineg hx hb hd (kk _ hL)
  case h_28 => 
    obtain rfl : n = 1 := by simpa [sJi] using hj
    split at hp <;> cases hp
    exact lv_ishl hx hb hd (kk _ hL)
  case h_29 => 
    obtain rfl : n = 1 := by simpa [sJi] using hj
    split at hp <;> cases hp
    exact lv_ishr hx hb hd (kk _ hL)
  case h_30 => 
    obtain rfl : n = 1 := by simpa [sJi] using hj
    split at hp <;> cases hp
    exact lv_iushr hx hb hd rfl (kk _ hL)
  case h_31 => 
    obtain rfl : n = 1 := by simpa [sJi] using hj
    split at hp <;> cases hp
    exact lv_ladd hx hb hd (kk _ hL)
  case h_32 => 
    obtain rfl : n = 1 := by simpa [sJi] using hj
    split at hp <;> cases hp
    exact lv_lsub hx hb hd (kk _ hL)
  case h_33 => 
    obtain rfl : n = 1 := by simpa [sJi] using hj
    split at hp <;> cases hp
    exact lv_lmul hx hb hd (kk _ hL)
  case h_34 => 
    obtain rfl : n = 1 := by simpa [sJi] using hj
    split at hp <;> cases hp
    exact lv_land hx hb hd (kk _ hL)
  case h_35 => 
    obtain rfl : n = 1 := by simpa [sJi] using hj
    split at hp <;> cases hp
    exact lv_lor hx hb hd (kk _ hL)
  case h_36 => 
    obtain rfl : n = 1 := by simpa [sJi] using hj
    split at hp
    · split at hp
      · cases hp
      · rename_i hne
        cases hp
        exact lv_ldiv hx hb hd hne (kk _ hL)
    · cases hp
  case h_37 => 
    obtain rfl : n = 1 := by simpa [sJi] using hj
    split at hp
    · split at hp
      · cases hp
      · rename_i hne
        cases hp
        exact lv_lrem hx hb hd hne (kk _ hL)
    · cases hp
  case h_38 => 
    obtain rfl : n = 1 := by simpa [sJi] using hj
    split at hp <;> cases hp
    exact lv_lshl hx hb hd rfl (kk _ hL)
  case h_39 => 
    obtain rfl : n = 1 := by simpa [sJi] using hj
    split at hp <;> cases hp
    exact lv_lushr hx hb hd rfl (kk _ hL)
  case h_40 => 
    obtain rfl : n = 1 := by simpa [sJi] using hj
    split at hp <;> cases hp
    exact W.lcmp hx hb hd (kk _ hL)
  case h_41 => 
    obtain rfl : n = 1 := by simpa [sJi] using hj
    split at hp <;> cases hp
    exact lv_i2l hx hb hd rfl (kk _ hL)
  case h_42 => 
    obtain rfl : n = 1 := by simpa [sJi] using hj
    split at hp <;> cases hp
    exact lv_l2i hx hb hd rfl (kk _ hL)
  case h_43 => 
    obtain rfl : n = 1 := by simpa [sJi] using hj
    split at hp <;> cases hp
    exact lv_i2b hx hb hd rfl (kk _ hL)
  case h_44 => 
    obtain rfl : n = 1 := by simpa [sJi] using hj
    split at hp
    · split at hp
      · rename_i hc
        cases hp
        exact lv_dup hx hb hd hc (kk _ hL)
      · cases hp
    · cases hp
  case h_45 => 
    obtain rfl : n = 1 := by simpa [sJi] using hj
    split at hp
    · split at hp
      · rename_i hc
        cases hp
        exact lv_dup2_11 hx hb hd hc.1 hc.2 (kk _ hL)
      · cases hp
    · cases hp
  case h_46 => 
    obtain rfl : n = 1 := by simpa [sJi] using hj
    split at hp
    · split at hp
      · rename_i hc
        cases hp
        exact lv_pop hx hb hd hc (kk _ hL)
      · cases hp
    · cases hp
  case h_47 => 
    simp only [sJi, Bool.and_eq_true, beq_iff_eq, decide_eq_true_eq] at hj
    obtain ⟨rfl, h0⟩ := hj
    cases hp
    exact lv_goto hx hb hd (pj_eq h0) (kk _ hL)
  case h_48 => 
    simp only [sJi, Bool.and_eq_true, beq_iff_eq, decide_eq_true_eq] at hj
    obtain ⟨rfl, h0⟩ := hj
    split at hp
    · refine sL_ifc hx hb hd h0 (fun q => ?_) (fun q => ?_)
      · rw [if_pos q] at hp
        cases hp
        exact kk _ hL
      · rw [if_neg q] at hp
        cases hp
        exact kk _ hL
    · cases hp
  case h_49 => 
    simp only [sJi, Bool.and_eq_true, beq_iff_eq, decide_eq_true_eq] at hj
    obtain ⟨rfl, h0⟩ := hj
    split at hp
    · refine sL_cmp hx hb hd h0 (fun q => ?_) (fun q => ?_)
      · rw [if_pos q] at hp
        cases hp
        exact kk _ hL
      · rw [if_neg q] at hp
        cases hp
        exact kk _ hL
    · cases hp
  case h_50 => 
    simp only [sJi, Bool.and_eq_true, beq_iff_eq, decide_eq_true_eq] at hj
    obtain ⟨rfl, h0⟩ := hj
    split at hp <;> cases hp
    · exact lv_ifnullN hx hb hd (pj_eq h0) (kk _ hL)
    · exact lv_ifnull hx hb hd (kk _ hL)
  case h_51 => 
    simp only [sJi, Bool.and_eq_true, beq_iff_eq, decide_eq_true_eq] at hj
    obtain ⟨rfl, h0⟩ := hj
    split at hp <;> cases hp
    · exact lv_ifnonnullN hx hb hd (kk _ hL)
    · exact lv_ifnonnull hx hb hd (pj_eq h0) (kk _ hL)
  case h_52 => 
    rename_i dflt lo hi offs
    simp only [sJi, Bool.and_eq_true, decide_eq_true_eq] at hj
    obtain ⟨⟨h0, h1⟩, h2⟩ := hj
    split at hp
    · rename_i x st
      cases hp
      by_cases q : x.toInt < lo ∨ hi < x.toInt
      · exact lv_tableOut hx hb hd q (pj_eq h0) (by rw [show psw dflt lo hi offs x = dflt from if_pos q] at kk; exact kk _ hL)
      · have q1 : ¬ x.toInt < lo := fun z => q (Or.inl z)
        have q2 : ¬ hi < x.toInt := fun z => q (Or.inr z)
        have hlt : (x.toInt - lo).toNat < offs.size := by omega
        have ho : offs[(x.toInt - lo).toNat]? = some offs[(x.toInt - lo).toNat] := Array.getElem?_eq_getElem hlt
        have h3 : 0 ≤ (pc : Int) + offs[(x.toInt - lo).toNat] := by
          have := List.all_eq_true.mp h1 _ (Array.getElem_mem_toList hlt)
          simpa using this
        refine lv_tableIn hx hb hd q1 q2 ho (pj_eq h3) ?_
        rw [show psw dflt lo hi offs x = offs[(x.toInt - lo).toNat] by rw [psw, if_neg q, ho]; rfl] at kk
        exact kk _ hL
    · cases hp
  case h_53 => 
    cases hp
end
