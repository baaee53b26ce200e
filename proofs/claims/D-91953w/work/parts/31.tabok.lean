/-! TABLE FACTS 7: the table, return kinds, handlers -/
set_option maxRecDepth 100000
theorem mem_lookup {α β : Type} [BEq α] [LawfulBEq α] {a : α} {b : β} : ∀ {l : List (α × β)}, l.lookup a = some b → (a, b) ∈ l := by
  intro l
  induction l with
  | nil => intro h; cases h
  | cons x l ih =>
    obtain ⟨x1, x2⟩ := x
    intro h
    rw [List.lookup_cons] at h
    split at h
    · rename_i hq
      cases h
      rw [eq_of_beq hq]
      exact List.mem_cons_self
    · exact List.mem_cons_of_mem _ (ih h)
theorem hJ_ok : ∀ M pc r n, pins M pc = some (r, n) → sJ jnw jao M pc r n := by
  intro M pc r n h
  unfold pins at h
  split at h
  · rename_i t ht
    split at h
    · rename_i x hx
      have := jall M t ht x (List.mem_of_getElem? hx) (pc, r, n) (mem_lookup h)
      rwa [Nat.zero_add] at this
    · cases h
  · cases h
theorem jnw_ok : ∀ w ∈ jnw, sNk w := by
  intro w hw
  have h : jnw.all (fun w => match w with
    | .fieldLinkNest _ _ _ _ _ _ => true
    | .methodLinkNest _ _ _ _ => true
    | .declares _ => true
    | .castable _ _ => true
    | _ => false) = true := by decide +kernel
  have := List.all_eq_true.mp h w hw
  split at this
  · exact Or.inl ⟨_, _, _, _, _, _, rfl⟩
  · exact Or.inr (Or.inl ⟨_, _, _, _, rfl⟩)
  · exact Or.inr (Or.inr (Or.inl ⟨_, rfl⟩))
  · exact Or.inr (Or.inr (Or.inr ⟨_, _, rfl⟩))
  · cases this
def rtk : Option FieldType → Nat
  | some .int => 0
  | some .long => 1
  | some .boolean => 2
  | some (.object _) => 3
  | none => 4
  | _ => 8
theorem rtk_all : ∀ M, M < 263 → rtk (sRt M) = prt M := by decide +kernel
theorem prt_big {M : Nat} (h : 263 ≤ M) : prt M = 9 := by
  unfold prt
  rw [List.getD_eq_getElem?_getD, List.getElem?_eq_none (show pML.length ≤ M from h)]
  rfl
theorem sRtOk_ok : sRtOk := by
  intro M
  by_cases hM : M < 263
  · have h := rtk_all M hM
    generalize sRt M = r at h
    rw [← h]
    cases r with
    | none => simp [rtk]
    | some t => cases t <;> simp [rtk]
  · rw [prt_big (by omega)]
    simp
theorem sHH_none : ∀ M, M < 263 → (M = 0 ∨ M = 1 ∨ M = 2 ∨ M = 11 ∨ M = 12 ∨ M = 54) ∨ sHH M = [] := by decide +kernel
theorem sHH_big {M : Nat} (h : 263 ≤ M) : sHH M = [] := by
  unfold sHH sI
  rw [List.getD_eq_getElem?_getD, List.getElem?_eq_none (show sIL.length ≤ M from h)]
  rfl
theorem sHd_one {M a b hd ci K pc : Nat} {r : vw_C} (hH : sHH M = [(a, b, hd, ci)]) (hp : ∀ pc, phd M pc = if a ≤ pc ∧ pc < b then some (hd, K) else none) (h0 : ci ≠ 0) (hK : K ≠ 99) (hr : sCl K = some r) (hl : Cond.classLink (sY M).cls ci r.1 ∈ lw_all) : (phd M pc = none → ∀ x ∈ tableOf (sHH M), covers x pc = false) ∧ ∀ q, phd M pc = some q → q.2 ≠ 99 ∧ ∃ x r, sHH M = [x] ∧ (decide (x.1 ≤ pc) && decide (pc < x.2.1)) = true ∧ x.2.2.2 ≠ 0 ∧ x.2.2.1 = q.1 ∧ sCl q.2 = some r ∧ Cond.classLink (sY M).cls x.2.2.2 r.1 ∈ lw_all := by
  rw [hp pc]
  constructor
  · intro h x hx
    split at h
    · cases h
    · rename_i hn
      rw [hH] at hx
      simp only [tableOf, List.map_cons, List.map_nil, List.mem_singleton] at hx
      subst hx
      simp only [covers]
      simp only [Bool.and_eq_false_iff, decide_eq_false_iff_not]
      omega
  · intro q hq
    split at hq
    · rename_i hn
      cases hq
      exact ⟨hK, _, r, hH, by simp [hn], h0, rfl, hr, hl⟩
    · cases hq
theorem phd_none {M pc : Nat} (h : ¬ (M = 0 ∨ M = 1 ∨ M = 2 ∨ M = 11 ∨ M = 12 ∨ M = 54)) : phd M pc = none := by
  unfold phd
  rw [List.find?_eq_none.mpr]
  · rfl
  · intro x hx hc
    simp only [Bool.and_eq_true, beq_iff_eq] at hc
    have h1 : ∀ x ∈ pHT, x.1 = 0 ∨ x.1 = 1 ∨ x.1 = 2 ∨ x.1 = 11 ∨ x.1 = 12 ∨ x.1 = 54 := by decide +kernel
    have := h1 x hx
    omega
theorem phd_at {M a b hd K pc : Nat} {L : List (Nat × Nat × Nat × Nat × Nat)} (hL : pHT.filter (fun q => q.1 == M) = [(M, a, b, hd, K)]) : phd M pc = if a ≤ pc ∧ pc < b then some (hd, K) else none := by
  unfold phd
  have h1 : ∀ l : List (Nat × Nat × Nat × Nat × Nat), l.find? (fun q => q.1 == M && decide (q.2.1 ≤ pc) && decide (pc < q.2.2.1)) = (l.filter (fun q => q.1 == M)).find? (fun q => decide (q.2.1 ≤ pc) && decide (pc < q.2.2.1)) := by
    intro l
    induction l with
    | nil => rfl
    | cons x l ih =>
      by_cases hx : (x.1 == M) = true
      · rw [List.filter_cons_of_pos (by exact hx), List.find?_cons, List.find?_cons, hx, Bool.true_and, ih]
      · rw [List.filter_cons_of_neg (by exact hx), List.find?_cons, Bool.eq_false_iff.mpr hx, Bool.false_and, Bool.false_and, ih]
  rw [h1, hL, List.find?_cons, List.find?_nil]
  by_cases hc : a ≤ pc ∧ pc < b
  · rw [if_pos hc]
    simp [hc]
  · rw [if_neg hc]
    have : (decide (a ≤ pc) && decide (pc < b)) = false := by simp only [Bool.and_eq_false_iff, decide_eq_false_iff_not]; omega
    simp [this]
theorem sHdOk_ok : sHdOk := by
  intro M pc
  by_cases hM : M = 0 ∨ M = 1 ∨ M = 2 ∨ M = 11 ∨ M = 12 ∨ M = 54
  · rcases hM with rfl | rfl | rfl | rfl | rfl | rfl
    · exact sHd_one (a := 0) (b := 12) (hd := 15) (ci := 13) (K := 26) rfl (fun pc => phd_at (L := []) rfl) (by decide) (by decide) rfl q1264
    · exact sHd_one (a := 0) (b := 10) (hd := 13) (ci := 13) (K := 26) rfl (fun pc => phd_at (L := []) rfl) (by decide) (by decide) rfl q1264
    · exact sHd_one (a := 0) (b := 18) (hd := 21) (ci := 13) (K := 26) rfl (fun pc => phd_at (L := []) rfl) (by decide) (by decide) rfl q1264
    · exact sHd_one (a := 13) (b := 45) (hd := 46) (ci := 111) (K := 7) rfl (fun pc => phd_at (L := []) rfl) (by decide) (by decide) rfl q295
    · exact sHd_one (a := 19) (b := 34) (hd := 37) (ci := 111) (K := 7) rfl (fun pc => phd_at (L := []) rfl) (by decide) (by decide) rfl q295
    · exact sHd_one (a := 11) (b := 31) (hd := 34) (ci := 111) (K := 7) rfl (fun pc => phd_at (L := []) rfl) (by decide) (by decide) rfl q295
  · have hH : sHH M = [] := by
      by_cases hb : M < 263
      · exact (sHH_none M hb).resolve_left hM
      · exact sHH_big (by omega)
    rw [phd_none hM, hH]
    exact ⟨fun _ x hx => (by cases hx), fun q hq => (by cases hq)⟩
