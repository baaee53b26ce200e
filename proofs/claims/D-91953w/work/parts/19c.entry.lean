/-! SOUNDNESS 11: the locals at a method's entry -/
set_option maxRecDepth 100000
theorem pent_1 {n : Nat} {v : Value} {vs : List Value} (hv : v.category = 1) (hp : pis v = true) : pent (n + 1) (v :: vs) = v :: pent n vs := by
  cases v <;> first | cases hv | cases hp | skip
  all_goals
    cases n with
    | zero => cases vs <;> rfl
    | succ n => rfl
theorem pent_2 {n : Nat} {x : Int64} {vs : List Value} : pent (n + 2) (.long x :: vs) = .long x :: pV :: pent n vs := rfl
theorem pent_ok : ∀ (as : List Value) (n k : Nat), as.all pis = true → (as.map Value.category).sum ≤ n → (pent n as).length = n ∧ sWf (pent n as) ∧ ∀ i v, (pent n as)[i]? = some v → sNr v → (k + i, v) ∈ lv_args k as := by
  intro as
  induction as with
  | nil =>
    intro n k _ _
    refine ⟨by simp [pent], fun i v hi hv => ?_, fun i v hi hv => ?_⟩
    · have : v = pU := by
        have := List.mem_of_getElem? hi
        rw [pent] at this
        exact (List.mem_replicate.mp this).2
      rw [this] at hv; cases hv
    · have : v = pU := by
        have := List.mem_of_getElem? hi
        rw [pent] at this
        exact (List.mem_replicate.mp this).2
      rw [this] at hv; exact hv.elim
  | cons a as ih =>
    intro n k hall hsum
    simp only [List.all_cons, Bool.and_eq_true] at hall
    simp only [List.map_cons, List.sum_cons] at hsum
    have h1 : ∀ (hc : a.category = 1), (pent n (a :: as)).length = n ∧ sWf (pent n (a :: as)) ∧ ∀ i v, (pent n (a :: as))[i]? = some v → sNr v → (k + i, v) ∈ lv_args k (a :: as) := by
      intro hc
      obtain ⟨n', rfl⟩ : ∃ n', n = n' + 1 := ⟨n - 1, by omega⟩
      obtain ⟨i1, i2, i3⟩ := ih n' (k + 1) hall.2 (by omega)
      rw [pent_1 hc hall.1]
      refine ⟨by simp [i1], fun i v hi hv => ?_, fun i v hi hv => ?_⟩
      · cases i with
        | zero => cases hi; omega
        | succ i => exact i2 i v hi hv
      · have hl : lv_args k (a :: as) = (k, a) :: lv_args (k + 1) as := by simp [lv_args, hc]
        rw [hl]
        cases i with
        | zero => cases hi; exact List.mem_cons_self
        | succ i =>
          have := i3 i v hi hv
          rw [show k + 1 + i = k + (i + 1) by omega] at this
          exact List.mem_cons_of_mem _ this
    cases a with
    | long x =>
      have hc : (Value.long x).category = 2 := rfl
      obtain ⟨n', rfl⟩ : ∃ n', n = n' + 2 := ⟨n - 2, by omega⟩
      obtain ⟨i1, i2, i3⟩ := ih n' (k + 2) hall.2 (by omega)
      rw [pent_2]
      refine ⟨by simp [i1], fun i v hi hv => ?_, fun i v hi hv => ?_⟩
      · cases i with
        | zero => rfl
        | succ i =>
          cases i with
          | zero => cases hi; cases hv
          | succ i => exact i2 i v hi hv
      · have hl : lv_args k (.long x :: as) = (k, .long x) :: lv_args (k + 2) as := by simp [lv_args, hc]
        rw [hl]
        cases i with
        | zero => cases hi; exact List.mem_cons_self
        | succ i =>
          cases i with
          | zero => cases hi; exact hv.elim
          | succ i =>
            have := i3 i v hi hv
            rw [show k + 2 + i = k + (i + 1 + 1) by omega] at this
            exact List.mem_cons_of_mem _ this
    | int x => exact h1 rfl
    | ref x => exact h1 rfl
    | null => exact h1 rfl
    | _ => cases hall.1
theorem lg_sl_len (vs : List Value) : (lg_sl vs).length = (vs.map Value.category).sum := by
  induction vs with
  | nil => rfl
  | cons v vs ih =>
    have : lg_sl (v :: vs) = (if v.category = 2 then [.val v, .second] else [.val v]) ++ lg_sl vs := by simp [lg_sl]
    rw [this, List.length_append, ih, List.map_cons, List.sum_cons]
    rcases lv_cat v with h | h <;> simp [h]
theorem sLs_entry {M : Nat} {as : List Value} (hw : pwa M as = true) : sLs (pent (pml M) as) ((lg_sl as ++ List.replicate (pml M - (lg_sl as).length) Slot.unset).toArray) (pml M) := by
  simp only [pwa, Bool.and_eq_true, decide_eq_true_eq] at hw
  replace hw := And.intro hw.1.2 hw.2
  obtain ⟨h1, h2, h3⟩ := pent_ok as (pml M) 0 hw.1 hw.2
  have he := lv_entry as (n := pml M) (by rw [lg_sl_len]; exact hw.2)
  refine ⟨h1, h2, he.1, he.2.1, fun q hq => ?_⟩
  obtain ⟨q1, q2⟩ := mem_sPrs.mp hq
  have := h3 q.1 q.2 q1 q2
  rw [Nat.zero_add] at this
  exact he.2.2 _ this
