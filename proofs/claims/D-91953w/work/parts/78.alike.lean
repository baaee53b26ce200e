/-! ALIKE 1: searches for a pairing of points -/
set_option maxRecDepth 100000
section
variable {t u : (Nat → Nat) → Nat → Bool} {n p i q : Nat} {a b c : Nat → Nat}
/-- a whole pairing that passes -/
def Ac (t : (Nat → Nat) → Nat → Bool) (n : Nat) (c : Nat → Nat) : Prop := ∀ p, p < n → c p < n ∧ (∀ j, j < p → c j ≠ c p) ∧ t c p = true
/-- what is chosen so far can be made whole -/
def Dn (t : (Nat → Nat) → Nat → Bool) (n i : Nat) (b : Nat → Nat) : Prop := ∃ c, (∀ j, j < i → c j = b j) ∧ Ac t n c
/-- from p on always the least choice -/
def Gr (t : (Nat → Nat) → Nat → Bool) (n p : Nat) (b : Nat → Nat) : Prop := ∀ i, p ≤ i → i < n → Dn t n (i + 1) b ∧ ∀ q, q < b i → ¬ Dn t n (i + 1) (un b i q)
def loct (t : (Nat → Nat) → Nat → Bool) : Prop := ∀ a b p, (∀ j, j ≤ p → a j = b j) → t a p = t b p
def Pre (t : (Nat → Nat) → Nat → Bool) (n p : Nat) (a : Nat → Nat) : Prop := ∀ i, i < p → a i < n ∧ (∀ j, j < i → a j ≠ a i) ∧ t a i = true
theorem un_n {T : Nat → Nat} {s v j : Nat} (h : j ≠ s) : un T s v j = T j := if_neg h
theorem Dn_loc (h : ∀ j, j < i → a j = b j) (hD : Dn t n i a) : Dn t n i b := by
  obtain ⟨c, c1, c2⟩ := hD
  exact ⟨c, fun j hj => (c1 j hj).trans (h j hj), c2⟩
theorem Dn_end (h : Pre t n n a) : Dn t n n a := ⟨a, fun _ _ => rfl, h⟩
theorem Dn_up (h : Dn t n (i + 1) (un a i q)) : Dn t n i a := by
  obtain ⟨c, c1, c2⟩ := h
  exact ⟨c, fun j hj => by rw [c1 j (by omega), un_n (by omega)], c2⟩
theorem Dn_ex (hp : p < n) (h : Dn t n p a) : ∃ q, q < n ∧ Dn t n (p + 1) (un a p q) := by
  obtain ⟨c, c1, c2⟩ := h
  refine ⟨c p, (c2 p hp).1, c, fun j hj => ?_, c2⟩
  by_cases e : j = p
  · subst e; rw [un_s]
  · rw [un_n e]; exact c1 j (by omega)
theorem Dn_t (hl : loct t) (hp : p < n) (h : Dn t n (p + 1) (un a p q)) : q < n ∧ (∀ j, j < p → a j ≠ q) ∧ t (un a p q) p = true := by
  obtain ⟨c, c1, c2⟩ := h
  obtain ⟨d1, d2, d3⟩ := c2 p hp
  have e : c p = q := by rw [c1 p (by omega), un_s]
  rw [e] at d1 d2
  refine ⟨d1, fun j hj => ?_, ?_⟩
  · have := d2 j hj
    rw [c1 j (by omega), un_n (by omega)] at this
    exact this
  · rw [← hl c (un a p q) p (fun j hj => c1 j (by omega))]
    exact d3
theorem Pre_s (hl : loct t) (h : Pre t n p a) (hq : q < n) (h1 : ∀ j, j < p → a j ≠ q) (h2 : t (un a p q) p = true) : Pre t n (p + 1) (un a p q) := by
  intro i hi
  by_cases e : i = p
  · subst e
    rw [un_s]
    exact ⟨hq, fun j hj => by rw [un_n (by omega)]; exact h1 j hj, h2⟩
  · obtain ⟨g1, g2, g3⟩ := h i (by omega)
    rw [un_n e]
    refine ⟨g1, fun j hj => by rw [un_n (by omega)]; exact g2 j hj, ?_⟩
    rw [← hl a (un a p q) i (fun j hj => (un_n (by omega)).symm)]
    exact g3
theorem Gr_u {b b' : Nat → Nat} (h1 : Gr t n p b) (h2 : Gr t n p b') (h0 : ∀ j, j < p → b j = b' j) : ∀ j, j < n → b j = b' j := by
  intro j
  induction j using Nat.strongRecOn with
  | ind j ih =>
    intro hj
    by_cases hp : j < p
    · exact h0 j hp
    · obtain ⟨x1, x2⟩ := h1 j (by omega) hj
      obtain ⟨y1, y2⟩ := h2 j (by omega) hj
      rcases Nat.lt_trichotomy (b j) (b' j) with q | q | q
      · exact absurd (Dn_loc (fun i hi => by
          by_cases e : i = j
          · subst e; rw [un_s]
          · rw [un_n e]; exact ih i (by omega) (by omega)) x1) (y2 _ q)
      · exact q
      · exact absurd (Dn_loc (fun i hi => by
          by_cases e : i = j
          · subst e; rw [un_s]
          · rw [un_n e]; exact (ih i (by omega) (by omega)).symm) y1) (x2 _ q)
theorem Dn_iff (h : ∀ c, Ac t n c ↔ Ac u n c) : Dn t n i a ↔ Dn u n i a := ⟨fun ⟨c, c1, c2⟩ => ⟨c, c1, (h c).mp c2⟩, fun ⟨c, c1, c2⟩ => ⟨c, c1, (h c).mpr c2⟩⟩
theorem Gr_iff (h : ∀ c, Ac t n c ↔ Ac u n c) (hg : Gr t n p b) : Gr u n p b := fun i h1 h2 => ⟨(Dn_iff h).mp (hg i h1 h2).1, fun q hq hd => (hg i h1 h2).2 q hq ((Dn_iff h).mpr hd)⟩
end
/-! counting -/
theorem cnt_eq {κ : Type} [BEq κ] [LawfulBEq κ] : ∀ (U V : List κ), (∀ k, U.count k ≤ V.count k) → V.length ≤ U.length → U.Perm V := by
  intro U
  induction U with
  | nil =>
    intro V _ hl
    have : V = [] := List.eq_nil_of_length_eq_zero (by simp at hl; exact hl ▸ rfl)
    rw [this]
  | cons a U ih =>
    intro V hc hl
    have ha : a ∈ V := by
      have := hc a
      rw [List.count_cons_self] at this
      exact List.count_pos_iff.mp (by omega)
    refine List.Perm.trans (List.Perm.cons a (ih (V.erase a) (fun k => ?_) ?_)) (List.perm_cons_erase ha).symm
    · rw [List.count_erase]
      have := hc k
      rw [List.count_cons] at this
      by_cases e : a = k
      · subst e; simp at this ⊢; omega
      · simp [e] at this ⊢; omega
    · rw [List.length_erase_of_mem ha]
      simp at hl
      omega
theorem cnt_fb {κ : Type} [BEq κ] [LawfulBEq κ] [DecidableEq κ] {f : Nat → κ} {k : κ} : ∀ n, ((List.range n).map f).count k = fb_ct (fun b => decide (f b = k)) n := by
  intro n
  induction n with
  | zero => rfl
  | succ n ih =>
    rw [List.range_succ, List.map_append, List.count_append, ih, fb_ct_succ]
    congr 1
    by_cases e : f n = k <;> simp [e]
theorem sum_fb {f : Nat → Nat} : ∀ n, ((List.range n).map f).sum = fb_sm f n := by
  intro n
  induction n with
  | zero => rfl
  | succ n ih => rw [List.range_succ, List.map_append, List.sum_append, ih, fb_sm_succ]; simp
