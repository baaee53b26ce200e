/-! MADE 1: sets as numbers; the fewest -/
set_option maxRecDepth 100000
theorem nI_and {a b : Nat} : nI a &&& nI b = nI (a &&& b) := by
  apply b_ext; intro i hi
  rw [b_and, bt_nI, bt_nI, bt_nI, Nat.testBit_and]
  simp [hi]
/-- what is left of s without p -/
def mi (s p : Nat) : Nat := s &&& (s ^^^ p)
theorem nI_mi {s p : Nat} : nI s &&& (nI p ^^^ (-1)) = nI (mi s p) := by
  apply b_ext; intro i hi
  rw [b_and, b_xor, b_m1 i hi, bt_nI, bt_nI, bt_nI, mi, Nat.testBit_and, Nat.testBit_xor]
  cases s.testBit i <;> cases p.testBit i <;> simp [hi]
theorem mi_le {s p : Nat} : mi s p ≤ s := Nat.and_le_left
def lw (s : Nat) : Int32 := nI s &&& (-nI s)
def cl (s p : Nat) : Bool := decide (nI p &&& lw s ≠ 0)
theorem cl_bit {s p : Nat} (hs : 0 < s) (hs2 : s < 1024) (hc : cl s p = true) : ∃ w, w < 10 ∧ s.testBit w = true ∧ p.testBit w = true ∧ lw s = nI (2 ^ w) := by
  have h0 : nI s ≠ 0 := by
    intro e
    have := (nIeq (show s < 2147483648 by omega) (show 0 < 2147483648 by decide)).mp e
    omega
  obtain ⟨w, w1, w2, w3⟩ := low_ex h0
  have hl := low_and w1 w2 w3
  rw [bt_nI] at w2
  simp only [Bool.and_eq_true, decide_eq_true_eq] at w2
  have hw : w < 10 := by
    rcases Nat.lt_or_ge w 10 with q | q
    · exact q
    · have := Nat.testBit_lt_two_pow (x := s) (i := w) (Nat.lt_of_lt_of_le (show s < 2 ^ 10 by exact hs2) (Nat.pow_le_pow_right (by decide) q))
      rw [this] at w2
      exact absurd w2.2 (by decide)
  have e1 : ∀ w, w < 10 → (1 : Int32) <<< (nI w &&& 31) = nI (2 ^ w) := by decide
  refine ⟨w, hw, w2.2, ?_, ?_⟩
  · simp only [cl, decide_eq_true_eq, lw, hl] at hc
    cases q : p.testBit w
    · exfalso
      apply hc
      apply b_ext; intro i hi
      rw [b_and, bt_1 w1 hi, b_0, bt_nI]
      by_cases e : i = w
      · subst e; rw [q]; simp
      · simp [e]
    · rfl
  · rw [lw, hl, e1 w hw]
theorem mi_lt {s p : Nat} (hs : 0 < s) (hs2 : s < 1024) (hc : cl s p = true) : mi s p < s := by
  obtain ⟨w, w1, w2, w3, w4⟩ := cl_bit hs hs2 hc
  have h1 := mi_le (s := s) (p := p)
  have h2 : mi s p ≠ s := by
    intro e
    have := congrArg (fun z => z.testBit w) e
    simp only [mi, Nat.testBit_and, Nat.testBit_xor, w2, w3] at this
    exact absurd this (by decide)
  omega
/-- one entry of the table of the fewest -/
def fw (W : Nat → Bool) (T : Nat → Nat) (s : Nat) : Nat → Nat → Nat → Nat
  | 0, _, a => a
  | k + 1, p, a => if p = 0 then a else fw W T s k ((p - 1) &&& s) (if cl s p = true ∧ W p = true then min a (1 + T (mi s p)) else a)
theorem fw_cong {W : Nat → Bool} {T T' : Nat → Nat} {s : Nat} (hs : 0 < s) (hs2 : s < 1024) (h : ∀ j, j < s → T j = T' j) : ∀ k p a, fw W T s k p a = fw W T' s k p a := by
  intro k
  induction k with
  | zero => intro p a; rfl
  | succ k ih =>
    intro p a
    rw [fw, fw]
    split
    · rfl
    · rw [ih]
      congr 1
      by_cases c : cl s p = true ∧ W p = true
      · rw [if_pos c, if_pos c, h _ (mi_lt hs hs2 c.1)]
      · rw [if_neg c, if_neg c]
def tb (inf : Nat) (W : Nat → Bool) : Nat → Nat → Nat
  | 0 => fun _ => 0
  | n + 1 => fun j => if j = n then (if n = 0 then 0 else fw W (tb inf W n) n n n inf) else tb inf W n j
/-- the table -/
def tt (inf : Nat) (W : Nat → Bool) (s : Nat) : Nat := tb inf W (s + 1) s
theorem tb_tt {inf : Nat} {W : Nat → Bool} {j : Nat} : ∀ n, j < n → tb inf W n j = tt inf W j := by
  intro n
  induction n with
  | zero => intro h; omega
  | succ n ih =>
    intro h
    by_cases e : j = n
    · subst e; rfl
    · rw [tb]
      simp only [if_neg e]
      exact ih (by omega)
theorem tt_0 {inf : Nat} {W : Nat → Bool} : tt inf W 0 = 0 := rfl
theorem tt_s {inf s : Nat} {W : Nat → Bool} (hs : 0 < s) (hs2 : s < 1024) : tt inf W s = fw W (tt inf W) s s s inf := by
  rw [← fw_cong hs hs2 (fun j hj => tb_tt s hj)]
  show (if s = s then (if s = 0 then 0 else fw W (tb inf W s) s s s inf) else tb inf W s s) = _
  rw [if_pos rfl, if_neg (by omega)]
/-- bits of a number below 1024 -/
def pcn (s : Nat) : Nat := fb_ct (fun i => s.testBit i) 10
theorem pcn_le {s : Nat} : pcn s ≤ 10 := fb_ct_le _ _
theorem pcn_mi {s p : Nat} (hs : 0 < s) (hs2 : s < 1024) (hc : cl s p = true) : 1 + pcn (mi s p) ≤ pcn s := by
  obtain ⟨w, w1, w2, w3, w4⟩ := cl_bit hs hs2 hc
  have : ∀ n, (∀ i, i < n → (mi s p).testBit i = true → s.testBit i = true) → (fb_ct (fun i => (mi s p).testBit i) n ≤ fb_ct (fun i => s.testBit i) n) ∧ (w < n → 1 + fb_ct (fun i => (mi s p).testBit i) n ≤ fb_ct (fun i => s.testBit i) n) := by
    intro n
    induction n with
    | zero => intro _; exact ⟨Nat.le_refl _, fun h => by omega⟩
    | succ n ih =>
      intro h
      obtain ⟨i1, i2⟩ := ih (fun i hi => h i (by omega))
      have hn := h n (by omega)
      rw [fb_ct_succ, fb_ct_succ]
      constructor
      · by_cases e : (mi s p).testBit n = true
        · simp only [e, hn e, if_true]; omega
        · simp only [e]; simp; omega
      · intro hw
        by_cases e : n = w
        · subst e
          have : (mi s p).testBit n = false := by simp only [mi, Nat.testBit_and, Nat.testBit_xor, w2, w3]; rfl
          simp only [this, w2]; simp; omega
        · have i2 := i2 (by omega)
          by_cases e : (mi s p).testBit n = true
          · simp only [e, hn e, if_true]; omega
          · simp only [e]; simp; omega
  exact (this 10 (fun i _ h => by simp only [mi, Nat.testBit_and, Bool.and_eq_true] at h; exact h.1)).2 w1
theorem fw_b {W : Nat → Bool} {T : Nat → Nat} {s inf : Nat} (hs : 0 < s) (hs2 : s < 1024) (h : ∀ j, j < s → T j = inf ∨ T j ≤ pcn j) : ∀ k p a, (a = inf ∨ a ≤ pcn s) → (fw W T s k p a = inf ∨ fw W T s k p a ≤ pcn s) ∧ fw W T s k p a ≤ a := by
  intro k
  induction k with
  | zero => intro p a ha; exact ⟨ha, Nat.le_refl _⟩
  | succ k ih =>
    intro p a ha
    rw [fw]
    split
    · exact ⟨ha, Nat.le_refl _⟩
    · have key : (if cl s p = true ∧ W p = true then min a (1 + T (mi s p)) else a) ≤ a ∧ ((if cl s p = true ∧ W p = true then min a (1 + T (mi s p)) else a) = inf ∨ (if cl s p = true ∧ W p = true then min a (1 + T (mi s p)) else a) ≤ pcn s) := by
        by_cases c : cl s p = true ∧ W p = true
        · rw [if_pos c]
          have h1 := h _ (mi_lt hs hs2 c.1)
          have h2 := pcn_mi hs hs2 c.1
          omega
        · rw [if_neg c]; exact ⟨Nat.le_refl _, ha⟩
      obtain ⟨q1, q2⟩ := ih ((p - 1) &&& s) _ key.2
      exact ⟨q1, Nat.le_trans q2 key.1⟩
theorem tt_b {W : Nat → Bool} {inf : Nat} : ∀ s, s < 1024 → tt inf W s = inf ∨ tt inf W s ≤ pcn s := by
  intro s
  induction s using Nat.strongRecOn with
  | ind s ih =>
    intro hs
    by_cases h0 : s = 0
    · subst h0; right; exact Nat.zero_le _
    · rw [tt_s (by omega) hs]
      exact (fw_b (by omega) hs (fun j hj => ih j hj (by omega)) s s inf (Or.inl rfl)).1
theorem fw_min {W : Nat → Bool} {T T' : Nat → Nat} {s c : Nat} (hs : 0 < s) (hs2 : s < 1024) (h : ∀ j, j < s → T j = min (T' j) c) : ∀ k p a, fw W T s k p (min a c) = min (fw W T' s k p a) c := by
  intro k
  induction k with
  | zero => intro p a; rfl
  | succ k ih =>
    intro p a
    rw [fw, fw]
    split
    · rfl
    · rw [← ih]
      congr 1
      by_cases q : cl s p = true ∧ W p = true
      · rw [if_pos q, if_pos q, h _ (mi_lt hs hs2 q.1)]
        omega
      · rw [if_neg q, if_neg q]
theorem tt_min {W : Nat → Bool} : ∀ s, s < 1024 → tt 25 W s = min (tt 1000000 W s) 25 := by
  intro s
  induction s using Nat.strongRecOn with
  | ind s ih =>
    intro hs
    by_cases h0 : s = 0
    · subst h0; rfl
    · rw [tt_s (by omega) hs, tt_s (by omega) hs]
      exact fw_min (by omega) hs (fun j hj => ih j hj (by omega)) s s 1000000
/-- the first set of the fewest -/
def fq (W : Nat → Bool) (T : Nat → Nat) (s p : Nat) : Bool := decide (mi p s = 0) && cl s p && W p && decide (1 + T (mi s p) = T s)
theorem fw_ex {W : Nat → Bool} {T : Nat → Nat} {s : Nat} : ∀ k p a, p ≤ s → mi p s = 0 → fw W T s k p a = a ∨ ∃ q, 0 < q ∧ q ≤ s ∧ mi q s = 0 ∧ cl s q = true ∧ W q = true ∧ fw W T s k p a = 1 + T (mi s q) := by
  intro k
  induction k with
  | zero => intro p a _ _; exact Or.inl rfl
  | succ k ih =>
    intro p a hp hm
    rw [fw]
    split
    · exact Or.inl rfl
    · rename_i h0
      have h1 : (p - 1) &&& s ≤ s := Nat.and_le_right
      have h2 : mi ((p - 1) &&& s) s = 0 := by
        apply Nat.eq_of_testBit_eq
        intro i
        simp only [mi, Nat.testBit_and, Nat.testBit_xor, Nat.zero_testBit]
        cases (p - 1).testBit i <;> cases s.testBit i <;> rfl
      rcases ih ((p - 1) &&& s) (if cl s p = true ∧ W p = true then min a (1 + T (mi s p)) else a) h1 h2 with e | ⟨q, q1⟩
      · rw [e]
        by_cases c : cl s p = true ∧ W p = true
        · rw [if_pos c]
          rcases Nat.le_total a (1 + T (mi s p)) with z | z
          · left; omega
          · right; exact ⟨p, by omega, hp, hm, c.1, c.2, by omega⟩
        · rw [if_neg c]; exact Or.inl rfl
      · exact Or.inr ⟨q, q1⟩
theorem fq_ex {W : Nat → Bool} {s : Nat} (hs : 0 < s) (hs2 : s < 1024) (hf : tt 1000000 W s ≤ 10) : ∃ r w, w < 10 ∧ lw s = nI (2 ^ w) ∧ 2 ^ w ≤ r ∧ r ≤ s ∧ fq W (tt 1000000 W) s r = true ∧ (∀ p, 2 ^ w ≤ p → p < r → fq W (tt 1000000 W) s p = false) := by
  have hm : mi s s = 0 := by
    apply Nat.eq_of_testBit_eq
    intro i
    simp only [mi, Nat.testBit_and, Nat.testBit_xor, Nat.zero_testBit]
    cases s.testBit i <;> rfl
  have hz := tt_s (inf := 1000000) (W := W) hs hs2
  rcases fw_ex (W := W) (T := tt 1000000 W) (s := s) s s 1000000 (Nat.le_refl _) hm with e | ⟨q, q1, q2, q3, q4, q5, q6⟩
  · rw [e] at hz; omega
  · obtain ⟨w, w1, w2, w3, w4⟩ := cl_bit hs hs2 q4
    have hq : fq W (tt 1000000 W) s q = true := by
      simp only [fq, q3, q4, q5, Bool.and_true, decide_true, decide_eq_true_eq]
      rw [hz, q6]; simp
    have hge : 2 ^ w ≤ q := Nat.ge_two_pow_of_testBit w3
    -- the least one
    have least : ∀ n p, p + n = q → 2 ^ w ≤ p → (∀ i, 2 ^ w ≤ i → i < p → fq W (tt 1000000 W) s i = false) → ∃ r, p ≤ r ∧ r ≤ q ∧ fq W (tt 1000000 W) s r = true ∧ ∀ i, 2 ^ w ≤ i → i < r → fq W (tt 1000000 W) s i = false := by
      intro n
      induction n with
      | zero => intro p hp _ h; exact ⟨p, Nat.le_refl _, by omega, by rw [show p = q by omega]; exact hq, h⟩
      | succ n ih =>
        intro p hp hw h
        cases c : fq W (tt 1000000 W) s p
        · obtain ⟨r, r1, r2, r3, r4⟩ := ih (p + 1) (by omega) (by omega) (fun i hi hi2 => by
            by_cases e : i = p
            · subst e; exact c
            · exact h i hi (by omega))
          exact ⟨r, by omega, r2, r3, r4⟩
        · exact ⟨p, Nat.le_refl _, by omega, c, h⟩
    obtain ⟨r, r1, r2, r3, r4⟩ := least (q - 2 ^ w) (2 ^ w) (by omega) (Nat.le_refl _) (fun i _ _ => by omega)
    exact ⟨r, w, w1, w4, r1, by omega, r3, r4⟩
