/-! RULES 1: what a text of a rule says (plain part) -/
set_option maxRecDepth 100000
inductive Sm where
  | pl (v : Nat)
  | le (c : Nat)
  | pa (op : Nat) (a b : Sm)
inductive Ts where
  | cm (op : Nat) (a b : Sm)
  | no (a : Ts)
  | bo (all : Bool) (a b : Ts)
abbrev QR (α : Type) : Type := Nat ⊕ (α × Nat)
def Sm.sz : Sm → Nat
  | .pl _ => 1
  | .le _ => 1
  | .pa _ a b => a.sz + b.sz + 1
def Ts.sz : Ts → Nat
  | .cm _ a b => a.sz + b.sz + 1
  | .no a => a.sz + 1
  | .bo _ a b => a.sz + b.sz + 1
def Sm.g : Sm → Prop
  | .pl v => v < 10000
  | .le c => c = 108 ∨ c = 104 ∨ c = 107 ∨ c = 115 ∨ c = 97
  | .pa op a b => (op = 42 ∨ op = 47 ∨ op = 43 ∨ op = 45) ∧ a.g ∧ b.g
def Ts.g : Ts → Prop
  | .cm op a b => (op = 61 ∨ op = 60 ∨ op = 62) ∧ a.g ∧ b.g
  | .no a => a.g
  | .bo _ a b => a.g ∧ b.g
def numL (t : Tp) : Nat → Nat → Nat → Nat → QR Nat
  | 0, _, _, p => .inl p
  | n + 1, c, v, p => if dg t p = true then (if c < 4 then numL t n (c + 1) (10 * v + (t.2 p - 48)) (p + 1) else .inl p) else .inr (v, p)
def isLt (t : Tp) (q : Nat) : Bool := isC t q 108 || isC t q 104 || isC t q 107 || isC t q 115 || isC t q 97
def isCp (t : Tp) (q : Nat) : Bool := isC t q 61 || isC t q 60 || isC t q 62
def atmP (I : Option (Nat → QR Sm)) (t : Tp) (p : Nat) : QR Sm :=
  if isLt t (skp t p) = true then .inr (.le (t.2 (skp t p)), skp t p + 1)
  else if isC t (skp t p) 91 = true then (match I with
    | none => .inl (skp t p)
    | some f => (match f (skp t p + 1) with
      | .inl w => .inl w
      | .inr (s, q) => if isC t (skp t q) 93 = true then .inr (s, skp t q + 1) else .inl (skp t q)))
  else if dg t (skp t p) = true then (match numL t 6 0 0 (skp t p) with
    | .inl w => .inl w
    | .inr (v, q) => .inr (.pl v, q))
  else .inl (skp t p)
def lpP (sub : Nat → QR Sm) (o1 o2 : Nat) (t : Tp) : Nat → Sm → Nat → QR Sm
  | 0, _, p => .inl p
  | n + 1, a, p => if isC t (skp t p) o1 = true ∨ isC t (skp t p) o2 = true then (match sub (skp t p + 1) with
      | .inl w => .inl w
      | .inr (b, q) => lpP sub o1 o2 t n (.pa (t.2 (skp t p)) a b) q)
    else .inr (a, skp t p)
def trmP (I : Option (Nat → QR Sm)) (t : Tp) (p : Nat) : QR Sm := match atmP I t p with
  | .inl w => .inl w
  | .inr (a, q) => lpP (atmP I t) 42 47 t 201 a q
def sumP (I : Option (Nat → QR Sm)) (t : Tp) (p : Nat) : QR Sm := match trmP I t p with
  | .inl w => .inl w
  | .inr (a, q) => lpP (trmP I t) 43 45 t 201 a q
def sm (t : Tp) : Nat → Nat → QR Sm
  | 0 => sumP none t
  | k + 1 => sumP (some (sm t k)) t
/-- a comparison whose first sum is read -/
def cmpP (t : Tp) (k : Nat) (a : Sm) (p : Nat) : QR Ts :=
  if isCp t (skp t p) = true then (match sm t k (skp t p + 1) with
    | .inl w => .inl w
    | .inr (b, q) => .inr (.cm (t.2 (skp t p)) a b, q))
  else .inl (skp t p)
def untP (U : Option ((Nat → QR Ts) × (Nat → QR Ts))) (t : Tp) (k p : Nat) : QR Ts :=
  if isC t (skp t p) 33 = true then (match U with
    | none => .inl (skp t p)
    | some u => (match u.1 (skp t p + 1) with
      | .inl w => .inl w
      | .inr (x, q) => .inr (.no x, q)))
  else if isC t (skp t p) 40 = true then (match U with
    | none => .inl (skp t p)
    | some u => (match u.2 (skp t p + 1) with
      | .inl w => .inl w
      | .inr (x, q) => if isC t (skp t q) 41 = true then .inr (x, skp t q + 1) else .inl (skp t q)))
  else match sm t k (skp t p) with
    | .inl w => .inl w
    | .inr (a, q) => cmpP t k a q
def ltP (sub : Nat → QR Ts) (op : Nat) (all : Bool) (t : Tp) : Nat → Ts → Nat → QR Ts
  | 0, _, p => .inl p
  | n + 1, a, p => if isC t (skp t p) op = true then (match sub (skp t p + 1) with
      | .inl w => .inl w
      | .inr (b, q) => ltP sub op all t n (.bo all a b) q)
    else .inr (a, skp t p)
/-- what follows a first part -/
def thP (f : QR Ts) (sub : Nat → QR Ts) (op : Nat) (all : Bool) (t : Tp) : QR Ts := match f with
  | .inl w => .inl w
  | .inr (a, q) => ltP sub op all t 201 a q
def trtP (u : Nat → QR Ts) (t : Tp) (p : Nat) : QR Ts := thP (u p) u 38 true t
def conP (u : Nat → QR Ts) (t : Tp) (p : Nat) : QR Ts := thP (trtP u t p) (trtP u t) 124 false t
def ut (t : Tp) : Nat → (Nat → QR Ts) × (Nat → QR Ts)
  | 0 => (untP none t 0, conP (untP none t 0) t)
  | k + 1 => (untP (some (ut t k)) t (k + 1), conP (untP (some (ut t k)) t (k + 1)) t)
/-- a condition whose first sum is read, at the top -/
def conS (t : Tp) (a : Sm) (p : Nat) : QR Ts := thP (thP (cmpP t 6 a p) (ut t 6).1 38 true t) (trtP (ut t 6).1 t) 124 false t
abbrev Cl : Type := Option Ts × Sm
def askP (t : Tp) (f : QR Ts) : QR Cl := match f with
  | .inl w => .inl w
  | .inr (x, q) => if isC t (skp t q) 63 = true then (match sm t 6 (skp t q + 1) with
      | .inl w => .inl w
      | .inr (s, r) => .inr ((some x, s), r))
    else .inl (skp t q)
def clsP (t : Tp) (p : Nat) : QR Cl :=
  if isC t (skp t p) 119 = true then
    (if isC t (skp t (skp t p + 1)) 58 = true then
      (if isC t (skp t (skp t (skp t p + 1) + 1)) 33 = true ∨ isC t (skp t (skp t (skp t p + 1) + 1)) 40 = true then askP t ((ut t 6).2 (skp t (skp t (skp t p + 1) + 1)))
      else match sm t 6 (skp t (skp t (skp t p + 1) + 1)) with
        | .inl w => .inl w
        | .inr (s, q) => if isCp t (skp t q) = true then askP t (conS t s (skp t q)) else .inr ((none, s), skp t q))
    else .inl (skp t (skp t p + 1)))
  else .inl (skp t p)
def crest (t : Tp) : Nat → Nat → QR (List Cl)
  | 0, p => .inl p
  | n + 1, p => if isC t (skp t p) 59 = true then (match clsP t (skp t p + 1) with
      | .inl w => .inl w
      | .inr (c, q) => (match crest t n q with
        | .inl w => .inl w
        | .inr (l, r) => .inr (c :: l, r)))
    else if skp t p < t.1 then .inl (skp t p) else .inr ([], skp t p)
def prul (t : Tp) : QR (List Cl) := match clsP t 0 with
  | .inl w => .inl w
  | .inr (c, q) => (match crest t 201 q with
    | .inl w => .inl w
    | .inr (l, r) => .inr (c :: l, r))
/-- what holds of an answer; z what is counted ahead -/
def okQs (t : Tp) (p : Nat) : QR Sm → Prop
  | .inl w => w ≤ t.1
  | .inr (s, q) => p < q ∧ q ≤ t.1 ∧ s.sz ≤ q - p ∧ s.g
def okQt (t : Tp) (p : Nat) : QR Ts → Prop
  | .inl w => w ≤ t.1
  | .inr (s, q) => p < q ∧ q ≤ t.1 ∧ s.sz ≤ q - p ∧ s.g
/-- clauses: their parts' sizes -/
def Cl.sz (c : Cl) : Nat := (match c.1 with
  | none => 0
  | some x => x.sz) + c.2.sz
def Cl.g (c : Cl) : Prop := (∀ x, c.1 = some x → x.g) ∧ c.2.g
def okQc (t : Tp) (p : Nat) : QR Cl → Prop
  | .inl w => w ≤ t.1
  | .inr (c, q) => p + 3 ≤ q ∧ q ≤ t.1 ∧ c.sz + 2 ≤ q - p ∧ c.g
section
variable {t : Tp} {I : Option (Nat → QR Sm)} {p : Nat}
theorem numL_ok : ∀ n c v p, p ≤ t.1 → c ≤ 4 → v < 10 ^ c → (match numL t n c v p with
    | .inl w => w ≤ t.1
    | .inr (u, q) => p ≤ q ∧ q ≤ t.1 ∧ u < 10000) := by
  intro n
  induction n with
  | zero => intro c v p hp _ _; exact hp
  | succ n ih =>
    intro c v p hp hc hv
    rw [numL]
    by_cases h1 : dg t p = true
    · rw [if_pos h1]
      have h2 := inC_lt h1
      by_cases h3 : c < 4
      · rw [if_pos h3]
        have := ih (c + 1) (10 * v + (t.2 p - 48)) (p + 1) (by omega) (by omega) (by rw [Nat.pow_succ]; omega)
        generalize numL t n (c + 1) (10 * v + (t.2 p - 48)) (p + 1) = z at this
        match z, this with
        | .inl w, h => exact h
        | .inr (u, q), ⟨r1, r2, r3⟩ => exact ⟨by omega, r2, r3⟩
      · rw [if_neg h3]; exact hp
    · rw [if_neg h1]
      refine ⟨Nat.le_refl _, hp, ?_⟩
      have : 10 ^ c ≤ 10 ^ 4 := Nat.pow_le_pow_right (by decide) hc
      omega
def okQj (t : Tp) : Option (Nat → QR Sm) → Prop
  | none => True
  | some f => ∀ p, p ≤ t.1 → okQs t p (f p)
theorem isLt_lt {q : Nat} (h : isLt t q = true) : q < t.1 ∧ (t.2 q = 108 ∨ t.2 q = 104 ∨ t.2 q = 107 ∨ t.2 q = 115 ∨ t.2 q = 97) := by
  simp only [isLt, Bool.or_eq_true] at h
  rcases h with (((h | h) | h) | h) | h <;> (have := isC_lt h; omega)
theorem isCp_lt {q : Nat} (h : isCp t q = true) : q < t.1 ∧ (t.2 q = 61 ∨ t.2 q = 60 ∨ t.2 q = 62) := by
  simp only [isCp, Bool.or_eq_true] at h
  rcases h with (h | h) | h <;> (have := isC_lt h; omega)
theorem atmP_ok (hI : okQj t I) (hp : p ≤ t.1) : okQs t p (atmP I t p) := by
  have s1 := skp_le (t := t) (a := p)
  have s2 := skp_t hp
  unfold atmP
  by_cases h1 : isLt t (skp t p) = true
  · rw [if_pos h1]
    have := isLt_lt h1
    exact ⟨by omega, by omega, by show 1 ≤ _; omega, this.2⟩
  rw [if_neg h1]
  by_cases h2 : isC t (skp t p) 91 = true
  · rw [if_pos h2]
    have h3 := isC_lt h2
    cases I with
    | none => exact s2
    | some f =>
      have := hI (skp t p + 1) (by omega)
      show okQs t p (match f (skp t p + 1) with | .inl w => .inl w | .inr (s, q) => if isC t (skp t q) 93 = true then .inr (s, skp t q + 1) else .inl (skp t q))
      generalize f (skp t p + 1) = z at this
      match z, this with
      | .inl w, h => exact h
      | .inr (s, q), ⟨r1, r2, r3, r4⟩ =>
        have s3 := skp_le (t := t) (a := q)
        have s4 := skp_t r2
        show okQs t p (if isC t (skp t q) 93 = true then _ else _)
        by_cases h4 : isC t (skp t q) 93 = true
        · rw [if_pos h4]
          have := isC_lt h4
          exact ⟨by omega, by omega, by omega, r4⟩
        · rw [if_neg h4]; exact s4
  rw [if_neg h2]
  by_cases h3 : dg t (skp t p) = true
  · rw [if_pos h3]
    have h4 := inC_lt h3
    have e : numL t 6 0 0 (skp t p) = numL t 5 1 (10 * 0 + (t.2 (skp t p) - 48)) (skp t p + 1) := by rw [numL, if_pos h3, if_pos (by decide)]
    have := numL_ok (t := t) 5 1 (10 * 0 + (t.2 (skp t p) - 48)) (skp t p + 1) (by omega) (by decide) (by rw [Nat.pow_one]; omega)
    rw [e]
    generalize numL t 5 1 (10 * 0 + (t.2 (skp t p) - 48)) (skp t p + 1) = z at this
    match z, this with
    | .inl w, h => exact h
    | .inr (v, q), ⟨r1, r2, r3⟩ => exact ⟨by omega, r2, by show 1 ≤ _; omega, r3⟩
  · rw [if_neg h3]; exact s2
theorem lpP_ok {sub : Nat → QR Sm} {o1 o2 p0 : Nat} (ho : (o1 = 42 ∧ o2 = 47) ∨ (o1 = 43 ∧ o2 = 45)) (hs : ∀ p, p ≤ t.1 → okQs t p (sub p)) : ∀ n a p, p0 < p → p ≤ t.1 → a.sz ≤ p - p0 → a.g → okQs t p0 (lpP sub o1 o2 t n a p) := by
  intro n
  induction n with
  | zero => intro a p _ hp _ _; exact hp
  | succ n ih =>
    intro a p h0 hp ha hg
    have s1 := skp_le (t := t) (a := p)
    have s2 := skp_t hp
    rw [lpP]
    by_cases h1 : isC t (skp t p) o1 = true ∨ isC t (skp t p) o2 = true
    · rw [if_pos h1]
      have h2 : skp t p < t.1 ∧ (t.2 (skp t p) = o1 ∨ t.2 (skp t p) = o2) := by
        rcases h1 with h | h <;> (have := isC_lt h; omega)
      have := hs (skp t p + 1) (by omega)
      generalize sub (skp t p + 1) = z at this
      match z, this with
      | .inl w, h => exact h
      | .inr (b, q), ⟨r1, r2, r3, r4⟩ => exact ih (.pa (t.2 (skp t p)) a b) q (by omega) r2 (by show a.sz + b.sz + 1 ≤ _; omega) ⟨by omega, hg, r4⟩
    · rw [if_neg h1]
      exact ⟨by omega, s2, by omega, hg⟩
theorem trmP_ok (hI : okQj t I) (hp : p ≤ t.1) : okQs t p (trmP I t p) := by
  have := atmP_ok hI hp
  unfold trmP
  generalize atmP I t p = z at this
  match z, this with
  | .inl w, h => exact h
  | .inr (a, q), ⟨r1, r2, r3, r4⟩ => exact lpP_ok (Or.inl ⟨rfl, rfl⟩) (fun p hp => atmP_ok hI hp) 201 a q r1 r2 r3 r4
theorem sumP_ok (hI : okQj t I) (hp : p ≤ t.1) : okQs t p (sumP I t p) := by
  have := trmP_ok hI hp
  unfold sumP
  generalize trmP I t p = z at this
  match z, this with
  | .inl w, h => exact h
  | .inr (a, q), ⟨r1, r2, r3, r4⟩ => exact lpP_ok (Or.inr ⟨rfl, rfl⟩) (fun p hp => trmP_ok hI hp) 201 a q r1 r2 r3 r4
theorem sm_ok : ∀ k p, p ≤ t.1 → okQs t p (sm t k p) := by
  intro k
  induction k with
  | zero => intro p hp; exact sumP_ok (I := none) trivial hp
  | succ k ih => intro p hp; exact sumP_ok (I := some (sm t k)) ih hp
theorem cmpP_ok {k p0 : Nat} {a : Sm} (h0 : p0 < p) (hp : p ≤ t.1) (ha : a.sz ≤ p - p0) (hg : a.g) : okQt t p0 (cmpP t k a p) := by
  have s1 := skp_le (t := t) (a := p)
  have s2 := skp_t hp
  unfold cmpP
  by_cases h1 : isCp t (skp t p) = true
  · rw [if_pos h1]
    have h2 := isCp_lt h1
    have := sm_ok (t := t) k (skp t p + 1) (by omega)
    generalize sm t k (skp t p + 1) = z at this
    match z, this with
    | .inl w, h => exact h
    | .inr (b, q), ⟨r1, r2, r3, r4⟩ => exact ⟨by omega, r2, by show a.sz + b.sz + 1 ≤ _; omega, by omega, hg, r4⟩
  · rw [if_neg h1]; exact s2
def okQu (t : Tp) : Option ((Nat → QR Ts) × (Nat → QR Ts)) → Prop
  | none => True
  | some u => (∀ p, p ≤ t.1 → okQt t p (u.1 p)) ∧ ∀ p, p ≤ t.1 → okQt t p (u.2 p)
theorem untP_ok {U : Option ((Nat → QR Ts) × (Nat → QR Ts))} {k : Nat} (hU : okQu t U) (hp : p ≤ t.1) : okQt t p (untP U t k p) := by
  have s1 := skp_le (t := t) (a := p)
  have s2 := skp_t hp
  unfold untP
  by_cases h1 : isC t (skp t p) 33 = true
  · rw [if_pos h1]
    have h2 := isC_lt h1
    cases U with
    | none => exact s2
    | some u =>
      have := hU.1 (skp t p + 1) (by omega)
      show okQt t p (match u.1 (skp t p + 1) with | .inl w => .inl w | .inr (x, q) => .inr (.no x, q))
      generalize u.1 (skp t p + 1) = z at this
      match z, this with
      | .inl w, h => exact h
      | .inr (x, q), ⟨r1, r2, r3, r4⟩ => exact ⟨by omega, r2, by show x.sz + 1 ≤ _; omega, r4⟩
  rw [if_neg h1]
  by_cases h2 : isC t (skp t p) 40 = true
  · rw [if_pos h2]
    have h3 := isC_lt h2
    cases U with
    | none => exact s2
    | some u =>
      have := hU.2 (skp t p + 1) (by omega)
      show okQt t p (match u.2 (skp t p + 1) with | .inl w => .inl w | .inr (x, q) => if isC t (skp t q) 41 = true then .inr (x, skp t q + 1) else .inl (skp t q))
      generalize u.2 (skp t p + 1) = z at this
      match z, this with
      | .inl w, h => exact h
      | .inr (x, q), ⟨r1, r2, r3, r4⟩ =>
        have s3 := skp_le (t := t) (a := q)
        have s4 := skp_t r2
        show okQt t p (if isC t (skp t q) 41 = true then _ else _)
        by_cases h4 : isC t (skp t q) 41 = true
        · rw [if_pos h4]
          have := isC_lt h4
          exact ⟨by omega, by omega, by omega, r4⟩
        · rw [if_neg h4]; exact s4
  rw [if_neg h2]
  have := sm_ok (t := t) k (skp t p) s2
  generalize sm t k (skp t p) = z at this
  match z, this with
  | .inl w, h => exact h
  | .inr (a, q), ⟨r1, r2, r3, r4⟩ => exact cmpP_ok (by omega) r2 (by omega) r4
theorem ltP_ok {sub : Nat → QR Ts} {op p0 : Nat} {all : Bool} (hs : ∀ p, p ≤ t.1 → okQt t p (sub p)) : ∀ n a p, p0 < p → p ≤ t.1 → a.sz ≤ p - p0 → a.g → okQt t p0 (ltP sub op all t n a p) := by
  intro n
  induction n with
  | zero => intro a p _ hp _ _; exact hp
  | succ n ih =>
    intro a p h0 hp ha hg
    have s1 := skp_le (t := t) (a := p)
    have s2 := skp_t hp
    rw [ltP]
    by_cases h1 : isC t (skp t p) op = true
    · rw [if_pos h1]
      have h2 := isC_lt h1
      have := hs (skp t p + 1) (by omega)
      generalize sub (skp t p + 1) = z at this
      match z, this with
      | .inl w, h => exact h
      | .inr (b, q), ⟨r1, r2, r3, r4⟩ => exact ih (.bo all a b) q (by omega) r2 (by show a.sz + b.sz + 1 ≤ _; omega) ⟨hg, r4⟩
    · rw [if_neg h1]
      exact ⟨by omega, s2, by omega, hg⟩
theorem thP_ok {f : QR Ts} {sub : Nat → QR Ts} {op p0 : Nat} {all : Bool} (hf : okQt t p0 f) (hs : ∀ p, p ≤ t.1 → okQt t p (sub p)) : okQt t p0 (thP f sub op all t) := by
  unfold thP
  match f, hf with
  | .inl w, h => exact h
  | .inr (a, q), ⟨r1, r2, r3, r4⟩ => exact ltP_ok hs 201 a q r1 r2 r3 r4
theorem trtP_ok {u : Nat → QR Ts} (hu : ∀ p, p ≤ t.1 → okQt t p (u p)) (hp : p ≤ t.1) : okQt t p (trtP u t p) := thP_ok (hu p hp) hu
theorem conP_ok {u : Nat → QR Ts} (hu : ∀ p, p ≤ t.1 → okQt t p (u p)) (hp : p ≤ t.1) : okQt t p (conP u t p) := thP_ok (trtP_ok hu hp) (fun p hp => trtP_ok hu hp)
theorem ut_ok : ∀ k, (∀ p, p ≤ t.1 → okQt t p ((ut t k).1 p)) ∧ ∀ p, p ≤ t.1 → okQt t p ((ut t k).2 p) := by
  intro k
  induction k with
  | zero => exact ⟨fun p hp => untP_ok (U := none) trivial hp, fun p hp => conP_ok (fun p hp => untP_ok (U := none) trivial hp) hp⟩
  | succ k ih => exact ⟨fun p hp => untP_ok (U := some (ut t k)) ih hp, fun p hp => conP_ok (fun p hp => untP_ok (U := some (ut t k)) ih hp) hp⟩
theorem conS_ok {p0 : Nat} {a : Sm} (h0 : p0 < p) (hp : p ≤ t.1) (ha : a.sz ≤ p - p0) (hg : a.g) : okQt t p0 (conS t a p) := thP_ok (thP_ok (cmpP_ok h0 hp ha hg) (ut_ok 6).1) (fun p hp => trtP_ok (ut_ok 6).1 hp)
theorem askP_ok {p0 p1 : Nat} {f : QR Ts} (h01 : p0 + 2 ≤ p1) (hf : okQt t p1 f) : okQc t p0 (askP t f) := by
  unfold askP
  match f, hf with
  | .inl w, h => exact h
  | .inr (x, q), ⟨r1, r2, r3, r4⟩ =>
    have s1 := skp_le (t := t) (a := q)
    have s2 := skp_t r2
    show okQc t p0 (if isC t (skp t q) 63 = true then _ else _)
    by_cases h1 : isC t (skp t q) 63 = true
    · rw [if_pos h1]
      have h2 := isC_lt h1
      have := sm_ok (t := t) 6 (skp t q + 1) (by omega)
      generalize sm t 6 (skp t q + 1) = z at this
      match z, this with
      | .inl w, h => exact h
      | .inr (s, r), ⟨u1, u2, u3, u4⟩ => exact ⟨by omega, u2, by show x.sz + s.sz + 2 ≤ _; omega, fun y hy => by cases hy; exact r4, u4⟩
    · rw [if_neg h1]; exact s2
theorem clsP_ok (hp : p ≤ t.1) : okQc t p (clsP t p) := by
  have s1 := skp_le (t := t) (a := p)
  have s2 := skp_t hp
  unfold clsP
  by_cases h1 : isC t (skp t p) 119 = true
  · rw [if_pos h1]
    have h2 := isC_lt h1
    have s3 := skp_le (t := t) (a := skp t p + 1)
    have s4 := skp_t (t := t) (a := skp t p + 1) (by omega)
    by_cases h3 : isC t (skp t (skp t p + 1)) 58 = true
    · rw [if_pos h3]
      have h4 := isC_lt h3
      have s5 := skp_le (t := t) (a := skp t (skp t p + 1) + 1)
      have s6 := skp_t (t := t) (a := skp t (skp t p + 1) + 1) (by omega)
      by_cases h5 : isC t (skp t (skp t (skp t p + 1) + 1)) 33 = true ∨ isC t (skp t (skp t (skp t p + 1) + 1)) 40 = true
      · rw [if_pos h5]
        exact askP_ok (by omega) ((ut_ok 6).2 _ s6)
      · rw [if_neg h5]
        have := sm_ok (t := t) 6 (skp t (skp t (skp t p + 1) + 1)) s6
        generalize sm t 6 (skp t (skp t (skp t p + 1) + 1)) = z at this
        match z, this with
        | .inl w, h => exact h
        | .inr (s, q), ⟨r1, r2, r3, r4⟩ =>
          have s7 := skp_le (t := t) (a := q)
          have s8 := skp_t r2
          show okQc t p (if isCp t (skp t q) = true then _ else _)
          by_cases h6 : isCp t (skp t q) = true
          · rw [if_pos h6]
            exact askP_ok (p1 := skp t (skp t (skp t p + 1) + 1)) (by omega) (conS_ok (by omega) s8 (by omega) r4)
          · rw [if_neg h6]
            exact ⟨by omega, s8, by show 0 + s.sz + 2 ≤ _; omega, ⟨fun y hy => (by cases hy), r4⟩⟩
    · rw [if_neg h3]; exact s4
  · rw [if_neg h1]; exact s2
end
