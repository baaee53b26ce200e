/-! READING 2: moves, and what a text says (plain part); chains of moves on the heap -/
set_option maxRecDepth 100000
inductive Mv where
  | nil
  | blow (v : Nat) (c : Mv)
  | name (w : Nat) (c : Mv)
  | ring (i : Mv) (c : Mv)
  | fresh (s : Nat) (i : Mv) (c : Mv)
inductive Nd where
  | blow (v : Nat)
  | name (w : Nat)
  | ring (i : Mv)
  | fresh (s : Nat) (i : Mv)
def Nd.c : Nd → Mv → Mv
  | .blow v, c => .blow v c
  | .name w, c => .name w c
  | .ring i, c => .ring i c
  | .fresh s i, c => .fresh s i c
/-- what is made by moves -/
def ex : Mv → Hd → Hd
  | .nil, H => H
  | .blow v c, H => ex c (H.blo (nI v))
  | .name w c, H => ex c (H.nam w)
  | .ring i c, H => ex c ((ex i H).joi H.wh (ex i H).wh)
  | .fresh s i c, H => ex c (ex i (H.beg s))
def Nd.x : Nd → Hd → Hd
  | .blow v, H => H.blo (nI v)
  | .name w, H => H.nam w
  | .ring i, H => (ex i H).joi H.wh (ex i H).wh
  | .fresh s i, H => ex i (H.beg s)
theorem ex_c {x : Nd} {c : Mv} {H : Hd} : ex (x.c c) H = ex c (x.x H) := by cases x <;> rfl
/-- bubbles of it -/
def bc : Mv → Nat
  | .nil => 0
  | .blow _ c => bc c + 1
  | .name _ c => bc c
  | .ring i c => bc i + bc c
  | .fresh _ i c => bc i + bc c
/-- sound moves, nested at most k deep -/
def gd : Mv → Nat → Prop
  | .nil, _ => True
  | .blow v c, k => 1 ≤ v ∧ v ≤ 30 ∧ gd c k
  | .name w c, k => w < 8 ∧ gd c k
  | .ring i c, k => 0 < k ∧ gd i (k - 1) ∧ gd c k
  | .fresh _ _ _, _ => False
def Nd.b : Nd → Nat
  | .blow _ => 1
  | .name _ => 0
  | .ring i => bc i
  | .fresh _ i => bc i
def Nd.g : Nd → Nat → Prop
  | .blow v, _ => 1 ≤ v ∧ v ≤ 30
  | .name w, _ => w < 8
  | .ring i, k => 0 < k ∧ gd i (k - 1)
  | .fresh _ _, _ => False
theorem bc_c {x : Nd} {c : Mv} : bc (x.c c) = x.b + bc c := by cases x <;> simp [Nd.c, bc, Nd.b] <;> omega
theorem gd_c {x : Nd} {c : Mv} {k : Nat} : gd (x.c c) k = (x.g k ∧ gd c k) := by cases x <;> simp [Nd.c, gd, Nd.g, and_assoc]
abbrev PR (α : Type) : Type := Nat ⊕ (α × Nat × Nat)
/-- a bubble told at p, bu being told -/
def bubV (t : Tp) (p : Nat) : Nat := if dg t (p + 1) = true then 10 * (t.2 p - 48) + (t.2 (p + 1) - 48) else t.2 p - 48
def bubQ (t : Tp) (p : Nat) : Nat := if dg t (p + 1) = true then p + 2 else p + 1
def bubP (t : Tp) (p bu : Nat) : Nat ⊕ (Nat × Nat) :=
  if bu = 24 then .inl p else if bubV t p < 1 ∨ 30 < bubV t p then .inl (bubQ t p - 1) else if dg t (bubQ t p) = true then .inl (bubQ t p) else .inr (bubV t p, bubQ t p)
def isM (t : Tp) (p : Nat) : Bool := dg t p || inC t p 97 104 || isC t p 40
def pone (I : Option (Nat → Nat → PR Mv)) (t : Tp) (p bu : Nat) : PR Nd :=
  if isM t (skp t p) = false then .inl (skp t p)
  else if inC t (skp t p) 97 104 = true then .inr (.name (t.2 (skp t p) - 97), skp t p + 1, bu)
  else if dg t (skp t p) = true then (match bubP t (skp t p) bu with
    | .inl w => .inl w
    | .inr (v, q) => .inr (.blow v, q, bu + 1))
  else match I with
    | none => .inl (skp t p)
    | some f => (match f (skp t p + 1) bu with
      | .inl w => .inl w
      | .inr (i, q, b) => if isC t (skp t q) 41 = true then .inr (.ring i, skp t q + 1, b) else .inl (skp t q))
def consR (x : Nd) : PR Mv → PR Mv
  | .inl w => .inl w
  | .inr (c, q, b) => .inr (x.c c, q, b)
def prest (I : Option (Nat → Nat → PR Mv)) (t : Tp) : Nat → Nat → Nat → PR Mv
  | 0, p, _ => .inl p
  | n + 1, p, bu => if isM t (skp t p) = true then (match pone I t p bu with
      | .inl w => .inl w
      | .inr (x, q, b) => consR x (prest I t n q b))
    else .inr (.nil, skp t p, bu)
def pmv (I : Option (Nat → Nat → PR Mv)) (t : Tp) (p bu : Nat) : PR Mv := match pone I t p bu with
  | .inl w => .inl w
  | .inr (x, q, b) => consR x (prest I t 201 q b)
def pm (t : Tp) : Nat → Nat → Nat → PR Mv
  | 0 => pmv none t
  | k + 1 => pmv (some (pm t k)) t
/-- a balloon told at p; N sorts -/
def pbal (t : Tp) (N p bu : Nat) : PR Nd :=
  if isC t (skp t p) 35 = true then
    (if inC t (skp t (skp t p + 1)) 48 57 = true ∧ t.2 (skp t (skp t p + 1)) < 48 + N then (match pm t 6 (skp t (skp t p + 1) + 1) bu with
      | .inl w => .inl w
      | .inr (c, q, b) => .inr (.fresh (t.2 (skp t (skp t p + 1)) - 48) c, q, b))
    else .inl (skp t (skp t p + 1)))
  else .inl (skp t p)
/-- the balloons behind the first; nb of them are told -/
def pbrest (t : Tp) (N : Nat) : Nat → Nat → Nat → Nat → PR Mv
  | 0, p, _, _ => .inl p
  | n + 1, p, bu, nb => if isC t (skp t p) 47 = true then
      (if nb < 6 then (match pbal t N (skp t p + 1) bu with
        | .inl w => .inl w
        | .inr (x, q, b) => consR x (pbrest t N n q b (nb + 1)))
      else .inl (skp t p))
    else if skp t p < t.1 then .inl (skp t p) else .inr (.nil, skp t p, bu)
def pfig (t : Tp) (N : Nat) : PR Mv := match pbal t N 0 0 with
  | .inl w => .inl w
  | .inr (x, q, b) => consR x (pbrest t N 201 q b 1)
/-- what holds of an answer -/
def okN (t : Tp) (k p bu : Nat) : PR Nd → Prop
  | .inl w => w ≤ t.1
  | .inr (x, q, b) => p < q ∧ q ≤ t.1 ∧ b = bu + x.b ∧ b ≤ 24 ∧ x.g k
def okL (t : Tp) (k p bu : Nat) : PR Mv → Prop
  | .inl w => w ≤ t.1
  | .inr (c, q, b) => p ≤ q ∧ q ≤ t.1 ∧ b = bu + bc c ∧ b ≤ 24 ∧ gd c k
section
variable {t : Tp} {I : Option (Nat → Nat → PR Mv)} {k p bu : Nat}
theorem inC_lt {lo hi : Nat} (h : inC t p lo hi = true) : p < t.1 ∧ lo ≤ t.2 p ∧ t.2 p ≤ hi := by
  simp [inC] at h
  exact ⟨h.1.1, h.1.2, h.2⟩
theorem isC_lt {c : Nat} (h : isC t p c = true) : p < t.1 ∧ t.2 p = c := by
  simp [isC] at h
  exact h
theorem bubQ_b (h : dg t p = true) : p < bubQ t p ∧ bubQ t p ≤ t.1 := by
  have h1 := inC_lt h
  unfold bubQ
  split
  · rename_i e; have := inC_lt e; omega
  · omega
def okI (t : Tp) (k : Nat) : Option (Nat → Nat → PR Mv) → Prop
  | none => True
  | some f => 0 < k ∧ ∀ p bu, p ≤ t.1 → bu ≤ 24 → okL t (k - 1) p bu (f p bu)
theorem pone_ok (hI : okI t k I) (hp : p ≤ t.1) (hb : bu ≤ 24) : okN t k p bu (pone I t p bu) := by
  have s1 := skp_le (t := t) (a := p)
  have s2 := skp_t hp
  unfold pone
  by_cases h1 : isM t (skp t p) = false
  · rw [if_pos h1]; exact s2
  rw [if_neg h1]
  by_cases h2 : inC t (skp t p) 97 104 = true
  · rw [if_pos h2]
    have := inC_lt h2
    refine ⟨by omega, by omega, rfl, by omega, ?_⟩
    show t.2 (skp t p) - 97 < 8
    omega
  rw [if_neg h2]
  by_cases h3 : dg t (skp t p) = true
  · rw [if_pos h3]
    have q1 := bubQ_b h3
    unfold bubP
    by_cases e1 : bu = 24
    · rw [if_pos e1]; exact s2
    rw [if_neg e1]
    by_cases e2 : bubV t (skp t p) < 1 ∨ 30 < bubV t (skp t p)
    · rw [if_pos e2]; show _ - 1 ≤ _; omega
    rw [if_neg e2]
    by_cases e3 : dg t (bubQ t (skp t p)) = true
    · rw [if_pos e3]; show _ ≤ _; omega
    rw [if_neg e3]
    exact ⟨by omega, by omega, rfl, by omega, by omega, by omega⟩
  rw [if_neg h3]
  cases I with
  | none => exact s2
  | some f =>
    have h4 : skp t p < t.1 := by
      simp only [isM, h3, h2, Bool.false_or, Bool.not_eq_false] at h1
      exact (isC_lt h1).1
    have := hI.2 (skp t p + 1) bu (by omega) hb
    show okN t k p bu (match f (skp t p + 1) bu with | .inl w => .inl w | .inr (i, q, b) => if isC t (skp t q) 41 = true then .inr (.ring i, skp t q + 1, b) else .inl (skp t q))
    generalize f (skp t p + 1) bu = z at this
    match z, this with
    | .inl w, h => exact h
    | .inr (i, q, b), ⟨r1, r2, r3, r4, r5⟩ =>
      have s3 := skp_le (t := t) (a := q)
      have s4 := skp_t r2
      by_cases e : isC t (skp t q) 41 = true
      · show okN t k p bu (if isC t (skp t q) 41 = true then _ else _)
        rw [if_pos e]
        have := isC_lt e
        exact ⟨by omega, by omega, r3, r4, hI.1, r5⟩
      · show okN t k p bu (if isC t (skp t q) 41 = true then _ else _)
        rw [if_neg e]
        exact s4
theorem prest_ok (hI : okI t k I) : ∀ n p bu, p ≤ t.1 → bu ≤ 24 → okL t k p bu (prest I t n p bu) := by
  intro n
  induction n with
  | zero => intro p bu hp hb; exact hp
  | succ n ih =>
    intro p bu hp hb
    have s1 := skp_le (t := t) (a := p)
    have s2 := skp_t hp
    rw [prest]
    by_cases h1 : isM t (skp t p) = true
    · rw [if_pos h1]
      have := pone_ok hI hp hb
      generalize pone I t p bu = z at this
      match z, this with
      | .inl w, h => exact h
      | .inr (x, q, b), ⟨r1, r2, r3, r4, r5⟩ =>
        have := ih q b r2 r4
        show okL t k p bu (consR x (prest I t n q b))
        generalize prest I t n q b = y at this
        match y, this with
        | .inl w, h => exact h
        | .inr (c, q', b'), ⟨u1, u2, u3, u4, u5⟩ => exact ⟨by omega, u2, by rw [bc_c]; omega, u4, by rw [gd_c]; exact ⟨r5, u5⟩⟩
    · rw [if_neg h1]
      exact ⟨s1, s2, rfl, hb, trivial⟩
theorem pmv_ok (hI : okI t k I) (hp : p ≤ t.1) (hb : bu ≤ 24) : okL t k p bu (pmv I t p bu) := by
  unfold pmv
  have := pone_ok hI hp hb
  generalize pone I t p bu = z at this
  match z, this with
  | .inl w, h => exact h
  | .inr (x, q, b), ⟨r1, r2, r3, r4, r5⟩ =>
    have := prest_ok hI 201 q b r2 r4
    show okL t k p bu (consR x (prest I t 201 q b))
    generalize prest I t 201 q b = y at this
    match y, this with
    | .inl w, h => exact h
    | .inr (c, q', b'), ⟨u1, u2, u3, u4, u5⟩ => exact ⟨by omega, u2, by rw [bc_c]; omega, u4, by rw [gd_c]; exact ⟨r5, u5⟩⟩
theorem pm_ok : ∀ k p bu, p ≤ t.1 → bu ≤ 24 → okL t k p bu (pm t k p bu) := by
  intro k
  induction k with
  | zero => intro p bu hp hb; exact pmv_ok (I := none) trivial hp hb
  | succ k ih => intro p bu hp hb; exact pmv_ok (I := some (pm t k)) ⟨by omega, ih⟩ hp hb
end
/-- a chain of moves on the heap -/
def Ch (h : pH) : Mv → Option Nat → Prop
  | .nil, a => a = none
  | .blow v c, a => ∃ q e, a = some q ∧ h.1 q = some (.inr (11, [va_rf e, .int (nI v)])) ∧ Ch h c e
  | .name w c, a => ∃ q e, a = some q ∧ h.1 q = some (.inr (10, [va_rf e, .int (nI w)])) ∧ Ch h c e
  | .ring i c, a => ∃ q e b, a = some q ∧ h.1 q = some (.inr (12, [va_rf e, .ref b])) ∧ Ch h i (some b) ∧ Ch h c e
  | .fresh s i c, a => ∃ q e b, a = some q ∧ h.1 q = some (.inr (9, [va_rf e, .int (nI s), .ref b])) ∧ Ch h i (some b) ∧ Ch h c e
/-- agreeing from lo to hi -/
def ag (h h' : pH) (lo hi : Nat) : Prop := ∀ q, lo ≤ q → q < hi → h'.1 q = h.1 q
def ChS (h : pH) (lo hi : Nat) (c : Mv) (a : Option Nat) : Prop := ∀ h', ag h h' lo hi → Ch h' c a
theorem ChS.agr {h h' : pH} {lo hi : Nat} {c : Mv} {a : Option Nat} (H : ChS h lo hi c a) (hg : ag h h' lo hi) : ChS h' lo hi c a := fun h2 g => H h2 (fun q q1 q2 => (g q q1 q2).trans (hg q q1 q2))
theorem ChS.ch {h : pH} {lo hi : Nat} {c : Mv} {a : Option Nat} (H : ChS h lo hi c a) : Ch h c a := H h (fun _ _ _ => rfl)
theorem ChS.wk {h : pH} {lo hi lo' hi' : Nat} {c : Mv} {a : Option Nat} (H : ChS h lo hi c a) (h1 : lo' ≤ lo) (h2 : hi ≤ hi') : ChS h lo' hi' c a := fun h3 g => H h3 (fun q q1 q2 => g q (by omega) (by omega))
/-- a chain from a on whose last one is at l, and open -/
def Wd (h : pH) (lo hi l a : Nat) (f : Mv → Mv) : Prop := lo ≤ l ∧ l < hi ∧ ∃ cl fs, pok 8 cl = true ∧ h.1 l = some (.inr (cl, .null :: fs)) ∧ ∀ h' e d, (∀ q, lo ≤ q → q < hi → q ≠ l → h'.1 q = h.1 q) → h'.1 l = some (.inr (cl, va_rf e :: fs)) → Ch h' d e → Ch h' (f d) (some a)
theorem Wd.agr {h h' : pH} {lo hi l a : Nat} {f : Mv → Mv} (W : Wd h lo hi l a f) (hg : ag h h' lo hi) : Wd h' lo hi l a f := by
  obtain ⟨w1, w2, cl, fs, w3, w4, w5⟩ := W
  refine ⟨w1, w2, cl, fs, w3, (hg l w1 w2).trans w4, fun h2 e d g => w5 h2 e d (fun q q1 q2 q3 => (g q q1 q2 q3).trans (hg q q1 q2))⟩
theorem Wd.end {h : pH} {lo hi l a : Nat} {f : Mv → Mv} (W : Wd h lo hi l a f) : ChS h lo hi (f .nil) (some a) := by
  obtain ⟨w1, w2, cl, fs, w3, w4, w5⟩ := W
  exact fun h' g => w5 h' none .nil (fun q q1 q2 _ => g q q1 q2) ((g l w1 w2).trans w4) rfl
theorem Wd.app {h h2 : pH} {lo hi hi2 l a q : Nat} {f g : Mv → Mv} (W : Wd h lo hi l a f) (hg : ag h h2 lo hi) (V : Wd h2 hi hi2 q q g) : Wd (psf h2 l 0 (.ref q)) lo hi2 q a (fun d => f (g d)) ∧ pfl (psf h2 l 0 (.ref q)) 8 l 0 = .ref q ∧ pis (pfl h2 8 l 0) = true ∧ ∀ z, z ≠ l → (psf h2 l 0 (.ref q)).1 z = h2.1 z := by
  obtain ⟨w1, w2, cl, fs, w3, w4, w5⟩ := W
  obtain ⟨v1, v2, cl', fs', v3, v4, v5⟩ := V
  have c2 : h2.1 l = some (.inr (cl, .null :: fs)) := (hg l w1 w2).trans w4
  have e3 : psf h2 l 0 (.ref q) = pup h2 l (.inr (cl, .ref q :: fs)) := by rw [psf_of c2]; rfl
  rw [e3]
  have c3 : (pup h2 l (.inr (cl, .ref q :: fs))).1 l = some (.inr (cl, .ref q :: fs)) := pup_same
  refine ⟨⟨by omega, v2, cl', fs', v3, ?_, fun h' e d g1 g2 g3 => ?_⟩, pfl_of c3 w3 rfl, ?_, fun z hz => pup_ne hz⟩
  · rw [pup_ne (by omega)]; exact v4
  · have k1 : Ch h' (g d) (some q) := v5 h' e d (fun z z1 z2 z3 => by rw [g1 z (by omega) z2 z3, pup_ne (by omega)]) g2 g3
    refine w5 h' (some q) (g d) (fun z z1 z2 z3 => ?_) ?_ k1
    · rw [g1 z z1 (by omega) (by omega), pup_ne z3, hg z z1 z2]
    · rw [g1 l w1 (by omega) (by omega), c3]; rfl
  · rw [pfl_of c2 w3 rfl]; rfl
/-- a single one -/
theorem Wd_1 {h : pH} {lo hi q cl : Nat} {fs : List Value} {x : Nd} (h1 : lo ≤ q) (h2 : q < hi) (h3 : pok 8 cl = true) (h4 : h.1 q = some (.inr (cl, .null :: fs))) (h5 : ∀ h' e d, (∀ z, lo ≤ z → z < hi → z ≠ q → h'.1 z = h.1 z) → h'.1 q = some (.inr (cl, va_rf e :: fs)) → Ch h' d e → Ch h' (x.c d) (some q)) : Wd h lo hi q q x.c := ⟨h1, h2, cl, fs, h3, h4, h5⟩
