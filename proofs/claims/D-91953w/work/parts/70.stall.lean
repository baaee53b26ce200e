/-! THE STALL 1: families of objects laid over a heap -/
set_option maxRecDepth 100000
def fi (sa : Nat → Nat) : Nat → Nat → Option Nat
  | 0, _ => none
  | n + 1, a => if sa n = a then some n else fi sa n a
def inj (n : Nat) (sa : Nat → Nat) : Prop := ∀ i j, i < n → j < n → sa i = sa j → i = j
theorem fi_s {sa : Nat → Nat} {s : Nat} : ∀ n, inj n sa → s < n → fi sa n (sa s) = some s := by
  intro n
  induction n with
  | zero => intro _ h; omega
  | succ n ih =>
    intro hi hs
    rw [fi]
    by_cases e : s = n
    · subst e; rw [if_pos rfl]
    · rw [if_neg (fun q => e (hi s n hs (by omega) q.symm)), ih (fun i j a b => hi i j (by omega) (by omega)) (by omega)]
theorem fi_n {sa : Nat → Nat} {a : Nat} : ∀ n, (∀ s, s < n → sa s ≠ a) → fi sa n a = none := by
  intro n
  induction n with
  | zero => intro _; rfl
  | succ n ih =>
    intro h
    rw [fi, if_neg (h n (by omega)), ih (fun s hs => h s (by omega))]
theorem fi_e {sa : Nat → Nat} {a s : Nat} : ∀ n, fi sa n a = some s → s < n ∧ sa s = a := by
  intro n
  induction n with
  | zero => intro h; cases h
  | succ n ih =>
    intro h
    rw [fi] at h
    split at h
    · rename_i e; cases h; exact ⟨by omega, e⟩
    · have := ih h; exact ⟨by omega, this.2⟩
/-- objects C 0 .. at sa 0 .. -/
def oput (h : pH) (n : Nat) (sa : Nat → Nat) (C : Nat → va_E) : pH := (fun a => match fi sa n a with
  | some s => some (C s)
  | none => h.1 a, h.2)
section
variable {h : pH} {n a k F i : Nat} {sa : Nat → Nat} {C D : Nat → va_E} {v : Value} {w : Int32}
theorem oput_at {s : Nat} (hi : inj n sa) (hs : s < n) : (oput h n sa C).1 (sa s) = some (C s) := by
  simp only [oput, fi_s n hi hs]
theorem oput_out (ha : ∀ s, s < n → sa s ≠ a) : (oput h n sa C).1 a = h.1 a := by
  simp only [oput, fi_n n ha]
theorem oput_2 : (oput h n sa C).2 = h.2 := rfl
theorem oput_cong (hc : ∀ s, s < n → C s = D s) : oput h n sa C = oput h n sa D := by
  unfold oput
  congr 1
  funext a
  cases q : fi sa n a with
  | none => rfl
  | some s => show some (C s) = some (D s); rw [hc s (fi_e n q).1]
theorem oput_id (hc : ∀ s, s < n → h.1 (sa s) = some (C s)) : oput h n sa C = h := by
  unfold oput
  refine Prod.ext ?_ rfl
  funext a
  show (match fi sa n a with | some s => some (C s) | none => h.1 a) = h.1 a
  cases q : fi sa n a with
  | none => rfl
  | some s => obtain ⟨q1, q2⟩ := fi_e n q; show some (C s) = h.1 a; rw [← q2, hc s q1]
theorem oput_up {s : Nat} (hi : inj n sa) (hs : s < n) {c : va_E} (h1 : D s = c) (h2 : ∀ j, j < n → j ≠ s → D j = C j) : pup (oput h n sa C) (sa s) c = oput h n sa D := by
  unfold pup oput
  simp only [Prod.mk.injEq, and_true]
  funext q
  by_cases e : q = sa s
  · subst e
    rw [if_pos rfl, fi_s n hi hs]
    show some c = some (D s)
    rw [h1]
  · rw [if_neg e]
    cases z : fi sa n q with
    | none => rfl
    | some j =>
      obtain ⟨z1, z2⟩ := fi_e n z
      show some (C j) = some (D j)
      rw [h2 j z1 (fun e2 => e (by rw [← z2, e2]))]
theorem oput_pup {c : va_E} (ha : ∀ s, s < n → sa s ≠ a) : pup (oput h n sa C) a c = oput (pup h a c) n sa C := by
  unfold pup oput
  simp only [Prod.mk.injEq, and_true]
  funext q
  by_cases e : q = a
  · subst e; rw [if_pos rfl, fi_n n ha]; simp
  · rw [if_neg e]
    cases fi sa n q with
    | none => show h.1 q = _; simp [e]
    | some j => rfl
theorem oO_pfl (ha : ∀ s, s < n → sa s ≠ a) : pfl (oput h n sa C) F a k = pfl h F a k := by simp only [pfl, oput_out ha]
theorem oO_psf (ha : ∀ s, s < n → sa s ≠ a) : psf (oput h n sa C) a k v = oput (psf h a k v) n sa C := by
  simp only [psf, oput_out ha]
  split
  · exact oput_pup ha
  · rfl
theorem FigAt.oput {f : Nat} {G : Fig} (hF : FigAt h f G) (ha : ∀ s, s < n → sa s < f ∨ f + 6 < sa s) : FigAt (oput h n sa C) f G := by
  have o : ∀ j, j ≤ 6 → (Pilot.CBalloonStallLaw_law_r2619_f7ee69.oput h n sa C).1 (f + j) = h.1 (f + j) := fun j hj => oput_out (fun s hs => by have := ha s hs; omega)
  have o0 := o 0 (by omega)
  rw [Nat.add_zero] at o0
  unfold FigAt at hF ⊢
  rw [o0, o 1 (by omega), o 2 (by omega), o 3 (by omega), o 4 (by omega), o 5 (by omega), o 6 (by omega)]
  exact hF
theorem FigAt.ne {f : Nat} {G : Fig} {c : Nat} {l : List Value} (hF : FigAt h f G) (ha : h.1 a = some (.inr (c, l))) (hc : c ≠ 24) : a < f ∨ f + 6 < a := by
  obtain ⟨h0, ⟨c1, h1, -⟩, ⟨c2, h2, -⟩, ⟨c3, h3, -⟩, ⟨c4, h4, -⟩, ⟨c5, h5, -⟩, ⟨c6, h6, -⟩⟩ := hF
  rcases Nat.lt_or_ge a f with q | q
  · exact Or.inl q
  · rcases Nat.lt_or_ge (f + 6) a with q2 | q2
    · exact Or.inr q2
    · exfalso
      obtain ⟨j, rfl⟩ : ∃ j, a = f + j := ⟨a - f, by omega⟩
      match j, (show j ≤ 6 by omega) with
      | 0, _ => rw [Nat.add_zero, h0] at ha; cases ha; exact hc rfl
      | 1, _ => rw [h1] at ha; cases ha
      | 2, _ => rw [h2] at ha; cases ha
      | 3, _ => rw [h3] at ha; cases ha
      | 4, _ => rw [h4] at ha; cases ha
      | 5, _ => rw [h5] at ha; cases ha
      | 6, _ => rw [h6] at ha; cases ha
end
/-- sorts: what is told, what is there, what is needed -/
def sC (so : Nat → Nat → Int32) (T N : Nat → Nat) (s : Nat) : va_E := .inr (4, [.int (so s 0), .int (so s 1), .int (so s 2), .int (so s 3), .int (nI (T s)), .int (nI (N s))])
def un (T : Nat → Nat) (s v : Nat) : Nat → Nat := fun j => if j = s then v else T j
/-- guests -/
def gC (gf : Nat → Nat) (c p : Nat → Int32) (r : Nat → Nat → Int32) (k : Nat) : va_E := .inr (25, [.ref (gf k), .int (c k), .int (p k), .int (r k 0), .int (r k 1), .int (r k 2), .int (r k 3)])
section
variable {h : pH} {n s K k : Nat} {sa ga gf T N : Nat → Nat} {so r : Nat → Nat → Int32} {c p : Nat → Int32} {w : Int32} {v : Nat}
theorem un_s : un T s v s = v := if_pos rfl
theorem un_un {w : Nat} : un (un T s v) s w = un T s w := by
  funext j; unfold un; by_cases e : j = s <;> simp [e]
theorem sF0 (hi : inj n sa) (hs : s < n) : pfl (oput h n sa (sC so T N)) 4 (sa s) 0 = .int (so s 0) := pfl_of (oput_at hi hs) rfl rfl
theorem sF1 (hi : inj n sa) (hs : s < n) : pfl (oput h n sa (sC so T N)) 4 (sa s) 1 = .int (so s 1) := pfl_of (oput_at hi hs) rfl rfl
theorem sF2 (hi : inj n sa) (hs : s < n) : pfl (oput h n sa (sC so T N)) 4 (sa s) 2 = .int (so s 2) := pfl_of (oput_at hi hs) rfl rfl
theorem sF3 (hi : inj n sa) (hs : s < n) : pfl (oput h n sa (sC so T N)) 4 (sa s) 3 = .int (so s 3) := pfl_of (oput_at hi hs) rfl rfl
theorem sF4 (hi : inj n sa) (hs : s < n) : pfl (oput h n sa (sC so T N)) 4 (sa s) 4 = .int (nI (T s)) := pfl_of (oput_at hi hs) rfl rfl
theorem sF5 (hi : inj n sa) (hs : s < n) : pfl (oput h n sa (sC so T N)) 4 (sa s) 5 = .int (nI (N s)) := pfl_of (oput_at hi hs) rfl rfl
theorem sP4 (hi : inj n sa) (hs : s < n) : psf (oput h n sa (sC so T N)) (sa s) 4 (.int (nI v)) = oput h n sa (sC so (un T s v) N) := by
  rw [psf_of (oput_at hi hs)]
  refine oput_up hi hs ?_ (fun j hj hne => ?_)
  · simp [sC, un]
  · simp [sC, un, hne]
theorem sP5 (hi : inj n sa) (hs : s < n) : psf (oput h n sa (sC so T N)) (sa s) 5 (.int (nI v)) = oput h n sa (sC so T (un N s v)) := by
  rw [psf_of (oput_at hi hs)]
  refine oput_up hi hs ?_ (fun j hj hne => ?_)
  · simp [sC, un]
  · simp [sC, un, hne]
theorem gF0 (hi : inj K ga) (hk : k < K) : pfl (oput h K ga (gC gf c p r)) 25 (ga k) 0 = .ref (gf k) := pfl_of (oput_at hi hk) rfl rfl
theorem gF1 (hi : inj K ga) (hk : k < K) : pfl (oput h K ga (gC gf c p r)) 25 (ga k) 1 = .int (c k) := pfl_of (oput_at hi hk) rfl rfl
theorem gF2 (hi : inj K ga) (hk : k < K) : pfl (oput h K ga (gC gf c p r)) 25 (ga k) 2 = .int (p k) := pfl_of (oput_at hi hk) rfl rfl
theorem gF3 (hi : inj K ga) (hk : k < K) : pfl (oput h K ga (gC gf c p r)) 25 (ga k) 3 = .int (r k 0) := pfl_of (oput_at hi hk) rfl rfl
theorem gF4 (hi : inj K ga) (hk : k < K) : pfl (oput h K ga (gC gf c p r)) 25 (ga k) 4 = .int (r k 1) := pfl_of (oput_at hi hk) rfl rfl
theorem gF5 (hi : inj K ga) (hk : k < K) : pfl (oput h K ga (gC gf c p r)) 25 (ga k) 5 = .int (r k 2) := pfl_of (oput_at hi hk) rfl rfl
theorem gF6 (hi : inj K ga) (hk : k < K) : pfl (oput h K ga (gC gf c p r)) 25 (ga k) 6 = .int (r k 3) := pfl_of (oput_at hi hk) rfl rfl
theorem gP (hi : inj K ga) (hk : k < K) {j : Nat} (hj : j < 4) : psf (oput h K ga (gC gf c p r)) (ga k) (3 + j) (.int w) = oput h K ga (gC gf c p (ua r k j w)) := by
  rw [psf_of (oput_at hi hk)]
  refine oput_up hi hk ?_ (fun i hi hne => ?_)
  · match j, hj with
    | 0, _ => simp [gC, ua, upd]
    | 1, _ => simp [gC, ua, upd]
    | 2, _ => simp [gC, ua, upd]
    | 3, _ => simp [gC, ua, upd]
  · simp [gC, ua, hne]
theorem gP3 (hi : inj K ga) (hk : k < K) : psf (oput h K ga (gC gf c p r)) (ga k) 3 (.int w) = oput h K ga (gC gf c p (ua r k 0 w)) := gP hi hk (j := 0) (by decide)
theorem gP4 (hi : inj K ga) (hk : k < K) : psf (oput h K ga (gC gf c p r)) (ga k) 4 (.int w) = oput h K ga (gC gf c p (ua r k 1 w)) := gP hi hk (j := 1) (by decide)
theorem gP5 (hi : inj K ga) (hk : k < K) : psf (oput h K ga (gC gf c p r)) (ga k) 5 (.int w) = oput h K ga (gC gf c p (ua r k 2 w)) := gP hi hk (j := 2) (by decide)
theorem gP6 (hi : inj K ga) (hk : k < K) : psf (oput h K ga (gC gf c p r)) (ga k) 6 (.int w) = oput h K ga (gC gf c p (ua r k 3 w)) := gP hi hk (j := 3) (by decide)
end
/-- the world of the stall -/
structure Stl where
  x : Nat
  h : pH
  K : Nat
  n : Nat
  ga : Nat → Nat
  sa : Nat → Nat
  gf : Nat → Nat
  c : Nat → Int32
  p : Nat → Int32
  so : Nat → Nat → Int32
  Fg : Nat → Fig
  ig : inj K ga
  is : inj n sa
  hgs : ∀ k, k < K → ∀ s, s < n → sa s ≠ ga k
  hgx : ∀ k, k < K → x + 14 ≤ ga k
  hsx : ∀ s, s < n → x + 14 ≤ sa s
  hK : K ≤ 30
  hn : n ≤ 6
  hF : ∀ k, k < K → x + 14 ≤ gf k ∧ FigAt h (gf k) (Fg k) ∧ FigOk (Fg k) ∧ (∀ b, b < (Fg k).1 1 → (Fg k).2.1 3 b < n) ∧ (∀ s, s < n → sa s < gf k ∨ gf k + 6 < sa s) ∧ ∀ j, j < K → ga j < gf k ∨ gf k + 6 < ga j
def Stl.w (L : Stl) (r : Nat → Nat → Int32) (T N : Nat → Nat) (X : XS) : pH := xput (oput (oput L.h L.K L.ga (gC L.gf L.c L.p r)) L.n L.sa (sC L.so T N)) L.x X
/-- the component's fields tell of it -/
def Stl.ok (L : Stl) (X : XS) : Prop := X.1 1 = nI L.n ∧ X.1 12 = nI L.K ∧ (∀ s, s < L.n → X.2.2.1 1 s = some (L.sa s)) ∧ ∀ k, k < L.K → X.2.2.1 9 k = some (L.ga k)
section
variable {L : Stl} {r : Nat → Nat → Int32} {T N : Nat → Nat} {X : XS} {k s v : Nat} {w : Int32}
theorem Stl.fig (hk : k < L.K) : FigAt (L.w r T N X) (L.gf k) (L.Fg k) := by
  obtain ⟨h1, h2, h3, h4, h5, h6⟩ := L.hF k hk
  exact ((h2.oput h6).oput h5).put h1
theorem Stl.f0 (hk : k < L.K) : pfl (L.w r T N X) 25 (L.ga k) 0 = .ref (L.gf k) := by
  unfold Stl.w; rw [xO_pfl (Or.inr (L.hgx k hk)), oO_pfl (L.hgs k hk), gF0 L.ig hk]
theorem Stl.f1 (hk : k < L.K) : pfl (L.w r T N X) 25 (L.ga k) 1 = .int (L.c k) := by
  unfold Stl.w; rw [xO_pfl (Or.inr (L.hgx k hk)), oO_pfl (L.hgs k hk), gF1 L.ig hk]
theorem Stl.f2 (hk : k < L.K) : pfl (L.w r T N X) 25 (L.ga k) 2 = .int (L.p k) := by
  unfold Stl.w; rw [xO_pfl (Or.inr (L.hgx k hk)), oO_pfl (L.hgs k hk), gF2 L.ig hk]
theorem Stl.f3 (hk : k < L.K) : pfl (L.w r T N X) 25 (L.ga k) 3 = .int (r k 0) := by
  unfold Stl.w; rw [xO_pfl (Or.inr (L.hgx k hk)), oO_pfl (L.hgs k hk), gF3 L.ig hk]
theorem Stl.f4 (hk : k < L.K) : pfl (L.w r T N X) 25 (L.ga k) 4 = .int (r k 1) := by
  unfold Stl.w; rw [xO_pfl (Or.inr (L.hgx k hk)), oO_pfl (L.hgs k hk), gF4 L.ig hk]
theorem Stl.f5 (hk : k < L.K) : pfl (L.w r T N X) 25 (L.ga k) 5 = .int (r k 2) := by
  unfold Stl.w; rw [xO_pfl (Or.inr (L.hgx k hk)), oO_pfl (L.hgs k hk), gF5 L.ig hk]
theorem Stl.f6 (hk : k < L.K) : pfl (L.w r T N X) 25 (L.ga k) 6 = .int (r k 3) := by
  unfold Stl.w; rw [xO_pfl (Or.inr (L.hgx k hk)), oO_pfl (L.hgs k hk), gF6 L.ig hk]
theorem Stl.p3 (hk : k < L.K) : psf (L.w r T N X) (L.ga k) 3 (.int w) = L.w (ua r k 0 w) T N X := by
  unfold Stl.w; rw [xO_psf (Or.inr (L.hgx k hk)), oO_psf (L.hgs k hk), gP3 L.ig hk]
theorem Stl.p4 (hk : k < L.K) : psf (L.w r T N X) (L.ga k) 4 (.int w) = L.w (ua r k 1 w) T N X := by
  unfold Stl.w; rw [xO_psf (Or.inr (L.hgx k hk)), oO_psf (L.hgs k hk), gP4 L.ig hk]
theorem Stl.p5 (hk : k < L.K) : psf (L.w r T N X) (L.ga k) 5 (.int w) = L.w (ua r k 2 w) T N X := by
  unfold Stl.w; rw [xO_psf (Or.inr (L.hgx k hk)), oO_psf (L.hgs k hk), gP5 L.ig hk]
theorem Stl.p6 (hk : k < L.K) : psf (L.w r T N X) (L.ga k) 6 (.int w) = L.w (ua r k 3 w) T N X := by
  unfold Stl.w; rw [xO_psf (Or.inr (L.hgx k hk)), oO_psf (L.hgs k hk), gP6 L.ig hk]
theorem Stl.s2 (hs : s < L.n) : pfl (L.w r T N X) 4 (L.sa s) 2 = .int (L.so s 2) := by
  unfold Stl.w; rw [xO_pfl (Or.inr (L.hsx s hs)), sF2 L.is hs]
theorem Stl.s3 (hs : s < L.n) : pfl (L.w r T N X) 4 (L.sa s) 3 = .int (L.so s 3) := by
  unfold Stl.w; rw [xO_pfl (Or.inr (L.hsx s hs)), sF3 L.is hs]
theorem Stl.s4 (hs : s < L.n) : pfl (L.w r T N X) 4 (L.sa s) 4 = .int (nI (T s)) := by
  unfold Stl.w; rw [xO_pfl (Or.inr (L.hsx s hs)), sF4 L.is hs]
theorem Stl.s5 (hs : s < L.n) : pfl (L.w r T N X) 4 (L.sa s) 5 = .int (nI (N s)) := by
  unfold Stl.w; rw [xO_pfl (Or.inr (L.hsx s hs)), sF5 L.is hs]
theorem Stl.q4 (hs : s < L.n) : psf (L.w r T N X) (L.sa s) 4 (.int (nI v)) = L.w r (un T s v) N X := by
  unfold Stl.w; rw [xO_psf (Or.inr (L.hsx s hs)), sP4 L.is hs]
theorem Stl.q5 (hs : s < L.n) : psf (L.w r T N X) (L.sa s) 5 (.int (nI v)) = L.w r T (un N s v) X := by
  unfold Stl.w; rw [xO_psf (Or.inr (L.hsx s hs)), sP5 L.is hs]
theorem Stl.wc {T' N' : Nat → Nat} (h1 : ∀ s, s < L.n → T s = T' s) (h2 : ∀ s, s < L.n → N s = N' s) : L.w r T N X = L.w r T' N' X := by
  unfold Stl.w
  rw [oput_cong (D := sC L.so T' N') (fun s hs => by unfold sC; rw [h1 s hs, h2 s hs])]
theorem p2_iu : p2 (.int w) pU = true := rfl
/-- the component's own laws, in this world -/
theorem zCl : pcl (L.w r T N X) L.x = 1 := xCl
theorem zF0 : pfl (L.w r T N X) 1 L.x 0 = .ref (L.x + 1) := xF0
theorem zF1 : pfl (L.w r T N X) 1 L.x 1 = .int (X.1 1) := xF1
theorem zF11 : pfl (L.w r T N X) 1 L.x 11 = .ref (L.x + 9) := xF11
theorem zF12 : pfl (L.w r T N X) 1 L.x 12 = .int (X.1 12) := xF12
theorem zF13 : pfl (L.w r T N X) 1 L.x 13 = .int (X.1 13) := xF13
theorem zF14 : pfl (L.w r T N X) 1 L.x 14 = .int (X.1 14) := xF14
theorem zF15 : pfl (L.w r T N X) 1 L.x 15 = .int (X.1 15) := xF15
theorem zF17 : pfl (L.w r T N X) 1 L.x 17 = .long X.2.2.2 := xF17
theorem zP13 : psf (L.w r T N X) L.x 13 (.int w) = L.w r T N (upd X.1 13 w, X.2) := xP13
theorem zP17 {l : Int64} : psf (L.w r T N X) L.x 17 (.long l) = L.w r T N (X.1, X.2.1, X.2.2.1, l) := xP17
theorem zL1 : plnQ (L.w r T N X) (L.x + 1) = 6 := xL1
theorem zC1 : pctQ (L.w r T N X) (L.x + 1) = X.2.2.1 1 := xC1
theorem zL9 : plnQ (L.w r T N X) (L.x + 9) = 30 := xL9
theorem zC9 : pctQ (L.w r T N X) (L.x + 9) = X.2.2.1 9 := xC9
end
