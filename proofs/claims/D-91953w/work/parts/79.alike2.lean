/-! ALIKE 2: both tests pass the same whole pairings -/
set_option maxRecDepth 100000
def ky (p q : Nat) (l : Int32) : Nat × Nat × Int32 := (min p q, max p q, l)
theorem ky_eq {a b p q : Nat} {l k : Int32} : (ky a b l = ky p q k) = (l = k ∧ ((a = p ∧ b = q) ∨ (a = q ∧ b = p))) := by
  simp only [ky, Prod.mk.injEq]
  apply propext
  constructor
  · rintro ⟨h1, h2, h3⟩; exact ⟨h3, by omega⟩
  · rintro ⟨h3, h1⟩; exact ⟨by omega, by omega, h3⟩
/-- both as tests -/
def btw (F : Fig) (p q : Nat) (l : Int32) : Nat := fb_ct (fBt F p q l) (F.1 0)
def tx (F G : Fig) (a : Nat → Nat) (p : Nat) : Bool := decide (fE F p = fE G (a p)) && decide (∀ k, k < F.1 0 → ∀ o, o < p + 1 → btw F o p (F.2.2 k) = btw G (a o) (a p) (F.2.2 k))
def sm1 (F G : Fig) (p q x y : Nat) : Bool := decide (∀ k, k < F.1 0 → btw F p q (F.2.2 k) = btw G x y (F.2.2 k)) && decide (∀ k, k < G.1 0 → btw F p q (G.2.2 k) = btw G x y (G.2.2 k))
def tm (F G : Fig) (a : Nat → Nat) (p : Nat) : Bool := decide (∀ q, q < p + 1 → sm1 F G p q (a p) (a q) = true)
theorem tx_loc {F G : Fig} : loct (tx F G) := by
  intro a b p h
  unfold tx
  rw [h p (Nat.le_refl _)]
  congr 2
  apply propext
  constructor
  · intro q k hk o ho; rw [← h o (by omega)]; exact q k hk o ho
  · intro q k hk o ho; rw [h o (by omega)]; exact q k hk o ho
theorem tm_loc {F G : Fig} : loct (tm F G) := by
  intro a b p h
  unfold tm
  congr 1
  apply propext
  constructor
  · intro q k hk; rw [← h p (Nat.le_refl _), ← h k (by omega)]; exact q k hk
  · intro q k hk; rw [h p (Nat.le_refl _), h k (by omega)]; exact q k hk
section
variable {F G : Fig} {c : Nat → Nat} {n : Nat}
/-- the keys of a figure's bubbles, its points renamed -/
def kl (F : Fig) (c : Nat → Nat) : List (Nat × Nat × Int32) := (List.range (F.1 0)).map (fun b => ky (c (F.2.1 0 b)) (c (F.2.1 1 b)) (F.2.2 b))
theorem kl_ct {p q : Nat} {l : Int32} (hk : FigOk F) (hi : ∀ i j, i < F.1 2 → j < F.1 2 → c i = c j → i = j) (hp : p < F.1 2) (hq : q < F.1 2) : (kl F c).count (ky (c p) (c q) l) = btw F p q l := by
  rw [kl, cnt_fb]
  refine fb_ct_cong (fun b hb => ?_)
  obtain ⟨h1, h2, -⟩ := hk.2.2.2.2.1 b hb
  unfold fBt
  simp only [ky_eq]
  rw [Bool.eq_iff_iff]
  simp only [decide_eq_true_eq, Bool.and_eq_true, Bool.or_eq_true, beq_iff_eq]
  constructor
  · rintro ⟨e0, ⟨e1, e2⟩ | ⟨e1, e2⟩⟩
    · exact ⟨e0, Or.inl ⟨hi _ _ h1 hp e1, hi _ _ h2 hq e2⟩⟩
    · exact ⟨e0, Or.inr ⟨hi _ _ h1 hq e1, hi _ _ h2 hp e2⟩⟩
  · rintro ⟨e0, ⟨e1, e2⟩ | ⟨e1, e2⟩⟩
    · exact ⟨e0, Or.inl ⟨by rw [e1], by rw [e2]⟩⟩
    · exact ⟨e0, Or.inr ⟨by rw [e1], by rw [e2]⟩⟩
def wk (x : Nat) (k : Nat × Nat × Int32) : Nat := (if k.1 = x then 1 else 0) + (if k.2.1 = x then 1 else 0)
theorem kl_e {p : Nat} (hk : FigOk F) (hi : ∀ i j, i < F.1 2 → j < F.1 2 → c i = c j → i = j) (hp : p < F.1 2) : ((kl F c).map (wk (c p))).sum = fE F p := by
  rw [kl, List.map_map, sum_fb]
  refine fb_sm_cong (fun b hb => ?_)
  obtain ⟨h1, h2, -⟩ := hk.2.2.2.2.1 b hb
  have e1 : (c (F.2.1 0 b) = c p) = (F.2.1 0 b = p) := propext ⟨fun e => hi _ _ h1 hp e, fun e => by rw [e]⟩
  have e2 : (c (F.2.1 1 b) = c p) = (F.2.1 1 b = p) := propext ⟨fun e => hi _ _ h2 hp e, fun e => by rw [e]⟩
  simp only [Function.comp, wk, ky, fEa]
  rcases Nat.le_total (c (F.2.1 0 b)) (c (F.2.1 1 b)) with z | z
  · simp only [Nat.min_eq_left z, Nat.max_eq_right z, e1, e2]
  · simp only [Nat.min_eq_right z, Nat.max_eq_left z, e1, e2]; omega
theorem Ac_inj {t : (Nat → Nat) → Nat → Bool} (h : ∀ p, p < n → c p < n ∧ (∀ j, j < p → c j ≠ c p) ∧ t c p = true) : ∀ i j, i < n → j < n → c i = c j → i = j := by
  intro i j hi hj e
  rcases Nat.lt_trichotomy i j with q | q | q
  · exact absurd e ((h j hj).2.1 i q)
  · exact q
  · exact absurd e.symm ((h i hi).2.1 j q)
theorem perm_of (hk : FigOk F) (hk' : FigOk G) (hn : F.1 2 = n) (hn' : G.1 2 = n) (hB : F.1 0 = G.1 0) (hr : ∀ p, p < n → c p < n) (hi : ∀ i j, i < n → j < n → c i = c j → i = j)
    (ht : ∀ p, p < n → ∀ o, o ≤ p → ∀ k, k < F.1 0 → btw F o p (F.2.2 k) = btw G (c o) (c p) (F.2.2 k)) : (kl F c).Perm (kl G id) := by
  have hi1 : ∀ i j, i < F.1 2 → j < F.1 2 → c i = c j → i = j := by rw [hn]; exact hi
  refine cnt_eq _ _ (fun k => ?_) (by simp [kl, hB])
  by_cases hm : k ∈ kl F c
  · unfold kl at hm
    rw [List.mem_map] at hm
    obtain ⟨b, hb, rfl⟩ := hm
    rw [List.mem_range] at hb
    obtain ⟨h1, h2, -⟩ := hk.2.2.2.2.1 b hb
    have key : ∀ o p, o ≤ p → p < n → (kl F c).count (ky (c o) (c p) (F.2.2 b)) ≤ (kl G id).count (ky (c o) (c p) (F.2.2 b)) := by
      intro o p hop hp
      rw [kl_ct hk hi1 (by omega) (by omega), ht p hp o hop b hb]
      have := kl_ct (F := G) (c := id) (p := c o) (q := c p) (l := F.2.2 b) hk' (fun _ _ _ _ e => e) (by rw [hn']; exact hr o (by omega)) (by rw [hn']; exact hr p hp)
      rw [← this]
      exact Nat.le_refl _
    rcases Nat.le_total (F.2.1 0 b) (F.2.1 1 b) with z | z
    · exact key _ _ z (by omega)
    · have e : ky (c (F.2.1 0 b)) (c (F.2.1 1 b)) (F.2.2 b) = ky (c (F.2.1 1 b)) (c (F.2.1 0 b)) (F.2.2 b) := by rw [ky_eq]; exact ⟨rfl, Or.inr ⟨rfl, rfl⟩⟩
      rw [e]
      exact key _ _ z (by omega)
  · rw [List.count_eq_zero_of_not_mem hm]; exact Nat.zero_le _
theorem btw_of (hk : FigOk F) (hk' : FigOk G) (hn : F.1 2 = n) (hn' : G.1 2 = n) (hr : ∀ p, p < n → c p < n) (hi : ∀ i j, i < n → j < n → c i = c j → i = j) (hP : (kl F c).Perm (kl G id)) {p q : Nat} (hp : p < n) (hq : q < n) (l : Int32) : btw F p q l = btw G (c p) (c q) l := by
  have hi1 : ∀ i j, i < F.1 2 → j < F.1 2 → c i = c j → i = j := by rw [hn]; exact hi
  rw [← kl_ct hk hi1 (by omega) (by omega)]
  have := kl_ct (F := G) (c := id) (p := c p) (q := c q) (l := l) hk' (fun _ _ _ _ e => e) (by rw [hn']; exact hr p hp) (by rw [hn']; exact hr q hq)
  rw [← this]
  exact hP.count_eq _
theorem fE_of (hk : FigOk F) (hk' : FigOk G) (hn : F.1 2 = n) (hn' : G.1 2 = n) (hr : ∀ p, p < n → c p < n) (hi : ∀ i j, i < n → j < n → c i = c j → i = j) (hP : (kl F c).Perm (kl G id)) {p : Nat} (hp : p < n) : fE F p = fE G (c p) := by
  have hi1 : ∀ i j, i < F.1 2 → j < F.1 2 → c i = c j → i = j := by rw [hn]; exact hi
  rw [← kl_e hk hi1 (by omega)]
  have := kl_e (F := G) (c := id) (p := c p) hk' (fun _ _ _ _ e => e) (by rw [hn']; exact hr p hp)
  rw [← this]
  exact (hP.map _).sum_nat
theorem Ac_xm (hk : FigOk F) (hk' : FigOk G) (hn : F.1 2 = n) (hn' : G.1 2 = n) (hB : F.1 0 = G.1 0) : Ac (tx F G) n c ↔ Ac (tm F G) n c := by
  constructor
  · intro h
    have hi := Ac_inj h
    have hr : ∀ p, p < n → c p < n := fun p hp => (h p hp).1
    have hP := perm_of hk hk' hn hn' hB hr hi (fun p hp o ho k hk2 => by
      have := (h p hp).2.2
      simp only [tx, Bool.and_eq_true, decide_eq_true_eq] at this
      exact this.2 k hk2 o (by omega))
    intro p hp
    refine ⟨(h p hp).1, (h p hp).2.1, ?_⟩
    unfold tm
    apply decide_eq_true
    intro q hq
    simp only [sm1, Bool.and_eq_true, decide_eq_true_eq]
    exact ⟨fun k _ => btw_of hk hk' hn hn' hr hi hP hp (by omega) _, fun k _ => btw_of hk hk' hn hn' hr hi hP hp (by omega) _⟩
  · intro h
    have hi := Ac_inj h
    have hr : ∀ p, p < n → c p < n := fun p hp => (h p hp).1
    have hc : ∀ {H : Fig} {a b : Nat} {l : Int32}, btw H a b l = btw H b a l := by
      intro H a b l
      unfold btw
      refine fb_ct_cong (fun k _ => ?_)
      unfold fBt
      rw [Bool.or_comm]
    have hP := perm_of hk hk' hn hn' hB hr hi (fun p hp o ho k hk2 => by
      have := (h p hp).2.2
      unfold tm at this
      have := of_decide_eq_true this o (by omega)
      simp only [sm1, Bool.and_eq_true, decide_eq_true_eq] at this
      rw [hc, this.1 k hk2, hc])
    intro p hp
    refine ⟨(h p hp).1, (h p hp).2.1, ?_⟩
    simp only [tx, Bool.and_eq_true, decide_eq_true_eq]
    exact ⟨fE_of hk hk' hn hn' hr hi hP hp, fun k _ o ho => btw_of hk hk' hn hn' hr hi hP (by omega) hp _⟩
end
