/-! PLAIN FIGURES 1: the plain law -/
set_option maxRecDepth 100000
/-- a twist that no hand need hold -/
def sl (F : Fig) (k : Nat) : Bool := fTw F k && !fHo F k
/-- points that are gone with the first k bubbles -/
def gnB (F : Fig) : Nat → Nat → Bool
  | 0, _ => false
  | k + 1, q => gnB F k q || (sl F k && decide (F.2.1 1 k = q))
def kp (F : Fig) (q : Nat) : Bool := !gnB F (F.1 0) q
theorem smA1 {g : Nat → Nat} : ∀ n i, i < n → g i ≤ fb_sm g n := by
  intro n
  induction n with
  | zero => intro i hi; omega
  | succ n ih =>
    intro i hi
    rw [fb_sm_succ]
    by_cases e : i = n
    · subst e; omega
    · have := ih i (by omega); omega
theorem smA2 {g : Nat → Nat} : ∀ n i j, i < j → j < n → g i + g j ≤ fb_sm g n := by
  intro n
  induction n with
  | zero => intro i j _ hj; omega
  | succ n ih =>
    intro i j hij hj
    rw [fb_sm_succ]
    by_cases e : j = n
    · subst e; have := smA1 (g := g) j i hij; omega
    · have := ih i j hij (by omega); omega
theorem smA3 {g : Nat → Nat} : ∀ n i j k, i < j → j < k → k < n → g i + g j + g k ≤ fb_sm g n := by
  intro n
  induction n with
  | zero => intro i j k _ _ hk; omega
  | succ n ih =>
    intro i j k hij hjk hk
    rw [fb_sm_succ]
    by_cases e : k = n
    · subst e; have := smA2 (g := g) k i j hij hjk; omega
    · have := ih i j k hij hjk (by omega); omega
theorem gnB_ex {F : Fig} : ∀ k q, (gnB F k q = true) = ∃ j, j < k ∧ sl F j = true ∧ F.2.1 1 j = q := by
  intro k
  induction k with
  | zero => intro q; simp [gnB]
  | succ k ih =>
    intro q
    rw [gnB, Bool.or_eq_true, ih q]
    apply propext
    constructor
    · rintro (⟨j, h1, h2, h3⟩ | h)
      · exact ⟨j, by omega, h2, h3⟩
      · simp only [Bool.and_eq_true, decide_eq_true_eq] at h
        exact ⟨k, by omega, h.1, h.2⟩
    · rintro ⟨j, h1, h2, h3⟩
      by_cases e : j = k
      · subst e; right; simp [h2, h3]
      · exact Or.inl ⟨j, by omega, h2, h3⟩
section
variable {F : Fig}
theorem sl_f (hx : FigX F) {j : Nat} (h : sl F j = true) : j + 1 < F.1 0 ∧ F.2.1 2 j = F.2.1 2 (j + 1) ∧ F.2.1 1 j = F.2.1 0 (j + 1) ∧ fE F (F.2.1 1 j) ≤ 2 := by
  simp only [sl, fTw, fHo, Bool.and_eq_true, decide_eq_true_eq, Bool.not_eq_true', decide_eq_false_iff_not, beq_iff_eq] at h
  obtain ⟨⟨h1, h2⟩, h3⟩ := h
  exact ⟨h1, h2, hx.2 j h1 h2, by omega⟩
/-- at the point of a slack twist no other bubble ends -/
theorem sl_to (hx : FigX F) {j k : Nat} (h : sl F j = true) (hk : k < F.1 0) (hne : k ≠ j) : F.2.1 1 k ≠ F.2.1 1 j := by
  intro e
  obtain ⟨h1, h2, h3, h4⟩ := sl_f hx h
  have a1 : 1 ≤ fEa F (F.2.1 1 j) j := by unfold fEa; rw [if_pos (rfl : F.2.1 1 j = _)]; omega
  have a2 : 1 ≤ fEa F (F.2.1 1 j) (j + 1) := by unfold fEa; rw [if_pos h3.symm]; omega
  have a3 : 1 ≤ fEa F (F.2.1 1 j) k := by unfold fEa; rw [if_pos e]; omega
  unfold fE at h4
  rcases Nat.lt_trichotomy k j with c | c | c
  · have := smA3 (g := fEa F (F.2.1 1 j)) (F.1 0) k j (j + 1) c (by omega) h1; omega
  · omega
  · by_cases c2 : k = j + 1
    · subst c2
      have a4 : fEa F (F.2.1 1 j) (j + 1) = 2 := by unfold fEa; rw [if_pos h3.symm, if_pos e]
      have := smA2 (g := fEa F (F.2.1 1 j)) (F.1 0) j (j + 1) (by omega) h1; omega
    · have := smA3 (g := fEa F (F.2.1 1 j)) (F.1 0) j (j + 1) k (by omega) (by omega) hk; omega
theorem sl_fr (hx : FigX F) {j k : Nat} (h : sl F j = true) (hk : k < F.1 0) (hne : k ≠ j + 1) : F.2.1 0 k ≠ F.2.1 1 j := by
  intro e
  obtain ⟨h1, h2, h3, h4⟩ := sl_f hx h
  have a1 : 1 ≤ fEa F (F.2.1 1 j) j := by unfold fEa; rw [if_pos (rfl : F.2.1 1 j = _)]; omega
  have a2 : 1 ≤ fEa F (F.2.1 1 j) (j + 1) := by unfold fEa; rw [if_pos h3.symm]; omega
  have a3 : 1 ≤ fEa F (F.2.1 1 j) k := by unfold fEa; rw [if_pos e]; omega
  unfold fE at h4
  rcases Nat.lt_trichotomy k j with c | c | c
  · have := smA3 (g := fEa F (F.2.1 1 j)) (F.1 0) k j (j + 1) c (by omega) h1; omega
  · subst c
    have a4 : fEa F (F.2.1 1 k) k = 2 := by unfold fEa; rw [if_pos e, if_pos rfl]
    have := smA2 (g := fEa F (F.2.1 1 k)) (F.1 0) k (k + 1) (by omega) h1; omega
  · have := smA3 (g := fEa F (F.2.1 1 j)) (F.1 0) j (j + 1) k (by omega) (by omega) hk; omega
theorem kp_to (hx : FigX F) {k : Nat} (hk : k < F.1 0) (hs : sl F k = false) : kp F (F.2.1 1 k) = true := by
  unfold kp
  cases hg : gnB F (F.1 0) (F.2.1 1 k) with
  | false => rfl
  | true =>
    rw [gnB_ex] at hg
    obtain ⟨j, h1, h2, h3⟩ := hg
    exact absurd h3.symm (sl_to hx h2 hk (fun e => by subst e; rw [hs] at h2; cases h2))
theorem kp_fr (hx : FigX F) {k : Nat} (hk : k < F.1 0) (hs : k = 0 ∨ sl F (k - 1) = false) : kp F (F.2.1 0 k) = true := by
  unfold kp
  cases hg : gnB F (F.1 0) (F.2.1 0 k) with
  | false => rfl
  | true =>
    rw [gnB_ex] at hg
    obtain ⟨j, h1, h2, h3⟩ := hg
    refine absurd h3.symm (sl_fr hx h2 hk (fun e => ?_))
    subst e
    rcases hs with h | h
    · omega
    · rw [show j + 1 - 1 = j from rfl, h2] at h; cases h
/-- a count of fewer -/
theorem ct_less {p q : Nat → Bool} {a : Nat} : ∀ n, (∀ i, i < n → p i = true → q i = true) → a < n → q a = true → p a = false → fb_ct p n + 1 ≤ fb_ct q n := by
  intro n
  induction n with
  | zero => intro _ ha; omega
  | succ n ih =>
    intro hs ha h1 h2
    rw [fb_ct_succ, fb_ct_succ]
    by_cases e : a = n
    · subst e
      have : fb_ct p a ≤ fb_ct q a := by
        have : ∀ m, m ≤ a → fb_ct p m ≤ fb_ct q m := by
          intro m
          induction m with
          | zero => intro _; exact Nat.le_refl _
          | succ m ihm =>
            intro hm
            rw [fb_ct_succ, fb_ct_succ]
            have := ihm (by omega)
            cases hp : p m with
            | false => simp; omega
            | true => rw [hs m (by omega) hp]; simp; omega
        exact this a (Nat.le_refl _)
      rw [h1, h2]; simp; omega
    · have := ih (fun i hi => hs i (by omega)) (by omega) h1 h2
      cases hp : p n with
      | false => simp; omega
      | true => rw [hs n (by omega) hp]; simp; omega
theorem gone_ct (hk : FigOk F) (hx : FigX F) : ∀ k, k ≤ F.1 0 → fb_ct (fun q => !gnB F k q) (F.1 2) + fb_ct (sl F) k ≤ F.1 2 := by
  intro k
  induction k with
  | zero => intro _; have := fb_ct_le (fun q => !gnB F 0 q) (F.1 2); rw [show fb_ct (sl F) 0 = 0 from rfl]; omega
  | succ k ih =>
    intro hkk
    have i1 := ih (by omega)
    rw [fb_ct_succ]
    cases hs : sl F k with
    | false =>
      have : (fun q => !gnB F (k + 1) q) = fun q => !gnB F k q := by funext q; rw [gnB, hs]; simp
      rw [this]; simpa using i1
    | true =>
      have hto := (hk.2.2.2.2.1 k (by omega)).2.1
      have := ct_less (p := fun q => !gnB F (k + 1) q) (q := fun q => !gnB F k q) (a := F.2.1 1 k) (F.1 2) (fun i _ h => by
        simp only [gnB, Bool.not_eq_true', Bool.or_eq_false_iff] at h ⊢
        exact h.1) hto (by
        cases hg : gnB F k (F.2.1 1 k) with
        | false => rfl
        | true =>
          rw [gnB_ex] at hg
          obtain ⟨j, h1, h2, h3⟩ := hg
          exact absurd h3.symm (sl_to hx h2 (by omega) (by omega))) (by simp [gnB, hs])
      simp only [if_true]
      omega
end
/-- lengths from f on -/
def isum (F : Fig) (f : Nat) : Nat → Int32
  | 0 => 0
  | j + 1 => isum F f j + F.2.2 (f + j)
/-- the component's hand, the model's bubbles, where the next begins, the length so far -/
def plS (F : Fig) (H0 K0 : Hd) : Nat → Hd × Hd × Nat × Int32
  | 0 => (H0, K0, 0, 0)
  | k + 1 => if sl F k = true then ((plS F H0 K0 k).1, (plS F H0 K0 k).2.1, (plS F H0 K0 k).2.2.1, (plS F H0 K0 k).2.2.2 + F.2.2 k) else ((plS F H0 K0 k).1.add ((plS F H0 K0 k).2.2.2 + F.2.2 k) (fb_ct (kp F) (F.2.1 0 (plS F H0 K0 k).2.2.1)) (fb_ct (kp F) (F.2.1 1 k)) (F.2.1 2 k), (plS F H0 K0 k).2.1.add ((plS F H0 K0 k).2.2.2 + F.2.2 k) (F.2.1 0 (plS F H0 K0 k).2.2.1) (F.2.1 1 k) (F.2.1 2 k), k + 1, 0)
/-- what holds after k bubbles -/
structure PlI (F : Fig) (H0 K0 : Hd) (k : Nat) (z : Hd × Hd × Nat × Int32) : Prop where
  f : z.2.2.1 ≤ k
  s : z.2.2.2 = isum F z.2.2.1 (k - z.2.2.1)
  g : z.2.2.1 = 0 ∨ sl F (z.2.2.1 - 1) = false
  j : ∀ i, z.2.2.1 ≤ i → i < k → sl F i = true
  ok : HdOk z.1
  mq : z.1.mq
  np : z.1.np = H0.np
  nl : z.1.nl = H0.nl
  jo : z.1.jo = H0.jo
  so : z.1.so = H0.so
  ks : z.2.1.so = K0.so
  nb : z.1.nb + fb_ct (sl F) k = k
  kb : z.2.1.nb = z.1.nb
  b : ∀ i, i < z.1.nb → z.2.1.fr i < F.1 2 ∧ kp F (z.2.1.fr i) = true ∧ z.1.fr i = fb_ct (kp F) (z.2.1.fr i) ∧ z.2.1.tq i < F.1 2 ∧ kp F (z.2.1.tq i) = true ∧ z.1.tq i = fb_ct (kp F) (z.2.1.tq i) ∧ z.1.ba i = z.2.1.ba i ∧ z.1.le i = z.2.1.le i
  t : ∀ i, i + 1 < z.1.nb → z.2.1.ba i = z.2.1.ba (i + 1) → z.2.1.tq i = z.2.1.fr (i + 1)
  l : 0 < z.1.nb → 0 < z.2.2.1 ∧ z.2.1.tq (z.1.nb - 1) = F.2.1 1 (z.2.2.1 - 1) ∧ z.2.1.ba (z.1.nb - 1) = F.2.1 2 (z.2.2.1 - 1)
theorem ct_mono {p : Nat → Bool} : ∀ n i, i ≤ n → fb_ct p i ≤ fb_ct p n := by
  intro n
  induction n with
  | zero => intro i hi; rw [show i = 0 by omega]; exact Nat.le_refl _
  | succ n ih =>
    intro i hi
    by_cases e : i = n + 1
    · subst e; exact Nat.le_refl _
    · have := ih i (by omega); rw [fb_ct_succ]; omega
theorem ct_in {p : Nat → Bool} {i n : Nat} (hi : i < n) (hp : p i = true) : fb_ct p i < fb_ct p n := by
  have := ct_mono (p := p) n (i + 1) hi
  rw [fb_ct_succ, hp] at this
  simp at this
  omega
/-- the run of one balloon -/
theorem run_ba {F : Fig} (hx : FigX F) {a : Nat} : ∀ k, a ≤ k → (∀ i, a ≤ i → i < k → sl F i = true) → F.2.1 2 a = F.2.1 2 k := by
  intro k
  induction k with
  | zero => intro h _; rw [show a = 0 by omega]
  | succ k ih =>
    intro h hs
    by_cases e : a = k + 1
    · rw [e]
    · rw [ih (by omega) (fun i h1 h2 => hs i h1 (by omega)), (sl_f hx (hs k (by omega) (by omega))).2.1]
theorem plS_I {F : Fig} {H0 K0 : Hd} (hk : FigOk F) (hx : FigX F) (h0 : HdOk H0) (m0 : H0.mq) (b0 : H0.nb = 0) (c0 : K0.nb = 0) (p0 : H0.np = fb_ct (kp F) (F.1 2)) (l0 : H0.nl = F.1 1) : ∀ k, k ≤ F.1 0 → PlI F H0 K0 k (plS F H0 K0 k) := by
  have k1 := hk.1
  intro k
  induction k with
  | zero =>
    intro _
    exact ⟨Nat.le_refl _, rfl, Or.inl rfl, fun i h1 h2 => absurd h2 (Nat.not_lt_zero _), h0, m0, rfl, rfl, rfl, rfl, rfl, by show H0.nb + 0 = 0; omega, by show K0.nb = H0.nb; omega, fun i hi => absurd hi (by show ¬ i < H0.nb; omega), fun i hi => absurd hi (by show ¬ i + 1 < H0.nb; omega), fun h => absurd h (by show ¬ 0 < H0.nb; omega)⟩
  | succ k ih =>
    intro hkk
    have I := ih (by omega)
    generalize hz : plS F H0 K0 k = z at I
    obtain ⟨H, K, f, s⟩ := z
    obtain ⟨i1, i2, i3, i4, i5, i6, i7, i8, i9, i10, i11, i12, i13, i14, i15, i16⟩ := I
    dsimp only at i1 i2 i3 i4 i5 i6 i7 i8 i9 i10 i11 i12 i13 i14 i15 i16
    have hls : s + F.2.2 k = isum F f (k + 1 - f) := by
      rw [show k + 1 - f = (k - f) + 1 by omega, isum, ← i2, show f + (k - f) = k by omega]
    rw [plS, hz]
    dsimp only
    by_cases hs : sl F k = true
    · rw [if_pos hs]
      exact ⟨by show f ≤ k + 1; omega, hls, i3, fun i h1 h2 => by
        have h1 : f ≤ i := h1
        by_cases e : i = k
        · subst e; exact hs
        · exact i4 i h1 (by omega), i5, i6, i7, i8, i9, i10, i11, by show H.nb + fb_ct (sl F) (k + 1) = k + 1; rw [fb_ct_succ, hs]; simp; omega, i13, i14, i15, i16⟩
    · rw [if_neg hs]
      have hs' : sl F k = false := by simpa using hs
      obtain ⟨q1, q2, q3⟩ := hk.2.2.2.2.1 k (by omega)
      obtain ⟨r1, r2, r3⟩ := hk.2.2.2.2.1 f (by omega)
      have kt := kp_to hx (show k < F.1 0 by omega) hs'
      have kf := kp_fr hx (show f < F.1 0 by omega) i3
      have ct := ct_in q2 kt
      have cf := ct_in r1 kf
      have hb24 : H.nb < 24 := by omega
      refine ⟨Nat.le_refl _, ?_, Or.inr hs', fun i h1 h2 => absurd h2 (by show ¬ i < k + 1; have h1 : k + 1 ≤ i := h1; omega), i5.add hb24 (by omega) (by omega) (by omega), mq_add i6, i7, i8, i9, i10, i11, ?_, ?_, fun i hi => ?_, fun i hi => ?_, fun _ => ?_⟩
      · show (0 : Int32) = isum F (k + 1) (k + 1 - (k + 1))
        rw [Nat.sub_self]; rfl
      · show H.nb + 1 + fb_ct (sl F) (k + 1) = k + 1
        rw [fb_ct_succ, hs']; simp; omega
      · show K.nb + 1 = H.nb + 1
        omega
      · have hi : i < H.nb + 1 := hi
        show un K.fr K.nb (F.2.1 0 f) i < F.1 2 ∧ kp F (un K.fr K.nb (F.2.1 0 f) i) = true ∧ un H.fr H.nb (fb_ct (kp F) (F.2.1 0 f)) i = fb_ct (kp F) (un K.fr K.nb (F.2.1 0 f) i) ∧ un K.tq K.nb (F.2.1 1 k) i < F.1 2 ∧ kp F (un K.tq K.nb (F.2.1 1 k) i) = true ∧ un H.tq H.nb (fb_ct (kp F) (F.2.1 1 k)) i = fb_ct (kp F) (un K.tq K.nb (F.2.1 1 k) i) ∧ un H.ba H.nb (F.2.1 2 k) i = un K.ba K.nb (F.2.1 2 k) i ∧ ul H.le H.nb (s + F.2.2 k) i = ul K.le K.nb (s + F.2.2 k) i
        rw [i13]
        by_cases e : i = H.nb
        · subst e
          rw [un_s, un_s, un_s, un_s, un_s, un_s]
          exact ⟨r1, kf, rfl, q2, kt, rfl, rfl, by unfold ul; rw [if_pos rfl, if_pos rfl]⟩
        · simp only [un_c e]
          obtain ⟨v1, v2, v3, v4, v5, v6, v7, v8⟩ := i14 i (by omega)
          exact ⟨v1, v2, v3, v4, v5, v6, v7, by unfold ul; rw [if_neg e, if_neg e]; exact v8⟩
      · have hi : i + 1 < H.nb + 1 := hi
        show un K.ba K.nb (F.2.1 2 k) i = un K.ba K.nb (F.2.1 2 k) (i + 1) → un K.tq K.nb (F.2.1 1 k) i = un K.fr K.nb (F.2.1 0 f) (i + 1)
        rw [i13]
        have e1 : i ≠ H.nb := by omega
        rw [un_c e1, un_c e1]
        by_cases e : i + 1 = H.nb
        · rw [e, un_s, un_s]
          intro hbb
          obtain ⟨l1, l2, l3⟩ := i16 (by omega)
          have ei : i = H.nb - 1 := by omega
          rw [ei] at hbb ⊢
          rw [l2]
          rw [l3] at hbb
          have := run_ba hx k i1 i4
          have h3 := hx.2 (f - 1) (by omega) (by rw [show f - 1 + 1 = f by omega, this]; exact hbb)
          rw [show f - 1 + 1 = f by omega] at h3
          exact h3
        · rw [un_c e, un_c e]
          exact i15 i (by omega)
      · refine ⟨Nat.succ_pos k, ?_, ?_⟩
        · show un K.tq K.nb (F.2.1 1 k) (H.nb + 1 - 1) = F.2.1 1 (k + 1 - 1)
          rw [Nat.add_sub_cancel, Nat.add_sub_cancel, i13, un_s]
        · show un K.ba K.nb (F.2.1 2 k) (H.nb + 1 - 1) = F.2.1 2 (k + 1 - 1)
          rw [Nat.add_sub_cancel, Nat.add_sub_cancel, i13, un_s]
/-- the start of both -/
def plH (F : Fig) : Hd := (ptN (fb_ct (kp F) (F.1 2))).sor F
def plK (F : Fig) : Hd := { Hd0 with so := (plH F).so }
def plF (F : Fig) : Hd := (plS F (plH F) (plK F) (F.1 0)).1
section
variable {F : Fig}
theorem plH_f : (plH F).np = fb_ct (kp F) (F.1 2) ∧ (plH F).nb = 0 ∧ (plH F).nl = F.1 1 ∧ (plH F).mo = 0 ∧ (∀ p, p < fb_ct (kp F) (F.1 2) → (plH F).jo p = p) ∧ ∀ b, b < F.1 1 → (plH F).so b = F.2.1 3 b := by
  obtain ⟨h1, h2, h3, h4, h5, h6⟩ := ptN_f (fb_ct (kp F) (F.1 2))
  refine ⟨h1, h2, ?_, h4, h6, fun b hb => ?_⟩
  · show (ptN (fb_ct (kp F) (F.1 2))).nl + F.1 1 = F.1 1
    omega
  · show (if (ptN (fb_ct (kp F) (F.1 2))).nl ≤ b ∧ b < (ptN (fb_ct (kp F) (F.1 2))).nl + F.1 1 then F.2.1 3 (b - (ptN (fb_ct (kp F) (F.1 2))).nl) else _) = _
    rw [if_pos (by omega), h3, Nat.sub_zero]
theorem plH_ok (hk : FigOk F) : HdOk (plH F) := by
  have := fb_ct_le (kp F) (F.1 2)
  have := hk.2.2.1
  have := hk.2.1
  have h3 := (ptN_f (fb_ct (kp F) (F.1 2))).2.2.1
  exact sor_ok (ptN_ok (by omega)) (by omega)
theorem plI (hk : FigOk F) (hx : FigX F) {k : Nat} (hkk : k ≤ F.1 0) : PlI F (plH F) (plK F) k (plS F (plH F) (plK F) k) := by
  obtain ⟨h1, h2, h3, h4, h5, h6⟩ := plH_f (F := F)
  exact plS_I hk hx (plH_ok hk) (mq_z h2 h4) h2 rfl h1 h3 k hkk
/-- all points of the plain figure's hand are their own heads -/
theorem rr_all {H : Hd} (h : ∀ p, p < H.np → H.jo p = p) : ∀ q, q ≤ H.np → fb_ct (rr H) q = q := by
  intro q
  induction q with
  | zero => intro _; rfl
  | succ q ih => intro hq; rw [fb_ct_succ, ih (by omega), show rr H q = true from decide_eq_true (ro_fix (h q (by omega)))]; rfl
theorem plF_j (hk : FigOk F) (hx : FigX F) : ∀ p, p < (plF F).np → (plF F).jo p = p := by
  have I := plI hk hx (Nat.le_refl (F.1 0))
  obtain ⟨h1, h2, h3, h4, h5, h6⟩ := plH_f (F := F)
  intro p hp
  have hp : p < (plS F (plH F) (plK F) (F.1 0)).1.np := hp
  rw [I.np, h1] at hp
  show (plS F (plH F) (plK F) (F.1 0)).1.jo p = p
  rw [I.jo]
  exact h5 p hp
theorem plF_ok (hk : FigOk F) (hx : FigX F) : FigOk (figOf (plF F)) := by
  have I := plI hk hx (Nat.le_refl (F.1 0))
  obtain ⟨h1, h2, h3, h4, h5, h6⟩ := plH_f (F := F)
  have hc := fb_ct_le (kp F) (F.1 2)
  have k3 := hk.2.2.1
  refine figOf_ok I.ok (Nat.le_trans (fb_ct_le _ _) (by show (plS F (plH F) (plK F) (F.1 0)).1.np ≤ 30; rw [I.np, h1]; omega)) (fun b hb => ?_)
  have hb : b < (plS F (plH F) (plK F) (F.1 0)).1.nl := hb
  rw [I.nl, h3] at hb
  show (plS F (plH F) (plK F) (F.1 0)).1.so b < 6
  rw [I.so, h6 b hb]
  exact hk.2.2.2.2.2 b hb
theorem plF_s {n : Nat} (hk : FigOk F) (hx : FigX F) (hs : ∀ b, b < F.1 1 → F.2.1 3 b < n) : ∀ b, b < (figOf (plF F)).1 1 → (figOf (plF F)).2.1 3 b < n := by
  have I := plI hk hx (Nat.le_refl (F.1 0))
  obtain ⟨h1, h2, h3, h4, h5, h6⟩ := plH_f (F := F)
  intro b hb
  have hb : b < (plS F (plH F) (plK F) (F.1 0)).1.nl := hb
  rw [I.nl, h3] at hb
  show (plS F (plH F) (plK F) (F.1 0)).1.so b < n
  rw [I.so, h6 b hb]
  exact hs b hb
theorem plF_x (hk : FigOk F) (hx : FigX F) : FigX (figOf (plF F)) := by
  have I := plI hk hx (Nat.le_refl (F.1 0))
  obtain ⟨h1, h2, h3, h4, h5, h6⟩ := plH_f (F := F)
  have hg := gone_ct hk hx (F.1 0) (Nat.le_refl _)
  refine ⟨?_, fun k hkk e => ?_⟩
  · have a1 := fb_ct_le (rr (plF F)) (plF F).np
    have a2 : (plF F).np = fb_ct (kp F) (F.1 2) := I.np.trans h1
    have a3 : (plF F).nb + fb_ct (sl F) (F.1 0) = F.1 0 := I.nb
    have a4 : (plF F).nl = F.1 1 := I.nl.trans h3
    have a5 : fb_ct (kp F) (F.1 2) + fb_ct (sl F) (F.1 0) ≤ F.1 2 := hg
    have a6 := hx.1
    show fb_ct (rr (plF F)) (plF F).np ≤ (plF F).nb + (plF F).nl
    omega
  · have hkk : k + 1 < (plF F).nb := hkk
    have e : (plF F).ba k = (plF F).ba (k + 1) := e
    show nmb _ ((plF F).tq k) = nmb _ ((plF F).fr (k + 1))
    congr 1
    obtain ⟨u1, u2, u3, u4, u5, u6, u7, u8⟩ := I.b k (show k < (plF F).nb by omega)
    obtain ⟨v1, v2, v3, v4, v5, v6, v7, v8⟩ := I.b (k + 1) hkk
    have e' : (plS F (plH F) (plK F) (F.1 0)).2.1.ba k = (plS F (plH F) (plK F) (F.1 0)).2.1.ba (k + 1) := by rw [← u7, ← v7]; exact e
    have := I.t k hkk e'
    show (plS F (plH F) (plK F) (F.1 0)).1.tq k = (plS F (plH F) (plK F) (F.1 0)).1.fr (k + 1)
    rw [u6, v3, this]
end
