/-! SOUNDNESS 8: the pure heap only grows; ends of methods -/
set_option maxRecDepth 100000
def sLe (h h' : pH) : Prop := h.2.1 ≤ h'.2.1 ∧ h.2.2 ≤ h'.2.2
theorem sLe.rf {h : pH} : sLe h h := ⟨Nat.le_refl _, Nat.le_refl _⟩
theorem sLe.tr {a b c : pH} (h1 : sLe a b) (h2 : sLe b c) : sLe a c := ⟨Nat.le_trans h1.1 h2.1, Nat.le_trans h1.2 h2.2⟩
theorem sLe_psf {h : pH} {a k : Nat} {v : Value} : sLe h (psf h a k v) := by
  have : (psf h a k v).2 = h.2 := by unfold psf; split <;> rfl
  exact ⟨by rw [this]; exact Nat.le_refl _, by rw [this]; exact Nat.le_refl _⟩
theorem sLe_pst {h : pH} {a k : Nat} {v : Int32} : sLe h (pst h a k v) := by
  have : (pst h a k v).2 = h.2 := by unfold pst; split <;> rfl
  exact ⟨by rw [this]; exact Nat.le_refl _, by rw [this]; exact Nat.le_refl _⟩
theorem sLe_pstL {h : pH} {a k : Nat} {v : Int64} : sLe h (pstL h a k v) := by
  have : (pstL h a k v).2 = h.2 := by unfold pstL; split <;> rfl
  exact ⟨by rw [this]; exact Nat.le_refl _, by rw [this]; exact Nat.le_refl _⟩
theorem sLe_pstQ {h : pH} {a k : Nat} {v : Option Nat} : sLe h (pstQ h a k v) := by
  have : (pstQ h a k v).2 = h.2 := by unfold pstQ; split <;> rfl
  exact ⟨by rw [this]; exact Nat.le_refl _, by rw [this]; exact Nat.le_refl _⟩
theorem sLe_pcp {h : pH} {a i b j n : Nat} : sLe h (pcp h a i b j n) := by
  have : (pcp h a i b j n).2 = h.2 := by unfold pcp; split <;> rfl
  exact ⟨by rw [this]; exact Nat.le_refl _, by rw [this]; exact Nat.le_refl _⟩
theorem sLe_pnw {h : pH} {c : va_E} {n : Nat} : sLe h (pnw h c n) := ⟨Nat.le_succ _, Nat.le_add_right _ _⟩
def sQg (h : pH) (q : pO ⊕ pF) : Prop := match q with
  | .inl o' => sLe h o'.2
  | .inr f' => sLe h f'.2.2.2.2.2
/-- what a step leaves: its heap has grown -/
def sGr (h : pH) (r : pA) : Prop := match r with
  | none => True
  | some (.inl o) => sLe h o.2
  | some (.inr (.inl f)) => sLe h f.2.2.2.2.2
  | some (.inr (.inr (f, kk))) => sLe h f.2.2.2.2.2 ∧ ∀ o q, kk o = some q → sQg o.2 q
theorem sGr_pth {d M pc : Nat} {ls : List Value} {a : Nat} {h : pH} {q : pO ⊕ pF} (hq : pth d M pc ls a h = some q) : sQg h q := by
  unfold pth at hq
  split at hq
  · split at hq
    · cases hq; exact sLe.rf
    · cases hq
  · cases hq; exact sLe.rf
theorem sGr_call {M' d M pc n : Nat} {ls as st : List Value} {h : pH} : sGr h (pcallA M' d M pc n ls as st h) := by
  unfold pcallA
  split
  · split
    · split
      · refine ⟨sLe.rf, fun o q hq => ?_⟩
        unfold pk at hq
        split at hq
        · cases hq; exact sLe.rf
        · cases hq; exact sLe.rf
        · exact sGr_pth hq
      · trivial
    · trivial
  · trivial
theorem sGr_X {t a b : Nat} {l : List Nat} {n d M pc : Nat} {ls st : List Value} {h : pH} : sGr h (paX t a b l n d M pc ls st h) := by
  unfold paX
  repeat' split
  all_goals first | trivial | exact sGr_call | exact sLe.rf | exact sLe_psf | exact sLe_psf.tr sLe_psf | exact ((sLe_psf.tr sLe_psf).tr sLe_psf).tr sLe_psf | exact sLe_pnw | exact sLe_pcp | skip
theorem sGr_L {i : Instr} {n d M pc : Nat} {ls st : List Value} {h : pH} : sGr h (paL i n d M pc ls st h) := by
  unfold paL
  repeat' split
  all_goals first | trivial | exact sLe.rf | exact sLe_pst | exact sLe_pstL | exact sLe_pstQ | (rename_i hq; exact sGr_pth hq) | skip
theorem sGr_act {f : pF} : sGr f.2.2.2.2.2 (pact f) := by
  obtain ⟨d, M, pc, ls, st, h⟩ := f
  unfold pact
  dsimp only
  split
  · exact sGr_L
  · exact sGr_X
  · trivial
theorem prun_grow : ∀ (k : Nat) (f : pF) (o : pO), prun k f = some o → sLe f.2.2.2.2.2 o.2 := by
  intro k
  induction k with
  | zero => intro f o h; cases h
  | succ k ih =>
    intro f o h
    rw [prun] at h
    have hg := sGr_act (f := f)
    cases ha : pact f with
    | none => rw [ha] at h; cases h
    | some q =>
      rw [ha] at h hg
      cases q with
      | inl x => cases h; exact hg
      | inr q =>
        cases q with
        | inl f' => exact sLe.tr hg (ih _ _ h)
        | inr q =>
          obtain ⟨f', kk⟩ := q
          dsimp only at h
          cases h1 : prun k f' with
          | none => rw [h1] at h; cases h
          | some o1 =>
            rw [h1] at h
            have e1 := sLe.tr hg.1 (ih _ _ h1)
            dsimp only at h
            cases h2 : kk o1 with
            | none => rw [h2] at h; cases h
            | some r =>
              rw [h2] at h
              have h3 := hg.2 o1 r h2
              cases r with
              | inl x => cases h; exact sLe.tr e1 h3
              | inr f'' => exact sLe.tr e1 (sLe.tr h3 (ih _ _ h))
