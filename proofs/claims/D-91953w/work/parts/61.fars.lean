/-! WAYS 1: the table of ways, both sides -/
set_option maxRecDepth 100000
def us (A : Nat → Nat → Int32) (j : Nat) (B : Nat → Int32) : Nat → Nat → Int32 := fun k => if k = j then B else A k
theorem us_ua {A : Nat → Nat → Int32} {j i : Nat} {B : Nat → Int32} {v : Int32} : ua (us A j B) j i v = us A j (upd B i v) := by
  funext k
  by_cases h : k = j <;> simp [ua, us, h]
theorem us_same {A : Nat → Nat → Int32} {j : Nat} {B : Nat → Int32} : us A j B j = B := by simp [us]
theorem us_ne {A : Nat → Nat → Int32} {j k : Nat} {B : Nat → Int32} (h : k ≠ j) : us A j B k = A k := by simp [us, h]
theorem us_id {A : Nat → Nat → Int32} {j : Nat} : us A j (A j) = A := by
  funext k
  by_cases h : k = j <;> simp [us, h]
def mn (x y : Int32) : Int32 := if y < x then y else x
theorem mn_comm (x y : Int32) : mn x y = mn y x := by
  unfold mn
  by_cases h1 : y < x
  · rw [if_pos h1, if_neg (fun h => absurd (Int32.lt_trans h h1) (fun q => by exact (Int32.lt_irrefl q)))]
  · rw [if_neg h1]
    by_cases h2 : x < y
    · rw [if_pos h2]
    · rw [if_neg h2]
      rw [Int32.lt_iff_toInt_lt] at h1 h2
      exact Int32.toInt_inj.mp (by omega)
def ini (s p : Nat) (A : Nat → Int32) : Nat → Nat → Int32
  | 0 => A
  | q + 1 => upd (ini s p A q) (s * p + q) (if p = q then 0 else 1000000)
def inir (s n : Nat) (A : Nat → Int32) : Nat → Nat → Int32
  | 0 => A
  | p + 1 => ini s p (inir s n A p) n
def bub (s : Nat) (F : Fig) (A : Nat → Int32) : Nat → Nat → Int32
  | 0 => A
  | k + 1 => upd (upd (bub s F A k) (s * F.2.1 0 k + F.2.1 1 k) (mn (bub s F A k (s * F.2.1 0 k + F.2.1 1 k)) (F.2.2 k))) (s * F.2.1 1 k + F.2.1 0 k) (mn (bub s F A k (s * F.2.1 0 k + F.2.1 1 k)) (F.2.2 k))
def fl1 (s c p : Nat) (A : Nat → Int32) : Nat → Nat → Int32
  | 0 => A
  | q + 1 => upd (fl1 s c p A q) (s * p + q) (mn (fl1 s c p A q (s * p + q)) (fl1 s c p A q (s * p + c) + fl1 s c p A q (s * c + q)))
def fl2 (s n c : Nat) (A : Nat → Int32) : Nat → Nat → Int32
  | 0 => A
  | p + 1 => fl1 s c p (fl2 s n c A p) n
def fl3 (s n : Nat) (A : Nat → Int32) : Nat → Nat → Int32
  | 0 => A
  | c + 1 => fl2 s n c (fl3 s n A c) n
def lay (s : Nat) (F : Fig) (A : Nat → Int32) : Nat → Int32 := fl3 s (F.1 2) (bub s F (inir s (F.1 2) A (F.1 2)) (F.1 0)) (F.1 2)
/-- two tables of one content -/
def tR (n : Nat) (A B : Nat → Int32) : Prop := ∀ p q, p < n → q < n → A (32 * p + q) = B (60 * p + q)
theorem tR.up {n p q : Nat} {A B : Nat → Int32} {v w : Int32} (hn : n ≤ 32) (h : ∀ p' q', p' < n → q' < n → ¬ (p' = p ∧ q' = q) → A (32 * p' + q') = B (60 * p' + q')) (hp : p < n) (hq : q < n) (hv : v = w) : tR n (upd A (32 * p + q) v) (upd B (60 * p + q) w) := by
  intro p' q' h1 h2
  by_cases e : p' = p ∧ q' = q
  · obtain ⟨rfl, rfl⟩ := e
    simp [upd, hv]
  · rw [upd_ne (by omega), upd_ne (by omega)]
    exact h p' q' h1 h2 e
theorem lay_R {F : Fig} (hk : FigOk F) (A B : Nat → Int32) : tR (F.1 2) (lay 32 F A) (lay 60 F B) := by
  have k3 := hk.2.2.1
  have k5 := hk.2.2.2.2.1
  have h1 : ∀ p, p ≤ F.1 2 → ∀ p' q', p' < p → q' < F.1 2 → inir 32 (F.1 2) A p (32 * p' + q') = inir 60 (F.1 2) B p (60 * p' + q') := by
    intro p
    induction p with
    | zero => intro _ p' q' h; omega
    | succ p ih =>
      intro hp p' q' h1 h2
      rw [inir, inir]
      have : ∀ q, q ≤ F.1 2 → (p' < p ∨ (p' = p ∧ q' < q)) → ini 32 p (inir 32 (F.1 2) A p) q (32 * p' + q') = ini 60 p (inir 60 (F.1 2) B p) q (60 * p' + q') := by
        intro q
        induction q with
        | zero => intro _ hc; rcases hc with hc | hc; exact ih (by omega) p' q' hc h2; omega
        | succ q ihq =>
          intro hq hc
          rw [ini, ini]
          by_cases e : p' = p ∧ q' = q
          · obtain ⟨rfl, rfl⟩ := e
            simp [upd]
          · rw [upd_ne (by omega), upd_ne (by omega)]
            exact ihq (by omega) (by omega)
      exact this _ (Nat.le_refl _) (by omega)
  have h2 : tR (F.1 2) (inir 32 (F.1 2) A (F.1 2)) (inir 60 (F.1 2) B (F.1 2)) := fun p q hp hq => h1 _ (Nat.le_refl _) p q hp hq
  have h3 : ∀ k, k ≤ F.1 0 → tR (F.1 2) (bub 32 F (inir 32 (F.1 2) A (F.1 2)) k) (bub 60 F (inir 60 (F.1 2) B (F.1 2)) k) := by
    intro k
    induction k with
    | zero => intro _; exact h2
    | succ k ih =>
      intro hk'
      have k5k := k5 k (by omega)
      have ih := ih (by omega)
      rw [bub, bub]
      have e := ih _ _ k5k.1 k5k.2.1
      refine tR.up (by omega) (fun p' q' a b _ => ?_) k5k.2.1 k5k.1 (by rw [e])
      exact tR.up (by omega) (fun p' q' a b _ => ih p' q' a b) k5k.1 k5k.2.1 (by rw [e]) p' q' a b
  have h4 : ∀ c, c ≤ F.1 2 → tR (F.1 2) (fl3 32 (F.1 2) (bub 32 F (inir 32 (F.1 2) A (F.1 2)) (F.1 0)) c) (fl3 60 (F.1 2) (bub 60 F (inir 60 (F.1 2) B (F.1 2)) (F.1 0)) c) := by
    intro c
    induction c with
    | zero => intro _; exact h3 _ (Nat.le_refl _)
    | succ c ih =>
      intro hc
      have ih := ih (by omega)
      rw [fl3, fl3]
      generalize fl3 32 (F.1 2) (bub 32 F (inir 32 (F.1 2) A (F.1 2)) (F.1 0)) c = A1 at ih
      generalize fl3 60 (F.1 2) (bub 60 F (inir 60 (F.1 2) B (F.1 2)) (F.1 0)) c = B1 at ih
      have : ∀ p, p ≤ F.1 2 → tR (F.1 2) (fl2 32 (F.1 2) c A1 p) (fl2 60 (F.1 2) c B1 p) := by
        intro p
        induction p with
        | zero => intro _; exact ih
        | succ p ihp =>
          intro hp
          have ihp := ihp (by omega)
          rw [fl2, fl2]
          generalize fl2 32 (F.1 2) c A1 p = A2 at ihp
          generalize fl2 60 (F.1 2) c B1 p = B2 at ihp
          have : ∀ q, q ≤ F.1 2 → tR (F.1 2) (fl1 32 c p A2 q) (fl1 60 c p B2 q) := by
            intro q
            induction q with
            | zero => intro _; exact ihp
            | succ q ihq =>
              intro hq
              have ihq := ihq (by omega)
              rw [fl1, fl1]
              refine tR.up (by omega) (fun p' q' a b _ => ihq p' q' a b) (by omega) (by omega) ?_
              rw [ihq p q (by omega) (by omega), ihq p c (by omega) (by omega), ihq c q (by omega) (by omega)]
          exact this _ (Nat.le_refl _)
      exact this _ (Nat.le_refl _)
  exact h4 _ (Nat.le_refl _)
theorem FigAt.put {h : pH} {x f : Nat} {X : XS} {F : Fig} (hF : FigAt h f F) (hf : x + 14 ≤ f) : FigAt (xput h x X) f F := by
  unfold FigAt at hF ⊢
  rw [xput_out (Or.inr hf), xput_out (Or.inr (by omega)), xput_out (Or.inr (by omega)), xput_out (Or.inr (by omega)), xput_out (Or.inr (by omega)), xput_out (Or.inr (by omega)), xput_out (Or.inr (by omega))]
  exact hF
section
variable {d m x f g : Nat} {h : pH} {S : MS} {X : XS} {F : Fig}
theorem xfar_1 (hF1 : FigAt h f F) (hf : x + 14 ≤ f) (hk : FigOk F) {A : Nat → Int32} {R : Option pO} {q4 : Value} (hq4 : p1 q4 = true)
    (he : ∀ q3, p1 q3 = true → pR 35 (d + 1) 55 [.ref x, .ref f, .int (nI (F.1 2)), q3, q4] [] (xput h x (X.1, us X.2.1 5 (inir 32 (F.1 2) A (F.1 2)), X.2.2)) = R) : pR 35 (d + 1) 2 [.ref x, .ref f, .int 0, pU, q4] [] (xput h x (X.1, us X.2.1 5 A, X.2.2)) = R := by
  have main := loopP (N := F.1 2) (P := fun p => ∀ q3, p1 q3 = true → pR 35 (d + 1) 2 [.ref x, .ref f, .int (nI p), q3, q4] [] (xput h x (X.1, us X.2.1 5 (inir 32 (F.1 2) A p), X.2.2)) = R) (fun p hp ihp q3 h3 => ?_) (fun q3 h3 => ?_) 0 (Nat.zero_le _)
  · exact main pU rfl
  · have hF := hF1.put (X := (X.1, us X.2.1 5 (inir 32 (F.1 2) A p), X.2.2)) hf
    rw [rX1_layFars_2]
    (obtain ⟨x0, xf, xt, xl, xw, xs, xe, xb, xa, xp, xh⟩ := hF.o; obtain ⟨⟨l1, c1⟩, ⟨l2, c2⟩, ⟨l3, c3⟩, ⟨l4, c4⟩, ⟨l5, c5⟩, ⟨l6, c6⟩⟩ := hF.a; have hk' := hk; obtain ⟨k1, k2, k3, k4, k5, k6⟩ := hk')
    simp (disch := first | omega | decide) only [pis_i, pis_l, pis_r, pis_n, p1_i, p1_r, p1_n, p1_u, pw0, pw1, pw2, pw3, pw4, pK_v, pK_0, pK_ite, if_true, if_false, if_pos, if_neg, Nat.reduceAdd, pok_r, i10, i01, Bool.true_or, Bool.or_true, Bool.and_true, Bool.true_and, Nat.add_sub_cancel, i1p1, i1p0, i0p1, i0p0, nIrem2, va_rf_s, bit1, bit0, pinT, pinLT, pin0, nIc, nIcL, nIlt, nIeq, nIltL, nILlt, nIeqL, nILeq, nIadL, nILad, nILmu, nI_add, nIsbL, nI_sub', decide_true, decide_false, Bool.false_or, Bool.or_false, rX1_layFars_3, rX1_layFars_3n, rX1_layFars_4, rX1_layFars_7, rX1_layFars_10, rX1_layFars_11, x0, xf, xt, xl, xw, xs, xe, xb, xa, xp, xh, l1, l2, l3, l4, l5, l6, c1, c2, c3, c4, c5, c6, h3]
    clear x0 xf xt xl xw xs xe xb xa xp xh l1 c1 l2 c2 l3 c3 l4 c4 l5 c5 l6 c6
    refine loopN (N := F.1 2) (P := fun q => pR 35 (d + 1) 12 [.ref x, .ref f, .int (nI p), .int (nI q), q4] [] (xput h x (X.1, us X.2.1 5 (ini 32 p (inir 32 (F.1 2) A p) q), X.2.2))) (fun q hq R hR => ?_) ?_ 0 (Nat.zero_le _)
    · have hF := hF1.put (X := (X.1, us X.2.1 5 (ini 32 p (inir 32 (F.1 2) A p) q), X.2.2)) hf
      (obtain ⟨x0, xf, xt, xl, xw, xs, xe, xb, xa, xp, xh⟩ := hF.o; obtain ⟨⟨l1, c1⟩, ⟨l2, c2⟩, ⟨l3, c3⟩, ⟨l4, c4⟩, ⟨l5, c5⟩, ⟨l6, c6⟩⟩ := hF.a; have hk' := hk; obtain ⟨k1, k2, k3, k4, k5, k6⟩ := hk')
      rw [ini] at hR
      rw [rX1_layFars_12]
      simp (disch := first | omega | decide) only [pis_i, pis_l, pis_r, pis_n, p1_i, p1_r, p1_n, p1_u, pw0, pw1, pw2, pw3, pw4, pK_v, pK_0, pK_ite, if_true, if_false, if_pos, if_neg, Nat.reduceAdd, pok_r, i10, i01, Bool.true_or, Bool.or_true, Bool.and_true, Bool.true_and, Nat.add_sub_cancel, i1p1, i1p0, i0p1, i0p0, nIrem2, va_rf_s, bit1, bit0, pinT, pinLT, pin0, nIc, nIcL, nIlt, nIeq, nIltL, nILlt, nIeqL, nILeq, nIadL, nILad, nILmu, nI_add, nIsbL, nI_sub', decide_true, decide_false, Bool.false_or, Bool.or_false, rX1_layFars_13, rX1_layFars_13n, rX1_layFars_14, rX1_layFars_17, rX1_layFars_20, rX1_layFars_21, rX1_layFars_24, rX1_layFars_26, rX1_layFars_27, rX1_layFars_28, rX1_layFars_29, rX1_layFars_30, rX1_layFars_31, rX1_layFars_32, rX1_layFars_35, rX1_layFars_36, rX1_layFars_39, rX1_layFars_42, rX1_layFars_43, rX1_layFars_46, xCl, xF0, xF1, xP1, xF2, xF3, xP3, xF4, xF5, xP5, xF6, xF7, xF8, xF9, xF10, xF11, xF12, xP12, xF13, xP13, xF14, xP14, xF15, xP15, xF16, xP16, xF17, xP17, xF18, xF19, xF20, xP20, xF21, xF22, xP22, xL2, xL2n, xC2, xW2, xL4, xL4n, xC4, xW4, xL5, xL5n, xC5, xW5, xL6, xL6n, xC6, xW6, xL7, xL7n, xC7, xW7, xL8, xL8n, xC8, xW8, xL12, xL12n, xC12, xW12, xL13, xL13n, xC13, xW13, xL1, xK1, xC1, xW1, xL3, xK3, xC3, xW3, xL9, xK9, xC9, xW9, xL10, xK10, xC10, xW10, xLf, xLc, x0, xf, xt, xl, xw, xs, xe, xb, xa, xp, xh, l1, l2, l3, l4, l5, l6, c1, c2, c3, c4, c5, c6, us_ua]
      split
      · rename_i e; rw [if_pos e] at hR; exact hR
      · rename_i e; rw [if_neg e] at hR; exact hR
    · have hF := hF1.put (X := (X.1, us X.2.1 5 (ini 32 p (inir 32 (F.1 2) A p) (F.1 2)), X.2.2)) hf
      (obtain ⟨x0, xf, xt, xl, xw, xs, xe, xb, xa, xp, xh⟩ := hF.o; obtain ⟨⟨l1, c1⟩, ⟨l2, c2⟩, ⟨l3, c3⟩, ⟨l4, c4⟩, ⟨l5, c5⟩, ⟨l6, c6⟩⟩ := hF.a; have hk' := hk; obtain ⟨k1, k2, k3, k4, k5, k6⟩ := hk')
      rw [rX1_layFars_12]
      simp (disch := first | omega | decide) only [pis_i, pis_l, pis_r, pis_n, p1_i, p1_r, p1_n, p1_u, pw0, pw1, pw2, pw3, pw4, pK_v, pK_0, pK_ite, if_true, if_false, if_pos, if_neg, Nat.reduceAdd, pok_r, i10, i01, Bool.true_or, Bool.or_true, Bool.and_true, Bool.true_and, Nat.add_sub_cancel, i1p1, i1p0, i0p1, i0p0, nIrem2, va_rf_s, bit1, bit0, pinT, pinLT, pin0, nIc, nIcL, nIlt, nIeq, nIltL, nILlt, nIeqL, nILeq, nIadL, nILad, nILmu, nI_add, nIsbL, nI_sub', decide_true, decide_false, Bool.false_or, Bool.or_false, rX1_layFars_13, rX1_layFars_13n, rX1_layFars_14, rX1_layFars_17, rX1_layFars_49, rX1_layFars_52, x0, xf, xt, xl, xw, xs, xe, xb, xa, xp, xh, l1, l2, l3, l4, l5, l6, c1, c2, c3, c4, c5, c6]
      exact ihp _ rfl
  · have hF := hF1.put (X := (X.1, us X.2.1 5 (inir 32 (F.1 2) A (F.1 2)), X.2.2)) hf
    (obtain ⟨x0, xf, xt, xl, xw, xs, xe, xb, xa, xp, xh⟩ := hF.o; obtain ⟨⟨l1, c1⟩, ⟨l2, c2⟩, ⟨l3, c3⟩, ⟨l4, c4⟩, ⟨l5, c5⟩, ⟨l6, c6⟩⟩ := hF.a; have hk' := hk; obtain ⟨k1, k2, k3, k4, k5, k6⟩ := hk')
    rw [rX1_layFars_2]
    simp (disch := first | omega | decide) only [pis_i, pis_l, pis_r, pis_n, p1_i, p1_r, p1_n, p1_u, pw0, pw1, pw2, pw3, pw4, pK_v, pK_0, pK_ite, if_true, if_false, if_pos, if_neg, Nat.reduceAdd, pok_r, i10, i01, Bool.true_or, Bool.or_true, Bool.and_true, Bool.true_and, Nat.add_sub_cancel, i1p1, i1p0, i0p1, i0p0, nIrem2, va_rf_s, bit1, bit0, pinT, pinLT, pin0, nIc, nIcL, nIlt, nIeq, nIltL, nILlt, nIeqL, nILeq, nIadL, nILad, nILmu, nI_add, nIsbL, nI_sub', decide_true, decide_false, Bool.false_or, Bool.or_false, rX1_layFars_3, rX1_layFars_3n, rX1_layFars_4, rX1_layFars_7, x0, xf, xt, xl, xw, xs, xe, xb, xa, xp, xh, l1, l2, l3, l4, l5, l6, c1, c2, c3, c4, c5, c6]
    exact he q3 h3
end
