/-! MADE 2: the tables are laid -/
set_option maxRecDepth 100000
/-- is a set one balloon's -/
def Wf (F : Fig) (st ar : Int32) (s : Nat) : Bool := !decide (ar < iSm (fun b => if bt (nI s) b = true then F.2.2 b else 0) (F.1 0) + st * nI (fb_ct (bt (nI s)) 32 - 1)) && (decide (pt F 25 (nI s) = 1) && decide (od F (nI s) ≤ 2))
def wa (W : Nat → Bool) (A : Nat → Int32) (s : Nat) : Nat → Int32 := fun j => if 0 < j ∧ j < s then (if W j = true then 1 else 0) else A j
def ta (T : Nat → Nat) (A : Nat → Int32) (s : Nat) : Nat → Int32 := fun j => if j < s then nI (T j) else A j
theorem wa_1 {W : Nat → Bool} {A : Nat → Int32} : wa W A 1 = A := by
  funext j; unfold wa; rw [if_neg (by omega)]
theorem wa_s {W : Nat → Bool} {A : Nat → Int32} {s : Nat} (hs : 0 < s) : upd (wa W A s) s (if W s = true then 1 else 0) = wa W A (s + 1) := by
  funext j
  simp only [wa, upd]
  by_cases e : j = s
  · subst e; rw [if_pos rfl, if_pos (show 0 < j ∧ j < j + 1 by omega)]
  · rw [if_neg e]
    by_cases c : 0 < j ∧ j < s
    · rw [if_pos c, if_pos (show 0 < j ∧ j < s + 1 by omega)]
    · rw [if_neg c, if_neg (by omega)]
theorem ta_s {T : Nat → Nat} {A : Nat → Int32} {s : Nat} : upd (ta T A s) s (nI (T s)) = ta T A (s + 1) := by
  funext j
  simp only [ta, upd]
  by_cases e : j = s
  · subst e; rw [if_pos rfl, if_pos (by omega)]
  · rw [if_neg e]
    by_cases c : j < s
    · rw [if_pos c, if_pos (by omega)]
    · rw [if_neg c, if_neg (by omega)]
theorem ta_1 {W : Nat → Bool} {inf : Nat} {A : Nat → Int32} : upd A 0 0 = ta (tt inf W) A 1 := by
  funext j
  simp only [ta, upd]
  by_cases e : j = 0
  · subst e; rfl
  · rw [if_neg e, if_neg (by omega)]
theorem upd_upd {A : Nat → Int32} {i : Nat} {v w : Int32} : upd (upd A i v) i w = upd A i w := by
  funext j
  unfold upd
  by_cases e : j = i
  · rw [if_pos e, if_pos e]
  · rw [if_neg e, if_neg e, if_neg e]
theorem ta_rd {T : Nat → Nat} {A : Nat → Int32} {s j : Nat} {v : Int32} (h : j < s) : upd (ta T A s) s v j = nI (T j) := by
  simp only [ta, upd]
  rw [if_neg (by omega), if_pos h]
theorem wa_rd {W : Nat → Bool} {A : Nat → Int32} {s j : Nat} (h0 : 0 < j) (h : j < s) : wa W A s j = if W j = true then 1 else 0 := if_pos ⟨h0, h⟩
theorem aI_p {n : Nat} (hn : n ≤ 10) : aI n = nI (2 ^ n - 1) := by
  have : ∀ n, n < 11 → aI n = nI (2 ^ n - 1) := by decide
  exact this n (by omega)
theorem p2_b {n : Nat} (hn : n ≤ 10) : 0 < 2 ^ n ∧ 2 ^ n ≤ 1024 := ⟨Nat.two_pow_pos n, by have := Nat.pow_le_pow_right (show 0 < 2 by decide) hn; exact this⟩
theorem nI_inS {n s : Nat} (hs : s < 2 ^ n) : inS n (nI s) := fun i _ hn => by
  rw [bt_nI, Nat.testBit_lt_two_pow (Nat.lt_of_lt_of_le hs (Nat.pow_le_pow_right (by decide) hn))]
  simp
theorem nI_n0 {s : Nat} (hs : 0 < s) (h2 : s < 1024) : nI s ≠ 0 := fun e => by
  have := (nIeq (show s < 2147483648 by omega) (show 0 < 2147483648 by decide)).mp e
  omega
theorem ct_pos {s : Nat} (hs : 0 < s) (h2 : s < 1024) : 0 < fb_ct (bt (nI s)) 32 := by
  obtain ⟨w, w1, w2, w3⟩ := low_ex (nI_n0 hs h2)
  rw [fb_ct_pos]
  exact ⟨w, w1, w2⟩
theorem hx_set {F : Fig} {set : Int32} : ∀ n got, sub got set → sub (hx F set n got) set := by
  have h1 : ∀ k got, k < 32 → sub got set → sub (hs F set k got) set := by
    intro k got hk h i hi q
    unfold hs at q
    split at q
    · rename_i c
      rw [b_or, bt_1 hk hi] at q
      by_cases e : i = k
      · subst e; exact c.1
      · simp [e] at q; exact h i hi q
    · exact h i hi q
  have h2 : ∀ got, sub got set → ∀ n, n ≤ 32 → sub (hp F set got n) set := by
    intro got h n
    induction n with
    | zero => intro _; exact h
    | succ n ih => intro hn; exact h1 n _ (by omega) (ih (by omega))
  intro n
  induction n with
  | zero => intro got h; exact h
  | succ n ih =>
    intro got h
    rw [hx]
    split
    · exact h
    · by_cases c : F.1 0 ≤ 32
      · exact ih _ (h2 got h _ c)
      · refine ih _ ?_
        have : ∀ n, sub (hp F set got n) set := by
          intro n
          induction n with
          | zero => exact h
          | succ n ih2 =>
            by_cases hn : n < 32
            · exact h1 n _ hn ih2
            · intro i hi q
              rw [hp] at q
              unfold hs at q
              split at q
              · rename_i c2
                have : bt set n = false := by
                  have := c2.1
                  unfold bt at this ⊢
                  simp [BitVec.getLsbD] at this ⊢
                  exact Nat.testBit_lt_two_pow (Nat.lt_of_lt_of_le set.toBitVec.isLt (Nat.pow_le_pow_right (by decide) (by omega)))
                rw [this] at c2; cases c2.1
              · exact ih2 i hi q
        exact this _
theorem sub_anti {a b : Int32} (h1 : sub a b) (h2 : sub b a) : a = b := b_ext fun i hi => by
  cases q : bt a i
  · cases q2 : bt b i
    · rfl
    · rw [h2 i hi q2] at q; cases q
  · exact (h1 i hi q).symm
theorem pt_one {F : Fig} {set : Int32} (h0 : set ≠ 0) : (pt F 25 set = 1) = (hx F set 25 (set &&& (-set)) = set) := by
  have hz : ∀ s, (pt F 24 s = 0) = (s = 0) := by
    intro s
    rw [pt]
    split
    · rename_i c; simp [c]
    · rename_i c; simp [c]
  rw [pt, if_neg h0, show (1 + pt F 24 (set &&& (hx F set 25 (set &&& (-set)) ^^^ (-1))) = 1) = (pt F 24 (set &&& (hx F set 25 (set &&& (-set)) ^^^ (-1))) = 0) by apply propext; omega, hz]
  have hs1 : sub (hx F set 25 (set &&& (-set))) set := hx_set 25 _ (fun i hi h => by rw [b_and] at h; simp at h; exact h.1)
  apply propext
  constructor
  · intro e
    refine sub_anti hs1 (fun i hi h => ?_)
    have := congrArg (fun z => bt z i) e
    simp only [b_and, b_xor, b_m1 i hi, b_0, h] at this
    simpa using this
  · intro e
    rw [e]
    apply b_ext
    intro i hi
    rw [b_and, b_xor, b_m1 i hi, b_0]
    cases bt set i <;> rfl
/-- a sort as it lies in the component's heap -/
def SoAt (h : pH) (a : Nat) (so : Nat → Int32) : Prop := ∃ t n, h.1 a = some (.inr (4, [.int (so 0), .int (so 1), .int (so 2), .int (so 3), .int t, .int n]))
theorem SoAt.o {h : pH} {a : Nat} {so : Nat → Int32} (hs : SoAt h a so) : pcl h a = 4 ∧ pfl h 4 a 0 = .int (so 0) ∧ pfl h 4 a 1 = .int (so 1) ∧ pfl h 4 a 2 = .int (so 2) ∧ pfl h 4 a 3 = .int (so 3) := by
  obtain ⟨t, n, h⟩ := hs
  exact ⟨pcl_of h, pfl_of h rfl rfl, pfl_of h rfl rfl, pfl_of h rfl rfl, pfl_of h rfl rfl⟩
theorem SoAt.put {h : pH} {a x : Nat} {X : XS} {so : Nat → Int32} (hs : SoAt h a so) (ha : x + 14 ≤ a) : SoAt (xput h x X) a so := by
  unfold SoAt at hs ⊢
  rw [xput_out (Or.inr ha)]
  exact hs
def XSo0 (x : Nat) (X : XS) (h : pH) (n : Nat) (so : Nat → Nat → Int32) (sa : Nat → Nat) : Prop := X.1 1 = nI n ∧ ∀ s, s < n → X.2.2.1 1 s = some (sa s) ∧ x + 14 ≤ sa s ∧ SoAt h (sa s) (so s)
theorem XSo0.up {x : Nat} {X : XS} {h : pH} {n : Nat} {so : Nat → Nat → Int32} {sa : Nat → Nat} (hX : XSo0 x X h n so sa) : XSo X (xput h x X) n so sa := ⟨hX.1, fun s hs => ⟨(hX.2 s hs).1, ((hX.2 s hs).2.2.put (hX.2 s hs).2.1).o⟩⟩
theorem us_us {A : Nat → Nat → Int32} {j : Nat} {B C : Nat → Int32} : us (us A j B) j C = us A j C := by
  funext k
  unfold us
  by_cases e : k = j <;> simp [e]
section
variable {d m x f g a : Nat} {h H : pH} {S : MS} {X : XS} {F : Fig} {so : Nat → Int32}
theorem kX4_strains {st : Int32} {c : Nat} (h0 : pcl H a = 4) (h1 : pfl H 4 a 1 = .int st) (hc : 0 < c) (hc2 : c < 1000) : pCa 169 d [.ref a, .int (nI c)] H = some (.inl (some (.int (st * nI (c - 1)))), H) := by
  rw [eX4_strains]
  by_cases h2 : 1 < c
  · simp (disch := omega) only [pis_i, pis_l, pis_r, pis_n, p1_i, p1_r, p1_n, p1_u, pw0, pw1, pw2, pw3, pw4, pK_v, pK_0, pK_ite, if_true, if_false, if_pos, if_neg, Nat.reduceAdd, pok_r, i10, i01, Bool.true_or, Bool.or_true, Bool.and_true, Bool.true_and, Nat.add_sub_cancel, i1p1, i1p0, i0p1, i0p0, nIrem2, va_rf_s, bit1, bit0, pinT, pinLT, pin0, nIc, nIcL, nIlt, nIeq, nIltL, nILlt, nIeqL, nILeq, nIadL, nILad, nILmu, nI_add, nIsbL, nI_sub', decide_true, decide_false, Bool.false_or, Bool.or_false, rX4_strains_0, rX4_strains_1, rX4_strains_2, rX4_strains_5, rX4_strains_6, rX4_strains_9, rX4_strains_10, rX4_strains_11, rX4_strains_12, rX4_strains_13, rX4_strains_16, rX4_strains_17, h1, h2]
  · simp (disch := omega) only [pis_i, pis_l, pis_r, pis_n, p1_i, p1_r, p1_n, p1_u, pw0, pw1, pw2, pw3, pw4, pK_v, pK_0, pK_ite, if_true, if_false, if_pos, if_neg, Nat.reduceAdd, pok_r, i10, i01, Bool.true_or, Bool.or_true, Bool.and_true, Bool.true_and, Nat.add_sub_cancel, i1p1, i1p0, i0p1, i0p0, nIrem2, va_rf_s, bit1, bit0, pinT, pinLT, pin0, nIc, nIcL, nIlt, nIeq, nIltL, nILlt, nIeqL, nILeq, nIadL, nILad, nILmu, nI_add, nIsbL, nI_sub', decide_true, decide_false, Bool.false_or, Bool.or_false, rX4_strains_0, rX4_strains_1, rX4_strains_2, rX4_strains_5, rX4_strains_6, rX4_strains_9, rX4_strains_10, rX4_strains_11, rX4_strains_12, rX4_strains_13, rX4_strains_16, rX4_strains_17, h1, h2]
    rw [show c - 1 = 0 by omega, show st * nI 0 = 0 from Int32.mul_zero]
theorem kX24_isWay (hF : FigAt H f F) (hk : FigOk F) {s : Int32} (hs : inS (F.1 0) s) : pCa 247 (d + 3) [.ref f, .int s] H = if pt F 25 s = 1 ∧ od F s ≤ 2 then some (.inl (some (.int 1)), H) else some (.inl (some (.int 0)), H) := by
  have hp := kX24_parts (d := d) hF hk hs
  have ho := kX24_oddOf (d := d + 1) (set := s) hF hk
  have hol := od_le (F := F) (set := s) hk
  have hpl : pt F 25 s ≤ 25 := by
    have : ∀ k s, pt F k s ≤ k := by
      intro k
      induction k with
      | zero => intro s; exact Nat.le_refl _
      | succ k ih => intro s; rw [pt]; split; omega; have := ih (s &&& (hx F s 25 (s &&& (-s)) ^^^ (-1))); omega
    exact this _ _
  (obtain ⟨x0, xf, xt, xl, xw, xs, xe, xb, xa, xp, xh⟩ := hF.o; obtain ⟨⟨l1, c1⟩, ⟨l2, c2⟩, ⟨l3, c3⟩, ⟨l4, c4⟩, ⟨l5, c5⟩, ⟨l6, c6⟩⟩ := hF.a; have hk' := hk; obtain ⟨k1, k2, k3, k4, k5, k6⟩ := hk')
  rw [eX24_isWay]
  simp (disch := omega) only [pis_i, pis_l, pis_r, pis_n, p1_i, p1_r, p1_n, p1_u, pw0, pw1, pw2, pw3, pw4, pK_v, pK_0, pK_ite, if_true, if_false, if_pos, if_neg, Nat.reduceAdd, pok_r, i10, i01, Bool.true_or, Bool.or_true, Bool.and_true, Bool.true_and, Nat.add_sub_cancel, i1p1, i1p0, i0p1, i0p0, nIrem2, va_rf_s, bit1, bit0, pinT, pinLT, pin0, nIc, nIcL, nIlt, nIeq, nIltL, nILlt, nIeqL, nILeq, nIadL, nILad, nILmu, nI_add, nIsbL, nI_sub', decide_true, decide_false, Bool.false_or, Bool.or_false, rX24_isWay_0, rX24_isWay_1, rX24_isWay_2, rX24_isWay_5, rX24_isWay_6, rX24_isWay_9, rX24_isWay_10, rX24_isWay_11, rX24_isWay_14, rX24_isWay_15, rX24_isWay_18, rX24_isWay_19, rX24_isWay_22, rX24_isWay_230, rX24_isWay_231, x0, hp, ho]
  by_cases c1 : pt F 25 s = 1 <;> by_cases c2 : od F s ≤ 2 <;> simp [c1, c2]
theorem loopF {P : Nat → Option pO} {R : Option pO} {N a : Nat} (hs : ∀ b, a ≤ b → b < N → ∀ R, P (b + 1) = R → P b = R) (he : P N = R) : ∀ b, a ≤ b → b ≤ N → P b = R := by
  have : ∀ n b, a ≤ b → b + n = N → P b = R := by
    intro n
    induction n with
    | zero => intro b _ hb; rw [show b = N by omega]; exact he
    | succ n ih => intro b ha hb; exact hs b ha (by omega) R (ih (b + 1) (by omega) (by omega))
  intro b ha hb
  exact this (N - b) b ha (by omega)
theorem xmade_1 (hF1 : FigAt h f F) (hf : x + 14 ≤ f) (hk : FigOk F) (hb : F.1 0 ≤ 10) (hS : SoAt h a so) (ha : x + 14 ≤ a) {A : Nat → Int32} {R : Option pO}
    (he : pR 41 (d + 4) 56 [.ref x, .ref f, .ref a, .int (nI (2 ^ F.1 0)), pU, pU] [] (xput h x (X.1, us X.2.1 7 (wa (Wf F (so 1) (so 0)) A (2 ^ F.1 0)), X.2.2)) = R) : pR 41 (d + 4) 2 [.ref x, .ref f, .ref a, .int 1, pU, pU] [] (xput h x (X.1, us X.2.1 7 A, X.2.2)) = R := by
  obtain ⟨pp1, pp2⟩ := p2_b hb
  rw [← wa_1 (W := Wf F (so 1) (so 0)) (A := A)]
  refine loopF (N := 2 ^ F.1 0) (a := 1) (R := R) (P := fun s => pR 41 (d + 4) 2 [.ref x, .ref f, .ref a, .int (nI s), pU, pU] [] (xput h x (X.1, us X.2.1 7 (wa (Wf F (so 1) (so 0)) A s), X.2.2))) (fun s hs1 hs R hR => ?_) ?_ 1 (Nat.le_refl _) (by omega)
  · have hF := hF1.put (X := (X.1, us X.2.1 7 (wa (Wf F (so 1) (so 0)) A s), X.2.2)) hf
    obtain ⟨s0, s1, s2, s3, s4⟩ := (hS.put (X := (X.1, us X.2.1 7 (wa (Wf F (so 1) (so 0)) A s), X.2.2)) ha).o
    have hct := ct_pos (s := s) (by omega) (by omega)
    have hcl := fb_ct_le (bt (nI s)) 32
    have hev := kX24_every (d := d + 3) hF hk
    have hle := kX24_lengthOf (d := d + 3) (set := nI s) hF hk
    have hst := kX4_strains (d := d + 3) s0 s2 hct (by omega)
    have hw := kX24_isWay (d := d) hF hk (nI_inS hs)
    rw [aI_p hb] at hev
    obtain ⟨x0, -⟩ := hF.o
    rw [← wa_s (by omega)] at hR
    rw [rX1_layMade_2]
    simp (disch := first | omega | decide) only [pis_i, pis_l, pis_r, pis_n, p1_i, p1_r, p1_n, p1_u, pw0, pw1, pw2, pw3, pw4, pK_v, pK_0, pK_ite, if_true, if_false, if_pos, if_neg, Nat.reduceAdd, pok_r, i10, i01, Bool.true_or, Bool.or_true, Bool.and_true, Bool.true_and, Nat.add_sub_cancel, i1p1, i1p0, i0p1, i0p0, nIrem2, va_rf_s, bit1, bit0, pinT, pinLT, pin0, nIc, nIcL, nIlt, nIeq, nIltL, nILlt, nIeqL, nILeq, nIadL, nILad, nILmu, nI_add, nIsbL, nI_sub', decide_true, decide_false, Bool.false_or, Bool.or_false, rX1_layMade_3, rX1_layMade_3n, rX1_layMade_4, rX1_layMade_7, rX1_layMade_10, rX1_layMade_11, rX1_layMade_14, rX1_layMade_15, rX1_layMade_15n, rX1_layMade_16, rX1_layMade_17, rX1_layMade_20, rX1_layMade_20n, rX1_layMade_21, rX1_layMade_22, rX1_layMade_25, rX1_layMade_28, rX1_layMade_29, rX1_layMade_29n, rX1_layMade_30, rX1_layMade_33, rX1_layMade_36, rX1_layMade_36n, rX1_layMade_37, rX1_layMade_38, rX1_layMade_41, rX1_layMade_44, rX1_layMade_45, rX1_layMade_48, rX1_layMade_49, rX1_layMade_50, rX1_layMade_53, xCl, xF0, xF1, xP1, xF2, xF3, xP3, xF4, xF5, xP5, xF6, xF7, xF8, xF9, xF10, xF11, xF12, xP12, xF13, xP13, xF14, xP14, xF15, xP15, xF16, xP16, xF17, xP17, xF18, xF19, xF20, xP20, xF21, xF22, xP22, xL2, xL2n, xC2, xW2, xL4, xL4n, xC4, xW4, xL5, xL5n, xC5, xW5, xL6, xL6n, xC6, xW6, xL7, xL7n, xC7, xW7, xL8, xL8n, xC8, xW8, xL12, xL12n, xC12, xW12, xL13, xL13n, xC13, xW13, xL1, xK1, xC1, xW1, xL3, xK3, xC3, xW3, xL9, xK9, xC9, xW9, xL10, xK10, xC10, xW10, xLf, xLc, hev, x0, s0, s1, hle, hst, hw, kJ5_bitCount, us_same, us_ua]
    rw [Wf] at hR
    by_cases c1 : so 0 < iSm (fun b => if bt (nI s) b = true then F.2.2 b else 0) (F.1 0) + so 1 * nI (fb_ct (bt (nI s)) 32 - 1)
    · simpa [c1] using hR
    · by_cases c2 : pt F 25 (nI s) = 1 ∧ od F (nI s) ≤ 2
      · simpa [c1, c2] using hR
      · have : (decide (pt F 25 (nI s) = 1) && decide (od F (nI s) ≤ 2)) = false := by
          rw [← Bool.decide_and]; exact decide_eq_false c2
        simpa [c1, c2, this] using hR
  · have hF := hF1.put (X := (X.1, us X.2.1 7 (wa (Wf F (so 1) (so 0)) A (2 ^ F.1 0)), X.2.2)) hf
    have hev := kX24_every (d := d + 3) hF hk
    rw [aI_p hb] at hev
    obtain ⟨x0, -⟩ := hF.o
    rw [rX1_layMade_2]
    simp (disch := first | omega | decide) only [pis_i, pis_l, pis_r, pis_n, p1_i, p1_r, p1_n, p1_u, pw0, pw1, pw2, pw3, pw4, pK_v, pK_0, pK_ite, if_true, if_false, if_pos, if_neg, Nat.reduceAdd, pok_r, i10, i01, Bool.true_or, Bool.or_true, Bool.and_true, Bool.true_and, Nat.add_sub_cancel, i1p1, i1p0, i0p1, i0p0, nIrem2, va_rf_s, bit1, bit0, pinT, pinLT, pin0, nIc, nIcL, nIlt, nIeq, nIltL, nILlt, nIeqL, nILeq, nIadL, nILad, nILmu, nI_add, nIsbL, nI_sub', decide_true, decide_false, Bool.false_or, Bool.or_false, rX1_layMade_3, rX1_layMade_3n, rX1_layMade_4, rX1_layMade_7, rX1_layMade_10, rX1_layMade_11, rX1_layMade_14, rX1_layMade_15, rX1_layMade_15n, rX1_layMade_16, rX1_layMade_17, rX1_layMade_20, rX1_layMade_20n, rX1_layMade_21, rX1_layMade_22, rX1_layMade_25, rX1_layMade_28, rX1_layMade_29, rX1_layMade_29n, rX1_layMade_30, rX1_layMade_33, rX1_layMade_36, rX1_layMade_36n, rX1_layMade_37, rX1_layMade_38, rX1_layMade_41, rX1_layMade_44, rX1_layMade_45, rX1_layMade_48, rX1_layMade_49, rX1_layMade_50, rX1_layMade_53, xCl, xF0, xF1, xP1, xF2, xF3, xP3, xF4, xF5, xP5, xF6, xF7, xF8, xF9, xF10, xF11, xF12, xP12, xF13, xP13, xF14, xP14, xF15, xP15, xF16, xP16, xF17, xP17, xF18, xF19, xF20, xP20, xF21, xF22, xP22, xL2, xL2n, xC2, xW2, xL4, xL4n, xC4, xW4, xL5, xL5n, xC5, xW5, xL6, xL6n, xC6, xW6, xL7, xL7n, xC7, xW7, xL8, xL8n, xC8, xW8, xL12, xL12n, xC12, xW12, xL13, xL13n, xC13, xW13, xL1, xK1, xC1, xW1, xL3, xK3, xC3, xW3, xL9, xK9, xC9, xW9, xL10, xK10, xC10, xW10, xLf, xLc, hev, x0]
    exact he
theorem xmade_3 {W : Nat → Bool} {s : Nat} (hs : 0 < s) (hs2 : s < 1024) {A B : Nat → Int32} {n : Nat} (hn : s < n) {R : Option pO}
    (he : pR 41 (d + 4) 153 [.ref x, .ref f, .ref a, .int (nI s), .int (lw s), .int 0] [] (xput h x (X.1, us (us X.2.1 7 (wa W A n)) 6 (upd (ta (tt 25 W) B s) s (nI (tt 25 W s))), X.2.2)) = R) :
    pR 41 (d + 4) 90 [.ref x, .ref f, .ref a, .int (nI s), .int (lw s), .int (nI s)] [] (xput h x (X.1, us (us X.2.1 7 (wa W A n)) 6 (upd (ta (tt 25 W) B s) s 25), X.2.2)) = R := by
  have key : ∀ k p v, p ≤ k → p ≤ s → v ≤ 25 → fw W (tt 25 W) s k p v = tt 25 W s → pR 41 (d + 4) 90 [.ref x, .ref f, .ref a, .int (nI s), .int (lw s), .int (nI p)] [] (xput h x (X.1, us (us X.2.1 7 (wa W A n)) 6 (upd (ta (tt 25 W) B s) s (nI v)), X.2.2)) = R := by
    intro k
    induction k with
    | zero =>
      intro p v hp hps hv hw
      rw [fw] at hw
      obtain rfl : p = 0 := by omega
      rw [rX1_layMade_90]
      simp (disch := first | omega | decide) only [pis_i, pis_l, pis_r, pis_n, p1_i, p1_r, p1_n, p1_u, pw0, pw1, pw2, pw3, pw4, pK_v, pK_0, pK_ite, if_true, if_false, if_pos, if_neg, Nat.reduceAdd, pok_r, i10, i01, Bool.true_or, Bool.or_true, Bool.and_true, Bool.true_and, Nat.add_sub_cancel, i1p1, i1p0, i0p1, i0p0, nIrem2, va_rf_s, bit1, bit0, pinT, pinLT, pin0, nIc, nIcL, nIlt, nIeq, nIltL, nILlt, nIeqL, nILeq, nIadL, nILad, nILmu, nI_add, nIsbL, nI_sub', decide_true, decide_false, Bool.false_or, Bool.or_false, rX1_layMade_92]
      rw [hw]; exact he
    | succ k ih =>
      intro p v hp hps hv hw
      rw [fw] at hw
      rw [rX1_layMade_90]
      by_cases h0 : p = 0
      · rw [if_pos h0] at hw
        subst h0
        simp (disch := first | omega | decide) only [pis_i, pis_l, pis_r, pis_n, p1_i, p1_r, p1_n, p1_u, pw0, pw1, pw2, pw3, pw4, pK_v, pK_0, pK_ite, if_true, if_false, if_pos, if_neg, Nat.reduceAdd, pok_r, i10, i01, Bool.true_or, Bool.or_true, Bool.and_true, Bool.true_and, Nat.add_sub_cancel, i1p1, i1p0, i0p1, i0p0, nIrem2, va_rf_s, bit1, bit0, pinT, pinLT, pin0, nIc, nIcL, nIlt, nIeq, nIltL, nILlt, nIeqL, nILeq, nIadL, nILad, nILmu, nI_add, nIsbL, nI_sub', decide_true, decide_false, Bool.false_or, Bool.or_false, rX1_layMade_92]
        rw [hw]; exact he
      · rw [if_neg h0] at hw
        have hle : (p - 1) &&& s ≤ p - 1 := Nat.and_le_left
        have hle2 : (p - 1) &&& s ≤ s := Nat.and_le_right
        have hrd : us (us X.2.1 7 (wa W A n)) 6 (upd (ta (tt 25 W) B s) s (nI v)) 7 p = if W p = true then 1 else 0 := by
          rw [us_ne (by decide), us_same, wa_rd (by omega) (by omega)]
        cases c1 : cl s p
        · have c1' : (nI p &&& lw s = 0) = True := by simp only [cl, decide_eq_false_iff_not, Decidable.not_not] at c1; simp [c1]
          rw [if_neg (by rw [c1]; simp)] at hw
          simp (disch := first | omega | decide) only [pis_i, pis_l, pis_r, pis_n, p1_i, p1_r, p1_n, p1_u, pw0, pw1, pw2, pw3, pw4, pK_v, pK_0, pK_ite, if_true, if_false, if_pos, if_neg, Nat.reduceAdd, pok_r, i10, i01, Bool.true_or, Bool.or_true, Bool.and_true, Bool.true_and, Nat.add_sub_cancel, i1p1, i1p0, i0p1, i0p0, nIrem2, va_rf_s, bit1, bit0, pinT, pinLT, pin0, nIc, nIcL, nIlt, nIeq, nIltL, nILlt, nIeqL, nILeq, nIadL, nILad, nILmu, nI_add, nIsbL, nI_sub', decide_true, decide_false, Bool.false_or, Bool.or_false, rX1_layMade_92, rX1_layMade_95, rX1_layMade_97, rX1_layMade_99, rX1_layMade_100, rX1_layMade_103, rX1_layMade_104, rX1_layMade_107, rX1_layMade_109, rX1_layMade_110, rX1_layMade_111, rX1_layMade_114, rX1_layMade_115, rX1_layMade_118, rX1_layMade_119, rX1_layMade_120, rX1_layMade_123, rX1_layMade_124, rX1_layMade_125, rX1_layMade_126, rX1_layMade_127, rX1_layMade_130, rX1_layMade_131, rX1_layMade_133, rX1_layMade_134, rX1_layMade_135, rX1_layMade_136, rX1_layMade_137, rX1_layMade_138, rX1_layMade_141, rX1_layMade_142, rX1_layMade_144, rX1_layMade_145, rX1_layMade_146, rX1_layMade_147, rX1_layMade_148, rX1_layMade_150, xCl, xF0, xF1, xP1, xF2, xF3, xP3, xF4, xF5, xP5, xF6, xF7, xF8, xF9, xF10, xF11, xF12, xP12, xF13, xP13, xF14, xP14, xF15, xP15, xF16, xP16, xF17, xP17, xF18, xF19, xF20, xP20, xF21, xF22, xP22, xL2, xL2n, xC2, xW2, xL4, xL4n, xC4, xW4, xL5, xL5n, xC5, xW5, xL6, xL6n, xC6, xW6, xL7, xL7n, xC7, xW7, xL8, xL8n, xC8, xW8, xL12, xL12n, xC12, xW12, xL13, xL13n, xC13, xW13, xL1, xK1, xC1, xW1, xL3, xK3, xC3, xW3, xL9, xK9, xC9, xW9, xL10, xK10, xC10, xW10, xLf, xLc, c1', nI_and]
          exact ih _ v (by omega) hle2 hv hw
        · have c1' : (nI p &&& lw s = 0) = False := by simp only [cl, decide_eq_true_eq] at c1; simp [c1]
          cases c2 : W p
          · rw [if_neg (by rw [c2]; simp)] at hw
            rw [c2, if_neg (by decide)] at hrd
            simp (disch := first | omega | decide) only [pis_i, pis_l, pis_r, pis_n, p1_i, p1_r, p1_n, p1_u, pw0, pw1, pw2, pw3, pw4, pK_v, pK_0, pK_ite, if_true, if_false, if_pos, if_neg, Nat.reduceAdd, pok_r, i10, i01, Bool.true_or, Bool.or_true, Bool.and_true, Bool.true_and, Nat.add_sub_cancel, i1p1, i1p0, i0p1, i0p0, nIrem2, va_rf_s, bit1, bit0, pinT, pinLT, pin0, nIc, nIcL, nIlt, nIeq, nIltL, nILlt, nIeqL, nILeq, nIadL, nILad, nILmu, nI_add, nIsbL, nI_sub', decide_true, decide_false, Bool.false_or, Bool.or_false, rX1_layMade_92, rX1_layMade_95, rX1_layMade_97, rX1_layMade_99, rX1_layMade_100, rX1_layMade_103, rX1_layMade_104, rX1_layMade_107, rX1_layMade_109, rX1_layMade_110, rX1_layMade_111, rX1_layMade_114, rX1_layMade_115, rX1_layMade_118, rX1_layMade_119, rX1_layMade_120, rX1_layMade_123, rX1_layMade_124, rX1_layMade_125, rX1_layMade_126, rX1_layMade_127, rX1_layMade_130, rX1_layMade_131, rX1_layMade_133, rX1_layMade_134, rX1_layMade_135, rX1_layMade_136, rX1_layMade_137, rX1_layMade_138, rX1_layMade_141, rX1_layMade_142, rX1_layMade_144, rX1_layMade_145, rX1_layMade_146, rX1_layMade_147, rX1_layMade_148, rX1_layMade_150, xCl, xF0, xF1, xP1, xF2, xF3, xP3, xF4, xF5, xP5, xF6, xF7, xF8, xF9, xF10, xF11, xF12, xP12, xF13, xP13, xF14, xP14, xF15, xP15, xF16, xP16, xF17, xP17, xF18, xF19, xF20, xP20, xF21, xF22, xP22, xL2, xL2n, xC2, xW2, xL4, xL4n, xC4, xW4, xL5, xL5n, xC5, xW5, xL6, xL6n, xC6, xW6, xL7, xL7n, xC7, xW7, xL8, xL8n, xC8, xW8, xL12, xL12n, xC12, xW12, xL13, xL13n, xC13, xW13, xL1, xK1, xC1, xW1, xL3, xK3, xC3, xW3, xL9, xK9, xC9, xW9, xL10, xK10, xC10, xW10, xLf, xLc, c1', nI_and, hrd]
            exact ih _ v (by omega) hle2 hv hw
          · rw [if_pos ⟨c1, c2⟩] at hw
            rw [c2, if_pos rfl] at hrd
            have hmi := mi_lt hs hs2 c1
            have ht := ta_rd (T := tt 25 W) (A := B) (v := nI v) hmi
            have hb := tt_min (W := W) (mi s p) (by omega)
            simp (disch := first | omega | decide) only [pis_i, pis_l, pis_r, pis_n, p1_i, p1_r, p1_n, p1_u, pw0, pw1, pw2, pw3, pw4, pK_v, pK_0, pK_ite, if_true, if_false, if_pos, if_neg, Nat.reduceAdd, pok_r, i10, i01, Bool.true_or, Bool.or_true, Bool.and_true, Bool.true_and, Nat.add_sub_cancel, i1p1, i1p0, i0p1, i0p0, nIrem2, va_rf_s, bit1, bit0, pinT, pinLT, pin0, nIc, nIcL, nIlt, nIeq, nIltL, nILlt, nIeqL, nILeq, nIadL, nILad, nILmu, nI_add, nIsbL, nI_sub', decide_true, decide_false, Bool.false_or, Bool.or_false, rX1_layMade_92, rX1_layMade_95, rX1_layMade_97, rX1_layMade_99, rX1_layMade_100, rX1_layMade_103, rX1_layMade_104, rX1_layMade_107, rX1_layMade_109, rX1_layMade_110, rX1_layMade_111, rX1_layMade_114, rX1_layMade_115, rX1_layMade_118, rX1_layMade_119, rX1_layMade_120, rX1_layMade_123, rX1_layMade_124, rX1_layMade_125, rX1_layMade_126, rX1_layMade_127, rX1_layMade_130, rX1_layMade_131, rX1_layMade_133, rX1_layMade_134, rX1_layMade_135, rX1_layMade_136, rX1_layMade_137, rX1_layMade_138, rX1_layMade_141, rX1_layMade_142, rX1_layMade_144, rX1_layMade_145, rX1_layMade_146, rX1_layMade_147, rX1_layMade_148, rX1_layMade_150, xCl, xF0, xF1, xP1, xF2, xF3, xP3, xF4, xF5, xP5, xF6, xF7, xF8, xF9, xF10, xF11, xF12, xP12, xF13, xP13, xF14, xP14, xF15, xP15, xF16, xP16, xF17, xP17, xF18, xF19, xF20, xP20, xF21, xF22, xP22, xL2, xL2n, xC2, xW2, xL4, xL4n, xC4, xW4, xL5, xL5n, xC5, xW5, xL6, xL6n, xC6, xW6, xL7, xL7n, xC7, xW7, xL8, xL8n, xC8, xW8, xL12, xL12n, xC12, xW12, xL13, xL13n, xC13, xW13, xL1, xK1, xC1, xW1, xL3, xK3, xC3, xW3, xL9, xK9, xC9, xW9, xL10, xK10, xC10, xW10, xLf, xLc, c1', nI_and, hrd, us_same, nI_mi, ht, us_ua, upd_same, upd_upd]
            have e : (if 1 + tt 25 W (mi s p) < v then nI (1 + tt 25 W (mi s p)) else nI v) = nI (min v (1 + tt 25 W (mi s p))) := by
              by_cases q : 1 + tt 25 W (mi s p) < v
              · rw [if_pos q, Nat.min_eq_right (by omega)]
              · rw [if_neg q, Nat.min_eq_left (by omega)]
            rw [e]
            exact ih _ _ (by omega) hle2 (by omega) hw
  exact key s s 25 (Nat.le_refl _) (Nat.le_refl _) (Nat.le_refl _) (tt_s hs hs2).symm
theorem kX1_layMade (hF1 : FigAt h f F) (hf : x + 14 ≤ f) (hk : FigOk F) (hb : F.1 0 ≤ 10) (hS : SoAt h a so) (ha : x + 14 ≤ a) : pCa 41 (d + 4) [.ref x, .ref f, .ref a] (xput h x X) = some (.inl none, xput h x (X.1, us (us X.2.1 7 (wa (Wf F (so 1) (so 0)) (X.2.1 7) (2 ^ F.1 0))) 6 (ta (tt 25 (Wf F (so 1) (so 0))) (X.2.1 6) (2 ^ F.1 0)), X.2.2)) := by
  obtain ⟨pp1, pp2⟩ := p2_b hb
  rw [eX1_layMade]
  simp (disch := first | omega | decide) only [pis_i, pis_l, pis_r, pis_n, p1_i, p1_r, p1_n, p1_u, pw0, pw1, pw2, pw3, pw4, pK_v, pK_0, pK_ite, if_true, if_false, if_pos, if_neg, Nat.reduceAdd, pok_r, i10, i01, Bool.true_or, Bool.or_true, Bool.and_true, Bool.true_and, rX1_layMade_0, rX1_layMade_1]
  rw [show xput h x X = xput h x (X.1, us X.2.1 7 (X.2.1 7), X.2.2) by rw [us_id]]
  refine xmade_1 hF1 hf hk hb hS ha ?_
  simp (disch := first | omega | decide) only [pis_i, pis_l, pis_r, pis_n, p1_i, p1_r, p1_n, p1_u, pw0, pw1, pw2, pw3, pw4, pK_v, pK_0, pK_ite, if_true, if_false, if_pos, if_neg, Nat.reduceAdd, pok_r, i10, i01, Bool.true_or, Bool.or_true, Bool.and_true, Bool.true_and, Nat.add_sub_cancel, i1p1, i1p0, i0p1, i0p0, nIrem2, va_rf_s, bit1, bit0, pinT, pinLT, pin0, nIc, nIcL, nIlt, nIeq, nIltL, nILlt, nIeqL, nILeq, nIadL, nILad, nILmu, nI_add, nIsbL, nI_sub', decide_true, decide_false, Bool.false_or, Bool.or_false, rX1_layMade_56, rX1_layMade_57, rX1_layMade_60, rX1_layMade_61, rX1_layMade_62, rX1_layMade_63, rX1_layMade_64, xCl, xF0, xF1, xP1, xF2, xF3, xP3, xF4, xF5, xP5, xF6, xF7, xF8, xF9, xF10, xF11, xF12, xP12, xF13, xP13, xF14, xP14, xF15, xP15, xF16, xP16, xF17, xP17, xF18, xF19, xF20, xP20, xF21, xF22, xP22, xL2, xL2n, xC2, xW2, xL4, xL4n, xC4, xW4, xL5, xL5n, xC5, xW5, xL6, xL6n, xC6, xW6, xL7, xL7n, xC7, xW7, xL8, xL8n, xC8, xW8, xL12, xL12n, xC12, xW12, xL13, xL13n, xC13, xW13, xL1, xK1, xC1, xW1, xL3, xK3, xC3, xW3, xL9, xK9, xC9, xW9, xL10, xK10, xC10, xW10, xLf, xLc]
  generalize hWe : Wf F (so 1) (so 0) = W
  rw [show ua (us X.2.1 7 (wa W (X.2.1 7) (2 ^ F.1 0))) 6 0 0 = us (us X.2.1 7 (wa W (X.2.1 7) (2 ^ F.1 0))) 6 (ta (tt 25 W) (X.2.1 6) 1) by
    rw [← ta_1]
    funext k
    simp only [ua, us]
    by_cases e : k = 6 <;> simp [e]]
  have main := fun q4 q5 => loopP (N := 2 ^ F.1 0 - 1) (P := fun s => ∀ q4 q5, p1 q4 = true → p1 q5 = true → pR 41 (d + 4) 65 [.ref x, .ref f, .ref a, .int (nI (s + 1)), q4, q5] [] (xput h x (X.1, us (us X.2.1 7 (wa W (X.2.1 7) (2 ^ F.1 0))) 6 (ta (tt 25 W) (X.2.1 6) (s + 1)), X.2.2)) = some (.inl none, xput h x (X.1, us (us X.2.1 7 (wa W (X.2.1 7) (2 ^ F.1 0))) 6 (ta (tt 25 W) (X.2.1 6) (2 ^ F.1 0)), X.2.2))) (fun s hs ihs q4 q5 h4 h5 => ?_) (fun q4 q5 h4 h5 => ?_) 0 (Nat.zero_le _) q4 q5
  · exact main pU pU rfl rfl
  · have hF := hF1.put (X := (X.1, us (us X.2.1 7 (wa W (X.2.1 7) (2 ^ F.1 0))) 6 (ta (tt 25 W) (X.2.1 6) (s + 1)), X.2.2)) hf
    have hev := kX24_every (d := d + 3) hF hk
    rw [aI_p hb] at hev
    obtain ⟨x0, -⟩ := hF.o
    have ihs := ihs (.int (lw (s + 1))) (.int 0) rfl rfl
    rw [← ta_s] at ihs
    have h3 := xmade_3 (d := d) (x := x) (f := f) (a := a) (h := h) (X := X) (W := W) (s := s + 1) (A := X.2.1 7) (B := X.2.1 6) (n := 2 ^ F.1 0) (by omega) (by omega) (by omega) (R := some (.inl none, xput h x (X.1, us (us X.2.1 7 (wa W (X.2.1 7) (2 ^ F.1 0))) 6 (ta (tt 25 W) (X.2.1 6) (2 ^ F.1 0)), X.2.2))) (by
      simp (disch := first | omega | decide) only [pis_i, pis_l, pis_r, pis_n, p1_i, p1_r, p1_n, p1_u, pw0, pw1, pw2, pw3, pw4, pK_v, pK_0, pK_ite, if_true, if_false, if_pos, if_neg, Nat.reduceAdd, pok_r, i10, i01, Bool.true_or, Bool.or_true, Bool.and_true, Bool.true_and, Nat.add_sub_cancel, i1p1, i1p0, i0p1, i0p0, nIrem2, va_rf_s, bit1, bit0, pinT, pinLT, pin0, nIc, nIcL, nIlt, nIeq, nIltL, nILlt, nIeqL, nILeq, nIadL, nILad, nILmu, nI_add, nIsbL, nI_sub', decide_true, decide_false, Bool.false_or, Bool.or_false, rX1_layMade_153, rX1_layMade_156]
      exact ihs)
    rw [rX1_layMade_65]
    simp (disch := first | omega | decide) only [pis_i, pis_l, pis_r, pis_n, p1_i, p1_r, p1_n, p1_u, pw0, pw1, pw2, pw3, pw4, pK_v, pK_0, pK_ite, if_true, if_false, if_pos, if_neg, Nat.reduceAdd, pok_r, i10, i01, Bool.true_or, Bool.or_true, Bool.and_true, Bool.true_and, Nat.add_sub_cancel, i1p1, i1p0, i0p1, i0p0, nIrem2, va_rf_s, bit1, bit0, pinT, pinLT, pin0, nIc, nIcL, nIlt, nIeq, nIltL, nILlt, nIeqL, nILeq, nIadL, nILad, nILmu, nI_add, nIsbL, nI_sub', decide_true, decide_false, Bool.false_or, Bool.or_false, rX1_layMade_66, rX1_layMade_66n, rX1_layMade_67, rX1_layMade_70, rX1_layMade_73, rX1_layMade_74, rX1_layMade_77, rX1_layMade_78, rX1_layMade_80, rX1_layMade_81, rX1_layMade_82, rX1_layMade_83, rX1_layMade_84, rX1_layMade_85, rX1_layMade_87, rX1_layMade_88, xCl, xF0, xF1, xP1, xF2, xF3, xP3, xF4, xF5, xP5, xF6, xF7, xF8, xF9, xF10, xF11, xF12, xP12, xF13, xP13, xF14, xP14, xF15, xP15, xF16, xP16, xF17, xP17, xF18, xF19, xF20, xP20, xF21, xF22, xP22, xL2, xL2n, xC2, xW2, xL4, xL4n, xC4, xW4, xL5, xL5n, xC5, xW5, xL6, xL6n, xC6, xW6, xL7, xL7n, xC7, xW7, xL8, xL8n, xC8, xW8, xL12, xL12n, xC12, xW12, xL13, xL13n, xC13, xW13, xL1, xK1, xC1, xW1, xL3, xK3, xC3, xW3, xL9, xK9, xC9, xW9, xL10, xK10, xC10, xW10, xLf, xLc, hev, x0, h4, h5, us_ua]
    exact h3
  · have hF := hF1.put (X := (X.1, us (us X.2.1 7 (wa W (X.2.1 7) (2 ^ F.1 0))) 6 (ta (tt 25 W) (X.2.1 6) (2 ^ F.1 0 - 1 + 1)), X.2.2)) hf
    have hev := kX24_every (d := d + 3) hF hk
    rw [aI_p hb] at hev
    obtain ⟨x0, -⟩ := hF.o
    rw [rX1_layMade_65]
    simp (disch := first | omega | decide) only [pis_i, pis_l, pis_r, pis_n, p1_i, p1_r, p1_n, p1_u, pw0, pw1, pw2, pw3, pw4, pK_v, pK_0, pK_ite, if_true, if_false, if_pos, if_neg, Nat.reduceAdd, pok_r, i10, i01, Bool.true_or, Bool.or_true, Bool.and_true, Bool.true_and, Nat.add_sub_cancel, i1p1, i1p0, i0p1, i0p0, nIrem2, va_rf_s, bit1, bit0, pinT, pinLT, pin0, nIc, nIcL, nIlt, nIeq, nIltL, nILlt, nIeqL, nILeq, nIadL, nILad, nILmu, nI_add, nIsbL, nI_sub', decide_true, decide_false, Bool.false_or, Bool.or_false, rX1_layMade_66, rX1_layMade_66n, rX1_layMade_67, rX1_layMade_70, rX1_layMade_73, rX1_layMade_74, rX1_layMade_77, rX1_layMade_78, rX1_layMade_80, rX1_layMade_81, rX1_layMade_82, rX1_layMade_83, rX1_layMade_84, rX1_layMade_85, rX1_layMade_87, rX1_layMade_88, rX1_layMade_159, xCl, xF0, xF1, xP1, xF2, xF3, xP3, xF4, xF5, xP5, xF6, xF7, xF8, xF9, xF10, xF11, xF12, xP12, xF13, xP13, xF14, xP14, xF15, xP15, xF16, xP16, xF17, xP17, xF18, xF19, xF20, xP20, xF21, xF22, xP22, xL2, xL2n, xC2, xW2, xL4, xL4n, xC4, xW4, xL5, xL5n, xC5, xW5, xL6, xL6n, xC6, xW6, xL7, xL7n, xC7, xW7, xL8, xL8n, xC8, xW8, xL12, xL12n, xC12, xW12, xL13, xL13n, xC13, xW13, xL1, xK1, xC1, xW1, xL3, xK3, xC3, xW3, xL9, xK9, xC9, xW9, xL10, xK10, xC10, xW10, xLf, xLc, hev, x0]
    rw [Nat.sub_add_cancel (by omega)]
end
