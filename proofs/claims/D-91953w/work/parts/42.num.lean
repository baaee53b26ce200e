/-! NUMBERS: ints that are naturals, beside literals; answers that are conditions -/
set_option maxRecDepth 100000
section
variable {a b c : Nat} {P : Prop} [Decidable P]
theorem nIL (b : Nat) : (OfNat.ofNat b : Int32) = nI b := rfl
theorem nIltL (ha : a < 2147483648) (hb : (OfNat.ofNat b : Nat) < 2147483648) : (nI a < (no_index (OfNat.ofNat b : Int32))) = (a < (OfNat.ofNat b : Nat)) := nIlt ha hb
theorem nILlt (ha : a < 2147483648) (hb : (OfNat.ofNat b : Nat) < 2147483648) : ((no_index (OfNat.ofNat b : Int32)) < nI a) = ((OfNat.ofNat b : Nat) < a) := nIlt hb ha
theorem nIeqL (ha : a < 2147483648) (hb : (OfNat.ofNat b : Nat) < 2147483648) : (nI a = (no_index (OfNat.ofNat b : Int32))) = (a = (OfNat.ofNat b : Nat)) := nIeq ha hb
theorem nILeq (ha : a < 2147483648) (hb : (OfNat.ofNat b : Nat) < 2147483648) : ((no_index (OfNat.ofNat b : Int32)) = nI a) = ((OfNat.ofNat b : Nat) = a) := nIeq hb ha
theorem nIadL : nI a + (no_index (OfNat.ofNat b : Int32)) = nI (a + (OfNat.ofNat b : Nat)) := nI_add a b
theorem nILad : (no_index (OfNat.ofNat b : Int32)) + nI a = nI ((OfNat.ofNat b : Nat) + a) := nI_add b a
theorem nILmu : (no_index (OfNat.ofNat b : Int32)) * nI a = nI ((OfNat.ofNat b : Nat) * a) := pk_mul b a
theorem nI_sub' (h : b ≤ a) : nI a - nI b = nI (a - b) := by
  have : nI a = nI (a - b) + nI b := by rw [nI_add, Nat.sub_add_cancel h]
  rw [this]
  exact Int32.add_sub_cancel _ _
theorem nIsbL (h : (OfNat.ofNat b : Nat) ≤ a) : nI a - (no_index (OfNat.ofNat b : Int32)) = nI (a - (OfNat.ofNat b : Nat)) := nI_sub' h
theorem b01 : ((if P then (1 : Int32) else 0) = 0) = ¬ P := by
  by_cases h : P <;> simp [h]
theorem b01' : ((if P then (1 : Int32) else 0) = 1) = P := by
  by_cases h : P <;> simp [h]
theorem pK_ite {M d pc n : Nat} {ls st : List Value} {x y : Option pO} : pK M d pc n ls st (if P then x else y) = if P then pK M d pc n ls st x else pK M d pc n ls st y := by
  by_cases h : P <;> simp [h]
theorem pok_r (c : Nat) : pok c c = true := by simp [pok]
theorem pinT {n N : Nat} (h : n < N) (h2 : n < 2147483648) : pin (nI n) N = true := by rw [pin_nI h2]; exact decide_eq_true h
theorem pinLT {n N : Nat} (h : (OfNat.ofNat n : Nat) < N) (h2 : (OfNat.ofNat n : Nat) < 2147483648) : pin (no_index (OfNat.ofNat n : Int32)) N = true := pinT h h2
theorem pin0 {x : Int32} : pin x 0 = false := by simp [pin]
theorem nIcL {n : Nat} (h2 : (OfNat.ofNat n : Nat) < 2147483648) : (no_index (OfNat.ofNat n : Int32)).toNatClampNeg = (OfNat.ofNat n : Nat) := nIc h2
theorem i10 : ((1 : Int32) = 0) = False := by decide
theorem i01 : ((0 : Int32) = 1) = False := by decide
theorem bit1 {x : Int32} {k : Nat} (hk : k < 32) : (x >>> (nI k &&& 31) &&& 1 = 1) = (bt x k = true) := by
  have h1 : ∀ i, i < 32 → bt 1 i = decide (i = 0) := by decide +kernel
  have h2 : bt (x >>> (nI k &&& 31)) 0 = bt x k := by rw [b_sshr k hk x (by decide)]; simp [hk]
  apply propext
  constructor
  · intro h
    have := congrArg (fun z => bt z 0) h
    simp only [b_and, h2, h1 0 (by decide)] at this
    simpa using this
  · intro h
    apply b_ext
    intro i hi
    rw [b_and, h1 i hi]
    by_cases h0 : i = 0
    · subst h0; rw [h2, h]; rfl
    · simp [h0]
theorem bit0 {x : Int32} {k : Nat} (hk : k < 32) : (x >>> (nI k &&& 31) &&& 1 = 0) = (bt x k = false) := by
  have h1 : ∀ i, i < 32 → bt 1 i = decide (i = 0) := by decide +kernel
  have h2 : bt (x >>> (nI k &&& 31)) 0 = bt x k := by rw [b_sshr k hk x (by decide)]; simp [hk]
  apply propext
  constructor
  · intro h
    have := congrArg (fun z => bt z 0) h
    simp only [b_and, h2, h1 0 (by decide), b_0] at this
    simpa using this
  · intro h
    apply b_ext
    intro i hi
    rw [b_and, h1 i hi, b_0]
    by_cases h0 : i = 0
    · subst h0; rw [h2, h]; rfl
    · simp [h0]
theorem va_rf_s {a : Nat} : va_rf (some a) = .ref a := rfl
theorem va_rf_n : va_rf none = .null := rfl
theorem loopN {P : Nat → Option pO} {R : Option pO} {N : Nat} (hs : ∀ b, b < N → ∀ R, P (b + 1) = R → P b = R) (he : P N = R) : ∀ b, b ≤ N → P b = R := by
  have : ∀ n b, b + n = N → P b = R := by
    intro n
    induction n with
    | zero => intro b hb; rw [show b = N by omega]; exact he
    | succ n ih => intro b hb; exact hs b (by omega) R (ih (b + 1) (by omega))
  intro b hb
  exact this (N - b) b (by omega)
theorem nIdiv (ha : a < 2147483648) (hb : b < 2147483648) : nI a / nI b = nI (a / b) := by
  apply Int32.toInt_inj.mp
  have ea : (nI a).toInt = a := Int32.toInt_ofNat_of_lt (by exact ha)
  have eb : (nI b).toInt = b := Int32.toInt_ofNat_of_lt (by exact hb)
  have hq : a / b < 2147483648 := Nat.lt_of_le_of_lt (Nat.div_le_self a b) ha
  have ec : (nI (a / b)).toInt = (a / b : Nat) := Int32.toInt_ofNat_of_lt (by exact hq)
  rw [Int32.toInt_div, ea, eb, ec, Int.tdiv_eq_ediv_of_nonneg (by omega)]
  have e2 : ((a : Int) / (b : Int)) = ((a / b : Nat) : Int) := (Int.natCast_ediv a b).symm
  rw [e2]
  generalize a / b = q at hq
  clear ea eb ec e2
  apply Int.bmod_eq_of_le <;> omega
theorem nIrem (ha : a < 2147483648) (hb : b < 2147483648) : nI a - nI a / nI b * nI b = nI (a % b) := by
  rw [nIdiv ha hb, show nI (a / b) * nI b = nI (a / b * b) from pk_mul _ _, nI_sub' (Nat.div_mul_le_self a b)]
  congr 1
  have := Nat.mod_add_div a b
  rw [Nat.mul_comm] at this
  omega
theorem nIrem2 (ha : a < 2147483648) : nI a - nI a / 2 * 2 = nI (a % 2) := nIrem (b := 2) ha (by decide)
theorem i1p1 : (1 : Int32) + 1 = 2 := rfl
theorem i1p0 : (1 : Int32) + 0 = 1 := rfl
theorem i0p1 : (0 : Int32) + 1 = 1 := rfl
theorem i0p0 : (0 : Int32) + 0 = 0 := rfl
end
