/-! BITS 2: bitCount counts; the lowest bit -/
set_option maxRecDepth 100000
theorem nat_and_256 {u v s t : Nat} (hv : v < 256) (ht : t < 256) : (256 * u + v) &&& (256 * s + t) = 256 * (u &&& s) + (v &&& t) := by
  have h1 : ((256 * u + v) &&& (256 * s + t)) / 2 ^ 8 = u &&& s := by
    rw [Nat.and_div_two_pow]
    congr 1 <;> (show _ / 256 = _; omega)
  have h2 : ((256 * u + v) &&& (256 * s + t)) % 2 ^ 8 = v &&& t := by
    rw [Nat.and_mod_two_pow]
    congr 1 <;> (show _ % 256 = _; omega)
  have := Nat.div_add_mod ((256 * u + v) &&& (256 * s + t)) (2 ^ 8)
  rw [h1, h2] at this
  exact this.symm
def yb (x : Nat) : Nat := x - ((x / 2) &&& 85)
def zb (x : Nat) : Nat := (yb x &&& 51) + ((yb x / 4) &&& 51)
def pb (x : Nat) : Nat := (zb x + zb x / 16) % 16
theorem by_1 : ∀ v, v < 256 → ∀ c, c < 2 → (v / 2 + 128 * c) &&& 85 = (v / 2) &&& 85 := by decide +kernel
theorem by_2 : ∀ v, v < 256 → ∀ c, c < 4 → (v / 4 + 64 * c) &&& 51 = (v / 4) &&& 51 := by decide +kernel
theorem by_3 : ∀ v, v < 256 → (v / 2) &&& 85 ≤ v ∧ yb v < 256 := by decide +kernel
theorem by_4 : ∀ v, v < 256 → zb v % 16 ≤ 4 ∧ zb v / 16 ≤ 4 ∧ (yb v &&& 51) < 256 ∧ ((yb v / 4) &&& 51) < 256 := by decide +kernel
theorem by_5 : ∀ v, v < 256 → pb v = fb_ct (fun i => Nat.testBit v i) 8 := by decide +kernel
theorem by_6 : ∀ v, v < 256 → pb v ≤ 8 := by decide +kernel
theorem md_16 (z c : Nat) : (z + z / 16 + 16 * c) % 16 = (z + z / 16) % 16 := by omega
theorem fin_63 {e0 e1 e2 e3 : Nat} (h0 : e0 ≤ 8) (h1 : e1 ≤ 8) (h2 : e2 ≤ 8) (h3 : e3 ≤ 8) : (e0 + 256 * e1 + 65536 * e2 + 16777216 * e3 + (e0 + 256 * e1 + 65536 * e2 + 16777216 * e3) / 256 + (e0 + 256 * e1 + 65536 * e2 + 16777216 * e3 + (e0 + 256 * e1 + 65536 * e2 + 16777216 * e3) / 256) / 65536) % 64 = e0 + e1 + e2 + e3 := by
  have e : (e0 + 256 * e1 + 65536 * e2 + 16777216 * e3) / 256 = e1 + 256 * e2 + 65536 * e3 := by omega
  rw [e]
  have e : (e0 + 256 * e1 + 65536 * e2 + 16777216 * e3 + (e1 + 256 * e2 + 65536 * e3)) / 65536 = e2 + e3 + 256 * e3 := by omega
  rw [e]
  omega
theorem i_of32 (x : Int32) : ∃ n, n < 2 ^ 32 ∧ x = nI n := ⟨x.toBitVec.toNat, x.toBitVec.isLt, Int32.toBitVec_inj.mp (by show _ = BitVec.ofNat 32 _; simp)⟩
theorem and_15 (w : Nat) : w &&& 15 = w % 16 := Nat.and_two_pow_sub_one_eq_mod w 4
theorem and_63 (w : Nat) : w &&& 63 = w % 64 := Nat.and_two_pow_sub_one_eq_mod w 6
theorem nat_pop {x0 x1 x2 x3 a a1 a2 a3 a4 a5 : Nat} (h0 : x0 < 256) (h1 : x1 < 256) (h2 : x2 < 256) (h3 : x3 < 256) (ha : a = x0 + 256 * x1 + 65536 * x2 + 16777216 * x3)
    (e1 : a1 = a - ((a / 2) &&& 1431655765)) (e2 : a2 = (a1 &&& 858993459) + ((a1 / 4) &&& 858993459)) (e3 : a3 = (a2 + a2 / 16) &&& 252645135) (e4 : a4 = a3 + a3 / 256) (e5 : a5 = a4 + a4 / 65536) :
    (a / 2) &&& 1431655765 ≤ a ∧ a5 &&& 63 = pb x0 + pb x1 + pb x2 + pb x3 ∧ pb x0 + pb x1 + pb x2 + pb x3 ≤ 32 ∧ a1 < 4294967296 ∧ a2 < 4294967296 ∧ a3 < 4294967296 ∧ a4 < 4294967296 := by
  have m : ∀ u0 u1 u2 u3 t : Nat, u0 < 256 → u1 < 256 → u2 < 256 → u3 < 256 → t < 256 → (u0 + 256 * u1 + 65536 * u2 + 16777216 * u3) &&& (t + 256 * t + 65536 * t + 16777216 * t) = (u0 &&& t) + 256 * (u1 &&& t) + 65536 * (u2 &&& t) + 16777216 * (u3 &&& t) := by
    intro u0 u1 u2 u3 t q0 q1 q2 q3 qt
    rw [show u0 + 256 * u1 + 65536 * u2 + 16777216 * u3 = 256 * (256 * (256 * u3 + u2) + u1) + u0 by omega, show t + 256 * t + 65536 * t + 16777216 * t = 256 * (256 * (256 * t + t) + t) + t by omega, nat_and_256 q0 qt, nat_and_256 q1 qt, nat_and_256 q2 qt]
    omega
  have s1 : (a / 2) &&& 1431655765 = ((x0 / 2) &&& 85) + 256 * ((x1 / 2) &&& 85) + 65536 * ((x2 / 2) &&& 85) + 16777216 * ((x3 / 2) &&& 85) := by
    rw [show a / 2 = (x0 / 2 + 128 * (x1 % 2)) + 256 * (x1 / 2 + 128 * (x2 % 2)) + 65536 * (x2 / 2 + 128 * (x3 % 2)) + 16777216 * (x3 / 2 + 128 * 0) by omega]
    rw [show (1431655765 : Nat) = 85 + 256 * 85 + 65536 * 85 + 16777216 * 85 from rfl, m _ _ _ _ 85 (by omega) (by omega) (by omega) (by omega) (by omega), by_1 x0 h0 _ (by omega), by_1 x1 h1 _ (by omega), by_1 x2 h2 _ (by omega), by_1 x3 h3 _ (by omega)]
  have b0 := by_3 x0 h0
  have b1 := by_3 x1 h1
  have b2 := by_3 x2 h2
  have b3 := by_3 x3 h3
  have t1 : a1 = yb x0 + 256 * yb x1 + 65536 * yb x2 + 16777216 * yb x3 := by
    rw [e1, s1, ha]
    unfold yb
    omega
  have c0 := by_4 x0 h0
  have c1 := by_4 x1 h1
  have c2 := by_4 x2 h2
  have c3 := by_4 x3 h3
  have t2 : a2 = zb x0 + 256 * zb x1 + 65536 * zb x2 + 16777216 * zb x3 := by
    have d4 : a1 / 4 = (yb x0 / 4 + 64 * (yb x1 % 4)) + 256 * (yb x1 / 4 + 64 * (yb x2 % 4)) + 65536 * (yb x2 / 4 + 64 * (yb x3 % 4)) + 16777216 * (yb x3 / 4 + 64 * 0) := by omega
    rw [e2, d4, t1, show (858993459 : Nat) = 51 + 256 * 51 + 65536 * 51 + 16777216 * 51 from rfl, m _ _ _ _ 51 b0.2 b1.2 b2.2 b3.2 (by omega), m _ _ _ _ 51 (by omega) (by omega) (by omega) (by omega) (by omega), by_2 _ b0.2 _ (by omega), by_2 _ b1.2 _ (by omega), by_2 _ b2.2 _ (by omega), by_2 _ b3.2 _ (by omega)]
    unfold zb
    omega
  have t3 : a3 = pb x0 + 256 * pb x1 + 65536 * pb x2 + 16777216 * pb x3 := by
    have d5 : a2 + a2 / 16 = (zb x0 + zb x0 / 16 + 16 * (zb x1 % 16)) + 256 * (zb x1 + zb x1 / 16 + 16 * (zb x2 % 16)) + 65536 * (zb x2 + zb x2 / 16 + 16 * (zb x3 % 16)) + 16777216 * (zb x3 + zb x3 / 16 + 16 * 0) := by omega
    rw [e3, d5, show (252645135 : Nat) = 15 + 256 * 15 + 65536 * 15 + 16777216 * 15 from rfl, m _ _ _ _ 15 (by omega) (by omega) (by omega) (by omega) (by omega), and_15, and_15, and_15, and_15, md_16, md_16, md_16, md_16]
    rfl
  have p0 := by_6 x0 h0
  have p1' := by_6 x1 h1
  have p2' := by_6 x2 h2
  have p3 := by_6 x3 h3
  refine ⟨by rw [s1]; omega, ?_, by omega, by rw [t1]; omega, by rw [t2]; omega, by rw [t3]; omega, by rw [e4, t3]; omega⟩
  rw [and_63, e5, e4, t3]
  exact fin_63 p0 p1' p2' p3
theorem nI_ushr {a k : Nat} (ha : a < 2 ^ 32) (hk : k < 32) : ((nI a).toUInt32 >>> ((nI k).toUInt32 &&& Int32.toUInt32 31)).toInt32 = nI (a / 2 ^ k) := by
  apply Int32.toBitVec_inj.mp
  apply BitVec.eq_of_getLsbD_eq
  intro i hi
  have := b_ushr k hk (nI a) i
  unfold bt at this
  rw [this]
  show (BitVec.ofNat 32 a).getLsbD (k + i) = (BitVec.ofNat 32 (a / 2 ^ k)).getLsbD i
  rw [BitVec.getLsbD_ofNat, BitVec.getLsbD_ofNat, Nat.testBit_div_two_pow]
  rcases Nat.lt_or_ge (k + i) 32 with q | q
  · simp [q, hi, Nat.add_comm]
  · have : a.testBit (k + i) = false := Nat.testBit_lt_two_pow (Nat.lt_of_lt_of_le ha (Nat.pow_le_pow_right (by omega) q))
    simp [hi, Nat.not_lt.mpr q, Nat.add_comm i k, this]
theorem bt_nI {a i : Nat} : bt (nI a) i = (decide (i < 32) && a.testBit i) := by
  show (BitVec.ofNat 32 a).getLsbD i = _
  rw [BitVec.getLsbD_ofNat]
theorem kJ5_bitCount {d : Nat} {H : pH} {x : Int32} : pCa 254 d [.int x] H = some (.inl (some (.int (nI (fb_ct (bt x) 32)))), H) := by
  obtain ⟨a, ha, rfl⟩ := i_of32 x
  have ha : a < 4294967296 := ha
  obtain ⟨q1, q2, q3, q4, q5, q6, q7⟩ := nat_pop (x0 := a % 256) (x1 := a / 256 % 256) (x2 := a / 65536 % 256) (x3 := a / 16777216) (a := a) (by omega) (by omega) (by omega) (by omega) (by omega) rfl rfl rfl rfl rfl
  have hct : fb_ct (bt (nI a)) 32 = pb (a % 256) + pb (a / 256 % 256) + pb (a / 65536 % 256) + pb (a / 16777216) := by
    rw [by_5 _ (by omega), by_5 _ (by omega), by_5 _ (by omega), by_5 _ (by omega), show 32 = 8 + 8 + 8 + 8 from rfl, fb_ct_split, fb_ct_split, fb_ct_split]
    congr 1
    · congr 1
      · congr 1
        · refine fb_ct_cong (fun i hi => ?_)
          rw [bt_nI, show a % 256 = a % 2 ^ 8 from rfl, Nat.testBit_mod_two_pow]; simp [hi]; omega
        · refine fb_ct_cong (fun i hi => ?_)
          rw [bt_nI, show a / 256 % 256 = a / 2 ^ 8 % 2 ^ 8 from rfl, Nat.testBit_mod_two_pow, Nat.testBit_div_two_pow]; simp [hi, Nat.add_comm]; omega
      · refine fb_ct_cong (fun i hi => ?_)
        rw [bt_nI, show a / 65536 % 256 = a / 2 ^ 16 % 2 ^ 8 from rfl, Nat.testBit_mod_two_pow, Nat.testBit_div_two_pow]; simp [hi, Nat.add_comm]; omega
    · refine fb_ct_cong (fun i hi => ?_)
      rw [bt_nI, show a / 16777216 = a / 2 ^ 24 from rfl, Nat.testBit_div_two_pow]; simp [hi, Nat.add_comm]; omega
  rw [eJ5_bitCount]
  simp only [pis_i, pis_l, pis_r, pis_n, p1_i, p1_r, p1_n, p1_u, pw0, pw1, pw2, pw3, pw4, pK_v, pK_0, pK_ite, if_true, if_false, if_pos, if_neg, Nat.reduceAdd, pok_r, i10, i01, Bool.true_or, Bool.or_true, Bool.and_true, Bool.true_and, rJ5_bitCount_0, rJ5_bitCount_1, rJ5_bitCount_2, rJ5_bitCount_3, rJ5_bitCount_4, rJ5_bitCount_7, rJ5_bitCount_8, rJ5_bitCount_9, rJ5_bitCount_10, rJ5_bitCount_11, rJ5_bitCount_14, rJ5_bitCount_15, rJ5_bitCount_16, rJ5_bitCount_17, rJ5_bitCount_18, rJ5_bitCount_21, rJ5_bitCount_22, rJ5_bitCount_23, rJ5_bitCount_24, rJ5_bitCount_25, rJ5_bitCount_26, rJ5_bitCount_27, rJ5_bitCount_28, rJ5_bitCount_29, rJ5_bitCount_32, rJ5_bitCount_33, rJ5_bitCount_34, rJ5_bitCount_35, rJ5_bitCount_36, rJ5_bitCount_38, rJ5_bitCount_39, rJ5_bitCount_40, rJ5_bitCount_41, rJ5_bitCount_42, rJ5_bitCount_43, rJ5_bitCount_45, rJ5_bitCount_46, rJ5_bitCount_47, rJ5_bitCount_48, rJ5_bitCount_49, rJ5_bitCount_51, rJ5_bitCount_52]
  generalize hp : pb (a % 256) + pb (a / 256 % 256) + pb (a / 65536 % 256) + pb (a / 16777216) = P at hct q2 q3
  rw [hct]
  have u1 : ((nI a).toUInt32 >>> (Int32.toUInt32 1 &&& Int32.toUInt32 31)).toInt32 = nI (a / 2) := nI_ushr (k := 1) ha (by decide)
  rw [u1, show (1431655765 : Int32) = nI 1431655765 from rfl, nx_and, nI_sub' q1]
  generalize a - ((a / 2) &&& 1431655765) = a1 at q2 q4 q5 q6 q7
  have u2 : ((nI a1).toUInt32 >>> (Int32.toUInt32 2 &&& Int32.toUInt32 31)).toInt32 = nI (a1 / 4) := nI_ushr (k := 2) q4 (by decide)
  rw [u2, show (858993459 : Int32) = nI 858993459 from rfl, nx_and, nx_and, nI_add]
  generalize (a1 &&& 858993459) + ((a1 / 4) &&& 858993459) = a2 at q2 q5 q6 q7
  have u3 : ((nI a2).toUInt32 >>> (Int32.toUInt32 4 &&& Int32.toUInt32 31)).toInt32 = nI (a2 / 16) := nI_ushr (k := 4) q5 (by decide)
  rw [u3, show (252645135 : Int32) = nI 252645135 from rfl, nI_add, nx_and]
  generalize (a2 + a2 / 16) &&& 252645135 = a3 at q2 q6 q7
  have u4 : ((nI a3).toUInt32 >>> (Int32.toUInt32 8 &&& Int32.toUInt32 31)).toInt32 = nI (a3 / 256) := nI_ushr (k := 8) q6 (by decide)
  rw [u4, nI_add]
  generalize a3 + a3 / 256 = a4 at q2 q7
  have u5 : ((nI a4).toUInt32 >>> (Int32.toUInt32 16 &&& Int32.toUInt32 31)).toInt32 = nI (a4 / 65536) := nI_ushr (k := 16) q7 (by decide)
  rw [u5, nI_add, show (63 : Int32) = nI 63 from rfl, nx_and, q2]
theorem not_add (y : Int32) : y ^^^ (-1) = -1 - y := by
  apply Int32.toBitVec_inj.mp
  rw [Int32.toBitVec_xor, Int32.toBitVec_sub]
  have h1 : (-1 : Int32).toBitVec = BitVec.allOnes 32 := by decide
  rw [h1, BitVec.xor_allOnes]
  have := BitVec.add_not_self y.toBitVec
  rw [← this]
  rw [BitVec.add_comm, BitVec.add_sub_cancel]
/-- the lowest bit of a set that is not empty -/
theorem low_ex {s : Int32} (h : s ≠ 0) : ∃ k, k < 32 ∧ bt s k = true ∧ ∀ i, i < k → bt s i = false := by
  have h1 : ∀ n, (∃ k, k < n ∧ bt s k = true ∧ ∀ i, i < k → bt s i = false) ∨ ∀ i, i < n → bt s i = false := by
    intro n
    induction n with
    | zero => exact Or.inr (fun i hi => by omega)
    | succ n ih =>
      rcases ih with ⟨k, k1, k2⟩ | ih
      · exact Or.inl ⟨k, by omega, k2⟩
      · cases hn : bt s n with
        | true => exact Or.inl ⟨n, by omega, hn, ih⟩
        | false =>
          refine Or.inr (fun i hi => ?_)
          by_cases e : i = n
          · subst e; exact hn
          · exact ih i (by omega)
  rcases h1 32 with q | q
  · exact q
  · exfalso
    apply h
    apply b_ext
    intro i hi
    rw [q i hi, b_0]
theorem bt_pred {s : Int32} {k : Nat} (hk : k < 32) (h1 : bt s k = true) (h2 : ∀ i, i < k → bt s i = false) : ∀ i, i < 32 → bt (s - 1) i = if i < k then true else if i = k then false else bt s i := by
  obtain ⟨a, ha, rfl⟩ := i_of32 s
  have hb : ∀ i, i < 32 → bt (nI a) i = a.testBit i := fun i hi => by rw [bt_nI]; simp [hi]
  rw [hb k hk] at h1
  have hm : a % 2 ^ (k + 1) = 2 ^ k := by
    apply Nat.eq_of_testBit_eq
    intro i
    rw [Nat.testBit_mod_two_pow, Nat.testBit_two_pow]
    by_cases e : k = i
    · subst e; simp [h1]
    · by_cases e2 : i < k
      · have := h2 i e2; rw [hb i (by omega)] at this; simp [this, e]
      · simp [e]; omega
  have hq := Nat.div_add_mod a (2 ^ (k + 1))
  rw [hm] at hq
  have hpos : 0 < 2 ^ k := Nat.two_pow_pos k
  have hp : a - 1 = 2 ^ (k + 1) * (a / 2 ^ (k + 1)) + (2 ^ k - 1) := by omega
  intro i hi
  have hs : nI a - 1 = nI (a - 1) := nIsbL (by show 1 ≤ a; omega)
  have hlt : 2 ^ k - 1 < 2 ^ (k + 1) := by rw [Nat.pow_succ]; omega
  rw [hs, bt_nI, hp, Nat.testBit_two_pow_mul_add _ hlt]
  by_cases e : i < k + 1
  · rw [if_pos e, Nat.testBit_two_pow_sub_one]
    by_cases e1 : i < k
    · simp [e1, hi]
    · simp [e1, show i = k by omega, hi]
  · rw [if_neg e, if_neg (by omega), if_neg (by omega), hb i hi, Nat.testBit_div_two_pow]
    simp [hi, show i - (k + 1) + (k + 1) = i by omega]
/-- s & -s -/
theorem low_and {s : Int32} {k : Nat} (hk : k < 32) (h1 : bt s k = true) (h2 : ∀ i, i < k → bt s i = false) : s &&& (-s) = (1 : Int32) <<< (nI k &&& 31) := by
  have hn : -s = (s - 1) ^^^ (-1) := by rw [not_add]; grind
  apply b_ext
  intro i hi
  rw [b_and, hn, b_xor, b_m1 i hi, bt_pred hk h1 h2 i hi, bt_1 hk hi]
  by_cases e : i < k
  · simp [h2 i e]; omega
  · by_cases e1 : i = k
    · subst e1; simp [h1]
    · simp [e, e1]
theorem kJ5_ntz {d : Nat} {H : pH} {s : Int32} {k : Nat} (hk : k < 31) (h1 : bt s k = true) (h2 : ∀ i, i < k → bt s i = false) : pCa 255 d [.int s] H = some (.inl (some (.int (nI k))), H) := by
  have hm : (s ^^^ (-1)) &&& (s - 1) = aI k := by
    apply b_ext
    intro i hi
    rw [b_and, b_xor, b_m1 i hi, bt_pred (by omega) h1 h2 i hi, bt_aI k (by omega) i hi]
    by_cases e : i < k
    · simp [e, h2 i e]
    · by_cases e1 : i = k
      · subst e1; simp
      · simp [e, e1]
  rw [eJ5_numberOfTrailingZeros]
  simp only [pis_i, pis_l, pis_r, pis_n, p1_i, p1_r, p1_n, p1_u, pw0, pw1, pw2, pw3, pw4, pK_v, pK_0, pK_ite, if_true, if_false, if_pos, if_neg, Nat.reduceAdd, pok_r, i10, i01, Bool.true_or, Bool.or_true, Bool.and_true, Bool.true_and, rJ5_numberOfTrailingZeros_0, rJ5_numberOfTrailingZeros_1, rJ5_numberOfTrailingZeros_2, rJ5_numberOfTrailingZeros_3, rJ5_numberOfTrailingZeros_4, rJ5_numberOfTrailingZeros_5, rJ5_numberOfTrailingZeros_6, rJ5_numberOfTrailingZeros_7, rJ5_numberOfTrailingZeros_8, rJ5_numberOfTrailingZeros_9, rJ5_numberOfTrailingZeros_12, rJ5_numberOfTrailingZeros_13, rJ5_numberOfTrailingZeros_15, rJ5_numberOfTrailingZeros_16, rJ5_numberOfTrailingZeros_17, rJ5_numberOfTrailingZeros_18, rJ5_numberOfTrailingZeros_19, rJ5_numberOfTrailingZeros_20, rJ5_numberOfTrailingZeros_23, rJ5_numberOfTrailingZeros_26, rJ5_numberOfTrailingZeros_29, rJ5_numberOfTrailingZeros_30, rJ5_numberOfTrailingZeros_32, rJ5_numberOfTrailingZeros_33, rJ5_numberOfTrailingZeros_34, rJ5_numberOfTrailingZeros_35, rJ5_numberOfTrailingZeros_38, rJ5_numberOfTrailingZeros_41, rJ5_numberOfTrailingZeros_44, rJ5_numberOfTrailingZeros_45, rJ5_numberOfTrailingZeros_47, rJ5_numberOfTrailingZeros_48, rJ5_numberOfTrailingZeros_49, rJ5_numberOfTrailingZeros_50, rJ5_numberOfTrailingZeros_52, rJ5_numberOfTrailingZeros_55, rJ5_numberOfTrailingZeros_58, rJ5_numberOfTrailingZeros_59, rJ5_numberOfTrailingZeros_60, rJ5_numberOfTrailingZeros_61, rJ5_numberOfTrailingZeros_62, rJ5_numberOfTrailingZeros_63, rJ5_numberOfTrailingZeros_64, rJ5_numberOfTrailingZeros_67, rJ5_numberOfTrailingZeros_70, rJ5_numberOfTrailingZeros_71, rJ5_numberOfTrailingZeros_72, rJ5_numberOfTrailingZeros_73, rJ5_numberOfTrailingZeros_74, rJ5_numberOfTrailingZeros_75, rJ5_numberOfTrailingZeros_76, rJ5_numberOfTrailingZeros_77, rJ5_numberOfTrailingZeros_78, rJ5_numberOfTrailingZeros_79, hm]
  clear hm h1 h2
  match k, hk with
  | 0, _ => rfl
  | 1, _ => rfl
  | 2, _ => rfl
  | 3, _ => rfl
  | 4, _ => rfl
  | 5, _ => rfl
  | 6, _ => rfl
  | 7, _ => rfl
  | 8, _ => rfl
  | 9, _ => rfl
  | 10, _ => rfl
  | 11, _ => rfl
  | 12, _ => rfl
  | 13, _ => rfl
  | 14, _ => rfl
  | 15, _ => rfl
  | 16, _ => rfl
  | 17, _ => rfl
  | 18, _ => rfl
  | 19, _ => rfl
  | 20, _ => rfl
  | 21, _ => rfl
  | 22, _ => rfl
  | 23, _ => rfl
  | 24, _ => rfl
  | 25, _ => rfl
  | 26, _ => rfl
  | 27, _ => rfl
  | 28, _ => rfl
  | 29, _ => rfl
  | 30, _ => rfl
  | k + 31, hk => omega
