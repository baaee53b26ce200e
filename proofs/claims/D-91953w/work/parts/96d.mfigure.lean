/-! READING 14: the model's moves, balloon, readFigure -/
set_option maxRecDepth 100000
theorem Nd_R {N k : Nat} {x : Nd} {H : Hd} (hg : x.g k) (hk : HdR N H) (hb : H.nb + x.b ≤ 24) : HdR N (x.x H) ∧ (x.x H).nb = H.nb + x.b ∧ (x.x H).nl = H.nl := by
  have := ex_R (N := N) (x.c .nil) k H (by rw [gd_c]; exact ⟨hg, trivial⟩) hk (by rw [bc_c]; exact hb)
  rw [ex_c, bc_c] at this
  exact this
section
variable {d m f p N cnt : Nat} {h : pH} {S : MS} {H : Hd} {t : Tp} {dp : Nat} {q3 : Value}
theorem mmv_l {I : Option (Nat → Nat → PR Mv)} {k : Nat} (hT : MT S t) (hf : f < 13) (hI : CM h S t m f N dp (d + 3) I) (hok : okI t k I) : ∀ n cnt p H q3, HdR N H → p ≤ t.1 → t.1 - p < n → 0 < cnt → cnt + n < 100000 → p1 q3 = true → (match prest I t n p H.nb with
    | .inl w => ∃ H' a' dp', pR 81 (d + 5) 4 [.ref m, .int (nI cnt), .int 1, q3] [] (mput h m (mHd S f H (nI p) (-1) (nI dp))) = some (.inl none, mput h m (mHd S f H' a' (nI w) dp'))
    | .inr (c, q, _) => pR 81 (d + 5) 4 [.ref m, .int (nI cnt), .int 1, q3] [] (mput h m (mHd S f H (nI p) (-1) (nI dp))) = some (.inl none, mput h m (mHd S f (ex c H) (nI q) (-1) (nI dp)))) := by
  have ht1 := hT.k.1
  intro n
  induction n with
  | zero => intro cnt p H q3 _ _ hn; omega
  | succ n ih =>
    intro cnt p H q3 hk hp hn hc0 hc hq3
    rw [prest]
    by_cases h1 : isM t (skp t p) = true
    · rw [if_pos h1]
      have h2 := mmv_1 (d := d) (cnt := cnt) hT hf hI hk hp h1 hq3 (by omega)
      have hko := pone_ok hok hp hk.k.b
      generalize pone I t p H.nb = z at h2 hko
      match z, h2, hko with
      | .inl w, ⟨H', a', dp', c', q1⟩, hw =>
        have hw : w ≤ t.1 := hw
        exact ⟨H', a', dp', by rw [q1]; exact mmv_w (by omega) (by omega) (by omega)⟩
      | .inr (x, q, b), ⟨c', q1⟩, ⟨k1, k2, k3, k4, k5⟩ =>
        obtain ⟨r1, r2, r3⟩ := Nd_R (N := N) k5 hk (by omega)
        have hi := ih (cnt + 1) q (x.x H) (.int c') r1 k2 (by omega) (by omega) (by omega) rfl
        rw [q1]
        show (match consR x (prest I t n q b) with | .inl w => _ | .inr (c, q, _) => _)
        rw [k3, ← r2]
        generalize prest I t n q (x.x H).nb = y at hi
        match y, hi with
        | .inl w, hi => exact hi
        | .inr (c, q', b'), hi =>
          show _ = some (Sum.inl none, mput h m (mHd S f (ex (x.c c) H) (nI q') (-1) (nI dp)))
          rw [ex_c]
          exact hi
    · rw [if_neg h1]
      exact mmv_n hT hp h1 hq3 (by omega) hc0
theorem kX3_moves1 {I : Option (Nat → Nat → PR Mv)} {k : Nat} (hT : MT S t) (hf : f < 13) (hI : CM h S t m f N dp (d + 3) I) (hok : okI t k I) (hk : HdR N H) (hp : p ≤ t.1) : (match pmv I t p H.nb with
    | .inl w => ∃ H' a' dp', pCa 81 (d + 5) [.ref m] (mput h m (mHd S f H (nI p) (-1) (nI dp))) = some (.inl none, mput h m (mHd S f H' a' (nI w) dp'))
    | .inr (c, q, _) => pCa 81 (d + 5) [.ref m] (mput h m (mHd S f H (nI p) (-1) (nI dp))) = some (.inl none, mput h m (mHd S f (ex c H) (nI q) (-1) (nI dp)))) := by
  have ht1 := hT.k.1
  have go : pCa 81 (d + 5) [.ref m] (mput h m (mHd S f H (nI p) (-1) (nI dp))) = pR 81 (d + 5) 4 [.ref m, .int (nI 0), .int 1, pU] [] (mput h m (mHd S f H (nI p) (-1) (nI dp))) := by
    rw [eX3_moves]
    simp (disch := first | assumption | omega | decide) only [pis_i, pis_l, pis_r, pis_n, p1_i, p1_r, p1_n, p1_u, pw0, pw1, pw2, pw3, pw4, pK_v, pK_0, pK_ite, if_true, if_false, if_pos, if_neg, Nat.reduceAdd, pok_r, i10, i01, Bool.true_or, Bool.or_true, Bool.and_true, Bool.true_and, rX3_moves_0, rX3_moves_1, rX3_moves_2, rX3_moves_3]
    rfl
  rw [go]
  unfold pmv
  by_cases h1 : isM t (skp t p) = true
  · have h2 := mmv_1 (d := d) (cnt := 0) (q3 := pU) hT hf hI hk hp h1 rfl (by omega)
    have hko := pone_ok hok hp hk.k.b
    generalize pone I t p H.nb = z at h2 hko
    match z, h2, hko with
    | .inl w, ⟨H', a', dp', c', q1⟩, hw =>
      have hw : w ≤ t.1 := hw
      exact ⟨H', a', dp', by rw [q1]; exact mmv_w (by omega) (by omega) (by omega)⟩
    | .inr (x, q, b), ⟨c', q1⟩, ⟨k1, k2, k3, k4, k5⟩ =>
      obtain ⟨r1, r2, r3⟩ := Nd_R (N := N) k5 hk (by omega)
      have hi := mmv_l (d := d) hT hf hI hok 201 1 q (x.x H) (.int c') r1 k2 (by omega) (by omega) (by omega) rfl
      rw [q1]
      show (match consR x (prest I t 201 q b) with | .inl w => _ | .inr (c, q, _) => _)
      rw [k3, ← r2]
      generalize prest I t 201 q (x.x H).nb = y at hi
      match y, hi with
      | .inl w, hi => exact hi
      | .inr (c, q', b'), hi =>
        show _ = some (Sum.inl none, mput h m (mHd S f (ex (x.c c) H) (nI q') (-1) (nI dp)))
        rw [ex_c]
        exact hi
  · have e : pone I t p H.nb = .inl (skp t p) := by
      unfold pone
      rw [if_pos (by simpa using h1)]
    rw [e]
    exact ⟨H, nI (skp t p), nI dp, mmv_0 hT hp h1 rfl⟩
theorem kX3_moves (hT : MT S t) (hf : f < 13) : ∀ k, k ≤ 6 → ∀ d p H, HdR N H → p ≤ t.1 → (match pm t k p H.nb with
    | .inl w => ∃ H' a' dp', pCa 81 (d + 5 + 2 * k) [.ref m] (mput h m (mHd S f H (nI p) (-1) (nI (6 - k)))) = some (.inl none, mput h m (mHd S f H' a' (nI w) dp'))
    | .inr (c, q, _) => pCa 81 (d + 5 + 2 * k) [.ref m] (mput h m (mHd S f H (nI p) (-1) (nI (6 - k)))) = some (.inl none, mput h m (mHd S f (ex c H) (nI q) (-1) (nI (6 - k))))) := by
  intro k
  induction k with
  | zero => intro _ d p H hk hp; exact kX3_moves1 (I := none) (k := 0) (d := d) (dp := 6) hT hf rfl trivial hk hp
  | succ k ih =>
    intro hk6 d p H hk hp
    rw [show d + 5 + 2 * (k + 1) = d + 2 * (k + 1) + 5 by omega]
    refine kX3_moves1 (I := some (pm t k)) (k := k + 1) (d := d + 2 * (k + 1)) (dp := 6 - (k + 1)) hT hf ⟨by omega, k + 1, ⟨by omega, fun p bu => pm_ok k p bu⟩, fun p H hk hp => ?_⟩ ⟨by omega, fun p bu => pm_ok k p bu⟩ hk hp
    have := ih (by omega) d p H hk hp
    rw [show 6 - (k + 1) + 1 = 6 - k by omega]
    rw [show d + 2 * (k + 1) + 3 = d + 5 + 2 * k by omega]
    exact this
/-- a balloon -/
theorem kX3_balloon (hT : MT S t) (hf : f < 13) (hN : S.1 5 = nI N) (hN6 : N ≤ 6) (hk : HdB N H) (hl : H.nl < 6) (hp : p ≤ t.1) : (match pbal t N p H.nb with
    | .inl w => ∃ H' a' dp', pCa 75 (d + 20) [.ref m] (mput h m (mHd S f H (nI p) (-1) (nI 0))) = some (.inl none, mput h m (mHd S f H' a' (nI w) dp'))
    | .inr (x, q, _) => pCa 75 (d + 20) [.ref m] (mput h m (mHd S f H (nI p) (-1) (nI 0))) = some (.inl none, mput h m (mHd S f (x.x H) (nI q) (-1) (nI 0)))) := by
  have ht := hT.k
  have ht1 := ht.1
  have s1 := skp_le (t := t) (a := p)
  have s2 := skp_t hp
  have hnp := hk.e
  have hnb := hk.k.b
  have hlk : ∀ (K : Hd) (a : Nat), a ≤ t.1 → pCa 76 (d + 19) [.ref m] (mput h m (mHd S f K (nI a) (-1) (nI 0))) = some (.inl (some (.int (hr t (skp t a)))), mput h m (mHd S f K (nI (skp t a)) (-1) (nI 0))) := fun K a ha => by rw [kX3_look (d := d + 18) (mHd_MT hT) hm8 ha, hw8]
  have hdg : ∀ (K : Hd) (a b : Nat), pCa 79 (d + 19) [.int (hr t a)] (mput h m (mHd S f K (nI b) (-1) (nI 0))) = if dg t a = true then some (.inl (some (.int 1)), mput h m (mHd S f K (nI b) (-1) (nI 0))) else some (.inl (some (.int 0)), mput h m (mHd S f K (nI b) (-1) (nI 0))) := fun K a b => kX3_isDigit ht
  have hbad : ∀ (K : Hd) (a : Nat), pCa 78 (d + 19) [.ref m] (mput h m (mHd S f K (nI a) (-1) (nI 0))) = some (.inl none, mput h m (mHd S f K (nI a) (nI a) (nI 0))) := fun K a => by rw [kX3_bad hm9, hm8, hw9]
  rw [eX3_balloon]
  unfold pbal
  by_cases h1 : isC t (skp t p) 35 = true
  · rw [if_pos h1]
    have h2 := isC_lt h1
    have s3 := skp_le (t := t) (a := skp t p + 1)
    have s4 := skp_t (t := t) (a := skp t p + 1) (by omega)
    have go : pR 75 (d + 20) 0 [.ref m, pU] [] (mput h m (mHd S f H (nI p) (-1) (nI 0))) = pR 75 (d + 20) 29 [.ref m, .int (hr t (skp t (skp t p + 1)))] [] (mput h m (mHd S f H (nI (skp t (skp t p + 1))) (-1) (nI 0))) := by
      simp (disch := first | assumption | omega | decide) only [pis_i, pis_l, pis_r, pis_n, p1_i, p1_r, p1_n, p1_u, pw0, pw1, pw2, pw3, pw4, pK_v, pK_0, pK_ite, if_true, if_false, if_pos, if_neg, Nat.reduceAdd, pok_r, i10, i01, Bool.true_or, Bool.or_true, Bool.and_true, Bool.true_and, Nat.add_sub_cancel, i1p1, i1p0, i0p1, i0p0, nIrem2, va_rf_s, bit1, bit0, pinT, pinLT, pin0, nIc, nIcL, nIlt, nIeq, nIltL, nILlt, nIeqL, nILeq, nIadL, nILad, nILmu, nI_add, nIsbL, nI_sub', decide_true, decide_false, Bool.false_or, Bool.or_false, rX3_balloon_0, rX3_balloon_1, rX3_balloon_4, rX3_balloon_6, rX3_balloon_9, rX3_balloon_10, rX3_balloon_13, rX3_balloon_14, rX3_balloon_15, rX3_balloon_15i, rX3_balloon_16, rX3_balloon_19, rX3_balloon_20, rX3_balloon_21, rX3_balloon_24, rX3_balloon_25, rX3_balloon_28, mCl, mF0, mP0, mF1, mF2, mF3, mF4, mF5, mP5, mF6, mF7, mP7, mF8, mP8, mF9, mP9, mF10, mP10, mF11, mF12, mF13, mF14, mF15, mF16, mF17, mF18, mF19, mF20, mP20, mF21, mF22, mF23, mP23, mF24, mP24, mF25, mP25, mF26, mF27, mF28, mF29, mF30, mF31, mP31, mF32, mP32, mF33, mP33, mF34, mF35, mF36, mF37, mF38, mF39, mF40, mF41, mF42, mF43, mF44, mF45, mP45, mF46, mP46, mF47, mP47, mF48, mP48, mF49, mF50, mF51, mP51, mL1, mL1n, mC1, mW1, mL2, mL2n, mC2, mW2, mL3, mL3n, mC3, mW3, mL4, mL4n, mC4, mW4, mL5, mL5n, mC5, mW5, mL6, mL6n, mC6, mW6, mL7, mL7n, mC7, mW7, mL8, mL8n, mC8, mW8, mL9, mL9n, mC9, mW9, mL10, mL10n, mC10, mW10, mL11, mL11n, mC11, mW11, mL12, mL12n, mC12, mW12, mL13, mL13n, mC13, mW13, mL14, mL14n, mC14, mW14, mL15, mL15n, mC15, mW15, mL16, mL16n, mC16, mW16, mL17, mL17n, mC17, mW17, mL18, mL18n, mC18, mW18, mL19, mL19n, mC19, mW19, mL20, mL20n, mC20, mW20, mL21, mL21n, mC21, mW21, mL23, mL23n, mC23, mW23, mL24, mL24n, mC24, mW24, mL25, mL25n, mC25, mW25, mL26, mL26n, mC26, mW26, mL27, mL27n, mC27, mW27, mL28, mL28n, mC28, mW28, mL29, mL29n, mC29, mW29, mL30, mL30n, mC30, mW30, mL31, mL31n, mC31, mW31, mL32, mL32n, mC32, mW32, mL33, mL33n, mC33, mW33, mL34, mL34n, mC34, mW34, mL22, mC22, mW22, hlk, hr_eq ht, h1, hm8, hw8]
    rw [go]
    by_cases h3 : inC t (skp t (skp t p + 1)) 48 57 = true ∧ t.2 (skp t (skp t p + 1)) < 48 + N
    · rw [if_pos h3]
      have h4 := inC_lt h3.1
      have h5 := h3.2
      have h6 : dg t (skp t (skp t p + 1)) = true := h3.1
      have hkb := HdR_beg (N := N) hk.k hk.e hl hk.m hk.j hk.s (show t.2 (skp t (skp t p + 1)) - 48 < N by omega)
      have hm := kX3_moves (m := m) (h := h) hT hf 6 (Nat.le_refl _) (d + 2) (skp t (skp t p + 1) + 1) (H.beg (t.2 (skp t (skp t p + 1)) - 48)) hkb (by omega)
      have hnpt := kX3_newPoint (d := d + 19) (m := m) (h := h) (r := H.np) (T := mHd S f { H with so := un H.so H.nl (t.2 (skp t (skp t p + 1)) - 48), nl := H.nl + 1 } (nI (skp t (skp t p + 1) + 1)) (-1) (nI 0)) hm23 (by omega)
      have hP := hwP (S := S) (f := f) (H := { H with so := un H.so H.nl (t.2 (skp t (skp t p + 1)) - 48), nl := H.nl + 1 }) (a := nI (skp t (skp t p + 1) + 1)) (w := -1) (dp := nI 0) (q := H.np)
      have hPe : mHd S f { ({ H with so := un H.so H.nl (t.2 (skp t (skp t p + 1)) - 48), nl := H.nl + 1 } : Hd).pnt with wh := H.np } (nI (skp t (skp t p + 1) + 1)) (-1) (nI 0) = mHd S f (H.beg (t.2 (skp t (skp t p + 1)) - 48)) (nI (skp t (skp t p + 1) + 1)) (-1) (nI 0) := rfl
      rw [hPe] at hP
      have hSo := hwS (S := S) (f := f) (H := H) (a := nI (skp t (skp t p + 1) + 1)) (w := -1) (dp := nI 0) (s := t.2 (skp t (skp t p + 1)) - 48)
      have go2 : pR 75 (d + 20) 29 [.ref m, .int (hr t (skp t (skp t p + 1)))] [] (mput h m (mHd S f H (nI (skp t (skp t p + 1))) (-1) (nI 0))) = pK 75 (d + 20) 110 3 [.ref m, .int (nI (t.2 (skp t (skp t p + 1))))] [] (pCa 81 (d + 19) [.ref m] (mput h m (mHd S f (H.beg (t.2 (skp t (skp t p + 1)) - 48)) (nI (skp t (skp t p + 1) + 1)) (-1) (nI 0)))) := by
        have e := hdg H (skp t (skp t p + 1)) (skp t (skp t p + 1))
        rw [hr_in h4.1] at e ⊢
        simp (disch := first | assumption | omega | decide) only [pis_i, pis_l, pis_r, pis_n, p1_i, p1_r, p1_n, p1_u, pw0, pw1, pw2, pw3, pw4, pK_v, pK_0, pK_ite, if_true, if_false, if_pos, if_neg, Nat.reduceAdd, pok_r, i10, i01, Bool.true_or, Bool.or_true, Bool.and_true, Bool.true_and, Nat.add_sub_cancel, i1p1, i1p0, i0p1, i0p0, nIrem2, va_rf_s, bit1, bit0, pinT, pinLT, pin0, nIc, nIcL, nIlt, nIeq, nIltL, nILlt, nIeqL, nILeq, nIadL, nILad, nILmu, nI_add, nIsbL, nI_sub', decide_true, decide_false, Bool.false_or, Bool.or_false, rX3_balloon_29, rX3_balloon_30, rX3_balloon_33, rX3_balloon_36, rX3_balloon_37, rX3_balloon_39, rX3_balloon_40, rX3_balloon_41, rX3_balloon_44, rX3_balloon_47, rX3_balloon_48, rX3_balloon_51, rX3_balloon_52, rX3_balloon_53, rX3_balloon_53i, rX3_balloon_54, rX3_balloon_57, rX3_balloon_58, rX3_balloon_59, rX3_balloon_62, rX3_balloon_63, rX3_balloon_66, rX3_balloon_68, rX3_balloon_69, rX3_balloon_72, rX3_balloon_73, rX3_balloon_74, rX3_balloon_77, rX3_balloon_78, rX3_balloon_81, rX3_balloon_82, rX3_balloon_83, rX3_balloon_84, rX3_balloon_86, rX3_balloon_87, rX3_balloon_88, rX3_balloon_89, rX3_balloon_92, rX3_balloon_93, rX3_balloon_96, rX3_balloon_97, rX3_balloon_98, rX3_balloon_99, rX3_balloon_100, rX3_balloon_101, rX3_balloon_102, rX3_balloon_103, rX3_balloon_106, rX3_balloon_109, rX3_balloon_110, mCl, mF0, mP0, mF1, mF2, mF3, mF4, mF5, mP5, mF6, mF7, mP7, mF8, mP8, mF9, mP9, mF10, mP10, mF11, mF12, mF13, mF14, mF15, mF16, mF17, mF18, mF19, mF20, mP20, mF21, mF22, mF23, mP23, mF24, mP24, mF25, mP25, mF26, mF27, mF28, mF29, mF30, mF31, mP31, mF32, mP32, mF33, mP33, mF34, mF35, mF36, mF37, mF38, mF39, mF40, mF41, mF42, mF43, mF44, mF45, mP45, mF46, mP46, mF47, mP47, mF48, mP48, mF49, mF50, mF51, mP51, mL1, mL1n, mC1, mW1, mL2, mL2n, mC2, mW2, mL3, mL3n, mC3, mW3, mL4, mL4n, mC4, mW4, mL5, mL5n, mC5, mW5, mL6, mL6n, mC6, mW6, mL7, mL7n, mC7, mW7, mL8, mL8n, mC8, mW8, mL9, mL9n, mC9, mW9, mL10, mL10n, mC10, mW10, mL11, mL11n, mC11, mW11, mL12, mL12n, mC12, mW12, mL13, mL13n, mC13, mW13, mL14, mL14n, mC14, mW14, mL15, mL15n, mC15, mW15, mL16, mL16n, mC16, mW16, mL17, mL17n, mC17, mW17, mL18, mL18n, mC18, mW18, mL19, mL19n, mC19, mW19, mL20, mL20n, mC20, mW20, mL21, mL21n, mC21, mW21, mL23, mL23n, mC23, mW23, mL24, mL24n, mC24, mW24, mL25, mL25n, mC25, mW25, mL26, mL26n, mC26, mW26, mL27, mL27n, mC27, mW27, mL28, mL28n, mC28, mW28, mL29, mL29n, mC29, mW29, mL30, mL30n, mC30, mW30, mL31, mL31n, mC31, mW31, mL32, mL32n, mC32, mW32, mL33, mL33n, mC33, mW33, mL34, mL34n, mC34, mW34, mL22, mC22, mW22, e, h6, hm5, hN, hm8, hw8, hm25, hmL, ua_o, ne_eq, hSo, hnpt, hP]
      rw [go2]
      have enb : (H.beg (t.2 (skp t (skp t p + 1)) - 48)).nb = H.nb := rfl
      rw [enb] at hm
      have e19 : d + 2 + 5 + 2 * 6 = d + 19 := by omega
      rw [e19] at hm
      have hko := pm_ok (t := t) 6 (skp t (skp t p + 1) + 1) H.nb (by omega) hnb
      generalize pm t 6 (skp t (skp t p + 1) + 1) H.nb = z at hm hko
      match z, hm, hko with
      | .inl w, ⟨H', a', dp', q1⟩, _ =>
        refine ⟨H', a', dp', ?_⟩
        rw [show (6 - 6 : Nat) = 0 from rfl] at q1
        rw [q1]
        simp (disch := first | assumption | omega | decide) only [pis_i, pis_l, pis_r, pis_n, p1_i, p1_r, p1_n, p1_u, pw0, pw1, pw2, pw3, pw4, pK_v, pK_0, pK_ite, if_true, if_false, if_pos, if_neg, Nat.reduceAdd, pok_r, i10, i01, Bool.true_or, Bool.or_true, Bool.and_true, Bool.true_and, rX3_balloon_110, rX3_balloon_113]
      | .inr (c, q, b), q1, _ =>
        have q1 : pCa 81 (d + 19) [.ref m] (mput h m (mHd S f (H.beg (t.2 (skp t (skp t p + 1)) - 48)) (nI (skp t (skp t p + 1) + 1)) (-1) (nI 0))) = some (.inl none, mput h m (mHd S f (ex c (H.beg (t.2 (skp t (skp t p + 1)) - 48))) (nI q) (-1) (nI 0))) := q1
        rw [q1]
        show _ = some (Sum.inl none, mput h m (mHd S f (ex c (H.beg (t.2 (skp t (skp t p + 1)) - 48))) (nI q) (-1) (nI 0)))
        simp (disch := first | assumption | omega | decide) only [pis_i, pis_l, pis_r, pis_n, p1_i, p1_r, p1_n, p1_u, pw0, pw1, pw2, pw3, pw4, pK_v, pK_0, pK_ite, if_true, if_false, if_pos, if_neg, Nat.reduceAdd, pok_r, i10, i01, Bool.true_or, Bool.or_true, Bool.and_true, Bool.true_and, rX3_balloon_110, rX3_balloon_113]
    · rw [if_neg h3]
      refine ⟨H, nI (skp t (skp t p + 1)), nI 0, ?_⟩
      by_cases h6 : dg t (skp t (skp t p + 1)) = true
      · have h4 := inC_lt h6
        have h7 : ¬ t.2 (skp t (skp t p + 1)) < 48 + N := fun q => h3 ⟨h6, q⟩
        have h8 : ¬ t.2 (skp t (skp t p + 1)) - 48 < N := by omega
        have e := hdg H (skp t (skp t p + 1)) (skp t (skp t p + 1))
        rw [hr_in h4.1] at e ⊢
        simp (disch := first | assumption | omega | decide) only [pis_i, pis_l, pis_r, pis_n, p1_i, p1_r, p1_n, p1_u, pw0, pw1, pw2, pw3, pw4, pK_v, pK_0, pK_ite, if_true, if_false, if_pos, if_neg, Nat.reduceAdd, pok_r, i10, i01, Bool.true_or, Bool.or_true, Bool.and_true, Bool.true_and, Nat.add_sub_cancel, i1p1, i1p0, i0p1, i0p0, nIrem2, va_rf_s, bit1, bit0, pinT, pinLT, pin0, nIc, nIcL, nIlt, nIeq, nIltL, nILlt, nIeqL, nILeq, nIadL, nILad, nILmu, nI_add, nIsbL, nI_sub', decide_true, decide_false, Bool.false_or, Bool.or_false, rX3_balloon_29, rX3_balloon_30, rX3_balloon_33, rX3_balloon_36, rX3_balloon_37, rX3_balloon_39, rX3_balloon_40, rX3_balloon_41, rX3_balloon_44, rX3_balloon_47, rX3_balloon_48, rX3_balloon_51, mCl, mF0, mP0, mF1, mF2, mF3, mF4, mF5, mP5, mF6, mF7, mP7, mF8, mP8, mF9, mP9, mF10, mP10, mF11, mF12, mF13, mF14, mF15, mF16, mF17, mF18, mF19, mF20, mP20, mF21, mF22, mF23, mP23, mF24, mP24, mF25, mP25, mF26, mF27, mF28, mF29, mF30, mF31, mP31, mF32, mP32, mF33, mP33, mF34, mF35, mF36, mF37, mF38, mF39, mF40, mF41, mF42, mF43, mF44, mF45, mP45, mF46, mP46, mF47, mP47, mF48, mP48, mF49, mF50, mF51, mP51, mL1, mL1n, mC1, mW1, mL2, mL2n, mC2, mW2, mL3, mL3n, mC3, mW3, mL4, mL4n, mC4, mW4, mL5, mL5n, mC5, mW5, mL6, mL6n, mC6, mW6, mL7, mL7n, mC7, mW7, mL8, mL8n, mC8, mW8, mL9, mL9n, mC9, mW9, mL10, mL10n, mC10, mW10, mL11, mL11n, mC11, mW11, mL12, mL12n, mC12, mW12, mL13, mL13n, mC13, mW13, mL14, mL14n, mC14, mW14, mL15, mL15n, mC15, mW15, mL16, mL16n, mC16, mW16, mL17, mL17n, mC17, mW17, mL18, mL18n, mC18, mW18, mL19, mL19n, mC19, mW19, mL20, mL20n, mC20, mW20, mL21, mL21n, mC21, mW21, mL23, mL23n, mC23, mW23, mL24, mL24n, mC24, mW24, mL25, mL25n, mC25, mW25, mL26, mL26n, mC26, mW26, mL27, mL27n, mC27, mW27, mL28, mL28n, mC28, mW28, mL29, mL29n, mC29, mW29, mL30, mL30n, mC30, mW30, mL31, mL31n, mC31, mW31, mL32, mL32n, mC32, mW32, mL33, mL33n, mC33, mW33, mL34, mL34n, mC34, mW34, mL22, mC22, mW22, e, h6, hm5, hN, h8, hbad]
      · simp (disch := first | assumption | omega | decide) only [pis_i, pis_l, pis_r, pis_n, p1_i, p1_r, p1_n, p1_u, pw0, pw1, pw2, pw3, pw4, pK_v, pK_0, pK_ite, if_true, if_false, if_pos, if_neg, Nat.reduceAdd, pok_r, i10, i01, Bool.true_or, Bool.or_true, Bool.and_true, Bool.true_and, Nat.add_sub_cancel, i1p1, i1p0, i0p1, i0p0, nIrem2, va_rf_s, bit1, bit0, pinT, pinLT, pin0, nIc, nIcL, nIlt, nIeq, nIltL, nILlt, nIeqL, nILeq, nIadL, nILad, nILmu, nI_add, nIsbL, nI_sub', decide_true, decide_false, Bool.false_or, Bool.or_false, rX3_balloon_29, rX3_balloon_30, rX3_balloon_33, rX3_balloon_36, rX3_balloon_37, rX3_balloon_39, rX3_balloon_40, rX3_balloon_41, rX3_balloon_44, rX3_balloon_47, rX3_balloon_48, rX3_balloon_51, mCl, mF0, mP0, mF1, mF2, mF3, mF4, mF5, mP5, mF6, mF7, mP7, mF8, mP8, mF9, mP9, mF10, mP10, mF11, mF12, mF13, mF14, mF15, mF16, mF17, mF18, mF19, mF20, mP20, mF21, mF22, mF23, mP23, mF24, mP24, mF25, mP25, mF26, mF27, mF28, mF29, mF30, mF31, mP31, mF32, mP32, mF33, mP33, mF34, mF35, mF36, mF37, mF38, mF39, mF40, mF41, mF42, mF43, mF44, mF45, mP45, mF46, mP46, mF47, mP47, mF48, mP48, mF49, mF50, mF51, mP51, mL1, mL1n, mC1, mW1, mL2, mL2n, mC2, mW2, mL3, mL3n, mC3, mW3, mL4, mL4n, mC4, mW4, mL5, mL5n, mC5, mW5, mL6, mL6n, mC6, mW6, mL7, mL7n, mC7, mW7, mL8, mL8n, mC8, mW8, mL9, mL9n, mC9, mW9, mL10, mL10n, mC10, mW10, mL11, mL11n, mC11, mW11, mL12, mL12n, mC12, mW12, mL13, mL13n, mC13, mW13, mL14, mL14n, mC14, mW14, mL15, mL15n, mC15, mW15, mL16, mL16n, mC16, mW16, mL17, mL17n, mC17, mW17, mL18, mL18n, mC18, mW18, mL19, mL19n, mC19, mW19, mL20, mL20n, mC20, mW20, mL21, mL21n, mC21, mW21, mL23, mL23n, mC23, mW23, mL24, mL24n, mC24, mW24, mL25, mL25n, mC25, mW25, mL26, mL26n, mC26, mW26, mL27, mL27n, mC27, mW27, mL28, mL28n, mC28, mW28, mL29, mL29n, mC29, mW29, mL30, mL30n, mC30, mW30, mL31, mL31n, mC31, mW31, mL32, mL32n, mC32, mW32, mL33, mL33n, mC33, mW33, mL34, mL34n, mC34, mW34, mL22, mC22, mW22, hdg, h6, hbad]
  · rw [if_neg h1]
    refine ⟨H, nI (skp t p), nI 0, ?_⟩
    simp (disch := first | assumption | omega | decide) only [pis_i, pis_l, pis_r, pis_n, p1_i, p1_r, p1_n, p1_u, pw0, pw1, pw2, pw3, pw4, pK_v, pK_0, pK_ite, if_true, if_false, if_pos, if_neg, Nat.reduceAdd, pok_r, i10, i01, Bool.true_or, Bool.or_true, Bool.and_true, Bool.true_and, Nat.add_sub_cancel, i1p1, i1p0, i0p1, i0p0, nIrem2, va_rf_s, bit1, bit0, pinT, pinLT, pin0, nIc, nIcL, nIlt, nIeq, nIltL, nILlt, nIeqL, nILeq, nIadL, nILad, nILmu, nI_add, nIsbL, nI_sub', decide_true, decide_false, Bool.false_or, Bool.or_false, rX3_balloon_0, rX3_balloon_1, rX3_balloon_4, rX3_balloon_6, rX3_balloon_9, rX3_balloon_10, rX3_balloon_13, mCl, mF0, mP0, mF1, mF2, mF3, mF4, mF5, mP5, mF6, mF7, mP7, mF8, mP8, mF9, mP9, mF10, mP10, mF11, mF12, mF13, mF14, mF15, mF16, mF17, mF18, mF19, mF20, mP20, mF21, mF22, mF23, mP23, mF24, mP24, mF25, mP25, mF26, mF27, mF28, mF29, mF30, mF31, mP31, mF32, mP32, mF33, mP33, mF34, mF35, mF36, mF37, mF38, mF39, mF40, mF41, mF42, mF43, mF44, mF45, mP45, mF46, mP46, mF47, mP47, mF48, mP48, mF49, mF50, mF51, mP51, mL1, mL1n, mC1, mW1, mL2, mL2n, mC2, mW2, mL3, mL3n, mC3, mW3, mL4, mL4n, mC4, mW4, mL5, mL5n, mC5, mW5, mL6, mL6n, mC6, mW6, mL7, mL7n, mC7, mW7, mL8, mL8n, mC8, mW8, mL9, mL9n, mC9, mW9, mL10, mL10n, mC10, mW10, mL11, mL11n, mC11, mW11, mL12, mL12n, mC12, mW12, mL13, mL13n, mC13, mW13, mL14, mL14n, mC14, mW14, mL15, mL15n, mC15, mW15, mL16, mL16n, mC16, mW16, mL17, mL17n, mC17, mW17, mL18, mL18n, mC18, mW18, mL19, mL19n, mC19, mW19, mL20, mL20n, mC20, mW20, mL21, mL21n, mC21, mW21, mL23, mL23n, mC23, mW23, mL24, mL24n, mC24, mW24, mL25, mL25n, mC25, mW25, mL26, mL26n, mC26, mW26, mL27, mL27n, mC27, mW27, mL28, mL28n, mC28, mW28, mL29, mL29n, mC29, mW29, mL30, mL30n, mC30, mW30, mL31, mL31n, mC31, mW31, mL32, mL32n, mC32, mW32, mL33, mL33n, mC33, mW33, mL34, mL34n, mC34, mW34, mL22, mC22, mW22, hlk, hr_eq ht, h1, hbad]
end
