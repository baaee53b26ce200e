/-! THE LAW 4: it holds -/
set_option maxRecDepth 100000
theorem nwL_22 : ∀ (l : List (va_E × Nat)) (h : pH), (nwL h l).2.2 = h.2.2 + (l.map Prod.snd).sum := by
  intro l
  induction l with
  | nil => intro h; rfl
  | cons a l ih => intro h; show (nwL (pnw h a.1 a.2) l).2.2 = _; rw [ih, List.map_cons, List.sum_cons]; show h.2.2 + a.2 + _ = _; omega
theorem obH_22 {h : pH} {k n : Nat} {fs : List Value} {l : List (va_E × Nat)} : (obH h k fs n l).2.2 = h.2.2 + n + (l.map Prod.snd).sum := by
  unfold obH
  rw [nwL_22]
  rfl
def X00 : XS := (fun k => if k = 14 then 1 else 0, fun _ _ => 0, fun _ _ => none, 0)
def S00 : MS := (fun k => if k = 47 then 1 else 0, fun _ _ => 0, fun _ => 0)
def W00 : Wld := ⟨0, 0, 0, fun _ => (fun _ => 0, fun _ _ => 0, fun _ => 0), fun _ => 0, fun _ _ => 0, fun _ => 0, fun _ => [], fun _ => 0, (0, fun _ => 0), ⟨0, 0, fun _ => 0, fun _ => 0, fun _ => 0, fun _ => 0, fun _ _ => 0⟩⟩
theorem rel00 {base : Nat} {h : pH} : Rel base X00 S00 h W00 := by
  refine ⟨⟨⟨by decide, rfl, fun g hg => absurd hg (Nat.not_lt_zero _)⟩, ⟨rfl, fun g hg => absurd hg (Nat.not_lt_zero _)⟩, fun g hg => absurd hg (Nat.not_lt_zero _), fun g hg => absurd hg (Nat.not_lt_zero _)⟩, ⟨⟨by decide, rfl, fun g hg => absurd hg (Nat.not_lt_zero _)⟩, ⟨rfl, fun g hg => absurd hg (Nat.not_lt_zero _)⟩, fun g hg => absurd hg (Nat.not_lt_zero _), fun g hg => absurd hg (Nat.not_lt_zero _), fun i j hi => absurd hi (Nat.not_lt_zero _), fun s _ _ => rfl⟩, ⟨⟨rfl, fun g hg => absurd hg (Nat.not_lt_zero _)⟩, ⟨rfl, fun g hg => absurd hg (Nat.not_lt_zero _)⟩, Nat.zero_le _⟩, ⟨⟨by decide, rfl, fun g hg => absurd hg (Nat.not_lt_zero _)⟩, ⟨rfl, fun g hg => absurd hg (Nat.not_lt_zero _)⟩⟩, ⟨rfl, rfl, Nat.zero_le _, fun i j hi => absurd hi (Nat.not_lt_zero _), fun g hg => absurd hg (Nat.not_lt_zero _), fun g hg => absurd hg (Nat.not_lt_zero _), rfl, Nat.le_refl _, rfl, rfl, fun g hg => absurd hg (Nat.not_lt_zero _)⟩, ⟨rfl, rfl⟩⟩
theorem law_pure : LawPure := by
  intro b L xs base hL hb
  have hh21 : (h0 b L xs base).2.1 = base := rfl
  have hh22 : (h0 b L xs base).2.2 = 0 := rfl
  have hhb : (h0 b L xs base).1 b = some (.inl (9, L, .inl xs)) := if_pos rfl
  generalize hh : h0 b L xs base = hz at hh21 hh22 hhb
  subst hh21
  obtain ⟨lx, ix, elx⟩ := kX1_init (d := 2044) (h := hz) (a := hz.2.1) rfl
  have a1 : (obH hz 1 (xobj hz.2.1 (fun k => if k = 14 then 1 else 0) 0) 23 lx).2.1 = hz.2.1 + 14 := by rw [obH_21, elx]; rfl
  have a2 : (obH hz 1 (xobj hz.2.1 (fun k => if k = 14 then 1 else 0) 0) 23 lx).2.2 ≤ 100000 := by rw [obH_22, elx, hh22]; simp [xl]
  have a3 : ∀ q, q < hz.2.1 → (obH hz 1 (xobj hz.2.1 (fun k => if k = 14 then 1 else 0) 0) 23 lx).1 q = hz.1 q := fun q hq => obH_lo hq
  have a4 : ∀ j, j < 14 → (obH hz 1 (xobj hz.2.1 (fun k => if k = 14 then 1 else 0) 0) 23 lx).1 (hz.2.1 + j) = xcell hz.2.1 X00 j := by
    intro j hj
    match j, hj with
    | 0, _ => exact obH_o
    | 1, _ => exact obH_at (i := 0) (by rw [elx]; rfl)
    | 2, _ => exact obH_at (i := 1) (by rw [elx]; rfl)
    | 3, _ => exact obH_at (i := 2) (by rw [elx]; rfl)
    | 4, _ => exact obH_at (i := 3) (by rw [elx]; rfl)
    | 5, _ => exact obH_at (i := 4) (by rw [elx]; rfl)
    | 6, _ => exact obH_at (i := 5) (by rw [elx]; rfl)
    | 7, _ => exact obH_at (i := 6) (by rw [elx]; rfl)
    | 8, _ => exact obH_at (i := 7) (by rw [elx]; rfl)
    | 9, _ => exact obH_at (i := 8) (by rw [elx]; rfl)
    | 10, _ => exact obH_at (i := 9) (by rw [elx]; rfl)
    | 11, _ => exact obH_at (i := 10) (by rw [elx]; rfl)
    | 12, _ => exact obH_at (i := 11) (by rw [elx]; rfl)
    | 13, _ => exact obH_at (i := 12) (by rw [elx]; rfl)
  generalize obH hz 1 (xobj hz.2.1 (fun k => if k = 14 then 1 else 0) 0) 23 lx = g1 at ix a1 a2 a3 a4
  have im := kX3_init (d := 2044) (h := g1) (a := g1.2.1) rfl
  have b1 : (obH g1 3 (mobj g1.2.1 (fun k => if k = 47 then 1 else 0)) 52 ml).2.1 = hz.2.1 + 49 := by rw [obH_21, a1]; rfl
  have b2 : (obH g1 3 (mobj g1.2.1 (fun k => if k = 47 then 1 else 0)) 52 ml).2.2 ≤ 200000 := by
    rw [obH_22]
    have : (ml.map Prod.snd).sum ≤ 90000 := by decide
    omega
  have b3 : ∀ q, q < g1.2.1 → (obH g1 3 (mobj g1.2.1 (fun k => if k = 47 then 1 else 0)) 52 ml).1 q = g1.1 q := fun q hq => obH_lo hq
  have b4 : ∀ j, j < 35 → (obH g1 3 (mobj g1.2.1 (fun k => if k = 47 then 1 else 0)) 52 ml).1 (g1.2.1 + j) = mcell g1.2.1 S00 j := by
    intro j hj
    match j, hj with
    | 0, _ => exact obH_o
    | 1, _ => exact obH_at (i := 0) rfl
    | 2, _ => exact obH_at (i := 1) rfl
    | 3, _ => exact obH_at (i := 2) rfl
    | 4, _ => exact obH_at (i := 3) rfl
    | 5, _ => exact obH_at (i := 4) rfl
    | 6, _ => exact obH_at (i := 5) rfl
    | 7, _ => exact obH_at (i := 6) rfl
    | 8, _ => exact obH_at (i := 7) rfl
    | 9, _ => exact obH_at (i := 8) rfl
    | 10, _ => exact obH_at (i := 9) rfl
    | 11, _ => exact obH_at (i := 10) rfl
    | 12, _ => exact obH_at (i := 11) rfl
    | 13, _ => exact obH_at (i := 12) rfl
    | 14, _ => exact obH_at (i := 13) rfl
    | 15, _ => exact obH_at (i := 14) rfl
    | 16, _ => exact obH_at (i := 15) rfl
    | 17, _ => exact obH_at (i := 16) rfl
    | 18, _ => exact obH_at (i := 17) rfl
    | 19, _ => exact obH_at (i := 18) rfl
    | 20, _ => exact obH_at (i := 19) rfl
    | 21, _ => exact obH_at (i := 20) rfl
    | 22, _ => exact obH_at (i := 21) rfl
    | 23, _ => exact obH_at (i := 22) rfl
    | 24, _ => exact obH_at (i := 23) rfl
    | 25, _ => exact obH_at (i := 24) rfl
    | 26, _ => exact obH_at (i := 25) rfl
    | 27, _ => exact obH_at (i := 26) rfl
    | 28, _ => exact obH_at (i := 27) rfl
    | 29, _ => exact obH_at (i := 28) rfl
    | 30, _ => exact obH_at (i := 29) rfl
    | 31, _ => exact obH_at (i := 30) rfl
    | 32, _ => exact obH_at (i := 31) rfl
    | 33, _ => exact obH_at (i := 32) rfl
    | 34, _ => exact obH_at (i := 33) rfl
    | j + 35, hj => exact absurd hj (by omega)
  generalize obH g1 3 (mobj g1.2.1 (fun k => if k = 47 then 1 else 0)) 52 ml = g2 at im b1 b2 b3 b4
  have F : Full b L xs hz.2.1 X00 S00 (pnw g2 (.inl (3, 1, .inr (.inl fun _ => 0))) 1) := by
    refine ⟨fun j hj => ?_, fun j hj => ?_, ?_, ⟨fun _ => 0, ?_⟩, ?_, hb⟩
    · rw [pnw_ne (by omega), b3 _ (by omega)]; exact a4 j hj
    · rw [pnw_ne (by omega), ← a1]; exact b4 j hj
    · rw [pnw_ne (by omega), b3 _ (by omega), a3 _ hb]; exact hhb
    · rw [← b1]; exact pnw_same
    · show hz.2.1 + 50 ≤ g2.2.1 + 1; omega
  obtain ⟨h', e1, e2, e3⟩ := law_l (b := b) (base := hz.2.1) (xs := xs) hL 64 0 (pnw g2 (.inl (3, 1, .inr (.inl fun _ => 0))) 1) pU pU rfl rfl ⟨X00, S00, W00, F, rel00⟩ (by omega) (by omega)
  have e2 : h'.2.1 ≤ g2.2.1 + 1 + 1000 * 64 := e2
  have e3 : h'.2.2 ≤ g2.2.2 + 1 + 10000 * 64 := e3
  refine ⟨h', ?_, by omega, by omega⟩
  have c1 : pcl (pnw hz (.inr (1, [.null, .int 0, .null, .int 0, .null, .int 0, .null, .null, .null, .null, .null, .null, .int 0, .int 0, .int 0, .int 0, .int 0, .long 0, .null, .null, .int 0, .null, .int 0])) 23) hz.2.1 = 1 := pcl_pnw
  have c2 : pcl (pnw g1 (.inr (3, [.int 0, .null, .null, .null, .null, .int 0, .null, .int 0, .int 0, .int 0, .int 0, .null, .null, .null, .null, .null, .null, .null, .null, .null, .int 0, .null, .null, .int 0, .int 0, .int 0, .null, .null, .null, .null, .null, .int 0, .int 0, .int 0, .null, .null, .null, .null, .null, .null, .null, .null, .null, .null, .null, .int 0, .int 0, .int 0, .int 0, .null, .null, .int 0])) 52) g1.2.1 = 3 := pcl_pnw
  have ix : pCa 4 2047 [.ref hz.2.1] _ = some (.inl none, g1) := ix
  have im : pCa 66 2047 [.ref g1.2.1] _ = some (.inl none, g2) := im
  rw [← a1, ← b1] at e1
  rw [show (2048 : Nat) = 2047 + 1 from rfl]
  simp (disch := first | omega | decide) only [pis_i, pis_l, pis_r, pis_n, p1_i, p1_r, p1_n, p1_u, pw0, pw1, pw2, pw3, pw4, pK_v, pK_0, pK_ite, if_true, if_false, if_pos, if_neg, Nat.reduceAdd, pok_r, i10, i01, Bool.true_or, Bool.or_true, Bool.and_true, Bool.true_and, rL_law_0, rL_law_3, rL_law_3i, rL_law_4, rL_law_7, rL_law_7n, rL_law_8, rL_law_11, rL_law_11i, rL_law_12, rL_law_15, rL_law_15n, rL_law_16, rL_law_17, rL_law_19, rL_law_19n, rL_law_20, rL_law_21, c1, ix, c2, im]
  exact e1
theorem i_vc : Claimed_1_1 ∧ Claimed_1_2 := claim_of law_pure
