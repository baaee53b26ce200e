/-! STEPS 3: stock, run -/
set_option maxRecDepth 100000
/-- only sorts and guests change -/
def Hk (lo : Nat) (h h' : pH) : Prop := h.2.1 ≤ h'.2.1 ∧ ∀ q, lo ≤ q → q < h.2.1 → (∀ fs, h.1 q ≠ some (.inr (4, fs))) → (∀ fs, h.1 q ≠ some (.inr (25, fs))) → h'.1 q = h.1 q
def Kp (h h' : pH) : Prop := ∀ q c fs, h.1 q = some (.inr (c, fs)) → c ≠ 4 → c ≠ 25 → h'.1 q = h.1 q
theorem SmAt.kp {h h' : pH} (hk : Kp h h') : ∀ s a, SmAt h s a → SmAt h' s a := by
  intro s
  induction s with
  | pl v => intro a h1; exact (hk _ _ _ h1 (by decide) (by decide)).trans h1
  | le c => intro a h1; exact (hk _ _ _ h1 (by decide) (by decide)).trans h1
  | pa op x y ihx ihy => intro a ⟨b, c, h1, h2, h3⟩; exact ⟨b, c, (hk _ _ _ h1 (by decide) (by decide)).trans h1, ihx b h2, ihy c h3⟩
theorem TsAt.kp {h h' : pH} (hk : Kp h h') : ∀ s a, TsAt h s a → TsAt h' s a := by
  intro s
  induction s with
  | cm op x y => intro a ⟨b, c, h1, h2, h3⟩; exact ⟨b, c, (hk _ _ _ h1 (by decide) (by decide)).trans h1, SmAt.kp hk _ b h2, SmAt.kp hk _ c h3⟩
  | no x ih => intro a ⟨b, h1, h2⟩; exact ⟨b, (hk _ _ _ h1 (by decide) (by decide)).trans h1, ih b h2⟩
  | bo all x y ihx ihy => intro a ⟨b, c, h1, h2, h3⟩; exact ⟨b, c, (hk _ _ _ h1 (by decide) (by decide)).trans h1, ihx b h2, ihy c h3⟩
theorem ClAt.kp {h h' : pH} (hk : Kp h h') : ∀ cl e, ClAt h cl e → ClAt h' cl e := by
  intro cl
  induction cl with
  | nil => intro e h1; exact h1
  | cons c l ih =>
    intro e ⟨q, e', s, h1, h2, h3, h4⟩
    refine ⟨q, e', s, h1, ?_, SmAt.kp hk _ s h3, ih e' h4⟩
    cases hc : c.1 with
    | none => rw [hc] at h2; exact (hk _ _ _ h2 (by decide) (by decide)).trans h2
    | some y => rw [hc] at h2; obtain ⟨b, h2, h5⟩ := h2; exact ⟨b, (hk _ _ _ h2 (by decide) (by decide)).trans h2, TsAt.kp hk _ b h5⟩
theorem RuAt.ke {x a : Nat} {h h' : pH} {cl : List Cl} (H : RuAt x h cl a) (hk : Hk (x + 14) h h') : RuAt x h' cl a := by
  obtain ⟨a1, a2, lo, hi, u1, u2, u3⟩ := H
  refine ⟨a1, a2, lo, hi, u1, Nat.le_trans u2 hk.1, fun g hg => ?_⟩
  have h3 := u3 (fun q => if lo ≤ q ∧ q < hi then h.1 q else g.1 q, g.2) (fun q q1 q2 => if_pos ⟨q1, q2⟩)
  refine ClAt.kp (fun q c fs hq c4 c25 => ?_) _ _ h3
  have hq : (if lo ≤ q ∧ q < hi then h.1 q else g.1 q) = some (.inr (c, fs)) := hq
  show g.1 q = (if lo ≤ q ∧ q < hi then h.1 q else g.1 q)
  by_cases e : lo ≤ q ∧ q < hi
  · rw [if_pos e] at hq ⊢
    rw [hg q e.1 e.2]
    exact hk.2 q (by omega) (by omega) (fun fs' e' => by rw [hq] at e'; simp at e'; exact c4 e'.1) (fun fs' e' => by rw [hq] at e'; simp at e'; exact c25 e'.1)
  · rw [if_neg e]
theorem FigAt.ke {lo : Nat} {h h' : pH} {f : Nat} {F : Fig} (hF : FigAt h f F) (hk : Hk lo h h') (h1 : lo ≤ f) (h2 : f + 7 ≤ h.2.1) : FigAt h' f F := by
  have hF0 := hF
  obtain ⟨e0, ⟨c1, e1, -⟩, ⟨c2, e2, -⟩, ⟨c3, e3, -⟩, ⟨c4, e4, -⟩, ⟨c5, e5, -⟩, ⟨c6, e6, -⟩⟩ := hF
  refine hF0.cg (fun j hj => ?_)
  have inl : ∀ {q k n f}, h.1 q = some (.inl (k, n, f)) → lo ≤ q → q < h.2.1 → h'.1 q = h.1 q := fun hq q1 q2 => hk.2 _ q1 q2 (fun fs e => by rw [hq] at e; cases e) (fun fs e => by rw [hq] at e; cases e)
  match j, hj with
  | 0, _ => exact hk.2 f h1 (by omega) (fun fs e => by rw [e0] at e; simp at e) (fun fs e => by rw [e0] at e; simp at e)
  | 1, _ => exact inl e1 (by omega) (by omega)
  | 2, _ => exact inl e2 (by omega) (by omega)
  | 3, _ => exact inl e3 (by omega) (by omega)
  | 4, _ => exact inl e4 (by omega) (by omega)
  | 5, _ => exact inl e5 (by omega) (by omega)
  | 6, _ => exact inl e6 (by omega) (by omega)
section
variable {b L base : Nat} {xs : Nat → Int32} {X X' : XS} {S S' : MS} {H h h' : pH} {w w' : Wld}
theorem RF.ke {G n : Nat} {Fs : Nat → Fig} {fa : Nat → Nat} (R : RF base X S h G n Fs fa) (hk : Hk (base + 50) h h') : RF base X S h' G n Fs fa := by
  obtain ⟨a1, ⟨b1, b2⟩, c, d⟩ := R
  refine ⟨a1, ⟨b1, fun k hk' => ?_⟩, fun k hk' => ⟨Nat.le_trans (c k hk').1 hk.1, (c k hk').2⟩, d⟩
  obtain ⟨u1, u2, u3⟩ := b2 k hk'
  exact ⟨u1, u2, u3.ke hk (by omega) (c k hk').1⟩
theorem RRu.ke {Rn : Nat} {cls : Nat → List Cl} {ra : Nat → Nat} (R : RRu base X S h Rn cls ra) (hk : Hk (base + 50) h h') : RRu base X S h' Rn cls ra := ⟨R.1, R.2.1, fun k hk' => ⟨(R.2.2 k hk').1, (R.2.2 k hk').2.ke hk⟩⟩
theorem s_stock (F : Full b L xs base X S H) (R : Rel base X S H w) (v u : Int32) : Sam b L xs base 46 155 [.int v, .int u] H := by
  have hn6 := R.s.1.1
  by_cases hc : isx v w.n ∧ ¬ u < 0 ∧ ¬ 99 < u
  · obtain ⟨⟨s, hs, rfl⟩, h0, h1⟩ := hc
    obtain ⟨⟨s1, s2, s3⟩, ⟨s4, s5⟩, s6, s7, s8, s9⟩ := R.s
    obtain ⟨v1, v2, t, nn, v3⟩ := s5 s hs
    have v4 := s6 s hs
    have hps : psf H (w.sa s) 3 (.int u) = pup H (w.sa s) (.inr (4, [.int (w.so s 0), .int (w.so s 1), .int (w.so s 2), .int u, .int t, .int nn])) := psf_of v3
    have hx := x_stock (d := 2046) (h := H) (x := base) (X := X) s4 hn6 hs v1 (by omega) (by rw [pfl_of v3 rfl rfl]; rfl) h0 h1
    rw [hps] at hx
    have pne : ∀ q, q ≠ w.sa s → (pup H (w.sa s) (.inr (4, [.int (w.so s 0), .int (w.so s 1), .int (w.so s 2), .int u, .int t, .int nn]))).1 q = H.1 q := fun q hq => pup_ne hq
    have psm : (pup H (w.sa s) (.inr (4, [.int (w.so s 0), .int (w.so s 1), .int (w.so s 2), .int u, .int t, .int nn]))).1 (w.sa s) = some (.inr (4, [.int (w.so s 0), .int (w.so s 1), .int (w.so s 2), .int u, .int t, .int nn])) := by simp [pup]
    have p2 : (pup H (w.sa s) (.inr (4, [.int (w.so s 0), .int (w.so s 1), .int (w.so s 2), .int u, .int t, .int nn]))).2 = H.2 := rfl
    generalize pup H (w.sa s) (.inr (4, [.int (w.so s 0), .int (w.so s 1), .int (w.so s 2), .int u, .int t, .int nn])) = H' at hx pne psm p2
    have hke : Hk (base + 50) H H' := ⟨by rw [p2]; exact Nat.le_refl _, fun q q1 q2 n4 _ => pne q (fun e => by subst e; exact n4 _ v3)⟩
    refine stp_mk F hx ⟨by rw [p2]; exact Nat.le_refl _, by rw [p2]; omega, by rw [p2]; omega, fun q q1 q2 => pne q (by omega)⟩ (m_stock (d := 2045) s2 hn6 hs h0 h1) (w' := { w with so := fun k => if k = s then (fun j => if j = 3 then u else w.so s j) else w.so k }) ?_
    have uo : ∀ j, j ≠ 4 → ua S.2.1 4 s u j = S.2.1 j := fun j hj => ua_o hj
    have u4 : ua S.2.1 4 s u 4 = upd (S.2.1 4) s u := ua_j
    have hU : ∃ a, a < 1000 ∧ u = nI a := by
      by_cases e : isx u 100
      · obtain ⟨k, k1, k2⟩ := e; exact ⟨k, by omega, k2⟩
      · rcases isx_neg_m (by decide) e with q | ⟨q, q2⟩
        · exact absurd q h0
        · exact absurd q2 h1
    refine ⟨(R.f.ke hke).fr Hle.rf rfl rfl rfl (fun j j1 j2 => uo j (by omega)), ⟨⟨s1, s2, fun k hk => ?_⟩, ⟨s4, fun k hk => ?_⟩, fun k hk => by rw [p2]; exact s6 k hk, fun k hk => ?_, s8, fun k k1 k2 => ?_⟩, R.t.fr rfl rfl rfl (uo 5 (by decide)), (R.r.ke hke).fr Hle.rf rfl rfl rfl (fun j j1 j2 => uo j (by omega)), ?_, R.p⟩
    · show ua S.2.1 4 s u 1 k = (if k = s then _ else w.so k) 0 ∧ ua S.2.1 4 s u 2 k = (if k = s then _ else w.so k) 1 ∧ ua S.2.1 4 s u 3 k = (if k = s then _ else w.so k) 2 ∧ ua S.2.1 4 s u 4 k = (if k = s then _ else w.so k) 3
      rw [uo 1 (by decide), uo 2 (by decide), uo 3 (by decide), u4]
      obtain ⟨q1, q2, q3, q4⟩ := s3 k hk
      by_cases e : k = s
      · subst e; rw [if_pos rfl, upd_same]; exact ⟨q1, q2, q3, rfl⟩
      · rw [if_neg e, upd_ne e]; exact ⟨q1, q2, q3, q4⟩
    · obtain ⟨q1, q2, q3⟩ := s5 k hk
      refine ⟨q1, q2, ?_⟩
      show SoAt H' (w.sa k) (if k = s then _ else w.so k)
      by_cases e : k = s
      · subst e; rw [if_pos rfl]; exact ⟨t, nn, psm⟩
      · rw [if_neg e]
        unfold SoAt at *
        rw [pne _ (fun e2 => e (s8 k s hk hs e2))]
        exact q3
    · show ∃ a, a < 1000 ∧ (if k = s then (fun j => if j = 3 then u else w.so s j) else w.so k) 3 = nI a
      by_cases e : k = s
      · rw [if_pos e]; exact hU
      · rw [if_neg e]; exact s7 k hk
    · show ua S.2.1 4 s u 4 k = 0
      have k1 : w.n ≤ k := k1
      rw [u4, upd_ne (by omega)]; exact s9 k k1 k2
    · have G := R.g
      have gne : ∀ k, k < w.g.K → w.g.ga k ≠ w.sa s := fun k hk e => by
        have := (G.x k hk).2.2.2
        rw [e, v3] at this
        simp at this
      refine ⟨G.mk1, G.xk, G.k, G.i, fun k hk => ?_, fun k hk => ?_, ?_, G.rk, G.xr, G.mr, fun k hk j hj => ?_⟩
      · show _ ∧ ua S.2.1 4 s u 28 k = _ ∧ ua S.2.1 4 s u 29 k = _ ∧ ua S.2.1 4 s u 30 k = _
        rw [uo 28 (by decide), uo 29 (by decide), uo 30 (by decide)]; exact G.d k hk
      · obtain ⟨q1, q2, q3, q4⟩ := G.x k hk
        exact ⟨q1, q2, by rw [p2]; exact q3, by rw [pne _ (gne k hk)]; exact q4⟩
      · show X.1 16 = if w.g.K = 0 then 0 else ua S.2.1 4 s u 28 (w.g.K - 1)
        rw [uo 28 (by decide)]; exact G.l
      · show ua S.2.1 4 s u 31 _ = _
        rw [uo 31 (by decide)]; exact G.w k hk j hj
  · have hf : ¬ isx v w.n ∨ u < 0 ∨ 99 < u := by
      by_cases e : isx v w.n
      · by_cases e2 : u < 0
        · exact Or.inr (Or.inl e2)
        · by_cases e3 : 99 < u
          · exact Or.inr (Or.inr e3)
          · exact absurd ⟨e, e2, e3⟩ hc
      · exact Or.inl e
    exact stp_mk F (x_stock_f (d := 2046) R.s.2.1.1 hn6 hf) (Gw.rf.gx F.n) (m_stock_f (d := 2045) R.s.1.2.1 hn6 hf) R
theorem nI_sur (t : Int32) : ∃ n, nI n = t := ⟨t.toBitVec.toNat, by apply Int32.toBitVec_inj.mp; exact BitVec.ofNat_toNat 32 t.toBitVec⟩
theorem s_run (F : Full b L xs base X S H) (R : Rel base X S H w) (l : Int64) : Sam b L xs base 50 159 [.long l] H := by
  have hn := F.n
  obtain ⟨⟨s1, s2, s3⟩, ⟨s4, s5⟩, s6, s7, s8, s9⟩ := R.s
  have G := R.g
  have RFf := R.f
  -- what lies in the sorts
  have hT : ∃ T N : Nat → Nat, ∀ s, s < w.n → H.1 (w.sa s) = some (sC w.so T N s) := by
    have : ∀ s, ∃ t n : Nat, s < w.n → H.1 (w.sa s) = some (.inr (4, [.int (w.so s 0), .int (w.so s 1), .int (w.so s 2), .int (w.so s 3), .int (nI t), .int (nI n)])) := by
      intro s
      by_cases hs : s < w.n
      · obtain ⟨-, -, t, n, h3⟩ := s5 s hs
        obtain ⟨t', ht⟩ := nI_sur t
        obtain ⟨n', hn'⟩ := nI_sur n
        exact ⟨t', n', fun _ => by rw [ht, hn']; exact h3⟩
      · exact ⟨0, 0, fun h => absurd h hs⟩
    exact ⟨fun s => (this s).choose, fun s => (this s).choose_spec.choose, fun s hs => (this s).choose_spec.choose_spec hs⟩
  obtain ⟨T, N, hTN⟩ := hT
  have hgs : ∀ k, k < w.g.K → ∀ s, s < w.n → w.sa s ≠ w.g.ga k := fun k hk s hs e => by
    have h1 := hTN s hs
    have h2 := (G.x k hk).2.2.2
    rw [e, h2] at h1
    simp [sC] at h1
  have hfig : ∀ k, k < w.g.K → w.g.gw k < w.G := fun k hk => (G.d k hk).1
  have hFF : ∀ k, k < w.g.K → base + 14 ≤ w.fa (w.g.gw k) ∧ FigAt H (w.fa (w.g.gw k)) (w.Fs (w.g.gw k)) ∧ FigOk (w.Fs (w.g.gw k)) ∧ (∀ b, b < (w.Fs (w.g.gw k)).1 1 → (w.Fs (w.g.gw k)).2.1 3 b < w.n) ∧ (∀ s, s < w.n → w.sa s < w.fa (w.g.gw k) ∨ w.fa (w.g.gw k) + 6 < w.sa s) ∧ ∀ j, j < w.g.K → w.g.ga j < w.fa (w.g.gw k) ∨ w.fa (w.g.gw k) + 6 < w.g.ga j := by
    intro k hk
    have hg := hfig k hk
    obtain ⟨u1, u2, u3⟩ := RFf.2.1.2 _ hg
    have hfe : ∀ {a c fs}, H.1 a = some (.inr (c, fs)) → c ≠ 24 → a < w.fa (w.g.gw k) ∨ w.fa (w.g.gw k) + 6 < a := fun {a c fs} ha hc => by
      obtain ⟨e0, ⟨c1, e1, -⟩, ⟨c2, e2, -⟩, ⟨c3, e3, -⟩, ⟨c4, e4, -⟩, ⟨c5, e5, -⟩, ⟨c6, e6, -⟩⟩ := u3
      rcases Nat.lt_or_ge a (w.fa (w.g.gw k)) with q | q
      · exact Or.inl q
      · refine Or.inr ?_
        rcases Nat.lt_or_ge (w.fa (w.g.gw k) + 6) a with q2 | q2
        · exact q2
        · exfalso
          obtain ⟨j, rfl⟩ : ∃ j, a = w.fa (w.g.gw k) + j := ⟨a - w.fa (w.g.gw k), by omega⟩
          match j, (show j < 7 by omega) with
          | 0, _ => rw [Nat.add_zero, e0] at ha; simp at ha; exact hc ha.1.symm
          | 1, _ => rw [e1] at ha; cases ha
          | 2, _ => rw [e2] at ha; cases ha
          | 3, _ => rw [e3] at ha; cases ha
          | 4, _ => rw [e4] at ha; cases ha
          | 5, _ => rw [e5] at ha; cases ha
          | 6, _ => rw [e6] at ha; cases ha
    exact ⟨by omega, u3, (RFf.1.2.2 _ hg).2, RFf.2.2.2 _ hg, fun s hs => hfe (hTN s hs) (by decide), fun j hj => hfe ((G.x j hj).2.2.2) (by decide)⟩
  let Ls : Stl := { x := base, h := H, K := w.g.K, n := w.n, ga := w.g.ga, sa := w.sa, gf := fun k => w.fa (w.g.gw k), c := w.g.c, p := w.g.p, so := w.so, Fg := fun k => w.Fs (w.g.gw k), ig := G.i, is := s8, hgs := hgs, hgx := fun k hk => by have := (G.x k hk).2.1; omega, hsx := fun s hs => by have := (s5 s hs).2.1; omega, hK := G.k, hn := s1, hF := hFF }
  have hid1 : oput H w.g.K w.g.ga (gC (fun k => w.fa (w.g.gw k)) w.g.c w.g.p w.g.r) = H := oput_id (fun k hk => (G.x k hk).2.2.2)
  have hid2 : oput H w.n w.sa (sC w.so T N) = H := oput_id hTN
  have hw : Ls.w w.g.r T N X = xput H base X := by
    show xput (oput (oput H w.g.K w.g.ga (gC (fun k => w.fa (w.g.gw k)) w.g.c w.g.p w.g.r)) w.n w.sa (sC w.so T N)) base X = _
    rw [hid1, hid2]
  let st : Nat → Nat := fun s => if s < w.n then (w.so s 3).toNatClampNeg else 0
  have hst : ∀ s, s < w.n → w.so s 3 = nI (st s) := fun s hs => by
    obtain ⟨a, a1, a2⟩ := s7 s hs
    show _ = nI (if s < w.n then _ else 0)
    rw [if_pos hs, a2, nIc (by omega)]
  have hs2 : ∀ s, st s < 1000 := fun s => by
    show (if s < w.n then (w.so s 3).toNatClampNeg else 0) < 1000
    by_cases hs : s < w.n
    · obtain ⟨a, a1, a2⟩ := s7 s hs
      rw [if_pos hs, a2, nIc (by omega)]; exact a1
    · rw [if_neg hs]; decide
  have hxr := x_run (d := 2043) (L := Ls) (r := w.g.r) (T := T) (N := N) (st := st) (X := X) (l := l) ⟨s4, G.xk, fun s hs => (s5 s hs).1, fun k hk => (G.x k hk).1⟩ hst hs2
  rw [hw] at hxr
  have hxr : pCa 50 2047 [.ref base, .long l] (xput H base X) = (let z := rn (fun k => w.Fs (w.g.gw k)) w.so w.g.c w.g.p (X.1 15) (X.1 14) w.n (w.g.r, st, N, l, 0, 0) w.g.K; some (.inl (some (.int z.2.2.2.2.2)), xput (oput (oput H w.g.K w.g.ga (gC (fun k => w.fa (w.g.gw k)) w.g.c w.g.p z.1)) w.n w.sa (sC w.so z.2.1 z.2.2.1)) base (upd X.1 13 (nI w.g.K), X.2.1, X.2.2.1, z.2.2.2.1))) := hxr
  have hmr := fun hh => m_run (d := 2045) (m := base + 14) (h := hh) (S := S) (n := w.n) (K := w.g.K) (so := w.so) (l := l) (Fg := fun k => w.Fs (w.g.gw k)) (gw := w.g.gw) (st := st) (c := w.g.c) (p := w.g.p) s2 s1 G.mk1 G.k (fun k hk => by
      have hg := hfig k hk
      obtain ⟨d1, d2, d3, d4⟩ := G.d k hk
      exact ⟨by have := RFf.1.1; omega, (RFf.1.2.2 _ hg).1, (RFf.1.2.2 _ hg).2, RFf.2.2.2 _ hg, d2, d3, d4⟩) (fun s hs => ⟨by rw [(s3 s hs).2.2.2]; exact hst s hs, (s3 s hs).2.2.1⟩) hs2 w.g.r N
  rw [← R.p.1, ← R.p.2] at hmr
  generalize rn (fun k => w.Fs (w.g.gw k)) w.so w.g.c w.g.p (X.1 15) (X.1 14) w.n (w.g.r, st, N, l, 0, 0) w.g.K = z at hxr hmr
  dsimp only at hxr hmr
  have o1 : ∀ q, (∀ s, s < w.n → w.sa s ≠ q) → (∀ k, k < w.g.K → w.g.ga k ≠ q) → (oput (oput H w.g.K w.g.ga (gC (fun k => w.fa (w.g.gw k)) w.g.c w.g.p z.1)) w.n w.sa (sC w.so z.2.1 z.2.2.1)).1 q = H.1 q := fun q q1 q2 => by rw [oput_out q1, oput_out q2]
  have o2 : ∀ s, s < w.n → (oput (oput H w.g.K w.g.ga (gC (fun k => w.fa (w.g.gw k)) w.g.c w.g.p z.1)) w.n w.sa (sC w.so z.2.1 z.2.2.1)).1 (w.sa s) = some (sC w.so z.2.1 z.2.2.1 s) := fun s hs => oput_at s8 hs
  have o3 : ∀ k, k < w.g.K → (oput (oput H w.g.K w.g.ga (gC (fun k => w.fa (w.g.gw k)) w.g.c w.g.p z.1)) w.n w.sa (sC w.so z.2.1 z.2.2.1)).1 (w.g.ga k) = some (gC (fun k => w.fa (w.g.gw k)) w.g.c w.g.p z.1 k) := fun k hk => by rw [oput_out (fun s hs => hgs k hk s hs), oput_at G.i hk]
  have o4 : (oput (oput H w.g.K w.g.ga (gC (fun k => w.fa (w.g.gw k)) w.g.c w.g.p z.1)) w.n w.sa (sC w.so z.2.1 z.2.2.1)).2 = H.2 := rfl
  generalize oput (oput H w.g.K w.g.ga (gC (fun k => w.fa (w.g.gw k)) w.g.c w.g.p z.1)) w.n w.sa (sC w.so z.2.1 z.2.2.1) = H' at hxr o1 o2 o3 o4
  have hke : Hk (base + 50) H H' := ⟨by rw [o4]; exact Nat.le_refl _, fun q q1 q2 n4 n25 => o1 q (fun s hs e => by subst e; exact n4 _ (hTN s hs)) (fun k hk e => by subst e; exact n25 _ (G.x k hk).2.2.2)⟩
  obtain ⟨A, B, hm, hA⟩ := hmr (xput H' base (upd X.1 13 (nI w.g.K), X.2.1, X.2.2.1, z.2.2.2.1))
  refine stp_mk F hxr ⟨by rw [o4]; exact Nat.le_refl _, by rw [o4]; omega, by rw [o4]; omega, fun q q1 q2 => o1 q (fun s hs e => by have := (s5 s hs).2.1; omega) (fun k hk e => by have := (G.x k hk).2.1; omega)⟩ hm (w' := { w with g := { w.g with R := w.g.K, r := z.1 } }) ?_
  have x1 : ∀ k, k ≠ 13 → upd X.1 13 (nI w.g.K) k = X.1 k := fun k hk => upd_ne hk
  have m1 : ∀ k, k ≠ 46 → upd S.1 46 (nI w.g.K) k = S.1 k := fun k hk => upd_ne hk
  have uo : ∀ j, j ≠ 31 → j ≠ 32 → us (us S.2.1 31 A) 32 B j = S.2.1 j := fun j j1 j2 => by rw [us_ne j2, us_ne j1]
  have u31 : us (us S.2.1 31 A) 32 B 31 = A := by rw [us_ne (by decide), us_same]
  refine ⟨(R.f.ke hke).fr Hle.rf (x1 5 (by decide)) rfl (m1 20 (by decide)) (fun j j1 j2 => uo j (by omega) (by omega)), ⟨⟨s1, (m1 5 (by decide)).trans s2, fun k hk => ?_⟩, ⟨(x1 1 (by decide)).trans s4, fun k hk => ?_⟩, fun k hk => by rw [o4]; exact s6 k hk, s7, s8, fun k k1 k2 => ?_⟩, R.t.fr (x1 3 (by decide)) rfl (m1 7 (by decide)) (uo 5 (by decide) (by decide)), (R.r.ke hke).fr Hle.rf (x1 20 (by decide)) rfl (m1 31 (by decide)) (fun j j1 j2 => uo j (by omega) (by omega)), ⟨(m1 45 (by decide)).trans G.mk1, (x1 12 (by decide)).trans G.xk, G.k, G.i, fun k hk => ?_, fun k hk => ?_, ?_, Nat.le_refl _, ?_, ?_, fun k hk j hj => ?_⟩, ⟨(x1 14 (by decide)).trans (R.p.1.trans (m1 47 (by decide)).symm), (x1 15 (by decide)).trans (R.p.2.trans (m1 48 (by decide)).symm)⟩⟩
  · show us (us S.2.1 31 A) 32 B 1 k = _ ∧ us (us S.2.1 31 A) 32 B 2 k = _ ∧ us (us S.2.1 31 A) 32 B 3 k = _ ∧ us (us S.2.1 31 A) 32 B 4 k = _
    rw [uo 1 (by decide) (by decide), uo 2 (by decide) (by decide), uo 3 (by decide) (by decide), uo 4 (by decide) (by decide)]; exact s3 k hk
  · obtain ⟨q1, q2, q3⟩ := s5 k hk
    exact ⟨q1, q2, ⟨_, _, o2 k hk⟩⟩
  · show us (us S.2.1 31 A) 32 B 4 k = 0
    rw [uo 4 (by decide) (by decide)]; exact s9 k k1 k2
  · show _ ∧ us (us S.2.1 31 A) 32 B 28 k = _ ∧ us (us S.2.1 31 A) 32 B 29 k = _ ∧ us (us S.2.1 31 A) 32 B 30 k = _
    rw [uo 28 (by decide) (by decide), uo 29 (by decide) (by decide), uo 30 (by decide) (by decide)]; exact G.d k hk
  · obtain ⟨q1, q2, q3, q4⟩ := G.x k hk
    exact ⟨q1, q2, by rw [o4]; exact q3, o3 k hk⟩
  · show upd X.1 13 (nI w.g.K) 16 = if w.g.K = 0 then 0 else us (us S.2.1 31 A) 32 B 28 (w.g.K - 1)
    rw [x1 16 (by decide), uo 28 (by decide) (by decide)]; exact G.l
  · show upd X.1 13 (nI w.g.K) 13 = nI w.g.K; exact upd_same
  · show upd S.1 46 (nI w.g.K) 46 = nI w.g.K; exact upd_same
  · show us (us S.2.1 31 A) 32 B 31 (4 * k + j) = z.1 k j
    rw [u31]; exact hA k hk j hj
end
