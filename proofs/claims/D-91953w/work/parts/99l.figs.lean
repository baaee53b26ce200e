/-! STEPS 4: fault, figure, rule, plain, add -/
set_option maxRecDepth 100000
section
variable {b L base : Nat} {xs : Nat → Int32} {X X' : XS} {S S' S1 : MS} {H h h' : pH} {w w' : Wld}
theorem Rel.gw (R : Rel base X S H w) (g : Gw base H h) : Rel base X S h w := R.fr g.hle xrel.rf mrel.rf
theorem Rel.mfgR {f : Nat} (R : Rel base X S H w) (hm : mfg S S' f) (hf : w.G ≤ f) : Rel base X S' H w := by
  obtain ⟨⟨a1, a2, a3⟩, a4⟩ := R.f
  have m1 := fun k c1 c2 c3 c4 c5 c6 => hm.1 k c1 c2 c3 c4 c5 c6
  have m2 := hm.2.1
  exact ⟨⟨⟨a1, (m1 20 (by decide) (by decide) (by decide) (by decide) (by decide) (by decide)).trans a2, fun g hg => ⟨(a3 g hg).1.fr hm (by omega) (a3 g hg).2, (a3 g hg).2⟩⟩, a4⟩, R.s.fr Hle.rf rfl rfl (m1 5 (by decide) (by decide) (by decide) (by decide) (by decide) (by decide)) (fun j j1 j2 => m2 j (by omega)), R.t.fr rfl rfl (m1 7 (by decide) (by decide) (by decide) (by decide) (by decide) (by decide)) (m2 5 (by decide)), R.r.fr Hle.rf rfl rfl (m1 31 (by decide) (by decide) (by decide) (by decide) (by decide) (by decide)) (fun j j1 j2 => m2 j (by omega)), R.g.fr Hle.rf rfl rfl rfl rfl (m1 45 (by decide) (by decide) (by decide) (by decide) (by decide) (by decide)) (m1 46 (by decide) (by decide) (by decide) (by decide) (by decide) (by decide)) (fun j j1 j2 => m2 j (by omega)), ⟨R.p.1.trans (m1 47 (by decide) (by decide) (by decide) (by decide) (by decide) (by decide)).symm, R.p.2.trans (m1 48 (by decide) (by decide) (by decide) (by decide) (by decide) (by decide)).symm⟩⟩
theorem Rl_lo {A B : Nat → Nat → Int32} {r r' : Nat} (hr : r' < r) (h18 : ∀ i, i < 400 * r → B 18 i = A 18 i) (h20 : ∀ i, i < 64 * r → B 20 i = A 20 i ∧ B 21 i = A 21 i) : ∀ l ci sd, 4 * ci + Lz l ≤ 201 → sd + 2 * Lz l ≤ 402 → Rl A r' ci sd l → Rl B r' ci sd l := by
  intro l
  induction l with
  | nil => intro ci sd _ _ _; trivial
  | cons c l ih =>
    intro ci sd h1 h2 ⟨g1, g2, g3, g4⟩
    have h1 : 4 * ci + (c.sz + 3 + Lz l) ≤ 201 := h1
    have h2 : sd + 2 * (c.sz + 3 + Lz l) ≤ 402 := h2
    have hc := cdC_le c
    have hs := c.sz_pos
    obtain ⟨e1, e2⟩ := h20 (64 * r' + ci) (by omega)
    exact ⟨e1.trans g1, e2.trans g2, fun i hi => (h18 _ (by omega)).trans (g3 i hi), ih (ci + 1) (sd + (cdC c).length) (by omega) (by omega) g4⟩
theorem Rel.mrlR {f : Nat} (R : Rel base X S H w) (hm : mrl S S' f) (hf : w.Rn ≤ f) : Rel base X S' H w := by
  have m1 := fun k c1 c2 c3 c4 c5 => hm.1 k c1 c2 c3 c4 c5
  have m2 := hm.2.1
  obtain ⟨⟨a1, a2, a3⟩, a4⟩ := R.r
  refine ⟨R.f.fr Hle.rf rfl rfl (m1 20 (by decide) (by decide) (by decide) (by decide) (by decide)) (fun j j1 j2 => m2 j (by omega)), R.s.fr Hle.rf rfl rfl (m1 5 (by decide) (by decide) (by decide) (by decide) (by decide)) (fun j j1 j2 => m2 j (by omega)), R.t.fr rfl rfl (m1 7 (by decide) (by decide) (by decide) (by decide) (by decide)) (m2 5 (by decide)), ⟨⟨a1, (m1 31 (by decide) (by decide) (by decide) (by decide) (by decide)).trans a2, fun k hk => ⟨(hm.2.2.2.1 k (by omega)).trans (a3 k hk).1, ?_⟩⟩, a4⟩, R.g.fr Hle.rf rfl rfl rfl rfl (m1 45 (by decide) (by decide) (by decide) (by decide) (by decide)) (m1 46 (by decide) (by decide) (by decide) (by decide) (by decide)) (fun j j1 j2 => m2 j (by omega)), ⟨R.p.1.trans (m1 47 (by decide) (by decide) (by decide) (by decide) (by decide)).symm, R.p.2.trans (m1 48 (by decide) (by decide) (by decide) (by decide) (by decide)).symm⟩⟩
  have hz := (a4.2 k hk).2.2.1
  exact Rl_lo (show k < f by omega) hm.2.2.1 hm.2.2.2.2.1 _ 0 0 (by omega) (by omega) (a3 k hk).2
theorem s_fault (F : Full b L xs base X S H) (R : Rel base X S H w) (v : Int32) : Sam b L xs base 11 73 [.int v] H := by
  have hn := F.n
  obtain ⟨t1, t2, t3⟩ := R.t
  have hT : MT S w.t := ⟨t1.1, fun i hi => (t1.2 i hi).1, ⟨t3, fun i hi => (t1.2 i hi).2⟩⟩
  by_cases h0 : v = 0
  · subst h0
    obtain ⟨h', x1, x2⟩ := x_fault0 (d := 2007) (h := H) (x := base) (X := X) R.s.2.1.1 R.s.1.1 t2 t3 (by omega)
    obtain ⟨S', m1, m2⟩ := m_fault0 (d := 2025) (h := xput h' base X) (m := base + 14) hT R.s.1.2.1 R.s.1.1
    exact stp_mk F x1 (x2.gx hn) m1 ((R.gw x2).mfgR m2 R.f.1.1)
  · by_cases h1 : v = 1
    · subst h1
      obtain ⟨h', x1, x2⟩ := x_fault1 (d := 1997) (h := H) (x := base) (X := X) R.s.2.1.1 R.s.1.1 t2 t3 (by omega)
      obtain ⟨S', m1, m2⟩ := m_fault1 (d := 2015) (h := xput h' base X) (m := base + 14) hT
      exact stp_mk F x1 (x2.gx hn) m1 ((R.gw x2).mrlR m2 R.r.1.1)
    · have hv : v < 0 ∨ 1 < v := by
        by_cases e : isx v 2
        · obtain ⟨k, k1, k2⟩ := e
          match k, k1 with
          | 0, _ => exact absurd k2 h0
          | 1, _ => exact absurd k2 h1
        · rcases isx_neg_m (by decide) e with q | ⟨q, q2⟩
          · exact Or.inl q
          · exact Or.inr q2
      exact stp_mk F (x_fault_f (d := 2046) hv) (Gw.rf.gx hn) (m_fault_f (d := 2047) hv) R
/-- a figure more -/
theorem Rel.newF {f : Nat} {Fn : Fig} (R : Rel base X S H w) (hG : w.G < 12) (hn : base + 50 ≤ H.2.1) (hg : Gw base H h') (hf1 : H.2.1 ≤ f) (hf2 : f + 8 ≤ h'.2.1) (hF : FigAt h' f Fn) (hok : FigOk Fn) (hx : FigX Fn) (hs : ∀ b, b < Fn.1 1 → Fn.2.1 3 b < w.n) (hm : mfg S S1 w.G) (hM : MFig S1 w.G Fn) : Rel base (upd X.1 5 (nI (w.G + 1)), X.2.1, uq X.2.2.1 3 w.G (some f), X.2.2.2) (upd S1.1 20 (nI (w.G + 1)), S1.2) h' { w with G := w.G + 1, Fs := fun g => if g = w.G then Fn else w.Fs g, fa := un w.fa w.G f } := by
  have R1 := (R.gw hg).mfgR hm (Nat.le_refl _)
  have x1 : ∀ k, k ≠ 5 → upd X.1 5 (nI (w.G + 1)) k = X.1 k := fun k hk => upd_ne hk
  have m1 : ∀ k, k ≠ 20 → upd S1.1 20 (nI (w.G + 1)) k = S1.1 k := fun k hk => upd_ne hk
  have q1 : ∀ k, k ≠ 3 → uq X.2.2.1 3 w.G (some f) k = X.2.2.1 k := fun k hk => uq_o hk
  obtain ⟨⟨a1, a2, a3⟩, ⟨b1, b2⟩, c, d⟩ := R1.f
  refine ⟨⟨⟨hG, ?_, fun g hg' => ?_⟩, ⟨?_, fun g hg' => ?_⟩, fun g hg' => ?_, fun g hg' => ?_⟩, R1.s.fr Hle.rf (x1 1 (by decide)) (q1 1 (by decide)) (m1 5 (by decide)) (fun j j1 j2 => rfl), R1.t.fr (x1 3 (by decide)) rfl (m1 7 (by decide)) rfl, R1.r.fr Hle.rf (x1 20 (by decide)) (q1 10 (by decide)) (m1 31 (by decide)) (fun j j1 j2 => rfl), ?_, ⟨(x1 14 (by decide)).trans (R1.p.1.trans (m1 47 (by decide)).symm), (x1 15 (by decide)).trans (R1.p.2.trans (m1 48 (by decide)).symm)⟩⟩
  · show upd S1.1 20 (nI (w.G + 1)) 20 = nI (w.G + 1); exact upd_same
  · have hg' : g < w.G + 1 := hg'
    show MFig (upd S1.1 20 (nI (w.G + 1)), S1.2) g (if g = w.G then Fn else w.Fs g) ∧ FigOk (if g = w.G then Fn else w.Fs g)
    by_cases e : g = w.G
    · subst e; rw [if_pos rfl]; exact ⟨hM, hok⟩
    · rw [if_neg e]; exact a3 g (by omega)
  · show upd X.1 5 (nI (w.G + 1)) 5 = nI (w.G + 1); exact upd_same
  · have hg' : g < w.G + 1 := hg'
    show uq X.2.2.1 3 w.G (some f) 3 g = some (un w.fa w.G f g) ∧ base + 36 + 14 ≤ un w.fa w.G f g ∧ FigAt h' (un w.fa w.G f g) (if g = w.G then Fn else w.Fs g)
    rw [uq_j]
    by_cases e : g = w.G
    · subst e; rw [if_pos rfl, if_pos rfl, un_s]; exact ⟨rfl, by omega, hF⟩
    · rw [if_neg e, if_neg e, un_c e]; exact b2 g (by omega)
  · have hg' : g < w.G + 1 := hg'
    show un w.fa w.G f g + 7 ≤ h'.2.1 ∧ FigX (if g = w.G then Fn else w.Fs g)
    by_cases e : g = w.G
    · subst e; rw [if_pos rfl, un_s]; exact ⟨by omega, hx⟩
    · rw [if_neg e, un_c e]; exact c g (by omega)
  · have hg' : g < w.G + 1 := hg'
    show ∀ b, b < (if g = w.G then Fn else w.Fs g).1 1 → (if g = w.G then Fn else w.Fs g).2.1 3 b < w.n
    by_cases e : g = w.G
    · subst e; rw [if_pos rfl]; exact hs
    · rw [if_neg e]; exact d g (by omega)
  · have g1 := R1.g.fr (X' := (upd X.1 5 (nI (w.G + 1)), X.2.1, uq X.2.2.1 3 w.G (some f), X.2.2.2)) (S' := (upd S1.1 20 (nI (w.G + 1)), S1.2)) Hle.rf (x1 12 (by decide)) (x1 13 (by decide)) (x1 16 (by decide)) (q1 9 (by decide)) (m1 45 (by decide)) (m1 46 (by decide)) (fun j j1 j2 => rfl)
    refine ⟨g1.mk1, g1.xk, g1.k, g1.i, fun k hk => ?_, fun k hk => ?_, g1.l, g1.rk, g1.xr, g1.mr, g1.w⟩
    · obtain ⟨u1, u2⟩ := g1.d k hk
      exact ⟨by show w.g.gw k < w.G + 1; omega, u2⟩
    · obtain ⟨u1, u2, u3, u4⟩ := g1.x k hk
      have := (g1.d k hk).1
      refine ⟨u1, u2, u3, ?_⟩
      show h'.1 (w.g.ga k) = some (.inr (25, [.ref (un w.fa w.G f (w.g.gw k)), _, _, _, _, _, _]))
      rw [un_c (by omega)]
      exact u4
theorem Rel.len0 (R : Rel base X S H w) : Rel base (upd X.1 3 0, X.2) (upd S.1 7 0, S.2) H { w with t := (0, w.t.2) } := R.tape (X' := (upd X.1 3 0, X.2)) (S' := (upd S.1 7 0, S.2)) (t := (0, w.t.2)) ⟨fun j hj => by show upd X.1 3 0 j = _; exact upd_ne hj, fun _ _ => rfl, rfl⟩ ⟨fun j hj => by show upd S.1 7 0 j = _; exact upd_ne hj, fun _ _ => rfl, rfl⟩ ⟨by show upd S.1 7 0 7 = nI 0; exact upd_same, fun i hi => absurd hi (Nat.not_lt_zero _)⟩ ⟨by show upd X.1 3 0 3 = nI 0; exact upd_same, fun i hi => absurd hi (Nat.not_lt_zero _)⟩ (Nat.zero_le _)
theorem s_figure (F : Full b L xs base X S H) (R : Rel base X S H w) : Sam b L xs base 12 100 [] H := by
  have hn := F.n
  obtain ⟨t1, t2, t3⟩ := R.t
  have hT : MT S w.t := ⟨t1.1, fun i hi => (t1.2 i hi).1, ⟨t3, fun i hi => (t1.2 i hi).2⟩⟩
  have hG := R.f.1.1
  by_cases hG12 : w.G = 12
  · have e1 := R.f.2.1.1
    have e2 := R.f.1.2.1
    rw [hG12] at e1 e2
    exact stp_mk F (x_figure_f (d := 2047) e1) (Gw.rf.gx hn) (m_figure_f (d := 2047) e2) R
  · have hG' : w.G < 12 := by omega
    have hx := x_figure (d := 2007) (h := H) (x := base) (X := X) R.f.2.1.1 hG' R.s.2.1.1 R.s.1.1 t2 t3 (by omega)
    have hm := fun hh => m_figure (d := 2025) (h := hh) (m := base + 14) hT R.f.1.2.1 hG' R.s.1.2.1 R.s.1.1
    generalize pfig w.t w.n = z at hx hm
    match z, hx, hm with
    | .inl e, ⟨h', x1, x2⟩, hm =>
      obtain ⟨S', m1, m2⟩ := hm (xput h' base X)
      exact stp_mk F x1 (x2.gx hn) m1 ((R.gw x2).mfgR m2 (Nat.le_refl _))
    | .inr (c, q, e), ⟨h', f, x1, x2, x3, x4, x5, x6⟩, hm =>
      obtain ⟨S', m1, m2, m3⟩ := hm (xput h' base (upd (upd X.1 3 0) 5 (nI (w.G + 1)), X.2.1, uq X.2.2.1 3 w.G (some f), X.2.2.2))
      have k := x6.k
      have hnp := fb_ct_le (rr (ex c Hd0)) (ex c Hd0).np
      have e1 := x6.e
      have e2 := k.b
      have e3 := k.l
      have hn6 := R.s.1.1
      refine stp_mk F x1 (x2.gx hn) m1 (Rel.newF (S1 := (upd S'.1 7 0, S'.2)) R.len0 hG' hn x2 x3 x4 x5 (figOf_ok k (by omega) (fun b hb => Nat.lt_of_lt_of_le (x6.s b hb) hn6)) ⟨?_, fun j hj he => ?_⟩ x6.s ?_ m3)
      · show fb_ct (rr (ex c Hd0)) (ex c Hd0).np ≤ (ex c Hd0).nb + (ex c Hd0).nl
        omega
      · show nmb _ ((ex c Hd0).tq j) = nmb _ ((ex c Hd0).fr (j + 1))
        rw [x6.j j hj he]
      · refine ⟨fun k a1 a2 a3 a4 a5 a6 => ?_, m2.2.1, m2.2.2.1, m2.2.2.2.1, m2.2.2.2.2.1, m2.2.2.2.2.2⟩
        show upd S'.1 7 0 k = upd S.1 7 0 k
        unfold upd
        split
        · rfl
        · exact m2.1 k a1 a2 a3 a4 a5 a6
theorem s_rule (F : Full b L xs base X S H) (R : Rel base X S H w) : Sam b L xs base 54 101 [] H := by
  have hn := F.n
  obtain ⟨t1, t2, t3⟩ := R.t
  have hT : MT S w.t := ⟨t1.1, fun i hi => (t1.2 i hi).1, ⟨t3, fun i hi => (t1.2 i hi).2⟩⟩
  have hG := R.r.1.1
  by_cases hG6 : w.Rn = 6
  · have e1 := R.r.2.1
    have e2 := R.r.1.2.1
    rw [hG6] at e1 e2
    exact stp_mk F (x_rule_f (d := 2047) e1) (Gw.rf.gx hn) (m_rule_f (d := 2047) e2) R
  · have hG' : w.Rn < 6 := by omega
    have hx := x_rule (d := 1997) (h := H) (x := base) (X := X) R.r.2.1 hG' R.s.2.1.1 R.s.1.1 t2 t3 (by omega)
    have hm := fun hh => m_rule (d := 2015) (h := hh) (m := base + 14) hT R.r.1.2.1 hG'
    have hpo := prul_ok (t := w.t)
    generalize prul w.t = z at hx hm hpo
    match z, hx, hm, hpo with
    | .inl e, ⟨h', x1, x2⟩, hm, _ =>
      obtain ⟨S', m1, m2⟩ := hm (xput h' base X)
      exact stp_mk F x1 (x2.gx hn) m1 ((R.gw x2).mrlR m2 (Nat.le_refl _))
    | .inr (c, q), ⟨h', a, x1, x2, x3⟩, hm, hpo =>
      obtain ⟨S', m1, m2, m3, m4⟩ := hm (xput h' base (upd (upd X.1 3 0) 20 (nI (w.Rn + 1)), X.2.1, uq X.2.2.1 10 w.Rn (some a), X.2.2.2))
      have hok : (∀ d, d ∈ c → d.g) ∧ Lz c ≤ 201 := by
        obtain ⟨-, p2⟩ := hpo
        obtain ⟨c0, l0, -, p3, p4, p5⟩ := p2 c q rfl
        exact ⟨p5, by omega⟩
      have R0 := R.len0.gw x2
      have hm0 : mrl (upd S.1 7 0, S.2) (upd S'.1 7 0, S'.2) w.Rn := by
        refine ⟨fun k a1 a2 a3 a4 a5 => ?_, m2.2.1, m2.2.2.1, m2.2.2.2.1, m2.2.2.2.2.1, m2.2.2.2.2.2⟩
        show upd S'.1 7 0 k = upd S.1 7 0 k
        unfold upd
        split
        · rfl
        · exact m2.1 k a1 a2 a3 a4 a5
      have R1 := R0.mrlR hm0 (Nat.le_refl _)
      refine stp_mk F x1 (x2.gx hn) m1 (w' := { w with t := (0, w.t.2), Rn := w.Rn + 1, cls := fun r => if r = w.Rn then c else w.cls r, ra := un w.ra w.Rn a }) ?_
      have y1 : ∀ k, k ≠ 20 → upd (upd X.1 3 0) 20 (nI (w.Rn + 1)) k = upd X.1 3 0 k := fun k hk => upd_ne hk
      have n1 : ∀ k, k ≠ 31 → upd (upd S'.1 7 0) 31 (nI (w.Rn + 1)) k = upd S'.1 7 0 k := fun k hk => upd_ne hk
      have q1 : ∀ k, k ≠ 10 → uq X.2.2.1 10 w.Rn (some a) k = X.2.2.1 k := fun k hk => uq_o hk
      obtain ⟨⟨a1, a2, a3⟩, ⟨b1, b2⟩⟩ := R1.r
      refine ⟨R1.f.fr Hle.rf (y1 5 (by decide)) (q1 3 (by decide)) (n1 20 (by decide)) (fun j j1 j2 => rfl), R1.s.fr Hle.rf (y1 1 (by decide)) (q1 1 (by decide)) (n1 5 (by decide)) (fun j j1 j2 => rfl), R1.t.fr (y1 3 (by decide)) rfl (n1 7 (by decide)) rfl, ⟨⟨hG', ?_, fun k hk => ?_⟩, ⟨?_, fun k hk => ?_⟩⟩, R1.g.fr Hle.rf (y1 12 (by decide)) (y1 13 (by decide)) (y1 16 (by decide)) (q1 9 (by decide)) (n1 45 (by decide)) (n1 46 (by decide)) (fun j j1 j2 => rfl), ⟨(y1 14 (by decide)).trans (R1.p.1.trans (n1 47 (by decide)).symm), (y1 15 (by decide)).trans (R1.p.2.trans (n1 48 (by decide)).symm)⟩⟩
      · show upd (upd S'.1 7 0) 31 (nI (w.Rn + 1)) 31 = nI (w.Rn + 1); exact upd_same
      · have hk : k < w.Rn + 1 := hk
        show RlAt (upd (upd S'.1 7 0) 31 (nI (w.Rn + 1)), S'.2) k (if k = w.Rn then c else w.cls k)
        by_cases e : k = w.Rn
        · subst e; rw [if_pos rfl]; exact ⟨m3, m4⟩
        · rw [if_neg e]; exact a3 k (by show k < w.Rn; omega)
      · show upd (upd X.1 3 0) 20 (nI (w.Rn + 1)) 20 = nI (w.Rn + 1); exact upd_same
      · have hk : k < w.Rn + 1 := hk
        show uq X.2.2.1 10 w.Rn (some a) 10 k = some (un w.ra w.Rn a k) ∧ RuAt (base + 36) h' (if k = w.Rn then c else w.cls k) (un w.ra w.Rn a k)
        rw [uq_j]
        by_cases e : k = w.Rn
        · subst e; rw [if_pos rfl, if_pos rfl, un_s]; exact ⟨rfl, hok.1, hok.2, H.2.1 + 1, h'.2.1, by omega, Nat.le_refl _, x3⟩
        · rw [if_neg e, if_neg e, un_c e]; exact b2 k (by show k < w.Rn; omega)
end
