/-! STEPS 2: sort, feed, end, pace, close, comes, stock -/
set_option maxRecDepth 100000
section
variable {b L base : Nat} {xs : Nat → Int32} {X X' : XS} {S S' : MS} {H h : pH} {w w' : Wld}
theorem uq_j {A : Nat → Nat → Option Nat} {j i k : Nat} {v : Option Nat} : uq A j i v j k = if k = i then v else A j k := by simp [uq, va_up]
theorem uq_o {A : Nat → Nat → Option Nat} {j i k : Nat} {v : Option Nat} (h : k ≠ j) : uq A j i v k = A k := by simp [uq, h]
theorem Hle.pnw {lo : Nat} {c : va_E} {n : Nat} : Hle lo H (pnw H c n) := ⟨Nat.le_succ _, fun q _ q2 => pnw_ne (by omega)⟩
theorem Gx.pnw {c : va_E} {n : Nat} (hn : base + 50 ≤ H.2.1) (h2 : n ≤ 10000) : Gx base H (pnw H c n) := ⟨Nat.le_succ _, by show H.2.1 + 1 ≤ _; omega, by show H.2.2 + n ≤ _; omega, fun q q1 _ => pnw_ne (by omega)⟩
theorem RF.n' {G n n' : Nat} {Fs : Nat → Fig} {fa : Nat → Nat} (R : RF base X S H G n Fs fa) (hn : n ≤ n') : RF base X S H G n' Fs fa := ⟨R.1, R.2.1, R.2.2.1, fun g hg b hb => Nat.lt_of_lt_of_le (R.2.2.2 g hg b hb) hn⟩
theorem s_sort (F : Full b L xs base X S H) (R : Rel base X S H w) (a st ch : Int32) : Sam b L xs base 5 68 [.int a, .int st, .int ch] H := by
  have hn6 := R.s.1.1
  by_cases hc : w.n < 6 ∧ okS a st ch
  · obtain ⟨h6, ok⟩ := hc
    have hx := x_sort (d := 2044) (h := H) (x := base) (X := X) R.s.2.1.1 h6 (by have := F.n; omega) ok
    refine stp_mk F hx (Gx.pnw F.n (by decide)) (m_sort (d := 2044) R.s.1.2.1 h6 ok) (w' := { w with n := w.n + 1, so := fun s => if s = w.n then (fun j => if j = 0 then a else if j = 1 then st else if j = 2 then ch else 0) else w.so s, sa := un w.sa w.n H.2.1 }) ?_
    have uo : ∀ j, j ≠ 1 → j ≠ 2 → j ≠ 3 → ua (ua (ua S.2.1 1 w.n a) 2 w.n st) 3 w.n ch j = S.2.1 j := fun j a1 a2 a3 => by rw [ua_o a3, ua_o a2, ua_o a1]
    have u1 : ua (ua (ua S.2.1 1 w.n a) 2 w.n st) 3 w.n ch 1 = upd (S.2.1 1) w.n a := by rw [ua_o (by decide), ua_o (by decide), ua_j]
    have u2 : ua (ua (ua S.2.1 1 w.n a) 2 w.n st) 3 w.n ch 2 = upd (S.2.1 2) w.n st := by rw [ua_o (by decide), ua_j, ua_o (by decide)]
    have u3 : ua (ua (ua S.2.1 1 w.n a) 2 w.n st) 3 w.n ch 3 = upd (S.2.1 3) w.n ch := by rw [ua_j, ua_o (by decide), ua_o (by decide)]
    obtain ⟨⟨s1, s2, s3⟩, ⟨s4, s5⟩, s6, s7, s8, s9⟩ := R.s
    have x1 : ∀ k, k ≠ 1 → upd X.1 1 (nI (w.n + 1)) k = X.1 k := fun k hk => upd_ne hk
    have m1 : ∀ k, k ≠ 5 → upd S.1 5 (nI (w.n + 1)) k = S.1 k := fun k hk => upd_ne hk
    have q1 : ∀ k, k ≠ 1 → uq X.2.2.1 1 w.n (some H.2.1) k = X.2.2.1 k := fun k hk => uq_o hk
    refine ⟨(R.f.fr (X' := (upd X.1 1 (nI (w.n + 1)), X.2.1, uq X.2.2.1 1 w.n (some H.2.1), X.2.2.2)) (S' := (upd S.1 5 (nI (w.n + 1)), ua (ua (ua S.2.1 1 w.n a) 2 w.n st) 3 w.n ch, S.2.2)) Hle.pnw (x1 5 (by decide)) (q1 3 (by decide)) (m1 20 (by decide)) (fun j j1 j2 => uo j (by omega) (by omega) (by omega))).n' (Nat.le_succ _), ⟨⟨h6, ?_, fun s hs => ?_⟩, ⟨?_, fun s hs => ?_⟩, fun s hs => ?_, fun s hs => ?_, ?_, fun s h1 h2 => ?_⟩, R.t.fr (x1 3 (by decide)) rfl (m1 7 (by decide)) (uo 5 (by decide) (by decide) (by decide)), R.r.fr Hle.pnw (x1 20 (by decide)) (q1 10 (by decide)) (m1 31 (by decide)) (fun j j1 j2 => uo j (by omega) (by omega) (by omega)), R.g.fr Hle.pnw (x1 12 (by decide)) (x1 13 (by decide)) (x1 16 (by decide)) (q1 9 (by decide)) (m1 45 (by decide)) (m1 46 (by decide)) (fun j j1 j2 => uo j (by omega) (by omega) (by omega)), ?_⟩
    · show upd S.1 5 (nI (w.n + 1)) 5 = nI (w.n + 1); exact upd_same
    · show ua (ua (ua S.2.1 1 w.n a) 2 w.n st) 3 w.n ch 1 s = (if s = w.n then _ else w.so s) 0 ∧ ua (ua (ua S.2.1 1 w.n a) 2 w.n st) 3 w.n ch 2 s = (if s = w.n then _ else w.so s) 1 ∧ ua (ua (ua S.2.1 1 w.n a) 2 w.n st) 3 w.n ch 3 s = (if s = w.n then _ else w.so s) 2 ∧ ua (ua (ua S.2.1 1 w.n a) 2 w.n st) 3 w.n ch 4 s = (if s = w.n then _ else w.so s) 3
      rw [u1, u2, u3, uo 4 (by decide) (by decide) (by decide)]
      have hs : s < w.n + 1 := hs
      by_cases e : s = w.n
      · subst e
        rw [upd_same, upd_same, upd_same, if_pos rfl]
        exact ⟨rfl, rfl, rfl, s9 _ (Nat.le_refl _) h6⟩
      · rw [upd_ne e, upd_ne e, upd_ne e, if_neg e]
        exact s3 s (by omega)
    · show upd X.1 1 (nI (w.n + 1)) 1 = nI (w.n + 1); exact upd_same
    · have hs : s < w.n + 1 := hs
      show uq X.2.2.1 1 w.n (some H.2.1) 1 s = some (un w.sa w.n H.2.1 s) ∧ base + 36 + 14 ≤ un w.sa w.n H.2.1 s ∧ SoAt (pnw H _ 6) (un w.sa w.n H.2.1 s) (if s = w.n then _ else w.so s)
      rw [uq_j]
      by_cases e : s = w.n
      · subst e
        rw [if_pos rfl, un_s, if_pos rfl]
        exact ⟨rfl, F.n, ⟨0, 0, pnw_same⟩⟩
      · rw [if_neg e, un_c e, if_neg e]
        obtain ⟨v1, v2, v3⟩ := s5 s (by omega)
        refine ⟨v1, v2, ?_⟩
        unfold SoAt at *
        rw [pnw_ne (by have := s6 s (by omega); omega)]
        exact v3
    · have hs : s < w.n + 1 := hs
      show un w.sa w.n H.2.1 s < H.2.1 + 1
      by_cases e : s = w.n
      · subst e; rw [un_s]; omega
      · rw [un_c e]; have := s6 s (by omega); omega
    · have hs : s < w.n + 1 := hs
      show ∃ a', a' < 1000 ∧ (if s = w.n then (fun j => if j = 0 then a else if j = 1 then st else if j = 2 then ch else 0) else w.so s) 3 = nI a'
      by_cases e : s = w.n
      · rw [if_pos e]; exact ⟨0, by decide, rfl⟩
      · rw [if_neg e]; exact s7 s (by omega)
    · intro i j hi hj he
      have hi : i < w.n + 1 := hi
      have hj : j < w.n + 1 := hj
      have he : un w.sa w.n H.2.1 i = un w.sa w.n H.2.1 j := he
      by_cases e1 : i = w.n
      · by_cases e2 : j = w.n
        · omega
        · subst e1; rw [un_s, un_c e2] at he; have := s6 j (by omega); omega
      · by_cases e2 : j = w.n
        · subst e2; rw [un_s, un_c e1] at he; have := s6 i (by omega); omega
        · rw [un_c e1, un_c e2] at he; exact s8 i j (by omega) (by omega) he
    · have h1 : w.n + 1 ≤ s := h1
      show ua (ua (ua S.2.1 1 w.n a) 2 w.n st) 3 w.n ch 4 s = 0
      rw [uo 4 (by decide) (by decide) (by decide)]; exact s9 s (by omega) h2
    · exact ⟨(x1 14 (by decide)).trans (R.p.1.trans (m1 47 (by decide)).symm), (x1 15 (by decide)).trans (R.p.2.trans (m1 48 (by decide)).symm)⟩
  · have hf : w.n = 6 ∨ ¬ okS a st ch := by
      by_cases e : w.n < 6
      · exact Or.inr (fun q => hc ⟨e, q⟩)
      · exact Or.inl (by omega)
    exact stp_mk F (x_sort_f (d := 2044) R.s.2.1.1 hn6 hf) (Gw.rf.gx F.n) (m_sort_f (d := 2044) R.s.1.2.1 hn6 hf) R
/-- only the tape changes -/
theorem Rel.tape (R : Rel base X S H w) (hx : xfr X X') (hm : mfr S S') {t : Tp} (h1 : MTp S' t) (h2 : XTp X' t) (h3 : t.1 ≤ 200) : Rel base X' S' H { w with t := t } := by
  obtain ⟨x1, x2, x3⟩ := hx
  obtain ⟨m1, m2, m3⟩ := hm
  exact ⟨R.f.fr Hle.rf (x1 5 (by decide)) (by rw [x3]) (m1 20 (by decide)) (fun j j1 j2 => m2 j (by omega)), R.s.fr Hle.rf (x1 1 (by decide)) (by rw [x3]) (m1 5 (by decide)) (fun j j1 j2 => m2 j (by omega)), ⟨h1, h2, h3⟩, R.r.fr Hle.rf (x1 20 (by decide)) (by rw [x3]) (m1 31 (by decide)) (fun j j1 j2 => m2 j (by omega)), R.g.fr Hle.rf (x1 12 (by decide)) (x1 13 (by decide)) (x1 16 (by decide)) (by rw [x3]) (m1 45 (by decide)) (m1 46 (by decide)) (fun j j1 j2 => m2 j (by omega)), ⟨by rw [x1 14 (by decide), m1 47 (by decide)]; exact R.p.1, by rw [x1 15 (by decide), m1 48 (by decide)]; exact R.p.2⟩⟩
theorem s_feed (F : Full b L xs base X S H) (R : Rel base X S H w) (a1 a2 a3 a4 a5 : Int32) : Sam b L xs base 7 70 [.int a1, .int a2, .int a3, .int a4, .int a5] H := by
  obtain ⟨t1, t2, t3⟩ := R.t
  by_cases hl : w.t.1 + fb_ct (nz (b20 a1 a2 a3 a4 a5)) 20 ≤ 200
  · obtain ⟨X', x1, x2, x3⟩ := x_feed (d := 2046) (h := H) (x := base) t2 hl
    obtain ⟨S', m1, m2, m3⟩ := m_feed (d := 2046) (h := xput H base X') (m := base + 14) t1 t3 hl
    exact stp_mk F x1 (Gw.rf.gx F.n) m1 (R.tape x3 m3 m2 x2 (by rw [apN_1]; exact hl))
  · exact stp_mk F (x_feed_f (d := 2046) t2 t3 (by omega)) (Gw.rf.gx F.n) (m_feed_f (d := 2046) t1 t3 (by omega)) R
theorem s_end (F : Full b L xs base X S H) (R : Rel base X S H w) (v : Int32) : Sam b L xs base 10 72 [.int v] H := by
  obtain ⟨t1, t2, t3⟩ := R.t
  by_cases hv : isx v (w.t.1 + 1)
  · obtain ⟨k, hk, rfl⟩ := hv
    refine stp_mk F (x_end (d := 2047) t2.1 t3 (by omega)) (Gw.rf.gx F.n) (m_end (d := 2047) t1.1 t3 (show k ≤ w.t.1 by omega)) (R.tape (X' := (upd X.1 3 (nI k), X.2)) (S' := (upd S.1 7 (nI k), S.2)) (t := (k, w.t.2)) ⟨fun j hj => by show upd X.1 3 (nI k) j = _; exact upd_ne hj, fun _ _ => rfl, rfl⟩ ⟨fun j hj => by show upd S.1 7 (nI k) j = _; exact upd_ne hj, fun _ _ => rfl, rfl⟩ ⟨by show upd S.1 7 (nI k) 7 = nI k; exact upd_same, fun i hi => t1.2 i ?_⟩ ⟨by show upd X.1 3 (nI k) 3 = nI k; exact upd_same, fun i hi => t2.2 i ?_⟩ (by show k ≤ 200; omega))
    · have hi : i < k := hi; omega
    · have hi : i < k := hi; omega
  · exact stp_mk F (x_end_f (d := 2047) t2.1 t3 hv) (Gw.rf.gx F.n) (m_end_f (d := 2047) t1.1 t3 hv) R
theorem s_pace (F : Full b L xs base X S H) (R : Rel base X S H w) (v u : Int32) : Sam b L xs base 47 156 [.int v, .int u] H := by
  by_cases ok : okP v u
  · refine stp_mk F (x_pace (d := 2046) ok) (Gw.rf.gx F.n) (m_pace (d := 2046) ok) (w' := w) ?_
    have x1 : ∀ k, k ≠ 14 → k ≠ 15 → upd (upd X.1 14 v) 15 u k = X.1 k := fun k k1 k2 => by rw [upd_ne k2, upd_ne k1]
    have m1 : ∀ k, k ≠ 47 → k ≠ 48 → upd (upd S.1 47 v) 48 u k = S.1 k := fun k k1 k2 => by rw [upd_ne k2, upd_ne k1]
    exact ⟨R.f.fr Hle.rf (x1 5 (by decide) (by decide)) rfl (m1 20 (by decide) (by decide)) (fun j j1 j2 => rfl), R.s.fr Hle.rf (x1 1 (by decide) (by decide)) rfl (m1 5 (by decide) (by decide)) (fun j j1 j2 => rfl), R.t.fr (x1 3 (by decide) (by decide)) rfl (m1 7 (by decide) (by decide)) rfl, R.r.fr Hle.rf (x1 20 (by decide) (by decide)) rfl (m1 31 (by decide) (by decide)) (fun j j1 j2 => rfl), R.g.fr Hle.rf (x1 12 (by decide) (by decide)) (x1 13 (by decide) (by decide)) (x1 16 (by decide) (by decide)) rfl (m1 45 (by decide) (by decide)) (m1 46 (by decide) (by decide)) (fun j j1 j2 => rfl), ⟨by show upd (upd X.1 14 v) 15 u 14 = upd (upd S.1 47 v) 48 u 47; rw [upd_ne (by decide), upd_same, upd_ne (by decide), upd_same], by show upd (upd X.1 14 v) 15 u 15 = upd (upd S.1 47 v) 48 u 48; rw [upd_same, upd_same]⟩⟩
  · exact stp_mk F (x_pace_f (d := 2046) ok) (Gw.rf.gx F.n) (m_pace_f (d := 2046) ok) R
theorem s_close (F : Full b L xs base X S H) (R : Rel base X S H w) : Sam b L xs base 49 158 [] H := by
  have e : X.1 12 = S.1 45 := R.g.xk.trans R.g.mk1.symm
  have hx := x_close (d := 2047) (h := H) (x := base) (X := X)
  rw [e] at hx
  refine stp_mk F hx (Gw.rf.gx F.n) (m_close (d := 2047)) (w' := { w with g := { w.g with K := 0, R := 0 } }) ?_
  have x1 : ∀ k, k ≠ 12 → k ≠ 13 → k ≠ 16 → upd (upd (upd X.1 12 0) 13 0) 16 0 k = X.1 k := fun k k1 k2 k3 => by rw [upd_ne k3, upd_ne k2, upd_ne k1]
  have m1 : ∀ k, k ≠ 45 → k ≠ 46 → upd (upd S.1 45 0) 46 0 k = S.1 k := fun k k1 k2 => by rw [upd_ne k2, upd_ne k1]
  refine ⟨R.f.fr Hle.rf (x1 5 (by decide) (by decide) (by decide)) rfl (m1 20 (by decide) (by decide)) (fun j j1 j2 => rfl), R.s.fr Hle.rf (x1 1 (by decide) (by decide) (by decide)) rfl (m1 5 (by decide) (by decide)) (fun j j1 j2 => rfl), R.t.fr (x1 3 (by decide) (by decide) (by decide)) rfl (m1 7 (by decide) (by decide)) rfl, R.r.fr Hle.rf (x1 20 (by decide) (by decide) (by decide)) rfl (m1 31 (by decide) (by decide)) (fun j j1 j2 => rfl), ⟨?_, ?_, by show 0 ≤ 30; decide, fun i j hi => absurd hi (Nat.not_lt_zero _), fun k hk => absurd hk (Nat.not_lt_zero _), fun k hk => absurd hk (Nat.not_lt_zero _), ?_, Nat.le_refl _, ?_, ?_, fun k hk => absurd hk (Nat.not_lt_zero _)⟩, ⟨(x1 14 (by decide) (by decide) (by decide)).trans (R.p.1.trans (m1 47 (by decide) (by decide)).symm), (x1 15 (by decide) (by decide) (by decide)).trans (R.p.2.trans (m1 48 (by decide) (by decide)).symm)⟩⟩
  · show upd (upd S.1 45 0) 46 0 45 = nI 0; rw [upd_ne (by decide), upd_same]; rfl
  · show upd (upd (upd X.1 12 0) 13 0) 16 0 12 = nI 0; rw [upd_ne (by decide), upd_ne (by decide), upd_same]; rfl
  · show upd (upd (upd X.1 12 0) 13 0) 16 0 16 = 0; rw [upd_same]
  · show upd (upd (upd X.1 12 0) 13 0) 16 0 13 = nI 0; rw [upd_ne (by decide), upd_same]; rfl
  · show upd (upd S.1 45 0) 46 0 46 = nI 0; rw [upd_same]; rfl
theorem s_comes (F : Full b L xs base X S H) (R : Rel base X S H w) (t v p : Int32) : Sam b L xs base 48 157 [.int t, .int v, .int p] H := by
  have G := R.g
  have hK := G.k
  by_cases hc : w.g.K < 30 ∧ isx v w.G ∧ okC (X.1 16) t p
  · obtain ⟨hK2, ⟨g, hg, rfl⟩, ok⟩ := hc
    have hgf := (R.f.2.1.2 g hg)
    have hx := x_comes (d := 2044) (h := H) (x := base) R.f.2.1.1 R.f.1.1 hg hgf.1 G.xk hK2 rfl (by have := F.n; omega) ok
    refine stp_mk F hx (Gx.pnw F.n (by decide)) (m_comes (d := 2044) R.f.1.2.1 R.f.1.1 hg G.mk1 hK2 G.l ok) (w' := { w with g := { K := w.g.K + 1, R := w.g.R, gw := un w.g.gw w.g.K g, c := upd w.g.c w.g.K t, p := upd w.g.p w.g.K p, ga := un w.g.ga w.g.K H.2.1, r := fun k => if k = w.g.K then fun _ => 0 else w.g.r k } }) ?_
    have x1 : ∀ k, k ≠ 12 → k ≠ 16 → upd (upd X.1 16 t) 12 (nI (w.g.K + 1)) k = X.1 k := fun k k1 k2 => by rw [upd_ne k1, upd_ne k2]
    have m1 : ∀ k, k ≠ 45 → upd S.1 45 (nI (w.g.K + 1)) k = S.1 k := fun k k1 => upd_ne k1
    have q1 : ∀ k, k ≠ 9 → uq X.2.2.1 9 w.g.K (some H.2.1) k = X.2.2.1 k := fun k hk => uq_o hk
    have uo : ∀ j, j ≠ 28 → j ≠ 29 → j ≠ 30 → ua (ua (ua S.2.1 28 w.g.K t) 29 w.g.K (nI g)) 30 w.g.K p j = S.2.1 j := fun j a1 a2 a3 => by rw [ua_o a3, ua_o a2, ua_o a1]
    have u28 : ua (ua (ua S.2.1 28 w.g.K t) 29 w.g.K (nI g)) 30 w.g.K p 28 = upd (S.2.1 28) w.g.K t := by rw [ua_o (by decide), ua_o (by decide), ua_j]
    have u29 : ua (ua (ua S.2.1 28 w.g.K t) 29 w.g.K (nI g)) 30 w.g.K p 29 = upd (S.2.1 29) w.g.K (nI g) := by rw [ua_o (by decide), ua_j, ua_o (by decide)]
    have u30 : ua (ua (ua S.2.1 28 w.g.K t) 29 w.g.K (nI g)) 30 w.g.K p 30 = upd (S.2.1 30) w.g.K p := by rw [ua_j, ua_o (by decide), ua_o (by decide)]
    refine ⟨R.f.fr Hle.pnw (x1 5 (by decide) (by decide)) (q1 3 (by decide)) (m1 20 (by decide)) (fun j j1 j2 => uo j (by omega) (by omega) (by omega)), R.s.fr Hle.pnw (x1 1 (by decide) (by decide)) (q1 1 (by decide)) (m1 5 (by decide)) (fun j j1 j2 => uo j (by omega) (by omega) (by omega)), R.t.fr (x1 3 (by decide) (by decide)) rfl (m1 7 (by decide)) (uo 5 (by decide) (by decide) (by decide)), R.r.fr Hle.pnw (x1 20 (by decide) (by decide)) (q1 10 (by decide)) (m1 31 (by decide)) (fun j j1 j2 => uo j (by omega) (by omega) (by omega)), ⟨by show upd S.1 45 (nI (w.g.K + 1)) 45 = _; exact upd_same, by show upd (upd X.1 16 t) 12 (nI (w.g.K + 1)) 12 = _; exact upd_same, hK2, ?_, fun k hk => ?_, fun k hk => ?_, ?_, ?_, (x1 13 (by decide) (by decide)).trans G.xr, (m1 46 (by decide)).trans G.mr, fun k hk j hj => ?_⟩, ⟨(x1 14 (by decide) (by decide)).trans (R.p.1.trans (m1 47 (by decide)).symm), (x1 15 (by decide) (by decide)).trans (R.p.2.trans (m1 48 (by decide)).symm)⟩⟩
    · intro i j hi hj he
      have hi : i < w.g.K + 1 := hi
      have hj : j < w.g.K + 1 := hj
      have he : un w.g.ga w.g.K H.2.1 i = un w.g.ga w.g.K H.2.1 j := he
      by_cases e1 : i = w.g.K
      · by_cases e2 : j = w.g.K
        · omega
        · subst e1; rw [un_s, un_c e2] at he; have := (G.x j (by omega)).2.2.1; omega
      · by_cases e2 : j = w.g.K
        · subst e2; rw [un_s, un_c e1] at he; have := (G.x i (by omega)).2.2.1; omega
        · rw [un_c e1, un_c e2] at he; exact G.i i j (by omega) (by omega) he
    · have hk : k < w.g.K + 1 := hk
      show un w.g.gw w.g.K g k < w.G ∧ ua (ua (ua S.2.1 28 w.g.K t) 29 w.g.K (nI g)) 30 w.g.K p 28 k = upd w.g.c w.g.K t k ∧ ua (ua (ua S.2.1 28 w.g.K t) 29 w.g.K (nI g)) 30 w.g.K p 29 k = nI (un w.g.gw w.g.K g k) ∧ ua (ua (ua S.2.1 28 w.g.K t) 29 w.g.K (nI g)) 30 w.g.K p 30 k = upd w.g.p w.g.K p k
      rw [u28, u29, u30]
      by_cases e : k = w.g.K
      · subst e; rw [un_s, upd_same, upd_same, upd_same, upd_same, upd_same]; exact ⟨hg, rfl, rfl, rfl⟩
      · rw [un_c e, upd_ne e, upd_ne e, upd_ne e, upd_ne e, upd_ne e]; exact G.d k (by omega)
    · have hk : k < w.g.K + 1 := hk
      show uq X.2.2.1 9 w.g.K (some H.2.1) 9 k = some (un w.g.ga w.g.K H.2.1 k) ∧ base + 50 ≤ un w.g.ga w.g.K H.2.1 k ∧ un w.g.ga w.g.K H.2.1 k < H.2.1 + 1 ∧ (pnw H (.inr (25, [.ref (w.fa g), .int t, .int p, .int 0, .int 0, .int 0, .int 0])) 7).1 (un w.g.ga w.g.K H.2.1 k) = some (.inr (25, [.ref (w.fa (un w.g.gw w.g.K g k)), .int (upd w.g.c w.g.K t k), .int (upd w.g.p w.g.K p k), .int ((if k = w.g.K then fun _ => 0 else w.g.r k) 0), .int ((if k = w.g.K then fun _ => 0 else w.g.r k) 1), .int ((if k = w.g.K then fun _ => 0 else w.g.r k) 2), .int ((if k = w.g.K then fun _ => 0 else w.g.r k) 3)]))
      rw [uq_j]
      by_cases e : k = w.g.K
      · subst e
        simp only [if_true, un_s, upd_same]
        exact ⟨trivial, F.n, by omega, pnw_same⟩
      · simp only [if_neg e, un_c e, upd_ne e]
        obtain ⟨v1, v2, v3, v4⟩ := G.x k (by omega)
        exact ⟨v1, v2, by omega, by rw [pnw_ne (by omega)]; exact v4⟩
    · show upd (upd X.1 16 t) 12 (nI (w.g.K + 1)) 16 = if w.g.K + 1 = 0 then 0 else ua (ua (ua S.2.1 28 w.g.K t) 29 w.g.K (nI g)) 30 w.g.K p 28 (w.g.K + 1 - 1)
      rw [upd_ne (by decide), upd_same, if_neg (by omega), u28, Nat.add_sub_cancel, upd_same]
    · have := G.rk; show w.g.R ≤ w.g.K + 1; omega
    · have hk : k < w.g.R := hk
      show ua (ua (ua S.2.1 28 w.g.K t) 29 w.g.K (nI g)) 30 w.g.K p 31 (4 * k + j) = (if k = w.g.K then fun _ => 0 else w.g.r k) j
      have := G.rk
      rw [uo 31 (by decide) (by decide) (by decide), if_neg (by omega)]
      exact G.w k hk j hj
  · have hf : w.g.K = 30 ∨ ¬ isx v w.G ∨ ¬ okC (X.1 16) t p := by
      by_cases e : w.g.K < 30
      · by_cases e2 : isx v w.G
        · exact Or.inr (Or.inr (fun q => hc ⟨e, e2, q⟩))
        · exact Or.inr (Or.inl e2)
      · exact Or.inl (by omega)
    exact stp_mk F (x_comes_f (d := 2044) R.f.2.1.1 R.f.1.1 G.xk hK rfl hf) (Gw.rf.gx F.n) (m_comes_f (d := 2044) R.f.1.2.1 R.f.1.1 G.mk1 hK G.l hf) R
end
