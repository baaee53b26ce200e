/-! STEPS 1: questions -/
set_option maxRecDepth 100000
def Good (b L : Nat) (xs : Nat → Int32) (base : Nat) (H : pH) : Prop := ∃ X S w, Full b L xs base X S H ∧ Rel base X S H w
/-- both sides answer alike, and stay alike -/
def Sam (b L : Nat) (xs : Nat → Int32) (base Mx Mm : Nat) (as : List Value) (H : pH) : Prop := ∃ r H1 H2, pCa Mx 2047 (.ref base :: as) H = some (.inl (some (.int r)), H1) ∧ pCa Mm 2047 (.ref (base + 14) :: as) H1 = some (.inl (some (.int r)), H2) ∧ H1.1 b = some (.inl (9, L, .inl xs)) ∧ pcl H1 (base + 14) = 3 ∧ Good b L xs base H2 ∧ H2.2.1 ≤ H.2.1 + 1000 ∧ H2.2.2 ≤ H.2.2 + 10000
section
variable {b L base Mx Mm : Nat} {xs : Nat → Int32} {X X' : XS} {S S' : MS} {H h : pH} {w w' : Wld} {as : List Value} {r : Int32}
theorem Full.pm (F : Full b L xs base X S H) : pcl H (base + 14) = 3 := by
  have := F.m 0 (by decide)
  rw [Nat.add_zero] at this
  exact pcl_of this
theorem Full.px (F : Full b L xs base X S H) : pcl H base = 1 := by
  have := F.x 0 (by decide)
  rw [Nat.add_zero] at this
  exact pcl_of this
theorem stp_mk (F : Full b L xs base X S H) (hx : pCa Mx 2047 (.ref base :: as) (xput H base X) = some (.inl (some (.int r)), xput h base X')) (g : Gx base H h) (hm : pCa Mm 2047 (.ref (base + 14) :: as) (mput (xput h base X') (base + 14) S) = some (.inl (some (.int r)), mput (xput h base X') (base + 14) S')) (R : Rel base X' S' h w') : Sam b L xs base Mx Mm as H := by
  have F1 := F.stepx (X' := X') g
  refine ⟨r, xput h base X', mput (xput h base X') (base + 14) S', ?_, ?_, F1.s, F1.pm, ⟨X', S', w', F1.stepm, R.fr ((Hle.putx (by omega)).tr (Hle.putm (by omega))) xrel.rf mrel.rf⟩, g.2.1, g.2.2.1⟩
  · rw [← hx, F.xid]
  · rw [← hm, F1.mid]
theorem stp_q (F : Full b L xs base X S H) (R : Rel base X S H w) (hq : ∀ h : pH, ∃ r S' X', pCa Mm 2047 (.ref (base + 14) :: as) (mput h (base + 14) S) = some (.inl (some (.int r)), mput h (base + 14) S') ∧ pCa Mx 2047 (.ref base :: as) (xput H base X) = some (.inl (some (.int r)), xput H base X') ∧ mrel S S' ∧ xrel X X') : Sam b L xs base Mx Mm as H := by
  obtain ⟨r, S1, X1, -, hx, -, xr⟩ := hq H
  obtain ⟨r2, S2, X2, hm2, hx2, m2, x2⟩ := hq (xput H base X1)
  rw [hx] at hx2
  have e := congrArg (fun z => z.map Prod.fst) hx2
  have e : r = r2 := by simpa using e
  subst e
  exact stp_mk F hx (Gw.rf.gx F.n) hm2 (R.fr Hle.rf xr m2)
theorem stp_0 (F : Full b L xs base X S H) (R : Rel base X S H w) (hq : ∀ h : pH, ∃ r, pCa Mm 2047 (.ref (base + 14) :: as) (mput h (base + 14) S) = some (.inl (some (.int r)), mput h (base + 14) S) ∧ pCa Mx 2047 (.ref base :: as) (xput H base X) = some (.inl (some (.int r)), xput H base X)) : Sam b L xs base Mx Mm as H :=
  stp_q F R (fun h => by obtain ⟨r, h1, h2⟩ := hq h; exact ⟨r, S, X, h1, h2, mrel.rf, xrel.rf⟩)
theorem stp_s (F : Full b L xs base X S H) (R : Rel base X S H w) (hq : ∀ h : pH, ∃ r S' X', pCa Mm 2047 (.ref (base + 14) :: as) (mput h (base + 14) S) = some (.inl (some (.int r)), mput h (base + 14) S') ∧ pCa Mx 2047 (.ref base :: as) (xput H base X) = some (.inl (some (.int r)), xput H base X') ∧ msc S S' ∧ xsc X X') : Sam b L xs base Mx Mm as H :=
  stp_q F R (fun h => by obtain ⟨r, S', X', h1, h2, h3, h4⟩ := hq h; exact ⟨r, S', X', h1, h2, h3.rel, h4.rel⟩)
theorem Rel.xf0 (R : Rel base X S H w) : XF0 base X H w.G w.Fs w.fa := ⟨R.f.2.1.1, fun g hg => ⟨(R.f.2.1.2 g hg).1, by have := (R.f.2.1.2 g hg).2.1; omega, (R.f.2.1.2 g hg).2.2⟩⟩
theorem Rel.xs0 (R : Rel base X S H w) : XSo0 base X H w.n w.so w.sa := ⟨R.s.2.1.1, fun s hs => ⟨(R.s.2.1.2 s hs).1, by have := (R.s.2.1.2 s hs).2.1; omega, (R.s.2.1.2 s hs).2.2⟩⟩
theorem Rel.xr0 (R : Rel base X S H w) : XRu X H base w.Rn w.cls w.ra := ⟨R.r.2.1, fun r hr => ⟨(R.r.2.2 r hr).1, by
  obtain ⟨a1, a2, lo, hi, u1, u2, u3⟩ := (R.r.2.2 r hr).2
  exact ⟨a1, a2, lo, hi, by omega, u2, u3⟩⟩⟩
theorem s_hands (F : Full b L xs base X S H) (R : Rel base X S H w) (v : Int32) : Sam b L xs base 21 121 [.int v] H := stp_0 F R (fun h => q_hands (d := 2044) R.f.1 R.xf0.up v)
theorem s_ends (F : Full b L xs base X S H) (R : Rel base X S H w) (v u : Int32) : Sam b L xs base 16 116 [.int v, .int u] H := stp_0 F R (fun h => q_ends (d := 2043) R.f.1 R.xf0.up v u)
theorem s_holds (F : Full b L xs base X S H) (R : Rel base X S H w) (v u : Int32) : Sam b L xs base 22 122 [.int v, .int u] H := stp_0 F R (fun h => q_holds (d := 2043) R.f.1 R.xf0.up v u)
theorem s_bursts (F : Full b L xs base X S H) (R : Rel base X S H w) (v u : Int32) : Sam b L xs base 18 118 [.int v, .int u] H := stp_0 F R (fun h => q_bursts (d := 2043) R.f.1 R.xf0.up R.s.1 R.xs0.up R.f.2.2.2 v u)
theorem s_rest (F : Full b L xs base X S H) (R : Rel base X S H w) (v u : Int32) : Sam b L xs base 20 120 [.int v, .int u] H := stp_0 F R (fun h => q_rest (d := 2043) R.f.1 R.xf0.up R.s.1 R.xs0.up R.f.2.2.2 v u)
theorem s_many (F : Full b L xs base X S H) (R : Rel base X S H w) (v u : Int32) : Sam b L xs base 14 107 [.int v, .int u] H := stp_0 F R (fun h => q_many (d := 2043) R.f.1 R.xf0.up v u)
theorem s_pop (F : Full b L xs base X S H) (R : Rel base X S H w) (v u z : Int32) : Sam b L xs base 25 130 [.int v, .int u, .int z] H := stp_0 F R (fun h => q_pop (d := 2043) R.f.1 R.xf0.up v u z)
theorem s_weakest (F : Full b L xs base X S H) (R : Rel base X S H w) (v : Int32) : Sam b L xs base 26 134 [.int v] H := stp_0 F R (fun h => q_weakest (d := 2042) R.f.1 R.xf0.up v)
theorem s_strokes (F : Full b L xs base X S H) (R : Rel base X S H w) (v : Int32) : Sam b L xs base 37 145 [.int v] H := stp_0 F R (fun h => q_strokes (d := 2042) R.f.1 R.xf0.up v)
theorem s_far (F : Full b L xs base X S H) (R : Rel base X S H w) (v u z : Int32) : Sam b L xs base 34 142 [.int v, .int u, .int z] H := stp_s F R (fun h => q_far (d := 2043) R.f.1 R.xf0 v u z)
theorem s_span (F : Full b L xs base X S H) (R : Rel base X S H w) (v : Int32) : Sam b L xs base 36 144 [.int v] H := stp_s F R (fun h => q_span (d := 2043) R.f.1 R.xf0 v)
theorem s_twice (F : Full b L xs base X S H) (R : Rel base X S H w) (v : Int32) : Sam b L xs base 44 153 [.int v] H := stp_s F R (fun h => q_twice (d := 2017) R.f.1 R.xf0 v)
theorem s_made (F : Full b L xs base X S H) (R : Rel base X S H w) (v u : Int32) : Sam b L xs base 38 147 [.int v, .int u] H := stp_s F R (fun h => q_made (d := 2041) R.f.1 R.s.1 R.xf0 R.xs0 v u)
theorem s_set (F : Full b L xs base X S H) (R : Rel base X S H w) (v u z : Int32) : Sam b L xs base 42 152 [.int v, .int u, .int z] H := stp_s F R (fun h => q_set (d := 2041) R.f.1 R.s.1 R.xf0 R.xs0 v u z)
theorem s_alike (F : Full b L xs base X S H) (R : Rel base X S H w) (v u : Int32) : Sam b L xs base 28 135 [.int v, .int u] H := stp_s F R (fun h => q_alike (d := 2034) R.f.1 R.xf0 v u)
theorem s_match (F : Full b L xs base X S H) (R : Rel base X S H w) (v u z : Int32) : Sam b L xs base 33 141 [.int v, .int u, .int z] H := stp_s F R (fun h => q_match (d := 2034) R.f.1 R.xf0 v u z)
theorem s_aged (F : Full b L xs base X S H) (R : Rel base X S H w) (v u z y : Int32) : Sam b L xs base 55 163 [.int v, .int u, .int z, .int y] H := stp_s F R (fun h => q_aged (d := 1837) R.f.1 R.xf0 R.s.1 R.xs0 R.f.2.2.2 R.r.1 R.xr0 v u z y)
theorem s_falls (F : Full b L xs base X S H) (R : Rel base X S H w) (v u z : Int32) : Sam b L xs base 60 166 [.int v, .int u, .int z] H := stp_s F R (fun h => q_falls (d := 1837) R.f.1 R.xf0 R.s.1 R.xs0 R.f.2.2.2 R.r.1 R.xr0 v u z)
theorem s_count (F : Full b L xs base X S H) (R : Rel base X S H w) (v : Int32) : Sam b L xs base 61 167 [.int v] H := stp_0 F R (fun h => q_count (d := 2047) (R.s.1.2.1.trans R.s.2.1.1.symm) (R.f.1.2.1.trans R.f.2.1.1.symm) (R.g.mk1.trans R.g.xk.symm) (R.t.1.1.trans R.t.2.1.1.symm) (R.r.1.2.1.trans R.r.2.1.symm) v)
end
