/-! THE RELATION of the two sides -/
set_option maxRecDepth 100000
/-- a heap that keeps what lies from lo on -/
def Hle (lo : Nat) (h h' : pH) : Prop := h.2.1 ≤ h'.2.1 ∧ ∀ q, lo ≤ q → q < h.2.1 → h'.1 q = h.1 q
theorem Hle.rf {lo : Nat} {h : pH} : Hle lo h h := ⟨Nat.le_refl _, fun _ _ _ => rfl⟩
theorem Hle.tr {lo : Nat} {a b c : pH} (h1 : Hle lo a b) (h2 : Hle lo b c) : Hle lo a c := ⟨Nat.le_trans h1.1 h2.1, fun q q1 q2 => (h2.2 q q1 (Nat.lt_of_lt_of_le q2 h1.1)).trans (h1.2 q q1 q2)⟩
theorem Gw.hle {x : Nat} {h h' : pH} (g : Gw x h h') : Hle (x + 50) h h' := ⟨g.1, fun q q1 q2 => g.2.2.2 q q2 (Or.inr (by omega))⟩
theorem FigAt.hl {lo : Nat} {h h' : pH} {f : Nat} {F : Fig} (hF : FigAt h f F) (hl : Hle lo h h') (h1 : lo ≤ f) (h2 : f + 7 ≤ h.2.1) : FigAt h' f F := hF.cg (fun j hj => hl.2 _ (by omega) (by omega))
def RF (base : Nat) (X : XS) (S : MS) (h : pH) (G n : Nat) (Fs : Nat → Fig) (fa : Nat → Nat) : Prop := MF S G Fs ∧ XF0 (base + 36) X h G Fs fa ∧ (∀ g, g < G → fa g + 7 ≤ h.2.1 ∧ FigX (Fs g)) ∧ FSo Fs G n
def RSo (base : Nat) (X : XS) (S : MS) (h : pH) (n : Nat) (so : Nat → Nat → Int32) (sa : Nat → Nat) : Prop := MSo S n so ∧ XSo0 (base + 36) X h n so sa ∧ (∀ s, s < n → sa s < h.2.1) ∧ (∀ s, s < n → ∃ a, a < 1000 ∧ so s 3 = nI a) ∧ inj n sa ∧ ∀ s, n ≤ s → s < 6 → S.2.1 4 s = 0
def RT (X : XS) (S : MS) (t : Tp) : Prop := MTp S t ∧ XTp X t ∧ t.1 ≤ 200
def RRu (base : Nat) (X : XS) (S : MS) (h : pH) (Rn : Nat) (cls : Nat → List Cl) (ra : Nat → Nat) : Prop := MRu S Rn cls ∧ XRu X h (base + 36) Rn cls ra
structure Gst where
  K : Nat
  R : Nat
  gw : Nat → Nat
  c : Nat → Int32
  p : Nat → Int32
  ga : Nat → Nat
  r : Nat → Nat → Int32
structure RGu (base : Nat) (X : XS) (S : MS) (h : pH) (G : Nat) (fa : Nat → Nat) (g : Gst) : Prop where
  mk1 : S.1 45 = nI g.K
  xk : X.1 12 = nI g.K
  k : g.K ≤ 30
  i : inj g.K g.ga
  d : ∀ k, k < g.K → g.gw k < G ∧ S.2.1 28 k = g.c k ∧ S.2.1 29 k = nI (g.gw k) ∧ S.2.1 30 k = g.p k
  x : ∀ k, k < g.K → X.2.2.1 9 k = some (g.ga k) ∧ base + 50 ≤ g.ga k ∧ g.ga k < h.2.1 ∧ h.1 (g.ga k) = some (.inr (25, [.ref (fa (g.gw k)), .int (g.c k), .int (g.p k), .int (g.r k 0), .int (g.r k 1), .int (g.r k 2), .int (g.r k 3)]))
  l : X.1 16 = if g.K = 0 then 0 else S.2.1 28 (g.K - 1)
  rk : g.R ≤ g.K
  xr : X.1 13 = nI g.R
  mr : S.1 46 = nI g.R
  w : ∀ k, k < g.R → ∀ j, j < 4 → S.2.1 31 (4 * k + j) = g.r k j
def RPa (X : XS) (S : MS) : Prop := X.1 14 = S.1 47 ∧ X.1 15 = S.1 48
section
variable {base : Nat} {X X' : XS} {S S' : MS} {h h' : pH} {G n Rn : Nat} {Fs : Nat → Fig} {fa sa ra : Nat → Nat} {so : Nat → Nat → Int32} {cls : Nat → List Cl} {t : Tp} {g : Gst}
theorem MFig.ea {k : Nat} {F : Fig} (hF : MFig S k F) (e : ∀ j, 6 ≤ j → j ≤ 14 → S'.2.1 j = S.2.1 j) : MFig S' k F := by
  unfold MFig at *
  rw [e 8 (by decide) (by decide), e 6 (by decide) (by decide), e 9 (by decide) (by decide), e 14 (by decide) (by decide), e 11 (by decide) (by decide), e 12 (by decide) (by decide), e 13 (by decide) (by decide), e 7 (by decide) (by decide), e 10 (by decide) (by decide)]
  exact hF
theorem RF.fr (H : RF base X S h G n Fs fa) (hl : Hle (base + 50) h h') (e1 : X'.1 5 = X.1 5) (e2 : X'.2.2.1 3 = X.2.2.1 3) (e3 : S'.1 20 = S.1 20) (e4 : ∀ j, 6 ≤ j → j ≤ 14 → S'.2.1 j = S.2.1 j) : RF base X' S' h' G n Fs fa := by
  obtain ⟨⟨a1, a2, a3⟩, ⟨b1, b2⟩, c, d⟩ := H
  refine ⟨⟨a1, e3.trans a2, fun k hk => ⟨(a3 k hk).1.ea e4, (a3 k hk).2⟩⟩, ⟨e1.trans b1, fun k hk => ?_⟩, fun k hk => ⟨Nat.le_trans (c k hk).1 hl.1, (c k hk).2⟩, d⟩
  obtain ⟨u1, u2, u3⟩ := b2 k hk
  exact ⟨by rw [e2]; exact u1, u2, u3.hl hl (by omega) (c k hk).1⟩
theorem RSo.fr (H : RSo base X S h n so sa) (hl : Hle (base + 50) h h') (e1 : X'.1 1 = X.1 1) (e2 : X'.2.2.1 1 = X.2.2.1 1) (e3 : S'.1 5 = S.1 5) (e4 : ∀ j, 1 ≤ j → j ≤ 4 → S'.2.1 j = S.2.1 j) : RSo base X' S' h' n so sa := by
  obtain ⟨⟨a1, a2, a3⟩, ⟨b1, b2⟩, c, d, i, z⟩ := H
  refine ⟨⟨a1, e3.trans a2, fun k hk => ?_⟩, ⟨e1.trans b1, fun k hk => ?_⟩, fun k hk => Nat.lt_of_lt_of_le (c k hk) hl.1, d, i, by rw [e4 4 (by decide) (by decide)]; exact z⟩
  · rw [e4 1 (by decide) (by decide), e4 2 (by decide) (by decide), e4 3 (by decide) (by decide), e4 4 (by decide) (by decide)]; exact a3 k hk
  · obtain ⟨u1, u2, u3⟩ := b2 k hk
    refine ⟨by rw [e2]; exact u1, u2, ?_⟩
    unfold SoAt at *
    rw [hl.2 _ (by omega) (c k hk)]; exact u3
theorem RT.fr (H : RT X S t) (e1 : X'.1 3 = X.1 3) (e2 : X'.2.1 2 = X.2.1 2) (e3 : S'.1 7 = S.1 7) (e4 : S'.2.1 5 = S.2.1 5) : RT X' S' t := by
  obtain ⟨⟨a1, a2⟩, ⟨b1, b2⟩, c⟩ := H
  exact ⟨⟨e3.trans a1, fun i hi => by rw [e4]; exact a2 i hi⟩, ⟨e1.trans b1, fun i hi => by rw [e2]; exact b2 i hi⟩, c⟩
theorem RuAt.hl {x a : Nat} {cl : List Cl} (H : RuAt x h cl a) (hl : Hle (x + 14) h h') : RuAt x h' cl a := by
  obtain ⟨a1, a2, lo, hi, u1, u2, u3⟩ := H
  exact ⟨a1, a2, lo, hi, u1, Nat.le_trans u2 hl.1, fun g' hg => u3 g' (fun q q1 q2 => (hg q q1 q2).trans (hl.2 q (by omega) (by omega)))⟩
theorem RRu.fr (H : RRu base X S h Rn cls ra) (hl : Hle (base + 50) h h') (e1 : X'.1 20 = X.1 20) (e2 : X'.2.2.1 10 = X.2.2.1 10) (e3 : S'.1 31 = S.1 31) (e4 : ∀ j, 18 ≤ j → j ≤ 21 → S'.2.1 j = S.2.1 j) : RRu base X' S' h' Rn cls ra := by
  obtain ⟨⟨a1, a2, a3⟩, ⟨b1, b2⟩⟩ := H
  refine ⟨⟨a1, e3.trans a2, fun k hk => ⟨by rw [e4 19 (by decide) (by decide)]; exact (a3 k hk).1, Rl_a (e4 18 (by decide) (by decide)) (e4 20 (by decide) (by decide)) (e4 21 (by decide) (by decide)) _ _ _ (a3 k hk).2⟩⟩, ⟨e1.trans b1, fun k hk => ⟨by rw [e2]; exact (b2 k hk).1, (b2 k hk).2.hl hl⟩⟩⟩
theorem RGu.fr (H : RGu base X S h G fa g) (hl : Hle (base + 50) h h') (e1 : X'.1 12 = X.1 12) (e2 : X'.1 13 = X.1 13) (e3 : X'.1 16 = X.1 16) (e4 : X'.2.2.1 9 = X.2.2.1 9) (e5 : S'.1 45 = S.1 45) (e6 : S'.1 46 = S.1 46) (e7 : ∀ j, 28 ≤ j → j ≤ 31 → S'.2.1 j = S.2.1 j) : RGu base X' S' h' G fa g := by
  obtain ⟨a1, a2, a3, a4, a5, a6, a7, a8, a9, a10, a11⟩ := H
  refine ⟨e5.trans a1, e1.trans a2, a3, a4, fun k hk => ?_, fun k hk => ?_, ?_, a8, e2.trans a9, e6.trans a10, fun k hk j hj => ?_⟩
  · rw [e7 28 (by decide) (by decide), e7 29 (by decide) (by decide), e7 30 (by decide) (by decide)]; exact a5 k hk
  · obtain ⟨u1, u2, u3, u4⟩ := a6 k hk
    exact ⟨by rw [e4]; exact u1, u2, Nat.lt_of_lt_of_le u3 hl.1, (hl.2 _ u2 u3).trans u4⟩
  · rw [e3, e7 28 (by decide) (by decide)]; exact a7
  · rw [e7 31 (by decide) (by decide)]; exact a11 k hk j hj
end
/-- the world -/
structure Wld where
  G : Nat
  n : Nat
  Rn : Nat
  Fs : Nat → Fig
  fa : Nat → Nat
  so : Nat → Nat → Int32
  sa : Nat → Nat
  cls : Nat → List Cl
  ra : Nat → Nat
  t : Tp
  g : Gst
structure Rel (base : Nat) (X : XS) (S : MS) (h : pH) (w : Wld) : Prop where
  f : RF base X S h w.G w.n w.Fs w.fa
  s : RSo base X S h w.n w.so w.sa
  t : RT X S w.t
  r : RRu base X S h w.Rn w.cls w.ra
  g : RGu base X S h w.G w.fa w.g
  p : RPa X S
/-- what of the two sides counts -/
def xrel (X X' : XS) : Prop := (∀ k, k = 1 ∨ k = 3 ∨ k = 5 ∨ k = 12 ∨ k = 13 ∨ k = 14 ∨ k = 15 ∨ k = 16 ∨ k = 20 → X'.1 k = X.1 k) ∧ X'.2.1 2 = X.2.1 2 ∧ X'.2.2.1 = X.2.2.1
def mrel (S S' : MS) : Prop := (∀ k, k = 5 ∨ k = 7 ∨ k = 20 ∨ k = 31 ∨ k = 45 ∨ k = 46 ∨ k = 47 ∨ k = 48 → S'.1 k = S.1 k) ∧ ∀ j, (1 ≤ j ∧ j ≤ 14) ∨ (18 ≤ j ∧ j ≤ 21) ∨ (28 ≤ j ∧ j ≤ 31) → S'.2.1 j = S.2.1 j
theorem xrel.rf {X : XS} : xrel X X := ⟨fun _ _ => rfl, rfl, rfl⟩
theorem mrel.rf {S : MS} : mrel S S := ⟨fun _ _ => rfl, fun _ _ => rfl⟩
theorem xsc.rel {X X' : XS} (h : xsc X X') : xrel X X' := ⟨fun k hk => h.1 k (by omega), h.2.1, h.2.2⟩
theorem msc.rel {S S' : MS} (h : msc S S') : mrel S S' := ⟨fun k hk => h.1 k (by omega) (by omega) (by omega) (by omega) (by omega) (by omega) (by omega) (by omega) (by omega), fun j hj => h.2 j (by omega) (by omega) (by omega) (by omega) (by omega) (by omega) (by omega)⟩
theorem Rel.fr {base : Nat} {X X' : XS} {S S' : MS} {h h' : pH} {w : Wld} (H : Rel base X S h w) (hl : Hle (base + 50) h h') (hx : xrel X X') (hm : mrel S S') : Rel base X' S' h' w := by
  obtain ⟨a1, a2, a3, a4, a5, a6⟩ := H
  obtain ⟨x1, x2, x3⟩ := hx
  obtain ⟨m1, m2⟩ := hm
  exact ⟨a1.fr hl (x1 5 (by decide)) (by rw [x3]) (m1 20 (by decide)) (fun j h1 h2 => m2 j (by omega)),
    a2.fr hl (x1 1 (by decide)) (by rw [x3]) (m1 5 (by decide)) (fun j h1 h2 => m2 j (by omega)),
    a3.fr (x1 3 (by decide)) x2 (m1 7 (by decide)) (m2 5 (by decide)),
    a4.fr hl (x1 20 (by decide)) (by rw [x3]) (m1 31 (by decide)) (fun j h1 h2 => m2 j (by omega)),
    a5.fr hl (x1 12 (by decide)) (x1 13 (by decide)) (x1 16 (by decide)) (by rw [x3]) (m1 45 (by decide)) (m1 46 (by decide)) (fun j h1 h2 => m2 j (by omega)),
    ⟨by rw [x1 14 (by decide), m1 47 (by decide)]; exact a6.1, by rw [x1 15 (by decide), m1 48 (by decide)]; exact a6.2⟩⟩
/-- the whole heap of the law -/
structure Full (b L : Nat) (xs : Nat → Int32) (base : Nat) (X : XS) (S : MS) (H : pH) : Prop where
  x : ∀ j, j < 14 → H.1 (base + j) = xcell base X j
  m : ∀ j, j < 35 → H.1 (base + 14 + j) = mcell (base + 14) S j
  s : H.1 b = some (.inl (9, L, .inl xs))
  o : ∃ f, H.1 (base + 49) = some (.inl (3, 1, .inr (.inl f)))
  n : base + 50 ≤ H.2.1
  bb : b < base
theorem mput_id {g : pH} {m : Nat} {S : MS} (h : ∀ j, j < 35 → g.1 (m + j) = mcell m S j) : mput g m S = g := by
  unfold mput
  refine Prod.ext ?_ rfl
  funext q
  show (if _ then _ else _) = _
  split
  · rename_i hq
    obtain ⟨j, rfl⟩ : ∃ j, q = m + j := ⟨q - m, by omega⟩
    rw [h j (by omega), Nat.add_sub_cancel_left]
  · rfl
section
variable {b L base : Nat} {xs : Nat → Int32} {X X' : XS} {S S' : MS} {H h : pH}
theorem Full.xid (F : Full b L xs base X S H) : xput H base X = H := xput_id F.x
theorem Full.mid (F : Full b L xs base X S H) : mput H (base + 14) S = H := mput_id F.m
/-- what a turn of the component may do -/
def Gx (base : Nat) (H h : pH) : Prop := H.2.1 ≤ h.2.1 ∧ h.2.1 ≤ H.2.1 + 1000 ∧ h.2.2 ≤ H.2.2 + 10000 ∧ ∀ q, q < base + 50 → (q < base ∨ base + 14 ≤ q) → h.1 q = H.1 q
theorem Gw.gx (g : Gw base H h) (hn : base + 50 ≤ H.2.1) : Gx base H h := ⟨g.1, g.2.1, g.2.2.1, fun q q1 q2 => g.2.2.2 q (by omega) q2⟩
/-- the component's turn -/
theorem Full.stepx (F : Full b L xs base X S H) (g : Gx base H h) : Full b L xs base X' S (xput h base X') := by
  obtain ⟨f1, f2, f3, f4, f5, f6⟩ := F
  obtain ⟨g1, g2, g3, g4⟩ := g
  refine ⟨fun j hj => xput_at hj, fun j hj => ?_, ?_, ?_, Nat.le_trans f5 g1, f6⟩
  · rw [xput_out (Or.inr (by omega)), g4 _ (by omega) (Or.inr (by omega))]; exact f2 j hj
  · rw [xput_out (Or.inl (by omega)), g4 _ (by omega) (Or.inl (by omega))]; exact f3
  · obtain ⟨f, hf⟩ := f4
    exact ⟨f, by rw [xput_out (Or.inr (by omega)), g4 _ (by omega) (Or.inr (by omega))]; exact hf⟩
/-- the model's turn -/
theorem Full.stepm (F : Full b L xs base X S H) : Full b L xs base X S' (mput H (base + 14) S') := by
  obtain ⟨f1, f2, f3, f4, f5, f6⟩ := F
  refine ⟨fun j hj => ?_, fun j hj => mput_at hj, ?_, ?_, f5, f6⟩
  · rw [mput_out (Or.inl (by omega))]; exact f1 j hj
  · rw [mput_out (Or.inl (by omega))]; exact f3
  · obtain ⟨f, hf⟩ := f4
    exact ⟨f, by rw [mput_out (Or.inr (by omega))]; exact hf⟩
theorem Hle.putx {lo : Nat} (hl : base + 14 ≤ lo) : Hle lo h (xput h base X') := ⟨Nat.le_refl _, fun q q1 _ => xput_out (Or.inr (by omega))⟩
theorem Hle.putm {lo : Nat} (hl : base + 49 ≤ lo) : Hle lo h (mput h (base + 14) S') := ⟨Nat.le_refl _, fun q q1 _ => mput_out (Or.inr (by omega))⟩
end
