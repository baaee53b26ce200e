/-! FIGURES MADE OF FIGURES 3: the component's add -/
set_option maxRecDepth 100000
/-- what holds of all figures: few points; neighbours of one balloon share a point -/
def FigX (F : Fig) : Prop := F.1 2 ≤ F.1 0 + F.1 1 ∧ ∀ k, k + 1 < F.1 0 → F.2.1 2 k = F.2.1 2 (k + 1) → F.2.1 1 k = F.2.1 0 (k + 1)
def adJ (F1 F2 : Fig) (p q : Nat) : Hd := (ptN (F1.1 2 + F2.1 2)).joi p (F1.1 2 + q)
def adG (F1 F2 : Fig) (p q : Nat) : Hd := tkN ((adJ F1 F2 p q).sor F1) F1 0 (adJ F1 F2 p q).nl (F1.1 0)
def adH (F1 F2 : Fig) (p q : Nat) : Hd := tkN ((adG F1 F2 p q).sor F2) F2 (F1.1 2) (adG F1 F2 p q).nl (F2.1 0)
section
variable {F1 F2 : Fig} {p q : Nat}
theorem adJ_f (hp : p < F1.1 2) (hq : q < F2.1 2) : (adJ F1 F2 p q).np = F1.1 2 + F2.1 2 ∧ (adJ F1 F2 p q).nb = 0 ∧ (adJ F1 F2 p q).nl = 0 ∧ (adJ F1 F2 p q).mo = 0 ∧ ∀ r, r < F1.1 2 + F2.1 2 → (adJ F1 F2 p q).jo r = if r = F1.1 2 + q then p else r := by
  obtain ⟨h1, h2, h3, h4, h5, h6⟩ := ptN_f (F1.1 2 + F2.1 2)
  refine ⟨h1, h2, h3, h4, fun r hr => ?_⟩
  show un (ptN (F1.1 2 + F2.1 2)).jo _ _ r = _
  rw [ro_fix (h6 p (by omega)), ro_fix (h6 (F1.1 2 + q) (by omega)), Nat.max_eq_right (by omega), Nat.min_eq_left (by omega)]
  unfold un
  split
  · rfl
  · exact h6 r hr
theorem adJ_ok (hp : p < F1.1 2) (hq : q < F2.1 2) (hN : F1.1 2 + F2.1 2 ≤ 30) : HdOk (adJ F1 F2 p q) := by
  have h1 := (ptN_f (F1.1 2 + F2.1 2)).1
  exact (ptN_ok (by omega)).joi (by omega) (by omega)
theorem adG_f (hp : p < F1.1 2) (hq : q < F2.1 2) : (adG F1 F2 p q).np = F1.1 2 + F2.1 2 ∧ (adG F1 F2 p q).nb = F1.1 0 ∧ (adG F1 F2 p q).nl = F1.1 1 ∧ (adG F1 F2 p q).jo = (adJ F1 F2 p q).jo := by
  obtain ⟨j1, j2, j3, j4, j5⟩ := adJ_f hp hq
  obtain ⟨t1, t2, t3, t4, t5⟩ := tk_f (H := (adJ F1 F2 p q).sor F1) (F := F1) (a := 0) (c := (adJ F1 F2 p q).nl) (F1.1 0)
  refine ⟨t1.trans j1, ?_, ?_, t3⟩
  · refine t5.trans ?_
    show (adJ F1 F2 p q).nb + F1.1 0 = _
    omega
  · refine t2.trans ?_
    show (adJ F1 F2 p q).nl + F1.1 1 = _
    omega
theorem adH_f (hp : p < F1.1 2) (hq : q < F2.1 2) : (adH F1 F2 p q).np = F1.1 2 + F2.1 2 ∧ (adH F1 F2 p q).nb = F1.1 0 + F2.1 0 ∧ (adH F1 F2 p q).nl = F1.1 1 + F2.1 1 ∧ (adH F1 F2 p q).jo = (adJ F1 F2 p q).jo := by
  obtain ⟨j1, j2, j3, j4⟩ := adG_f hp hq
  obtain ⟨t1, t2, t3, t4, t5⟩ := tk_f (H := (adG F1 F2 p q).sor F2) (F := F2) (a := F1.1 2) (c := (adG F1 F2 p q).nl) (F2.1 0)
  refine ⟨t1.trans j1, ?_, ?_, t3.trans j4⟩
  · refine t5.trans ?_
    show (adG F1 F2 p q).nb + F2.1 0 = _
    omega
  · refine t2.trans ?_
    show (adG F1 F2 p q).nl + F2.1 1 = _
    omega
/-- bubbles of the first -/
theorem adH_1 (hp : p < F1.1 2) (hq : q < F2.1 2) {k : Nat} (hk : k < F1.1 0) : (adH F1 F2 p q).fr k = F1.2.1 0 k ∧ (adH F1 F2 p q).tq k = F1.2.1 1 k ∧ (adH F1 F2 p q).ba k = F1.2.1 2 k ∧ (adH F1 F2 p q).le k = F1.2.2 k := by
  obtain ⟨j1, j2, j3, j4⟩ := adG_f hp hq
  obtain ⟨i1, i2, i3, i4, i5⟩ := adJ_f hp hq
  have h1 := tk_lo (H := (adG F1 F2 p q).sor F2) (F := F2) (a := F1.1 2) (c := (adG F1 F2 p q).nl) (F2.1 0) k (show k < (adG F1 F2 p q).nb by omega)
  have h2 := tk_hi (H := (adJ F1 F2 p q).sor F1) (F := F1) (a := 0) (c := (adJ F1 F2 p q).nl) (F1.1 0) k hk
  have e : ((adJ F1 F2 p q).sor F1).nb + k = k := by show (adJ F1 F2 p q).nb + k = k; omega
  rw [e] at h2
  exact ⟨h1.1.trans (h2.1.trans (Nat.zero_add _)), h1.2.1.trans (h2.2.1.trans (Nat.zero_add _)), h1.2.2.1.trans (h2.2.2.1.trans (by rw [i3, Nat.zero_add])), h1.2.2.2.trans h2.2.2.2⟩
theorem adH_2 (hp : p < F1.1 2) (hq : q < F2.1 2) {k : Nat} (hk : k < F2.1 0) : (adH F1 F2 p q).fr (F1.1 0 + k) = F1.1 2 + F2.2.1 0 k ∧ (adH F1 F2 p q).tq (F1.1 0 + k) = F1.1 2 + F2.2.1 1 k ∧ (adH F1 F2 p q).ba (F1.1 0 + k) = F1.1 1 + F2.2.1 2 k ∧ (adH F1 F2 p q).le (F1.1 0 + k) = F2.2.2 k := by
  obtain ⟨j1, j2, j3, j4⟩ := adG_f hp hq
  have h2 := tk_hi (H := (adG F1 F2 p q).sor F2) (F := F2) (a := F1.1 2) (c := (adG F1 F2 p q).nl) (F2.1 0) k hk
  have e : ((adG F1 F2 p q).sor F2).nb + k = F1.1 0 + k := by show (adG F1 F2 p q).nb + k = _; omega
  rw [e] at h2
  rw [← j3]
  exact h2
theorem adH_s1 (hp : p < F1.1 2) (hq : q < F2.1 2) {b : Nat} (hb : b < F1.1 1) : (adH F1 F2 p q).so b = F1.2.1 3 b := by
  obtain ⟨j1, j2, j3, j4⟩ := adG_f hp hq
  obtain ⟨i1, i2, i3, i4, i5⟩ := adJ_f hp hq
  obtain ⟨t1, t2, t3, t4, t5⟩ := tk_f (H := (adG F1 F2 p q).sor F2) (F := F2) (a := F1.1 2) (c := (adG F1 F2 p q).nl) (F2.1 0)
  obtain ⟨u1, u2, u3, u4, u5⟩ := tk_f (H := (adJ F1 F2 p q).sor F1) (F := F1) (a := 0) (c := (adJ F1 F2 p q).nl) (F1.1 0)
  show (tkN ((adG F1 F2 p q).sor F2) F2 (F1.1 2) (adG F1 F2 p q).nl (F2.1 0)).so b = _
  rw [t4]
  show (if (adG F1 F2 p q).nl ≤ b ∧ b < (adG F1 F2 p q).nl + F2.1 1 then F2.2.1 3 (b - (adG F1 F2 p q).nl) else (adG F1 F2 p q).so b) = _
  rw [if_neg (by omega)]
  show (tkN ((adJ F1 F2 p q).sor F1) F1 0 (adJ F1 F2 p q).nl (F1.1 0)).so b = _
  rw [u4]
  show (if (adJ F1 F2 p q).nl ≤ b ∧ b < (adJ F1 F2 p q).nl + F1.1 1 then F1.2.1 3 (b - (adJ F1 F2 p q).nl) else (adJ F1 F2 p q).so b) = _
  rw [if_pos (by omega), i3, Nat.sub_zero]
theorem adH_s2 (hp : p < F1.1 2) (hq : q < F2.1 2) {b : Nat} (hb : b < F2.1 1) : (adH F1 F2 p q).so (F1.1 1 + b) = F2.2.1 3 b := by
  obtain ⟨j1, j2, j3, j4⟩ := adG_f hp hq
  obtain ⟨t1, t2, t3, t4, t5⟩ := tk_f (H := (adG F1 F2 p q).sor F2) (F := F2) (a := F1.1 2) (c := (adG F1 F2 p q).nl) (F2.1 0)
  show (tkN ((adG F1 F2 p q).sor F2) F2 (F1.1 2) (adG F1 F2 p q).nl (F2.1 0)).so _ = _
  rw [t4]
  show (if (adG F1 F2 p q).nl ≤ F1.1 1 + b ∧ F1.1 1 + b < (adG F1 F2 p q).nl + F2.1 1 then F2.2.1 3 (F1.1 1 + b - (adG F1 F2 p q).nl) else (adG F1 F2 p q).so (F1.1 1 + b)) = _
  rw [if_pos (by omega), j3, Nat.add_sub_cancel_left]
theorem adG_ok (hk1 : FigOk F1) (hp : p < F1.1 2) (hq : q < F2.1 2) (hN : F1.1 2 + F2.1 2 ≤ 30) (hn : F1.1 0 + F2.1 0 ≤ 24) (hl : F1.1 1 + F2.1 1 ≤ 6) : HdOk (adG F1 F2 p q) := by
  obtain ⟨i1, i2, i3, i4, i5⟩ := adJ_f hp hq
  refine tk_ok (sor_ok (adJ_ok hp hq hN) (by omega)) (show (adJ F1 F2 p q).nb + F1.1 0 ≤ 24 by omega) (fun b hb => ?_) _ (Nat.le_refl _)
  obtain ⟨u1, u2, u3⟩ := hk1.2.2.2.2.1 b hb
  exact ⟨show 0 + F1.2.1 0 b < (adJ F1 F2 p q).np by omega, show 0 + F1.2.1 1 b < (adJ F1 F2 p q).np by omega, show (adJ F1 F2 p q).nl + F1.2.1 2 b < (adJ F1 F2 p q).nl + F1.1 1 by omega⟩
theorem adH_ok (hk1 : FigOk F1) (hk2 : FigOk F2) (hp : p < F1.1 2) (hq : q < F2.1 2) (hN : F1.1 2 + F2.1 2 ≤ 30) (hn : F1.1 0 + F2.1 0 ≤ 24) (hl : F1.1 1 + F2.1 1 ≤ 6) : HdOk (adH F1 F2 p q) := by
  obtain ⟨j1, j2, j3, j4⟩ := adG_f hp hq
  refine tk_ok (sor_ok (adG_ok hk1 hp hq hN hn hl) (by omega)) (show (adG F1 F2 p q).nb + F2.1 0 ≤ 24 by omega) (fun b hb => ?_) _ (Nat.le_refl _)
  obtain ⟨u1, u2, u3⟩ := hk2.2.2.2.2.1 b hb
  exact ⟨show F1.1 2 + F2.2.1 0 b < (adG F1 F2 p q).np by omega, show F1.1 2 + F2.2.1 1 b < (adG F1 F2 p q).np by omega, show (adG F1 F2 p q).nl + F2.2.1 2 b < (adG F1 F2 p q).nl + F2.1 1 by omega⟩
theorem adH_mq (hp : p < F1.1 2) (hq : q < F2.1 2) : (adH F1 F2 p q).mq := by
  obtain ⟨i1, i2, i3, i4, i5⟩ := adJ_f hp hq
  exact tk_mq (sor_mq (tk_mq (sor_mq (mq_z i2 i4)) _)) _
theorem adF_ok (hk1 : FigOk F1) (hk2 : FigOk F2) (hp : p < F1.1 2) (hq : q < F2.1 2) (hN : F1.1 2 + F2.1 2 ≤ 30) (hn : F1.1 0 + F2.1 0 ≤ 24) (hl : F1.1 1 + F2.1 1 ≤ 6) : FigOk (figOf (adH F1 F2 p q)) := by
  obtain ⟨h1, h2, h3, h4⟩ := adH_f hp hq
  refine figOf_ok (adH_ok hk1 hk2 hp hq hN hn hl) (Nat.le_trans (fb_ct_le _ _) (by omega)) (fun b hb => ?_)
  rcases Nat.lt_or_ge b (F1.1 1) with e | e
  · rw [adH_s1 hp hq e]; exact hk1.2.2.2.2.2 b e
  · obtain ⟨c, rfl⟩ : ∃ c, b = F1.1 1 + c := ⟨b - F1.1 1, by omega⟩
    rw [adH_s2 hp hq (by omega)]; exact hk2.2.2.2.2.2 c (by omega)
theorem adF_s {n : Nat} (h1 : ∀ b, b < F1.1 1 → F1.2.1 3 b < n) (h2 : ∀ b, b < F2.1 1 → F2.2.1 3 b < n) (hp : p < F1.1 2) (hq : q < F2.1 2) : ∀ b, b < (figOf (adH F1 F2 p q)).1 1 → (figOf (adH F1 F2 p q)).2.1 3 b < n := by
  obtain ⟨g1, g2, g3, g4⟩ := adH_f hp hq
  intro b hb
  have hb : b < (adH F1 F2 p q).nl := hb
  show (adH F1 F2 p q).so b < n
  rcases Nat.lt_or_ge b (F1.1 1) with e | e
  · rw [adH_s1 hp hq e]; exact h1 b e
  · obtain ⟨c, rfl⟩ : ∃ c, b = F1.1 1 + c := ⟨b - F1.1 1, by omega⟩
    rw [adH_s2 hp hq (by omega)]; exact h2 c (by omega)
theorem adF_x (hk1 : FigOk F1) (hk2 : FigOk F2) (hx1 : FigX F1) (hx2 : FigX F2) (hp : p < F1.1 2) (hq : q < F2.1 2) : FigX (figOf (adH F1 F2 p q)) := by
  obtain ⟨h1, h2, h3, h4⟩ := adH_f hp hq
  obtain ⟨a1, a2⟩ := hx1
  obtain ⟨b1, b2⟩ := hx2
  refine ⟨?_, fun k hk e => ?_⟩
  · have := fb_ct_le (rr (adH F1 F2 p q)) (adH F1 F2 p q).np
    show fb_ct (rr (adH F1 F2 p q)) (adH F1 F2 p q).np ≤ (adH F1 F2 p q).nb + (adH F1 F2 p q).nl
    omega
  · have hk : k + 1 < (adH F1 F2 p q).nb := hk
    have e : (adH F1 F2 p q).ba k = (adH F1 F2 p q).ba (k + 1) := e
    show nmb _ ((adH F1 F2 p q).tq k) = nmb _ ((adH F1 F2 p q).fr (k + 1))
    congr 1
    rcases Nat.lt_or_ge (k + 1) (F1.1 0) with c | c
    · obtain ⟨u1, u2, u3, u4⟩ := adH_1 hp hq (k := k) (by omega)
      obtain ⟨v1, v2, v3, v4⟩ := adH_1 hp hq (k := k + 1) c
      rw [u2, v1]
      rw [u3, v3] at e
      exact a2 k c e
    · rcases Nat.lt_or_ge k (F1.1 0) with c2 | c2
      · obtain ⟨u1, u2, u3, u4⟩ := adH_1 hp hq (k := k) c2
        obtain ⟨v1, v2, v3, v4⟩ := adH_2 hp hq (k := 0) (by omega)
        have hkk : k + 1 = F1.1 0 + 0 := by omega
        rw [hkk, u3, v3] at e
        have := (hk1.2.2.2.2.1 k c2).2.2
        omega
      · clear c
        obtain ⟨c, rfl⟩ : ∃ c, k = F1.1 0 + c := ⟨k - F1.1 0, by omega⟩
        obtain ⟨u1, u2, u3, u4⟩ := adH_2 hp hq (k := c) (by omega)
        obtain ⟨v1, v2, v3, v4⟩ := adH_2 hp hq (k := c + 1) (by omega)
        rw [Nat.add_assoc] at e ⊢
        rw [u2, v1]
        rw [u3, v3] at e
        rw [b2 c (by omega) (by omega)]
end
section
variable {h : pH} {x d G : Nat} {X : XS}
abbrev cF : va_E := .inr (24, [.null, .null, .null, .null, .null, .null, .int 0, .int 0, .int 0, .int 0])
/-- a hand is done: the figure is made and kept -/
theorem xtail {gB : pH} {H : Hd} {o : Nat} (ho : o = h.2.1) (hgo : ∀ q, q < h.2.1 → gB.1 q = (xput h x X).1 q) (hx : x + 14 ≤ h.2.1) (hg : h.2.1 + 8 ≤ gB.2.1) (hk : HdOk H) (hS : X.1 5 = nI G) (hG : G < 12) : ∃ B gN, pcl (pnw (wput gB o (wOf H)) cF 10) gB.2.1 = 24 ∧ pCa 229 (d + 2) [.ref gB.2.1, .ref o] (pnw (wput gB o (wOf H)) cF 10) = some (.inl none, B) ∧ pcl B x = 1 ∧ pCa 13 (d + 2) [.ref x, .ref gB.2.1] B = some (.inl (some (.int (nI G))), xput gN x (upd X.1 5 (nI (G + 1)), X.2.1, uq X.2.2.1 3 G (some gB.2.1), X.2.2.2)) ∧ FigAt gN gB.2.1 (figOf H) ∧ gN.2.1 = gB.2.1 + 8 ∧ gN.2.2 = gB.2.2 + 176 ∧ ∀ q, q < h.2.1 → (q < x ∨ x + 14 ≤ q) → gN.1 q = h.1 q := by
  subst ho
  have gid : xput gB x X = gB := xput_id (fun j hj => by rw [hgo _ (by omega), xput_at hj])
  obtain ⟨Y, y1, y2, y3, y4, y5⟩ := xnew (d := d) (h := gB) (x := x) (X := X) (o := h.2.1) (H := H) (by omega) hg hk
  have hpn : pnw (wput gB h.2.1 (wOf H)) cF 10 = wput (pnw gB cF 10) h.2.1 (wOf H) := wO_pnw hg
  have hcy : pcl (xput (wput (yput (gr (xput gB x X) 8 176) gB.2.1 Y) h.2.1 (wOf H)) x X) gB.2.1 = 24 := by
    rw [xO_pcl (F := 0) (k := 0) (Or.inr (by omega))]
    exact pcl_of y2.1
  have hke := kX1_keep (d := d + 2) (X := X) (G := G) (f := gB.2.1) hS hG hcy
  refine ⟨xput (wput (yput (gr (xput gB x X) 8 176) gB.2.1 Y) h.2.1 (wOf H)) x X, wput (yput (gr (xput gB x X) 8 176) gB.2.1 Y) h.2.1 (wOf H), ?_, ?_, xCl, hke, y2, y3, y4, fun q hq hq2 => ?_⟩
  · rw [hpn, wq_pcl (Or.inr (by omega))]
    exact pcl_pnw (h := gB)
  · rw [hpn]
    rw [gid] at y1 ⊢
    exact y1
  · rw [y5 q (by omega) (Or.inl hq), xput_out hq2, hgo q hq, xput_out hq2]
theorem x_add {f1 f2 g1 g2 p q : Nat} {F1 F2 : Fig} (hS : X.1 5 = nI G) (hG : G < 12) (hx : x + 14 ≤ h.2.1) (q1 : X.2.2.1 3 g1 = some f1) (q2 : X.2.2.1 3 g2 = some f2) (hg1 : g1 < G) (hg2 : g2 < G) (hF1 : FigAt h f1 F1) (hF2 : FigAt h f2 F2) (hx1 : x + 14 ≤ f1) (hx2 : x + 14 ≤ f2) (hb1 : f1 + 7 ≤ h.2.1) (hb2 : f2 + 7 ≤ h.2.1) (hk1 : FigOk F1) (hk2 : FigOk F2) (hp : p < F1.1 2) (hq : q < F2.1 2) (hN : F1.1 2 + F2.1 2 ≤ 30) (hn : F1.1 0 + F2.1 0 ≤ 24) (hl : F1.1 1 + F2.1 1 ≤ 6) :
    ∃ h' f, pCa 27 (d + 10) [.ref x, .int (nI g1), .int (nI g2), .int (nI p), .int (nI q)] (xput h x X) = some (.inl (some (.int (nI G))), xput h' x (upd X.1 5 (nI (G + 1)), X.2.1, uq X.2.2.1 3 G (some f), X.2.2.2)) ∧ Gw x h h' ∧ h.2.1 ≤ f ∧ f + 8 ≤ h'.2.1 ∧ FigAt h' f (figOf (adH F1 F2 p q)) := by
  have hA1 := hF1.put (X := X) hx1
  have hA2 := hF2.put (X := X) hx2
  have ip1 := kX1_isPoint (d := d + 8) hS (by omega) hg1 q1 hA1 hk1 hp
  have ip2 := kX1_isPoint (d := d + 8) hS (by omega) hg2 q2 hA2 hk2 hq
  obtain ⟨x0, xf, xt, xl, xw, xs, xe, xb, xa, xp, -⟩ := hA1.o
  obtain ⟨z0, zf, zt, zl, zw, zs, ze, zb, za, zp, -⟩ := hA2.o
  have hi := kX23_init (d := d + 8) (h := xput h x X) (n0 := h.2.1) rfl
  have hcx : pcl (pnw (xput h x X) (.inr (23, [.null, .null, .null, .null, .null, .null, .null, .int 0, .int 0, .int 0, .int 0, .int 0])) 12) h.2.1 = 23 := pcl_pnw (h := xput h x X)
  let gB : pH := gr (xput h x X) 8 154
  have hi : pCa 219 (d + 9) [.ref h.2.1] (pnw (xput h x X) (.inr (23, [.null, .null, .null, .null, .null, .null, .null, .int 0, .int 0, .int 0, .int 0, .int 0])) 12) = some (.inl none, wput gB h.2.1 (wOf Hd0)) := hi
  have hB1 : FigAt gB f1 F1 := hA1
  have hB2 : FigAt gB f2 F2 := hA2
  have n1 := hk1.1
  have n2 := hk2.1
  have m1 := hk1.2.1
  have m2 := hk2.2.1
  obtain ⟨B, gN, t1, t2, t3, t4, t5, t6, t7, t8⟩ := xtail (d := d + 7) (h := h) (x := x) (X := X) (gB := gB) (H := adH F1 F2 p q) (o := h.2.1) rfl (fun q hq => rfl) hx (Nat.le_refl _) (adH_ok hk1 hk2 hp hq hN hn hl) hS hG
  have hg21 : gB.2.1 = h.2.1 + 8 := rfl
  have hg22 : gB.2.2 = h.2.2 + 154 := rfl
  refine ⟨gN, gB.2.1, ?_, ⟨by omega, by omega, by omega, t8⟩, by omega, by omega, t5⟩
  rw [eX1_add]
  simp (disch := first | assumption | omega | decide) only [pis_i, pis_l, pis_r, pis_n, p1_i, p1_r, p1_n, p1_u, pw0, pw1, pw2, pw3, pw4, pK_v, pK_0, pK_ite, if_true, if_false, if_pos, if_neg, Nat.reduceAdd, pok_r, i10, i01, Bool.true_or, Bool.or_true, Bool.and_true, Bool.true_and, Nat.add_sub_cancel, i1p1, i1p0, i0p1, i0p0, nIrem2, va_rf_s, bit1, bit0, pinT, pinLT, pin0, nIc, nIcL, nIlt, nIeq, nIltL, nILlt, nIeqL, nILeq, nIadL, nILad, nILmu, nI_add, nIsbL, nI_sub', decide_true, decide_false, Bool.false_or, Bool.or_false, rX1_add_0, rX1_add_1, rX1_add_2, rX1_add_3, rX1_add_6, rX1_add_9, rX1_add_10, rX1_add_11, rX1_add_13, rX1_add_16, rX1_add_19, rX1_add_20, rX1_add_23, rX1_add_25, rX1_add_28, rX1_add_29, rX1_add_30, rX1_add_31, rX1_add_34, rX1_add_35, rX1_add_36, rX1_add_36n, rX1_add_38, rX1_add_39, rX1_add_42, rX1_add_43, rX1_add_44, rX1_add_44n, rX1_add_46, rX1_add_46n, rX1_add_48, rX1_add_51, rX1_add_51n, rX1_add_53, rX1_add_56, rX1_add_57, rX1_add_59, rX1_add_62, rX1_add_62n, rX1_add_64, rX1_add_67, rX1_add_67n, rX1_add_69, rX1_add_72, rX1_add_73, rX1_add_75, rX1_add_78, rX1_add_79, rX1_add_80, rX1_add_83, rX1_add_83i, rX1_add_84, rX1_add_87, rX1_add_87n, rX1_add_89, rX1_add_90, xCl, xF0, xF1, xP1, xF2, xF3, xP3, xF4, xF5, xP5, xF6, xF7, xF8, xF9, xF10, xF11, xF12, xP12, xF13, xP13, xF14, xP14, xF15, xP15, xF16, xP16, xF17, xP17, xF18, xF19, xF20, xP20, xF21, xF22, xP22, xL2, xL2n, xC2, xW2, xL4, xL4n, xC4, xW4, xL5, xL5n, xC5, xW5, xL6, xL6n, xC6, xW6, xL7, xL7n, xC7, xW7, xL8, xL8n, xC8, xW8, xL12, xL12n, xC12, xW12, xL13, xL13n, xC13, xW13, xL1, xK1, xC1, xW1, xL3, xK3, xC3, xW3, xL9, xK9, xC9, xW9, xL10, xK10, xC10, xW10, xLf, xLc, hS, ip1, ip2, q1, q2, va_rf_s, x0, xb, xa, z0, zb, za, xput_21, hcx, hi]
  clear_value gB
  have main := loopP (N := F1.1 2 + F2.1 2) (P := fun k => ∀ q9 : Value, p1 q9 = true → pR 27 (d + 10) 92 [.ref x, .int (nI g1), .int (nI g2), .int (nI p), .int (nI q), .ref f1, .ref f2, .ref h.2.1, .int (nI k), q9] [] (wput gB h.2.1 (wOf (ptN k))) = some (.inl (some (.int (nI G))), xput gN x (upd X.1 5 (nI (G + 1)), X.2.1, uq X.2.2.1 3 G (some gB.2.1), X.2.2.2))) (fun k hkk hR q9 h9 => ?_) (fun q9 h9 => ?_) 0 (Nat.zero_le _)
  · exact main pU rfl
  · obtain ⟨c0, c1, c2, c3, c4, c5, c6, c7, c8, c9, -⟩ := (hB1.wp (W := wOf (ptN k)) (Or.inl hb1)).o
    obtain ⟨e0, e1, e2, e3, e4, e5, e6, e7, e8, e9, -⟩ := (hB2.wp (W := wOf (ptN k)) (Or.inl hb2)).o
    have hnp := (ptN_f k).1
    have hpt := kX23_point (d := d + 9) (h := gB) (o := h.2.1) (H := ptN k) (by omega)
    rw [rX1_add_92]
    simp (disch := first | assumption | omega | decide) only [pis_i, pis_l, pis_r, pis_n, p1_i, p1_r, p1_n, p1_u, pw0, pw1, pw2, pw3, pw4, pK_v, pK_0, pK_ite, if_true, if_false, if_pos, if_neg, Nat.reduceAdd, pok_r, i10, i01, Bool.true_or, Bool.or_true, Bool.and_true, Bool.true_and, Nat.add_sub_cancel, i1p1, i1p0, i0p1, i0p0, nIrem2, va_rf_s, bit1, bit0, pinT, pinLT, pin0, nIc, nIcL, nIlt, nIeq, nIltL, nILlt, nIeqL, nILeq, nIadL, nILad, nILmu, nI_add, nIsbL, nI_sub', decide_true, decide_false, Bool.false_or, Bool.or_false, rX1_add_94, rX1_add_94n, rX1_add_96, rX1_add_99, rX1_add_99n, rX1_add_101, rX1_add_104, rX1_add_105, rX1_add_108, rX1_add_108n, rX1_add_110, rX1_add_113, rX1_add_115, rX1_add_118, wCl, wF0, wF1, wF2, wF3, wF4, wF5, wF6, wF7, wP7, wF8, wP8, wF9, wP9, wF10, wP10, wF11, wP11, wL1, wL1n, wC1, wW1, wL2, wL2n, wC2, wW2, wL3, wL3n, wC3, wW3, wL4, wL4n, wC4, wW4, wL5, wL5n, wC5, wW5, wL6, wL6n, wC6, wW6, wL7, wL7n, wC7, wW7, c9, e9, hpt]
    exact hR _ rfl
  · obtain ⟨c0, c1, c2, c3, c4, c5, c6, c7, c8, c9, -⟩ := (hB1.wp (W := wOf (ptN (F1.1 2 + F2.1 2))) (Or.inl hb1)).o
    obtain ⟨e0, e1, e2, e3, e4, e5, e6, e7, e8, e9, -⟩ := (hB2.wp (W := wOf (ptN (F1.1 2 + F2.1 2))) (Or.inl hb2)).o
    obtain ⟨-, -, -, -, -, -, -, -, -, c9', -⟩ := (hB1.wp (W := wOf (adG F1 F2 p q)) (Or.inl hb1)).o
    have hnp := (ptN_f (F1.1 2 + F2.1 2)).1
    have hjo := kX23_joins (d := d + 8) (h := gB) (o := h.2.1) (ptN_ok (k := F1.1 2 + F2.1 2) (by omega)) (p := p) (q := F1.1 2 + q) (by omega) (by omega)
    have hjo : pCa 227 (d + 9) [.ref h.2.1, .int (nI p), .int (nI (F1.1 2 + q))] (wput gB h.2.1 (wOf (ptN (F1.1 2 + F2.1 2)))) = some (.inl none, wput gB h.2.1 (wOf (adJ F1 F2 p q))) := hjo
    obtain ⟨i1, i2, i3, i4, i5⟩ := adJ_f (F1 := F1) (F2 := F2) hp hq
    obtain ⟨j1, j2, j3, j4⟩ := adG_f (F1 := F1) (F2 := F2) hp hq
    have ht1 := kX23_takes (d := d + 5) (o := h.2.1) (a := 0) hB1 (Or.inl hb1) hk1 (adJ_ok hp hq hN) (by omega) (by omega) (by omega)
    have ht1 : pCa 228 (d + 9) [.ref h.2.1, .ref f1, .int 0] (wput gB h.2.1 (wOf (adJ F1 F2 p q))) = some (.inl none, wput gB h.2.1 (wOf (adG F1 F2 p q))) := ht1
    have ht2 := kX23_takes (d := d + 5) (o := h.2.1) (a := F1.1 2) hB2 (Or.inl hb2) hk2 (adG_ok hk1 hp hq hN hn hl) (by omega) (by omega) (by omega)
    have ht2 : pCa 228 (d + 9) [.ref h.2.1, .ref f2, .int (nI (F1.1 2))] (wput gB h.2.1 (wOf (adG F1 F2 p q))) = some (.inl none, wput gB h.2.1 (wOf (adH F1 F2 p q))) := ht2
    rw [rX1_add_92]
    simp (disch := first | assumption | omega | decide) only [pis_i, pis_l, pis_r, pis_n, p1_i, p1_r, p1_n, p1_u, pw0, pw1, pw2, pw3, pw4, pK_v, pK_0, pK_ite, if_true, if_false, if_pos, if_neg, Nat.reduceAdd, pok_r, i10, i01, Bool.true_or, Bool.or_true, Bool.and_true, Bool.true_and, Nat.add_sub_cancel, i1p1, i1p0, i0p1, i0p0, nIrem2, va_rf_s, bit1, bit0, pinT, pinLT, pin0, nIc, nIcL, nIlt, nIeq, nIltL, nILlt, nIeqL, nILeq, nIadL, nILad, nILmu, nI_add, nIsbL, nI_sub', decide_true, decide_false, Bool.false_or, Bool.or_false, rX1_add_94, rX1_add_94n, rX1_add_96, rX1_add_99, rX1_add_99n, rX1_add_101, rX1_add_104, rX1_add_105, rX1_add_121, rX1_add_121n, rX1_add_123, rX1_add_124, rX1_add_124n, rX1_add_126, rX1_add_129, rX1_add_131, rX1_add_132, rX1_add_135, rX1_add_135n, rX1_add_137, rX1_add_137n, rX1_add_139, rX1_add_140, rX1_add_143, rX1_add_143n, rX1_add_145, rX1_add_145n, rX1_add_147, rX1_add_147n, rX1_add_149, rX1_add_152, rX1_add_155, rX1_add_156, rX1_add_159, rX1_add_159i, rX1_add_160, rX1_add_160n, rX1_add_162, rX1_add_165, rX1_add_168, wCl, wF0, wF1, wF2, wF3, wF4, wF5, wF6, wF7, wP7, wF8, wP8, wF9, wP9, wF10, wP10, wF11, wP11, wL1, wL1n, wC1, wW1, wL2, wL2n, wC2, wW2, wL3, wL3n, wC3, wW3, wL4, wL4n, wC4, wW4, wL5, wL5n, wC5, wW5, wL6, wL6n, wC6, wW6, wL7, wL7n, wC7, wW7, c9, c9', e9, hjo, ht1, ht2, wput_21, t1, t2, t3, t4]
end
