/-! HANDS 4: how many hands, told at the end (plain part) -/
set_option maxRecDepth 100000
def mxn (f : Nat → Nat) : Nat → Nat
  | 0 => 0
  | n + 1 => max (mxn f n) (f n)
theorem mxn_cong {f g : Nat → Nat} : ∀ n, (∀ k, k < n → f k = g k) → mxn f n = mxn g n := by
  intro n
  induction n with
  | zero => intro _; rfl
  | succ n ih => intro h; rw [mxn, mxn, ih (fun k hk => h k (by omega)), h n (by omega)]
theorem mxn_le {f : Nat → Nat} {c : Nat} : ∀ n, (∀ k, k < n → f k ≤ c) → mxn f n ≤ c := by
  intro n
  induction n with
  | zero => intro _; exact Nat.zero_le _
  | succ n ih => intro h; rw [mxn]; have := ih (fun k hk => h k (by omega)); have := h n (by omega); omega
/-- hands of the first b + 1 bubbles of a figure -/
def hnb (F : Fig) (b : Nat) : Nat := fb_ct (fun k => fTw F k && decide (fb_sm (fEn F (F.2.1 1 k) (aI (b + 1))) (F.1 0) < 3)) b
def hnd (F : Fig) : Nat := mxn (hnb F) (F.1 0)
theorem hnd_le {F : Fig} (hk : FigOk F) : hnd F ≤ 24 := by
  have := hk.1
  refine mxn_le _ (fun k hk => ?_)
  have := fb_ct_le (fun j => fTw F j && decide (fb_sm (fEn F (F.2.1 1 j) (aI (k + 1))) (F.1 0) < 3)) k
  unfold hnb
  omega
/-- the hand as it was with b bubbles -/
def Hd.up (H : Hd) (b : Nat) : Hd := { H with nb := b }
def Hd.mq (H : Hd) : Prop := H.mo = mxn (fun b => (H.up (b + 1)).hel) H.nb
theorem hel_cong {H K : Hd} (hn : H.nb = K.nb) (hj : H.jo = K.jo) (hf : ∀ k, k < K.nb → H.fr k = K.fr k ∧ H.tq k = K.tq k ∧ H.ba k = K.ba k) : H.hel = K.hel := by
  unfold Hd.hel
  rw [hn]
  refine fb_ct_cong (fun k hk => ?_)
  obtain ⟨a1, a2, a3⟩ := hf k (by omega)
  obtain ⟨b1, b2, b3⟩ := hf (k + 1) (by omega)
  have en : ∀ r, H.en r = K.en r := by
    intro r
    unfold Hd.en
    rw [hn]
    refine fb_sm_cong (fun i hi => ?_)
    obtain ⟨c1, c2, c3⟩ := hf i hi
    unfold Hd.e1
    rw [hj, c1, c2]
  unfold Hd.h1
  rw [a2, a3, b3, en, hj]
theorem mq_add {H : Hd} {l : Int32} {a b o : Nat} (h : H.mq) : (H.add l a b o).mq := by
  unfold Hd.mq at h ⊢
  show max H.mo (H.ad0 l a b o).hel = mxn _ (H.nb + 1)
  rw [mxn, h]
  congr 1
  refine mxn_cong _ (fun k hk => ?_)
  refine hel_cong rfl rfl (fun i hi => ?_)
  have hi : i < k + 1 := hi
  refine ⟨?_, ?_, ?_⟩
  · show H.fr i = un H.fr H.nb a i
    rw [un_c (by omega)]
  · show H.tq i = un H.tq H.nb b i
    rw [un_c (by omega)]
  · show H.ba i = un H.ba H.nb o i
    rw [un_c (by omega)]
theorem sm_cut {f : Nat → Nat} {c : Nat} : ∀ n, c ≤ n → fb_sm (fun i => if i < c then f i else 0) n = fb_sm f c := by
  intro n
  induction n with
  | zero => intro h; rw [show c = 0 by omega]; rfl
  | succ n ih =>
    intro h
    by_cases e : c = n + 1
    · subst e
      exact fb_sm_cong (fun k hk => by simp [hk])
    · rw [fb_sm_succ, ih (by omega), if_neg (by omega), Nat.add_zero]
theorem hel_hb {H : Hd} (hk : HdOk H) {b : Nat} (hb0 : b < H.nb) : (H.up (b + 1)).hel = hnb (figOf H) b := by
  have hnB := hk.b
  unfold Hd.hel hnb
  show fb_ct _ (b + 1 - 1) = _
  rw [Nat.add_sub_cancel]
  refine fb_ct_cong (fun k hk1 => ?_)
  obtain ⟨f1, f2, f3⟩ := hk.f k (by omega)
  unfold Hd.h1
  show (H.ba k == H.ba (k + 1) && _) = _
  have e1 : fTw (figOf H) k = (H.ba k == H.ba (k + 1)) := by
    show (decide (k + 1 < H.nb) && _) = _
    rw [decide_eq_true (by omega), Bool.true_and]
    rfl
  rw [e1]
  congr 2
  have e2 : (H.up (b + 1)).en (ro H.jo (H.tq k)) = fb_sm (fEn (figOf H) ((figOf H).2.1 1 k) (aI (b + 1))) ((figOf H).1 0) := by
    show _ = fb_sm _ H.nb
    have e3 : fb_sm (fEn (figOf H) ((figOf H).2.1 1 k) (aI (b + 1))) H.nb = fb_sm (fun i => if i < b + 1 then H.e1 (ro H.jo (H.tq k)) i else 0) H.nb := by
      refine fb_sm_cong (fun i hi => ?_)
      obtain ⟨g1, g2, g3⟩ := hk.f i hi
      unfold fEn
      rw [bt_aI _ (by omega) _ (by omega)]
      by_cases q : i < b + 1
      · rw [if_pos (decide_eq_true q), if_pos q]
        show (if nmb H (H.fr i) = nmb H (H.tq k) then 1 else 0) + (if nmb H (H.tq i) = nmb H (H.tq k) then 1 else 0) = _
        simp only [nmb_inj hk g1 f2, nmb_inj hk g2 f2]
        rfl
      · rw [if_neg (by simp [q]), if_neg q]
    rw [e3, sm_cut _ (by omega)]
    rfl
  rw [show (H.up (b + 1)).jo = H.jo from rfl, show (H.up (b + 1)).tq = H.tq from rfl, e2]
/-- all joins told at the beginning: the hands are the figure's -/
theorem mo_hnd {H : Hd} (hk : HdOk H) (hm : H.mq) : H.mo = hnd (figOf H) := by
  rw [hm]
  exact mxn_cong _ (fun k hk' => hel_hb hk hk')
