/-! SOUNDNESS 17: the constructors that the pure machine does as one step -/
set_option maxRecDepth 100000
section
variable {h : pH} {o k j : Nat} {v w : Value}
theorem pup_pup {a : Nat} {x y : va_E} : pup (pup h a x) a y = pup h a y := by
  unfold pup
  simp only [Prod.mk.injEq, and_true]
  funext q
  by_cases hq : q = a <;> simp [hq]
theorem psf_psf : psf (psf h o k v) o k w = psf h o k w := by
  cases ho : h.1 o with
  | none => simp [psf, ho]
  | some x =>
    cases x with
    | inl x => simp [psf, ho]
    | inr x =>
      obtain ⟨c, fs⟩ := x
      simp only [psf, ho, pup_same, pup_pup, List.set_set]
theorem psf_comm (hkj : k ≠ j) : psf (psf h o k v) o j w = psf (psf h o j w) o k v := by
  cases ho : h.1 o with
  | none => simp [psf, ho]
  | some x =>
    cases x with
    | inl x => simp [psf, ho]
    | inr x =>
      obtain ⟨c, fs⟩ := x
      simp only [psf, ho, pup_same, pup_pup]
      rw [List.set_comm _ _ hkj]
end
theorem fk7_0 : sFk 7 0 "java/lang/Throwable" "cause" "Ljava/lang/Throwable;" := fk1 (by decide) rfl rfl rfl (Or.inl rfl)
theorem fk7_1 : sFk 7 1 "java/lang/Throwable" "stackTrace" "[Ljava/lang/StackTraceElement;" := fk1 (by decide) rfl rfl rfl (Or.inl rfl)
theorem fk7_2 : sFk 7 2 "java/lang/Throwable" "suppressedExceptions" "Ljava/util/List;" := fk1 (by decide) rfl rfl rfl (Or.inl rfl)
theorem fk7_3 : sFk 7 3 "java/lang/Throwable" "detailMessage" "Ljava/lang/String;" := fk1 (by decide) rfl rfl rfl (Or.inl rfl)
theorem ap7 : ∀ k, k < 4 → sAp 7 k := by
  intro k hk
  refine apS1 (by decide) rfl ?_
  revert k
  decide +kernel
theorem fn7 (own : String) : ∀ k, k < 4 → sFin 7 k false own := by
  intro k hk
  refine fn1 (by decide) rfl ?_ Bool.noConfusion
  revert k
  decide +kernel
section
variable {p : Program} {l : Launch} {e : Env} {R : Room} {s : State} {m : MethodId} {args : Array Value} {below : List Frame} {meth : Method} {c : Code} {H : Heap} {locs : List Loc} {cells slots : Nat} {Q : State → Prop}
variable {D : sD} {base z0 : Nat} {h : pH} {nw : List Cond} {ao : List String} {pc : Nat} {ls : Array Slot} {rest : List Value} {cc : ByteArray}
theorem sW_gets {n d : String} {idx : Nat} (hx : p.tables.exec = Jvm.exec) (hb : c.code = cc) (hown : s.vm.findClass "java/lang/Throwable" = some m.cls) (hlink : (Cond.fieldLink "java/lang/Throwable" idx "java/lang/Throwable" n d).before args s = true) (hZ : sSq base n d s H) (hdg : decode cc pc = .ok (.getstatic idx, 3))
    (kk : ∀ v, pfit 3 v = true → W p l e R s m args below meth c H locs cells slots Q (F0 m (pc + 3) ls (v :: rest))) : W p l e R s m args below meth c H locs cells slots Q (F0 m pc ls rest) := by
  obtain ⟨c, k, i, f, a, cell, h0, h1, h2, h3, h4, h5, h6, h7, h8, h9, h10, h11⟩ := hZ
  rcases h10 with h10 | ⟨t, h10⟩
  · exact W.gets hx hb hown hlink h1 h2 h3 h4 h5 (fun e => by rw [e] at h6; cases h6) h10 rfl hdg (kk _ rfl)
  · exact W.gets hx hb hown hlink h1 h2 h3 h4 h5 (fun e => by rw [e] at h6; cases h6) h10 rfl hdg (kk _ rfl)
/-- a store into an object of the kind 7, in the constructor of Throwable -/
theorem sW_j0 {k o idx : Nat} {name desc : String} {ty : FieldType} {v : Value} (hC : sCx p s m args meth c D nw ao 259) (hP : sPt s D base z0 h H locs cells slots) (hF : sFk 7 k "java/lang/Throwable" name desc) (hk : k < 4) (hl : Cond.fieldLink "java/lang/Throwable" idx "java/lang/Throwable" name desc ∈ lw_all)
    (hty : parseFieldDescriptor desc = some ty) (hkd : sKd 3 ty) (hp : pis (pfl h 7 o k) = true) (hv : pfit 3 v = true) (hdg : decode cJ0_init_2 pc = .ok (.putfield idx, 3))
    (kk : ∀ H' locs', sPt s D base z0 (psf h o k v) H' locs' cells slots → W p l e R s m args below meth c H' locs' cells slots Q (F0 m (pc + 3) ls rest)) : W p l e R s m args below meth c H locs cells slots Q (F0 m pc ls (v :: .ref o :: rest)) := by
  obtain ⟨hx, hb, hret, hlk, hml, hown, hnm, hts, hK, hxt⟩ := hC
  refine sW_put (F := 7) (k := k) (q := 3) hx hb hts hown hK hP.1 hF (ap7 k hk) (fn7 _ k hk) (Or.inl ⟨rfl, Or.inl hl⟩) hty hkd (by rw [hp, hv]; rfl) hdg (fun H' z hba hR => kk H' _ (hP.st hR hba psf_h2))
end
section
variable {l : Launch} {D : sD} {base : Nat} {h : pH} {o d : Nat}
theorem jc_259 (own : String) : sJc jnw own 259 := ⟨q405, q109, by decide, by decide, by decide +kernel⟩
/-- Throwable's constructor of four, as an exception of ours calls it -/
theorem sMt_J0 (h0 : pis (pfl h 7 o 0) = true) (h1 : pis (pfl h 7 o 1) = true) (h2 : pis (pfl h 7 o 2) = true) (h3 : pis (pfl h 7 o 3) = true) (hd : 1 ≤ d) :
    sMt l D jnw jao base 259 d [.ref o, .null, .null, .int 0, .int 0] h (.inl none, psf (psf (psf (psf h o 0 .null) o 1 .null) o 2 .null) o 3 .null) := by
  refine sMt_of (own := "") (jc_259 _) rfl ?_
  intro p e R s m args below meth c z0 H locs cells slots lsa hC hP hL hfr hlo hce hsl
  have hC' := hC
  obtain ⟨hx, hb, hret, hlk, hml, hown, hnm, hts, hK, hxt⟩ := hC'
  have hL : sLs [.ref o, .null, .null, .int 0, .int 0] lsa 5 := hL
  refine sL hx hb rfl dJ0_init_2_0 rfl hL (fun lsa hL => ?_)
  refine W.objInit hx hb hown (hts _ q379) (hts _ q141) (hts _ q142) rfl (by rw [hml]; exact hL.2.2.1) rfl dJ0_init_2_1 (by omega) (by show 2 * 0 + _ + 12 ≤ _; simp; omega) ?_
  refine sL hx hb rfl dJ0_init_2_4 rfl hL (fun lsa hL => ?_)
  refine sL hx hb rfl dJ0_init_2_5 rfl hL (fun lsa hL => ?_)
  refine sW_j0 hC hP fk7_0 (by decide) q410 (tyX7_ok 0 (by decide)) (Or.inr (Or.inr (Or.inr ⟨rfl, jRf rfl⟩))) h0 rfl dJ0_init_2_6 (fun H locs hP => ?_)
  refine sL hx hb rfl dJ0_init_2_9 rfl hL (fun lsa hL => ?_)
  refine sW_gets hx hb hown (hts _ q380) hP.1.2.2.2.1 dJ0_init_2_10 (fun u0 hu0 => ?_)
  refine sW_j0 hC hP fk7_1 (by decide) q411 (tyX7_ok 1 (by decide)) (Or.inr (Or.inr (Or.inr ⟨rfl, jRf rfl⟩))) (by rw [pfl_psf_nk (by decide)]; exact h1) hu0 dJ0_init_2_13 (fun H locs hP => ?_)
  refine sL hx hb rfl dJ0_init_2_16 rfl hL (fun lsa hL => ?_)
  refine sW_gets hx hb hown (hts _ q382) hP.1.2.2.2.2 dJ0_init_2_17 (fun u1 hu1 => ?_)
  refine sW_j0 hC hP fk7_2 (by decide) q412 (tyX7_ok 2 (by decide)) (Or.inr (Or.inr (Or.inr ⟨rfl, jRf rfl⟩))) (by rw [pfl_psf_nk (by decide), pfl_psf_nk (by decide)]; exact h2) hu1 dJ0_init_2_20 (fun H locs hP => ?_)
  refine sL hx hb rfl dJ0_init_2_23 rfl hL (fun lsa hL => ?_)
  refine sL hx hb (pc' := 36) rfl dJ0_init_2_25 rfl hL (fun lsa hL => ?_)
  refine sL hx hb rfl dJ0_init_2_36 rfl hL (fun lsa hL => ?_)
  refine sL hx hb rfl dJ0_init_2_37 rfl hL (fun lsa hL => ?_)
  refine sW_j0 hC hP fk7_1 (by decide) q411 (tyX7_ok 1 (by decide)) (Or.inr (Or.inr (Or.inr ⟨rfl, jRf rfl⟩))) (by rw [pfl_psf_nk (by decide), pfl_psf_same (by rw [pfl_psf_nk (by decide)]; exact h1)]; revert hu0; cases u0 <;> intro hu0 <;> first | rfl | cases hu0) rfl dJ0_init_2_38 (fun H locs hP => ?_)
  refine sL hx hb rfl dJ0_init_2_41 rfl hL (fun lsa hL => ?_)
  refine sL hx hb rfl dJ0_init_2_42 rfl hL (fun lsa hL => ?_)
  refine sW_j0 hC hP fk7_3 (by decide) q409 (tyX7_ok 3 (by decide)) (Or.inr (Or.inr (Or.inr ⟨rfl, jRf rfl⟩))) (by rw [pfl_psf_nk (by decide), pfl_psf_nk (by decide), pfl_psf_nk (by decide), pfl_psf_nk (by decide)]; exact h3) rfl dJ0_init_2_43 (fun H locs hP => ?_)
  refine sL hx hb rfl dJ0_init_2_46 rfl hL (fun lsa hL => ?_)
  refine sL hx hb rfl dJ0_init_2_47 rfl hL (fun lsa hL => ?_)
  refine sW_j0 hC hP fk7_0 (by decide) q410 (tyX7_ok 0 (by decide)) (Or.inr (Or.inr (Or.inr ⟨rfl, jRf rfl⟩))) (by rw [pfl_psf_nk (by decide), pfl_psf_nk (by decide), pfl_psf_nk (by decide), pfl_psf_nk (by decide), pfl_psf_same h0]; rfl) rfl dJ0_init_2_48 (fun H locs hP => ?_)
  refine sL hx hb rfl dJ0_init_2_51 rfl hL (fun lsa hL => ?_)
  refine sL hx hb (pc' := 55) rfl dJ0_init_2_52 rfl hL (fun lsa hL => ?_)
  refine sL hx hb rfl dJ0_init_2_55 rfl hL (fun lsa hL => ?_)
  refine sL hx hb rfl dJ0_init_2_56 rfl hL (fun lsa hL => ?_)
  refine sW_j0 hC hP fk7_2 (by decide) q412 (tyX7_ok 2 (by decide)) (Or.inr (Or.inr (Or.inr ⟨rfl, jRf rfl⟩))) (by rw [pfl_psf_nk (by decide), pfl_psf_nk (by decide), pfl_psf_nk (by decide), pfl_psf_same (by rw [pfl_psf_nk (by decide), pfl_psf_nk (by decide)]; exact h2)]; revert hu1; cases u1 <;> intro hu1 <;> first | rfl | cases hu1) rfl dJ0_init_2_57 (fun H locs hP => ?_)
  have he : psf (psf (psf (psf (psf (psf (psf h o 0 (.ref o)) o 1 u0) o 2 u1) o 1 .null) o 3 .null) o 0 .null) o 2 .null = psf (psf (psf (psf h o 0 .null) o 1 .null) o 2 .null) o 3 .null := by
    cases ho : h.1 o with
    | none => simp [psf, ho]
    | some x =>
      cases x with
      | inl x => simp [psf, ho]
      | inr x =>
        obtain ⟨c, fs⟩ := x
        simp only [psf, ho, pup_same, pup_pup]
        congr 3
        apply List.ext_getElem?
        intro i
        simp only [List.getElem?_set, List.length_set]
        rcases i with _ | _ | _ | _ | i <;> simp
  rw [he] at hP
  exact sRet_v jnw_ok hC hP rfl dJ0_init_2_60
end
