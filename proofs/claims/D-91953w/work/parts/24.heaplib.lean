/-! LAWS OF THE PURE HEAP, AND OF NUMBERS IN INDEXES -/
set_option maxRecDepth 100000
section
variable {h : pH} {a b o o2 k k2 F i n : Nat} {v : Value} {x : Int32} {lx : Int64} {c : va_E} {fs : List Value} {f : Nat → Int32}
theorem pup_same : (pup h a c).1 a = some c := by simp [pup]
theorem pup_ne (hb : b ≠ a) : (pup h a c).1 b = h.1 b := by simp [pup, hb]
theorem pup_2 : (pup h a c).2 = h.2 := rfl
theorem pnw_1 : (pnw h c n).1 b = if b = h.2.1 then some c else h.1 b := rfl
theorem pnw_same : (pnw h c n).1 h.2.1 = some c := by simp [pnw]
theorem pnw_ne (hb : b ≠ h.2.1) : (pnw h c n).1 b = h.1 b := by simp [pnw, hb]
theorem pnw_2 : (pnw h c n).2.1 = h.2.1 + 1 := rfl
theorem pnw_3 : (pnw h c n).2.2 = h.2.2 + n := rfl
theorem psf_2 : (psf h a k v).2 = h.2 := by unfold psf; split <;> rfl
theorem pst_2 : (pst h a i x).2 = h.2 := by unfold pst; split <;> rfl
theorem pstL_2 : (pstL h a i lx).2 = h.2 := by unfold pstL; split <;> rfl
theorem pstQ_2 {q : Option Nat} : (pstQ h a i q).2 = h.2 := by unfold pstQ; split <;> rfl
/-- an object's field, by its cell -/
theorem pfl_of {cc : Nat} (ho : h.1 o = some (.inr (cc, fs))) (hF : pok F cc = true) {v : Value} (hk : fs[k]? = some v) : pfl h F o k = v := by
  simp [pfl, ho, hF, List.getD, hk]
theorem pcl_of {cc : Nat} (ho : h.1 o = some (.inr (cc, fs))) : pcl h o = cc := by simp [pcl, ho]
theorem pln_of {kk : Nat} (ha : h.1 a = some (.inl (kk, n, .inl f))) : pln h kk a = n := by simp [pln, ha]
theorem pln_no {kk k2 : Nat} (ha : h.1 a = some (.inl (kk, n, .inl f))) (hk : kk ≠ k2) : pln h k2 a = 0 := by simp [pln, ha, hk]
theorem pct_of {kk : Nat} (ha : h.1 a = some (.inl (kk, n, .inl f))) : pct h a = f := by simp [pct, ha]
theorem psf_of {cc : Nat} (ho : h.1 o = some (.inr (cc, fs))) : psf h o k v = pup h o (.inr (cc, fs.set k v)) := by simp [psf, ho]
theorem pst_of {kk : Nat} (ha : h.1 a = some (.inl (kk, n, .inl f))) : pst h a i x = pup h a (.inl (kk, n, .inl (upd f i x))) := by simp [pst, ha]
/-- stores and reads -/
theorem pfl_psf_ne (hb : o2 ≠ o) : pfl (psf h o k v) F o2 k2 = pfl h F o2 k2 := by
  unfold psf
  split
  · simp [pfl, pup, hb]
  · rfl
theorem pfl_psf_nk (hk : k2 ≠ k) : pfl (psf h o k v) F o2 k2 = pfl h F o2 k2 := by
  unfold psf
  split
  · rename_i cc fs ho
    by_cases hb : o2 = o
    · subst hb
      simp [pfl, pup, ho, List.getD, List.getElem?_set_ne (Ne.symm hk)]
    · simp [pfl, pup, hb]
  · rfl
theorem pfl_psf_same (hf : pis (pfl h F o k) = true) : pfl (psf h o k v) F o k = v := by
  unfold pfl at hf
  unfold psf
  split at hf
  · rename_i cc fs ho
    by_cases hF : pok F cc = true
    · have hk : k < fs.length := by
        rcases Nat.lt_or_ge k fs.length with q | q
        · exact q
        · rw [if_pos hF, List.getD, List.getElem?_eq_none q] at hf; cases hf
      simp [pfl, pup, ho, hF, List.getD, hk]
    · simp [hF] at hf; cases hf
  · cases hf
theorem pcl_psf : pcl (psf h o k v) o2 = pcl h o2 := by
  unfold psf
  split
  · rename_i cc fs ho
    by_cases hb : o2 = o
    · subst hb; simp [pcl, pup, ho]
    · simp [pcl, pup, hb]
  · rfl
theorem pln_psf : pln (psf h o k v) n a = pln h n a := by
  unfold psf
  split
  · rename_i cc fs ho
    by_cases hb : a = o
    · subst hb; simp [pln, pup, ho]
    · simp [pln, pup, hb]
  · rfl
theorem pct_psf : pct (psf h o k v) a = pct h a := by
  unfold psf
  split
  · rename_i cc fs ho
    by_cases hb : a = o
    · subst hb; simp [pct, pup, ho]
    · simp [pct, pup, hb]
  · rfl
theorem pfl_pst : pfl (pst h a i x) F o k = pfl h F o k := by
  unfold pst
  split
  · rename_i kk m f ha
    by_cases hb : o = a
    · subst hb; simp [pfl, pup, ha]
    · simp [pfl, pup, hb]
  · rfl
theorem pcl_pst : pcl (pst h a i x) o = pcl h o := by
  unfold pst
  split
  · rename_i kk m f ha
    by_cases hb : o = a
    · subst hb; simp [pcl, pup, ha]
    · simp [pcl, pup, hb]
  · rfl
theorem pln_pst : pln (pst h a i x) k b = pln h k b := by
  unfold pst
  split
  · rename_i kk m f ha
    by_cases hb : b = a
    · subst hb; simp [pln, pup, ha]
    · simp [pln, pup, hb]
  · rfl
theorem pct_pst_ne (hb : b ≠ a) : pct (pst h a i x) b = pct h b := by
  unfold pst
  split
  · simp [pct, pup, hb]
  · rfl
theorem pct_pst_same (ha : 0 < pln h k a) : pct (pst h a i x) a = upd (pct h a) i x := by
  unfold pln at ha
  split at ha
  · rename_i kk m f hc
    simp [pct, pst, hc, pup]
  · cases ha
end
theorem pin_nI {n N : Nat} (h : n < 2147483648) : pin (nI n) N = decide (n < N) := by
  have h1 : (nI n).toNatClampNeg = n := nI_clamp h
  have h2 : (0 : Int32) ≤ nI n := nI_pos' h
  simp [pin, h1, h2]
theorem nIc {n : Nat} (h : n < 2147483648) : (nI n).toNatClampNeg = n := nI_clamp h
theorem nIlt {a b : Nat} (ha : a < 2147483648) (hb : b < 2147483648) : (nI a < nI b) = (a < b) := propext (nI_ltI ha hb)
theorem nIeq {a b : Nat} (ha : a < 2147483648) (hb : b < 2147483648) : (nI a = nI b) = (a = b) := propext (nI_eq ha hb)
theorem nI24 (g : Nat) : (24 : Int32) * nI g = nI (24 * g) := pk_mul 24 g
theorem nI6 (g : Nat) : (6 : Int32) * nI g = nI (6 * g) := pk_mul 6 g
theorem nI60 (g : Nat) : (60 : Int32) * nI g = nI (60 * g) := pk_mul 60 g
theorem nI32 (g : Nat) : (32 : Int32) * nI g = nI (32 * g) := pk_mul 32 g
theorem nI64 (g : Nat) : (64 : Int32) * nI g = nI (64 * g) := pk_mul 64 g
theorem nI400 (g : Nat) : (400 : Int32) * nI g = nI (400 * g) := pk_mul 400 g
theorem nI4 (g : Nat) : (4 : Int32) * nI g = nI (4 * g) := pk_mul 4 g
theorem nIp1 (g : Nat) : nI g + 1 = nI (g + 1) := nI_1 g
