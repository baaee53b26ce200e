/-! rows: one equation an instruction, printed by gen.py -/
set_option maxRecDepth 100000
section
variable {d o o2 : Nat} {ls st : List Value} {h : pH} {x y x3 : Int32} {lx ly : Int64} {a0 a1 a2 a3 a4 a5 a6 a7 a8 a9 a10 a11 a12 a13 a14 : Value} {b0 b1 b2 b3 b4 b5 b6 b7 b8 : Value} {x0 x1 x2 x4 x5 x6 x7 x8 : Int32} {l0 l1 l2 l3 l4 l5 l6 l7 l8 : Int64} {r0 r1 r2 r3 r4 r5 r6 r7 r8 : Nat}
-- 3 BalloonStallLaw law ([I)Z
theorem eL_law : pCa 3 d [.ref r0] h = pR 3 d 0 [.ref r0, pU, pU, pU, pU, pU, pU] [] h := rfl
theorem rL_law_0 : pR 3 d 0 ls st h = pR 3 d 3 ls (.ref h.2.1 :: st) (pnw h (.inr (1, [.null, .int 0, .null, .int 0, .null, .int 0, .null, .null, .null, .null, .null, .null, .int 0, .int 0, .int 0, .int 0, .int 0, .long 0, .null, .null, .int 0, .null, .int 0])) 23) := pR_X rfl rfl
theorem rL_law_3 : pR 3 d 3 ls (.ref o :: st) h = pR 3 d 4 ls (.ref o :: .ref o :: st) h := pR_L rfl rfl
theorem rL_law_3i : pR 3 d 3 ls (.int x :: st) h = pR 3 d 4 ls (.int x :: .int x :: st) h := pR_L rfl rfl
theorem rL_law_4 : pR 3 (d + 1) 4 ls (.ref o :: st) h = if (pok 1 (pcl h o) && pw st) = true then pK 3 (d + 1) 4 3 ls st (pCa 4 d [.ref o] h) else none := r_callV rfl rfl rfl
theorem rL_law_7 : pR 3 d 7 [a0, a1, a2, a3, a4, a5, a6] (.ref o :: st) h = if p1 a1 = true then pR 3 d 8 [a0, .ref o, a2, a3, a4, a5, a6] st h else none := r_sto (n := 1) (k := 1) (v := .ref o) (ls := [a0, a1, a2, a3, a4, a5, a6]) rfl rfl rfl
theorem rL_law_7n : pR 3 d 7 [a0, a1, a2, a3, a4, a5, a6] (.null :: st) h = if p1 a1 = true then pR 3 d 8 [a0, .null, a2, a3, a4, a5, a6] st h else none := r_sto (n := 1) (k := 1) (v := .null) (ls := [a0, a1, a2, a3, a4, a5, a6]) rfl rfl rfl
theorem rL_law_8 : pR 3 d 8 ls st h = pR 3 d 11 ls (.ref h.2.1 :: st) (pnw h (.inr (3, [.int 0, .null, .null, .null, .null, .int 0, .null, .int 0, .int 0, .int 0, .int 0, .null, .null, .null, .null, .null, .null, .null, .null, .null, .int 0, .null, .null, .int 0, .int 0, .int 0, .null, .null, .null, .null, .null, .int 0, .int 0, .int 0, .null, .null, .null, .null, .null, .null, .null, .null, .null, .null, .null, .int 0, .int 0, .int 0, .int 0, .null, .null, .int 0])) 52) := pR_X rfl rfl
theorem rL_law_11 : pR 3 d 11 ls (.ref o :: st) h = pR 3 d 12 ls (.ref o :: .ref o :: st) h := pR_L rfl rfl
theorem rL_law_11i : pR 3 d 11 ls (.int x :: st) h = pR 3 d 12 ls (.int x :: .int x :: st) h := pR_L rfl rfl
theorem rL_law_12 : pR 3 (d + 1) 12 ls (.ref o :: st) h = if (pok 3 (pcl h o) && pw st) = true then pK 3 (d + 1) 12 3 ls st (pCa 66 d [.ref o] h) else none := r_callV rfl rfl rfl
theorem rL_law_15 : pR 3 d 15 [a0, a1, a2, a3, a4, a5, a6] (.ref o :: st) h = if p1 a2 = true then pR 3 d 16 [a0, a1, .ref o, a3, a4, a5, a6] st h else none := r_sto (n := 1) (k := 2) (v := .ref o) (ls := [a0, a1, a2, a3, a4, a5, a6]) rfl rfl rfl
theorem rL_law_15n : pR 3 d 15 [a0, a1, a2, a3, a4, a5, a6] (.null :: st) h = if p1 a2 = true then pR 3 d 16 [a0, a1, .null, a3, a4, a5, a6] st h else none := r_sto (n := 1) (k := 2) (v := .null) (ls := [a0, a1, a2, a3, a4, a5, a6]) rfl rfl rfl
theorem rL_law_16 : pR 3 d 16 ls st h = pR 3 d 17 ls (.int 1 :: st) h := pR_L rfl rfl
theorem rL_law_17 : pR 3 d 17 ls (.int 1 :: st) h = pR 3 d 19 ls (.ref h.2.1 :: st) (pnw h (.inl (3, 1, .inr (.inl fun _ => 0))) 1) := pR_X rfl rfl
theorem rL_law_19 : pR 3 d 19 [a0, a1, a2, a3, a4, a5, a6] (.ref o :: st) h = if p1 a3 = true then pR 3 d 20 [a0, a1, a2, .ref o, a4, a5, a6] st h else none := r_sto (n := 1) (k := 3) (v := .ref o) (ls := [a0, a1, a2, a3, a4, a5, a6]) rfl rfl rfl
theorem rL_law_19n : pR 3 d 19 [a0, a1, a2, a3, a4, a5, a6] (.null :: st) h = if p1 a3 = true then pR 3 d 20 [a0, a1, a2, .null, a4, a5, a6] st h else none := r_sto (n := 1) (k := 3) (v := .null) (ls := [a0, a1, a2, a3, a4, a5, a6]) rfl rfl rfl
theorem rL_law_20 : pR 3 d 20 ls st h = pR 3 d 21 ls (.int 0 :: st) h := pR_L rfl rfl
theorem rL_law_21 : pR 3 d 21 [a0, a1, a2, a3, a4, a5, a6] (.int x :: st) h = if p1 a4 = true then pR 3 d 23 [a0, a1, a2, a3, .int x, a5, a6] st h else none := r_sto (n := 2) (k := 4) (v := .int x) (ls := [a0, a1, a2, a3, a4, a5, a6]) rfl rfl rfl
theorem rL_law_23 : pR 3 d 23 [a0, a1, a2, a3, .int x, a5, a6] st h = pR 3 d 25 [a0, a1, a2, a3, .int x, a5, a6] (.int x :: st) h := pR_L rfl rfl
theorem rL_law_25 : pR 3 d 25 [.ref o, a1, a2, a3, a4, a5, a6] st h = pR 3 d 26 [.ref o, a1, a2, a3, a4, a5, a6] (.ref o :: st) h := pR_L rfl rfl
theorem rL_law_25n : pR 3 d 25 [.null, a1, a2, a3, a4, a5, a6] st h = pR 3 d 26 [.null, a1, a2, a3, a4, a5, a6] (.null :: st) h := pR_L rfl rfl
theorem rL_law_26 {n : Nat} {f : Nat → Int32} (ha : h.1 o = some (.inl (9, n, .inl f))) : pR 3 d 26 ls (.ref o :: st) h = pR 3 d 27 ls (.int (Int32.ofNat n) :: st) h := r_alen rfl ha (Or.inr rfl)
theorem rL_law_27 : pR 3 d 27 ls st h = pR 3 d 29 ls (.int 7 :: st) h := pR_L rfl rfl
theorem rL_law_29 : pR 3 d 29 ls (.int y :: .int x :: st) h = pR 3 d 30 ls (.int (x - y) :: st) h := pR_L rfl rfl
theorem rL_law_30 : pR 3 d 30 ls (.int y :: .int x :: st) h = if y < x then pR 3 d 1660 ls st h else pR 3 d 33 ls st h := r_cgt rfl rfl
theorem rL_law_33 : pR 3 d 33 [.ref o, a1, a2, a3, a4, a5, a6] st h = pR 3 d 34 [.ref o, a1, a2, a3, a4, a5, a6] (.ref o :: st) h := pR_L rfl rfl
theorem rL_law_33n : pR 3 d 33 [.null, a1, a2, a3, a4, a5, a6] st h = pR 3 d 34 [.null, a1, a2, a3, a4, a5, a6] (.null :: st) h := pR_L rfl rfl
theorem rL_law_34 : pR 3 d 34 [a0, a1, a2, a3, .int x, a5, a6] st h = pR 3 d 36 [a0, a1, a2, a3, .int x, a5, a6] (.int x :: st) h := pR_L rfl rfl
theorem rL_law_36 : pR 3 d 36 ls (.int x :: .ref o :: st) h = if (pin x (pln h 0 o) || pin x (pln h 9 o)) = true then pR 3 d 37 ls (.int (pct h o x.toNatClampNeg) :: st) h else none := pR_Lif rfl rfl
theorem rL_law_37 : pR 3 d 37 ls st h = pR 3 d 39 ls (.int 63 :: st) h := pR_L rfl rfl
theorem rL_law_39 : pR 3 d 39 ls (.int y :: .int x :: st) h = pR 3 d 40 ls (.int (x &&& y) :: st) h := pR_L rfl rfl
theorem rL_law_40k0 : pR 3 d 40 ls (.int 0 :: st) h = pR 3 d 196 ls st h := pR_L rfl rfl
theorem rL_law_40k1 : pR 3 d 40 ls (.int 1 :: st) h = pR 3 d 245 ls st h := pR_L rfl rfl
theorem rL_law_40k2 : pR 3 d 40 ls (.int 2 :: st) h = pR 3 d 318 ls st h := pR_L rfl rfl
theorem rL_law_40k3 : pR 3 d 40 ls (.int 3 :: st) h = pR 3 d 343 ls st h := pR_L rfl rfl
theorem rL_law_40k4 : pR 3 d 40 ls (.int 4 :: st) h = pR 3 d 368 ls st h := pR_L rfl rfl
theorem rL_law_40k5 : pR 3 d 40 ls (.int 5 :: st) h = pR 3 d 381 ls st h := pR_L rfl rfl
theorem rL_law_40k6 : pR 3 d 40 ls (.int 6 :: st) h = pR 3 d 394 ls st h := pR_L rfl rfl
theorem rL_law_40k7 : pR 3 d 40 ls (.int 7 :: st) h = pR 3 d 431 ls st h := pR_L rfl rfl
theorem rL_law_40k8 : pR 3 d 40 ls (.int 8 :: st) h = pR 3 d 511 ls st h := pR_L rfl rfl
theorem rL_law_40k9 : pR 3 d 40 ls (.int 9 :: st) h = pR 3 d 548 ls st h := pR_L rfl rfl
theorem rL_law_40k10 : pR 3 d 40 ls (.int 10 :: st) h = pR 3 d 585 ls st h := pR_L rfl rfl
theorem rL_law_40k11 : pR 3 d 40 ls (.int 11 :: st) h = pR 3 d 622 ls st h := pR_L rfl rfl
theorem rL_law_40k12 : pR 3 d 40 ls (.int 12 :: st) h = pR 3 d 647 ls st h := pR_L rfl rfl
theorem rL_law_40k13 : pR 3 d 40 ls (.int 13 :: st) h = pR 3 d 684 ls st h := pR_L rfl rfl
theorem rL_law_40k14 : pR 3 d 40 ls (.int 14 :: st) h = pR 3 d 709 ls st h := pR_L rfl rfl
theorem rL_law_40k15 : pR 3 d 40 ls (.int 15 :: st) h = pR 3 d 758 ls st h := pR_L rfl rfl
theorem rL_law_40k16 : pR 3 d 40 ls (.int 16 :: st) h = pR 3 d 783 ls st h := pR_L rfl rfl
theorem rL_law_40k17 : pR 3 d 40 ls (.int 17 :: st) h = pR 3 d 844 ls st h := pR_L rfl rfl
theorem rL_law_40k18 : pR 3 d 40 ls (.int 18 :: st) h = pR 3 d 881 ls st h := pR_L rfl rfl
theorem rL_law_40k19 : pR 3 d 40 ls (.int 19 :: st) h = pR 3 d 930 ls st h := pR_L rfl rfl
theorem rL_law_40k20 : pR 3 d 40 ls (.int 20 :: st) h = pR 3 d 979 ls st h := pR_L rfl rfl
theorem rL_law_40k21 : pR 3 d 40 ls (.int 21 :: st) h = pR 3 d 1004 ls st h := pR_L rfl rfl
theorem rL_law_40k22 : pR 3 d 40 ls (.int 22 :: st) h = pR 3 d 1029 ls st h := pR_L rfl rfl
theorem rL_law_40k23 : pR 3 d 40 ls (.int 23 :: st) h = pR 3 d 1066 ls st h := pR_L rfl rfl
theorem rL_law_40k24 : pR 3 d 40 ls (.int 24 :: st) h = pR 3 d 1115 ls st h := pR_L rfl rfl
theorem rL_law_40k25 : pR 3 d 40 ls (.int 25 :: st) h = pR 3 d 1140 ls st h := pR_L rfl rfl
theorem rL_law_40k26 : pR 3 d 40 ls (.int 26 :: st) h = pR 3 d 1177 ls st h := pR_L rfl rfl
theorem rL_law_40k27 : pR 3 d 40 ls (.int 27 :: st) h = pR 3 d 1214 ls st h := pR_L rfl rfl
theorem rL_law_40k28 : pR 3 d 40 ls (.int 28 :: st) h = pR 3 d 1263 ls st h := pR_L rfl rfl
theorem rL_law_40k29 : pR 3 d 40 ls (.int 29 :: st) h = pR 3 d 1276 ls st h := pR_L rfl rfl
theorem rL_law_40k30 : pR 3 d 40 ls (.int 30 :: st) h = pR 3 d 1333 ls st h := pR_L rfl rfl
theorem rL_law_40k31 : pR 3 d 40 ls (.int 31 :: st) h = pR 3 d 1401 ls st h := pR_L rfl rfl
theorem rL_law_40k32 : pR 3 d 40 ls (.int 32 :: st) h = pR 3 d 1519 ls st h := pR_L rfl rfl
theorem rL_law_40k33 : pR 3 d 40 ls (.int 33 :: st) h = pR 3 d 1580 ls st h := pR_L rfl rfl
theorem rL_law_40k34 : pR 3 d 40 ls (.int 34 :: st) h = pR 3 d 1629 ls st h := pR_L rfl rfl
theorem rL_law_40d (hx : x.toInt < 0 ∨ 34 < x.toInt) : pR 3 d 40 ls (.int x :: st) h = pR 3 d 1654 ls st h := r_sw rfl rfl hx
theorem rL_law_196 : pR 3 d 196 [a0, .ref o, a2, a3, a4, a5, a6] st h = pR 3 d 197 [a0, .ref o, a2, a3, a4, a5, a6] (.ref o :: st) h := pR_L rfl rfl
theorem rL_law_196n : pR 3 d 196 [a0, .null, a2, a3, a4, a5, a6] st h = pR 3 d 197 [a0, .null, a2, a3, a4, a5, a6] (.null :: st) h := pR_L rfl rfl
theorem rL_law_197 : pR 3 d 197 [.ref o, a1, a2, a3, a4, a5, a6] st h = pR 3 d 198 [.ref o, a1, a2, a3, a4, a5, a6] (.ref o :: st) h := pR_L rfl rfl
theorem rL_law_197n : pR 3 d 197 [.null, a1, a2, a3, a4, a5, a6] st h = pR 3 d 198 [.null, a1, a2, a3, a4, a5, a6] (.null :: st) h := pR_L rfl rfl
theorem rL_law_198 : pR 3 d 198 [a0, a1, a2, a3, .int x, a5, a6] st h = pR 3 d 200 [a0, a1, a2, a3, .int x, a5, a6] (.int x :: st) h := pR_L rfl rfl
theorem rL_law_200 : pR 3 d 200 ls st h = pR 3 d 201 ls (.int 1 :: st) h := pR_L rfl rfl
theorem rL_law_201 : pR 3 d 201 ls (.int y :: .int x :: st) h = pR 3 d 202 ls (.int (x + y) :: st) h := pR_L rfl rfl
theorem rL_law_202 : pR 3 d 202 ls (.int x :: .ref o :: st) h = if (pin x (pln h 0 o) || pin x (pln h 9 o)) = true then pR 3 d 203 ls (.int (pct h o x.toNatClampNeg) :: st) h else none := pR_Lif rfl rfl
theorem rL_law_203 : pR 3 d 203 [.ref o, a1, a2, a3, a4, a5, a6] st h = pR 3 d 204 [.ref o, a1, a2, a3, a4, a5, a6] (.ref o :: st) h := pR_L rfl rfl
theorem rL_law_203n : pR 3 d 203 [.null, a1, a2, a3, a4, a5, a6] st h = pR 3 d 204 [.null, a1, a2, a3, a4, a5, a6] (.null :: st) h := pR_L rfl rfl
theorem rL_law_204 : pR 3 d 204 [a0, a1, a2, a3, .int x, a5, a6] st h = pR 3 d 206 [a0, a1, a2, a3, .int x, a5, a6] (.int x :: st) h := pR_L rfl rfl
theorem rL_law_206 : pR 3 d 206 ls st h = pR 3 d 207 ls (.int 2 :: st) h := pR_L rfl rfl
theorem rL_law_207 : pR 3 d 207 ls (.int y :: .int x :: st) h = pR 3 d 208 ls (.int (x + y) :: st) h := pR_L rfl rfl
theorem rL_law_208 : pR 3 d 208 ls (.int x :: .ref o :: st) h = if (pin x (pln h 0 o) || pin x (pln h 9 o)) = true then pR 3 d 209 ls (.int (pct h o x.toNatClampNeg) :: st) h else none := pR_Lif rfl rfl
theorem rL_law_209 : pR 3 d 209 [.ref o, a1, a2, a3, a4, a5, a6] st h = pR 3 d 210 [.ref o, a1, a2, a3, a4, a5, a6] (.ref o :: st) h := pR_L rfl rfl
theorem rL_law_209n : pR 3 d 209 [.null, a1, a2, a3, a4, a5, a6] st h = pR 3 d 210 [.null, a1, a2, a3, a4, a5, a6] (.null :: st) h := pR_L rfl rfl
theorem rL_law_210 : pR 3 d 210 [a0, a1, a2, a3, .int x, a5, a6] st h = pR 3 d 212 [a0, a1, a2, a3, .int x, a5, a6] (.int x :: st) h := pR_L rfl rfl
theorem rL_law_212 : pR 3 d 212 ls st h = pR 3 d 213 ls (.int 3 :: st) h := pR_L rfl rfl
theorem rL_law_213 : pR 3 d 213 ls (.int y :: .int x :: st) h = pR 3 d 214 ls (.int (x + y) :: st) h := pR_L rfl rfl
theorem rL_law_214 : pR 3 d 214 ls (.int x :: .ref o :: st) h = if (pin x (pln h 0 o) || pin x (pln h 9 o)) = true then pR 3 d 215 ls (.int (pct h o x.toNatClampNeg) :: st) h else none := pR_Lif rfl rfl
theorem rL_law_215 : pR 3 (d + 1) 215 ls (b3 :: b2 :: b1 :: .ref o :: st) h = if (pok 1 (pcl h o) && pw st) = true then pK 3 (d + 1) 215 3 ls st (pCa 5 d [.ref o, b1, b2, b3] h) else none := r_callV rfl rfl rfl
theorem rL_law_218 : pR 3 d 218 [a0, a1, .ref o, a3, a4, a5, a6] st h = pR 3 d 219 [a0, a1, .ref o, a3, a4, a5, a6] (.ref o :: st) h := pR_L rfl rfl
theorem rL_law_218n : pR 3 d 218 [a0, a1, .null, a3, a4, a5, a6] st h = pR 3 d 219 [a0, a1, .null, a3, a4, a5, a6] (.null :: st) h := pR_L rfl rfl
theorem rL_law_219 : pR 3 d 219 [.ref o, a1, a2, a3, a4, a5, a6] st h = pR 3 d 220 [.ref o, a1, a2, a3, a4, a5, a6] (.ref o :: st) h := pR_L rfl rfl
theorem rL_law_219n : pR 3 d 219 [.null, a1, a2, a3, a4, a5, a6] st h = pR 3 d 220 [.null, a1, a2, a3, a4, a5, a6] (.null :: st) h := pR_L rfl rfl
theorem rL_law_220 : pR 3 d 220 [a0, a1, a2, a3, .int x, a5, a6] st h = pR 3 d 222 [a0, a1, a2, a3, .int x, a5, a6] (.int x :: st) h := pR_L rfl rfl
theorem rL_law_222 : pR 3 d 222 ls st h = pR 3 d 223 ls (.int 1 :: st) h := pR_L rfl rfl
theorem rL_law_223 : pR 3 d 223 ls (.int y :: .int x :: st) h = pR 3 d 224 ls (.int (x + y) :: st) h := pR_L rfl rfl
theorem rL_law_224 : pR 3 d 224 ls (.int x :: .ref o :: st) h = if (pin x (pln h 0 o) || pin x (pln h 9 o)) = true then pR 3 d 225 ls (.int (pct h o x.toNatClampNeg) :: st) h else none := pR_Lif rfl rfl
theorem rL_law_225 : pR 3 d 225 [.ref o, a1, a2, a3, a4, a5, a6] st h = pR 3 d 226 [.ref o, a1, a2, a3, a4, a5, a6] (.ref o :: st) h := pR_L rfl rfl
theorem rL_law_225n : pR 3 d 225 [.null, a1, a2, a3, a4, a5, a6] st h = pR 3 d 226 [.null, a1, a2, a3, a4, a5, a6] (.null :: st) h := pR_L rfl rfl
theorem rL_law_226 : pR 3 d 226 [a0, a1, a2, a3, .int x, a5, a6] st h = pR 3 d 228 [a0, a1, a2, a3, .int x, a5, a6] (.int x :: st) h := pR_L rfl rfl
theorem rL_law_228 : pR 3 d 228 ls st h = pR 3 d 229 ls (.int 2 :: st) h := pR_L rfl rfl
theorem rL_law_229 : pR 3 d 229 ls (.int y :: .int x :: st) h = pR 3 d 230 ls (.int (x + y) :: st) h := pR_L rfl rfl
theorem rL_law_230 : pR 3 d 230 ls (.int x :: .ref o :: st) h = if (pin x (pln h 0 o) || pin x (pln h 9 o)) = true then pR 3 d 231 ls (.int (pct h o x.toNatClampNeg) :: st) h else none := pR_Lif rfl rfl
theorem rL_law_231 : pR 3 d 231 [.ref o, a1, a2, a3, a4, a5, a6] st h = pR 3 d 232 [.ref o, a1, a2, a3, a4, a5, a6] (.ref o :: st) h := pR_L rfl rfl
theorem rL_law_231n : pR 3 d 231 [.null, a1, a2, a3, a4, a5, a6] st h = pR 3 d 232 [.null, a1, a2, a3, a4, a5, a6] (.null :: st) h := pR_L rfl rfl
theorem rL_law_232 : pR 3 d 232 [a0, a1, a2, a3, .int x, a5, a6] st h = pR 3 d 234 [a0, a1, a2, a3, .int x, a5, a6] (.int x :: st) h := pR_L rfl rfl
theorem rL_law_234 : pR 3 d 234 ls st h = pR 3 d 235 ls (.int 3 :: st) h := pR_L rfl rfl
theorem rL_law_235 : pR 3 d 235 ls (.int y :: .int x :: st) h = pR 3 d 236 ls (.int (x + y) :: st) h := pR_L rfl rfl
theorem rL_law_236 : pR 3 d 236 ls (.int x :: .ref o :: st) h = if (pin x (pln h 0 o) || pin x (pln h 9 o)) = true then pR 3 d 237 ls (.int (pct h o x.toNatClampNeg) :: st) h else none := pR_Lif rfl rfl
theorem rL_law_237 : pR 3 (d + 1) 237 ls (b3 :: b2 :: b1 :: .ref o :: st) h = if (pok 3 (pcl h o) && pw st) = true then pK 3 (d + 1) 237 3 ls st (pCa 68 d [.ref o, b1, b2, b3] h) else none := r_callV rfl rfl rfl
theorem rL_law_240 : pR 3 d 240 ls (.int y :: .int x :: st) h = if x = y then pR 3 d 1654 ls st h else pR 3 d 243 ls st h := r_ceq rfl rfl
theorem rL_law_243 : pR 3 d 243 ls st h = pR 3 d 244 ls (.int 0 :: st) h := pR_L rfl rfl
theorem rL_law_2440 : pR 3 d 244 ls [.int 0] h = some (.inl (some (.int 0)), h) := pR_E rfl rfl
theorem rL_law_2441 : pR 3 d 244 ls [.int 1] h = some (.inl (some (.int 1)), h) := pR_E rfl rfl
theorem rL_law_245 : pR 3 d 245 [a0, .ref o, a2, a3, a4, a5, a6] st h = pR 3 d 246 [a0, .ref o, a2, a3, a4, a5, a6] (.ref o :: st) h := pR_L rfl rfl
theorem rL_law_245n : pR 3 d 245 [a0, .null, a2, a3, a4, a5, a6] st h = pR 3 d 246 [a0, .null, a2, a3, a4, a5, a6] (.null :: st) h := pR_L rfl rfl
theorem rL_law_246 : pR 3 d 246 [.ref o, a1, a2, a3, a4, a5, a6] st h = pR 3 d 247 [.ref o, a1, a2, a3, a4, a5, a6] (.ref o :: st) h := pR_L rfl rfl
theorem rL_law_246n : pR 3 d 246 [.null, a1, a2, a3, a4, a5, a6] st h = pR 3 d 247 [.null, a1, a2, a3, a4, a5, a6] (.null :: st) h := pR_L rfl rfl
theorem rL_law_247 : pR 3 d 247 [a0, a1, a2, a3, .int x, a5, a6] st h = pR 3 d 249 [a0, a1, a2, a3, .int x, a5, a6] (.int x :: st) h := pR_L rfl rfl
theorem rL_law_249 : pR 3 d 249 ls st h = pR 3 d 250 ls (.int 1 :: st) h := pR_L rfl rfl
theorem rL_law_250 : pR 3 d 250 ls (.int y :: .int x :: st) h = pR 3 d 251 ls (.int (x + y) :: st) h := pR_L rfl rfl
theorem rL_law_251 : pR 3 d 251 ls (.int x :: .ref o :: st) h = if (pin x (pln h 0 o) || pin x (pln h 9 o)) = true then pR 3 d 252 ls (.int (pct h o x.toNatClampNeg) :: st) h else none := pR_Lif rfl rfl
theorem rL_law_252 : pR 3 d 252 [.ref o, a1, a2, a3, a4, a5, a6] st h = pR 3 d 253 [.ref o, a1, a2, a3, a4, a5, a6] (.ref o :: st) h := pR_L rfl rfl
theorem rL_law_252n : pR 3 d 252 [.null, a1, a2, a3, a4, a5, a6] st h = pR 3 d 253 [.null, a1, a2, a3, a4, a5, a6] (.null :: st) h := pR_L rfl rfl
theorem rL_law_253 : pR 3 d 253 [a0, a1, a2, a3, .int x, a5, a6] st h = pR 3 d 255 [a0, a1, a2, a3, .int x, a5, a6] (.int x :: st) h := pR_L rfl rfl
theorem rL_law_255 : pR 3 d 255 ls st h = pR 3 d 256 ls (.int 2 :: st) h := pR_L rfl rfl
theorem rL_law_256 : pR 3 d 256 ls (.int y :: .int x :: st) h = pR 3 d 257 ls (.int (x + y) :: st) h := pR_L rfl rfl
theorem rL_law_257 : pR 3 d 257 ls (.int x :: .ref o :: st) h = if (pin x (pln h 0 o) || pin x (pln h 9 o)) = true then pR 3 d 258 ls (.int (pct h o x.toNatClampNeg) :: st) h else none := pR_Lif rfl rfl
theorem rL_law_258 : pR 3 d 258 [.ref o, a1, a2, a3, a4, a5, a6] st h = pR 3 d 259 [.ref o, a1, a2, a3, a4, a5, a6] (.ref o :: st) h := pR_L rfl rfl
theorem rL_law_258n : pR 3 d 258 [.null, a1, a2, a3, a4, a5, a6] st h = pR 3 d 259 [.null, a1, a2, a3, a4, a5, a6] (.null :: st) h := pR_L rfl rfl
theorem rL_law_259 : pR 3 d 259 [a0, a1, a2, a3, .int x, a5, a6] st h = pR 3 d 261 [a0, a1, a2, a3, .int x, a5, a6] (.int x :: st) h := pR_L rfl rfl
theorem rL_law_261 : pR 3 d 261 ls st h = pR 3 d 262 ls (.int 3 :: st) h := pR_L rfl rfl
theorem rL_law_262 : pR 3 d 262 ls (.int y :: .int x :: st) h = pR 3 d 263 ls (.int (x + y) :: st) h := pR_L rfl rfl
theorem rL_law_263 : pR 3 d 263 ls (.int x :: .ref o :: st) h = if (pin x (pln h 0 o) || pin x (pln h 9 o)) = true then pR 3 d 264 ls (.int (pct h o x.toNatClampNeg) :: st) h else none := pR_Lif rfl rfl
theorem rL_law_264 : pR 3 d 264 [.ref o, a1, a2, a3, a4, a5, a6] st h = pR 3 d 265 [.ref o, a1, a2, a3, a4, a5, a6] (.ref o :: st) h := pR_L rfl rfl
theorem rL_law_264n : pR 3 d 264 [.null, a1, a2, a3, a4, a5, a6] st h = pR 3 d 265 [.null, a1, a2, a3, a4, a5, a6] (.null :: st) h := pR_L rfl rfl
theorem rL_law_265 : pR 3 d 265 [a0, a1, a2, a3, .int x, a5, a6] st h = pR 3 d 267 [a0, a1, a2, a3, .int x, a5, a6] (.int x :: st) h := pR_L rfl rfl
theorem rL_law_267 : pR 3 d 267 ls st h = pR 3 d 268 ls (.int 4 :: st) h := pR_L rfl rfl
theorem rL_law_268 : pR 3 d 268 ls (.int y :: .int x :: st) h = pR 3 d 269 ls (.int (x + y) :: st) h := pR_L rfl rfl
theorem rL_law_269 : pR 3 d 269 ls (.int x :: .ref o :: st) h = if (pin x (pln h 0 o) || pin x (pln h 9 o)) = true then pR 3 d 270 ls (.int (pct h o x.toNatClampNeg) :: st) h else none := pR_Lif rfl rfl
theorem rL_law_270 : pR 3 d 270 [.ref o, a1, a2, a3, a4, a5, a6] st h = pR 3 d 271 [.ref o, a1, a2, a3, a4, a5, a6] (.ref o :: st) h := pR_L rfl rfl
theorem rL_law_270n : pR 3 d 270 [.null, a1, a2, a3, a4, a5, a6] st h = pR 3 d 271 [.null, a1, a2, a3, a4, a5, a6] (.null :: st) h := pR_L rfl rfl
theorem rL_law_271 : pR 3 d 271 [a0, a1, a2, a3, .int x, a5, a6] st h = pR 3 d 273 [a0, a1, a2, a3, .int x, a5, a6] (.int x :: st) h := pR_L rfl rfl
theorem rL_law_273 : pR 3 d 273 ls st h = pR 3 d 274 ls (.int 5 :: st) h := pR_L rfl rfl
theorem rL_law_274 : pR 3 d 274 ls (.int y :: .int x :: st) h = pR 3 d 275 ls (.int (x + y) :: st) h := pR_L rfl rfl
theorem rL_law_275 : pR 3 d 275 ls (.int x :: .ref o :: st) h = if (pin x (pln h 0 o) || pin x (pln h 9 o)) = true then pR 3 d 276 ls (.int (pct h o x.toNatClampNeg) :: st) h else none := pR_Lif rfl rfl
theorem rL_law_276 : pR 3 (d + 1) 276 ls (b5 :: b4 :: b3 :: b2 :: b1 :: .ref o :: st) h = if (pok 1 (pcl h o) && pw st) = true then pK 3 (d + 1) 276 3 ls st (pCa 7 d [.ref o, b1, b2, b3, b4, b5] h) else none := r_callV rfl rfl rfl
theorem rL_law_279 : pR 3 d 279 [a0, a1, .ref o, a3, a4, a5, a6] st h = pR 3 d 280 [a0, a1, .ref o, a3, a4, a5, a6] (.ref o :: st) h := pR_L rfl rfl
theorem rL_law_279n : pR 3 d 279 [a0, a1, .null, a3, a4, a5, a6] st h = pR 3 d 280 [a0, a1, .null, a3, a4, a5, a6] (.null :: st) h := pR_L rfl rfl
theorem rL_law_280 : pR 3 d 280 [.ref o, a1, a2, a3, a4, a5, a6] st h = pR 3 d 281 [.ref o, a1, a2, a3, a4, a5, a6] (.ref o :: st) h := pR_L rfl rfl
theorem rL_law_280n : pR 3 d 280 [.null, a1, a2, a3, a4, a5, a6] st h = pR 3 d 281 [.null, a1, a2, a3, a4, a5, a6] (.null :: st) h := pR_L rfl rfl
theorem rL_law_281 : pR 3 d 281 [a0, a1, a2, a3, .int x, a5, a6] st h = pR 3 d 283 [a0, a1, a2, a3, .int x, a5, a6] (.int x :: st) h := pR_L rfl rfl
theorem rL_law_283 : pR 3 d 283 ls st h = pR 3 d 284 ls (.int 1 :: st) h := pR_L rfl rfl
theorem rL_law_284 : pR 3 d 284 ls (.int y :: .int x :: st) h = pR 3 d 285 ls (.int (x + y) :: st) h := pR_L rfl rfl
theorem rL_law_285 : pR 3 d 285 ls (.int x :: .ref o :: st) h = if (pin x (pln h 0 o) || pin x (pln h 9 o)) = true then pR 3 d 286 ls (.int (pct h o x.toNatClampNeg) :: st) h else none := pR_Lif rfl rfl
theorem rL_law_286 : pR 3 d 286 [.ref o, a1, a2, a3, a4, a5, a6] st h = pR 3 d 287 [.ref o, a1, a2, a3, a4, a5, a6] (.ref o :: st) h := pR_L rfl rfl
theorem rL_law_286n : pR 3 d 286 [.null, a1, a2, a3, a4, a5, a6] st h = pR 3 d 287 [.null, a1, a2, a3, a4, a5, a6] (.null :: st) h := pR_L rfl rfl
theorem rL_law_287 : pR 3 d 287 [a0, a1, a2, a3, .int x, a5, a6] st h = pR 3 d 289 [a0, a1, a2, a3, .int x, a5, a6] (.int x :: st) h := pR_L rfl rfl
theorem rL_law_289 : pR 3 d 289 ls st h = pR 3 d 290 ls (.int 2 :: st) h := pR_L rfl rfl
theorem rL_law_290 : pR 3 d 290 ls (.int y :: .int x :: st) h = pR 3 d 291 ls (.int (x + y) :: st) h := pR_L rfl rfl
theorem rL_law_291 : pR 3 d 291 ls (.int x :: .ref o :: st) h = if (pin x (pln h 0 o) || pin x (pln h 9 o)) = true then pR 3 d 292 ls (.int (pct h o x.toNatClampNeg) :: st) h else none := pR_Lif rfl rfl
theorem rL_law_292 : pR 3 d 292 [.ref o, a1, a2, a3, a4, a5, a6] st h = pR 3 d 293 [.ref o, a1, a2, a3, a4, a5, a6] (.ref o :: st) h := pR_L rfl rfl
theorem rL_law_292n : pR 3 d 292 [.null, a1, a2, a3, a4, a5, a6] st h = pR 3 d 293 [.null, a1, a2, a3, a4, a5, a6] (.null :: st) h := pR_L rfl rfl
theorem rL_law_293 : pR 3 d 293 [a0, a1, a2, a3, .int x, a5, a6] st h = pR 3 d 295 [a0, a1, a2, a3, .int x, a5, a6] (.int x :: st) h := pR_L rfl rfl
theorem rL_law_295 : pR 3 d 295 ls st h = pR 3 d 296 ls (.int 3 :: st) h := pR_L rfl rfl
theorem rL_law_296 : pR 3 d 296 ls (.int y :: .int x :: st) h = pR 3 d 297 ls (.int (x + y) :: st) h := pR_L rfl rfl
theorem rL_law_297 : pR 3 d 297 ls (.int x :: .ref o :: st) h = if (pin x (pln h 0 o) || pin x (pln h 9 o)) = true then pR 3 d 298 ls (.int (pct h o x.toNatClampNeg) :: st) h else none := pR_Lif rfl rfl
theorem rL_law_298 : pR 3 d 298 [.ref o, a1, a2, a3, a4, a5, a6] st h = pR 3 d 299 [.ref o, a1, a2, a3, a4, a5, a6] (.ref o :: st) h := pR_L rfl rfl
theorem rL_law_298n : pR 3 d 298 [.null, a1, a2, a3, a4, a5, a6] st h = pR 3 d 299 [.null, a1, a2, a3, a4, a5, a6] (.null :: st) h := pR_L rfl rfl
theorem rL_law_299 : pR 3 d 299 [a0, a1, a2, a3, .int x, a5, a6] st h = pR 3 d 301 [a0, a1, a2, a3, .int x, a5, a6] (.int x :: st) h := pR_L rfl rfl
theorem rL_law_301 : pR 3 d 301 ls st h = pR 3 d 302 ls (.int 4 :: st) h := pR_L rfl rfl
theorem rL_law_302 : pR 3 d 302 ls (.int y :: .int x :: st) h = pR 3 d 303 ls (.int (x + y) :: st) h := pR_L rfl rfl
theorem rL_law_303 : pR 3 d 303 ls (.int x :: .ref o :: st) h = if (pin x (pln h 0 o) || pin x (pln h 9 o)) = true then pR 3 d 304 ls (.int (pct h o x.toNatClampNeg) :: st) h else none := pR_Lif rfl rfl
theorem rL_law_304 : pR 3 d 304 [.ref o, a1, a2, a3, a4, a5, a6] st h = pR 3 d 305 [.ref o, a1, a2, a3, a4, a5, a6] (.ref o :: st) h := pR_L rfl rfl
theorem rL_law_304n : pR 3 d 304 [.null, a1, a2, a3, a4, a5, a6] st h = pR 3 d 305 [.null, a1, a2, a3, a4, a5, a6] (.null :: st) h := pR_L rfl rfl
theorem rL_law_305 : pR 3 d 305 [a0, a1, a2, a3, .int x, a5, a6] st h = pR 3 d 307 [a0, a1, a2, a3, .int x, a5, a6] (.int x :: st) h := pR_L rfl rfl
theorem rL_law_307 : pR 3 d 307 ls st h = pR 3 d 308 ls (.int 5 :: st) h := pR_L rfl rfl
theorem rL_law_308 : pR 3 d 308 ls (.int y :: .int x :: st) h = pR 3 d 309 ls (.int (x + y) :: st) h := pR_L rfl rfl
theorem rL_law_309 : pR 3 d 309 ls (.int x :: .ref o :: st) h = if (pin x (pln h 0 o) || pin x (pln h 9 o)) = true then pR 3 d 310 ls (.int (pct h o x.toNatClampNeg) :: st) h else none := pR_Lif rfl rfl
theorem rL_law_310 : pR 3 (d + 1) 310 ls (b5 :: b4 :: b3 :: b2 :: b1 :: .ref o :: st) h = if (pok 3 (pcl h o) && pw st) = true then pK 3 (d + 1) 310 3 ls st (pCa 70 d [.ref o, b1, b2, b3, b4, b5] h) else none := r_callV rfl rfl rfl
theorem rL_law_313 : pR 3 d 313 ls (.int y :: .int x :: st) h = if x = y then pR 3 d 1654 ls st h else pR 3 d 316 ls st h := r_ceq rfl rfl
theorem rL_law_316 : pR 3 d 316 ls st h = pR 3 d 317 ls (.int 0 :: st) h := pR_L rfl rfl
theorem rL_law_3170 : pR 3 d 317 ls [.int 0] h = some (.inl (some (.int 0)), h) := pR_E rfl rfl
theorem rL_law_3171 : pR 3 d 317 ls [.int 1] h = some (.inl (some (.int 1)), h) := pR_E rfl rfl
theorem rL_law_318 : pR 3 d 318 [a0, .ref o, a2, a3, a4, a5, a6] st h = pR 3 d 319 [a0, .ref o, a2, a3, a4, a5, a6] (.ref o :: st) h := pR_L rfl rfl
theorem rL_law_318n : pR 3 d 318 [a0, .null, a2, a3, a4, a5, a6] st h = pR 3 d 319 [a0, .null, a2, a3, a4, a5, a6] (.null :: st) h := pR_L rfl rfl
theorem rL_law_319 : pR 3 d 319 [.ref o, a1, a2, a3, a4, a5, a6] st h = pR 3 d 320 [.ref o, a1, a2, a3, a4, a5, a6] (.ref o :: st) h := pR_L rfl rfl
theorem rL_law_319n : pR 3 d 319 [.null, a1, a2, a3, a4, a5, a6] st h = pR 3 d 320 [.null, a1, a2, a3, a4, a5, a6] (.null :: st) h := pR_L rfl rfl
theorem rL_law_320 : pR 3 d 320 [a0, a1, a2, a3, .int x, a5, a6] st h = pR 3 d 322 [a0, a1, a2, a3, .int x, a5, a6] (.int x :: st) h := pR_L rfl rfl
theorem rL_law_322 : pR 3 d 322 ls st h = pR 3 d 323 ls (.int 1 :: st) h := pR_L rfl rfl
theorem rL_law_323 : pR 3 d 323 ls (.int y :: .int x :: st) h = pR 3 d 324 ls (.int (x + y) :: st) h := pR_L rfl rfl
theorem rL_law_324 : pR 3 d 324 ls (.int x :: .ref o :: st) h = if (pin x (pln h 0 o) || pin x (pln h 9 o)) = true then pR 3 d 325 ls (.int (pct h o x.toNatClampNeg) :: st) h else none := pR_Lif rfl rfl
theorem rL_law_325 : pR 3 (d + 1) 325 ls (b1 :: .ref o :: st) h = if (pok 1 (pcl h o) && pw st) = true then pK 3 (d + 1) 325 3 ls st (pCa 10 d [.ref o, b1] h) else none := r_callV rfl rfl rfl
theorem rL_law_328 : pR 3 d 328 [a0, a1, .ref o, a3, a4, a5, a6] st h = pR 3 d 329 [a0, a1, .ref o, a3, a4, a5, a6] (.ref o :: st) h := pR_L rfl rfl
theorem rL_law_328n : pR 3 d 328 [a0, a1, .null, a3, a4, a5, a6] st h = pR 3 d 329 [a0, a1, .null, a3, a4, a5, a6] (.null :: st) h := pR_L rfl rfl
theorem rL_law_329 : pR 3 d 329 [.ref o, a1, a2, a3, a4, a5, a6] st h = pR 3 d 330 [.ref o, a1, a2, a3, a4, a5, a6] (.ref o :: st) h := pR_L rfl rfl
theorem rL_law_329n : pR 3 d 329 [.null, a1, a2, a3, a4, a5, a6] st h = pR 3 d 330 [.null, a1, a2, a3, a4, a5, a6] (.null :: st) h := pR_L rfl rfl
theorem rL_law_330 : pR 3 d 330 [a0, a1, a2, a3, .int x, a5, a6] st h = pR 3 d 332 [a0, a1, a2, a3, .int x, a5, a6] (.int x :: st) h := pR_L rfl rfl
theorem rL_law_332 : pR 3 d 332 ls st h = pR 3 d 333 ls (.int 1 :: st) h := pR_L rfl rfl
theorem rL_law_333 : pR 3 d 333 ls (.int y :: .int x :: st) h = pR 3 d 334 ls (.int (x + y) :: st) h := pR_L rfl rfl
theorem rL_law_334 : pR 3 d 334 ls (.int x :: .ref o :: st) h = if (pin x (pln h 0 o) || pin x (pln h 9 o)) = true then pR 3 d 335 ls (.int (pct h o x.toNatClampNeg) :: st) h else none := pR_Lif rfl rfl
theorem rL_law_335 : pR 3 (d + 1) 335 ls (b1 :: .ref o :: st) h = if (pok 3 (pcl h o) && pw st) = true then pK 3 (d + 1) 335 3 ls st (pCa 72 d [.ref o, b1] h) else none := r_callV rfl rfl rfl
theorem rL_law_338 : pR 3 d 338 ls (.int y :: .int x :: st) h = if x = y then pR 3 d 1654 ls st h else pR 3 d 341 ls st h := r_ceq rfl rfl
theorem rL_law_341 : pR 3 d 341 ls st h = pR 3 d 342 ls (.int 0 :: st) h := pR_L rfl rfl
theorem rL_law_3420 : pR 3 d 342 ls [.int 0] h = some (.inl (some (.int 0)), h) := pR_E rfl rfl
theorem rL_law_3421 : pR 3 d 342 ls [.int 1] h = some (.inl (some (.int 1)), h) := pR_E rfl rfl
theorem rL_law_343 : pR 3 d 343 [a0, .ref o, a2, a3, a4, a5, a6] st h = pR 3 d 344 [a0, .ref o, a2, a3, a4, a5, a6] (.ref o :: st) h := pR_L rfl rfl
theorem rL_law_343n : pR 3 d 343 [a0, .null, a2, a3, a4, a5, a6] st h = pR 3 d 344 [a0, .null, a2, a3, a4, a5, a6] (.null :: st) h := pR_L rfl rfl
theorem rL_law_344 : pR 3 d 344 [.ref o, a1, a2, a3, a4, a5, a6] st h = pR 3 d 345 [.ref o, a1, a2, a3, a4, a5, a6] (.ref o :: st) h := pR_L rfl rfl
theorem rL_law_344n : pR 3 d 344 [.null, a1, a2, a3, a4, a5, a6] st h = pR 3 d 345 [.null, a1, a2, a3, a4, a5, a6] (.null :: st) h := pR_L rfl rfl
theorem rL_law_345 : pR 3 d 345 [a0, a1, a2, a3, .int x, a5, a6] st h = pR 3 d 347 [a0, a1, a2, a3, .int x, a5, a6] (.int x :: st) h := pR_L rfl rfl
theorem rL_law_347 : pR 3 d 347 ls st h = pR 3 d 348 ls (.int 1 :: st) h := pR_L rfl rfl
theorem rL_law_348 : pR 3 d 348 ls (.int y :: .int x :: st) h = pR 3 d 349 ls (.int (x + y) :: st) h := pR_L rfl rfl
theorem rL_law_349 : pR 3 d 349 ls (.int x :: .ref o :: st) h = if (pin x (pln h 0 o) || pin x (pln h 9 o)) = true then pR 3 d 350 ls (.int (pct h o x.toNatClampNeg) :: st) h else none := pR_Lif rfl rfl
theorem rL_law_350 : pR 3 (d + 1) 350 ls (b1 :: .ref o :: st) h = if (pok 1 (pcl h o) && pw st) = true then pK 3 (d + 1) 350 3 ls st (pCa 11 d [.ref o, b1] h) else none := r_callV rfl rfl rfl
theorem rL_law_353 : pR 3 d 353 [a0, a1, .ref o, a3, a4, a5, a6] st h = pR 3 d 354 [a0, a1, .ref o, a3, a4, a5, a6] (.ref o :: st) h := pR_L rfl rfl
theorem rL_law_353n : pR 3 d 353 [a0, a1, .null, a3, a4, a5, a6] st h = pR 3 d 354 [a0, a1, .null, a3, a4, a5, a6] (.null :: st) h := pR_L rfl rfl
theorem rL_law_354 : pR 3 d 354 [.ref o, a1, a2, a3, a4, a5, a6] st h = pR 3 d 355 [.ref o, a1, a2, a3, a4, a5, a6] (.ref o :: st) h := pR_L rfl rfl
theorem rL_law_354n : pR 3 d 354 [.null, a1, a2, a3, a4, a5, a6] st h = pR 3 d 355 [.null, a1, a2, a3, a4, a5, a6] (.null :: st) h := pR_L rfl rfl
theorem rL_law_355 : pR 3 d 355 [a0, a1, a2, a3, .int x, a5, a6] st h = pR 3 d 357 [a0, a1, a2, a3, .int x, a5, a6] (.int x :: st) h := pR_L rfl rfl
theorem rL_law_357 : pR 3 d 357 ls st h = pR 3 d 358 ls (.int 1 :: st) h := pR_L rfl rfl
theorem rL_law_358 : pR 3 d 358 ls (.int y :: .int x :: st) h = pR 3 d 359 ls (.int (x + y) :: st) h := pR_L rfl rfl
theorem rL_law_359 : pR 3 d 359 ls (.int x :: .ref o :: st) h = if (pin x (pln h 0 o) || pin x (pln h 9 o)) = true then pR 3 d 360 ls (.int (pct h o x.toNatClampNeg) :: st) h else none := pR_Lif rfl rfl
theorem rL_law_360 : pR 3 (d + 1) 360 ls (b1 :: .ref o :: st) h = if (pok 3 (pcl h o) && pw st) = true then pK 3 (d + 1) 360 3 ls st (pCa 73 d [.ref o, b1] h) else none := r_callV rfl rfl rfl
theorem rL_law_363 : pR 3 d 363 ls (.int y :: .int x :: st) h = if x = y then pR 3 d 1654 ls st h else pR 3 d 366 ls st h := r_ceq rfl rfl
theorem rL_law_366 : pR 3 d 366 ls st h = pR 3 d 367 ls (.int 0 :: st) h := pR_L rfl rfl
theorem rL_law_3670 : pR 3 d 367 ls [.int 0] h = some (.inl (some (.int 0)), h) := pR_E rfl rfl
theorem rL_law_3671 : pR 3 d 367 ls [.int 1] h = some (.inl (some (.int 1)), h) := pR_E rfl rfl
theorem rL_law_368 : pR 3 d 368 [a0, .ref o, a2, a3, a4, a5, a6] st h = pR 3 d 369 [a0, .ref o, a2, a3, a4, a5, a6] (.ref o :: st) h := pR_L rfl rfl
theorem rL_law_368n : pR 3 d 368 [a0, .null, a2, a3, a4, a5, a6] st h = pR 3 d 369 [a0, .null, a2, a3, a4, a5, a6] (.null :: st) h := pR_L rfl rfl
theorem rL_law_369 : pR 3 (d + 1) 369 ls (.ref o :: st) h = if (pok 1 (pcl h o) && pw st) = true then pK 3 (d + 1) 369 3 ls st (pCa 12 d [.ref o] h) else none := r_callV rfl rfl rfl
theorem rL_law_372 : pR 3 d 372 [a0, a1, .ref o, a3, a4, a5, a6] st h = pR 3 d 373 [a0, a1, .ref o, a3, a4, a5, a6] (.ref o :: st) h := pR_L rfl rfl
theorem rL_law_372n : pR 3 d 372 [a0, a1, .null, a3, a4, a5, a6] st h = pR 3 d 373 [a0, a1, .null, a3, a4, a5, a6] (.null :: st) h := pR_L rfl rfl
theorem rL_law_373 : pR 3 (d + 1) 373 ls (.ref o :: st) h = if (pok 3 (pcl h o) && pw st) = true then pK 3 (d + 1) 373 3 ls st (pCa 100 d [.ref o] h) else none := r_callV rfl rfl rfl
theorem rL_law_376 : pR 3 d 376 ls (.int y :: .int x :: st) h = if x = y then pR 3 d 1654 ls st h else pR 3 d 379 ls st h := r_ceq rfl rfl
theorem rL_law_379 : pR 3 d 379 ls st h = pR 3 d 380 ls (.int 0 :: st) h := pR_L rfl rfl
theorem rL_law_3800 : pR 3 d 380 ls [.int 0] h = some (.inl (some (.int 0)), h) := pR_E rfl rfl
theorem rL_law_3801 : pR 3 d 380 ls [.int 1] h = some (.inl (some (.int 1)), h) := pR_E rfl rfl
theorem rL_law_381 : pR 3 d 381 [a0, .ref o, a2, a3, a4, a5, a6] st h = pR 3 d 382 [a0, .ref o, a2, a3, a4, a5, a6] (.ref o :: st) h := pR_L rfl rfl
theorem rL_law_381n : pR 3 d 381 [a0, .null, a2, a3, a4, a5, a6] st h = pR 3 d 382 [a0, .null, a2, a3, a4, a5, a6] (.null :: st) h := pR_L rfl rfl
theorem rL_law_382 : pR 3 (d + 1) 382 ls (.ref o :: st) h = if (pok 1 (pcl h o) && pw st) = true then pK 3 (d + 1) 382 3 ls st (pCa 54 d [.ref o] h) else none := r_callV rfl rfl rfl
theorem rL_law_385 : pR 3 d 385 [a0, a1, .ref o, a3, a4, a5, a6] st h = pR 3 d 386 [a0, a1, .ref o, a3, a4, a5, a6] (.ref o :: st) h := pR_L rfl rfl
theorem rL_law_385n : pR 3 d 385 [a0, a1, .null, a3, a4, a5, a6] st h = pR 3 d 386 [a0, a1, .null, a3, a4, a5, a6] (.null :: st) h := pR_L rfl rfl
theorem rL_law_386 : pR 3 (d + 1) 386 ls (.ref o :: st) h = if (pok 3 (pcl h o) && pw st) = true then pK 3 (d + 1) 386 3 ls st (pCa 101 d [.ref o] h) else none := r_callV rfl rfl rfl
theorem rL_law_389 : pR 3 d 389 ls (.int y :: .int x :: st) h = if x = y then pR 3 d 1654 ls st h else pR 3 d 392 ls st h := r_ceq rfl rfl
theorem rL_law_392 : pR 3 d 392 ls st h = pR 3 d 393 ls (.int 0 :: st) h := pR_L rfl rfl
theorem rL_law_3930 : pR 3 d 393 ls [.int 0] h = some (.inl (some (.int 0)), h) := pR_E rfl rfl
theorem rL_law_3931 : pR 3 d 393 ls [.int 1] h = some (.inl (some (.int 1)), h) := pR_E rfl rfl
theorem rL_law_394 : pR 3 d 394 [a0, .ref o, a2, a3, a4, a5, a6] st h = pR 3 d 395 [a0, .ref o, a2, a3, a4, a5, a6] (.ref o :: st) h := pR_L rfl rfl
theorem rL_law_394n : pR 3 d 394 [a0, .null, a2, a3, a4, a5, a6] st h = pR 3 d 395 [a0, .null, a2, a3, a4, a5, a6] (.null :: st) h := pR_L rfl rfl
theorem rL_law_395 : pR 3 d 395 [.ref o, a1, a2, a3, a4, a5, a6] st h = pR 3 d 396 [.ref o, a1, a2, a3, a4, a5, a6] (.ref o :: st) h := pR_L rfl rfl
theorem rL_law_395n : pR 3 d 395 [.null, a1, a2, a3, a4, a5, a6] st h = pR 3 d 396 [.null, a1, a2, a3, a4, a5, a6] (.null :: st) h := pR_L rfl rfl
theorem rL_law_396 : pR 3 d 396 [a0, a1, a2, a3, .int x, a5, a6] st h = pR 3 d 398 [a0, a1, a2, a3, .int x, a5, a6] (.int x :: st) h := pR_L rfl rfl
theorem rL_law_398 : pR 3 d 398 ls st h = pR 3 d 399 ls (.int 1 :: st) h := pR_L rfl rfl
theorem rL_law_399 : pR 3 d 399 ls (.int y :: .int x :: st) h = pR 3 d 400 ls (.int (x + y) :: st) h := pR_L rfl rfl
theorem rL_law_400 : pR 3 d 400 ls (.int x :: .ref o :: st) h = if (pin x (pln h 0 o) || pin x (pln h 9 o)) = true then pR 3 d 401 ls (.int (pct h o x.toNatClampNeg) :: st) h else none := pR_Lif rfl rfl
theorem rL_law_401 : pR 3 d 401 [.ref o, a1, a2, a3, a4, a5, a6] st h = pR 3 d 402 [.ref o, a1, a2, a3, a4, a5, a6] (.ref o :: st) h := pR_L rfl rfl
theorem rL_law_401n : pR 3 d 401 [.null, a1, a2, a3, a4, a5, a6] st h = pR 3 d 402 [.null, a1, a2, a3, a4, a5, a6] (.null :: st) h := pR_L rfl rfl
theorem rL_law_402 : pR 3 d 402 [a0, a1, a2, a3, .int x, a5, a6] st h = pR 3 d 404 [a0, a1, a2, a3, .int x, a5, a6] (.int x :: st) h := pR_L rfl rfl
theorem rL_law_404 : pR 3 d 404 ls st h = pR 3 d 405 ls (.int 2 :: st) h := pR_L rfl rfl
theorem rL_law_405 : pR 3 d 405 ls (.int y :: .int x :: st) h = pR 3 d 406 ls (.int (x + y) :: st) h := pR_L rfl rfl
theorem rL_law_406 : pR 3 d 406 ls (.int x :: .ref o :: st) h = if (pin x (pln h 0 o) || pin x (pln h 9 o)) = true then pR 3 d 407 ls (.int (pct h o x.toNatClampNeg) :: st) h else none := pR_Lif rfl rfl
theorem rL_law_407 : pR 3 (d + 1) 407 ls (b2 :: b1 :: .ref o :: st) h = if (pok 1 (pcl h o) && pw st) = true then pK 3 (d + 1) 407 3 ls st (pCa 14 d [.ref o, b1, b2] h) else none := r_callV rfl rfl rfl
theorem rL_law_410 : pR 3 d 410 [a0, a1, .ref o, a3, a4, a5, a6] st h = pR 3 d 411 [a0, a1, .ref o, a3, a4, a5, a6] (.ref o :: st) h := pR_L rfl rfl
theorem rL_law_410n : pR 3 d 410 [a0, a1, .null, a3, a4, a5, a6] st h = pR 3 d 411 [a0, a1, .null, a3, a4, a5, a6] (.null :: st) h := pR_L rfl rfl
theorem rL_law_411 : pR 3 d 411 [.ref o, a1, a2, a3, a4, a5, a6] st h = pR 3 d 412 [.ref o, a1, a2, a3, a4, a5, a6] (.ref o :: st) h := pR_L rfl rfl
theorem rL_law_411n : pR 3 d 411 [.null, a1, a2, a3, a4, a5, a6] st h = pR 3 d 412 [.null, a1, a2, a3, a4, a5, a6] (.null :: st) h := pR_L rfl rfl
theorem rL_law_412 : pR 3 d 412 [a0, a1, a2, a3, .int x, a5, a6] st h = pR 3 d 414 [a0, a1, a2, a3, .int x, a5, a6] (.int x :: st) h := pR_L rfl rfl
theorem rL_law_414 : pR 3 d 414 ls st h = pR 3 d 415 ls (.int 1 :: st) h := pR_L rfl rfl
theorem rL_law_415 : pR 3 d 415 ls (.int y :: .int x :: st) h = pR 3 d 416 ls (.int (x + y) :: st) h := pR_L rfl rfl
theorem rL_law_416 : pR 3 d 416 ls (.int x :: .ref o :: st) h = if (pin x (pln h 0 o) || pin x (pln h 9 o)) = true then pR 3 d 417 ls (.int (pct h o x.toNatClampNeg) :: st) h else none := pR_Lif rfl rfl
theorem rL_law_417 : pR 3 d 417 [.ref o, a1, a2, a3, a4, a5, a6] st h = pR 3 d 418 [.ref o, a1, a2, a3, a4, a5, a6] (.ref o :: st) h := pR_L rfl rfl
theorem rL_law_417n : pR 3 d 417 [.null, a1, a2, a3, a4, a5, a6] st h = pR 3 d 418 [.null, a1, a2, a3, a4, a5, a6] (.null :: st) h := pR_L rfl rfl
theorem rL_law_418 : pR 3 d 418 [a0, a1, a2, a3, .int x, a5, a6] st h = pR 3 d 420 [a0, a1, a2, a3, .int x, a5, a6] (.int x :: st) h := pR_L rfl rfl
theorem rL_law_420 : pR 3 d 420 ls st h = pR 3 d 421 ls (.int 2 :: st) h := pR_L rfl rfl
theorem rL_law_421 : pR 3 d 421 ls (.int y :: .int x :: st) h = pR 3 d 422 ls (.int (x + y) :: st) h := pR_L rfl rfl
theorem rL_law_422 : pR 3 d 422 ls (.int x :: .ref o :: st) h = if (pin x (pln h 0 o) || pin x (pln h 9 o)) = true then pR 3 d 423 ls (.int (pct h o x.toNatClampNeg) :: st) h else none := pR_Lif rfl rfl
theorem rL_law_423 : pR 3 (d + 1) 423 ls (b2 :: b1 :: .ref o :: st) h = if (pok 3 (pcl h o) && pw st) = true then pK 3 (d + 1) 423 3 ls st (pCa 107 d [.ref o, b1, b2] h) else none := r_callV rfl rfl rfl
theorem rL_law_426 : pR 3 d 426 ls (.int y :: .int x :: st) h = if x = y then pR 3 d 1654 ls st h else pR 3 d 429 ls st h := r_ceq rfl rfl
theorem rL_law_429 : pR 3 d 429 ls st h = pR 3 d 430 ls (.int 0 :: st) h := pR_L rfl rfl
theorem rL_law_4300 : pR 3 d 430 ls [.int 0] h = some (.inl (some (.int 0)), h) := pR_E rfl rfl
theorem rL_law_4301 : pR 3 d 430 ls [.int 1] h = some (.inl (some (.int 1)), h) := pR_E rfl rfl
theorem rL_law_431 : pR 3 d 431 [a0, .ref o, a2, a3, a4, a5, a6] st h = pR 3 d 432 [a0, .ref o, a2, a3, a4, a5, a6] (.ref o :: st) h := pR_L rfl rfl
theorem rL_law_431n : pR 3 d 431 [a0, .null, a2, a3, a4, a5, a6] st h = pR 3 d 432 [a0, .null, a2, a3, a4, a5, a6] (.null :: st) h := pR_L rfl rfl
theorem rL_law_432 : pR 3 d 432 [.ref o, a1, a2, a3, a4, a5, a6] st h = pR 3 d 433 [.ref o, a1, a2, a3, a4, a5, a6] (.ref o :: st) h := pR_L rfl rfl
theorem rL_law_432n : pR 3 d 432 [.null, a1, a2, a3, a4, a5, a6] st h = pR 3 d 433 [.null, a1, a2, a3, a4, a5, a6] (.null :: st) h := pR_L rfl rfl
theorem rL_law_433 : pR 3 d 433 [a0, a1, a2, a3, .int x, a5, a6] st h = pR 3 d 435 [a0, a1, a2, a3, .int x, a5, a6] (.int x :: st) h := pR_L rfl rfl
theorem rL_law_435 : pR 3 d 435 ls st h = pR 3 d 436 ls (.int 1 :: st) h := pR_L rfl rfl
theorem rL_law_436 : pR 3 d 436 ls (.int y :: .int x :: st) h = pR 3 d 437 ls (.int (x + y) :: st) h := pR_L rfl rfl
theorem rL_law_437 : pR 3 d 437 ls (.int x :: .ref o :: st) h = if (pin x (pln h 0 o) || pin x (pln h 9 o)) = true then pR 3 d 438 ls (.int (pct h o x.toNatClampNeg) :: st) h else none := pR_Lif rfl rfl
theorem rL_law_438 : pR 3 d 438 [.ref o, a1, a2, a3, a4, a5, a6] st h = pR 3 d 439 [.ref o, a1, a2, a3, a4, a5, a6] (.ref o :: st) h := pR_L rfl rfl
theorem rL_law_438n : pR 3 d 438 [.null, a1, a2, a3, a4, a5, a6] st h = pR 3 d 439 [.null, a1, a2, a3, a4, a5, a6] (.null :: st) h := pR_L rfl rfl
theorem rL_law_439 : pR 3 d 439 [a0, a1, a2, a3, .int x, a5, a6] st h = pR 3 d 441 [a0, a1, a2, a3, .int x, a5, a6] (.int x :: st) h := pR_L rfl rfl
theorem rL_law_441 : pR 3 d 441 ls st h = pR 3 d 442 ls (.int 2 :: st) h := pR_L rfl rfl
theorem rL_law_442 : pR 3 d 442 ls (.int y :: .int x :: st) h = pR 3 d 443 ls (.int (x + y) :: st) h := pR_L rfl rfl
theorem rL_law_443 : pR 3 d 443 ls (.int x :: .ref o :: st) h = if (pin x (pln h 0 o) || pin x (pln h 9 o)) = true then pR 3 d 444 ls (.int (pct h o x.toNatClampNeg) :: st) h else none := pR_Lif rfl rfl
theorem rL_law_444 : pR 3 d 444 [.ref o, a1, a2, a3, a4, a5, a6] st h = pR 3 d 445 [.ref o, a1, a2, a3, a4, a5, a6] (.ref o :: st) h := pR_L rfl rfl
theorem rL_law_444n : pR 3 d 444 [.null, a1, a2, a3, a4, a5, a6] st h = pR 3 d 445 [.null, a1, a2, a3, a4, a5, a6] (.null :: st) h := pR_L rfl rfl
theorem rL_law_445 : pR 3 d 445 [a0, a1, a2, a3, .int x, a5, a6] st h = pR 3 d 447 [a0, a1, a2, a3, .int x, a5, a6] (.int x :: st) h := pR_L rfl rfl
theorem rL_law_447 : pR 3 d 447 ls st h = pR 3 d 448 ls (.int 3 :: st) h := pR_L rfl rfl
theorem rL_law_448 : pR 3 d 448 ls (.int y :: .int x :: st) h = pR 3 d 449 ls (.int (x + y) :: st) h := pR_L rfl rfl
theorem rL_law_449 : pR 3 d 449 ls (.int x :: .ref o :: st) h = if (pin x (pln h 0 o) || pin x (pln h 9 o)) = true then pR 3 d 450 ls (.int (pct h o x.toNatClampNeg) :: st) h else none := pR_Lif rfl rfl
theorem rL_law_450 : pR 3 d 450 [a0, a1, a2, .ref o, a4, a5, a6] st h = pR 3 d 451 [a0, a1, a2, .ref o, a4, a5, a6] (.ref o :: st) h := pR_L rfl rfl
theorem rL_law_450n : pR 3 d 450 [a0, a1, a2, .null, a4, a5, a6] st h = pR 3 d 451 [a0, a1, a2, .null, a4, a5, a6] (.null :: st) h := pR_L rfl rfl
theorem rL_law_451 : pR 3 (d + 1) 451 ls (b4 :: b3 :: b2 :: b1 :: b0 :: st) h = if pw st = true then pK 3 (d + 1) 451 3 ls st (pCa 0 d [b0, b1, b2, b3, b4] h) else none := r_callS rfl rfl rfl
theorem rL_law_454 : pR 3 d 454 [a0, a1, a2, a3, a4, a5, a6] (.int x :: st) h = if p1 a5 = true then pR 3 d 456 [a0, a1, a2, a3, a4, .int x, a6] st h else none := r_sto (n := 2) (k := 5) (v := .int x) (ls := [a0, a1, a2, a3, a4, a5, a6]) rfl rfl rfl
theorem rL_law_456 : pR 3 d 456 [a0, a1, .ref o, a3, a4, a5, a6] st h = pR 3 d 457 [a0, a1, .ref o, a3, a4, a5, a6] (.ref o :: st) h := pR_L rfl rfl
theorem rL_law_456n : pR 3 d 456 [a0, a1, .null, a3, a4, a5, a6] st h = pR 3 d 457 [a0, a1, .null, a3, a4, a5, a6] (.null :: st) h := pR_L rfl rfl
theorem rL_law_457 : pR 3 d 457 [.ref o, a1, a2, a3, a4, a5, a6] st h = pR 3 d 458 [.ref o, a1, a2, a3, a4, a5, a6] (.ref o :: st) h := pR_L rfl rfl
theorem rL_law_457n : pR 3 d 457 [.null, a1, a2, a3, a4, a5, a6] st h = pR 3 d 458 [.null, a1, a2, a3, a4, a5, a6] (.null :: st) h := pR_L rfl rfl
theorem rL_law_458 : pR 3 d 458 [a0, a1, a2, a3, .int x, a5, a6] st h = pR 3 d 460 [a0, a1, a2, a3, .int x, a5, a6] (.int x :: st) h := pR_L rfl rfl
theorem rL_law_460 : pR 3 d 460 ls st h = pR 3 d 461 ls (.int 1 :: st) h := pR_L rfl rfl
theorem rL_law_461 : pR 3 d 461 ls (.int y :: .int x :: st) h = pR 3 d 462 ls (.int (x + y) :: st) h := pR_L rfl rfl
theorem rL_law_462 : pR 3 d 462 ls (.int x :: .ref o :: st) h = if (pin x (pln h 0 o) || pin x (pln h 9 o)) = true then pR 3 d 463 ls (.int (pct h o x.toNatClampNeg) :: st) h else none := pR_Lif rfl rfl
theorem rL_law_463 : pR 3 d 463 [.ref o, a1, a2, a3, a4, a5, a6] st h = pR 3 d 464 [.ref o, a1, a2, a3, a4, a5, a6] (.ref o :: st) h := pR_L rfl rfl
theorem rL_law_463n : pR 3 d 463 [.null, a1, a2, a3, a4, a5, a6] st h = pR 3 d 464 [.null, a1, a2, a3, a4, a5, a6] (.null :: st) h := pR_L rfl rfl
theorem rL_law_464 : pR 3 d 464 [a0, a1, a2, a3, .int x, a5, a6] st h = pR 3 d 466 [a0, a1, a2, a3, .int x, a5, a6] (.int x :: st) h := pR_L rfl rfl
theorem rL_law_466 : pR 3 d 466 ls st h = pR 3 d 467 ls (.int 2 :: st) h := pR_L rfl rfl
theorem rL_law_467 : pR 3 d 467 ls (.int y :: .int x :: st) h = pR 3 d 468 ls (.int (x + y) :: st) h := pR_L rfl rfl
theorem rL_law_468 : pR 3 d 468 ls (.int x :: .ref o :: st) h = if (pin x (pln h 0 o) || pin x (pln h 9 o)) = true then pR 3 d 469 ls (.int (pct h o x.toNatClampNeg) :: st) h else none := pR_Lif rfl rfl
theorem rL_law_469 : pR 3 d 469 [.ref o, a1, a2, a3, a4, a5, a6] st h = pR 3 d 470 [.ref o, a1, a2, a3, a4, a5, a6] (.ref o :: st) h := pR_L rfl rfl
theorem rL_law_469n : pR 3 d 469 [.null, a1, a2, a3, a4, a5, a6] st h = pR 3 d 470 [.null, a1, a2, a3, a4, a5, a6] (.null :: st) h := pR_L rfl rfl
theorem rL_law_470 : pR 3 d 470 [a0, a1, a2, a3, .int x, a5, a6] st h = pR 3 d 472 [a0, a1, a2, a3, .int x, a5, a6] (.int x :: st) h := pR_L rfl rfl
theorem rL_law_472 : pR 3 d 472 ls st h = pR 3 d 473 ls (.int 3 :: st) h := pR_L rfl rfl
theorem rL_law_473 : pR 3 d 473 ls (.int y :: .int x :: st) h = pR 3 d 474 ls (.int (x + y) :: st) h := pR_L rfl rfl
theorem rL_law_474 : pR 3 d 474 ls (.int x :: .ref o :: st) h = if (pin x (pln h 0 o) || pin x (pln h 9 o)) = true then pR 3 d 475 ls (.int (pct h o x.toNatClampNeg) :: st) h else none := pR_Lif rfl rfl
theorem rL_law_475 : pR 3 (d + 1) 475 ls (b3 :: b2 :: b1 :: .ref o :: st) h = if (pok 3 (pcl h o) && pw st) = true then pK 3 (d + 1) 475 3 ls st (pCa 114 d [.ref o, b1, b2, b3] h) else none := r_callV rfl rfl rfl
theorem rL_law_478 : pR 3 d 478 [a0, a1, a2, a3, a4, a5, a6] (.int x :: st) h = if p1 a6 = true then pR 3 d 480 [a0, a1, a2, a3, a4, a5, .int x] st h else none := r_sto (n := 2) (k := 6) (v := .int x) (ls := [a0, a1, a2, a3, a4, a5, a6]) rfl rfl rfl
theorem rL_law_480 : pR 3 d 480 [a0, a1, .ref o, a3, a4, a5, a6] st h = pR 3 d 481 [a0, a1, .ref o, a3, a4, a5, a6] (.ref o :: st) h := pR_L rfl rfl
theorem rL_law_480n : pR 3 d 480 [a0, a1, .null, a3, a4, a5, a6] st h = pR 3 d 481 [a0, a1, .null, a3, a4, a5, a6] (.null :: st) h := pR_L rfl rfl
theorem rL_law_481 : pR 3 (d + 1) 481 ls (.ref o :: st) h = if (pok 3 (pcl h o) && pw st) = true then pK 3 (d + 1) 481 3 ls st (pCa 67 d [.ref o] h) else none := r_callV rfl rfl rfl
theorem rL_law_484 : pR 3 d 484 [a0, a1, a2, a3, a4, .int x, a6] st h = pR 3 d 486 [a0, a1, a2, a3, a4, .int x, a6] (.int x :: st) h := pR_L rfl rfl
theorem rL_law_486 : pR 3 d 486 ls (.int y :: .int x :: st) h = if x = y then pR 3 d 491 ls st h else pR 3 d 489 ls st h := r_ceq rfl rfl
theorem rL_law_489 : pR 3 d 489 ls st h = pR 3 d 490 ls (.int 0 :: st) h := pR_L rfl rfl
theorem rL_law_4900 : pR 3 d 490 ls [.int 0] h = some (.inl (some (.int 0)), h) := pR_E rfl rfl
theorem rL_law_4901 : pR 3 d 490 ls [.int 1] h = some (.inl (some (.int 1)), h) := pR_E rfl rfl
theorem rL_law_491 : pR 3 d 491 [a0, a1, a2, a3, a4, .int x, a6] st h = pR 3 d 493 [a0, a1, a2, a3, a4, .int x, a6] (.int x :: st) h := pR_L rfl rfl
theorem rL_law_493 : pR 3 d 493 ls (.int x :: st) h = if x = 0 then pR 3 d 496 ls st h else pR 3 d 508 ls st h := r_ine rfl rfl
theorem rL_law_496 : pR 3 d 496 [a0, a1, a2, .ref o, a4, a5, a6] st h = pR 3 d 497 [a0, a1, a2, .ref o, a4, a5, a6] (.ref o :: st) h := pR_L rfl rfl
theorem rL_law_496n : pR 3 d 496 [a0, a1, a2, .null, a4, a5, a6] st h = pR 3 d 497 [a0, a1, a2, .null, a4, a5, a6] (.null :: st) h := pR_L rfl rfl
theorem rL_law_497 : pR 3 d 497 ls st h = pR 3 d 498 ls (.int 0 :: st) h := pR_L rfl rfl
theorem rL_law_498 : pR 3 d 498 ls (.int x :: .ref o :: st) h = if pin x (plnL h o) = true then pR 3 d 499 ls (.long (pctL h o x.toNatClampNeg) :: st) h else none := pR_Lif rfl rfl
theorem rL_law_499 : pR 3 d 499 [a0, a1, a2, a3, a4, a5, .int x] st h = pR 3 d 501 [a0, a1, a2, a3, a4, a5, .int x] (.int x :: st) h := pR_L rfl rfl
theorem rL_law_501 : pR 3 d 501 ls (.int x :: st) h = pR 3 d 502 ls (.long x.toInt64 :: st) h := pR_L rfl rfl
theorem rL_law_502 : pR 3 d 502 ls (.long ly :: .long lx :: st) h = pR 3 d 503 ls (.int (lg_cmp lx ly) :: st) h := pR_L rfl rfl
theorem rL_law_503 : pR 3 d 503 ls (.int x :: st) h = if x = 0 then pR 3 d 508 ls st h else pR 3 d 506 ls st h := r_ieq rfl rfl
theorem rL_law_506 : pR 3 d 506 ls st h = pR 3 d 507 ls (.int 0 :: st) h := pR_L rfl rfl
theorem rL_law_5070 : pR 3 d 507 ls [.int 0] h = some (.inl (some (.int 0)), h) := pR_E rfl rfl
theorem rL_law_5071 : pR 3 d 507 ls [.int 1] h = some (.inl (some (.int 1)), h) := pR_E rfl rfl
theorem rL_law_508 : pR 3 d 508 ls st h = pR 3 d 1654 ls st h := pR_L rfl rfl
theorem rL_law_511 : pR 3 d 511 [a0, .ref o, a2, a3, a4, a5, a6] st h = pR 3 d 512 [a0, .ref o, a2, a3, a4, a5, a6] (.ref o :: st) h := pR_L rfl rfl
theorem rL_law_511n : pR 3 d 511 [a0, .null, a2, a3, a4, a5, a6] st h = pR 3 d 512 [a0, .null, a2, a3, a4, a5, a6] (.null :: st) h := pR_L rfl rfl
theorem rL_law_512 : pR 3 d 512 [.ref o, a1, a2, a3, a4, a5, a6] st h = pR 3 d 513 [.ref o, a1, a2, a3, a4, a5, a6] (.ref o :: st) h := pR_L rfl rfl
theorem rL_law_512n : pR 3 d 512 [.null, a1, a2, a3, a4, a5, a6] st h = pR 3 d 513 [.null, a1, a2, a3, a4, a5, a6] (.null :: st) h := pR_L rfl rfl
theorem rL_law_513 : pR 3 d 513 [a0, a1, a2, a3, .int x, a5, a6] st h = pR 3 d 515 [a0, a1, a2, a3, .int x, a5, a6] (.int x :: st) h := pR_L rfl rfl
theorem rL_law_515 : pR 3 d 515 ls st h = pR 3 d 516 ls (.int 1 :: st) h := pR_L rfl rfl
theorem rL_law_516 : pR 3 d 516 ls (.int y :: .int x :: st) h = pR 3 d 517 ls (.int (x + y) :: st) h := pR_L rfl rfl
theorem rL_law_517 : pR 3 d 517 ls (.int x :: .ref o :: st) h = if (pin x (pln h 0 o) || pin x (pln h 9 o)) = true then pR 3 d 518 ls (.int (pct h o x.toNatClampNeg) :: st) h else none := pR_Lif rfl rfl
theorem rL_law_518 : pR 3 d 518 [.ref o, a1, a2, a3, a4, a5, a6] st h = pR 3 d 519 [.ref o, a1, a2, a3, a4, a5, a6] (.ref o :: st) h := pR_L rfl rfl
theorem rL_law_518n : pR 3 d 518 [.null, a1, a2, a3, a4, a5, a6] st h = pR 3 d 519 [.null, a1, a2, a3, a4, a5, a6] (.null :: st) h := pR_L rfl rfl
theorem rL_law_519 : pR 3 d 519 [a0, a1, a2, a3, .int x, a5, a6] st h = pR 3 d 521 [a0, a1, a2, a3, .int x, a5, a6] (.int x :: st) h := pR_L rfl rfl
theorem rL_law_521 : pR 3 d 521 ls st h = pR 3 d 522 ls (.int 2 :: st) h := pR_L rfl rfl
theorem rL_law_522 : pR 3 d 522 ls (.int y :: .int x :: st) h = pR 3 d 523 ls (.int (x + y) :: st) h := pR_L rfl rfl
theorem rL_law_523 : pR 3 d 523 ls (.int x :: .ref o :: st) h = if (pin x (pln h 0 o) || pin x (pln h 9 o)) = true then pR 3 d 524 ls (.int (pct h o x.toNatClampNeg) :: st) h else none := pR_Lif rfl rfl
theorem rL_law_524 : pR 3 (d + 1) 524 ls (b2 :: b1 :: .ref o :: st) h = if (pok 1 (pcl h o) && pw st) = true then pK 3 (d + 1) 524 3 ls st (pCa 16 d [.ref o, b1, b2] h) else none := r_callV rfl rfl rfl
theorem rL_law_527 : pR 3 d 527 [a0, a1, .ref o, a3, a4, a5, a6] st h = pR 3 d 528 [a0, a1, .ref o, a3, a4, a5, a6] (.ref o :: st) h := pR_L rfl rfl
theorem rL_law_527n : pR 3 d 527 [a0, a1, .null, a3, a4, a5, a6] st h = pR 3 d 528 [a0, a1, .null, a3, a4, a5, a6] (.null :: st) h := pR_L rfl rfl
theorem rL_law_528 : pR 3 d 528 [.ref o, a1, a2, a3, a4, a5, a6] st h = pR 3 d 529 [.ref o, a1, a2, a3, a4, a5, a6] (.ref o :: st) h := pR_L rfl rfl
theorem rL_law_528n : pR 3 d 528 [.null, a1, a2, a3, a4, a5, a6] st h = pR 3 d 529 [.null, a1, a2, a3, a4, a5, a6] (.null :: st) h := pR_L rfl rfl
theorem rL_law_529 : pR 3 d 529 [a0, a1, a2, a3, .int x, a5, a6] st h = pR 3 d 531 [a0, a1, a2, a3, .int x, a5, a6] (.int x :: st) h := pR_L rfl rfl
theorem rL_law_531 : pR 3 d 531 ls st h = pR 3 d 532 ls (.int 1 :: st) h := pR_L rfl rfl
theorem rL_law_532 : pR 3 d 532 ls (.int y :: .int x :: st) h = pR 3 d 533 ls (.int (x + y) :: st) h := pR_L rfl rfl
theorem rL_law_533 : pR 3 d 533 ls (.int x :: .ref o :: st) h = if (pin x (pln h 0 o) || pin x (pln h 9 o)) = true then pR 3 d 534 ls (.int (pct h o x.toNatClampNeg) :: st) h else none := pR_Lif rfl rfl
theorem rL_law_534 : pR 3 d 534 [.ref o, a1, a2, a3, a4, a5, a6] st h = pR 3 d 535 [.ref o, a1, a2, a3, a4, a5, a6] (.ref o :: st) h := pR_L rfl rfl
theorem rL_law_534n : pR 3 d 534 [.null, a1, a2, a3, a4, a5, a6] st h = pR 3 d 535 [.null, a1, a2, a3, a4, a5, a6] (.null :: st) h := pR_L rfl rfl
theorem rL_law_535 : pR 3 d 535 [a0, a1, a2, a3, .int x, a5, a6] st h = pR 3 d 537 [a0, a1, a2, a3, .int x, a5, a6] (.int x :: st) h := pR_L rfl rfl
theorem rL_law_537 : pR 3 d 537 ls st h = pR 3 d 538 ls (.int 2 :: st) h := pR_L rfl rfl
theorem rL_law_538 : pR 3 d 538 ls (.int y :: .int x :: st) h = pR 3 d 539 ls (.int (x + y) :: st) h := pR_L rfl rfl
theorem rL_law_539 : pR 3 d 539 ls (.int x :: .ref o :: st) h = if (pin x (pln h 0 o) || pin x (pln h 9 o)) = true then pR 3 d 540 ls (.int (pct h o x.toNatClampNeg) :: st) h else none := pR_Lif rfl rfl
theorem rL_law_540 : pR 3 (d + 1) 540 ls (b2 :: b1 :: .ref o :: st) h = if (pok 3 (pcl h o) && pw st) = true then pK 3 (d + 1) 540 3 ls st (pCa 116 d [.ref o, b1, b2] h) else none := r_callV rfl rfl rfl
theorem rL_law_543 : pR 3 d 543 ls (.int y :: .int x :: st) h = if x = y then pR 3 d 1654 ls st h else pR 3 d 546 ls st h := r_ceq rfl rfl
theorem rL_law_546 : pR 3 d 546 ls st h = pR 3 d 547 ls (.int 0 :: st) h := pR_L rfl rfl
theorem rL_law_5470 : pR 3 d 547 ls [.int 0] h = some (.inl (some (.int 0)), h) := pR_E rfl rfl
theorem rL_law_5471 : pR 3 d 547 ls [.int 1] h = some (.inl (some (.int 1)), h) := pR_E rfl rfl
theorem rL_law_548 : pR 3 d 548 [a0, .ref o, a2, a3, a4, a5, a6] st h = pR 3 d 549 [a0, .ref o, a2, a3, a4, a5, a6] (.ref o :: st) h := pR_L rfl rfl
theorem rL_law_548n : pR 3 d 548 [a0, .null, a2, a3, a4, a5, a6] st h = pR 3 d 549 [a0, .null, a2, a3, a4, a5, a6] (.null :: st) h := pR_L rfl rfl
theorem rL_law_549 : pR 3 d 549 [.ref o, a1, a2, a3, a4, a5, a6] st h = pR 3 d 550 [.ref o, a1, a2, a3, a4, a5, a6] (.ref o :: st) h := pR_L rfl rfl
theorem rL_law_549n : pR 3 d 549 [.null, a1, a2, a3, a4, a5, a6] st h = pR 3 d 550 [.null, a1, a2, a3, a4, a5, a6] (.null :: st) h := pR_L rfl rfl
theorem rL_law_550 : pR 3 d 550 [a0, a1, a2, a3, .int x, a5, a6] st h = pR 3 d 552 [a0, a1, a2, a3, .int x, a5, a6] (.int x :: st) h := pR_L rfl rfl
theorem rL_law_552 : pR 3 d 552 ls st h = pR 3 d 553 ls (.int 1 :: st) h := pR_L rfl rfl
theorem rL_law_553 : pR 3 d 553 ls (.int y :: .int x :: st) h = pR 3 d 554 ls (.int (x + y) :: st) h := pR_L rfl rfl
theorem rL_law_554 : pR 3 d 554 ls (.int x :: .ref o :: st) h = if (pin x (pln h 0 o) || pin x (pln h 9 o)) = true then pR 3 d 555 ls (.int (pct h o x.toNatClampNeg) :: st) h else none := pR_Lif rfl rfl
theorem rL_law_555 : pR 3 d 555 [.ref o, a1, a2, a3, a4, a5, a6] st h = pR 3 d 556 [.ref o, a1, a2, a3, a4, a5, a6] (.ref o :: st) h := pR_L rfl rfl
theorem rL_law_555n : pR 3 d 555 [.null, a1, a2, a3, a4, a5, a6] st h = pR 3 d 556 [.null, a1, a2, a3, a4, a5, a6] (.null :: st) h := pR_L rfl rfl
theorem rL_law_556 : pR 3 d 556 [a0, a1, a2, a3, .int x, a5, a6] st h = pR 3 d 558 [a0, a1, a2, a3, .int x, a5, a6] (.int x :: st) h := pR_L rfl rfl
theorem rL_law_558 : pR 3 d 558 ls st h = pR 3 d 559 ls (.int 2 :: st) h := pR_L rfl rfl
theorem rL_law_559 : pR 3 d 559 ls (.int y :: .int x :: st) h = pR 3 d 560 ls (.int (x + y) :: st) h := pR_L rfl rfl
theorem rL_law_560 : pR 3 d 560 ls (.int x :: .ref o :: st) h = if (pin x (pln h 0 o) || pin x (pln h 9 o)) = true then pR 3 d 561 ls (.int (pct h o x.toNatClampNeg) :: st) h else none := pR_Lif rfl rfl
theorem rL_law_561 : pR 3 (d + 1) 561 ls (b2 :: b1 :: .ref o :: st) h = if (pok 1 (pcl h o) && pw st) = true then pK 3 (d + 1) 561 3 ls st (pCa 18 d [.ref o, b1, b2] h) else none := r_callV rfl rfl rfl
theorem rL_law_564 : pR 3 d 564 [a0, a1, .ref o, a3, a4, a5, a6] st h = pR 3 d 565 [a0, a1, .ref o, a3, a4, a5, a6] (.ref o :: st) h := pR_L rfl rfl
theorem rL_law_564n : pR 3 d 564 [a0, a1, .null, a3, a4, a5, a6] st h = pR 3 d 565 [a0, a1, .null, a3, a4, a5, a6] (.null :: st) h := pR_L rfl rfl
theorem rL_law_565 : pR 3 d 565 [.ref o, a1, a2, a3, a4, a5, a6] st h = pR 3 d 566 [.ref o, a1, a2, a3, a4, a5, a6] (.ref o :: st) h := pR_L rfl rfl
theorem rL_law_565n : pR 3 d 565 [.null, a1, a2, a3, a4, a5, a6] st h = pR 3 d 566 [.null, a1, a2, a3, a4, a5, a6] (.null :: st) h := pR_L rfl rfl
theorem rL_law_566 : pR 3 d 566 [a0, a1, a2, a3, .int x, a5, a6] st h = pR 3 d 568 [a0, a1, a2, a3, .int x, a5, a6] (.int x :: st) h := pR_L rfl rfl
theorem rL_law_568 : pR 3 d 568 ls st h = pR 3 d 569 ls (.int 1 :: st) h := pR_L rfl rfl
theorem rL_law_569 : pR 3 d 569 ls (.int y :: .int x :: st) h = pR 3 d 570 ls (.int (x + y) :: st) h := pR_L rfl rfl
theorem rL_law_570 : pR 3 d 570 ls (.int x :: .ref o :: st) h = if (pin x (pln h 0 o) || pin x (pln h 9 o)) = true then pR 3 d 571 ls (.int (pct h o x.toNatClampNeg) :: st) h else none := pR_Lif rfl rfl
theorem rL_law_571 : pR 3 d 571 [.ref o, a1, a2, a3, a4, a5, a6] st h = pR 3 d 572 [.ref o, a1, a2, a3, a4, a5, a6] (.ref o :: st) h := pR_L rfl rfl
theorem rL_law_571n : pR 3 d 571 [.null, a1, a2, a3, a4, a5, a6] st h = pR 3 d 572 [.null, a1, a2, a3, a4, a5, a6] (.null :: st) h := pR_L rfl rfl
theorem rL_law_572 : pR 3 d 572 [a0, a1, a2, a3, .int x, a5, a6] st h = pR 3 d 574 [a0, a1, a2, a3, .int x, a5, a6] (.int x :: st) h := pR_L rfl rfl
theorem rL_law_574 : pR 3 d 574 ls st h = pR 3 d 575 ls (.int 2 :: st) h := pR_L rfl rfl
theorem rL_law_575 : pR 3 d 575 ls (.int y :: .int x :: st) h = pR 3 d 576 ls (.int (x + y) :: st) h := pR_L rfl rfl
theorem rL_law_576 : pR 3 d 576 ls (.int x :: .ref o :: st) h = if (pin x (pln h 0 o) || pin x (pln h 9 o)) = true then pR 3 d 577 ls (.int (pct h o x.toNatClampNeg) :: st) h else none := pR_Lif rfl rfl
theorem rL_law_577 : pR 3 (d + 1) 577 ls (b2 :: b1 :: .ref o :: st) h = if (pok 3 (pcl h o) && pw st) = true then pK 3 (d + 1) 577 3 ls st (pCa 118 d [.ref o, b1, b2] h) else none := r_callV rfl rfl rfl
theorem rL_law_580 : pR 3 d 580 ls (.int y :: .int x :: st) h = if x = y then pR 3 d 1654 ls st h else pR 3 d 583 ls st h := r_ceq rfl rfl
theorem rL_law_583 : pR 3 d 583 ls st h = pR 3 d 584 ls (.int 0 :: st) h := pR_L rfl rfl
theorem rL_law_5840 : pR 3 d 584 ls [.int 0] h = some (.inl (some (.int 0)), h) := pR_E rfl rfl
theorem rL_law_5841 : pR 3 d 584 ls [.int 1] h = some (.inl (some (.int 1)), h) := pR_E rfl rfl
theorem rL_law_585 : pR 3 d 585 [a0, .ref o, a2, a3, a4, a5, a6] st h = pR 3 d 586 [a0, .ref o, a2, a3, a4, a5, a6] (.ref o :: st) h := pR_L rfl rfl
theorem rL_law_585n : pR 3 d 585 [a0, .null, a2, a3, a4, a5, a6] st h = pR 3 d 586 [a0, .null, a2, a3, a4, a5, a6] (.null :: st) h := pR_L rfl rfl
theorem rL_law_586 : pR 3 d 586 [.ref o, a1, a2, a3, a4, a5, a6] st h = pR 3 d 587 [.ref o, a1, a2, a3, a4, a5, a6] (.ref o :: st) h := pR_L rfl rfl
theorem rL_law_586n : pR 3 d 586 [.null, a1, a2, a3, a4, a5, a6] st h = pR 3 d 587 [.null, a1, a2, a3, a4, a5, a6] (.null :: st) h := pR_L rfl rfl
theorem rL_law_587 : pR 3 d 587 [a0, a1, a2, a3, .int x, a5, a6] st h = pR 3 d 589 [a0, a1, a2, a3, .int x, a5, a6] (.int x :: st) h := pR_L rfl rfl
theorem rL_law_589 : pR 3 d 589 ls st h = pR 3 d 590 ls (.int 1 :: st) h := pR_L rfl rfl
theorem rL_law_590 : pR 3 d 590 ls (.int y :: .int x :: st) h = pR 3 d 591 ls (.int (x + y) :: st) h := pR_L rfl rfl
theorem rL_law_591 : pR 3 d 591 ls (.int x :: .ref o :: st) h = if (pin x (pln h 0 o) || pin x (pln h 9 o)) = true then pR 3 d 592 ls (.int (pct h o x.toNatClampNeg) :: st) h else none := pR_Lif rfl rfl
theorem rL_law_592 : pR 3 d 592 [.ref o, a1, a2, a3, a4, a5, a6] st h = pR 3 d 593 [.ref o, a1, a2, a3, a4, a5, a6] (.ref o :: st) h := pR_L rfl rfl
theorem rL_law_592n : pR 3 d 592 [.null, a1, a2, a3, a4, a5, a6] st h = pR 3 d 593 [.null, a1, a2, a3, a4, a5, a6] (.null :: st) h := pR_L rfl rfl
theorem rL_law_593 : pR 3 d 593 [a0, a1, a2, a3, .int x, a5, a6] st h = pR 3 d 595 [a0, a1, a2, a3, .int x, a5, a6] (.int x :: st) h := pR_L rfl rfl
theorem rL_law_595 : pR 3 d 595 ls st h = pR 3 d 596 ls (.int 2 :: st) h := pR_L rfl rfl
theorem rL_law_596 : pR 3 d 596 ls (.int y :: .int x :: st) h = pR 3 d 597 ls (.int (x + y) :: st) h := pR_L rfl rfl
theorem rL_law_597 : pR 3 d 597 ls (.int x :: .ref o :: st) h = if (pin x (pln h 0 o) || pin x (pln h 9 o)) = true then pR 3 d 598 ls (.int (pct h o x.toNatClampNeg) :: st) h else none := pR_Lif rfl rfl
theorem rL_law_598 : pR 3 (d + 1) 598 ls (b2 :: b1 :: .ref o :: st) h = if (pok 1 (pcl h o) && pw st) = true then pK 3 (d + 1) 598 3 ls st (pCa 20 d [.ref o, b1, b2] h) else none := r_callV rfl rfl rfl
theorem rL_law_601 : pR 3 d 601 [a0, a1, .ref o, a3, a4, a5, a6] st h = pR 3 d 602 [a0, a1, .ref o, a3, a4, a5, a6] (.ref o :: st) h := pR_L rfl rfl
theorem rL_law_601n : pR 3 d 601 [a0, a1, .null, a3, a4, a5, a6] st h = pR 3 d 602 [a0, a1, .null, a3, a4, a5, a6] (.null :: st) h := pR_L rfl rfl
theorem rL_law_602 : pR 3 d 602 [.ref o, a1, a2, a3, a4, a5, a6] st h = pR 3 d 603 [.ref o, a1, a2, a3, a4, a5, a6] (.ref o :: st) h := pR_L rfl rfl
theorem rL_law_602n : pR 3 d 602 [.null, a1, a2, a3, a4, a5, a6] st h = pR 3 d 603 [.null, a1, a2, a3, a4, a5, a6] (.null :: st) h := pR_L rfl rfl
theorem rL_law_603 : pR 3 d 603 [a0, a1, a2, a3, .int x, a5, a6] st h = pR 3 d 605 [a0, a1, a2, a3, .int x, a5, a6] (.int x :: st) h := pR_L rfl rfl
theorem rL_law_605 : pR 3 d 605 ls st h = pR 3 d 606 ls (.int 1 :: st) h := pR_L rfl rfl
theorem rL_law_606 : pR 3 d 606 ls (.int y :: .int x :: st) h = pR 3 d 607 ls (.int (x + y) :: st) h := pR_L rfl rfl
theorem rL_law_607 : pR 3 d 607 ls (.int x :: .ref o :: st) h = if (pin x (pln h 0 o) || pin x (pln h 9 o)) = true then pR 3 d 608 ls (.int (pct h o x.toNatClampNeg) :: st) h else none := pR_Lif rfl rfl
theorem rL_law_608 : pR 3 d 608 [.ref o, a1, a2, a3, a4, a5, a6] st h = pR 3 d 609 [.ref o, a1, a2, a3, a4, a5, a6] (.ref o :: st) h := pR_L rfl rfl
theorem rL_law_608n : pR 3 d 608 [.null, a1, a2, a3, a4, a5, a6] st h = pR 3 d 609 [.null, a1, a2, a3, a4, a5, a6] (.null :: st) h := pR_L rfl rfl
theorem rL_law_609 : pR 3 d 609 [a0, a1, a2, a3, .int x, a5, a6] st h = pR 3 d 611 [a0, a1, a2, a3, .int x, a5, a6] (.int x :: st) h := pR_L rfl rfl
theorem rL_law_611 : pR 3 d 611 ls st h = pR 3 d 612 ls (.int 2 :: st) h := pR_L rfl rfl
theorem rL_law_612 : pR 3 d 612 ls (.int y :: .int x :: st) h = pR 3 d 613 ls (.int (x + y) :: st) h := pR_L rfl rfl
theorem rL_law_613 : pR 3 d 613 ls (.int x :: .ref o :: st) h = if (pin x (pln h 0 o) || pin x (pln h 9 o)) = true then pR 3 d 614 ls (.int (pct h o x.toNatClampNeg) :: st) h else none := pR_Lif rfl rfl
theorem rL_law_614 : pR 3 (d + 1) 614 ls (b2 :: b1 :: .ref o :: st) h = if (pok 3 (pcl h o) && pw st) = true then pK 3 (d + 1) 614 3 ls st (pCa 120 d [.ref o, b1, b2] h) else none := r_callV rfl rfl rfl
theorem rL_law_617 : pR 3 d 617 ls (.int y :: .int x :: st) h = if x = y then pR 3 d 1654 ls st h else pR 3 d 620 ls st h := r_ceq rfl rfl
theorem rL_law_620 : pR 3 d 620 ls st h = pR 3 d 621 ls (.int 0 :: st) h := pR_L rfl rfl
theorem rL_law_6210 : pR 3 d 621 ls [.int 0] h = some (.inl (some (.int 0)), h) := pR_E rfl rfl
theorem rL_law_6211 : pR 3 d 621 ls [.int 1] h = some (.inl (some (.int 1)), h) := pR_E rfl rfl
theorem rL_law_622 : pR 3 d 622 [a0, .ref o, a2, a3, a4, a5, a6] st h = pR 3 d 623 [a0, .ref o, a2, a3, a4, a5, a6] (.ref o :: st) h := pR_L rfl rfl
theorem rL_law_622n : pR 3 d 622 [a0, .null, a2, a3, a4, a5, a6] st h = pR 3 d 623 [a0, .null, a2, a3, a4, a5, a6] (.null :: st) h := pR_L rfl rfl
theorem rL_law_623 : pR 3 d 623 [.ref o, a1, a2, a3, a4, a5, a6] st h = pR 3 d 624 [.ref o, a1, a2, a3, a4, a5, a6] (.ref o :: st) h := pR_L rfl rfl
theorem rL_law_623n : pR 3 d 623 [.null, a1, a2, a3, a4, a5, a6] st h = pR 3 d 624 [.null, a1, a2, a3, a4, a5, a6] (.null :: st) h := pR_L rfl rfl
theorem rL_law_624 : pR 3 d 624 [a0, a1, a2, a3, .int x, a5, a6] st h = pR 3 d 626 [a0, a1, a2, a3, .int x, a5, a6] (.int x :: st) h := pR_L rfl rfl
theorem rL_law_626 : pR 3 d 626 ls st h = pR 3 d 627 ls (.int 1 :: st) h := pR_L rfl rfl
theorem rL_law_627 : pR 3 d 627 ls (.int y :: .int x :: st) h = pR 3 d 628 ls (.int (x + y) :: st) h := pR_L rfl rfl
theorem rL_law_628 : pR 3 d 628 ls (.int x :: .ref o :: st) h = if (pin x (pln h 0 o) || pin x (pln h 9 o)) = true then pR 3 d 629 ls (.int (pct h o x.toNatClampNeg) :: st) h else none := pR_Lif rfl rfl
theorem rL_law_629 : pR 3 (d + 1) 629 ls (b1 :: .ref o :: st) h = if (pok 1 (pcl h o) && pw st) = true then pK 3 (d + 1) 629 3 ls st (pCa 21 d [.ref o, b1] h) else none := r_callV rfl rfl rfl
theorem rL_law_632 : pR 3 d 632 [a0, a1, .ref o, a3, a4, a5, a6] st h = pR 3 d 633 [a0, a1, .ref o, a3, a4, a5, a6] (.ref o :: st) h := pR_L rfl rfl
theorem rL_law_632n : pR 3 d 632 [a0, a1, .null, a3, a4, a5, a6] st h = pR 3 d 633 [a0, a1, .null, a3, a4, a5, a6] (.null :: st) h := pR_L rfl rfl
theorem rL_law_633 : pR 3 d 633 [.ref o, a1, a2, a3, a4, a5, a6] st h = pR 3 d 634 [.ref o, a1, a2, a3, a4, a5, a6] (.ref o :: st) h := pR_L rfl rfl
theorem rL_law_633n : pR 3 d 633 [.null, a1, a2, a3, a4, a5, a6] st h = pR 3 d 634 [.null, a1, a2, a3, a4, a5, a6] (.null :: st) h := pR_L rfl rfl
theorem rL_law_634 : pR 3 d 634 [a0, a1, a2, a3, .int x, a5, a6] st h = pR 3 d 636 [a0, a1, a2, a3, .int x, a5, a6] (.int x :: st) h := pR_L rfl rfl
theorem rL_law_636 : pR 3 d 636 ls st h = pR 3 d 637 ls (.int 1 :: st) h := pR_L rfl rfl
theorem rL_law_637 : pR 3 d 637 ls (.int y :: .int x :: st) h = pR 3 d 638 ls (.int (x + y) :: st) h := pR_L rfl rfl
theorem rL_law_638 : pR 3 d 638 ls (.int x :: .ref o :: st) h = if (pin x (pln h 0 o) || pin x (pln h 9 o)) = true then pR 3 d 639 ls (.int (pct h o x.toNatClampNeg) :: st) h else none := pR_Lif rfl rfl
theorem rL_law_639 : pR 3 (d + 1) 639 ls (b1 :: .ref o :: st) h = if (pok 3 (pcl h o) && pw st) = true then pK 3 (d + 1) 639 3 ls st (pCa 121 d [.ref o, b1] h) else none := r_callV rfl rfl rfl
theorem rL_law_642 : pR 3 d 642 ls (.int y :: .int x :: st) h = if x = y then pR 3 d 1654 ls st h else pR 3 d 645 ls st h := r_ceq rfl rfl
theorem rL_law_645 : pR 3 d 645 ls st h = pR 3 d 646 ls (.int 0 :: st) h := pR_L rfl rfl
theorem rL_law_6460 : pR 3 d 646 ls [.int 0] h = some (.inl (some (.int 0)), h) := pR_E rfl rfl
theorem rL_law_6461 : pR 3 d 646 ls [.int 1] h = some (.inl (some (.int 1)), h) := pR_E rfl rfl
theorem rL_law_647 : pR 3 d 647 [a0, .ref o, a2, a3, a4, a5, a6] st h = pR 3 d 648 [a0, .ref o, a2, a3, a4, a5, a6] (.ref o :: st) h := pR_L rfl rfl
theorem rL_law_647n : pR 3 d 647 [a0, .null, a2, a3, a4, a5, a6] st h = pR 3 d 648 [a0, .null, a2, a3, a4, a5, a6] (.null :: st) h := pR_L rfl rfl
theorem rL_law_648 : pR 3 d 648 [.ref o, a1, a2, a3, a4, a5, a6] st h = pR 3 d 649 [.ref o, a1, a2, a3, a4, a5, a6] (.ref o :: st) h := pR_L rfl rfl
theorem rL_law_648n : pR 3 d 648 [.null, a1, a2, a3, a4, a5, a6] st h = pR 3 d 649 [.null, a1, a2, a3, a4, a5, a6] (.null :: st) h := pR_L rfl rfl
theorem rL_law_649 : pR 3 d 649 [a0, a1, a2, a3, .int x, a5, a6] st h = pR 3 d 651 [a0, a1, a2, a3, .int x, a5, a6] (.int x :: st) h := pR_L rfl rfl
theorem rL_law_651 : pR 3 d 651 ls st h = pR 3 d 652 ls (.int 1 :: st) h := pR_L rfl rfl
theorem rL_law_652 : pR 3 d 652 ls (.int y :: .int x :: st) h = pR 3 d 653 ls (.int (x + y) :: st) h := pR_L rfl rfl
theorem rL_law_653 : pR 3 d 653 ls (.int x :: .ref o :: st) h = if (pin x (pln h 0 o) || pin x (pln h 9 o)) = true then pR 3 d 654 ls (.int (pct h o x.toNatClampNeg) :: st) h else none := pR_Lif rfl rfl
theorem rL_law_654 : pR 3 d 654 [.ref o, a1, a2, a3, a4, a5, a6] st h = pR 3 d 655 [.ref o, a1, a2, a3, a4, a5, a6] (.ref o :: st) h := pR_L rfl rfl
theorem rL_law_654n : pR 3 d 654 [.null, a1, a2, a3, a4, a5, a6] st h = pR 3 d 655 [.null, a1, a2, a3, a4, a5, a6] (.null :: st) h := pR_L rfl rfl
theorem rL_law_655 : pR 3 d 655 [a0, a1, a2, a3, .int x, a5, a6] st h = pR 3 d 657 [a0, a1, a2, a3, .int x, a5, a6] (.int x :: st) h := pR_L rfl rfl
theorem rL_law_657 : pR 3 d 657 ls st h = pR 3 d 658 ls (.int 2 :: st) h := pR_L rfl rfl
theorem rL_law_658 : pR 3 d 658 ls (.int y :: .int x :: st) h = pR 3 d 659 ls (.int (x + y) :: st) h := pR_L rfl rfl
theorem rL_law_659 : pR 3 d 659 ls (.int x :: .ref o :: st) h = if (pin x (pln h 0 o) || pin x (pln h 9 o)) = true then pR 3 d 660 ls (.int (pct h o x.toNatClampNeg) :: st) h else none := pR_Lif rfl rfl
theorem rL_law_660 : pR 3 (d + 1) 660 ls (b2 :: b1 :: .ref o :: st) h = if (pok 1 (pcl h o) && pw st) = true then pK 3 (d + 1) 660 3 ls st (pCa 22 d [.ref o, b1, b2] h) else none := r_callV rfl rfl rfl
theorem rL_law_663 : pR 3 d 663 [a0, a1, .ref o, a3, a4, a5, a6] st h = pR 3 d 664 [a0, a1, .ref o, a3, a4, a5, a6] (.ref o :: st) h := pR_L rfl rfl
theorem rL_law_663n : pR 3 d 663 [a0, a1, .null, a3, a4, a5, a6] st h = pR 3 d 664 [a0, a1, .null, a3, a4, a5, a6] (.null :: st) h := pR_L rfl rfl
theorem rL_law_664 : pR 3 d 664 [.ref o, a1, a2, a3, a4, a5, a6] st h = pR 3 d 665 [.ref o, a1, a2, a3, a4, a5, a6] (.ref o :: st) h := pR_L rfl rfl
theorem rL_law_664n : pR 3 d 664 [.null, a1, a2, a3, a4, a5, a6] st h = pR 3 d 665 [.null, a1, a2, a3, a4, a5, a6] (.null :: st) h := pR_L rfl rfl
theorem rL_law_665 : pR 3 d 665 [a0, a1, a2, a3, .int x, a5, a6] st h = pR 3 d 667 [a0, a1, a2, a3, .int x, a5, a6] (.int x :: st) h := pR_L rfl rfl
theorem rL_law_667 : pR 3 d 667 ls st h = pR 3 d 668 ls (.int 1 :: st) h := pR_L rfl rfl
theorem rL_law_668 : pR 3 d 668 ls (.int y :: .int x :: st) h = pR 3 d 669 ls (.int (x + y) :: st) h := pR_L rfl rfl
theorem rL_law_669 : pR 3 d 669 ls (.int x :: .ref o :: st) h = if (pin x (pln h 0 o) || pin x (pln h 9 o)) = true then pR 3 d 670 ls (.int (pct h o x.toNatClampNeg) :: st) h else none := pR_Lif rfl rfl
theorem rL_law_670 : pR 3 d 670 [.ref o, a1, a2, a3, a4, a5, a6] st h = pR 3 d 671 [.ref o, a1, a2, a3, a4, a5, a6] (.ref o :: st) h := pR_L rfl rfl
theorem rL_law_670n : pR 3 d 670 [.null, a1, a2, a3, a4, a5, a6] st h = pR 3 d 671 [.null, a1, a2, a3, a4, a5, a6] (.null :: st) h := pR_L rfl rfl
theorem rL_law_671 : pR 3 d 671 [a0, a1, a2, a3, .int x, a5, a6] st h = pR 3 d 673 [a0, a1, a2, a3, .int x, a5, a6] (.int x :: st) h := pR_L rfl rfl
theorem rL_law_673 : pR 3 d 673 ls st h = pR 3 d 674 ls (.int 2 :: st) h := pR_L rfl rfl
theorem rL_law_674 : pR 3 d 674 ls (.int y :: .int x :: st) h = pR 3 d 675 ls (.int (x + y) :: st) h := pR_L rfl rfl
theorem rL_law_675 : pR 3 d 675 ls (.int x :: .ref o :: st) h = if (pin x (pln h 0 o) || pin x (pln h 9 o)) = true then pR 3 d 676 ls (.int (pct h o x.toNatClampNeg) :: st) h else none := pR_Lif rfl rfl
theorem rL_law_676 : pR 3 (d + 1) 676 ls (b2 :: b1 :: .ref o :: st) h = if (pok 3 (pcl h o) && pw st) = true then pK 3 (d + 1) 676 3 ls st (pCa 122 d [.ref o, b1, b2] h) else none := r_callV rfl rfl rfl
theorem rL_law_679 : pR 3 d 679 ls (.int y :: .int x :: st) h = if x = y then pR 3 d 1654 ls st h else pR 3 d 682 ls st h := r_ceq rfl rfl
theorem rL_law_682 : pR 3 d 682 ls st h = pR 3 d 683 ls (.int 0 :: st) h := pR_L rfl rfl
theorem rL_law_6830 : pR 3 d 683 ls [.int 0] h = some (.inl (some (.int 0)), h) := pR_E rfl rfl
theorem rL_law_6831 : pR 3 d 683 ls [.int 1] h = some (.inl (some (.int 1)), h) := pR_E rfl rfl
theorem rL_law_684 : pR 3 d 684 [a0, .ref o, a2, a3, a4, a5, a6] st h = pR 3 d 685 [a0, .ref o, a2, a3, a4, a5, a6] (.ref o :: st) h := pR_L rfl rfl
theorem rL_law_684n : pR 3 d 684 [a0, .null, a2, a3, a4, a5, a6] st h = pR 3 d 685 [a0, .null, a2, a3, a4, a5, a6] (.null :: st) h := pR_L rfl rfl
theorem rL_law_685 : pR 3 d 685 [.ref o, a1, a2, a3, a4, a5, a6] st h = pR 3 d 686 [.ref o, a1, a2, a3, a4, a5, a6] (.ref o :: st) h := pR_L rfl rfl
theorem rL_law_685n : pR 3 d 685 [.null, a1, a2, a3, a4, a5, a6] st h = pR 3 d 686 [.null, a1, a2, a3, a4, a5, a6] (.null :: st) h := pR_L rfl rfl
theorem rL_law_686 : pR 3 d 686 [a0, a1, a2, a3, .int x, a5, a6] st h = pR 3 d 688 [a0, a1, a2, a3, .int x, a5, a6] (.int x :: st) h := pR_L rfl rfl
theorem rL_law_688 : pR 3 d 688 ls st h = pR 3 d 689 ls (.int 1 :: st) h := pR_L rfl rfl
theorem rL_law_689 : pR 3 d 689 ls (.int y :: .int x :: st) h = pR 3 d 690 ls (.int (x + y) :: st) h := pR_L rfl rfl
theorem rL_law_690 : pR 3 d 690 ls (.int x :: .ref o :: st) h = if (pin x (pln h 0 o) || pin x (pln h 9 o)) = true then pR 3 d 691 ls (.int (pct h o x.toNatClampNeg) :: st) h else none := pR_Lif rfl rfl
theorem rL_law_691 : pR 3 (d + 1) 691 ls (b1 :: .ref o :: st) h = if (pok 1 (pcl h o) && pw st) = true then pK 3 (d + 1) 691 3 ls st (pCa 24 d [.ref o, b1] h) else none := r_callV rfl rfl rfl
theorem rL_law_694 : pR 3 d 694 [a0, a1, .ref o, a3, a4, a5, a6] st h = pR 3 d 695 [a0, a1, .ref o, a3, a4, a5, a6] (.ref o :: st) h := pR_L rfl rfl
theorem rL_law_694n : pR 3 d 694 [a0, a1, .null, a3, a4, a5, a6] st h = pR 3 d 695 [a0, a1, .null, a3, a4, a5, a6] (.null :: st) h := pR_L rfl rfl
theorem rL_law_695 : pR 3 d 695 [.ref o, a1, a2, a3, a4, a5, a6] st h = pR 3 d 696 [.ref o, a1, a2, a3, a4, a5, a6] (.ref o :: st) h := pR_L rfl rfl
theorem rL_law_695n : pR 3 d 695 [.null, a1, a2, a3, a4, a5, a6] st h = pR 3 d 696 [.null, a1, a2, a3, a4, a5, a6] (.null :: st) h := pR_L rfl rfl
theorem rL_law_696 : pR 3 d 696 [a0, a1, a2, a3, .int x, a5, a6] st h = pR 3 d 698 [a0, a1, a2, a3, .int x, a5, a6] (.int x :: st) h := pR_L rfl rfl
theorem rL_law_698 : pR 3 d 698 ls st h = pR 3 d 699 ls (.int 1 :: st) h := pR_L rfl rfl
theorem rL_law_699 : pR 3 d 699 ls (.int y :: .int x :: st) h = pR 3 d 700 ls (.int (x + y) :: st) h := pR_L rfl rfl
theorem rL_law_700 : pR 3 d 700 ls (.int x :: .ref o :: st) h = if (pin x (pln h 0 o) || pin x (pln h 9 o)) = true then pR 3 d 701 ls (.int (pct h o x.toNatClampNeg) :: st) h else none := pR_Lif rfl rfl
theorem rL_law_701 : pR 3 (d + 1) 701 ls (b1 :: .ref o :: st) h = if (pok 3 (pcl h o) && pw st) = true then pK 3 (d + 1) 701 3 ls st (pCa 123 d [.ref o, b1] h) else none := r_callV rfl rfl rfl
theorem rL_law_704 : pR 3 d 704 ls (.int y :: .int x :: st) h = if x = y then pR 3 d 1654 ls st h else pR 3 d 707 ls st h := r_ceq rfl rfl
theorem rL_law_707 : pR 3 d 707 ls st h = pR 3 d 708 ls (.int 0 :: st) h := pR_L rfl rfl
theorem rL_law_7080 : pR 3 d 708 ls [.int 0] h = some (.inl (some (.int 0)), h) := pR_E rfl rfl
theorem rL_law_7081 : pR 3 d 708 ls [.int 1] h = some (.inl (some (.int 1)), h) := pR_E rfl rfl
theorem rL_law_709 : pR 3 d 709 [a0, .ref o, a2, a3, a4, a5, a6] st h = pR 3 d 710 [a0, .ref o, a2, a3, a4, a5, a6] (.ref o :: st) h := pR_L rfl rfl
theorem rL_law_709n : pR 3 d 709 [a0, .null, a2, a3, a4, a5, a6] st h = pR 3 d 710 [a0, .null, a2, a3, a4, a5, a6] (.null :: st) h := pR_L rfl rfl
theorem rL_law_710 : pR 3 d 710 [.ref o, a1, a2, a3, a4, a5, a6] st h = pR 3 d 711 [.ref o, a1, a2, a3, a4, a5, a6] (.ref o :: st) h := pR_L rfl rfl
theorem rL_law_710n : pR 3 d 710 [.null, a1, a2, a3, a4, a5, a6] st h = pR 3 d 711 [.null, a1, a2, a3, a4, a5, a6] (.null :: st) h := pR_L rfl rfl
theorem rL_law_711 : pR 3 d 711 [a0, a1, a2, a3, .int x, a5, a6] st h = pR 3 d 713 [a0, a1, a2, a3, .int x, a5, a6] (.int x :: st) h := pR_L rfl rfl
theorem rL_law_713 : pR 3 d 713 ls st h = pR 3 d 714 ls (.int 1 :: st) h := pR_L rfl rfl
theorem rL_law_714 : pR 3 d 714 ls (.int y :: .int x :: st) h = pR 3 d 715 ls (.int (x + y) :: st) h := pR_L rfl rfl
theorem rL_law_715 : pR 3 d 715 ls (.int x :: .ref o :: st) h = if (pin x (pln h 0 o) || pin x (pln h 9 o)) = true then pR 3 d 716 ls (.int (pct h o x.toNatClampNeg) :: st) h else none := pR_Lif rfl rfl
theorem rL_law_716 : pR 3 d 716 [.ref o, a1, a2, a3, a4, a5, a6] st h = pR 3 d 717 [.ref o, a1, a2, a3, a4, a5, a6] (.ref o :: st) h := pR_L rfl rfl
theorem rL_law_716n : pR 3 d 716 [.null, a1, a2, a3, a4, a5, a6] st h = pR 3 d 717 [.null, a1, a2, a3, a4, a5, a6] (.null :: st) h := pR_L rfl rfl
theorem rL_law_717 : pR 3 d 717 [a0, a1, a2, a3, .int x, a5, a6] st h = pR 3 d 719 [a0, a1, a2, a3, .int x, a5, a6] (.int x :: st) h := pR_L rfl rfl
theorem rL_law_719 : pR 3 d 719 ls st h = pR 3 d 720 ls (.int 2 :: st) h := pR_L rfl rfl
theorem rL_law_720 : pR 3 d 720 ls (.int y :: .int x :: st) h = pR 3 d 721 ls (.int (x + y) :: st) h := pR_L rfl rfl
theorem rL_law_721 : pR 3 d 721 ls (.int x :: .ref o :: st) h = if (pin x (pln h 0 o) || pin x (pln h 9 o)) = true then pR 3 d 722 ls (.int (pct h o x.toNatClampNeg) :: st) h else none := pR_Lif rfl rfl
theorem rL_law_722 : pR 3 d 722 [.ref o, a1, a2, a3, a4, a5, a6] st h = pR 3 d 723 [.ref o, a1, a2, a3, a4, a5, a6] (.ref o :: st) h := pR_L rfl rfl
theorem rL_law_722n : pR 3 d 722 [.null, a1, a2, a3, a4, a5, a6] st h = pR 3 d 723 [.null, a1, a2, a3, a4, a5, a6] (.null :: st) h := pR_L rfl rfl
theorem rL_law_723 : pR 3 d 723 [a0, a1, a2, a3, .int x, a5, a6] st h = pR 3 d 725 [a0, a1, a2, a3, .int x, a5, a6] (.int x :: st) h := pR_L rfl rfl
theorem rL_law_725 : pR 3 d 725 ls st h = pR 3 d 726 ls (.int 3 :: st) h := pR_L rfl rfl
theorem rL_law_726 : pR 3 d 726 ls (.int y :: .int x :: st) h = pR 3 d 727 ls (.int (x + y) :: st) h := pR_L rfl rfl
theorem rL_law_727 : pR 3 d 727 ls (.int x :: .ref o :: st) h = if (pin x (pln h 0 o) || pin x (pln h 9 o)) = true then pR 3 d 728 ls (.int (pct h o x.toNatClampNeg) :: st) h else none := pR_Lif rfl rfl
theorem rL_law_728 : pR 3 (d + 1) 728 ls (b3 :: b2 :: b1 :: .ref o :: st) h = if (pok 1 (pcl h o) && pw st) = true then pK 3 (d + 1) 728 3 ls st (pCa 25 d [.ref o, b1, b2, b3] h) else none := r_callV rfl rfl rfl
theorem rL_law_731 : pR 3 d 731 [a0, a1, .ref o, a3, a4, a5, a6] st h = pR 3 d 732 [a0, a1, .ref o, a3, a4, a5, a6] (.ref o :: st) h := pR_L rfl rfl
theorem rL_law_731n : pR 3 d 731 [a0, a1, .null, a3, a4, a5, a6] st h = pR 3 d 732 [a0, a1, .null, a3, a4, a5, a6] (.null :: st) h := pR_L rfl rfl
theorem rL_law_732 : pR 3 d 732 [.ref o, a1, a2, a3, a4, a5, a6] st h = pR 3 d 733 [.ref o, a1, a2, a3, a4, a5, a6] (.ref o :: st) h := pR_L rfl rfl
theorem rL_law_732n : pR 3 d 732 [.null, a1, a2, a3, a4, a5, a6] st h = pR 3 d 733 [.null, a1, a2, a3, a4, a5, a6] (.null :: st) h := pR_L rfl rfl
theorem rL_law_733 : pR 3 d 733 [a0, a1, a2, a3, .int x, a5, a6] st h = pR 3 d 735 [a0, a1, a2, a3, .int x, a5, a6] (.int x :: st) h := pR_L rfl rfl
theorem rL_law_735 : pR 3 d 735 ls st h = pR 3 d 736 ls (.int 1 :: st) h := pR_L rfl rfl
theorem rL_law_736 : pR 3 d 736 ls (.int y :: .int x :: st) h = pR 3 d 737 ls (.int (x + y) :: st) h := pR_L rfl rfl
theorem rL_law_737 : pR 3 d 737 ls (.int x :: .ref o :: st) h = if (pin x (pln h 0 o) || pin x (pln h 9 o)) = true then pR 3 d 738 ls (.int (pct h o x.toNatClampNeg) :: st) h else none := pR_Lif rfl rfl
theorem rL_law_738 : pR 3 d 738 [.ref o, a1, a2, a3, a4, a5, a6] st h = pR 3 d 739 [.ref o, a1, a2, a3, a4, a5, a6] (.ref o :: st) h := pR_L rfl rfl
theorem rL_law_738n : pR 3 d 738 [.null, a1, a2, a3, a4, a5, a6] st h = pR 3 d 739 [.null, a1, a2, a3, a4, a5, a6] (.null :: st) h := pR_L rfl rfl
theorem rL_law_739 : pR 3 d 739 [a0, a1, a2, a3, .int x, a5, a6] st h = pR 3 d 741 [a0, a1, a2, a3, .int x, a5, a6] (.int x :: st) h := pR_L rfl rfl
theorem rL_law_741 : pR 3 d 741 ls st h = pR 3 d 742 ls (.int 2 :: st) h := pR_L rfl rfl
theorem rL_law_742 : pR 3 d 742 ls (.int y :: .int x :: st) h = pR 3 d 743 ls (.int (x + y) :: st) h := pR_L rfl rfl
theorem rL_law_743 : pR 3 d 743 ls (.int x :: .ref o :: st) h = if (pin x (pln h 0 o) || pin x (pln h 9 o)) = true then pR 3 d 744 ls (.int (pct h o x.toNatClampNeg) :: st) h else none := pR_Lif rfl rfl
theorem rL_law_744 : pR 3 d 744 [.ref o, a1, a2, a3, a4, a5, a6] st h = pR 3 d 745 [.ref o, a1, a2, a3, a4, a5, a6] (.ref o :: st) h := pR_L rfl rfl
theorem rL_law_744n : pR 3 d 744 [.null, a1, a2, a3, a4, a5, a6] st h = pR 3 d 745 [.null, a1, a2, a3, a4, a5, a6] (.null :: st) h := pR_L rfl rfl
theorem rL_law_745 : pR 3 d 745 [a0, a1, a2, a3, .int x, a5, a6] st h = pR 3 d 747 [a0, a1, a2, a3, .int x, a5, a6] (.int x :: st) h := pR_L rfl rfl
theorem rL_law_747 : pR 3 d 747 ls st h = pR 3 d 748 ls (.int 3 :: st) h := pR_L rfl rfl
theorem rL_law_748 : pR 3 d 748 ls (.int y :: .int x :: st) h = pR 3 d 749 ls (.int (x + y) :: st) h := pR_L rfl rfl
theorem rL_law_749 : pR 3 d 749 ls (.int x :: .ref o :: st) h = if (pin x (pln h 0 o) || pin x (pln h 9 o)) = true then pR 3 d 750 ls (.int (pct h o x.toNatClampNeg) :: st) h else none := pR_Lif rfl rfl
theorem rL_law_750 : pR 3 (d + 1) 750 ls (b3 :: b2 :: b1 :: .ref o :: st) h = if (pok 3 (pcl h o) && pw st) = true then pK 3 (d + 1) 750 3 ls st (pCa 130 d [.ref o, b1, b2, b3] h) else none := r_callV rfl rfl rfl
theorem rL_law_753 : pR 3 d 753 ls (.int y :: .int x :: st) h = if x = y then pR 3 d 1654 ls st h else pR 3 d 756 ls st h := r_ceq rfl rfl
theorem rL_law_756 : pR 3 d 756 ls st h = pR 3 d 757 ls (.int 0 :: st) h := pR_L rfl rfl
theorem rL_law_7570 : pR 3 d 757 ls [.int 0] h = some (.inl (some (.int 0)), h) := pR_E rfl rfl
theorem rL_law_7571 : pR 3 d 757 ls [.int 1] h = some (.inl (some (.int 1)), h) := pR_E rfl rfl
theorem rL_law_758 : pR 3 d 758 [a0, .ref o, a2, a3, a4, a5, a6] st h = pR 3 d 759 [a0, .ref o, a2, a3, a4, a5, a6] (.ref o :: st) h := pR_L rfl rfl
theorem rL_law_758n : pR 3 d 758 [a0, .null, a2, a3, a4, a5, a6] st h = pR 3 d 759 [a0, .null, a2, a3, a4, a5, a6] (.null :: st) h := pR_L rfl rfl
theorem rL_law_759 : pR 3 d 759 [.ref o, a1, a2, a3, a4, a5, a6] st h = pR 3 d 760 [.ref o, a1, a2, a3, a4, a5, a6] (.ref o :: st) h := pR_L rfl rfl
theorem rL_law_759n : pR 3 d 759 [.null, a1, a2, a3, a4, a5, a6] st h = pR 3 d 760 [.null, a1, a2, a3, a4, a5, a6] (.null :: st) h := pR_L rfl rfl
theorem rL_law_760 : pR 3 d 760 [a0, a1, a2, a3, .int x, a5, a6] st h = pR 3 d 762 [a0, a1, a2, a3, .int x, a5, a6] (.int x :: st) h := pR_L rfl rfl
theorem rL_law_762 : pR 3 d 762 ls st h = pR 3 d 763 ls (.int 1 :: st) h := pR_L rfl rfl
theorem rL_law_763 : pR 3 d 763 ls (.int y :: .int x :: st) h = pR 3 d 764 ls (.int (x + y) :: st) h := pR_L rfl rfl
theorem rL_law_764 : pR 3 d 764 ls (.int x :: .ref o :: st) h = if (pin x (pln h 0 o) || pin x (pln h 9 o)) = true then pR 3 d 765 ls (.int (pct h o x.toNatClampNeg) :: st) h else none := pR_Lif rfl rfl
theorem rL_law_765 : pR 3 (d + 1) 765 ls (b1 :: .ref o :: st) h = if (pok 1 (pcl h o) && pw st) = true then pK 3 (d + 1) 765 3 ls st (pCa 26 d [.ref o, b1] h) else none := r_callV rfl rfl rfl
theorem rL_law_768 : pR 3 d 768 [a0, a1, .ref o, a3, a4, a5, a6] st h = pR 3 d 769 [a0, a1, .ref o, a3, a4, a5, a6] (.ref o :: st) h := pR_L rfl rfl
theorem rL_law_768n : pR 3 d 768 [a0, a1, .null, a3, a4, a5, a6] st h = pR 3 d 769 [a0, a1, .null, a3, a4, a5, a6] (.null :: st) h := pR_L rfl rfl
theorem rL_law_769 : pR 3 d 769 [.ref o, a1, a2, a3, a4, a5, a6] st h = pR 3 d 770 [.ref o, a1, a2, a3, a4, a5, a6] (.ref o :: st) h := pR_L rfl rfl
theorem rL_law_769n : pR 3 d 769 [.null, a1, a2, a3, a4, a5, a6] st h = pR 3 d 770 [.null, a1, a2, a3, a4, a5, a6] (.null :: st) h := pR_L rfl rfl
theorem rL_law_770 : pR 3 d 770 [a0, a1, a2, a3, .int x, a5, a6] st h = pR 3 d 772 [a0, a1, a2, a3, .int x, a5, a6] (.int x :: st) h := pR_L rfl rfl
theorem rL_law_772 : pR 3 d 772 ls st h = pR 3 d 773 ls (.int 1 :: st) h := pR_L rfl rfl
theorem rL_law_773 : pR 3 d 773 ls (.int y :: .int x :: st) h = pR 3 d 774 ls (.int (x + y) :: st) h := pR_L rfl rfl
theorem rL_law_774 : pR 3 d 774 ls (.int x :: .ref o :: st) h = if (pin x (pln h 0 o) || pin x (pln h 9 o)) = true then pR 3 d 775 ls (.int (pct h o x.toNatClampNeg) :: st) h else none := pR_Lif rfl rfl
theorem rL_law_775 : pR 3 (d + 1) 775 ls (b1 :: .ref o :: st) h = if (pok 3 (pcl h o) && pw st) = true then pK 3 (d + 1) 775 3 ls st (pCa 134 d [.ref o, b1] h) else none := r_callV rfl rfl rfl
theorem rL_law_778 : pR 3 d 778 ls (.int y :: .int x :: st) h = if x = y then pR 3 d 1654 ls st h else pR 3 d 781 ls st h := r_ceq rfl rfl
theorem rL_law_781 : pR 3 d 781 ls st h = pR 3 d 782 ls (.int 0 :: st) h := pR_L rfl rfl
theorem rL_law_7820 : pR 3 d 782 ls [.int 0] h = some (.inl (some (.int 0)), h) := pR_E rfl rfl
theorem rL_law_7821 : pR 3 d 782 ls [.int 1] h = some (.inl (some (.int 1)), h) := pR_E rfl rfl
theorem rL_law_783 : pR 3 d 783 [a0, .ref o, a2, a3, a4, a5, a6] st h = pR 3 d 784 [a0, .ref o, a2, a3, a4, a5, a6] (.ref o :: st) h := pR_L rfl rfl
theorem rL_law_783n : pR 3 d 783 [a0, .null, a2, a3, a4, a5, a6] st h = pR 3 d 784 [a0, .null, a2, a3, a4, a5, a6] (.null :: st) h := pR_L rfl rfl
theorem rL_law_784 : pR 3 d 784 [.ref o, a1, a2, a3, a4, a5, a6] st h = pR 3 d 785 [.ref o, a1, a2, a3, a4, a5, a6] (.ref o :: st) h := pR_L rfl rfl
theorem rL_law_784n : pR 3 d 784 [.null, a1, a2, a3, a4, a5, a6] st h = pR 3 d 785 [.null, a1, a2, a3, a4, a5, a6] (.null :: st) h := pR_L rfl rfl
theorem rL_law_785 : pR 3 d 785 [a0, a1, a2, a3, .int x, a5, a6] st h = pR 3 d 787 [a0, a1, a2, a3, .int x, a5, a6] (.int x :: st) h := pR_L rfl rfl
theorem rL_law_787 : pR 3 d 787 ls st h = pR 3 d 788 ls (.int 1 :: st) h := pR_L rfl rfl
theorem rL_law_788 : pR 3 d 788 ls (.int y :: .int x :: st) h = pR 3 d 789 ls (.int (x + y) :: st) h := pR_L rfl rfl
theorem rL_law_789 : pR 3 d 789 ls (.int x :: .ref o :: st) h = if (pin x (pln h 0 o) || pin x (pln h 9 o)) = true then pR 3 d 790 ls (.int (pct h o x.toNatClampNeg) :: st) h else none := pR_Lif rfl rfl
theorem rL_law_790 : pR 3 d 790 [.ref o, a1, a2, a3, a4, a5, a6] st h = pR 3 d 791 [.ref o, a1, a2, a3, a4, a5, a6] (.ref o :: st) h := pR_L rfl rfl
theorem rL_law_790n : pR 3 d 790 [.null, a1, a2, a3, a4, a5, a6] st h = pR 3 d 791 [.null, a1, a2, a3, a4, a5, a6] (.null :: st) h := pR_L rfl rfl
theorem rL_law_791 : pR 3 d 791 [a0, a1, a2, a3, .int x, a5, a6] st h = pR 3 d 793 [a0, a1, a2, a3, .int x, a5, a6] (.int x :: st) h := pR_L rfl rfl
theorem rL_law_793 : pR 3 d 793 ls st h = pR 3 d 794 ls (.int 2 :: st) h := pR_L rfl rfl
theorem rL_law_794 : pR 3 d 794 ls (.int y :: .int x :: st) h = pR 3 d 795 ls (.int (x + y) :: st) h := pR_L rfl rfl
theorem rL_law_795 : pR 3 d 795 ls (.int x :: .ref o :: st) h = if (pin x (pln h 0 o) || pin x (pln h 9 o)) = true then pR 3 d 796 ls (.int (pct h o x.toNatClampNeg) :: st) h else none := pR_Lif rfl rfl
theorem rL_law_796 : pR 3 d 796 [.ref o, a1, a2, a3, a4, a5, a6] st h = pR 3 d 797 [.ref o, a1, a2, a3, a4, a5, a6] (.ref o :: st) h := pR_L rfl rfl
theorem rL_law_796n : pR 3 d 796 [.null, a1, a2, a3, a4, a5, a6] st h = pR 3 d 797 [.null, a1, a2, a3, a4, a5, a6] (.null :: st) h := pR_L rfl rfl
theorem rL_law_797 : pR 3 d 797 [a0, a1, a2, a3, .int x, a5, a6] st h = pR 3 d 799 [a0, a1, a2, a3, .int x, a5, a6] (.int x :: st) h := pR_L rfl rfl
theorem rL_law_799 : pR 3 d 799 ls st h = pR 3 d 800 ls (.int 3 :: st) h := pR_L rfl rfl
theorem rL_law_800 : pR 3 d 800 ls (.int y :: .int x :: st) h = pR 3 d 801 ls (.int (x + y) :: st) h := pR_L rfl rfl
theorem rL_law_801 : pR 3 d 801 ls (.int x :: .ref o :: st) h = if (pin x (pln h 0 o) || pin x (pln h 9 o)) = true then pR 3 d 802 ls (.int (pct h o x.toNatClampNeg) :: st) h else none := pR_Lif rfl rfl
theorem rL_law_802 : pR 3 d 802 [.ref o, a1, a2, a3, a4, a5, a6] st h = pR 3 d 803 [.ref o, a1, a2, a3, a4, a5, a6] (.ref o :: st) h := pR_L rfl rfl
theorem rL_law_802n : pR 3 d 802 [.null, a1, a2, a3, a4, a5, a6] st h = pR 3 d 803 [.null, a1, a2, a3, a4, a5, a6] (.null :: st) h := pR_L rfl rfl
theorem rL_law_803 : pR 3 d 803 [a0, a1, a2, a3, .int x, a5, a6] st h = pR 3 d 805 [a0, a1, a2, a3, .int x, a5, a6] (.int x :: st) h := pR_L rfl rfl
theorem rL_law_805 : pR 3 d 805 ls st h = pR 3 d 806 ls (.int 4 :: st) h := pR_L rfl rfl
theorem rL_law_806 : pR 3 d 806 ls (.int y :: .int x :: st) h = pR 3 d 807 ls (.int (x + y) :: st) h := pR_L rfl rfl
theorem rL_law_807 : pR 3 d 807 ls (.int x :: .ref o :: st) h = if (pin x (pln h 0 o) || pin x (pln h 9 o)) = true then pR 3 d 808 ls (.int (pct h o x.toNatClampNeg) :: st) h else none := pR_Lif rfl rfl
theorem rL_law_808 : pR 3 (d + 1) 808 ls (b4 :: b3 :: b2 :: b1 :: .ref o :: st) h = if (pok 1 (pcl h o) && pw st) = true then pK 3 (d + 1) 808 3 ls st (pCa 27 d [.ref o, b1, b2, b3, b4] h) else none := r_callV rfl rfl rfl
theorem rL_law_811 : pR 3 d 811 [a0, a1, .ref o, a3, a4, a5, a6] st h = pR 3 d 812 [a0, a1, .ref o, a3, a4, a5, a6] (.ref o :: st) h := pR_L rfl rfl
theorem rL_law_811n : pR 3 d 811 [a0, a1, .null, a3, a4, a5, a6] st h = pR 3 d 812 [a0, a1, .null, a3, a4, a5, a6] (.null :: st) h := pR_L rfl rfl
theorem rL_law_812 : pR 3 d 812 [.ref o, a1, a2, a3, a4, a5, a6] st h = pR 3 d 813 [.ref o, a1, a2, a3, a4, a5, a6] (.ref o :: st) h := pR_L rfl rfl
theorem rL_law_812n : pR 3 d 812 [.null, a1, a2, a3, a4, a5, a6] st h = pR 3 d 813 [.null, a1, a2, a3, a4, a5, a6] (.null :: st) h := pR_L rfl rfl
theorem rL_law_813 : pR 3 d 813 [a0, a1, a2, a3, .int x, a5, a6] st h = pR 3 d 815 [a0, a1, a2, a3, .int x, a5, a6] (.int x :: st) h := pR_L rfl rfl
theorem rL_law_815 : pR 3 d 815 ls st h = pR 3 d 816 ls (.int 1 :: st) h := pR_L rfl rfl
theorem rL_law_816 : pR 3 d 816 ls (.int y :: .int x :: st) h = pR 3 d 817 ls (.int (x + y) :: st) h := pR_L rfl rfl
theorem rL_law_817 : pR 3 d 817 ls (.int x :: .ref o :: st) h = if (pin x (pln h 0 o) || pin x (pln h 9 o)) = true then pR 3 d 818 ls (.int (pct h o x.toNatClampNeg) :: st) h else none := pR_Lif rfl rfl
theorem rL_law_818 : pR 3 d 818 [.ref o, a1, a2, a3, a4, a5, a6] st h = pR 3 d 819 [.ref o, a1, a2, a3, a4, a5, a6] (.ref o :: st) h := pR_L rfl rfl
theorem rL_law_818n : pR 3 d 818 [.null, a1, a2, a3, a4, a5, a6] st h = pR 3 d 819 [.null, a1, a2, a3, a4, a5, a6] (.null :: st) h := pR_L rfl rfl
theorem rL_law_819 : pR 3 d 819 [a0, a1, a2, a3, .int x, a5, a6] st h = pR 3 d 821 [a0, a1, a2, a3, .int x, a5, a6] (.int x :: st) h := pR_L rfl rfl
theorem rL_law_821 : pR 3 d 821 ls st h = pR 3 d 822 ls (.int 2 :: st) h := pR_L rfl rfl
theorem rL_law_822 : pR 3 d 822 ls (.int y :: .int x :: st) h = pR 3 d 823 ls (.int (x + y) :: st) h := pR_L rfl rfl
theorem rL_law_823 : pR 3 d 823 ls (.int x :: .ref o :: st) h = if (pin x (pln h 0 o) || pin x (pln h 9 o)) = true then pR 3 d 824 ls (.int (pct h o x.toNatClampNeg) :: st) h else none := pR_Lif rfl rfl
theorem rL_law_824 : pR 3 d 824 [.ref o, a1, a2, a3, a4, a5, a6] st h = pR 3 d 825 [.ref o, a1, a2, a3, a4, a5, a6] (.ref o :: st) h := pR_L rfl rfl
theorem rL_law_824n : pR 3 d 824 [.null, a1, a2, a3, a4, a5, a6] st h = pR 3 d 825 [.null, a1, a2, a3, a4, a5, a6] (.null :: st) h := pR_L rfl rfl
theorem rL_law_825 : pR 3 d 825 [a0, a1, a2, a3, .int x, a5, a6] st h = pR 3 d 827 [a0, a1, a2, a3, .int x, a5, a6] (.int x :: st) h := pR_L rfl rfl
theorem rL_law_827 : pR 3 d 827 ls st h = pR 3 d 828 ls (.int 3 :: st) h := pR_L rfl rfl
theorem rL_law_828 : pR 3 d 828 ls (.int y :: .int x :: st) h = pR 3 d 829 ls (.int (x + y) :: st) h := pR_L rfl rfl
theorem rL_law_829 : pR 3 d 829 ls (.int x :: .ref o :: st) h = if (pin x (pln h 0 o) || pin x (pln h 9 o)) = true then pR 3 d 830 ls (.int (pct h o x.toNatClampNeg) :: st) h else none := pR_Lif rfl rfl
theorem rL_law_830 : pR 3 d 830 [.ref o, a1, a2, a3, a4, a5, a6] st h = pR 3 d 831 [.ref o, a1, a2, a3, a4, a5, a6] (.ref o :: st) h := pR_L rfl rfl
theorem rL_law_830n : pR 3 d 830 [.null, a1, a2, a3, a4, a5, a6] st h = pR 3 d 831 [.null, a1, a2, a3, a4, a5, a6] (.null :: st) h := pR_L rfl rfl
theorem rL_law_831 : pR 3 d 831 [a0, a1, a2, a3, .int x, a5, a6] st h = pR 3 d 833 [a0, a1, a2, a3, .int x, a5, a6] (.int x :: st) h := pR_L rfl rfl
theorem rL_law_833 : pR 3 d 833 ls st h = pR 3 d 834 ls (.int 4 :: st) h := pR_L rfl rfl
theorem rL_law_834 : pR 3 d 834 ls (.int y :: .int x :: st) h = pR 3 d 835 ls (.int (x + y) :: st) h := pR_L rfl rfl
theorem rL_law_835 : pR 3 d 835 ls (.int x :: .ref o :: st) h = if (pin x (pln h 0 o) || pin x (pln h 9 o)) = true then pR 3 d 836 ls (.int (pct h o x.toNatClampNeg) :: st) h else none := pR_Lif rfl rfl
theorem rL_law_836 : pR 3 (d + 1) 836 ls (b4 :: b3 :: b2 :: b1 :: .ref o :: st) h = if (pok 3 (pcl h o) && pw st) = true then pK 3 (d + 1) 836 3 ls st (pCa 128 d [.ref o, b1, b2, b3, b4] h) else none := r_callV rfl rfl rfl
theorem rL_law_839 : pR 3 d 839 ls (.int y :: .int x :: st) h = if x = y then pR 3 d 1654 ls st h else pR 3 d 842 ls st h := r_ceq rfl rfl
theorem rL_law_842 : pR 3 d 842 ls st h = pR 3 d 843 ls (.int 0 :: st) h := pR_L rfl rfl
theorem rL_law_8430 : pR 3 d 843 ls [.int 0] h = some (.inl (some (.int 0)), h) := pR_E rfl rfl
theorem rL_law_8431 : pR 3 d 843 ls [.int 1] h = some (.inl (some (.int 1)), h) := pR_E rfl rfl
theorem rL_law_844 : pR 3 d 844 [a0, .ref o, a2, a3, a4, a5, a6] st h = pR 3 d 845 [a0, .ref o, a2, a3, a4, a5, a6] (.ref o :: st) h := pR_L rfl rfl
theorem rL_law_844n : pR 3 d 844 [a0, .null, a2, a3, a4, a5, a6] st h = pR 3 d 845 [a0, .null, a2, a3, a4, a5, a6] (.null :: st) h := pR_L rfl rfl
theorem rL_law_845 : pR 3 d 845 [.ref o, a1, a2, a3, a4, a5, a6] st h = pR 3 d 846 [.ref o, a1, a2, a3, a4, a5, a6] (.ref o :: st) h := pR_L rfl rfl
theorem rL_law_845n : pR 3 d 845 [.null, a1, a2, a3, a4, a5, a6] st h = pR 3 d 846 [.null, a1, a2, a3, a4, a5, a6] (.null :: st) h := pR_L rfl rfl
theorem rL_law_846 : pR 3 d 846 [a0, a1, a2, a3, .int x, a5, a6] st h = pR 3 d 848 [a0, a1, a2, a3, .int x, a5, a6] (.int x :: st) h := pR_L rfl rfl
theorem rL_law_848 : pR 3 d 848 ls st h = pR 3 d 849 ls (.int 1 :: st) h := pR_L rfl rfl
theorem rL_law_849 : pR 3 d 849 ls (.int y :: .int x :: st) h = pR 3 d 850 ls (.int (x + y) :: st) h := pR_L rfl rfl
theorem rL_law_850 : pR 3 d 850 ls (.int x :: .ref o :: st) h = if (pin x (pln h 0 o) || pin x (pln h 9 o)) = true then pR 3 d 851 ls (.int (pct h o x.toNatClampNeg) :: st) h else none := pR_Lif rfl rfl
theorem rL_law_851 : pR 3 d 851 [.ref o, a1, a2, a3, a4, a5, a6] st h = pR 3 d 852 [.ref o, a1, a2, a3, a4, a5, a6] (.ref o :: st) h := pR_L rfl rfl
theorem rL_law_851n : pR 3 d 851 [.null, a1, a2, a3, a4, a5, a6] st h = pR 3 d 852 [.null, a1, a2, a3, a4, a5, a6] (.null :: st) h := pR_L rfl rfl
theorem rL_law_852 : pR 3 d 852 [a0, a1, a2, a3, .int x, a5, a6] st h = pR 3 d 854 [a0, a1, a2, a3, .int x, a5, a6] (.int x :: st) h := pR_L rfl rfl
theorem rL_law_854 : pR 3 d 854 ls st h = pR 3 d 855 ls (.int 2 :: st) h := pR_L rfl rfl
theorem rL_law_855 : pR 3 d 855 ls (.int y :: .int x :: st) h = pR 3 d 856 ls (.int (x + y) :: st) h := pR_L rfl rfl
theorem rL_law_856 : pR 3 d 856 ls (.int x :: .ref o :: st) h = if (pin x (pln h 0 o) || pin x (pln h 9 o)) = true then pR 3 d 857 ls (.int (pct h o x.toNatClampNeg) :: st) h else none := pR_Lif rfl rfl
theorem rL_law_857 : pR 3 (d + 1) 857 ls (b2 :: b1 :: .ref o :: st) h = if (pok 1 (pcl h o) && pw st) = true then pK 3 (d + 1) 857 3 ls st (pCa 28 d [.ref o, b1, b2] h) else none := r_callV rfl rfl rfl
theorem rL_law_860 : pR 3 d 860 [a0, a1, .ref o, a3, a4, a5, a6] st h = pR 3 d 861 [a0, a1, .ref o, a3, a4, a5, a6] (.ref o :: st) h := pR_L rfl rfl
theorem rL_law_860n : pR 3 d 860 [a0, a1, .null, a3, a4, a5, a6] st h = pR 3 d 861 [a0, a1, .null, a3, a4, a5, a6] (.null :: st) h := pR_L rfl rfl
theorem rL_law_861 : pR 3 d 861 [.ref o, a1, a2, a3, a4, a5, a6] st h = pR 3 d 862 [.ref o, a1, a2, a3, a4, a5, a6] (.ref o :: st) h := pR_L rfl rfl
theorem rL_law_861n : pR 3 d 861 [.null, a1, a2, a3, a4, a5, a6] st h = pR 3 d 862 [.null, a1, a2, a3, a4, a5, a6] (.null :: st) h := pR_L rfl rfl
theorem rL_law_862 : pR 3 d 862 [a0, a1, a2, a3, .int x, a5, a6] st h = pR 3 d 864 [a0, a1, a2, a3, .int x, a5, a6] (.int x :: st) h := pR_L rfl rfl
theorem rL_law_864 : pR 3 d 864 ls st h = pR 3 d 865 ls (.int 1 :: st) h := pR_L rfl rfl
theorem rL_law_865 : pR 3 d 865 ls (.int y :: .int x :: st) h = pR 3 d 866 ls (.int (x + y) :: st) h := pR_L rfl rfl
theorem rL_law_866 : pR 3 d 866 ls (.int x :: .ref o :: st) h = if (pin x (pln h 0 o) || pin x (pln h 9 o)) = true then pR 3 d 867 ls (.int (pct h o x.toNatClampNeg) :: st) h else none := pR_Lif rfl rfl
theorem rL_law_867 : pR 3 d 867 [.ref o, a1, a2, a3, a4, a5, a6] st h = pR 3 d 868 [.ref o, a1, a2, a3, a4, a5, a6] (.ref o :: st) h := pR_L rfl rfl
theorem rL_law_867n : pR 3 d 867 [.null, a1, a2, a3, a4, a5, a6] st h = pR 3 d 868 [.null, a1, a2, a3, a4, a5, a6] (.null :: st) h := pR_L rfl rfl
theorem rL_law_868 : pR 3 d 868 [a0, a1, a2, a3, .int x, a5, a6] st h = pR 3 d 870 [a0, a1, a2, a3, .int x, a5, a6] (.int x :: st) h := pR_L rfl rfl
theorem rL_law_870 : pR 3 d 870 ls st h = pR 3 d 871 ls (.int 2 :: st) h := pR_L rfl rfl
theorem rL_law_871 : pR 3 d 871 ls (.int y :: .int x :: st) h = pR 3 d 872 ls (.int (x + y) :: st) h := pR_L rfl rfl
theorem rL_law_872 : pR 3 d 872 ls (.int x :: .ref o :: st) h = if (pin x (pln h 0 o) || pin x (pln h 9 o)) = true then pR 3 d 873 ls (.int (pct h o x.toNatClampNeg) :: st) h else none := pR_Lif rfl rfl
theorem rL_law_873 : pR 3 (d + 1) 873 ls (b2 :: b1 :: .ref o :: st) h = if (pok 3 (pcl h o) && pw st) = true then pK 3 (d + 1) 873 3 ls st (pCa 135 d [.ref o, b1, b2] h) else none := r_callV rfl rfl rfl
theorem rL_law_876 : pR 3 d 876 ls (.int y :: .int x :: st) h = if x = y then pR 3 d 1654 ls st h else pR 3 d 879 ls st h := r_ceq rfl rfl
theorem rL_law_879 : pR 3 d 879 ls st h = pR 3 d 880 ls (.int 0 :: st) h := pR_L rfl rfl
theorem rL_law_8800 : pR 3 d 880 ls [.int 0] h = some (.inl (some (.int 0)), h) := pR_E rfl rfl
theorem rL_law_8801 : pR 3 d 880 ls [.int 1] h = some (.inl (some (.int 1)), h) := pR_E rfl rfl
theorem rL_law_881 : pR 3 d 881 [a0, .ref o, a2, a3, a4, a5, a6] st h = pR 3 d 882 [a0, .ref o, a2, a3, a4, a5, a6] (.ref o :: st) h := pR_L rfl rfl
theorem rL_law_881n : pR 3 d 881 [a0, .null, a2, a3, a4, a5, a6] st h = pR 3 d 882 [a0, .null, a2, a3, a4, a5, a6] (.null :: st) h := pR_L rfl rfl
theorem rL_law_882 : pR 3 d 882 [.ref o, a1, a2, a3, a4, a5, a6] st h = pR 3 d 883 [.ref o, a1, a2, a3, a4, a5, a6] (.ref o :: st) h := pR_L rfl rfl
theorem rL_law_882n : pR 3 d 882 [.null, a1, a2, a3, a4, a5, a6] st h = pR 3 d 883 [.null, a1, a2, a3, a4, a5, a6] (.null :: st) h := pR_L rfl rfl
theorem rL_law_883 : pR 3 d 883 [a0, a1, a2, a3, .int x, a5, a6] st h = pR 3 d 885 [a0, a1, a2, a3, .int x, a5, a6] (.int x :: st) h := pR_L rfl rfl
theorem rL_law_885 : pR 3 d 885 ls st h = pR 3 d 886 ls (.int 1 :: st) h := pR_L rfl rfl
theorem rL_law_886 : pR 3 d 886 ls (.int y :: .int x :: st) h = pR 3 d 887 ls (.int (x + y) :: st) h := pR_L rfl rfl
theorem rL_law_887 : pR 3 d 887 ls (.int x :: .ref o :: st) h = if (pin x (pln h 0 o) || pin x (pln h 9 o)) = true then pR 3 d 888 ls (.int (pct h o x.toNatClampNeg) :: st) h else none := pR_Lif rfl rfl
theorem rL_law_888 : pR 3 d 888 [.ref o, a1, a2, a3, a4, a5, a6] st h = pR 3 d 889 [.ref o, a1, a2, a3, a4, a5, a6] (.ref o :: st) h := pR_L rfl rfl
theorem rL_law_888n : pR 3 d 888 [.null, a1, a2, a3, a4, a5, a6] st h = pR 3 d 889 [.null, a1, a2, a3, a4, a5, a6] (.null :: st) h := pR_L rfl rfl
theorem rL_law_889 : pR 3 d 889 [a0, a1, a2, a3, .int x, a5, a6] st h = pR 3 d 891 [a0, a1, a2, a3, .int x, a5, a6] (.int x :: st) h := pR_L rfl rfl
theorem rL_law_891 : pR 3 d 891 ls st h = pR 3 d 892 ls (.int 2 :: st) h := pR_L rfl rfl
theorem rL_law_892 : pR 3 d 892 ls (.int y :: .int x :: st) h = pR 3 d 893 ls (.int (x + y) :: st) h := pR_L rfl rfl
theorem rL_law_893 : pR 3 d 893 ls (.int x :: .ref o :: st) h = if (pin x (pln h 0 o) || pin x (pln h 9 o)) = true then pR 3 d 894 ls (.int (pct h o x.toNatClampNeg) :: st) h else none := pR_Lif rfl rfl
theorem rL_law_894 : pR 3 d 894 [.ref o, a1, a2, a3, a4, a5, a6] st h = pR 3 d 895 [.ref o, a1, a2, a3, a4, a5, a6] (.ref o :: st) h := pR_L rfl rfl
theorem rL_law_894n : pR 3 d 894 [.null, a1, a2, a3, a4, a5, a6] st h = pR 3 d 895 [.null, a1, a2, a3, a4, a5, a6] (.null :: st) h := pR_L rfl rfl
theorem rL_law_895 : pR 3 d 895 [a0, a1, a2, a3, .int x, a5, a6] st h = pR 3 d 897 [a0, a1, a2, a3, .int x, a5, a6] (.int x :: st) h := pR_L rfl rfl
theorem rL_law_897 : pR 3 d 897 ls st h = pR 3 d 898 ls (.int 3 :: st) h := pR_L rfl rfl
theorem rL_law_898 : pR 3 d 898 ls (.int y :: .int x :: st) h = pR 3 d 899 ls (.int (x + y) :: st) h := pR_L rfl rfl
theorem rL_law_899 : pR 3 d 899 ls (.int x :: .ref o :: st) h = if (pin x (pln h 0 o) || pin x (pln h 9 o)) = true then pR 3 d 900 ls (.int (pct h o x.toNatClampNeg) :: st) h else none := pR_Lif rfl rfl
theorem rL_law_900 : pR 3 (d + 1) 900 ls (b3 :: b2 :: b1 :: .ref o :: st) h = if (pok 1 (pcl h o) && pw st) = true then pK 3 (d + 1) 900 3 ls st (pCa 33 d [.ref o, b1, b2, b3] h) else none := r_callV rfl rfl rfl
theorem rL_law_903 : pR 3 d 903 [a0, a1, .ref o, a3, a4, a5, a6] st h = pR 3 d 904 [a0, a1, .ref o, a3, a4, a5, a6] (.ref o :: st) h := pR_L rfl rfl
theorem rL_law_903n : pR 3 d 903 [a0, a1, .null, a3, a4, a5, a6] st h = pR 3 d 904 [a0, a1, .null, a3, a4, a5, a6] (.null :: st) h := pR_L rfl rfl
theorem rL_law_904 : pR 3 d 904 [.ref o, a1, a2, a3, a4, a5, a6] st h = pR 3 d 905 [.ref o, a1, a2, a3, a4, a5, a6] (.ref o :: st) h := pR_L rfl rfl
theorem rL_law_904n : pR 3 d 904 [.null, a1, a2, a3, a4, a5, a6] st h = pR 3 d 905 [.null, a1, a2, a3, a4, a5, a6] (.null :: st) h := pR_L rfl rfl
theorem rL_law_905 : pR 3 d 905 [a0, a1, a2, a3, .int x, a5, a6] st h = pR 3 d 907 [a0, a1, a2, a3, .int x, a5, a6] (.int x :: st) h := pR_L rfl rfl
theorem rL_law_907 : pR 3 d 907 ls st h = pR 3 d 908 ls (.int 1 :: st) h := pR_L rfl rfl
theorem rL_law_908 : pR 3 d 908 ls (.int y :: .int x :: st) h = pR 3 d 909 ls (.int (x + y) :: st) h := pR_L rfl rfl
theorem rL_law_909 : pR 3 d 909 ls (.int x :: .ref o :: st) h = if (pin x (pln h 0 o) || pin x (pln h 9 o)) = true then pR 3 d 910 ls (.int (pct h o x.toNatClampNeg) :: st) h else none := pR_Lif rfl rfl
theorem rL_law_910 : pR 3 d 910 [.ref o, a1, a2, a3, a4, a5, a6] st h = pR 3 d 911 [.ref o, a1, a2, a3, a4, a5, a6] (.ref o :: st) h := pR_L rfl rfl
theorem rL_law_910n : pR 3 d 910 [.null, a1, a2, a3, a4, a5, a6] st h = pR 3 d 911 [.null, a1, a2, a3, a4, a5, a6] (.null :: st) h := pR_L rfl rfl
theorem rL_law_911 : pR 3 d 911 [a0, a1, a2, a3, .int x, a5, a6] st h = pR 3 d 913 [a0, a1, a2, a3, .int x, a5, a6] (.int x :: st) h := pR_L rfl rfl
theorem rL_law_913 : pR 3 d 913 ls st h = pR 3 d 914 ls (.int 2 :: st) h := pR_L rfl rfl
theorem rL_law_914 : pR 3 d 914 ls (.int y :: .int x :: st) h = pR 3 d 915 ls (.int (x + y) :: st) h := pR_L rfl rfl
theorem rL_law_915 : pR 3 d 915 ls (.int x :: .ref o :: st) h = if (pin x (pln h 0 o) || pin x (pln h 9 o)) = true then pR 3 d 916 ls (.int (pct h o x.toNatClampNeg) :: st) h else none := pR_Lif rfl rfl
theorem rL_law_916 : pR 3 d 916 [.ref o, a1, a2, a3, a4, a5, a6] st h = pR 3 d 917 [.ref o, a1, a2, a3, a4, a5, a6] (.ref o :: st) h := pR_L rfl rfl
theorem rL_law_916n : pR 3 d 916 [.null, a1, a2, a3, a4, a5, a6] st h = pR 3 d 917 [.null, a1, a2, a3, a4, a5, a6] (.null :: st) h := pR_L rfl rfl
theorem rL_law_917 : pR 3 d 917 [a0, a1, a2, a3, .int x, a5, a6] st h = pR 3 d 919 [a0, a1, a2, a3, .int x, a5, a6] (.int x :: st) h := pR_L rfl rfl
theorem rL_law_919 : pR 3 d 919 ls st h = pR 3 d 920 ls (.int 3 :: st) h := pR_L rfl rfl
theorem rL_law_920 : pR 3 d 920 ls (.int y :: .int x :: st) h = pR 3 d 921 ls (.int (x + y) :: st) h := pR_L rfl rfl
theorem rL_law_921 : pR 3 d 921 ls (.int x :: .ref o :: st) h = if (pin x (pln h 0 o) || pin x (pln h 9 o)) = true then pR 3 d 922 ls (.int (pct h o x.toNatClampNeg) :: st) h else none := pR_Lif rfl rfl
theorem rL_law_922 : pR 3 (d + 1) 922 ls (b3 :: b2 :: b1 :: .ref o :: st) h = if (pok 3 (pcl h o) && pw st) = true then pK 3 (d + 1) 922 3 ls st (pCa 141 d [.ref o, b1, b2, b3] h) else none := r_callV rfl rfl rfl
theorem rL_law_925 : pR 3 d 925 ls (.int y :: .int x :: st) h = if x = y then pR 3 d 1654 ls st h else pR 3 d 928 ls st h := r_ceq rfl rfl
theorem rL_law_928 : pR 3 d 928 ls st h = pR 3 d 929 ls (.int 0 :: st) h := pR_L rfl rfl
theorem rL_law_9290 : pR 3 d 929 ls [.int 0] h = some (.inl (some (.int 0)), h) := pR_E rfl rfl
theorem rL_law_9291 : pR 3 d 929 ls [.int 1] h = some (.inl (some (.int 1)), h) := pR_E rfl rfl
theorem rL_law_930 : pR 3 d 930 [a0, .ref o, a2, a3, a4, a5, a6] st h = pR 3 d 931 [a0, .ref o, a2, a3, a4, a5, a6] (.ref o :: st) h := pR_L rfl rfl
theorem rL_law_930n : pR 3 d 930 [a0, .null, a2, a3, a4, a5, a6] st h = pR 3 d 931 [a0, .null, a2, a3, a4, a5, a6] (.null :: st) h := pR_L rfl rfl
theorem rL_law_931 : pR 3 d 931 [.ref o, a1, a2, a3, a4, a5, a6] st h = pR 3 d 932 [.ref o, a1, a2, a3, a4, a5, a6] (.ref o :: st) h := pR_L rfl rfl
theorem rL_law_931n : pR 3 d 931 [.null, a1, a2, a3, a4, a5, a6] st h = pR 3 d 932 [.null, a1, a2, a3, a4, a5, a6] (.null :: st) h := pR_L rfl rfl
theorem rL_law_932 : pR 3 d 932 [a0, a1, a2, a3, .int x, a5, a6] st h = pR 3 d 934 [a0, a1, a2, a3, .int x, a5, a6] (.int x :: st) h := pR_L rfl rfl
theorem rL_law_934 : pR 3 d 934 ls st h = pR 3 d 935 ls (.int 1 :: st) h := pR_L rfl rfl
theorem rL_law_935 : pR 3 d 935 ls (.int y :: .int x :: st) h = pR 3 d 936 ls (.int (x + y) :: st) h := pR_L rfl rfl
theorem rL_law_936 : pR 3 d 936 ls (.int x :: .ref o :: st) h = if (pin x (pln h 0 o) || pin x (pln h 9 o)) = true then pR 3 d 937 ls (.int (pct h o x.toNatClampNeg) :: st) h else none := pR_Lif rfl rfl
theorem rL_law_937 : pR 3 d 937 [.ref o, a1, a2, a3, a4, a5, a6] st h = pR 3 d 938 [.ref o, a1, a2, a3, a4, a5, a6] (.ref o :: st) h := pR_L rfl rfl
theorem rL_law_937n : pR 3 d 937 [.null, a1, a2, a3, a4, a5, a6] st h = pR 3 d 938 [.null, a1, a2, a3, a4, a5, a6] (.null :: st) h := pR_L rfl rfl
theorem rL_law_938 : pR 3 d 938 [a0, a1, a2, a3, .int x, a5, a6] st h = pR 3 d 940 [a0, a1, a2, a3, .int x, a5, a6] (.int x :: st) h := pR_L rfl rfl
theorem rL_law_940 : pR 3 d 940 ls st h = pR 3 d 941 ls (.int 2 :: st) h := pR_L rfl rfl
theorem rL_law_941 : pR 3 d 941 ls (.int y :: .int x :: st) h = pR 3 d 942 ls (.int (x + y) :: st) h := pR_L rfl rfl
theorem rL_law_942 : pR 3 d 942 ls (.int x :: .ref o :: st) h = if (pin x (pln h 0 o) || pin x (pln h 9 o)) = true then pR 3 d 943 ls (.int (pct h o x.toNatClampNeg) :: st) h else none := pR_Lif rfl rfl
theorem rL_law_943 : pR 3 d 943 [.ref o, a1, a2, a3, a4, a5, a6] st h = pR 3 d 944 [.ref o, a1, a2, a3, a4, a5, a6] (.ref o :: st) h := pR_L rfl rfl
theorem rL_law_943n : pR 3 d 943 [.null, a1, a2, a3, a4, a5, a6] st h = pR 3 d 944 [.null, a1, a2, a3, a4, a5, a6] (.null :: st) h := pR_L rfl rfl
theorem rL_law_944 : pR 3 d 944 [a0, a1, a2, a3, .int x, a5, a6] st h = pR 3 d 946 [a0, a1, a2, a3, .int x, a5, a6] (.int x :: st) h := pR_L rfl rfl
theorem rL_law_946 : pR 3 d 946 ls st h = pR 3 d 947 ls (.int 3 :: st) h := pR_L rfl rfl
theorem rL_law_947 : pR 3 d 947 ls (.int y :: .int x :: st) h = pR 3 d 948 ls (.int (x + y) :: st) h := pR_L rfl rfl
theorem rL_law_948 : pR 3 d 948 ls (.int x :: .ref o :: st) h = if (pin x (pln h 0 o) || pin x (pln h 9 o)) = true then pR 3 d 949 ls (.int (pct h o x.toNatClampNeg) :: st) h else none := pR_Lif rfl rfl
theorem rL_law_949 : pR 3 (d + 1) 949 ls (b3 :: b2 :: b1 :: .ref o :: st) h = if (pok 1 (pcl h o) && pw st) = true then pK 3 (d + 1) 949 3 ls st (pCa 34 d [.ref o, b1, b2, b3] h) else none := r_callV rfl rfl rfl
theorem rL_law_952 : pR 3 d 952 [a0, a1, .ref o, a3, a4, a5, a6] st h = pR 3 d 953 [a0, a1, .ref o, a3, a4, a5, a6] (.ref o :: st) h := pR_L rfl rfl
theorem rL_law_952n : pR 3 d 952 [a0, a1, .null, a3, a4, a5, a6] st h = pR 3 d 953 [a0, a1, .null, a3, a4, a5, a6] (.null :: st) h := pR_L rfl rfl
theorem rL_law_953 : pR 3 d 953 [.ref o, a1, a2, a3, a4, a5, a6] st h = pR 3 d 954 [.ref o, a1, a2, a3, a4, a5, a6] (.ref o :: st) h := pR_L rfl rfl
theorem rL_law_953n : pR 3 d 953 [.null, a1, a2, a3, a4, a5, a6] st h = pR 3 d 954 [.null, a1, a2, a3, a4, a5, a6] (.null :: st) h := pR_L rfl rfl
theorem rL_law_954 : pR 3 d 954 [a0, a1, a2, a3, .int x, a5, a6] st h = pR 3 d 956 [a0, a1, a2, a3, .int x, a5, a6] (.int x :: st) h := pR_L rfl rfl
theorem rL_law_956 : pR 3 d 956 ls st h = pR 3 d 957 ls (.int 1 :: st) h := pR_L rfl rfl
theorem rL_law_957 : pR 3 d 957 ls (.int y :: .int x :: st) h = pR 3 d 958 ls (.int (x + y) :: st) h := pR_L rfl rfl
theorem rL_law_958 : pR 3 d 958 ls (.int x :: .ref o :: st) h = if (pin x (pln h 0 o) || pin x (pln h 9 o)) = true then pR 3 d 959 ls (.int (pct h o x.toNatClampNeg) :: st) h else none := pR_Lif rfl rfl
theorem rL_law_959 : pR 3 d 959 [.ref o, a1, a2, a3, a4, a5, a6] st h = pR 3 d 960 [.ref o, a1, a2, a3, a4, a5, a6] (.ref o :: st) h := pR_L rfl rfl
theorem rL_law_959n : pR 3 d 959 [.null, a1, a2, a3, a4, a5, a6] st h = pR 3 d 960 [.null, a1, a2, a3, a4, a5, a6] (.null :: st) h := pR_L rfl rfl
theorem rL_law_960 : pR 3 d 960 [a0, a1, a2, a3, .int x, a5, a6] st h = pR 3 d 962 [a0, a1, a2, a3, .int x, a5, a6] (.int x :: st) h := pR_L rfl rfl
theorem rL_law_962 : pR 3 d 962 ls st h = pR 3 d 963 ls (.int 2 :: st) h := pR_L rfl rfl
theorem rL_law_963 : pR 3 d 963 ls (.int y :: .int x :: st) h = pR 3 d 964 ls (.int (x + y) :: st) h := pR_L rfl rfl
theorem rL_law_964 : pR 3 d 964 ls (.int x :: .ref o :: st) h = if (pin x (pln h 0 o) || pin x (pln h 9 o)) = true then pR 3 d 965 ls (.int (pct h o x.toNatClampNeg) :: st) h else none := pR_Lif rfl rfl
theorem rL_law_965 : pR 3 d 965 [.ref o, a1, a2, a3, a4, a5, a6] st h = pR 3 d 966 [.ref o, a1, a2, a3, a4, a5, a6] (.ref o :: st) h := pR_L rfl rfl
theorem rL_law_965n : pR 3 d 965 [.null, a1, a2, a3, a4, a5, a6] st h = pR 3 d 966 [.null, a1, a2, a3, a4, a5, a6] (.null :: st) h := pR_L rfl rfl
theorem rL_law_966 : pR 3 d 966 [a0, a1, a2, a3, .int x, a5, a6] st h = pR 3 d 968 [a0, a1, a2, a3, .int x, a5, a6] (.int x :: st) h := pR_L rfl rfl
theorem rL_law_968 : pR 3 d 968 ls st h = pR 3 d 969 ls (.int 3 :: st) h := pR_L rfl rfl
theorem rL_law_969 : pR 3 d 969 ls (.int y :: .int x :: st) h = pR 3 d 970 ls (.int (x + y) :: st) h := pR_L rfl rfl
theorem rL_law_970 : pR 3 d 970 ls (.int x :: .ref o :: st) h = if (pin x (pln h 0 o) || pin x (pln h 9 o)) = true then pR 3 d 971 ls (.int (pct h o x.toNatClampNeg) :: st) h else none := pR_Lif rfl rfl
theorem rL_law_971 : pR 3 (d + 1) 971 ls (b3 :: b2 :: b1 :: .ref o :: st) h = if (pok 3 (pcl h o) && pw st) = true then pK 3 (d + 1) 971 3 ls st (pCa 142 d [.ref o, b1, b2, b3] h) else none := r_callV rfl rfl rfl
theorem rL_law_974 : pR 3 d 974 ls (.int y :: .int x :: st) h = if x = y then pR 3 d 1654 ls st h else pR 3 d 977 ls st h := r_ceq rfl rfl
theorem rL_law_977 : pR 3 d 977 ls st h = pR 3 d 978 ls (.int 0 :: st) h := pR_L rfl rfl
theorem rL_law_9780 : pR 3 d 978 ls [.int 0] h = some (.inl (some (.int 0)), h) := pR_E rfl rfl
theorem rL_law_9781 : pR 3 d 978 ls [.int 1] h = some (.inl (some (.int 1)), h) := pR_E rfl rfl
theorem rL_law_979 : pR 3 d 979 [a0, .ref o, a2, a3, a4, a5, a6] st h = pR 3 d 980 [a0, .ref o, a2, a3, a4, a5, a6] (.ref o :: st) h := pR_L rfl rfl
theorem rL_law_979n : pR 3 d 979 [a0, .null, a2, a3, a4, a5, a6] st h = pR 3 d 980 [a0, .null, a2, a3, a4, a5, a6] (.null :: st) h := pR_L rfl rfl
theorem rL_law_980 : pR 3 d 980 [.ref o, a1, a2, a3, a4, a5, a6] st h = pR 3 d 981 [.ref o, a1, a2, a3, a4, a5, a6] (.ref o :: st) h := pR_L rfl rfl
theorem rL_law_980n : pR 3 d 980 [.null, a1, a2, a3, a4, a5, a6] st h = pR 3 d 981 [.null, a1, a2, a3, a4, a5, a6] (.null :: st) h := pR_L rfl rfl
theorem rL_law_981 : pR 3 d 981 [a0, a1, a2, a3, .int x, a5, a6] st h = pR 3 d 983 [a0, a1, a2, a3, .int x, a5, a6] (.int x :: st) h := pR_L rfl rfl
theorem rL_law_983 : pR 3 d 983 ls st h = pR 3 d 984 ls (.int 1 :: st) h := pR_L rfl rfl
theorem rL_law_984 : pR 3 d 984 ls (.int y :: .int x :: st) h = pR 3 d 985 ls (.int (x + y) :: st) h := pR_L rfl rfl
theorem rL_law_985 : pR 3 d 985 ls (.int x :: .ref o :: st) h = if (pin x (pln h 0 o) || pin x (pln h 9 o)) = true then pR 3 d 986 ls (.int (pct h o x.toNatClampNeg) :: st) h else none := pR_Lif rfl rfl
theorem rL_law_986 : pR 3 (d + 1) 986 ls (b1 :: .ref o :: st) h = if (pok 1 (pcl h o) && pw st) = true then pK 3 (d + 1) 986 3 ls st (pCa 36 d [.ref o, b1] h) else none := r_callV rfl rfl rfl
theorem rL_law_989 : pR 3 d 989 [a0, a1, .ref o, a3, a4, a5, a6] st h = pR 3 d 990 [a0, a1, .ref o, a3, a4, a5, a6] (.ref o :: st) h := pR_L rfl rfl
theorem rL_law_989n : pR 3 d 989 [a0, a1, .null, a3, a4, a5, a6] st h = pR 3 d 990 [a0, a1, .null, a3, a4, a5, a6] (.null :: st) h := pR_L rfl rfl
theorem rL_law_990 : pR 3 d 990 [.ref o, a1, a2, a3, a4, a5, a6] st h = pR 3 d 991 [.ref o, a1, a2, a3, a4, a5, a6] (.ref o :: st) h := pR_L rfl rfl
theorem rL_law_990n : pR 3 d 990 [.null, a1, a2, a3, a4, a5, a6] st h = pR 3 d 991 [.null, a1, a2, a3, a4, a5, a6] (.null :: st) h := pR_L rfl rfl
theorem rL_law_991 : pR 3 d 991 [a0, a1, a2, a3, .int x, a5, a6] st h = pR 3 d 993 [a0, a1, a2, a3, .int x, a5, a6] (.int x :: st) h := pR_L rfl rfl
theorem rL_law_993 : pR 3 d 993 ls st h = pR 3 d 994 ls (.int 1 :: st) h := pR_L rfl rfl
theorem rL_law_994 : pR 3 d 994 ls (.int y :: .int x :: st) h = pR 3 d 995 ls (.int (x + y) :: st) h := pR_L rfl rfl
theorem rL_law_995 : pR 3 d 995 ls (.int x :: .ref o :: st) h = if (pin x (pln h 0 o) || pin x (pln h 9 o)) = true then pR 3 d 996 ls (.int (pct h o x.toNatClampNeg) :: st) h else none := pR_Lif rfl rfl
theorem rL_law_996 : pR 3 (d + 1) 996 ls (b1 :: .ref o :: st) h = if (pok 3 (pcl h o) && pw st) = true then pK 3 (d + 1) 996 3 ls st (pCa 144 d [.ref o, b1] h) else none := r_callV rfl rfl rfl
theorem rL_law_999 : pR 3 d 999 ls (.int y :: .int x :: st) h = if x = y then pR 3 d 1654 ls st h else pR 3 d 1002 ls st h := r_ceq rfl rfl
theorem rL_law_1002 : pR 3 d 1002 ls st h = pR 3 d 1003 ls (.int 0 :: st) h := pR_L rfl rfl
theorem rL_law_10030 : pR 3 d 1003 ls [.int 0] h = some (.inl (some (.int 0)), h) := pR_E rfl rfl
theorem rL_law_10031 : pR 3 d 1003 ls [.int 1] h = some (.inl (some (.int 1)), h) := pR_E rfl rfl
theorem rL_law_1004 : pR 3 d 1004 [a0, .ref o, a2, a3, a4, a5, a6] st h = pR 3 d 1005 [a0, .ref o, a2, a3, a4, a5, a6] (.ref o :: st) h := pR_L rfl rfl
theorem rL_law_1004n : pR 3 d 1004 [a0, .null, a2, a3, a4, a5, a6] st h = pR 3 d 1005 [a0, .null, a2, a3, a4, a5, a6] (.null :: st) h := pR_L rfl rfl
theorem rL_law_1005 : pR 3 d 1005 [.ref o, a1, a2, a3, a4, a5, a6] st h = pR 3 d 1006 [.ref o, a1, a2, a3, a4, a5, a6] (.ref o :: st) h := pR_L rfl rfl
theorem rL_law_1005n : pR 3 d 1005 [.null, a1, a2, a3, a4, a5, a6] st h = pR 3 d 1006 [.null, a1, a2, a3, a4, a5, a6] (.null :: st) h := pR_L rfl rfl
theorem rL_law_1006 : pR 3 d 1006 [a0, a1, a2, a3, .int x, a5, a6] st h = pR 3 d 1008 [a0, a1, a2, a3, .int x, a5, a6] (.int x :: st) h := pR_L rfl rfl
theorem rL_law_1008 : pR 3 d 1008 ls st h = pR 3 d 1009 ls (.int 1 :: st) h := pR_L rfl rfl
theorem rL_law_1009 : pR 3 d 1009 ls (.int y :: .int x :: st) h = pR 3 d 1010 ls (.int (x + y) :: st) h := pR_L rfl rfl
theorem rL_law_1010 : pR 3 d 1010 ls (.int x :: .ref o :: st) h = if (pin x (pln h 0 o) || pin x (pln h 9 o)) = true then pR 3 d 1011 ls (.int (pct h o x.toNatClampNeg) :: st) h else none := pR_Lif rfl rfl
theorem rL_law_1011 : pR 3 (d + 1) 1011 ls (b1 :: .ref o :: st) h = if (pok 1 (pcl h o) && pw st) = true then pK 3 (d + 1) 1011 3 ls st (pCa 37 d [.ref o, b1] h) else none := r_callV rfl rfl rfl
theorem rL_law_1014 : pR 3 d 1014 [a0, a1, .ref o, a3, a4, a5, a6] st h = pR 3 d 1015 [a0, a1, .ref o, a3, a4, a5, a6] (.ref o :: st) h := pR_L rfl rfl
theorem rL_law_1014n : pR 3 d 1014 [a0, a1, .null, a3, a4, a5, a6] st h = pR 3 d 1015 [a0, a1, .null, a3, a4, a5, a6] (.null :: st) h := pR_L rfl rfl
theorem rL_law_1015 : pR 3 d 1015 [.ref o, a1, a2, a3, a4, a5, a6] st h = pR 3 d 1016 [.ref o, a1, a2, a3, a4, a5, a6] (.ref o :: st) h := pR_L rfl rfl
theorem rL_law_1015n : pR 3 d 1015 [.null, a1, a2, a3, a4, a5, a6] st h = pR 3 d 1016 [.null, a1, a2, a3, a4, a5, a6] (.null :: st) h := pR_L rfl rfl
theorem rL_law_1016 : pR 3 d 1016 [a0, a1, a2, a3, .int x, a5, a6] st h = pR 3 d 1018 [a0, a1, a2, a3, .int x, a5, a6] (.int x :: st) h := pR_L rfl rfl
theorem rL_law_1018 : pR 3 d 1018 ls st h = pR 3 d 1019 ls (.int 1 :: st) h := pR_L rfl rfl
theorem rL_law_1019 : pR 3 d 1019 ls (.int y :: .int x :: st) h = pR 3 d 1020 ls (.int (x + y) :: st) h := pR_L rfl rfl
theorem rL_law_1020 : pR 3 d 1020 ls (.int x :: .ref o :: st) h = if (pin x (pln h 0 o) || pin x (pln h 9 o)) = true then pR 3 d 1021 ls (.int (pct h o x.toNatClampNeg) :: st) h else none := pR_Lif rfl rfl
theorem rL_law_1021 : pR 3 (d + 1) 1021 ls (b1 :: .ref o :: st) h = if (pok 3 (pcl h o) && pw st) = true then pK 3 (d + 1) 1021 3 ls st (pCa 145 d [.ref o, b1] h) else none := r_callV rfl rfl rfl
theorem rL_law_1024 : pR 3 d 1024 ls (.int y :: .int x :: st) h = if x = y then pR 3 d 1654 ls st h else pR 3 d 1027 ls st h := r_ceq rfl rfl
theorem rL_law_1027 : pR 3 d 1027 ls st h = pR 3 d 1028 ls (.int 0 :: st) h := pR_L rfl rfl
theorem rL_law_10280 : pR 3 d 1028 ls [.int 0] h = some (.inl (some (.int 0)), h) := pR_E rfl rfl
theorem rL_law_10281 : pR 3 d 1028 ls [.int 1] h = some (.inl (some (.int 1)), h) := pR_E rfl rfl
theorem rL_law_1029 : pR 3 d 1029 [a0, .ref o, a2, a3, a4, a5, a6] st h = pR 3 d 1030 [a0, .ref o, a2, a3, a4, a5, a6] (.ref o :: st) h := pR_L rfl rfl
theorem rL_law_1029n : pR 3 d 1029 [a0, .null, a2, a3, a4, a5, a6] st h = pR 3 d 1030 [a0, .null, a2, a3, a4, a5, a6] (.null :: st) h := pR_L rfl rfl
theorem rL_law_1030 : pR 3 d 1030 [.ref o, a1, a2, a3, a4, a5, a6] st h = pR 3 d 1031 [.ref o, a1, a2, a3, a4, a5, a6] (.ref o :: st) h := pR_L rfl rfl
theorem rL_law_1030n : pR 3 d 1030 [.null, a1, a2, a3, a4, a5, a6] st h = pR 3 d 1031 [.null, a1, a2, a3, a4, a5, a6] (.null :: st) h := pR_L rfl rfl
theorem rL_law_1031 : pR 3 d 1031 [a0, a1, a2, a3, .int x, a5, a6] st h = pR 3 d 1033 [a0, a1, a2, a3, .int x, a5, a6] (.int x :: st) h := pR_L rfl rfl
theorem rL_law_1033 : pR 3 d 1033 ls st h = pR 3 d 1034 ls (.int 1 :: st) h := pR_L rfl rfl
theorem rL_law_1034 : pR 3 d 1034 ls (.int y :: .int x :: st) h = pR 3 d 1035 ls (.int (x + y) :: st) h := pR_L rfl rfl
theorem rL_law_1035 : pR 3 d 1035 ls (.int x :: .ref o :: st) h = if (pin x (pln h 0 o) || pin x (pln h 9 o)) = true then pR 3 d 1036 ls (.int (pct h o x.toNatClampNeg) :: st) h else none := pR_Lif rfl rfl
theorem rL_law_1036 : pR 3 d 1036 [.ref o, a1, a2, a3, a4, a5, a6] st h = pR 3 d 1037 [.ref o, a1, a2, a3, a4, a5, a6] (.ref o :: st) h := pR_L rfl rfl
theorem rL_law_1036n : pR 3 d 1036 [.null, a1, a2, a3, a4, a5, a6] st h = pR 3 d 1037 [.null, a1, a2, a3, a4, a5, a6] (.null :: st) h := pR_L rfl rfl
theorem rL_law_1037 : pR 3 d 1037 [a0, a1, a2, a3, .int x, a5, a6] st h = pR 3 d 1039 [a0, a1, a2, a3, .int x, a5, a6] (.int x :: st) h := pR_L rfl rfl
theorem rL_law_1039 : pR 3 d 1039 ls st h = pR 3 d 1040 ls (.int 2 :: st) h := pR_L rfl rfl
theorem rL_law_1040 : pR 3 d 1040 ls (.int y :: .int x :: st) h = pR 3 d 1041 ls (.int (x + y) :: st) h := pR_L rfl rfl
theorem rL_law_1041 : pR 3 d 1041 ls (.int x :: .ref o :: st) h = if (pin x (pln h 0 o) || pin x (pln h 9 o)) = true then pR 3 d 1042 ls (.int (pct h o x.toNatClampNeg) :: st) h else none := pR_Lif rfl rfl
theorem rL_law_1042 : pR 3 (d + 1) 1042 ls (b2 :: b1 :: .ref o :: st) h = if (pok 1 (pcl h o) && pw st) = true then pK 3 (d + 1) 1042 3 ls st (pCa 38 d [.ref o, b1, b2] h) else none := r_callV rfl rfl rfl
theorem rL_law_1045 : pR 3 d 1045 [a0, a1, .ref o, a3, a4, a5, a6] st h = pR 3 d 1046 [a0, a1, .ref o, a3, a4, a5, a6] (.ref o :: st) h := pR_L rfl rfl
theorem rL_law_1045n : pR 3 d 1045 [a0, a1, .null, a3, a4, a5, a6] st h = pR 3 d 1046 [a0, a1, .null, a3, a4, a5, a6] (.null :: st) h := pR_L rfl rfl
theorem rL_law_1046 : pR 3 d 1046 [.ref o, a1, a2, a3, a4, a5, a6] st h = pR 3 d 1047 [.ref o, a1, a2, a3, a4, a5, a6] (.ref o :: st) h := pR_L rfl rfl
theorem rL_law_1046n : pR 3 d 1046 [.null, a1, a2, a3, a4, a5, a6] st h = pR 3 d 1047 [.null, a1, a2, a3, a4, a5, a6] (.null :: st) h := pR_L rfl rfl
theorem rL_law_1047 : pR 3 d 1047 [a0, a1, a2, a3, .int x, a5, a6] st h = pR 3 d 1049 [a0, a1, a2, a3, .int x, a5, a6] (.int x :: st) h := pR_L rfl rfl
theorem rL_law_1049 : pR 3 d 1049 ls st h = pR 3 d 1050 ls (.int 1 :: st) h := pR_L rfl rfl
theorem rL_law_1050 : pR 3 d 1050 ls (.int y :: .int x :: st) h = pR 3 d 1051 ls (.int (x + y) :: st) h := pR_L rfl rfl
theorem rL_law_1051 : pR 3 d 1051 ls (.int x :: .ref o :: st) h = if (pin x (pln h 0 o) || pin x (pln h 9 o)) = true then pR 3 d 1052 ls (.int (pct h o x.toNatClampNeg) :: st) h else none := pR_Lif rfl rfl
theorem rL_law_1052 : pR 3 d 1052 [.ref o, a1, a2, a3, a4, a5, a6] st h = pR 3 d 1053 [.ref o, a1, a2, a3, a4, a5, a6] (.ref o :: st) h := pR_L rfl rfl
theorem rL_law_1052n : pR 3 d 1052 [.null, a1, a2, a3, a4, a5, a6] st h = pR 3 d 1053 [.null, a1, a2, a3, a4, a5, a6] (.null :: st) h := pR_L rfl rfl
theorem rL_law_1053 : pR 3 d 1053 [a0, a1, a2, a3, .int x, a5, a6] st h = pR 3 d 1055 [a0, a1, a2, a3, .int x, a5, a6] (.int x :: st) h := pR_L rfl rfl
theorem rL_law_1055 : pR 3 d 1055 ls st h = pR 3 d 1056 ls (.int 2 :: st) h := pR_L rfl rfl
theorem rL_law_1056 : pR 3 d 1056 ls (.int y :: .int x :: st) h = pR 3 d 1057 ls (.int (x + y) :: st) h := pR_L rfl rfl
theorem rL_law_1057 : pR 3 d 1057 ls (.int x :: .ref o :: st) h = if (pin x (pln h 0 o) || pin x (pln h 9 o)) = true then pR 3 d 1058 ls (.int (pct h o x.toNatClampNeg) :: st) h else none := pR_Lif rfl rfl
theorem rL_law_1058 : pR 3 (d + 1) 1058 ls (b2 :: b1 :: .ref o :: st) h = if (pok 3 (pcl h o) && pw st) = true then pK 3 (d + 1) 1058 3 ls st (pCa 147 d [.ref o, b1, b2] h) else none := r_callV rfl rfl rfl
theorem rL_law_1061 : pR 3 d 1061 ls (.int y :: .int x :: st) h = if x = y then pR 3 d 1654 ls st h else pR 3 d 1064 ls st h := r_ceq rfl rfl
theorem rL_law_1064 : pR 3 d 1064 ls st h = pR 3 d 1065 ls (.int 0 :: st) h := pR_L rfl rfl
theorem rL_law_10650 : pR 3 d 1065 ls [.int 0] h = some (.inl (some (.int 0)), h) := pR_E rfl rfl
theorem rL_law_10651 : pR 3 d 1065 ls [.int 1] h = some (.inl (some (.int 1)), h) := pR_E rfl rfl
theorem rL_law_1066 : pR 3 d 1066 [a0, .ref o, a2, a3, a4, a5, a6] st h = pR 3 d 1067 [a0, .ref o, a2, a3, a4, a5, a6] (.ref o :: st) h := pR_L rfl rfl
theorem rL_law_1066n : pR 3 d 1066 [a0, .null, a2, a3, a4, a5, a6] st h = pR 3 d 1067 [a0, .null, a2, a3, a4, a5, a6] (.null :: st) h := pR_L rfl rfl
theorem rL_law_1067 : pR 3 d 1067 [.ref o, a1, a2, a3, a4, a5, a6] st h = pR 3 d 1068 [.ref o, a1, a2, a3, a4, a5, a6] (.ref o :: st) h := pR_L rfl rfl
theorem rL_law_1067n : pR 3 d 1067 [.null, a1, a2, a3, a4, a5, a6] st h = pR 3 d 1068 [.null, a1, a2, a3, a4, a5, a6] (.null :: st) h := pR_L rfl rfl
theorem rL_law_1068 : pR 3 d 1068 [a0, a1, a2, a3, .int x, a5, a6] st h = pR 3 d 1070 [a0, a1, a2, a3, .int x, a5, a6] (.int x :: st) h := pR_L rfl rfl
theorem rL_law_1070 : pR 3 d 1070 ls st h = pR 3 d 1071 ls (.int 1 :: st) h := pR_L rfl rfl
theorem rL_law_1071 : pR 3 d 1071 ls (.int y :: .int x :: st) h = pR 3 d 1072 ls (.int (x + y) :: st) h := pR_L rfl rfl
theorem rL_law_1072 : pR 3 d 1072 ls (.int x :: .ref o :: st) h = if (pin x (pln h 0 o) || pin x (pln h 9 o)) = true then pR 3 d 1073 ls (.int (pct h o x.toNatClampNeg) :: st) h else none := pR_Lif rfl rfl
theorem rL_law_1073 : pR 3 d 1073 [.ref o, a1, a2, a3, a4, a5, a6] st h = pR 3 d 1074 [.ref o, a1, a2, a3, a4, a5, a6] (.ref o :: st) h := pR_L rfl rfl
theorem rL_law_1073n : pR 3 d 1073 [.null, a1, a2, a3, a4, a5, a6] st h = pR 3 d 1074 [.null, a1, a2, a3, a4, a5, a6] (.null :: st) h := pR_L rfl rfl
theorem rL_law_1074 : pR 3 d 1074 [a0, a1, a2, a3, .int x, a5, a6] st h = pR 3 d 1076 [a0, a1, a2, a3, .int x, a5, a6] (.int x :: st) h := pR_L rfl rfl
theorem rL_law_1076 : pR 3 d 1076 ls st h = pR 3 d 1077 ls (.int 2 :: st) h := pR_L rfl rfl
theorem rL_law_1077 : pR 3 d 1077 ls (.int y :: .int x :: st) h = pR 3 d 1078 ls (.int (x + y) :: st) h := pR_L rfl rfl
theorem rL_law_1078 : pR 3 d 1078 ls (.int x :: .ref o :: st) h = if (pin x (pln h 0 o) || pin x (pln h 9 o)) = true then pR 3 d 1079 ls (.int (pct h o x.toNatClampNeg) :: st) h else none := pR_Lif rfl rfl
theorem rL_law_1079 : pR 3 d 1079 [.ref o, a1, a2, a3, a4, a5, a6] st h = pR 3 d 1080 [.ref o, a1, a2, a3, a4, a5, a6] (.ref o :: st) h := pR_L rfl rfl
theorem rL_law_1079n : pR 3 d 1079 [.null, a1, a2, a3, a4, a5, a6] st h = pR 3 d 1080 [.null, a1, a2, a3, a4, a5, a6] (.null :: st) h := pR_L rfl rfl
theorem rL_law_1080 : pR 3 d 1080 [a0, a1, a2, a3, .int x, a5, a6] st h = pR 3 d 1082 [a0, a1, a2, a3, .int x, a5, a6] (.int x :: st) h := pR_L rfl rfl
theorem rL_law_1082 : pR 3 d 1082 ls st h = pR 3 d 1083 ls (.int 3 :: st) h := pR_L rfl rfl
theorem rL_law_1083 : pR 3 d 1083 ls (.int y :: .int x :: st) h = pR 3 d 1084 ls (.int (x + y) :: st) h := pR_L rfl rfl
theorem rL_law_1084 : pR 3 d 1084 ls (.int x :: .ref o :: st) h = if (pin x (pln h 0 o) || pin x (pln h 9 o)) = true then pR 3 d 1085 ls (.int (pct h o x.toNatClampNeg) :: st) h else none := pR_Lif rfl rfl
theorem rL_law_1085 : pR 3 (d + 1) 1085 ls (b3 :: b2 :: b1 :: .ref o :: st) h = if (pok 1 (pcl h o) && pw st) = true then pK 3 (d + 1) 1085 3 ls st (pCa 42 d [.ref o, b1, b2, b3] h) else none := r_callV rfl rfl rfl
theorem rL_law_1088 : pR 3 d 1088 [a0, a1, .ref o, a3, a4, a5, a6] st h = pR 3 d 1089 [a0, a1, .ref o, a3, a4, a5, a6] (.ref o :: st) h := pR_L rfl rfl
theorem rL_law_1088n : pR 3 d 1088 [a0, a1, .null, a3, a4, a5, a6] st h = pR 3 d 1089 [a0, a1, .null, a3, a4, a5, a6] (.null :: st) h := pR_L rfl rfl
theorem rL_law_1089 : pR 3 d 1089 [.ref o, a1, a2, a3, a4, a5, a6] st h = pR 3 d 1090 [.ref o, a1, a2, a3, a4, a5, a6] (.ref o :: st) h := pR_L rfl rfl
theorem rL_law_1089n : pR 3 d 1089 [.null, a1, a2, a3, a4, a5, a6] st h = pR 3 d 1090 [.null, a1, a2, a3, a4, a5, a6] (.null :: st) h := pR_L rfl rfl
theorem rL_law_1090 : pR 3 d 1090 [a0, a1, a2, a3, .int x, a5, a6] st h = pR 3 d 1092 [a0, a1, a2, a3, .int x, a5, a6] (.int x :: st) h := pR_L rfl rfl
theorem rL_law_1092 : pR 3 d 1092 ls st h = pR 3 d 1093 ls (.int 1 :: st) h := pR_L rfl rfl
theorem rL_law_1093 : pR 3 d 1093 ls (.int y :: .int x :: st) h = pR 3 d 1094 ls (.int (x + y) :: st) h := pR_L rfl rfl
theorem rL_law_1094 : pR 3 d 1094 ls (.int x :: .ref o :: st) h = if (pin x (pln h 0 o) || pin x (pln h 9 o)) = true then pR 3 d 1095 ls (.int (pct h o x.toNatClampNeg) :: st) h else none := pR_Lif rfl rfl
theorem rL_law_1095 : pR 3 d 1095 [.ref o, a1, a2, a3, a4, a5, a6] st h = pR 3 d 1096 [.ref o, a1, a2, a3, a4, a5, a6] (.ref o :: st) h := pR_L rfl rfl
theorem rL_law_1095n : pR 3 d 1095 [.null, a1, a2, a3, a4, a5, a6] st h = pR 3 d 1096 [.null, a1, a2, a3, a4, a5, a6] (.null :: st) h := pR_L rfl rfl
theorem rL_law_1096 : pR 3 d 1096 [a0, a1, a2, a3, .int x, a5, a6] st h = pR 3 d 1098 [a0, a1, a2, a3, .int x, a5, a6] (.int x :: st) h := pR_L rfl rfl
theorem rL_law_1098 : pR 3 d 1098 ls st h = pR 3 d 1099 ls (.int 2 :: st) h := pR_L rfl rfl
theorem rL_law_1099 : pR 3 d 1099 ls (.int y :: .int x :: st) h = pR 3 d 1100 ls (.int (x + y) :: st) h := pR_L rfl rfl
theorem rL_law_1100 : pR 3 d 1100 ls (.int x :: .ref o :: st) h = if (pin x (pln h 0 o) || pin x (pln h 9 o)) = true then pR 3 d 1101 ls (.int (pct h o x.toNatClampNeg) :: st) h else none := pR_Lif rfl rfl
theorem rL_law_1101 : pR 3 d 1101 [.ref o, a1, a2, a3, a4, a5, a6] st h = pR 3 d 1102 [.ref o, a1, a2, a3, a4, a5, a6] (.ref o :: st) h := pR_L rfl rfl
theorem rL_law_1101n : pR 3 d 1101 [.null, a1, a2, a3, a4, a5, a6] st h = pR 3 d 1102 [.null, a1, a2, a3, a4, a5, a6] (.null :: st) h := pR_L rfl rfl
theorem rL_law_1102 : pR 3 d 1102 [a0, a1, a2, a3, .int x, a5, a6] st h = pR 3 d 1104 [a0, a1, a2, a3, .int x, a5, a6] (.int x :: st) h := pR_L rfl rfl
theorem rL_law_1104 : pR 3 d 1104 ls st h = pR 3 d 1105 ls (.int 3 :: st) h := pR_L rfl rfl
theorem rL_law_1105 : pR 3 d 1105 ls (.int y :: .int x :: st) h = pR 3 d 1106 ls (.int (x + y) :: st) h := pR_L rfl rfl
theorem rL_law_1106 : pR 3 d 1106 ls (.int x :: .ref o :: st) h = if (pin x (pln h 0 o) || pin x (pln h 9 o)) = true then pR 3 d 1107 ls (.int (pct h o x.toNatClampNeg) :: st) h else none := pR_Lif rfl rfl
theorem rL_law_1107 : pR 3 (d + 1) 1107 ls (b3 :: b2 :: b1 :: .ref o :: st) h = if (pok 3 (pcl h o) && pw st) = true then pK 3 (d + 1) 1107 3 ls st (pCa 152 d [.ref o, b1, b2, b3] h) else none := r_callV rfl rfl rfl
theorem rL_law_1110 : pR 3 d 1110 ls (.int y :: .int x :: st) h = if x = y then pR 3 d 1654 ls st h else pR 3 d 1113 ls st h := r_ceq rfl rfl
theorem rL_law_1113 : pR 3 d 1113 ls st h = pR 3 d 1114 ls (.int 0 :: st) h := pR_L rfl rfl
theorem rL_law_11140 : pR 3 d 1114 ls [.int 0] h = some (.inl (some (.int 0)), h) := pR_E rfl rfl
theorem rL_law_11141 : pR 3 d 1114 ls [.int 1] h = some (.inl (some (.int 1)), h) := pR_E rfl rfl
theorem rL_law_1115 : pR 3 d 1115 [a0, .ref o, a2, a3, a4, a5, a6] st h = pR 3 d 1116 [a0, .ref o, a2, a3, a4, a5, a6] (.ref o :: st) h := pR_L rfl rfl
theorem rL_law_1115n : pR 3 d 1115 [a0, .null, a2, a3, a4, a5, a6] st h = pR 3 d 1116 [a0, .null, a2, a3, a4, a5, a6] (.null :: st) h := pR_L rfl rfl
theorem rL_law_1116 : pR 3 d 1116 [.ref o, a1, a2, a3, a4, a5, a6] st h = pR 3 d 1117 [.ref o, a1, a2, a3, a4, a5, a6] (.ref o :: st) h := pR_L rfl rfl
theorem rL_law_1116n : pR 3 d 1116 [.null, a1, a2, a3, a4, a5, a6] st h = pR 3 d 1117 [.null, a1, a2, a3, a4, a5, a6] (.null :: st) h := pR_L rfl rfl
theorem rL_law_1117 : pR 3 d 1117 [a0, a1, a2, a3, .int x, a5, a6] st h = pR 3 d 1119 [a0, a1, a2, a3, .int x, a5, a6] (.int x :: st) h := pR_L rfl rfl
theorem rL_law_1119 : pR 3 d 1119 ls st h = pR 3 d 1120 ls (.int 1 :: st) h := pR_L rfl rfl
theorem rL_law_1120 : pR 3 d 1120 ls (.int y :: .int x :: st) h = pR 3 d 1121 ls (.int (x + y) :: st) h := pR_L rfl rfl
theorem rL_law_1121 : pR 3 d 1121 ls (.int x :: .ref o :: st) h = if (pin x (pln h 0 o) || pin x (pln h 9 o)) = true then pR 3 d 1122 ls (.int (pct h o x.toNatClampNeg) :: st) h else none := pR_Lif rfl rfl
theorem rL_law_1122 : pR 3 (d + 1) 1122 ls (b1 :: .ref o :: st) h = if (pok 1 (pcl h o) && pw st) = true then pK 3 (d + 1) 1122 3 ls st (pCa 44 d [.ref o, b1] h) else none := r_callV rfl rfl rfl
theorem rL_law_1125 : pR 3 d 1125 [a0, a1, .ref o, a3, a4, a5, a6] st h = pR 3 d 1126 [a0, a1, .ref o, a3, a4, a5, a6] (.ref o :: st) h := pR_L rfl rfl
theorem rL_law_1125n : pR 3 d 1125 [a0, a1, .null, a3, a4, a5, a6] st h = pR 3 d 1126 [a0, a1, .null, a3, a4, a5, a6] (.null :: st) h := pR_L rfl rfl
theorem rL_law_1126 : pR 3 d 1126 [.ref o, a1, a2, a3, a4, a5, a6] st h = pR 3 d 1127 [.ref o, a1, a2, a3, a4, a5, a6] (.ref o :: st) h := pR_L rfl rfl
theorem rL_law_1126n : pR 3 d 1126 [.null, a1, a2, a3, a4, a5, a6] st h = pR 3 d 1127 [.null, a1, a2, a3, a4, a5, a6] (.null :: st) h := pR_L rfl rfl
theorem rL_law_1127 : pR 3 d 1127 [a0, a1, a2, a3, .int x, a5, a6] st h = pR 3 d 1129 [a0, a1, a2, a3, .int x, a5, a6] (.int x :: st) h := pR_L rfl rfl
theorem rL_law_1129 : pR 3 d 1129 ls st h = pR 3 d 1130 ls (.int 1 :: st) h := pR_L rfl rfl
theorem rL_law_1130 : pR 3 d 1130 ls (.int y :: .int x :: st) h = pR 3 d 1131 ls (.int (x + y) :: st) h := pR_L rfl rfl
theorem rL_law_1131 : pR 3 d 1131 ls (.int x :: .ref o :: st) h = if (pin x (pln h 0 o) || pin x (pln h 9 o)) = true then pR 3 d 1132 ls (.int (pct h o x.toNatClampNeg) :: st) h else none := pR_Lif rfl rfl
theorem rL_law_1132 : pR 3 (d + 1) 1132 ls (b1 :: .ref o :: st) h = if (pok 3 (pcl h o) && pw st) = true then pK 3 (d + 1) 1132 3 ls st (pCa 153 d [.ref o, b1] h) else none := r_callV rfl rfl rfl
theorem rL_law_1135 : pR 3 d 1135 ls (.int y :: .int x :: st) h = if x = y then pR 3 d 1654 ls st h else pR 3 d 1138 ls st h := r_ceq rfl rfl
theorem rL_law_1138 : pR 3 d 1138 ls st h = pR 3 d 1139 ls (.int 0 :: st) h := pR_L rfl rfl
theorem rL_law_11390 : pR 3 d 1139 ls [.int 0] h = some (.inl (some (.int 0)), h) := pR_E rfl rfl
theorem rL_law_11391 : pR 3 d 1139 ls [.int 1] h = some (.inl (some (.int 1)), h) := pR_E rfl rfl
theorem rL_law_1140 : pR 3 d 1140 [a0, .ref o, a2, a3, a4, a5, a6] st h = pR 3 d 1141 [a0, .ref o, a2, a3, a4, a5, a6] (.ref o :: st) h := pR_L rfl rfl
theorem rL_law_1140n : pR 3 d 1140 [a0, .null, a2, a3, a4, a5, a6] st h = pR 3 d 1141 [a0, .null, a2, a3, a4, a5, a6] (.null :: st) h := pR_L rfl rfl
theorem rL_law_1141 : pR 3 d 1141 [.ref o, a1, a2, a3, a4, a5, a6] st h = pR 3 d 1142 [.ref o, a1, a2, a3, a4, a5, a6] (.ref o :: st) h := pR_L rfl rfl
theorem rL_law_1141n : pR 3 d 1141 [.null, a1, a2, a3, a4, a5, a6] st h = pR 3 d 1142 [.null, a1, a2, a3, a4, a5, a6] (.null :: st) h := pR_L rfl rfl
theorem rL_law_1142 : pR 3 d 1142 [a0, a1, a2, a3, .int x, a5, a6] st h = pR 3 d 1144 [a0, a1, a2, a3, .int x, a5, a6] (.int x :: st) h := pR_L rfl rfl
theorem rL_law_1144 : pR 3 d 1144 ls st h = pR 3 d 1145 ls (.int 1 :: st) h := pR_L rfl rfl
theorem rL_law_1145 : pR 3 d 1145 ls (.int y :: .int x :: st) h = pR 3 d 1146 ls (.int (x + y) :: st) h := pR_L rfl rfl
theorem rL_law_1146 : pR 3 d 1146 ls (.int x :: .ref o :: st) h = if (pin x (pln h 0 o) || pin x (pln h 9 o)) = true then pR 3 d 1147 ls (.int (pct h o x.toNatClampNeg) :: st) h else none := pR_Lif rfl rfl
theorem rL_law_1147 : pR 3 d 1147 [.ref o, a1, a2, a3, a4, a5, a6] st h = pR 3 d 1148 [.ref o, a1, a2, a3, a4, a5, a6] (.ref o :: st) h := pR_L rfl rfl
theorem rL_law_1147n : pR 3 d 1147 [.null, a1, a2, a3, a4, a5, a6] st h = pR 3 d 1148 [.null, a1, a2, a3, a4, a5, a6] (.null :: st) h := pR_L rfl rfl
theorem rL_law_1148 : pR 3 d 1148 [a0, a1, a2, a3, .int x, a5, a6] st h = pR 3 d 1150 [a0, a1, a2, a3, .int x, a5, a6] (.int x :: st) h := pR_L rfl rfl
theorem rL_law_1150 : pR 3 d 1150 ls st h = pR 3 d 1151 ls (.int 2 :: st) h := pR_L rfl rfl
theorem rL_law_1151 : pR 3 d 1151 ls (.int y :: .int x :: st) h = pR 3 d 1152 ls (.int (x + y) :: st) h := pR_L rfl rfl
theorem rL_law_1152 : pR 3 d 1152 ls (.int x :: .ref o :: st) h = if (pin x (pln h 0 o) || pin x (pln h 9 o)) = true then pR 3 d 1153 ls (.int (pct h o x.toNatClampNeg) :: st) h else none := pR_Lif rfl rfl
theorem rL_law_1153 : pR 3 (d + 1) 1153 ls (b2 :: b1 :: .ref o :: st) h = if (pok 1 (pcl h o) && pw st) = true then pK 3 (d + 1) 1153 3 ls st (pCa 46 d [.ref o, b1, b2] h) else none := r_callV rfl rfl rfl
theorem rL_law_1156 : pR 3 d 1156 [a0, a1, .ref o, a3, a4, a5, a6] st h = pR 3 d 1157 [a0, a1, .ref o, a3, a4, a5, a6] (.ref o :: st) h := pR_L rfl rfl
theorem rL_law_1156n : pR 3 d 1156 [a0, a1, .null, a3, a4, a5, a6] st h = pR 3 d 1157 [a0, a1, .null, a3, a4, a5, a6] (.null :: st) h := pR_L rfl rfl
theorem rL_law_1157 : pR 3 d 1157 [.ref o, a1, a2, a3, a4, a5, a6] st h = pR 3 d 1158 [.ref o, a1, a2, a3, a4, a5, a6] (.ref o :: st) h := pR_L rfl rfl
theorem rL_law_1157n : pR 3 d 1157 [.null, a1, a2, a3, a4, a5, a6] st h = pR 3 d 1158 [.null, a1, a2, a3, a4, a5, a6] (.null :: st) h := pR_L rfl rfl
theorem rL_law_1158 : pR 3 d 1158 [a0, a1, a2, a3, .int x, a5, a6] st h = pR 3 d 1160 [a0, a1, a2, a3, .int x, a5, a6] (.int x :: st) h := pR_L rfl rfl
theorem rL_law_1160 : pR 3 d 1160 ls st h = pR 3 d 1161 ls (.int 1 :: st) h := pR_L rfl rfl
theorem rL_law_1161 : pR 3 d 1161 ls (.int y :: .int x :: st) h = pR 3 d 1162 ls (.int (x + y) :: st) h := pR_L rfl rfl
theorem rL_law_1162 : pR 3 d 1162 ls (.int x :: .ref o :: st) h = if (pin x (pln h 0 o) || pin x (pln h 9 o)) = true then pR 3 d 1163 ls (.int (pct h o x.toNatClampNeg) :: st) h else none := pR_Lif rfl rfl
theorem rL_law_1163 : pR 3 d 1163 [.ref o, a1, a2, a3, a4, a5, a6] st h = pR 3 d 1164 [.ref o, a1, a2, a3, a4, a5, a6] (.ref o :: st) h := pR_L rfl rfl
theorem rL_law_1163n : pR 3 d 1163 [.null, a1, a2, a3, a4, a5, a6] st h = pR 3 d 1164 [.null, a1, a2, a3, a4, a5, a6] (.null :: st) h := pR_L rfl rfl
theorem rL_law_1164 : pR 3 d 1164 [a0, a1, a2, a3, .int x, a5, a6] st h = pR 3 d 1166 [a0, a1, a2, a3, .int x, a5, a6] (.int x :: st) h := pR_L rfl rfl
theorem rL_law_1166 : pR 3 d 1166 ls st h = pR 3 d 1167 ls (.int 2 :: st) h := pR_L rfl rfl
theorem rL_law_1167 : pR 3 d 1167 ls (.int y :: .int x :: st) h = pR 3 d 1168 ls (.int (x + y) :: st) h := pR_L rfl rfl
theorem rL_law_1168 : pR 3 d 1168 ls (.int x :: .ref o :: st) h = if (pin x (pln h 0 o) || pin x (pln h 9 o)) = true then pR 3 d 1169 ls (.int (pct h o x.toNatClampNeg) :: st) h else none := pR_Lif rfl rfl
theorem rL_law_1169 : pR 3 (d + 1) 1169 ls (b2 :: b1 :: .ref o :: st) h = if (pok 3 (pcl h o) && pw st) = true then pK 3 (d + 1) 1169 3 ls st (pCa 155 d [.ref o, b1, b2] h) else none := r_callV rfl rfl rfl
theorem rL_law_1172 : pR 3 d 1172 ls (.int y :: .int x :: st) h = if x = y then pR 3 d 1654 ls st h else pR 3 d 1175 ls st h := r_ceq rfl rfl
theorem rL_law_1175 : pR 3 d 1175 ls st h = pR 3 d 1176 ls (.int 0 :: st) h := pR_L rfl rfl
theorem rL_law_11760 : pR 3 d 1176 ls [.int 0] h = some (.inl (some (.int 0)), h) := pR_E rfl rfl
theorem rL_law_11761 : pR 3 d 1176 ls [.int 1] h = some (.inl (some (.int 1)), h) := pR_E rfl rfl
theorem rL_law_1177 : pR 3 d 1177 [a0, .ref o, a2, a3, a4, a5, a6] st h = pR 3 d 1178 [a0, .ref o, a2, a3, a4, a5, a6] (.ref o :: st) h := pR_L rfl rfl
theorem rL_law_1177n : pR 3 d 1177 [a0, .null, a2, a3, a4, a5, a6] st h = pR 3 d 1178 [a0, .null, a2, a3, a4, a5, a6] (.null :: st) h := pR_L rfl rfl
theorem rL_law_1178 : pR 3 d 1178 [.ref o, a1, a2, a3, a4, a5, a6] st h = pR 3 d 1179 [.ref o, a1, a2, a3, a4, a5, a6] (.ref o :: st) h := pR_L rfl rfl
theorem rL_law_1178n : pR 3 d 1178 [.null, a1, a2, a3, a4, a5, a6] st h = pR 3 d 1179 [.null, a1, a2, a3, a4, a5, a6] (.null :: st) h := pR_L rfl rfl
theorem rL_law_1179 : pR 3 d 1179 [a0, a1, a2, a3, .int x, a5, a6] st h = pR 3 d 1181 [a0, a1, a2, a3, .int x, a5, a6] (.int x :: st) h := pR_L rfl rfl
theorem rL_law_1181 : pR 3 d 1181 ls st h = pR 3 d 1182 ls (.int 1 :: st) h := pR_L rfl rfl
theorem rL_law_1182 : pR 3 d 1182 ls (.int y :: .int x :: st) h = pR 3 d 1183 ls (.int (x + y) :: st) h := pR_L rfl rfl
theorem rL_law_1183 : pR 3 d 1183 ls (.int x :: .ref o :: st) h = if (pin x (pln h 0 o) || pin x (pln h 9 o)) = true then pR 3 d 1184 ls (.int (pct h o x.toNatClampNeg) :: st) h else none := pR_Lif rfl rfl
theorem rL_law_1184 : pR 3 d 1184 [.ref o, a1, a2, a3, a4, a5, a6] st h = pR 3 d 1185 [.ref o, a1, a2, a3, a4, a5, a6] (.ref o :: st) h := pR_L rfl rfl
theorem rL_law_1184n : pR 3 d 1184 [.null, a1, a2, a3, a4, a5, a6] st h = pR 3 d 1185 [.null, a1, a2, a3, a4, a5, a6] (.null :: st) h := pR_L rfl rfl
theorem rL_law_1185 : pR 3 d 1185 [a0, a1, a2, a3, .int x, a5, a6] st h = pR 3 d 1187 [a0, a1, a2, a3, .int x, a5, a6] (.int x :: st) h := pR_L rfl rfl
theorem rL_law_1187 : pR 3 d 1187 ls st h = pR 3 d 1188 ls (.int 2 :: st) h := pR_L rfl rfl
theorem rL_law_1188 : pR 3 d 1188 ls (.int y :: .int x :: st) h = pR 3 d 1189 ls (.int (x + y) :: st) h := pR_L rfl rfl
theorem rL_law_1189 : pR 3 d 1189 ls (.int x :: .ref o :: st) h = if (pin x (pln h 0 o) || pin x (pln h 9 o)) = true then pR 3 d 1190 ls (.int (pct h o x.toNatClampNeg) :: st) h else none := pR_Lif rfl rfl
theorem rL_law_1190 : pR 3 (d + 1) 1190 ls (b2 :: b1 :: .ref o :: st) h = if (pok 1 (pcl h o) && pw st) = true then pK 3 (d + 1) 1190 3 ls st (pCa 47 d [.ref o, b1, b2] h) else none := r_callV rfl rfl rfl
theorem rL_law_1193 : pR 3 d 1193 [a0, a1, .ref o, a3, a4, a5, a6] st h = pR 3 d 1194 [a0, a1, .ref o, a3, a4, a5, a6] (.ref o :: st) h := pR_L rfl rfl
theorem rL_law_1193n : pR 3 d 1193 [a0, a1, .null, a3, a4, a5, a6] st h = pR 3 d 1194 [a0, a1, .null, a3, a4, a5, a6] (.null :: st) h := pR_L rfl rfl
theorem rL_law_1194 : pR 3 d 1194 [.ref o, a1, a2, a3, a4, a5, a6] st h = pR 3 d 1195 [.ref o, a1, a2, a3, a4, a5, a6] (.ref o :: st) h := pR_L rfl rfl
theorem rL_law_1194n : pR 3 d 1194 [.null, a1, a2, a3, a4, a5, a6] st h = pR 3 d 1195 [.null, a1, a2, a3, a4, a5, a6] (.null :: st) h := pR_L rfl rfl
theorem rL_law_1195 : pR 3 d 1195 [a0, a1, a2, a3, .int x, a5, a6] st h = pR 3 d 1197 [a0, a1, a2, a3, .int x, a5, a6] (.int x :: st) h := pR_L rfl rfl
theorem rL_law_1197 : pR 3 d 1197 ls st h = pR 3 d 1198 ls (.int 1 :: st) h := pR_L rfl rfl
theorem rL_law_1198 : pR 3 d 1198 ls (.int y :: .int x :: st) h = pR 3 d 1199 ls (.int (x + y) :: st) h := pR_L rfl rfl
theorem rL_law_1199 : pR 3 d 1199 ls (.int x :: .ref o :: st) h = if (pin x (pln h 0 o) || pin x (pln h 9 o)) = true then pR 3 d 1200 ls (.int (pct h o x.toNatClampNeg) :: st) h else none := pR_Lif rfl rfl
theorem rL_law_1200 : pR 3 d 1200 [.ref o, a1, a2, a3, a4, a5, a6] st h = pR 3 d 1201 [.ref o, a1, a2, a3, a4, a5, a6] (.ref o :: st) h := pR_L rfl rfl
theorem rL_law_1200n : pR 3 d 1200 [.null, a1, a2, a3, a4, a5, a6] st h = pR 3 d 1201 [.null, a1, a2, a3, a4, a5, a6] (.null :: st) h := pR_L rfl rfl
theorem rL_law_1201 : pR 3 d 1201 [a0, a1, a2, a3, .int x, a5, a6] st h = pR 3 d 1203 [a0, a1, a2, a3, .int x, a5, a6] (.int x :: st) h := pR_L rfl rfl
theorem rL_law_1203 : pR 3 d 1203 ls st h = pR 3 d 1204 ls (.int 2 :: st) h := pR_L rfl rfl
theorem rL_law_1204 : pR 3 d 1204 ls (.int y :: .int x :: st) h = pR 3 d 1205 ls (.int (x + y) :: st) h := pR_L rfl rfl
theorem rL_law_1205 : pR 3 d 1205 ls (.int x :: .ref o :: st) h = if (pin x (pln h 0 o) || pin x (pln h 9 o)) = true then pR 3 d 1206 ls (.int (pct h o x.toNatClampNeg) :: st) h else none := pR_Lif rfl rfl
theorem rL_law_1206 : pR 3 (d + 1) 1206 ls (b2 :: b1 :: .ref o :: st) h = if (pok 3 (pcl h o) && pw st) = true then pK 3 (d + 1) 1206 3 ls st (pCa 156 d [.ref o, b1, b2] h) else none := r_callV rfl rfl rfl
theorem rL_law_1209 : pR 3 d 1209 ls (.int y :: .int x :: st) h = if x = y then pR 3 d 1654 ls st h else pR 3 d 1212 ls st h := r_ceq rfl rfl
theorem rL_law_1212 : pR 3 d 1212 ls st h = pR 3 d 1213 ls (.int 0 :: st) h := pR_L rfl rfl
theorem rL_law_12130 : pR 3 d 1213 ls [.int 0] h = some (.inl (some (.int 0)), h) := pR_E rfl rfl
theorem rL_law_12131 : pR 3 d 1213 ls [.int 1] h = some (.inl (some (.int 1)), h) := pR_E rfl rfl
theorem rL_law_1214 : pR 3 d 1214 [a0, .ref o, a2, a3, a4, a5, a6] st h = pR 3 d 1215 [a0, .ref o, a2, a3, a4, a5, a6] (.ref o :: st) h := pR_L rfl rfl
theorem rL_law_1214n : pR 3 d 1214 [a0, .null, a2, a3, a4, a5, a6] st h = pR 3 d 1215 [a0, .null, a2, a3, a4, a5, a6] (.null :: st) h := pR_L rfl rfl
theorem rL_law_1215 : pR 3 d 1215 [.ref o, a1, a2, a3, a4, a5, a6] st h = pR 3 d 1216 [.ref o, a1, a2, a3, a4, a5, a6] (.ref o :: st) h := pR_L rfl rfl
theorem rL_law_1215n : pR 3 d 1215 [.null, a1, a2, a3, a4, a5, a6] st h = pR 3 d 1216 [.null, a1, a2, a3, a4, a5, a6] (.null :: st) h := pR_L rfl rfl
theorem rL_law_1216 : pR 3 d 1216 [a0, a1, a2, a3, .int x, a5, a6] st h = pR 3 d 1218 [a0, a1, a2, a3, .int x, a5, a6] (.int x :: st) h := pR_L rfl rfl
theorem rL_law_1218 : pR 3 d 1218 ls st h = pR 3 d 1219 ls (.int 1 :: st) h := pR_L rfl rfl
theorem rL_law_1219 : pR 3 d 1219 ls (.int y :: .int x :: st) h = pR 3 d 1220 ls (.int (x + y) :: st) h := pR_L rfl rfl
theorem rL_law_1220 : pR 3 d 1220 ls (.int x :: .ref o :: st) h = if (pin x (pln h 0 o) || pin x (pln h 9 o)) = true then pR 3 d 1221 ls (.int (pct h o x.toNatClampNeg) :: st) h else none := pR_Lif rfl rfl
theorem rL_law_1221 : pR 3 d 1221 [.ref o, a1, a2, a3, a4, a5, a6] st h = pR 3 d 1222 [.ref o, a1, a2, a3, a4, a5, a6] (.ref o :: st) h := pR_L rfl rfl
theorem rL_law_1221n : pR 3 d 1221 [.null, a1, a2, a3, a4, a5, a6] st h = pR 3 d 1222 [.null, a1, a2, a3, a4, a5, a6] (.null :: st) h := pR_L rfl rfl
theorem rL_law_1222 : pR 3 d 1222 [a0, a1, a2, a3, .int x, a5, a6] st h = pR 3 d 1224 [a0, a1, a2, a3, .int x, a5, a6] (.int x :: st) h := pR_L rfl rfl
theorem rL_law_1224 : pR 3 d 1224 ls st h = pR 3 d 1225 ls (.int 2 :: st) h := pR_L rfl rfl
theorem rL_law_1225 : pR 3 d 1225 ls (.int y :: .int x :: st) h = pR 3 d 1226 ls (.int (x + y) :: st) h := pR_L rfl rfl
theorem rL_law_1226 : pR 3 d 1226 ls (.int x :: .ref o :: st) h = if (pin x (pln h 0 o) || pin x (pln h 9 o)) = true then pR 3 d 1227 ls (.int (pct h o x.toNatClampNeg) :: st) h else none := pR_Lif rfl rfl
theorem rL_law_1227 : pR 3 d 1227 [.ref o, a1, a2, a3, a4, a5, a6] st h = pR 3 d 1228 [.ref o, a1, a2, a3, a4, a5, a6] (.ref o :: st) h := pR_L rfl rfl
theorem rL_law_1227n : pR 3 d 1227 [.null, a1, a2, a3, a4, a5, a6] st h = pR 3 d 1228 [.null, a1, a2, a3, a4, a5, a6] (.null :: st) h := pR_L rfl rfl
theorem rL_law_1228 : pR 3 d 1228 [a0, a1, a2, a3, .int x, a5, a6] st h = pR 3 d 1230 [a0, a1, a2, a3, .int x, a5, a6] (.int x :: st) h := pR_L rfl rfl
theorem rL_law_1230 : pR 3 d 1230 ls st h = pR 3 d 1231 ls (.int 3 :: st) h := pR_L rfl rfl
theorem rL_law_1231 : pR 3 d 1231 ls (.int y :: .int x :: st) h = pR 3 d 1232 ls (.int (x + y) :: st) h := pR_L rfl rfl
theorem rL_law_1232 : pR 3 d 1232 ls (.int x :: .ref o :: st) h = if (pin x (pln h 0 o) || pin x (pln h 9 o)) = true then pR 3 d 1233 ls (.int (pct h o x.toNatClampNeg) :: st) h else none := pR_Lif rfl rfl
theorem rL_law_1233 : pR 3 (d + 1) 1233 ls (b3 :: b2 :: b1 :: .ref o :: st) h = if (pok 1 (pcl h o) && pw st) = true then pK 3 (d + 1) 1233 3 ls st (pCa 48 d [.ref o, b1, b2, b3] h) else none := r_callV rfl rfl rfl
theorem rL_law_1236 : pR 3 d 1236 [a0, a1, .ref o, a3, a4, a5, a6] st h = pR 3 d 1237 [a0, a1, .ref o, a3, a4, a5, a6] (.ref o :: st) h := pR_L rfl rfl
theorem rL_law_1236n : pR 3 d 1236 [a0, a1, .null, a3, a4, a5, a6] st h = pR 3 d 1237 [a0, a1, .null, a3, a4, a5, a6] (.null :: st) h := pR_L rfl rfl
theorem rL_law_1237 : pR 3 d 1237 [.ref o, a1, a2, a3, a4, a5, a6] st h = pR 3 d 1238 [.ref o, a1, a2, a3, a4, a5, a6] (.ref o :: st) h := pR_L rfl rfl
theorem rL_law_1237n : pR 3 d 1237 [.null, a1, a2, a3, a4, a5, a6] st h = pR 3 d 1238 [.null, a1, a2, a3, a4, a5, a6] (.null :: st) h := pR_L rfl rfl
theorem rL_law_1238 : pR 3 d 1238 [a0, a1, a2, a3, .int x, a5, a6] st h = pR 3 d 1240 [a0, a1, a2, a3, .int x, a5, a6] (.int x :: st) h := pR_L rfl rfl
theorem rL_law_1240 : pR 3 d 1240 ls st h = pR 3 d 1241 ls (.int 1 :: st) h := pR_L rfl rfl
theorem rL_law_1241 : pR 3 d 1241 ls (.int y :: .int x :: st) h = pR 3 d 1242 ls (.int (x + y) :: st) h := pR_L rfl rfl
theorem rL_law_1242 : pR 3 d 1242 ls (.int x :: .ref o :: st) h = if (pin x (pln h 0 o) || pin x (pln h 9 o)) = true then pR 3 d 1243 ls (.int (pct h o x.toNatClampNeg) :: st) h else none := pR_Lif rfl rfl
theorem rL_law_1243 : pR 3 d 1243 [.ref o, a1, a2, a3, a4, a5, a6] st h = pR 3 d 1244 [.ref o, a1, a2, a3, a4, a5, a6] (.ref o :: st) h := pR_L rfl rfl
theorem rL_law_1243n : pR 3 d 1243 [.null, a1, a2, a3, a4, a5, a6] st h = pR 3 d 1244 [.null, a1, a2, a3, a4, a5, a6] (.null :: st) h := pR_L rfl rfl
theorem rL_law_1244 : pR 3 d 1244 [a0, a1, a2, a3, .int x, a5, a6] st h = pR 3 d 1246 [a0, a1, a2, a3, .int x, a5, a6] (.int x :: st) h := pR_L rfl rfl
theorem rL_law_1246 : pR 3 d 1246 ls st h = pR 3 d 1247 ls (.int 2 :: st) h := pR_L rfl rfl
theorem rL_law_1247 : pR 3 d 1247 ls (.int y :: .int x :: st) h = pR 3 d 1248 ls (.int (x + y) :: st) h := pR_L rfl rfl
theorem rL_law_1248 : pR 3 d 1248 ls (.int x :: .ref o :: st) h = if (pin x (pln h 0 o) || pin x (pln h 9 o)) = true then pR 3 d 1249 ls (.int (pct h o x.toNatClampNeg) :: st) h else none := pR_Lif rfl rfl
theorem rL_law_1249 : pR 3 d 1249 [.ref o, a1, a2, a3, a4, a5, a6] st h = pR 3 d 1250 [.ref o, a1, a2, a3, a4, a5, a6] (.ref o :: st) h := pR_L rfl rfl
theorem rL_law_1249n : pR 3 d 1249 [.null, a1, a2, a3, a4, a5, a6] st h = pR 3 d 1250 [.null, a1, a2, a3, a4, a5, a6] (.null :: st) h := pR_L rfl rfl
theorem rL_law_1250 : pR 3 d 1250 [a0, a1, a2, a3, .int x, a5, a6] st h = pR 3 d 1252 [a0, a1, a2, a3, .int x, a5, a6] (.int x :: st) h := pR_L rfl rfl
theorem rL_law_1252 : pR 3 d 1252 ls st h = pR 3 d 1253 ls (.int 3 :: st) h := pR_L rfl rfl
theorem rL_law_1253 : pR 3 d 1253 ls (.int y :: .int x :: st) h = pR 3 d 1254 ls (.int (x + y) :: st) h := pR_L rfl rfl
theorem rL_law_1254 : pR 3 d 1254 ls (.int x :: .ref o :: st) h = if (pin x (pln h 0 o) || pin x (pln h 9 o)) = true then pR 3 d 1255 ls (.int (pct h o x.toNatClampNeg) :: st) h else none := pR_Lif rfl rfl
theorem rL_law_1255 : pR 3 (d + 1) 1255 ls (b3 :: b2 :: b1 :: .ref o :: st) h = if (pok 3 (pcl h o) && pw st) = true then pK 3 (d + 1) 1255 3 ls st (pCa 157 d [.ref o, b1, b2, b3] h) else none := r_callV rfl rfl rfl
theorem rL_law_1258 : pR 3 d 1258 ls (.int y :: .int x :: st) h = if x = y then pR 3 d 1654 ls st h else pR 3 d 1261 ls st h := r_ceq rfl rfl
theorem rL_law_1261 : pR 3 d 1261 ls st h = pR 3 d 1262 ls (.int 0 :: st) h := pR_L rfl rfl
theorem rL_law_12620 : pR 3 d 1262 ls [.int 0] h = some (.inl (some (.int 0)), h) := pR_E rfl rfl
theorem rL_law_12621 : pR 3 d 1262 ls [.int 1] h = some (.inl (some (.int 1)), h) := pR_E rfl rfl
theorem rL_law_1263 : pR 3 d 1263 [a0, .ref o, a2, a3, a4, a5, a6] st h = pR 3 d 1264 [a0, .ref o, a2, a3, a4, a5, a6] (.ref o :: st) h := pR_L rfl rfl
theorem rL_law_1263n : pR 3 d 1263 [a0, .null, a2, a3, a4, a5, a6] st h = pR 3 d 1264 [a0, .null, a2, a3, a4, a5, a6] (.null :: st) h := pR_L rfl rfl
theorem rL_law_1264 : pR 3 (d + 1) 1264 ls (.ref o :: st) h = if (pok 1 (pcl h o) && pw st) = true then pK 3 (d + 1) 1264 3 ls st (pCa 49 d [.ref o] h) else none := r_callV rfl rfl rfl
theorem rL_law_1267 : pR 3 d 1267 [a0, a1, .ref o, a3, a4, a5, a6] st h = pR 3 d 1268 [a0, a1, .ref o, a3, a4, a5, a6] (.ref o :: st) h := pR_L rfl rfl
theorem rL_law_1267n : pR 3 d 1267 [a0, a1, .null, a3, a4, a5, a6] st h = pR 3 d 1268 [a0, a1, .null, a3, a4, a5, a6] (.null :: st) h := pR_L rfl rfl
theorem rL_law_1268 : pR 3 (d + 1) 1268 ls (.ref o :: st) h = if (pok 3 (pcl h o) && pw st) = true then pK 3 (d + 1) 1268 3 ls st (pCa 158 d [.ref o] h) else none := r_callV rfl rfl rfl
theorem rL_law_1271 : pR 3 d 1271 ls (.int y :: .int x :: st) h = if x = y then pR 3 d 1654 ls st h else pR 3 d 1274 ls st h := r_ceq rfl rfl
theorem rL_law_1274 : pR 3 d 1274 ls st h = pR 3 d 1275 ls (.int 0 :: st) h := pR_L rfl rfl
theorem rL_law_12750 : pR 3 d 1275 ls [.int 0] h = some (.inl (some (.int 0)), h) := pR_E rfl rfl
theorem rL_law_12751 : pR 3 d 1275 ls [.int 1] h = some (.inl (some (.int 1)), h) := pR_E rfl rfl
theorem rL_law_1276 : pR 3 d 1276 [a0, .ref o, a2, a3, a4, a5, a6] st h = pR 3 d 1277 [a0, .ref o, a2, a3, a4, a5, a6] (.ref o :: st) h := pR_L rfl rfl
theorem rL_law_1276n : pR 3 d 1276 [a0, .null, a2, a3, a4, a5, a6] st h = pR 3 d 1277 [a0, .null, a2, a3, a4, a5, a6] (.null :: st) h := pR_L rfl rfl
theorem rL_law_1277 : pR 3 d 1277 [.ref o, a1, a2, a3, a4, a5, a6] st h = pR 3 d 1278 [.ref o, a1, a2, a3, a4, a5, a6] (.ref o :: st) h := pR_L rfl rfl
theorem rL_law_1277n : pR 3 d 1277 [.null, a1, a2, a3, a4, a5, a6] st h = pR 3 d 1278 [.null, a1, a2, a3, a4, a5, a6] (.null :: st) h := pR_L rfl rfl
theorem rL_law_1278 : pR 3 d 1278 [a0, a1, a2, a3, .int x, a5, a6] st h = pR 3 d 1280 [a0, a1, a2, a3, .int x, a5, a6] (.int x :: st) h := pR_L rfl rfl
theorem rL_law_1280 : pR 3 d 1280 ls st h = pR 3 d 1281 ls (.int 1 :: st) h := pR_L rfl rfl
theorem rL_law_1281 : pR 3 d 1281 ls (.int y :: .int x :: st) h = pR 3 d 1282 ls (.int (x + y) :: st) h := pR_L rfl rfl
theorem rL_law_1282 : pR 3 d 1282 ls (.int x :: .ref o :: st) h = if (pin x (pln h 0 o) || pin x (pln h 9 o)) = true then pR 3 d 1283 ls (.int (pct h o x.toNatClampNeg) :: st) h else none := pR_Lif rfl rfl
theorem rL_law_1283 : pR 3 d 1283 ls (.int x :: st) h = pR 3 d 1284 ls (.long x.toInt64 :: st) h := pR_L rfl rfl
theorem rL_law_1284 : pR 3 d 1284 ls st h = pR 3 d 1286 ls (.int 32 :: st) h := pR_L rfl rfl
theorem rL_law_1286 : pR 3 d 1286 ls (.int y :: .long lx :: st) h = pR 3 d 1287 ls (.long (lx <<< (y.toInt64 &&& 63)) :: st) h := pR_L rfl rfl
theorem rL_law_1287 : pR 3 d 1287 [.ref o, a1, a2, a3, a4, a5, a6] st h = pR 3 d 1288 [.ref o, a1, a2, a3, a4, a5, a6] (.ref o :: st) h := pR_L rfl rfl
theorem rL_law_1287n : pR 3 d 1287 [.null, a1, a2, a3, a4, a5, a6] st h = pR 3 d 1288 [.null, a1, a2, a3, a4, a5, a6] (.null :: st) h := pR_L rfl rfl
theorem rL_law_1288 : pR 3 d 1288 [a0, a1, a2, a3, .int x, a5, a6] st h = pR 3 d 1290 [a0, a1, a2, a3, .int x, a5, a6] (.int x :: st) h := pR_L rfl rfl
theorem rL_law_1290 : pR 3 d 1290 ls st h = pR 3 d 1291 ls (.int 2 :: st) h := pR_L rfl rfl
theorem rL_law_1291 : pR 3 d 1291 ls (.int y :: .int x :: st) h = pR 3 d 1292 ls (.int (x + y) :: st) h := pR_L rfl rfl
theorem rL_law_1292 : pR 3 d 1292 ls (.int x :: .ref o :: st) h = if (pin x (pln h 0 o) || pin x (pln h 9 o)) = true then pR 3 d 1293 ls (.int (pct h o x.toNatClampNeg) :: st) h else none := pR_Lif rfl rfl
theorem rL_law_1293 : pR 3 d 1293 ls (.int x :: st) h = pR 3 d 1294 ls (.long x.toInt64 :: st) h := pR_L rfl rfl
theorem rL_law_1294 : pR 3 d 1294 ls st h = pR 3 d 1297 ls (.long 4294967295 :: st) h := pR_X rfl rfl
theorem rL_law_1297 : pR 3 d 1297 ls (.long ly :: .long lx :: st) h = pR 3 d 1298 ls (.long (lx &&& ly) :: st) h := pR_L rfl rfl
theorem rL_law_1298 : pR 3 d 1298 ls (.long ly :: .long lx :: st) h = pR 3 d 1299 ls (.long (lx ||| ly) :: st) h := pR_L rfl rfl
theorem rL_law_1299 : pR 3 (d + 1) 1299 ls (b1 :: .ref o :: st) h = if (pok 1 (pcl h o) && pw st) = true then pK 3 (d + 1) 1299 3 ls st (pCa 50 d [.ref o, b1] h) else none := r_callV rfl rfl rfl
theorem rL_law_1302 : pR 3 d 1302 [a0, a1, .ref o, a3, a4, a5, a6] st h = pR 3 d 1303 [a0, a1, .ref o, a3, a4, a5, a6] (.ref o :: st) h := pR_L rfl rfl
theorem rL_law_1302n : pR 3 d 1302 [a0, a1, .null, a3, a4, a5, a6] st h = pR 3 d 1303 [a0, a1, .null, a3, a4, a5, a6] (.null :: st) h := pR_L rfl rfl
theorem rL_law_1303 : pR 3 d 1303 [.ref o, a1, a2, a3, a4, a5, a6] st h = pR 3 d 1304 [.ref o, a1, a2, a3, a4, a5, a6] (.ref o :: st) h := pR_L rfl rfl
theorem rL_law_1303n : pR 3 d 1303 [.null, a1, a2, a3, a4, a5, a6] st h = pR 3 d 1304 [.null, a1, a2, a3, a4, a5, a6] (.null :: st) h := pR_L rfl rfl
theorem rL_law_1304 : pR 3 d 1304 [a0, a1, a2, a3, .int x, a5, a6] st h = pR 3 d 1306 [a0, a1, a2, a3, .int x, a5, a6] (.int x :: st) h := pR_L rfl rfl
theorem rL_law_1306 : pR 3 d 1306 ls st h = pR 3 d 1307 ls (.int 1 :: st) h := pR_L rfl rfl
theorem rL_law_1307 : pR 3 d 1307 ls (.int y :: .int x :: st) h = pR 3 d 1308 ls (.int (x + y) :: st) h := pR_L rfl rfl
theorem rL_law_1308 : pR 3 d 1308 ls (.int x :: .ref o :: st) h = if (pin x (pln h 0 o) || pin x (pln h 9 o)) = true then pR 3 d 1309 ls (.int (pct h o x.toNatClampNeg) :: st) h else none := pR_Lif rfl rfl
theorem rL_law_1309 : pR 3 d 1309 ls (.int x :: st) h = pR 3 d 1310 ls (.long x.toInt64 :: st) h := pR_L rfl rfl
theorem rL_law_1310 : pR 3 d 1310 ls st h = pR 3 d 1312 ls (.int 32 :: st) h := pR_L rfl rfl
theorem rL_law_1312 : pR 3 d 1312 ls (.int y :: .long lx :: st) h = pR 3 d 1313 ls (.long (lx <<< (y.toInt64 &&& 63)) :: st) h := pR_L rfl rfl
theorem rL_law_1313 : pR 3 d 1313 [.ref o, a1, a2, a3, a4, a5, a6] st h = pR 3 d 1314 [.ref o, a1, a2, a3, a4, a5, a6] (.ref o :: st) h := pR_L rfl rfl
theorem rL_law_1313n : pR 3 d 1313 [.null, a1, a2, a3, a4, a5, a6] st h = pR 3 d 1314 [.null, a1, a2, a3, a4, a5, a6] (.null :: st) h := pR_L rfl rfl
theorem rL_law_1314 : pR 3 d 1314 [a0, a1, a2, a3, .int x, a5, a6] st h = pR 3 d 1316 [a0, a1, a2, a3, .int x, a5, a6] (.int x :: st) h := pR_L rfl rfl
theorem rL_law_1316 : pR 3 d 1316 ls st h = pR 3 d 1317 ls (.int 2 :: st) h := pR_L rfl rfl
theorem rL_law_1317 : pR 3 d 1317 ls (.int y :: .int x :: st) h = pR 3 d 1318 ls (.int (x + y) :: st) h := pR_L rfl rfl
theorem rL_law_1318 : pR 3 d 1318 ls (.int x :: .ref o :: st) h = if (pin x (pln h 0 o) || pin x (pln h 9 o)) = true then pR 3 d 1319 ls (.int (pct h o x.toNatClampNeg) :: st) h else none := pR_Lif rfl rfl
theorem rL_law_1319 : pR 3 d 1319 ls (.int x :: st) h = pR 3 d 1320 ls (.long x.toInt64 :: st) h := pR_L rfl rfl
theorem rL_law_1320 : pR 3 d 1320 ls st h = pR 3 d 1323 ls (.long 4294967295 :: st) h := pR_X rfl rfl
theorem rL_law_1323 : pR 3 d 1323 ls (.long ly :: .long lx :: st) h = pR 3 d 1324 ls (.long (lx &&& ly) :: st) h := pR_L rfl rfl
theorem rL_law_1324 : pR 3 d 1324 ls (.long ly :: .long lx :: st) h = pR 3 d 1325 ls (.long (lx ||| ly) :: st) h := pR_L rfl rfl
theorem rL_law_1325 : pR 3 (d + 1) 1325 ls (b1 :: .ref o :: st) h = if (pok 3 (pcl h o) && pw st) = true then pK 3 (d + 1) 1325 3 ls st (pCa 159 d [.ref o, b1] h) else none := r_callV rfl rfl rfl
theorem rL_law_1328 : pR 3 d 1328 ls (.int y :: .int x :: st) h = if x = y then pR 3 d 1654 ls st h else pR 3 d 1331 ls st h := r_ceq rfl rfl
theorem rL_law_1331 : pR 3 d 1331 ls st h = pR 3 d 1332 ls (.int 0 :: st) h := pR_L rfl rfl
theorem rL_law_13320 : pR 3 d 1332 ls [.int 0] h = some (.inl (some (.int 0)), h) := pR_E rfl rfl
theorem rL_law_13321 : pR 3 d 1332 ls [.int 1] h = some (.inl (some (.int 1)), h) := pR_E rfl rfl
theorem rL_law_1333 : pR 3 d 1333 [a0, .ref o, a2, a3, a4, a5, a6] st h = pR 3 d 1334 [a0, .ref o, a2, a3, a4, a5, a6] (.ref o :: st) h := pR_L rfl rfl
theorem rL_law_1333n : pR 3 d 1333 [a0, .null, a2, a3, a4, a5, a6] st h = pR 3 d 1334 [a0, .null, a2, a3, a4, a5, a6] (.null :: st) h := pR_L rfl rfl
theorem rL_law_1334 : pR 3 d 1334 [.ref o, a1, a2, a3, a4, a5, a6] st h = pR 3 d 1335 [.ref o, a1, a2, a3, a4, a5, a6] (.ref o :: st) h := pR_L rfl rfl
theorem rL_law_1334n : pR 3 d 1334 [.null, a1, a2, a3, a4, a5, a6] st h = pR 3 d 1335 [.null, a1, a2, a3, a4, a5, a6] (.null :: st) h := pR_L rfl rfl
theorem rL_law_1335 : pR 3 d 1335 [a0, a1, a2, a3, .int x, a5, a6] st h = pR 3 d 1337 [a0, a1, a2, a3, .int x, a5, a6] (.int x :: st) h := pR_L rfl rfl
theorem rL_law_1337 : pR 3 d 1337 ls st h = pR 3 d 1338 ls (.int 1 :: st) h := pR_L rfl rfl
theorem rL_law_1338 : pR 3 d 1338 ls (.int y :: .int x :: st) h = pR 3 d 1339 ls (.int (x + y) :: st) h := pR_L rfl rfl
theorem rL_law_1339 : pR 3 d 1339 ls (.int x :: .ref o :: st) h = if (pin x (pln h 0 o) || pin x (pln h 9 o)) = true then pR 3 d 1340 ls (.int (pct h o x.toNatClampNeg) :: st) h else none := pR_Lif rfl rfl
theorem rL_law_1340 : pR 3 d 1340 [.ref o, a1, a2, a3, a4, a5, a6] st h = pR 3 d 1341 [.ref o, a1, a2, a3, a4, a5, a6] (.ref o :: st) h := pR_L rfl rfl
theorem rL_law_1340n : pR 3 d 1340 [.null, a1, a2, a3, a4, a5, a6] st h = pR 3 d 1341 [.null, a1, a2, a3, a4, a5, a6] (.null :: st) h := pR_L rfl rfl
theorem rL_law_1341 : pR 3 d 1341 [a0, a1, a2, a3, .int x, a5, a6] st h = pR 3 d 1343 [a0, a1, a2, a3, .int x, a5, a6] (.int x :: st) h := pR_L rfl rfl
theorem rL_law_1343 : pR 3 d 1343 ls st h = pR 3 d 1344 ls (.int 2 :: st) h := pR_L rfl rfl
theorem rL_law_1344 : pR 3 d 1344 ls (.int y :: .int x :: st) h = pR 3 d 1345 ls (.int (x + y) :: st) h := pR_L rfl rfl
theorem rL_law_1345 : pR 3 d 1345 ls (.int x :: .ref o :: st) h = if (pin x (pln h 0 o) || pin x (pln h 9 o)) = true then pR 3 d 1346 ls (.int (pct h o x.toNatClampNeg) :: st) h else none := pR_Lif rfl rfl
theorem rL_law_1346 : pR 3 d 1346 [a0, a1, a2, .ref o, a4, a5, a6] st h = pR 3 d 1347 [a0, a1, a2, .ref o, a4, a5, a6] (.ref o :: st) h := pR_L rfl rfl
theorem rL_law_1346n : pR 3 d 1346 [a0, a1, a2, .null, a4, a5, a6] st h = pR 3 d 1347 [a0, a1, a2, .null, a4, a5, a6] (.null :: st) h := pR_L rfl rfl
theorem rL_law_1347 : pR 3 (d + 1) 1347 ls (b3 :: b2 :: b1 :: b0 :: st) h = if pw st = true then pK 3 (d + 1) 1347 3 ls st (pCa 1 d [b0, b1, b2, b3] h) else none := r_callS rfl rfl rfl
theorem rL_law_1350 : pR 3 d 1350 [a0, a1, a2, a3, a4, a5, a6] (.int x :: st) h = if p1 a5 = true then pR 3 d 1352 [a0, a1, a2, a3, a4, .int x, a6] st h else none := r_sto (n := 2) (k := 5) (v := .int x) (ls := [a0, a1, a2, a3, a4, a5, a6]) rfl rfl rfl
theorem rL_law_1352 : pR 3 d 1352 [a0, a1, .ref o, a3, a4, a5, a6] st h = pR 3 d 1353 [a0, a1, .ref o, a3, a4, a5, a6] (.ref o :: st) h := pR_L rfl rfl
theorem rL_law_1352n : pR 3 d 1352 [a0, a1, .null, a3, a4, a5, a6] st h = pR 3 d 1353 [a0, a1, .null, a3, a4, a5, a6] (.null :: st) h := pR_L rfl rfl
theorem rL_law_1353 : pR 3 d 1353 [.ref o, a1, a2, a3, a4, a5, a6] st h = pR 3 d 1354 [.ref o, a1, a2, a3, a4, a5, a6] (.ref o :: st) h := pR_L rfl rfl
theorem rL_law_1353n : pR 3 d 1353 [.null, a1, a2, a3, a4, a5, a6] st h = pR 3 d 1354 [.null, a1, a2, a3, a4, a5, a6] (.null :: st) h := pR_L rfl rfl
theorem rL_law_1354 : pR 3 d 1354 [a0, a1, a2, a3, .int x, a5, a6] st h = pR 3 d 1356 [a0, a1, a2, a3, .int x, a5, a6] (.int x :: st) h := pR_L rfl rfl
theorem rL_law_1356 : pR 3 d 1356 ls st h = pR 3 d 1357 ls (.int 1 :: st) h := pR_L rfl rfl
theorem rL_law_1357 : pR 3 d 1357 ls (.int y :: .int x :: st) h = pR 3 d 1358 ls (.int (x + y) :: st) h := pR_L rfl rfl
theorem rL_law_1358 : pR 3 d 1358 ls (.int x :: .ref o :: st) h = if (pin x (pln h 0 o) || pin x (pln h 9 o)) = true then pR 3 d 1359 ls (.int (pct h o x.toNatClampNeg) :: st) h else none := pR_Lif rfl rfl
theorem rL_law_1359 : pR 3 d 1359 [.ref o, a1, a2, a3, a4, a5, a6] st h = pR 3 d 1360 [.ref o, a1, a2, a3, a4, a5, a6] (.ref o :: st) h := pR_L rfl rfl
theorem rL_law_1359n : pR 3 d 1359 [.null, a1, a2, a3, a4, a5, a6] st h = pR 3 d 1360 [.null, a1, a2, a3, a4, a5, a6] (.null :: st) h := pR_L rfl rfl
theorem rL_law_1360 : pR 3 d 1360 [a0, a1, a2, a3, .int x, a5, a6] st h = pR 3 d 1362 [a0, a1, a2, a3, .int x, a5, a6] (.int x :: st) h := pR_L rfl rfl
theorem rL_law_1362 : pR 3 d 1362 ls st h = pR 3 d 1363 ls (.int 2 :: st) h := pR_L rfl rfl
theorem rL_law_1363 : pR 3 d 1363 ls (.int y :: .int x :: st) h = pR 3 d 1364 ls (.int (x + y) :: st) h := pR_L rfl rfl
theorem rL_law_1364 : pR 3 d 1364 ls (.int x :: .ref o :: st) h = if (pin x (pln h 0 o) || pin x (pln h 9 o)) = true then pR 3 d 1365 ls (.int (pct h o x.toNatClampNeg) :: st) h else none := pR_Lif rfl rfl
theorem rL_law_1365 : pR 3 (d + 1) 1365 ls (b2 :: b1 :: .ref o :: st) h = if (pok 3 (pcl h o) && pw st) = true then pK 3 (d + 1) 1365 3 ls st (pCa 162 d [.ref o, b1, b2] h) else none := r_callV rfl rfl rfl
theorem rL_law_1368 : pR 3 d 1368 [a0, a1, a2, a3, a4, a5, a6] (.int x :: st) h = if p1 a6 = true then pR 3 d 1370 [a0, a1, a2, a3, a4, a5, .int x] st h else none := r_sto (n := 2) (k := 6) (v := .int x) (ls := [a0, a1, a2, a3, a4, a5, a6]) rfl rfl rfl
theorem rL_law_1370 : pR 3 d 1370 [a0, a1, .ref o, a3, a4, a5, a6] st h = pR 3 d 1371 [a0, a1, .ref o, a3, a4, a5, a6] (.ref o :: st) h := pR_L rfl rfl
theorem rL_law_1370n : pR 3 d 1370 [a0, a1, .null, a3, a4, a5, a6] st h = pR 3 d 1371 [a0, a1, .null, a3, a4, a5, a6] (.null :: st) h := pR_L rfl rfl
theorem rL_law_1371 : pR 3 (d + 1) 1371 ls (.ref o :: st) h = if (pok 3 (pcl h o) && pw st) = true then pK 3 (d + 1) 1371 3 ls st (pCa 67 d [.ref o] h) else none := r_callV rfl rfl rfl
theorem rL_law_1374 : pR 3 d 1374 [a0, a1, a2, a3, a4, .int x, a6] st h = pR 3 d 1376 [a0, a1, a2, a3, a4, .int x, a6] (.int x :: st) h := pR_L rfl rfl
theorem rL_law_1376 : pR 3 d 1376 ls (.int y :: .int x :: st) h = if x = y then pR 3 d 1381 ls st h else pR 3 d 1379 ls st h := r_ceq rfl rfl
theorem rL_law_1379 : pR 3 d 1379 ls st h = pR 3 d 1380 ls (.int 0 :: st) h := pR_L rfl rfl
theorem rL_law_13800 : pR 3 d 1380 ls [.int 0] h = some (.inl (some (.int 0)), h) := pR_E rfl rfl
theorem rL_law_13801 : pR 3 d 1380 ls [.int 1] h = some (.inl (some (.int 1)), h) := pR_E rfl rfl
theorem rL_law_1381 : pR 3 d 1381 [a0, a1, a2, a3, a4, .int x, a6] st h = pR 3 d 1383 [a0, a1, a2, a3, a4, .int x, a6] (.int x :: st) h := pR_L rfl rfl
theorem rL_law_1383 : pR 3 d 1383 ls (.int x :: st) h = if x = 0 then pR 3 d 1386 ls st h else pR 3 d 1398 ls st h := r_ine rfl rfl
theorem rL_law_1386 : pR 3 d 1386 [a0, a1, a2, .ref o, a4, a5, a6] st h = pR 3 d 1387 [a0, a1, a2, .ref o, a4, a5, a6] (.ref o :: st) h := pR_L rfl rfl
theorem rL_law_1386n : pR 3 d 1386 [a0, a1, a2, .null, a4, a5, a6] st h = pR 3 d 1387 [a0, a1, a2, .null, a4, a5, a6] (.null :: st) h := pR_L rfl rfl
theorem rL_law_1387 : pR 3 d 1387 ls st h = pR 3 d 1388 ls (.int 0 :: st) h := pR_L rfl rfl
theorem rL_law_1388 : pR 3 d 1388 ls (.int x :: .ref o :: st) h = if pin x (plnL h o) = true then pR 3 d 1389 ls (.long (pctL h o x.toNatClampNeg) :: st) h else none := pR_Lif rfl rfl
theorem rL_law_1389 : pR 3 d 1389 [a0, a1, a2, a3, a4, a5, .int x] st h = pR 3 d 1391 [a0, a1, a2, a3, a4, a5, .int x] (.int x :: st) h := pR_L rfl rfl
theorem rL_law_1391 : pR 3 d 1391 ls (.int x :: st) h = pR 3 d 1392 ls (.long x.toInt64 :: st) h := pR_L rfl rfl
theorem rL_law_1392 : pR 3 d 1392 ls (.long ly :: .long lx :: st) h = pR 3 d 1393 ls (.int (lg_cmp lx ly) :: st) h := pR_L rfl rfl
theorem rL_law_1393 : pR 3 d 1393 ls (.int x :: st) h = if x = 0 then pR 3 d 1398 ls st h else pR 3 d 1396 ls st h := r_ieq rfl rfl
theorem rL_law_1396 : pR 3 d 1396 ls st h = pR 3 d 1397 ls (.int 0 :: st) h := pR_L rfl rfl
theorem rL_law_13970 : pR 3 d 1397 ls [.int 0] h = some (.inl (some (.int 0)), h) := pR_E rfl rfl
theorem rL_law_13971 : pR 3 d 1397 ls [.int 1] h = some (.inl (some (.int 1)), h) := pR_E rfl rfl
theorem rL_law_1398 : pR 3 d 1398 ls st h = pR 3 d 1654 ls st h := pR_L rfl rfl
theorem rL_law_1401 : pR 3 d 1401 [a0, .ref o, a2, a3, a4, a5, a6] st h = pR 3 d 1402 [a0, .ref o, a2, a3, a4, a5, a6] (.ref o :: st) h := pR_L rfl rfl
theorem rL_law_1401n : pR 3 d 1401 [a0, .null, a2, a3, a4, a5, a6] st h = pR 3 d 1402 [a0, .null, a2, a3, a4, a5, a6] (.null :: st) h := pR_L rfl rfl
theorem rL_law_1402 : pR 3 d 1402 [.ref o, a1, a2, a3, a4, a5, a6] st h = pR 3 d 1403 [.ref o, a1, a2, a3, a4, a5, a6] (.ref o :: st) h := pR_L rfl rfl
theorem rL_law_1402n : pR 3 d 1402 [.null, a1, a2, a3, a4, a5, a6] st h = pR 3 d 1403 [.null, a1, a2, a3, a4, a5, a6] (.null :: st) h := pR_L rfl rfl
theorem rL_law_1403 : pR 3 d 1403 [a0, a1, a2, a3, .int x, a5, a6] st h = pR 3 d 1405 [a0, a1, a2, a3, .int x, a5, a6] (.int x :: st) h := pR_L rfl rfl
theorem rL_law_1405 : pR 3 d 1405 ls st h = pR 3 d 1406 ls (.int 1 :: st) h := pR_L rfl rfl
theorem rL_law_1406 : pR 3 d 1406 ls (.int y :: .int x :: st) h = pR 3 d 1407 ls (.int (x + y) :: st) h := pR_L rfl rfl
theorem rL_law_1407 : pR 3 d 1407 ls (.int x :: .ref o :: st) h = if (pin x (pln h 0 o) || pin x (pln h 9 o)) = true then pR 3 d 1408 ls (.int (pct h o x.toNatClampNeg) :: st) h else none := pR_Lif rfl rfl
theorem rL_law_1408 : pR 3 d 1408 [.ref o, a1, a2, a3, a4, a5, a6] st h = pR 3 d 1409 [.ref o, a1, a2, a3, a4, a5, a6] (.ref o :: st) h := pR_L rfl rfl
theorem rL_law_1408n : pR 3 d 1408 [.null, a1, a2, a3, a4, a5, a6] st h = pR 3 d 1409 [.null, a1, a2, a3, a4, a5, a6] (.null :: st) h := pR_L rfl rfl
theorem rL_law_1409 : pR 3 d 1409 [a0, a1, a2, a3, .int x, a5, a6] st h = pR 3 d 1411 [a0, a1, a2, a3, .int x, a5, a6] (.int x :: st) h := pR_L rfl rfl
theorem rL_law_1411 : pR 3 d 1411 ls st h = pR 3 d 1412 ls (.int 2 :: st) h := pR_L rfl rfl
theorem rL_law_1412 : pR 3 d 1412 ls (.int y :: .int x :: st) h = pR 3 d 1413 ls (.int (x + y) :: st) h := pR_L rfl rfl
theorem rL_law_1413 : pR 3 d 1413 ls (.int x :: .ref o :: st) h = if (pin x (pln h 0 o) || pin x (pln h 9 o)) = true then pR 3 d 1414 ls (.int (pct h o x.toNatClampNeg) :: st) h else none := pR_Lif rfl rfl
theorem rL_law_1414 : pR 3 d 1414 [.ref o, a1, a2, a3, a4, a5, a6] st h = pR 3 d 1415 [.ref o, a1, a2, a3, a4, a5, a6] (.ref o :: st) h := pR_L rfl rfl
theorem rL_law_1414n : pR 3 d 1414 [.null, a1, a2, a3, a4, a5, a6] st h = pR 3 d 1415 [.null, a1, a2, a3, a4, a5, a6] (.null :: st) h := pR_L rfl rfl
theorem rL_law_1415 : pR 3 d 1415 [a0, a1, a2, a3, .int x, a5, a6] st h = pR 3 d 1417 [a0, a1, a2, a3, .int x, a5, a6] (.int x :: st) h := pR_L rfl rfl
theorem rL_law_1417 : pR 3 d 1417 ls st h = pR 3 d 1418 ls (.int 3 :: st) h := pR_L rfl rfl
theorem rL_law_1418 : pR 3 d 1418 ls (.int y :: .int x :: st) h = pR 3 d 1419 ls (.int (x + y) :: st) h := pR_L rfl rfl
theorem rL_law_1419 : pR 3 d 1419 ls (.int x :: .ref o :: st) h = if (pin x (pln h 0 o) || pin x (pln h 9 o)) = true then pR 3 d 1420 ls (.int (pct h o x.toNatClampNeg) :: st) h else none := pR_Lif rfl rfl
theorem rL_law_1420 : pR 3 d 1420 [.ref o, a1, a2, a3, a4, a5, a6] st h = pR 3 d 1421 [.ref o, a1, a2, a3, a4, a5, a6] (.ref o :: st) h := pR_L rfl rfl
theorem rL_law_1420n : pR 3 d 1420 [.null, a1, a2, a3, a4, a5, a6] st h = pR 3 d 1421 [.null, a1, a2, a3, a4, a5, a6] (.null :: st) h := pR_L rfl rfl
theorem rL_law_1421 : pR 3 d 1421 [a0, a1, a2, a3, .int x, a5, a6] st h = pR 3 d 1423 [a0, a1, a2, a3, .int x, a5, a6] (.int x :: st) h := pR_L rfl rfl
theorem rL_law_1423 : pR 3 d 1423 ls st h = pR 3 d 1424 ls (.int 4 :: st) h := pR_L rfl rfl
theorem rL_law_1424 : pR 3 d 1424 ls (.int y :: .int x :: st) h = pR 3 d 1425 ls (.int (x + y) :: st) h := pR_L rfl rfl
theorem rL_law_1425 : pR 3 d 1425 ls (.int x :: .ref o :: st) h = if (pin x (pln h 0 o) || pin x (pln h 9 o)) = true then pR 3 d 1426 ls (.int (pct h o x.toNatClampNeg) :: st) h else none := pR_Lif rfl rfl
theorem rL_law_1426 : pR 3 d 1426 [.ref o, a1, a2, a3, a4, a5, a6] st h = pR 3 d 1427 [.ref o, a1, a2, a3, a4, a5, a6] (.ref o :: st) h := pR_L rfl rfl
theorem rL_law_1426n : pR 3 d 1426 [.null, a1, a2, a3, a4, a5, a6] st h = pR 3 d 1427 [.null, a1, a2, a3, a4, a5, a6] (.null :: st) h := pR_L rfl rfl
theorem rL_law_1427 : pR 3 d 1427 [a0, a1, a2, a3, .int x, a5, a6] st h = pR 3 d 1429 [a0, a1, a2, a3, .int x, a5, a6] (.int x :: st) h := pR_L rfl rfl
theorem rL_law_1429 : pR 3 d 1429 ls st h = pR 3 d 1430 ls (.int 5 :: st) h := pR_L rfl rfl
theorem rL_law_1430 : pR 3 d 1430 ls (.int y :: .int x :: st) h = pR 3 d 1431 ls (.int (x + y) :: st) h := pR_L rfl rfl
theorem rL_law_1431 : pR 3 d 1431 ls (.int x :: .ref o :: st) h = if (pin x (pln h 0 o) || pin x (pln h 9 o)) = true then pR 3 d 1432 ls (.int (pct h o x.toNatClampNeg) :: st) h else none := pR_Lif rfl rfl
theorem rL_law_1432 : pR 3 d 1432 [.ref o, a1, a2, a3, a4, a5, a6] st h = pR 3 d 1433 [.ref o, a1, a2, a3, a4, a5, a6] (.ref o :: st) h := pR_L rfl rfl
theorem rL_law_1432n : pR 3 d 1432 [.null, a1, a2, a3, a4, a5, a6] st h = pR 3 d 1433 [.null, a1, a2, a3, a4, a5, a6] (.null :: st) h := pR_L rfl rfl
theorem rL_law_1433 : pR 3 d 1433 [a0, a1, a2, a3, .int x, a5, a6] st h = pR 3 d 1435 [a0, a1, a2, a3, .int x, a5, a6] (.int x :: st) h := pR_L rfl rfl
theorem rL_law_1435 : pR 3 d 1435 ls st h = pR 3 d 1437 ls (.int 6 :: st) h := pR_L rfl rfl
theorem rL_law_1437 : pR 3 d 1437 ls (.int y :: .int x :: st) h = pR 3 d 1438 ls (.int (x + y) :: st) h := pR_L rfl rfl
theorem rL_law_1438 : pR 3 d 1438 ls (.int x :: .ref o :: st) h = if (pin x (pln h 0 o) || pin x (pln h 9 o)) = true then pR 3 d 1439 ls (.int (pct h o x.toNatClampNeg) :: st) h else none := pR_Lif rfl rfl
theorem rL_law_1439 : pR 3 d 1439 [a0, a1, a2, .ref o, a4, a5, a6] st h = pR 3 d 1440 [a0, a1, a2, .ref o, a4, a5, a6] (.ref o :: st) h := pR_L rfl rfl
theorem rL_law_1439n : pR 3 d 1439 [a0, a1, a2, .null, a4, a5, a6] st h = pR 3 d 1440 [a0, a1, a2, .null, a4, a5, a6] (.null :: st) h := pR_L rfl rfl
theorem rL_law_1440 : pR 3 (d + 1) 1440 ls (b7 :: b6 :: b5 :: b4 :: b3 :: b2 :: b1 :: b0 :: st) h = if pw st = true then pK 3 (d + 1) 1440 3 ls st (pCa 2 d [b0, b1, b2, b3, b4, b5, b6, b7] h) else none := r_callS rfl rfl rfl
theorem rL_law_1443 : pR 3 d 1443 [a0, a1, a2, a3, a4, a5, a6] (.int x :: st) h = if p1 a5 = true then pR 3 d 1445 [a0, a1, a2, a3, a4, .int x, a6] st h else none := r_sto (n := 2) (k := 5) (v := .int x) (ls := [a0, a1, a2, a3, a4, a5, a6]) rfl rfl rfl
theorem rL_law_1445 : pR 3 d 1445 [a0, a1, .ref o, a3, a4, a5, a6] st h = pR 3 d 1446 [a0, a1, .ref o, a3, a4, a5, a6] (.ref o :: st) h := pR_L rfl rfl
theorem rL_law_1445n : pR 3 d 1445 [a0, a1, .null, a3, a4, a5, a6] st h = pR 3 d 1446 [a0, a1, .null, a3, a4, a5, a6] (.null :: st) h := pR_L rfl rfl
theorem rL_law_1446 : pR 3 d 1446 [.ref o, a1, a2, a3, a4, a5, a6] st h = pR 3 d 1447 [.ref o, a1, a2, a3, a4, a5, a6] (.ref o :: st) h := pR_L rfl rfl
theorem rL_law_1446n : pR 3 d 1446 [.null, a1, a2, a3, a4, a5, a6] st h = pR 3 d 1447 [.null, a1, a2, a3, a4, a5, a6] (.null :: st) h := pR_L rfl rfl
theorem rL_law_1447 : pR 3 d 1447 [a0, a1, a2, a3, .int x, a5, a6] st h = pR 3 d 1449 [a0, a1, a2, a3, .int x, a5, a6] (.int x :: st) h := pR_L rfl rfl
theorem rL_law_1449 : pR 3 d 1449 ls st h = pR 3 d 1450 ls (.int 1 :: st) h := pR_L rfl rfl
theorem rL_law_1450 : pR 3 d 1450 ls (.int y :: .int x :: st) h = pR 3 d 1451 ls (.int (x + y) :: st) h := pR_L rfl rfl
theorem rL_law_1451 : pR 3 d 1451 ls (.int x :: .ref o :: st) h = if (pin x (pln h 0 o) || pin x (pln h 9 o)) = true then pR 3 d 1452 ls (.int (pct h o x.toNatClampNeg) :: st) h else none := pR_Lif rfl rfl
theorem rL_law_1452 : pR 3 d 1452 [.ref o, a1, a2, a3, a4, a5, a6] st h = pR 3 d 1453 [.ref o, a1, a2, a3, a4, a5, a6] (.ref o :: st) h := pR_L rfl rfl
theorem rL_law_1452n : pR 3 d 1452 [.null, a1, a2, a3, a4, a5, a6] st h = pR 3 d 1453 [.null, a1, a2, a3, a4, a5, a6] (.null :: st) h := pR_L rfl rfl
theorem rL_law_1453 : pR 3 d 1453 [a0, a1, a2, a3, .int x, a5, a6] st h = pR 3 d 1455 [a0, a1, a2, a3, .int x, a5, a6] (.int x :: st) h := pR_L rfl rfl
theorem rL_law_1455 : pR 3 d 1455 ls st h = pR 3 d 1456 ls (.int 2 :: st) h := pR_L rfl rfl
theorem rL_law_1456 : pR 3 d 1456 ls (.int y :: .int x :: st) h = pR 3 d 1457 ls (.int (x + y) :: st) h := pR_L rfl rfl
theorem rL_law_1457 : pR 3 d 1457 ls (.int x :: .ref o :: st) h = if (pin x (pln h 0 o) || pin x (pln h 9 o)) = true then pR 3 d 1458 ls (.int (pct h o x.toNatClampNeg) :: st) h else none := pR_Lif rfl rfl
theorem rL_law_1458 : pR 3 d 1458 [.ref o, a1, a2, a3, a4, a5, a6] st h = pR 3 d 1459 [.ref o, a1, a2, a3, a4, a5, a6] (.ref o :: st) h := pR_L rfl rfl
theorem rL_law_1458n : pR 3 d 1458 [.null, a1, a2, a3, a4, a5, a6] st h = pR 3 d 1459 [.null, a1, a2, a3, a4, a5, a6] (.null :: st) h := pR_L rfl rfl
theorem rL_law_1459 : pR 3 d 1459 [a0, a1, a2, a3, .int x, a5, a6] st h = pR 3 d 1461 [a0, a1, a2, a3, .int x, a5, a6] (.int x :: st) h := pR_L rfl rfl
theorem rL_law_1461 : pR 3 d 1461 ls st h = pR 3 d 1462 ls (.int 3 :: st) h := pR_L rfl rfl
theorem rL_law_1462 : pR 3 d 1462 ls (.int y :: .int x :: st) h = pR 3 d 1463 ls (.int (x + y) :: st) h := pR_L rfl rfl
theorem rL_law_1463 : pR 3 d 1463 ls (.int x :: .ref o :: st) h = if (pin x (pln h 0 o) || pin x (pln h 9 o)) = true then pR 3 d 1464 ls (.int (pct h o x.toNatClampNeg) :: st) h else none := pR_Lif rfl rfl
theorem rL_law_1464 : pR 3 d 1464 [.ref o, a1, a2, a3, a4, a5, a6] st h = pR 3 d 1465 [.ref o, a1, a2, a3, a4, a5, a6] (.ref o :: st) h := pR_L rfl rfl
theorem rL_law_1464n : pR 3 d 1464 [.null, a1, a2, a3, a4, a5, a6] st h = pR 3 d 1465 [.null, a1, a2, a3, a4, a5, a6] (.null :: st) h := pR_L rfl rfl
theorem rL_law_1465 : pR 3 d 1465 [a0, a1, a2, a3, .int x, a5, a6] st h = pR 3 d 1467 [a0, a1, a2, a3, .int x, a5, a6] (.int x :: st) h := pR_L rfl rfl
theorem rL_law_1467 : pR 3 d 1467 ls st h = pR 3 d 1468 ls (.int 4 :: st) h := pR_L rfl rfl
theorem rL_law_1468 : pR 3 d 1468 ls (.int y :: .int x :: st) h = pR 3 d 1469 ls (.int (x + y) :: st) h := pR_L rfl rfl
theorem rL_law_1469 : pR 3 d 1469 ls (.int x :: .ref o :: st) h = if (pin x (pln h 0 o) || pin x (pln h 9 o)) = true then pR 3 d 1470 ls (.int (pct h o x.toNatClampNeg) :: st) h else none := pR_Lif rfl rfl
theorem rL_law_1470 : pR 3 d 1470 [.ref o, a1, a2, a3, a4, a5, a6] st h = pR 3 d 1471 [.ref o, a1, a2, a3, a4, a5, a6] (.ref o :: st) h := pR_L rfl rfl
theorem rL_law_1470n : pR 3 d 1470 [.null, a1, a2, a3, a4, a5, a6] st h = pR 3 d 1471 [.null, a1, a2, a3, a4, a5, a6] (.null :: st) h := pR_L rfl rfl
theorem rL_law_1471 : pR 3 d 1471 [a0, a1, a2, a3, .int x, a5, a6] st h = pR 3 d 1473 [a0, a1, a2, a3, .int x, a5, a6] (.int x :: st) h := pR_L rfl rfl
theorem rL_law_1473 : pR 3 d 1473 ls st h = pR 3 d 1474 ls (.int 5 :: st) h := pR_L rfl rfl
theorem rL_law_1474 : pR 3 d 1474 ls (.int y :: .int x :: st) h = pR 3 d 1475 ls (.int (x + y) :: st) h := pR_L rfl rfl
theorem rL_law_1475 : pR 3 d 1475 ls (.int x :: .ref o :: st) h = if (pin x (pln h 0 o) || pin x (pln h 9 o)) = true then pR 3 d 1476 ls (.int (pct h o x.toNatClampNeg) :: st) h else none := pR_Lif rfl rfl
theorem rL_law_1476 : pR 3 d 1476 [.ref o, a1, a2, a3, a4, a5, a6] st h = pR 3 d 1477 [.ref o, a1, a2, a3, a4, a5, a6] (.ref o :: st) h := pR_L rfl rfl
theorem rL_law_1476n : pR 3 d 1476 [.null, a1, a2, a3, a4, a5, a6] st h = pR 3 d 1477 [.null, a1, a2, a3, a4, a5, a6] (.null :: st) h := pR_L rfl rfl
theorem rL_law_1477 : pR 3 d 1477 [a0, a1, a2, a3, .int x, a5, a6] st h = pR 3 d 1479 [a0, a1, a2, a3, .int x, a5, a6] (.int x :: st) h := pR_L rfl rfl
theorem rL_law_1479 : pR 3 d 1479 ls st h = pR 3 d 1481 ls (.int 6 :: st) h := pR_L rfl rfl
theorem rL_law_1481 : pR 3 d 1481 ls (.int y :: .int x :: st) h = pR 3 d 1482 ls (.int (x + y) :: st) h := pR_L rfl rfl
theorem rL_law_1482 : pR 3 d 1482 ls (.int x :: .ref o :: st) h = if (pin x (pln h 0 o) || pin x (pln h 9 o)) = true then pR 3 d 1483 ls (.int (pct h o x.toNatClampNeg) :: st) h else none := pR_Lif rfl rfl
theorem rL_law_1483 : pR 3 (d + 1) 1483 ls (b6 :: b5 :: b4 :: b3 :: b2 :: b1 :: .ref o :: st) h = if (pok 3 (pcl h o) && pw st) = true then pK 3 (d + 1) 1483 3 ls st (pCa 102 d [.ref o, b1, b2, b3, b4, b5, b6] h) else none := r_callV rfl rfl rfl
theorem rL_law_1486 : pR 3 d 1486 [a0, a1, a2, a3, a4, a5, a6] (.int x :: st) h = if p1 a6 = true then pR 3 d 1488 [a0, a1, a2, a3, a4, a5, .int x] st h else none := r_sto (n := 2) (k := 6) (v := .int x) (ls := [a0, a1, a2, a3, a4, a5, a6]) rfl rfl rfl
theorem rL_law_1488 : pR 3 d 1488 [a0, a1, .ref o, a3, a4, a5, a6] st h = pR 3 d 1489 [a0, a1, .ref o, a3, a4, a5, a6] (.ref o :: st) h := pR_L rfl rfl
theorem rL_law_1488n : pR 3 d 1488 [a0, a1, .null, a3, a4, a5, a6] st h = pR 3 d 1489 [a0, a1, .null, a3, a4, a5, a6] (.null :: st) h := pR_L rfl rfl
theorem rL_law_1489 : pR 3 (d + 1) 1489 ls (.ref o :: st) h = if (pok 3 (pcl h o) && pw st) = true then pK 3 (d + 1) 1489 3 ls st (pCa 67 d [.ref o] h) else none := r_callV rfl rfl rfl
theorem rL_law_1492 : pR 3 d 1492 [a0, a1, a2, a3, a4, .int x, a6] st h = pR 3 d 1494 [a0, a1, a2, a3, a4, .int x, a6] (.int x :: st) h := pR_L rfl rfl
theorem rL_law_1494 : pR 3 d 1494 ls (.int y :: .int x :: st) h = if x = y then pR 3 d 1499 ls st h else pR 3 d 1497 ls st h := r_ceq rfl rfl
theorem rL_law_1497 : pR 3 d 1497 ls st h = pR 3 d 1498 ls (.int 0 :: st) h := pR_L rfl rfl
theorem rL_law_14980 : pR 3 d 1498 ls [.int 0] h = some (.inl (some (.int 0)), h) := pR_E rfl rfl
theorem rL_law_14981 : pR 3 d 1498 ls [.int 1] h = some (.inl (some (.int 1)), h) := pR_E rfl rfl
theorem rL_law_1499 : pR 3 d 1499 [a0, a1, a2, a3, a4, .int x, a6] st h = pR 3 d 1501 [a0, a1, a2, a3, a4, .int x, a6] (.int x :: st) h := pR_L rfl rfl
theorem rL_law_1501 : pR 3 d 1501 ls (.int x :: st) h = if x = 0 then pR 3 d 1504 ls st h else pR 3 d 1516 ls st h := r_ine rfl rfl
theorem rL_law_1504 : pR 3 d 1504 [a0, a1, a2, .ref o, a4, a5, a6] st h = pR 3 d 1505 [a0, a1, a2, .ref o, a4, a5, a6] (.ref o :: st) h := pR_L rfl rfl
theorem rL_law_1504n : pR 3 d 1504 [a0, a1, a2, .null, a4, a5, a6] st h = pR 3 d 1505 [a0, a1, a2, .null, a4, a5, a6] (.null :: st) h := pR_L rfl rfl
theorem rL_law_1505 : pR 3 d 1505 ls st h = pR 3 d 1506 ls (.int 0 :: st) h := pR_L rfl rfl
theorem rL_law_1506 : pR 3 d 1506 ls (.int x :: .ref o :: st) h = if pin x (plnL h o) = true then pR 3 d 1507 ls (.long (pctL h o x.toNatClampNeg) :: st) h else none := pR_Lif rfl rfl
theorem rL_law_1507 : pR 3 d 1507 [a0, a1, a2, a3, a4, a5, .int x] st h = pR 3 d 1509 [a0, a1, a2, a3, a4, a5, .int x] (.int x :: st) h := pR_L rfl rfl
theorem rL_law_1509 : pR 3 d 1509 ls (.int x :: st) h = pR 3 d 1510 ls (.long x.toInt64 :: st) h := pR_L rfl rfl
theorem rL_law_1510 : pR 3 d 1510 ls (.long ly :: .long lx :: st) h = pR 3 d 1511 ls (.int (lg_cmp lx ly) :: st) h := pR_L rfl rfl
theorem rL_law_1511 : pR 3 d 1511 ls (.int x :: st) h = if x = 0 then pR 3 d 1516 ls st h else pR 3 d 1514 ls st h := r_ieq rfl rfl
theorem rL_law_1514 : pR 3 d 1514 ls st h = pR 3 d 1515 ls (.int 0 :: st) h := pR_L rfl rfl
theorem rL_law_15150 : pR 3 d 1515 ls [.int 0] h = some (.inl (some (.int 0)), h) := pR_E rfl rfl
theorem rL_law_15151 : pR 3 d 1515 ls [.int 1] h = some (.inl (some (.int 1)), h) := pR_E rfl rfl
theorem rL_law_1516 : pR 3 d 1516 ls st h = pR 3 d 1654 ls st h := pR_L rfl rfl
theorem rL_law_1519 : pR 3 d 1519 [a0, .ref o, a2, a3, a4, a5, a6] st h = pR 3 d 1520 [a0, .ref o, a2, a3, a4, a5, a6] (.ref o :: st) h := pR_L rfl rfl
theorem rL_law_1519n : pR 3 d 1519 [a0, .null, a2, a3, a4, a5, a6] st h = pR 3 d 1520 [a0, .null, a2, a3, a4, a5, a6] (.null :: st) h := pR_L rfl rfl
theorem rL_law_1520 : pR 3 d 1520 [.ref o, a1, a2, a3, a4, a5, a6] st h = pR 3 d 1521 [.ref o, a1, a2, a3, a4, a5, a6] (.ref o :: st) h := pR_L rfl rfl
theorem rL_law_1520n : pR 3 d 1520 [.null, a1, a2, a3, a4, a5, a6] st h = pR 3 d 1521 [.null, a1, a2, a3, a4, a5, a6] (.null :: st) h := pR_L rfl rfl
theorem rL_law_1521 : pR 3 d 1521 [a0, a1, a2, a3, .int x, a5, a6] st h = pR 3 d 1523 [a0, a1, a2, a3, .int x, a5, a6] (.int x :: st) h := pR_L rfl rfl
theorem rL_law_1523 : pR 3 d 1523 ls st h = pR 3 d 1524 ls (.int 1 :: st) h := pR_L rfl rfl
theorem rL_law_1524 : pR 3 d 1524 ls (.int y :: .int x :: st) h = pR 3 d 1525 ls (.int (x + y) :: st) h := pR_L rfl rfl
theorem rL_law_1525 : pR 3 d 1525 ls (.int x :: .ref o :: st) h = if (pin x (pln h 0 o) || pin x (pln h 9 o)) = true then pR 3 d 1526 ls (.int (pct h o x.toNatClampNeg) :: st) h else none := pR_Lif rfl rfl
theorem rL_law_1526 : pR 3 d 1526 [.ref o, a1, a2, a3, a4, a5, a6] st h = pR 3 d 1527 [.ref o, a1, a2, a3, a4, a5, a6] (.ref o :: st) h := pR_L rfl rfl
theorem rL_law_1526n : pR 3 d 1526 [.null, a1, a2, a3, a4, a5, a6] st h = pR 3 d 1527 [.null, a1, a2, a3, a4, a5, a6] (.null :: st) h := pR_L rfl rfl
theorem rL_law_1527 : pR 3 d 1527 [a0, a1, a2, a3, .int x, a5, a6] st h = pR 3 d 1529 [a0, a1, a2, a3, .int x, a5, a6] (.int x :: st) h := pR_L rfl rfl
theorem rL_law_1529 : pR 3 d 1529 ls st h = pR 3 d 1530 ls (.int 2 :: st) h := pR_L rfl rfl
theorem rL_law_1530 : pR 3 d 1530 ls (.int y :: .int x :: st) h = pR 3 d 1531 ls (.int (x + y) :: st) h := pR_L rfl rfl
theorem rL_law_1531 : pR 3 d 1531 ls (.int x :: .ref o :: st) h = if (pin x (pln h 0 o) || pin x (pln h 9 o)) = true then pR 3 d 1532 ls (.int (pct h o x.toNatClampNeg) :: st) h else none := pR_Lif rfl rfl
theorem rL_law_1532 : pR 3 d 1532 [.ref o, a1, a2, a3, a4, a5, a6] st h = pR 3 d 1533 [.ref o, a1, a2, a3, a4, a5, a6] (.ref o :: st) h := pR_L rfl rfl
theorem rL_law_1532n : pR 3 d 1532 [.null, a1, a2, a3, a4, a5, a6] st h = pR 3 d 1533 [.null, a1, a2, a3, a4, a5, a6] (.null :: st) h := pR_L rfl rfl
theorem rL_law_1533 : pR 3 d 1533 [a0, a1, a2, a3, .int x, a5, a6] st h = pR 3 d 1535 [a0, a1, a2, a3, .int x, a5, a6] (.int x :: st) h := pR_L rfl rfl
theorem rL_law_1535 : pR 3 d 1535 ls st h = pR 3 d 1536 ls (.int 3 :: st) h := pR_L rfl rfl
theorem rL_law_1536 : pR 3 d 1536 ls (.int y :: .int x :: st) h = pR 3 d 1537 ls (.int (x + y) :: st) h := pR_L rfl rfl
theorem rL_law_1537 : pR 3 d 1537 ls (.int x :: .ref o :: st) h = if (pin x (pln h 0 o) || pin x (pln h 9 o)) = true then pR 3 d 1538 ls (.int (pct h o x.toNatClampNeg) :: st) h else none := pR_Lif rfl rfl
theorem rL_law_1538 : pR 3 d 1538 [.ref o, a1, a2, a3, a4, a5, a6] st h = pR 3 d 1539 [.ref o, a1, a2, a3, a4, a5, a6] (.ref o :: st) h := pR_L rfl rfl
theorem rL_law_1538n : pR 3 d 1538 [.null, a1, a2, a3, a4, a5, a6] st h = pR 3 d 1539 [.null, a1, a2, a3, a4, a5, a6] (.null :: st) h := pR_L rfl rfl
theorem rL_law_1539 : pR 3 d 1539 [a0, a1, a2, a3, .int x, a5, a6] st h = pR 3 d 1541 [a0, a1, a2, a3, .int x, a5, a6] (.int x :: st) h := pR_L rfl rfl
theorem rL_law_1541 : pR 3 d 1541 ls st h = pR 3 d 1542 ls (.int 4 :: st) h := pR_L rfl rfl
theorem rL_law_1542 : pR 3 d 1542 ls (.int y :: .int x :: st) h = pR 3 d 1543 ls (.int (x + y) :: st) h := pR_L rfl rfl
theorem rL_law_1543 : pR 3 d 1543 ls (.int x :: .ref o :: st) h = if (pin x (pln h 0 o) || pin x (pln h 9 o)) = true then pR 3 d 1544 ls (.int (pct h o x.toNatClampNeg) :: st) h else none := pR_Lif rfl rfl
theorem rL_law_1544 : pR 3 (d + 1) 1544 ls (b4 :: b3 :: b2 :: b1 :: .ref o :: st) h = if (pok 1 (pcl h o) && pw st) = true then pK 3 (d + 1) 1544 3 ls st (pCa 55 d [.ref o, b1, b2, b3, b4] h) else none := r_callV rfl rfl rfl
theorem rL_law_1547 : pR 3 d 1547 [a0, a1, .ref o, a3, a4, a5, a6] st h = pR 3 d 1548 [a0, a1, .ref o, a3, a4, a5, a6] (.ref o :: st) h := pR_L rfl rfl
theorem rL_law_1547n : pR 3 d 1547 [a0, a1, .null, a3, a4, a5, a6] st h = pR 3 d 1548 [a0, a1, .null, a3, a4, a5, a6] (.null :: st) h := pR_L rfl rfl
theorem rL_law_1548 : pR 3 d 1548 [.ref o, a1, a2, a3, a4, a5, a6] st h = pR 3 d 1549 [.ref o, a1, a2, a3, a4, a5, a6] (.ref o :: st) h := pR_L rfl rfl
theorem rL_law_1548n : pR 3 d 1548 [.null, a1, a2, a3, a4, a5, a6] st h = pR 3 d 1549 [.null, a1, a2, a3, a4, a5, a6] (.null :: st) h := pR_L rfl rfl
theorem rL_law_1549 : pR 3 d 1549 [a0, a1, a2, a3, .int x, a5, a6] st h = pR 3 d 1551 [a0, a1, a2, a3, .int x, a5, a6] (.int x :: st) h := pR_L rfl rfl
theorem rL_law_1551 : pR 3 d 1551 ls st h = pR 3 d 1552 ls (.int 1 :: st) h := pR_L rfl rfl
theorem rL_law_1552 : pR 3 d 1552 ls (.int y :: .int x :: st) h = pR 3 d 1553 ls (.int (x + y) :: st) h := pR_L rfl rfl
theorem rL_law_1553 : pR 3 d 1553 ls (.int x :: .ref o :: st) h = if (pin x (pln h 0 o) || pin x (pln h 9 o)) = true then pR 3 d 1554 ls (.int (pct h o x.toNatClampNeg) :: st) h else none := pR_Lif rfl rfl
theorem rL_law_1554 : pR 3 d 1554 [.ref o, a1, a2, a3, a4, a5, a6] st h = pR 3 d 1555 [.ref o, a1, a2, a3, a4, a5, a6] (.ref o :: st) h := pR_L rfl rfl
theorem rL_law_1554n : pR 3 d 1554 [.null, a1, a2, a3, a4, a5, a6] st h = pR 3 d 1555 [.null, a1, a2, a3, a4, a5, a6] (.null :: st) h := pR_L rfl rfl
theorem rL_law_1555 : pR 3 d 1555 [a0, a1, a2, a3, .int x, a5, a6] st h = pR 3 d 1557 [a0, a1, a2, a3, .int x, a5, a6] (.int x :: st) h := pR_L rfl rfl
theorem rL_law_1557 : pR 3 d 1557 ls st h = pR 3 d 1558 ls (.int 2 :: st) h := pR_L rfl rfl
theorem rL_law_1558 : pR 3 d 1558 ls (.int y :: .int x :: st) h = pR 3 d 1559 ls (.int (x + y) :: st) h := pR_L rfl rfl
theorem rL_law_1559 : pR 3 d 1559 ls (.int x :: .ref o :: st) h = if (pin x (pln h 0 o) || pin x (pln h 9 o)) = true then pR 3 d 1560 ls (.int (pct h o x.toNatClampNeg) :: st) h else none := pR_Lif rfl rfl
theorem rL_law_1560 : pR 3 d 1560 [.ref o, a1, a2, a3, a4, a5, a6] st h = pR 3 d 1561 [.ref o, a1, a2, a3, a4, a5, a6] (.ref o :: st) h := pR_L rfl rfl
theorem rL_law_1560n : pR 3 d 1560 [.null, a1, a2, a3, a4, a5, a6] st h = pR 3 d 1561 [.null, a1, a2, a3, a4, a5, a6] (.null :: st) h := pR_L rfl rfl
theorem rL_law_1561 : pR 3 d 1561 [a0, a1, a2, a3, .int x, a5, a6] st h = pR 3 d 1563 [a0, a1, a2, a3, .int x, a5, a6] (.int x :: st) h := pR_L rfl rfl
theorem rL_law_1563 : pR 3 d 1563 ls st h = pR 3 d 1564 ls (.int 3 :: st) h := pR_L rfl rfl
theorem rL_law_1564 : pR 3 d 1564 ls (.int y :: .int x :: st) h = pR 3 d 1565 ls (.int (x + y) :: st) h := pR_L rfl rfl
theorem rL_law_1565 : pR 3 d 1565 ls (.int x :: .ref o :: st) h = if (pin x (pln h 0 o) || pin x (pln h 9 o)) = true then pR 3 d 1566 ls (.int (pct h o x.toNatClampNeg) :: st) h else none := pR_Lif rfl rfl
theorem rL_law_1566 : pR 3 d 1566 [.ref o, a1, a2, a3, a4, a5, a6] st h = pR 3 d 1567 [.ref o, a1, a2, a3, a4, a5, a6] (.ref o :: st) h := pR_L rfl rfl
theorem rL_law_1566n : pR 3 d 1566 [.null, a1, a2, a3, a4, a5, a6] st h = pR 3 d 1567 [.null, a1, a2, a3, a4, a5, a6] (.null :: st) h := pR_L rfl rfl
theorem rL_law_1567 : pR 3 d 1567 [a0, a1, a2, a3, .int x, a5, a6] st h = pR 3 d 1569 [a0, a1, a2, a3, .int x, a5, a6] (.int x :: st) h := pR_L rfl rfl
theorem rL_law_1569 : pR 3 d 1569 ls st h = pR 3 d 1570 ls (.int 4 :: st) h := pR_L rfl rfl
theorem rL_law_1570 : pR 3 d 1570 ls (.int y :: .int x :: st) h = pR 3 d 1571 ls (.int (x + y) :: st) h := pR_L rfl rfl
theorem rL_law_1571 : pR 3 d 1571 ls (.int x :: .ref o :: st) h = if (pin x (pln h 0 o) || pin x (pln h 9 o)) = true then pR 3 d 1572 ls (.int (pct h o x.toNatClampNeg) :: st) h else none := pR_Lif rfl rfl
theorem rL_law_1572 : pR 3 (d + 1) 1572 ls (b4 :: b3 :: b2 :: b1 :: .ref o :: st) h = if (pok 3 (pcl h o) && pw st) = true then pK 3 (d + 1) 1572 3 ls st (pCa 163 d [.ref o, b1, b2, b3, b4] h) else none := r_callV rfl rfl rfl
theorem rL_law_1575 : pR 3 d 1575 ls (.int y :: .int x :: st) h = if x = y then pR 3 d 1654 ls st h else pR 3 d 1578 ls st h := r_ceq rfl rfl
theorem rL_law_1578 : pR 3 d 1578 ls st h = pR 3 d 1579 ls (.int 0 :: st) h := pR_L rfl rfl
theorem rL_law_15790 : pR 3 d 1579 ls [.int 0] h = some (.inl (some (.int 0)), h) := pR_E rfl rfl
theorem rL_law_15791 : pR 3 d 1579 ls [.int 1] h = some (.inl (some (.int 1)), h) := pR_E rfl rfl
theorem rL_law_1580 : pR 3 d 1580 [a0, .ref o, a2, a3, a4, a5, a6] st h = pR 3 d 1581 [a0, .ref o, a2, a3, a4, a5, a6] (.ref o :: st) h := pR_L rfl rfl
theorem rL_law_1580n : pR 3 d 1580 [a0, .null, a2, a3, a4, a5, a6] st h = pR 3 d 1581 [a0, .null, a2, a3, a4, a5, a6] (.null :: st) h := pR_L rfl rfl
theorem rL_law_1581 : pR 3 d 1581 [.ref o, a1, a2, a3, a4, a5, a6] st h = pR 3 d 1582 [.ref o, a1, a2, a3, a4, a5, a6] (.ref o :: st) h := pR_L rfl rfl
theorem rL_law_1581n : pR 3 d 1581 [.null, a1, a2, a3, a4, a5, a6] st h = pR 3 d 1582 [.null, a1, a2, a3, a4, a5, a6] (.null :: st) h := pR_L rfl rfl
theorem rL_law_1582 : pR 3 d 1582 [a0, a1, a2, a3, .int x, a5, a6] st h = pR 3 d 1584 [a0, a1, a2, a3, .int x, a5, a6] (.int x :: st) h := pR_L rfl rfl
theorem rL_law_1584 : pR 3 d 1584 ls st h = pR 3 d 1585 ls (.int 1 :: st) h := pR_L rfl rfl
theorem rL_law_1585 : pR 3 d 1585 ls (.int y :: .int x :: st) h = pR 3 d 1586 ls (.int (x + y) :: st) h := pR_L rfl rfl
theorem rL_law_1586 : pR 3 d 1586 ls (.int x :: .ref o :: st) h = if (pin x (pln h 0 o) || pin x (pln h 9 o)) = true then pR 3 d 1587 ls (.int (pct h o x.toNatClampNeg) :: st) h else none := pR_Lif rfl rfl
theorem rL_law_1587 : pR 3 d 1587 [.ref o, a1, a2, a3, a4, a5, a6] st h = pR 3 d 1588 [.ref o, a1, a2, a3, a4, a5, a6] (.ref o :: st) h := pR_L rfl rfl
theorem rL_law_1587n : pR 3 d 1587 [.null, a1, a2, a3, a4, a5, a6] st h = pR 3 d 1588 [.null, a1, a2, a3, a4, a5, a6] (.null :: st) h := pR_L rfl rfl
theorem rL_law_1588 : pR 3 d 1588 [a0, a1, a2, a3, .int x, a5, a6] st h = pR 3 d 1590 [a0, a1, a2, a3, .int x, a5, a6] (.int x :: st) h := pR_L rfl rfl
theorem rL_law_1590 : pR 3 d 1590 ls st h = pR 3 d 1591 ls (.int 2 :: st) h := pR_L rfl rfl
theorem rL_law_1591 : pR 3 d 1591 ls (.int y :: .int x :: st) h = pR 3 d 1592 ls (.int (x + y) :: st) h := pR_L rfl rfl
theorem rL_law_1592 : pR 3 d 1592 ls (.int x :: .ref o :: st) h = if (pin x (pln h 0 o) || pin x (pln h 9 o)) = true then pR 3 d 1593 ls (.int (pct h o x.toNatClampNeg) :: st) h else none := pR_Lif rfl rfl
theorem rL_law_1593 : pR 3 d 1593 [.ref o, a1, a2, a3, a4, a5, a6] st h = pR 3 d 1594 [.ref o, a1, a2, a3, a4, a5, a6] (.ref o :: st) h := pR_L rfl rfl
theorem rL_law_1593n : pR 3 d 1593 [.null, a1, a2, a3, a4, a5, a6] st h = pR 3 d 1594 [.null, a1, a2, a3, a4, a5, a6] (.null :: st) h := pR_L rfl rfl
theorem rL_law_1594 : pR 3 d 1594 [a0, a1, a2, a3, .int x, a5, a6] st h = pR 3 d 1596 [a0, a1, a2, a3, .int x, a5, a6] (.int x :: st) h := pR_L rfl rfl
theorem rL_law_1596 : pR 3 d 1596 ls st h = pR 3 d 1597 ls (.int 3 :: st) h := pR_L rfl rfl
theorem rL_law_1597 : pR 3 d 1597 ls (.int y :: .int x :: st) h = pR 3 d 1598 ls (.int (x + y) :: st) h := pR_L rfl rfl
theorem rL_law_1598 : pR 3 d 1598 ls (.int x :: .ref o :: st) h = if (pin x (pln h 0 o) || pin x (pln h 9 o)) = true then pR 3 d 1599 ls (.int (pct h o x.toNatClampNeg) :: st) h else none := pR_Lif rfl rfl
theorem rL_law_1599 : pR 3 (d + 1) 1599 ls (b3 :: b2 :: b1 :: .ref o :: st) h = if (pok 1 (pcl h o) && pw st) = true then pK 3 (d + 1) 1599 3 ls st (pCa 60 d [.ref o, b1, b2, b3] h) else none := r_callV rfl rfl rfl
theorem rL_law_1602 : pR 3 d 1602 [a0, a1, .ref o, a3, a4, a5, a6] st h = pR 3 d 1603 [a0, a1, .ref o, a3, a4, a5, a6] (.ref o :: st) h := pR_L rfl rfl
theorem rL_law_1602n : pR 3 d 1602 [a0, a1, .null, a3, a4, a5, a6] st h = pR 3 d 1603 [a0, a1, .null, a3, a4, a5, a6] (.null :: st) h := pR_L rfl rfl
theorem rL_law_1603 : pR 3 d 1603 [.ref o, a1, a2, a3, a4, a5, a6] st h = pR 3 d 1604 [.ref o, a1, a2, a3, a4, a5, a6] (.ref o :: st) h := pR_L rfl rfl
theorem rL_law_1603n : pR 3 d 1603 [.null, a1, a2, a3, a4, a5, a6] st h = pR 3 d 1604 [.null, a1, a2, a3, a4, a5, a6] (.null :: st) h := pR_L rfl rfl
theorem rL_law_1604 : pR 3 d 1604 [a0, a1, a2, a3, .int x, a5, a6] st h = pR 3 d 1606 [a0, a1, a2, a3, .int x, a5, a6] (.int x :: st) h := pR_L rfl rfl
theorem rL_law_1606 : pR 3 d 1606 ls st h = pR 3 d 1607 ls (.int 1 :: st) h := pR_L rfl rfl
theorem rL_law_1607 : pR 3 d 1607 ls (.int y :: .int x :: st) h = pR 3 d 1608 ls (.int (x + y) :: st) h := pR_L rfl rfl
theorem rL_law_1608 : pR 3 d 1608 ls (.int x :: .ref o :: st) h = if (pin x (pln h 0 o) || pin x (pln h 9 o)) = true then pR 3 d 1609 ls (.int (pct h o x.toNatClampNeg) :: st) h else none := pR_Lif rfl rfl
theorem rL_law_1609 : pR 3 d 1609 [.ref o, a1, a2, a3, a4, a5, a6] st h = pR 3 d 1610 [.ref o, a1, a2, a3, a4, a5, a6] (.ref o :: st) h := pR_L rfl rfl
theorem rL_law_1609n : pR 3 d 1609 [.null, a1, a2, a3, a4, a5, a6] st h = pR 3 d 1610 [.null, a1, a2, a3, a4, a5, a6] (.null :: st) h := pR_L rfl rfl
theorem rL_law_1610 : pR 3 d 1610 [a0, a1, a2, a3, .int x, a5, a6] st h = pR 3 d 1612 [a0, a1, a2, a3, .int x, a5, a6] (.int x :: st) h := pR_L rfl rfl
theorem rL_law_1612 : pR 3 d 1612 ls st h = pR 3 d 1613 ls (.int 2 :: st) h := pR_L rfl rfl
theorem rL_law_1613 : pR 3 d 1613 ls (.int y :: .int x :: st) h = pR 3 d 1614 ls (.int (x + y) :: st) h := pR_L rfl rfl
theorem rL_law_1614 : pR 3 d 1614 ls (.int x :: .ref o :: st) h = if (pin x (pln h 0 o) || pin x (pln h 9 o)) = true then pR 3 d 1615 ls (.int (pct h o x.toNatClampNeg) :: st) h else none := pR_Lif rfl rfl
theorem rL_law_1615 : pR 3 d 1615 [.ref o, a1, a2, a3, a4, a5, a6] st h = pR 3 d 1616 [.ref o, a1, a2, a3, a4, a5, a6] (.ref o :: st) h := pR_L rfl rfl
theorem rL_law_1615n : pR 3 d 1615 [.null, a1, a2, a3, a4, a5, a6] st h = pR 3 d 1616 [.null, a1, a2, a3, a4, a5, a6] (.null :: st) h := pR_L rfl rfl
theorem rL_law_1616 : pR 3 d 1616 [a0, a1, a2, a3, .int x, a5, a6] st h = pR 3 d 1618 [a0, a1, a2, a3, .int x, a5, a6] (.int x :: st) h := pR_L rfl rfl
theorem rL_law_1618 : pR 3 d 1618 ls st h = pR 3 d 1619 ls (.int 3 :: st) h := pR_L rfl rfl
theorem rL_law_1619 : pR 3 d 1619 ls (.int y :: .int x :: st) h = pR 3 d 1620 ls (.int (x + y) :: st) h := pR_L rfl rfl
theorem rL_law_1620 : pR 3 d 1620 ls (.int x :: .ref o :: st) h = if (pin x (pln h 0 o) || pin x (pln h 9 o)) = true then pR 3 d 1621 ls (.int (pct h o x.toNatClampNeg) :: st) h else none := pR_Lif rfl rfl
theorem rL_law_1621 : pR 3 (d + 1) 1621 ls (b3 :: b2 :: b1 :: .ref o :: st) h = if (pok 3 (pcl h o) && pw st) = true then pK 3 (d + 1) 1621 3 ls st (pCa 166 d [.ref o, b1, b2, b3] h) else none := r_callV rfl rfl rfl
theorem rL_law_1624 : pR 3 d 1624 ls (.int y :: .int x :: st) h = if x = y then pR 3 d 1654 ls st h else pR 3 d 1627 ls st h := r_ceq rfl rfl
theorem rL_law_1627 : pR 3 d 1627 ls st h = pR 3 d 1628 ls (.int 0 :: st) h := pR_L rfl rfl
theorem rL_law_16280 : pR 3 d 1628 ls [.int 0] h = some (.inl (some (.int 0)), h) := pR_E rfl rfl
theorem rL_law_16281 : pR 3 d 1628 ls [.int 1] h = some (.inl (some (.int 1)), h) := pR_E rfl rfl
theorem rL_law_1629 : pR 3 d 1629 [a0, .ref o, a2, a3, a4, a5, a6] st h = pR 3 d 1630 [a0, .ref o, a2, a3, a4, a5, a6] (.ref o :: st) h := pR_L rfl rfl
theorem rL_law_1629n : pR 3 d 1629 [a0, .null, a2, a3, a4, a5, a6] st h = pR 3 d 1630 [a0, .null, a2, a3, a4, a5, a6] (.null :: st) h := pR_L rfl rfl
theorem rL_law_1630 : pR 3 d 1630 [.ref o, a1, a2, a3, a4, a5, a6] st h = pR 3 d 1631 [.ref o, a1, a2, a3, a4, a5, a6] (.ref o :: st) h := pR_L rfl rfl
theorem rL_law_1630n : pR 3 d 1630 [.null, a1, a2, a3, a4, a5, a6] st h = pR 3 d 1631 [.null, a1, a2, a3, a4, a5, a6] (.null :: st) h := pR_L rfl rfl
theorem rL_law_1631 : pR 3 d 1631 [a0, a1, a2, a3, .int x, a5, a6] st h = pR 3 d 1633 [a0, a1, a2, a3, .int x, a5, a6] (.int x :: st) h := pR_L rfl rfl
theorem rL_law_1633 : pR 3 d 1633 ls st h = pR 3 d 1634 ls (.int 1 :: st) h := pR_L rfl rfl
theorem rL_law_1634 : pR 3 d 1634 ls (.int y :: .int x :: st) h = pR 3 d 1635 ls (.int (x + y) :: st) h := pR_L rfl rfl
theorem rL_law_1635 : pR 3 d 1635 ls (.int x :: .ref o :: st) h = if (pin x (pln h 0 o) || pin x (pln h 9 o)) = true then pR 3 d 1636 ls (.int (pct h o x.toNatClampNeg) :: st) h else none := pR_Lif rfl rfl
theorem rL_law_1636 : pR 3 (d + 1) 1636 ls (b1 :: .ref o :: st) h = if (pok 1 (pcl h o) && pw st) = true then pK 3 (d + 1) 1636 3 ls st (pCa 61 d [.ref o, b1] h) else none := r_callV rfl rfl rfl
theorem rL_law_1639 : pR 3 d 1639 [a0, a1, .ref o, a3, a4, a5, a6] st h = pR 3 d 1640 [a0, a1, .ref o, a3, a4, a5, a6] (.ref o :: st) h := pR_L rfl rfl
theorem rL_law_1639n : pR 3 d 1639 [a0, a1, .null, a3, a4, a5, a6] st h = pR 3 d 1640 [a0, a1, .null, a3, a4, a5, a6] (.null :: st) h := pR_L rfl rfl
theorem rL_law_1640 : pR 3 d 1640 [.ref o, a1, a2, a3, a4, a5, a6] st h = pR 3 d 1641 [.ref o, a1, a2, a3, a4, a5, a6] (.ref o :: st) h := pR_L rfl rfl
theorem rL_law_1640n : pR 3 d 1640 [.null, a1, a2, a3, a4, a5, a6] st h = pR 3 d 1641 [.null, a1, a2, a3, a4, a5, a6] (.null :: st) h := pR_L rfl rfl
theorem rL_law_1641 : pR 3 d 1641 [a0, a1, a2, a3, .int x, a5, a6] st h = pR 3 d 1643 [a0, a1, a2, a3, .int x, a5, a6] (.int x :: st) h := pR_L rfl rfl
theorem rL_law_1643 : pR 3 d 1643 ls st h = pR 3 d 1644 ls (.int 1 :: st) h := pR_L rfl rfl
theorem rL_law_1644 : pR 3 d 1644 ls (.int y :: .int x :: st) h = pR 3 d 1645 ls (.int (x + y) :: st) h := pR_L rfl rfl
theorem rL_law_1645 : pR 3 d 1645 ls (.int x :: .ref o :: st) h = if (pin x (pln h 0 o) || pin x (pln h 9 o)) = true then pR 3 d 1646 ls (.int (pct h o x.toNatClampNeg) :: st) h else none := pR_Lif rfl rfl
theorem rL_law_1646 : pR 3 (d + 1) 1646 ls (b1 :: .ref o :: st) h = if (pok 3 (pcl h o) && pw st) = true then pK 3 (d + 1) 1646 3 ls st (pCa 167 d [.ref o, b1] h) else none := r_callV rfl rfl rfl
theorem rL_law_1649 : pR 3 d 1649 ls (.int y :: .int x :: st) h = if x = y then pR 3 d 1654 ls st h else pR 3 d 1652 ls st h := r_ceq rfl rfl
theorem rL_law_1652 : pR 3 d 1652 ls st h = pR 3 d 1653 ls (.int 0 :: st) h := pR_L rfl rfl
theorem rL_law_16530 : pR 3 d 1653 ls [.int 0] h = some (.inl (some (.int 0)), h) := pR_E rfl rfl
theorem rL_law_16531 : pR 3 d 1653 ls [.int 1] h = some (.inl (some (.int 1)), h) := pR_E rfl rfl
theorem rL_law_1654 : pR 3 d 1654 [a0, a1, a2, a3, .int x, a5, a6] st h = pR 3 d 1657 [a0, a1, a2, a3, .int (x + 7), a5, a6] st h := pR_L rfl rfl
theorem rL_law_1657 : pR 3 d 1657 ls st h = pR 3 d 23 ls st h := pR_L rfl rfl
theorem rL_law_1660 : pR 3 d 1660 ls st h = pR 3 d 1661 ls (.int 1 :: st) h := pR_L rfl rfl
theorem rL_law_16610 : pR 3 d 1661 ls [.int 0] h = some (.inl (some (.int 0)), h) := pR_E rfl rfl
theorem rL_law_16611 : pR 3 d 1661 ls [.int 1] h = some (.inl (some (.int 1)), h) := pR_E rfl rfl
end
