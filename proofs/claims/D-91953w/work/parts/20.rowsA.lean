/-! rows: one equation an instruction, printed by gen.py -/
set_option maxRecDepth 100000
section
variable {d o o2 : Nat} {ls st : List Value} {h : pH} {x y x3 : Int32} {lx ly : Int64} {a0 a1 a2 a3 a4 a5 a6 a7 a8 a9 a10 a11 a12 a13 a14 : Value} {b0 b1 b2 b3 b4 b5 b6 b7 b8 : Value} {x0 x1 x2 x4 x5 x6 x7 x8 : Int32} {l0 l1 l2 l3 l4 l5 l6 l7 l8 : Int64} {r0 r1 r2 r3 r4 r5 r6 r7 r8 : Nat}
-- 0 BalloonStallLaw bubble (LBalloonStall;III[J)I
theorem eX0_bubble : pCa 0 d [.ref r0, .int x1, .int x2, .int x3, .ref r4] h = pR 0 d 0 [.ref r0, .int x1, .int x2, .int x3, .ref r4, pU] [] h := rfl
theorem rX0_bubble_0 : pR 0 d 0 [a0, a1, a2, a3, .ref o, a5] st h = pR 0 d 2 [a0, a1, a2, a3, .ref o, a5] (.ref o :: st) h := pR_L rfl rfl
theorem rX0_bubble_0n : pR 0 d 0 [a0, a1, a2, a3, .null, a5] st h = pR 0 d 2 [a0, a1, a2, a3, .null, a5] (.null :: st) h := pR_L rfl rfl
theorem rX0_bubble_2 : pR 0 d 2 ls st h = pR 0 d 3 ls (.int 0 :: st) h := pR_L rfl rfl
theorem rX0_bubble_3 : pR 0 d 3 [.ref o, a1, a2, a3, a4, a5] st h = pR 0 d 4 [.ref o, a1, a2, a3, a4, a5] (.ref o :: st) h := pR_L rfl rfl
theorem rX0_bubble_3n : pR 0 d 3 [.null, a1, a2, a3, a4, a5] st h = pR 0 d 4 [.null, a1, a2, a3, a4, a5] (.null :: st) h := pR_L rfl rfl
theorem rX0_bubble_4 : pR 0 d 4 [a0, .int x, a2, a3, a4, a5] st h = pR 0 d 5 [a0, .int x, a2, a3, a4, a5] (.int x :: st) h := pR_L rfl rfl
theorem rX0_bubble_5 : pR 0 d 5 [a0, a1, .int x, a3, a4, a5] st h = pR 0 d 6 [a0, a1, .int x, a3, a4, a5] (.int x :: st) h := pR_L rfl rfl
theorem rX0_bubble_6 : pR 0 d 6 [a0, a1, a2, .int x, a4, a5] st h = pR 0 d 7 [a0, a1, a2, .int x, a4, a5] (.int x :: st) h := pR_L rfl rfl
theorem rX0_bubble_7 : pR 0 (d + 1) 7 ls (b3 :: b2 :: b1 :: .ref o :: st) h = if (pok 1 (pcl h o) && pw st) = true then pK 0 (d + 1) 7 3 ls st (pCa 62 d [.ref o, b1, b2, b3] h) else none := r_callV rfl rfl rfl
theorem rX0_bubble_10 : pR 0 d 10 ls (.int x :: st) h = pR 0 d 11 ls (.long x.toInt64 :: st) h := pR_L rfl rfl
theorem rX0_bubble_11 : pR 0 d 11 ls (.long ly :: .int x :: .ref o :: st) h = if pin x (plnL h o) = true then pR 0 d 12 ls st (pstL h o x.toNatClampNeg ly) else none := pR_Lif rfl rfl
theorem rX0_bubble_12 : pR 0 d 12 ls st h = pR 0 d 19 ls st h := pR_L rfl rfl
theorem rX0_bubble_15 : pR 0 d 15 [a0, a1, a2, a3, a4, a5] (.ref o :: st) h = if p1 a5 = true then pR 0 d 17 [a0, a1, a2, a3, a4, .ref o] st h else none := r_sto (n := 2) (k := 5) (v := .ref o) (ls := [a0, a1, a2, a3, a4, a5]) rfl rfl rfl
theorem rX0_bubble_15n : pR 0 d 15 [a0, a1, a2, a3, a4, a5] (.null :: st) h = if p1 a5 = true then pR 0 d 17 [a0, a1, a2, a3, a4, .null] st h else none := r_sto (n := 2) (k := 5) (v := .null) (ls := [a0, a1, a2, a3, a4, a5]) rfl rfl rfl
theorem rX0_bubble_17 : pR 0 d 17 ls st h = pR 0 d 18 ls (.int 1 :: st) h := pR_L rfl rfl
theorem rX0_bubble_18 : pR 0 d 18 ls [.int x] h = some (.inl (some (.int x)), h) := pR_E rfl rfl
theorem rX0_bubble_19 : pR 0 d 19 ls st h = pR 0 d 20 ls (.int 0 :: st) h := pR_L rfl rfl
theorem rX0_bubble_20 : pR 0 d 20 ls [.int x] h = some (.inl (some (.int x)), h) := pR_E rfl rfl
-- 1 BalloonStallLaw guest (LBalloonStall;II[J)I
theorem eX0_guest : pCa 1 d [.ref r0, .int x1, .int x2, .ref r3] h = pR 1 d 0 [.ref r0, .int x1, .int x2, .ref r3, pU] [] h := rfl
theorem rX0_guest_0 : pR 1 d 0 [a0, a1, a2, .ref o, a4] st h = pR 1 d 1 [a0, a1, a2, .ref o, a4] (.ref o :: st) h := pR_L rfl rfl
theorem rX0_guest_0n : pR 1 d 0 [a0, a1, a2, .null, a4] st h = pR 1 d 1 [a0, a1, a2, .null, a4] (.null :: st) h := pR_L rfl rfl
theorem rX0_guest_1 : pR 1 d 1 ls st h = pR 1 d 2 ls (.int 0 :: st) h := pR_L rfl rfl
theorem rX0_guest_2 : pR 1 d 2 [.ref o, a1, a2, a3, a4] st h = pR 1 d 3 [.ref o, a1, a2, a3, a4] (.ref o :: st) h := pR_L rfl rfl
theorem rX0_guest_2n : pR 1 d 2 [.null, a1, a2, a3, a4] st h = pR 1 d 3 [.null, a1, a2, a3, a4] (.null :: st) h := pR_L rfl rfl
theorem rX0_guest_3 : pR 1 d 3 [a0, .int x, a2, a3, a4] st h = pR 1 d 4 [a0, .int x, a2, a3, a4] (.int x :: st) h := pR_L rfl rfl
theorem rX0_guest_4 : pR 1 d 4 [a0, a1, .int x, a3, a4] st h = pR 1 d 5 [a0, a1, .int x, a3, a4] (.int x :: st) h := pR_L rfl rfl
theorem rX0_guest_5 : pR 1 (d + 1) 5 ls (b2 :: b1 :: .ref o :: st) h = if (pok 1 (pcl h o) && pw st) = true then pK 1 (d + 1) 5 3 ls st (pCa 63 d [.ref o, b1, b2] h) else none := r_callV rfl rfl rfl
theorem rX0_guest_8 : pR 1 d 8 ls (.int x :: st) h = pR 1 d 9 ls (.long x.toInt64 :: st) h := pR_L rfl rfl
theorem rX0_guest_9 : pR 1 d 9 ls (.long ly :: .int x :: .ref o :: st) h = if pin x (plnL h o) = true then pR 1 d 10 ls st (pstL h o x.toNatClampNeg ly) else none := pR_Lif rfl rfl
theorem rX0_guest_10 : pR 1 d 10 ls st h = pR 1 d 17 ls st h := pR_L rfl rfl
theorem rX0_guest_13 : pR 1 d 13 [a0, a1, a2, a3, a4] (.ref o :: st) h = if p1 a4 = true then pR 1 d 15 [a0, a1, a2, a3, .ref o] st h else none := r_sto (n := 2) (k := 4) (v := .ref o) (ls := [a0, a1, a2, a3, a4]) rfl rfl rfl
theorem rX0_guest_13n : pR 1 d 13 [a0, a1, a2, a3, a4] (.null :: st) h = if p1 a4 = true then pR 1 d 15 [a0, a1, a2, a3, .null] st h else none := r_sto (n := 2) (k := 4) (v := .null) (ls := [a0, a1, a2, a3, a4]) rfl rfl rfl
theorem rX0_guest_15 : pR 1 d 15 ls st h = pR 1 d 16 ls (.int 1 :: st) h := pR_L rfl rfl
theorem rX0_guest_16 : pR 1 d 16 ls [.int x] h = some (.inl (some (.int x)), h) := pR_E rfl rfl
theorem rX0_guest_17 : pR 1 d 17 ls st h = pR 1 d 18 ls (.int 0 :: st) h := pR_L rfl rfl
theorem rX0_guest_18 : pR 1 d 18 ls [.int x] h = some (.inl (some (.int x)), h) := pR_E rfl rfl
-- 2 BalloonStallLaw worth (LBalloonStall;IIIIII[J)I
theorem eX0_worth : pCa 2 d [.ref r0, .int x1, .int x2, .int x3, .int x4, .int x5, .int x6, .ref r7] h = pR 2 d 0 [.ref r0, .int x1, .int x2, .int x3, .int x4, .int x5, .int x6, .ref r7, pU] [] h := rfl
theorem rX0_worth_0 : pR 2 d 0 [a0, a1, a2, a3, a4, a5, a6, .ref o, a8] st h = pR 2 d 2 [a0, a1, a2, a3, a4, a5, a6, .ref o, a8] (.ref o :: st) h := pR_L rfl rfl
theorem rX0_worth_0n : pR 2 d 0 [a0, a1, a2, a3, a4, a5, a6, .null, a8] st h = pR 2 d 2 [a0, a1, a2, a3, a4, a5, a6, .null, a8] (.null :: st) h := pR_L rfl rfl
theorem rX0_worth_2 : pR 2 d 2 ls st h = pR 2 d 3 ls (.int 0 :: st) h := pR_L rfl rfl
theorem rX0_worth_3 : pR 2 d 3 [.ref o, a1, a2, a3, a4, a5, a6, a7, a8] st h = pR 2 d 4 [.ref o, a1, a2, a3, a4, a5, a6, a7, a8] (.ref o :: st) h := pR_L rfl rfl
theorem rX0_worth_3n : pR 2 d 3 [.null, a1, a2, a3, a4, a5, a6, a7, a8] st h = pR 2 d 4 [.null, a1, a2, a3, a4, a5, a6, a7, a8] (.null :: st) h := pR_L rfl rfl
theorem rX0_worth_4 : pR 2 d 4 [a0, .int x, a2, a3, a4, a5, a6, a7, a8] st h = pR 2 d 5 [a0, .int x, a2, a3, a4, a5, a6, a7, a8] (.int x :: st) h := pR_L rfl rfl
theorem rX0_worth_5 : pR 2 d 5 [a0, a1, .int x, a3, a4, a5, a6, a7, a8] st h = pR 2 d 6 [a0, a1, .int x, a3, a4, a5, a6, a7, a8] (.int x :: st) h := pR_L rfl rfl
theorem rX0_worth_6 : pR 2 d 6 [a0, a1, a2, .int x, a4, a5, a6, a7, a8] st h = pR 2 d 7 [a0, a1, a2, .int x, a4, a5, a6, a7, a8] (.int x :: st) h := pR_L rfl rfl
theorem rX0_worth_7 : pR 2 d 7 [a0, a1, a2, a3, .int x, a5, a6, a7, a8] st h = pR 2 d 9 [a0, a1, a2, a3, .int x, a5, a6, a7, a8] (.int x :: st) h := pR_L rfl rfl
theorem rX0_worth_9 : pR 2 d 9 [a0, a1, a2, a3, a4, .int x, a6, a7, a8] st h = pR 2 d 11 [a0, a1, a2, a3, a4, .int x, a6, a7, a8] (.int x :: st) h := pR_L rfl rfl
theorem rX0_worth_11 : pR 2 d 11 [a0, a1, a2, a3, a4, a5, .int x, a7, a8] st h = pR 2 d 13 [a0, a1, a2, a3, a4, a5, .int x, a7, a8] (.int x :: st) h := pR_L rfl rfl
theorem rX0_worth_13 : pR 2 (d + 1) 13 ls (b6 :: b5 :: b4 :: b3 :: b2 :: b1 :: .ref o :: st) h = if (pok 1 (pcl h o) && pw st) = true then pK 2 (d + 1) 13 3 ls st (pCa 64 d [.ref o, b1, b2, b3, b4, b5, b6] h) else none := r_callV rfl rfl rfl
theorem rX0_worth_16 : pR 2 d 16 ls (.int x :: st) h = pR 2 d 17 ls (.long x.toInt64 :: st) h := pR_L rfl rfl
theorem rX0_worth_17 : pR 2 d 17 ls (.long ly :: .int x :: .ref o :: st) h = if pin x (plnL h o) = true then pR 2 d 18 ls st (pstL h o x.toNatClampNeg ly) else none := pR_Lif rfl rfl
theorem rX0_worth_18 : pR 2 d 18 ls st h = pR 2 d 25 ls st h := pR_L rfl rfl
theorem rX0_worth_21 : pR 2 d 21 [a0, a1, a2, a3, a4, a5, a6, a7, a8] (.ref o :: st) h = if p1 a8 = true then pR 2 d 23 [a0, a1, a2, a3, a4, a5, a6, a7, .ref o] st h else none := r_sto (n := 2) (k := 8) (v := .ref o) (ls := [a0, a1, a2, a3, a4, a5, a6, a7, a8]) rfl rfl rfl
theorem rX0_worth_21n : pR 2 d 21 [a0, a1, a2, a3, a4, a5, a6, a7, a8] (.null :: st) h = if p1 a8 = true then pR 2 d 23 [a0, a1, a2, a3, a4, a5, a6, a7, .null] st h else none := r_sto (n := 2) (k := 8) (v := .null) (ls := [a0, a1, a2, a3, a4, a5, a6, a7, a8]) rfl rfl rfl
theorem rX0_worth_23 : pR 2 d 23 ls st h = pR 2 d 24 ls (.int 1 :: st) h := pR_L rfl rfl
theorem rX0_worth_24 : pR 2 d 24 ls [.int x] h = some (.inl (some (.int x)), h) := pR_E rfl rfl
theorem rX0_worth_25 : pR 2 d 25 ls st h = pR 2 d 26 ls (.int 0 :: st) h := pR_L rfl rfl
theorem rX0_worth_26 : pR 2 d 26 ls [.int x] h = some (.inl (some (.int x)), h) := pR_E rfl rfl
-- 65 BalloonStall$Letters <init> ()V
theorem eX2_init : pCa 65 d [.ref o] h = pR 65 d 0 [.ref o] [] h := rfl
theorem rX2_init_0 : pR 65 d 0 [.ref o] st h = pR 65 d 1 [.ref o] (.ref o :: st) h := pR_L rfl rfl
theorem rX2_init_1 : pR 65 (d + 1) 1 ls (.ref o :: st) h = if pw st = true then pR 65 (d + 1) 4 ls st h else none := r_obj rfl
theorem rX2_init_4 : pR 65 d 4 [.ref o] st h = pR 65 d 5 [.ref o] (.ref o :: st) h := pR_L rfl rfl
theorem rX2_init_5 : pR 65 d 5 ls st h = pR 65 d 8 ls (.int 128 :: st) h := pR_L rfl rfl
theorem rX2_init_8 : pR 65 d 8 ls (.int 128 :: st) h = pR 65 d 10 ls (.ref h.2.1 :: st) (pnw h (.inl (0, 128, .inl fun _ => 0)) 128) := pR_X rfl rfl
theorem rX2_init_10 : pR 65 d 10 ls (.ref o2 :: .ref o :: st) h = if pis (pfl h 2 o 0) = true then pR 65 d 13 ls st (psf h o 0 (.ref o2)) else none := r_put rfl rfl
theorem rX2_init_10n : pR 65 d 10 ls (.null :: .ref o :: st) h = if pis (pfl h 2 o 0) = true then pR 65 d 13 ls st (psf h o 0 .null) else none := r_put rfl rfl
theorem rX2_init_13 : pR 65 d 13 ls [] h = some (.inl none, h) := pR_E rfl rfl
-- 168 BalloonStall$Sort <init> (III)V
theorem eX4_init : pCa 168 d [.ref o, .int x0, .int x1, .int x2] h = pR 168 d 0 [.ref o, .int x0, .int x1, .int x2] [] h := rfl
theorem rX4_init_0 : pR 168 d 0 [.ref o, a1, a2, a3] st h = pR 168 d 1 [.ref o, a1, a2, a3] (.ref o :: st) h := pR_L rfl rfl
theorem rX4_init_1 : pR 168 (d + 1) 1 ls (.ref o :: st) h = if pw st = true then pR 168 (d + 1) 4 ls st h else none := r_obj rfl
theorem rX4_init_4 : pR 168 d 4 [.ref o, a1, a2, a3] st h = pR 168 d 5 [.ref o, a1, a2, a3] (.ref o :: st) h := pR_L rfl rfl
theorem rX4_init_5 : pR 168 d 5 [a0, .int x, a2, a3] st h = pR 168 d 6 [a0, .int x, a2, a3] (.int x :: st) h := pR_L rfl rfl
theorem rX4_init_6 : pR 168 d 6 ls (.int x :: .ref o :: st) h = if pis (pfl h 4 o 0) = true then pR 168 d 9 ls st (psf h o 0 (.int x)) else none := r_put rfl rfl
theorem rX4_init_9 : pR 168 d 9 [.ref o, a1, a2, a3] st h = pR 168 d 10 [.ref o, a1, a2, a3] (.ref o :: st) h := pR_L rfl rfl
theorem rX4_init_10 : pR 168 d 10 [a0, a1, .int x, a3] st h = pR 168 d 11 [a0, a1, .int x, a3] (.int x :: st) h := pR_L rfl rfl
theorem rX4_init_11 : pR 168 d 11 ls (.int x :: .ref o :: st) h = if pis (pfl h 4 o 1) = true then pR 168 d 14 ls st (psf h o 1 (.int x)) else none := r_put rfl rfl
theorem rX4_init_14 : pR 168 d 14 [.ref o, a1, a2, a3] st h = pR 168 d 15 [.ref o, a1, a2, a3] (.ref o :: st) h := pR_L rfl rfl
theorem rX4_init_15 : pR 168 d 15 [a0, a1, a2, .int x] st h = pR 168 d 16 [a0, a1, a2, .int x] (.int x :: st) h := pR_L rfl rfl
theorem rX4_init_16 : pR 168 d 16 ls (.int x :: .ref o :: st) h = if pis (pfl h 4 o 2) = true then pR 168 d 19 ls st (psf h o 2 (.int x)) else none := r_put rfl rfl
theorem rX4_init_19 : pR 168 d 19 ls [] h = some (.inl none, h) := pR_E rfl rfl
-- 169 BalloonStall$Sort strains (I)I
theorem eX4_strains : pCa 169 d [.ref o, .int x0] h = pR 169 d 0 [.ref o, .int x0] [] h := rfl
theorem rX4_strains_0 : pR 169 d 0 [a0, .int x] st h = pR 169 d 1 [a0, .int x] (.int x :: st) h := pR_L rfl rfl
theorem rX4_strains_1 : pR 169 d 1 ls st h = pR 169 d 2 ls (.int 1 :: st) h := pR_L rfl rfl
theorem rX4_strains_2 : pR 169 d 2 ls (.int y :: .int x :: st) h = if y < x then pR 169 d 5 ls st h else pR 169 d 16 ls st h := r_cle rfl rfl
theorem rX4_strains_5 : pR 169 d 5 [.ref o, a1] st h = pR 169 d 6 [.ref o, a1] (.ref o :: st) h := pR_L rfl rfl
theorem rX4_strains_6 : pR 169 d 6 ls (.ref o :: st) h = if pis (pfl h 4 o 1) = true then pR 169 d 9 ls (pfl h 4 o 1 :: st) h else none := r_get rfl
theorem rX4_strains_9 : pR 169 d 9 [a0, .int x] st h = pR 169 d 10 [a0, .int x] (.int x :: st) h := pR_L rfl rfl
theorem rX4_strains_10 : pR 169 d 10 ls st h = pR 169 d 11 ls (.int 1 :: st) h := pR_L rfl rfl
theorem rX4_strains_11 : pR 169 d 11 ls (.int y :: .int x :: st) h = pR 169 d 12 ls (.int (x - y) :: st) h := pR_L rfl rfl
theorem rX4_strains_12 : pR 169 d 12 ls (.int y :: .int x :: st) h = pR 169 d 13 ls (.int (x * y) :: st) h := pR_L rfl rfl
theorem rX4_strains_13 : pR 169 d 13 ls st h = pR 169 d 17 ls st h := pR_L rfl rfl
theorem rX4_strains_16 : pR 169 d 16 ls st h = pR 169 d 17 ls (.int 0 :: st) h := pR_L rfl rfl
theorem rX4_strains_17 : pR 169 d 17 ls [.int x] h = some (.inl (some (.int x)), h) := pR_E rfl rfl
-- 170 BalloonStall$Reader look ()I
theorem eX5_look : pCa 170 d [.ref o] h = pR 170 d 0 [.ref o] [] h := rfl
theorem rX5_look_0 : pR 170 d 0 [.ref o] st h = pR 170 d 1 [.ref o] (.ref o :: st) h := pR_L rfl rfl
theorem rX5_look_1 : pR 170 (d + 1) 1 ls (.ref o :: st) h = if (pok 5 (pcl h o) && pw st) = true then pK 170 (d + 1) 1 3 ls st (pCa 171 d [.ref o] h) else none := r_callV rfl rfl rfl
theorem rX5_look_4 : pR 170 d 4 ls st h = pR 170 d 6 ls (.int 32 :: st) h := pR_L rfl rfl
theorem rX5_look_6 : pR 170 d 6 ls (.int y :: .int x :: st) h = if x = y then pR 170 d 9 ls st h else pR 170 d 22 ls st h := r_cne rfl rfl
theorem rX5_look_9 : pR 170 d 9 [.ref o] st h = pR 170 d 10 [.ref o] (.ref o :: st) h := pR_L rfl rfl
theorem rX5_look_10 : pR 170 d 10 ls (.ref o :: st) h = pR 170 d 11 ls (.ref o :: .ref o :: st) h := pR_L rfl rfl
theorem rX5_look_10i : pR 170 d 10 ls (.int x :: st) h = pR 170 d 11 ls (.int x :: .int x :: st) h := pR_L rfl rfl
theorem rX5_look_11 : pR 170 d 11 ls (.ref o :: st) h = if pis (pfl h 5 o 0) = true then pR 170 d 14 ls (pfl h 5 o 0 :: st) h else none := r_get rfl
theorem rX5_look_14 : pR 170 d 14 ls st h = pR 170 d 15 ls (.int 1 :: st) h := pR_L rfl rfl
theorem rX5_look_15 : pR 170 d 15 ls (.int y :: .int x :: st) h = pR 170 d 16 ls (.int (x + y) :: st) h := pR_L rfl rfl
theorem rX5_look_16 : pR 170 d 16 ls (.int x :: .ref o :: st) h = if pis (pfl h 5 o 0) = true then pR 170 d 19 ls st (psf h o 0 (.int x)) else none := r_put rfl rfl
theorem rX5_look_19 : pR 170 d 19 ls st h = pR 170 d 0 ls st h := pR_L rfl rfl
theorem rX5_look_22 : pR 170 d 22 [.ref o] st h = pR 170 d 23 [.ref o] (.ref o :: st) h := pR_L rfl rfl
theorem rX5_look_23 : pR 170 (d + 1) 23 ls (.ref o :: st) h = if (pok 5 (pcl h o) && pw st) = true then pK 170 (d + 1) 23 3 ls st (pCa 171 d [.ref o] h) else none := r_callV rfl rfl rfl
theorem rX5_look_26 : pR 170 d 26 ls [.int x] h = some (.inl (some (.int x)), h) := pR_E rfl rfl
-- 171 BalloonStall$Reader here ()I
theorem eX5_here : pCa 171 d [.ref o] h = pR 171 d 0 [.ref o] [] h := rfl
theorem rX5_here_0 : pR 171 d 0 [.ref o] st h = pR 171 d 1 [.ref o] (.ref o :: st) h := pR_L rfl rfl
theorem rX5_here_1 : pR 171 d 1 ls (.ref o :: st) h = if pis (pfl h 5 o 0) = true then pR 171 d 4 ls (pfl h 5 o 0 :: st) h else none := r_get rfl
theorem rX5_here_4 : pR 171 d 4 [.ref o] st h = pR 171 d 5 [.ref o] (.ref o :: st) h := pR_L rfl rfl
theorem rX5_here_5 : pR 171 d 5 ls (.ref o :: st) h = if pis (pfl h 5 o 2) = true then pR 171 d 8 ls (pfl h 5 o 2 :: st) h else none := r_get rfl
theorem rX5_here_8 : pR 171 d 8 ls (.ref o :: st) h = if pis (pfl h 1 o 3) = true then pR 171 d 11 ls (pfl h 1 o 3 :: st) h else none := r_get rfl
theorem rX5_here_11 : pR 171 d 11 ls (.int y :: .int x :: st) h = if x < y then pR 171 d 14 ls st h else pR 171 d 33 ls st h := r_cge rfl rfl
theorem rX5_here_14 : pR 171 d 14 [.ref o] st h = pR 171 d 15 [.ref o] (.ref o :: st) h := pR_L rfl rfl
theorem rX5_here_15 : pR 171 d 15 ls (.ref o :: st) h = if pis (pfl h 5 o 2) = true then pR 171 d 18 ls (pfl h 5 o 2 :: st) h else none := r_get rfl
theorem rX5_here_18 : pR 171 d 18 ls (.ref o :: st) h = if pis (pfl h 1 o 2) = true then pR 171 d 21 ls (pfl h 1 o 2 :: st) h else none := r_get rfl
theorem rX5_here_21 : pR 171 d 21 [.ref o] st h = pR 171 d 22 [.ref o] (.ref o :: st) h := pR_L rfl rfl
theorem rX5_here_22 : pR 171 d 22 ls (.ref o :: st) h = if pis (pfl h 5 o 0) = true then pR 171 d 25 ls (pfl h 5 o 0 :: st) h else none := r_get rfl
theorem rX5_here_25 : pR 171 d 25 ls (.int x :: .ref o :: st) h = if (pin x (pln h 1 o) || pin x (pln h 2 o)) = true then pR 171 d 26 ls (.int (pct h o x.toNatClampNeg) :: st) h else none := pR_Lif rfl rfl
theorem rX5_here_26 : pR 171 d 26 ls st h = pR 171 d 29 ls (.int 255 :: st) h := pR_L rfl rfl
theorem rX5_here_29 : pR 171 d 29 ls (.int y :: .int x :: st) h = pR 171 d 30 ls (.int (x &&& y) :: st) h := pR_L rfl rfl
theorem rX5_here_30 : pR 171 d 30 ls st h = pR 171 d 34 ls st h := pR_L rfl rfl
theorem rX5_here_33 : pR 171 d 33 ls st h = pR 171 d 34 ls (.int (-1) :: st) h := pR_L rfl rfl
theorem rX5_here_34 : pR 171 d 34 ls [.int x] h = some (.inl (some (.int x)), h) := pR_E rfl rfl
-- 172 BalloonStall$Reader take (Z)I
theorem eX5_take : pCa 172 d [.ref o, .int x0] h = pR 172 d 0 [.ref o, .int x0] [] h := rfl
theorem rX5_take_0 : pR 172 d 0 [a0, .int x] st h = pR 172 d 1 [a0, .int x] (.int x :: st) h := pR_L rfl rfl
theorem rX5_take_1 : pR 172 d 1 ls (.int x :: st) h = if x = 0 then pR 172 d 4 ls st h else pR 172 d 16 ls st h := r_ine rfl rfl
theorem rX5_take_4 : pR 172 d 4 ls st h = pR 172 d 7 ls (.ref h.2.1 :: st) (pnw h (.inr (7, [.null, .null, .null, .null, .null, .int 0, .int 0])) 7) := pR_X rfl rfl
theorem rX5_take_7 : pR 172 d 7 ls (.ref o :: st) h = pR 172 d 8 ls (.ref o :: .ref o :: st) h := pR_L rfl rfl
theorem rX5_take_7i : pR 172 d 7 ls (.int x :: st) h = pR 172 d 8 ls (.int x :: .int x :: st) h := pR_L rfl rfl
theorem rX5_take_8 : pR 172 d 8 [.ref o, a1] st h = pR 172 d 9 [.ref o, a1] (.ref o :: st) h := pR_L rfl rfl
theorem rX5_take_9 : pR 172 d 9 ls (.ref o :: st) h = if pis (pfl h 5 o 0) = true then pR 172 d 12 ls (pfl h 5 o 0 :: st) h else none := r_get rfl
theorem rX5_take_12 : pR 172 (d + 1) 12 ls (b1 :: .ref o :: st) h = if (pok 7 (pcl h o) && pw st) = true then pK 172 (d + 1) 12 3 ls st (pCa 256 d [.ref o, b1] h) else none := r_callV rfl rfl rfl
theorem rX5_take_15 (hc : pcl h o = 7 ∨ pcl h o = 26) : pR 172 d 15 ls (.ref o :: st) h = some (.inr o, h) := r_throw rfl hc rfl
theorem rX5_take_16 : pR 172 d 16 [.ref o, a1] st h = pR 172 d 17 [.ref o, a1] (.ref o :: st) h := pR_L rfl rfl
theorem rX5_take_17 : pR 172 d 17 ls (.ref o :: st) h = pR 172 d 18 ls (.ref o :: .ref o :: st) h := pR_L rfl rfl
theorem rX5_take_17i : pR 172 d 17 ls (.int x :: st) h = pR 172 d 18 ls (.int x :: .int x :: st) h := pR_L rfl rfl
theorem rX5_take_18 : pR 172 d 18 ls (.ref o :: st) h = if pis (pfl h 5 o 0) = true then pR 172 d 21 ls (pfl h 5 o 0 :: st) h else none := r_get rfl
theorem rX5_take_21 : pR 172 d 21 ls st h = pR 172 d 22 ls (.int 1 :: st) h := pR_L rfl rfl
theorem rX5_take_22 : pR 172 d 22 ls (.int y :: .int x :: st) h = pR 172 d 23 ls (.int (x + y) :: st) h := pR_L rfl rfl
theorem rX5_take_23 : pR 172 d 23 ls (.int x :: .ref o :: st) h = if pis (pfl h 5 o 0) = true then pR 172 d 26 ls st (psf h o 0 (.int x)) else none := r_put rfl rfl
theorem rX5_take_26 : pR 172 d 26 [.ref o, a1] st h = pR 172 d 27 [.ref o, a1] (.ref o :: st) h := pR_L rfl rfl
theorem rX5_take_27 : pR 172 d 27 ls (.ref o :: st) h = if pis (pfl h 5 o 2) = true then pR 172 d 30 ls (pfl h 5 o 2 :: st) h else none := r_get rfl
theorem rX5_take_30 : pR 172 d 30 ls (.ref o :: st) h = if pis (pfl h 1 o 2) = true then pR 172 d 33 ls (pfl h 1 o 2 :: st) h else none := r_get rfl
theorem rX5_take_33 : pR 172 d 33 [.ref o, a1] st h = pR 172 d 34 [.ref o, a1] (.ref o :: st) h := pR_L rfl rfl
theorem rX5_take_34 : pR 172 d 34 ls (.ref o :: st) h = if pis (pfl h 5 o 0) = true then pR 172 d 37 ls (pfl h 5 o 0 :: st) h else none := r_get rfl
theorem rX5_take_37 : pR 172 d 37 ls st h = pR 172 d 38 ls (.int 1 :: st) h := pR_L rfl rfl
theorem rX5_take_38 : pR 172 d 38 ls (.int y :: .int x :: st) h = pR 172 d 39 ls (.int (x - y) :: st) h := pR_L rfl rfl
theorem rX5_take_39 : pR 172 d 39 ls (.int x :: .ref o :: st) h = if (pin x (pln h 1 o) || pin x (pln h 2 o)) = true then pR 172 d 40 ls (.int (pct h o x.toNatClampNeg) :: st) h else none := pR_Lif rfl rfl
theorem rX5_take_40 : pR 172 d 40 ls [.int x] h = some (.inl (some (.int x)), h) := pR_E rfl rfl
-- 173 BalloonStall$Reader isDigit ()Z
theorem eX5_isDigit : pCa 173 d [.ref o] h = pR 173 d 0 [.ref o] [] h := rfl
theorem rX5_isDigit_0 : pR 173 d 0 [.ref o] st h = pR 173 d 1 [.ref o] (.ref o :: st) h := pR_L rfl rfl
theorem rX5_isDigit_1 : pR 173 (d + 1) 1 ls (.ref o :: st) h = if (pok 5 (pcl h o) && pw st) = true then pK 173 (d + 1) 1 3 ls st (pCa 171 d [.ref o] h) else none := r_callV rfl rfl rfl
theorem rX5_isDigit_4 : pR 173 d 4 ls st h = pR 173 d 6 ls (.int 48 :: st) h := pR_L rfl rfl
theorem rX5_isDigit_6 : pR 173 d 6 ls (.int y :: .int x :: st) h = if x < y then pR 173 d 22 ls st h else pR 173 d 9 ls st h := r_clt rfl rfl
theorem rX5_isDigit_9 : pR 173 d 9 [.ref o] st h = pR 173 d 10 [.ref o] (.ref o :: st) h := pR_L rfl rfl
theorem rX5_isDigit_10 : pR 173 (d + 1) 10 ls (.ref o :: st) h = if (pok 5 (pcl h o) && pw st) = true then pK 173 (d + 1) 10 3 ls st (pCa 171 d [.ref o] h) else none := r_callV rfl rfl rfl
theorem rX5_isDigit_13 : pR 173 d 13 ls st h = pR 173 d 15 ls (.int 57 :: st) h := pR_L rfl rfl
theorem rX5_isDigit_15 : pR 173 d 15 ls (.int y :: .int x :: st) h = if y < x then pR 173 d 22 ls st h else pR 173 d 18 ls st h := r_cgt rfl rfl
theorem rX5_isDigit_18 : pR 173 d 18 ls st h = pR 173 d 19 ls (.int 1 :: st) h := pR_L rfl rfl
theorem rX5_isDigit_19 : pR 173 d 19 ls st h = pR 173 d 23 ls st h := pR_L rfl rfl
theorem rX5_isDigit_22 : pR 173 d 22 ls st h = pR 173 d 23 ls (.int 0 :: st) h := pR_L rfl rfl
theorem rX5_isDigit_230 : pR 173 d 23 ls [.int 0] h = some (.inl (some (.int 0)), h) := pR_E rfl rfl
theorem rX5_isDigit_231 : pR 173 d 23 ls [.int 1] h = some (.inl (some (.int 1)), h) := pR_E rfl rfl
-- 174 BalloonStall$Reader goIn ()V
theorem eX5_goIn : pCa 174 d [.ref o] h = pR 174 d 0 [.ref o, pU] [] h := rfl
theorem rX5_goIn_0 : pR 174 d 0 [.ref o, a1] st h = pR 174 d 1 [.ref o, a1] (.ref o :: st) h := pR_L rfl rfl
theorem rX5_goIn_1 : pR 174 d 1 [.ref o, a1] st h = pR 174 d 2 [.ref o, a1] (.ref o :: st) h := pR_L rfl rfl
theorem rX5_goIn_2 : pR 174 d 2 ls (.ref o :: st) h = if pis (pfl h 5 o 1) = true then pR 174 d 5 ls (pfl h 5 o 1 :: st) h else none := r_get rfl
theorem rX5_goIn_5 : pR 174 d 5 ls st h = pR 174 d 7 ls (.int 6 :: st) h := pR_L rfl rfl
theorem rX5_goIn_7 : pR 174 d 7 ls (.int y :: .int x :: st) h = if x < y then pR 174 d 10 ls st h else pR 174 d 14 ls st h := r_cge rfl rfl
theorem rX5_goIn_10 : pR 174 d 10 ls st h = pR 174 d 11 ls (.int 1 :: st) h := pR_L rfl rfl
theorem rX5_goIn_11 : pR 174 d 11 ls st h = pR 174 d 15 ls st h := pR_L rfl rfl
theorem rX5_goIn_14 : pR 174 d 14 ls st h = pR 174 d 15 ls (.int 0 :: st) h := pR_L rfl rfl
theorem rX5_goIn_15 : pR 174 (d + 1) 15 ls (b1 :: .ref o :: st) h = if (pok 5 (pcl h o) && pw st) = true then pK 174 (d + 1) 15 3 ls st (pCa 172 d [.ref o, b1] h) else none := r_callV rfl rfl rfl
theorem rX5_goIn_18 : pR 174 d 18 [a0, a1] (.int x :: st) h = if p1 a1 = true then pR 174 d 19 [a0, .int x] st h else none := r_sto (n := 1) (k := 1) (v := .int x) (ls := [a0, a1]) rfl rfl rfl
theorem rX5_goIn_19 : pR 174 d 19 [.ref o, a1] st h = pR 174 d 20 [.ref o, a1] (.ref o :: st) h := pR_L rfl rfl
theorem rX5_goIn_20 : pR 174 d 20 ls (.ref o :: st) h = pR 174 d 21 ls (.ref o :: .ref o :: st) h := pR_L rfl rfl
theorem rX5_goIn_20i : pR 174 d 20 ls (.int x :: st) h = pR 174 d 21 ls (.int x :: .int x :: st) h := pR_L rfl rfl
theorem rX5_goIn_21 : pR 174 d 21 ls (.ref o :: st) h = if pis (pfl h 5 o 1) = true then pR 174 d 24 ls (pfl h 5 o 1 :: st) h else none := r_get rfl
theorem rX5_goIn_24 : pR 174 d 24 ls st h = pR 174 d 25 ls (.int 1 :: st) h := pR_L rfl rfl
theorem rX5_goIn_25 : pR 174 d 25 ls (.int y :: .int x :: st) h = pR 174 d 26 ls (.int (x + y) :: st) h := pR_L rfl rfl
theorem rX5_goIn_26 : pR 174 d 26 ls (.int x :: .ref o :: st) h = if pis (pfl h 5 o 1) = true then pR 174 d 29 ls st (psf h o 1 (.int x)) else none := r_put rfl rfl
theorem rX5_goIn_29 : pR 174 d 29 ls [] h = some (.inl none, h) := pR_E rfl rfl
-- 175 BalloonStall$Reader goOut (I)V
theorem eX5_goOut : pCa 175 d [.ref o, .int x0] h = pR 175 d 0 [.ref o, .int x0, pU] [] h := rfl
theorem rX5_goOut_0 : pR 175 d 0 [.ref o, a1, a2] st h = pR 175 d 1 [.ref o, a1, a2] (.ref o :: st) h := pR_L rfl rfl
theorem rX5_goOut_1 : pR 175 d 1 [.ref o, a1, a2] st h = pR 175 d 2 [.ref o, a1, a2] (.ref o :: st) h := pR_L rfl rfl
theorem rX5_goOut_2 : pR 175 (d + 1) 2 ls (.ref o :: st) h = if (pok 5 (pcl h o) && pw st) = true then pK 175 (d + 1) 2 3 ls st (pCa 170 d [.ref o] h) else none := r_callV rfl rfl rfl
theorem rX5_goOut_5 : pR 175 d 5 [a0, .int x, a2] st h = pR 175 d 6 [a0, .int x, a2] (.int x :: st) h := pR_L rfl rfl
theorem rX5_goOut_6 : pR 175 d 6 ls (.int y :: .int x :: st) h = if x = y then pR 175 d 9 ls st h else pR 175 d 13 ls st h := r_cne rfl rfl
theorem rX5_goOut_9 : pR 175 d 9 ls st h = pR 175 d 10 ls (.int 1 :: st) h := pR_L rfl rfl
theorem rX5_goOut_10 : pR 175 d 10 ls st h = pR 175 d 14 ls st h := pR_L rfl rfl
theorem rX5_goOut_13 : pR 175 d 13 ls st h = pR 175 d 14 ls (.int 0 :: st) h := pR_L rfl rfl
theorem rX5_goOut_14 : pR 175 (d + 1) 14 ls (b1 :: .ref o :: st) h = if (pok 5 (pcl h o) && pw st) = true then pK 175 (d + 1) 14 3 ls st (pCa 172 d [.ref o, b1] h) else none := r_callV rfl rfl rfl
theorem rX5_goOut_17 : pR 175 d 17 [a0, a1, a2] (.int x :: st) h = if p1 a2 = true then pR 175 d 18 [a0, a1, .int x] st h else none := r_sto (n := 1) (k := 2) (v := .int x) (ls := [a0, a1, a2]) rfl rfl rfl
theorem rX5_goOut_18 : pR 175 d 18 [.ref o, a1, a2] st h = pR 175 d 19 [.ref o, a1, a2] (.ref o :: st) h := pR_L rfl rfl
theorem rX5_goOut_19 : pR 175 d 19 ls (.ref o :: st) h = pR 175 d 20 ls (.ref o :: .ref o :: st) h := pR_L rfl rfl
theorem rX5_goOut_19i : pR 175 d 19 ls (.int x :: st) h = pR 175 d 20 ls (.int x :: .int x :: st) h := pR_L rfl rfl
theorem rX5_goOut_20 : pR 175 d 20 ls (.ref o :: st) h = if pis (pfl h 5 o 1) = true then pR 175 d 23 ls (pfl h 5 o 1 :: st) h else none := r_get rfl
theorem rX5_goOut_23 : pR 175 d 23 ls st h = pR 175 d 24 ls (.int 1 :: st) h := pR_L rfl rfl
theorem rX5_goOut_24 : pR 175 d 24 ls (.int y :: .int x :: st) h = pR 175 d 25 ls (.int (x - y) :: st) h := pR_L rfl rfl
theorem rX5_goOut_25 : pR 175 d 25 ls (.int x :: .ref o :: st) h = if pis (pfl h 5 o 1) = true then pR 175 d 28 ls st (psf h o 1 (.int x)) else none := r_put rfl rfl
theorem rX5_goOut_28 : pR 175 d 28 ls [] h = some (.inl none, h) := pR_E rfl rfl
-- 176 BalloonStall$Reader comeOut ()V
theorem eX5_comeOut : pCa 176 d [.ref o] h = pR 176 d 0 [.ref o] [] h := rfl
theorem rX5_comeOut_0 : pR 176 d 0 [.ref o] st h = pR 176 d 1 [.ref o] (.ref o :: st) h := pR_L rfl rfl
theorem rX5_comeOut_1 : pR 176 d 1 ls (.ref o :: st) h = pR 176 d 2 ls (.ref o :: .ref o :: st) h := pR_L rfl rfl
theorem rX5_comeOut_1i : pR 176 d 1 ls (.int x :: st) h = pR 176 d 2 ls (.int x :: .int x :: st) h := pR_L rfl rfl
theorem rX5_comeOut_2 : pR 176 d 2 ls (.ref o :: st) h = if pis (pfl h 5 o 1) = true then pR 176 d 5 ls (pfl h 5 o 1 :: st) h else none := r_get rfl
theorem rX5_comeOut_5 : pR 176 d 5 ls st h = pR 176 d 6 ls (.int 1 :: st) h := pR_L rfl rfl
theorem rX5_comeOut_6 : pR 176 d 6 ls (.int y :: .int x :: st) h = pR 176 d 7 ls (.int (x - y) :: st) h := pR_L rfl rfl
theorem rX5_comeOut_7 : pR 176 d 7 ls (.int x :: .ref o :: st) h = if pis (pfl h 5 o 1) = true then pR 176 d 10 ls st (psf h o 1 (.int x)) else none := r_put rfl rfl
theorem rX5_comeOut_10 : pR 176 d 10 ls [] h = some (.inl none, h) := pR_E rfl rfl
-- 177 BalloonStall$FigureReader whole ()LBalloonStall$Move;
theorem eX6_whole : pCa 177 d [.ref o] h = pR 177 d 0 [.ref o, pU, pU, pU] [] h := rfl
theorem rX6_whole_0 : pR 177 d 0 [.ref o, a1, a2, a3] st h = pR 177 d 1 [.ref o, a1, a2, a3] (.ref o :: st) h := pR_L rfl rfl
theorem rX6_whole_1 : pR 177 (d + 1) 1 ls (.ref o :: st) h = if (pok 6 (pcl h o) && pw st) = true then pK 177 (d + 1) 1 3 ls st (pCa 178 d [.ref o] h) else none := r_callV rfl rfl rfl
theorem rX6_whole_4 : pR 177 d 4 [a0, a1, a2, a3] (.ref o :: st) h = if p1 a1 = true then pR 177 d 5 [a0, .ref o, a2, a3] st h else none := r_sto (n := 1) (k := 1) (v := .ref o) (ls := [a0, a1, a2, a3]) rfl rfl rfl
theorem rX6_whole_4n : pR 177 d 4 [a0, a1, a2, a3] (.null :: st) h = if p1 a1 = true then pR 177 d 5 [a0, .null, a2, a3] st h else none := r_sto (n := 1) (k := 1) (v := .null) (ls := [a0, a1, a2, a3]) rfl rfl rfl
theorem rX6_whole_5 : pR 177 d 5 [a0, .ref o, a2, a3] st h = pR 177 d 6 [a0, .ref o, a2, a3] (.ref o :: st) h := pR_L rfl rfl
theorem rX6_whole_5n : pR 177 d 5 [a0, .null, a2, a3] st h = pR 177 d 6 [a0, .null, a2, a3] (.null :: st) h := pR_L rfl rfl
theorem rX6_whole_6 : pR 177 d 6 [a0, a1, a2, a3] (.ref o :: st) h = if p1 a2 = true then pR 177 d 7 [a0, a1, .ref o, a3] st h else none := r_sto (n := 1) (k := 2) (v := .ref o) (ls := [a0, a1, a2, a3]) rfl rfl rfl
theorem rX6_whole_6n : pR 177 d 6 [a0, a1, a2, a3] (.null :: st) h = if p1 a2 = true then pR 177 d 7 [a0, a1, .null, a3] st h else none := r_sto (n := 1) (k := 2) (v := .null) (ls := [a0, a1, a2, a3]) rfl rfl rfl
theorem rX6_whole_7 : pR 177 d 7 [.ref o, a1, a2, a3] st h = pR 177 d 8 [.ref o, a1, a2, a3] (.ref o :: st) h := pR_L rfl rfl
theorem rX6_whole_8 : pR 177 (d + 1) 8 ls (.ref o :: st) h = if (pok 6 (pcl h o) && pw st) = true then pK 177 (d + 1) 8 3 ls st (pCa 170 d [.ref o] h) else none := r_callV rfl rfl rfl
theorem rX6_whole_11 : pR 177 d 11 ls st h = pR 177 d 13 ls (.int 47 :: st) h := pR_L rfl rfl
theorem rX6_whole_13 : pR 177 d 13 ls (.int y :: .int x :: st) h = if x = y then pR 177 d 16 ls st h else pR 177 d 51 ls st h := r_cne rfl rfl
theorem rX6_whole_16 : pR 177 d 16 [.ref o, a1, a2, a3] st h = pR 177 d 17 [.ref o, a1, a2, a3] (.ref o :: st) h := pR_L rfl rfl
theorem rX6_whole_17 : pR 177 d 17 [.ref o, a1, a2, a3] st h = pR 177 d 18 [.ref o, a1, a2, a3] (.ref o :: st) h := pR_L rfl rfl
theorem rX6_whole_18 : pR 177 d 18 ls (.ref o :: st) h = if pis (pfl h 6 o 4) = true then pR 177 d 21 ls (pfl h 6 o 4 :: st) h else none := r_get rfl
theorem rX6_whole_21 : pR 177 d 21 ls st h = pR 177 d 23 ls (.int 6 :: st) h := pR_L rfl rfl
theorem rX6_whole_23 : pR 177 d 23 ls (.int y :: .int x :: st) h = if x < y then pR 177 d 26 ls st h else pR 177 d 30 ls st h := r_cge rfl rfl
theorem rX6_whole_26 : pR 177 d 26 ls st h = pR 177 d 27 ls (.int 1 :: st) h := pR_L rfl rfl
theorem rX6_whole_27 : pR 177 d 27 ls st h = pR 177 d 31 ls st h := pR_L rfl rfl
theorem rX6_whole_30 : pR 177 d 30 ls st h = pR 177 d 31 ls (.int 0 :: st) h := pR_L rfl rfl
theorem rX6_whole_31 : pR 177 (d + 1) 31 ls (b1 :: .ref o :: st) h = if (pok 6 (pcl h o) && pw st) = true then pK 177 (d + 1) 31 3 ls st (pCa 172 d [.ref o, b1] h) else none := r_callV rfl rfl rfl
theorem rX6_whole_34 : pR 177 d 34 [a0, a1, a2, a3] (.int x :: st) h = if p1 a3 = true then pR 177 d 35 [a0, a1, a2, .int x] st h else none := r_sto (n := 1) (k := 3) (v := .int x) (ls := [a0, a1, a2, a3]) rfl rfl rfl
theorem rX6_whole_35 : pR 177 d 35 [a0, a1, .ref o, a3] st h = pR 177 d 36 [a0, a1, .ref o, a3] (.ref o :: st) h := pR_L rfl rfl
theorem rX6_whole_35n : pR 177 d 35 [a0, a1, .null, a3] st h = pR 177 d 36 [a0, a1, .null, a3] (.null :: st) h := pR_L rfl rfl
theorem rX6_whole_36 : pR 177 d 36 [.ref o, a1, a2, a3] st h = pR 177 d 37 [.ref o, a1, a2, a3] (.ref o :: st) h := pR_L rfl rfl
theorem rX6_whole_37 : pR 177 (d + 1) 37 ls (.ref o :: st) h = if (pok 6 (pcl h o) && pw st) = true then pK 177 (d + 1) 37 3 ls st (pCa 178 d [.ref o] h) else none := r_callV rfl rfl rfl
theorem rX6_whole_40 : pR 177 d 40 ls (.ref o2 :: .ref o :: st) h = if pis (pfl h 8 o 0) = true then pR 177 d 43 ls st (psf h o 0 (.ref o2)) else none := r_put rfl rfl
theorem rX6_whole_40n : pR 177 d 40 ls (.null :: .ref o :: st) h = if pis (pfl h 8 o 0) = true then pR 177 d 43 ls st (psf h o 0 .null) else none := r_put rfl rfl
theorem rX6_whole_43 : pR 177 d 43 [a0, a1, .ref o, a3] st h = pR 177 d 44 [a0, a1, .ref o, a3] (.ref o :: st) h := pR_L rfl rfl
theorem rX6_whole_43n : pR 177 d 43 [a0, a1, .null, a3] st h = pR 177 d 44 [a0, a1, .null, a3] (.null :: st) h := pR_L rfl rfl
theorem rX6_whole_44 : pR 177 d 44 ls (.ref o :: st) h = if pis (pfl h 8 o 0) = true then pR 177 d 47 ls (pfl h 8 o 0 :: st) h else none := r_get rfl
theorem rX6_whole_47 : pR 177 d 47 [a0, a1, a2, a3] (.ref o :: st) h = if p1 a2 = true then pR 177 d 48 [a0, a1, .ref o, a3] st h else none := r_sto (n := 1) (k := 2) (v := .ref o) (ls := [a0, a1, a2, a3]) rfl rfl rfl
theorem rX6_whole_47n : pR 177 d 47 [a0, a1, a2, a3] (.null :: st) h = if p1 a2 = true then pR 177 d 48 [a0, a1, .null, a3] st h else none := r_sto (n := 1) (k := 2) (v := .null) (ls := [a0, a1, a2, a3]) rfl rfl rfl
theorem rX6_whole_48 : pR 177 d 48 ls st h = pR 177 d 7 ls st h := pR_L rfl rfl
theorem rX6_whole_51 : pR 177 d 51 [.ref o, a1, a2, a3] st h = pR 177 d 52 [.ref o, a1, a2, a3] (.ref o :: st) h := pR_L rfl rfl
theorem rX6_whole_52 : pR 177 (d + 1) 52 ls (.ref o :: st) h = if (pok 6 (pcl h o) && pw st) = true then pK 177 (d + 1) 52 3 ls st (pCa 170 d [.ref o] h) else none := r_callV rfl rfl rfl
theorem rX6_whole_55 : pR 177 d 55 ls st h = pR 177 d 56 ls (.int (-1) :: st) h := pR_L rfl rfl
theorem rX6_whole_56 : pR 177 d 56 ls (.int y :: .int x :: st) h = if x = y then pR 177 d 71 ls st h else pR 177 d 59 ls st h := r_ceq rfl rfl
theorem rX6_whole_59 : pR 177 d 59 ls st h = pR 177 d 62 ls (.ref h.2.1 :: st) (pnw h (.inr (7, [.null, .null, .null, .null, .null, .int 0, .int 0])) 7) := pR_X rfl rfl
theorem rX6_whole_62 : pR 177 d 62 ls (.ref o :: st) h = pR 177 d 63 ls (.ref o :: .ref o :: st) h := pR_L rfl rfl
theorem rX6_whole_62i : pR 177 d 62 ls (.int x :: st) h = pR 177 d 63 ls (.int x :: .int x :: st) h := pR_L rfl rfl
theorem rX6_whole_63 : pR 177 d 63 [.ref o, a1, a2, a3] st h = pR 177 d 64 [.ref o, a1, a2, a3] (.ref o :: st) h := pR_L rfl rfl
theorem rX6_whole_64 : pR 177 d 64 ls (.ref o :: st) h = if pis (pfl h 6 o 0) = true then pR 177 d 67 ls (pfl h 6 o 0 :: st) h else none := r_get rfl
theorem rX6_whole_67 : pR 177 (d + 1) 67 ls (b1 :: .ref o :: st) h = if (pok 7 (pcl h o) && pw st) = true then pK 177 (d + 1) 67 3 ls st (pCa 256 d [.ref o, b1] h) else none := r_callV rfl rfl rfl
theorem rX6_whole_70 (hc : pcl h o = 7 ∨ pcl h o = 26) : pR 177 d 70 ls (.ref o :: st) h = some (.inr o, h) := r_throw rfl hc rfl
theorem rX6_whole_71 : pR 177 d 71 [a0, .ref o, a2, a3] st h = pR 177 d 72 [a0, .ref o, a2, a3] (.ref o :: st) h := pR_L rfl rfl
theorem rX6_whole_71n : pR 177 d 71 [a0, .null, a2, a3] st h = pR 177 d 72 [a0, .null, a2, a3] (.null :: st) h := pR_L rfl rfl
theorem rX6_whole_72 : pR 177 d 72 ls [.ref o] h = some (.inl (some (.ref o)), h) := pR_E rfl rfl
-- 178 BalloonStall$FigureReader balloon ()LBalloonStall$Move;
theorem eX6_balloon : pCa 178 d [.ref o] h = pR 178 d 0 [.ref o, pU, pU] [] h := rfl
theorem rX6_balloon_0 : pR 178 d 0 [.ref o, a1, a2] st h = pR 178 d 1 [.ref o, a1, a2] (.ref o :: st) h := pR_L rfl rfl
theorem rX6_balloon_1 : pR 178 (d + 1) 1 ls (.ref o :: st) h = if (pok 6 (pcl h o) && pw st) = true then pK 178 (d + 1) 1 3 ls st (pCa 170 d [.ref o] h) else none := r_callV rfl rfl rfl
theorem rX6_balloon_4 : pR 178 d 4 [a0, a1, a2] (.int x :: st) h = if p1 a1 = true then pR 178 d 5 [a0, .int x, a2] st h else none := r_sto (n := 1) (k := 1) (v := .int x) (ls := [a0, a1, a2]) rfl rfl rfl
theorem rX6_balloon_5 : pR 178 d 5 [.ref o, a1, a2] st h = pR 178 d 6 [.ref o, a1, a2] (.ref o :: st) h := pR_L rfl rfl
theorem rX6_balloon_6 : pR 178 d 6 [a0, .int x, a2] st h = pR 178 d 7 [a0, .int x, a2] (.int x :: st) h := pR_L rfl rfl
theorem rX6_balloon_7 : pR 178 d 7 ls st h = pR 178 d 9 ls (.int 35 :: st) h := pR_L rfl rfl
theorem rX6_balloon_9 : pR 178 d 9 ls (.int y :: .int x :: st) h = if x = y then pR 178 d 12 ls st h else pR 178 d 16 ls st h := r_cne rfl rfl
theorem rX6_balloon_12 : pR 178 d 12 ls st h = pR 178 d 13 ls (.int 1 :: st) h := pR_L rfl rfl
theorem rX6_balloon_13 : pR 178 d 13 ls st h = pR 178 d 17 ls st h := pR_L rfl rfl
theorem rX6_balloon_16 : pR 178 d 16 ls st h = pR 178 d 17 ls (.int 0 :: st) h := pR_L rfl rfl
theorem rX6_balloon_17 : pR 178 (d + 1) 17 ls (b1 :: .ref o :: st) h = if (pok 6 (pcl h o) && pw st) = true then pK 178 (d + 1) 17 3 ls st (pCa 172 d [.ref o, b1] h) else none := r_callV rfl rfl rfl
theorem rX6_balloon_20 : pR 178 d 20 [a0, a1, a2] (.int x :: st) h = if p1 a1 = true then pR 178 d 21 [a0, .int x, a2] st h else none := r_sto (n := 1) (k := 1) (v := .int x) (ls := [a0, a1, a2]) rfl rfl rfl
theorem rX6_balloon_21 : pR 178 d 21 [.ref o, a1, a2] st h = pR 178 d 22 [.ref o, a1, a2] (.ref o :: st) h := pR_L rfl rfl
theorem rX6_balloon_22 : pR 178 (d + 1) 22 ls (.ref o :: st) h = if (pok 6 (pcl h o) && pw st) = true then pK 178 (d + 1) 22 3 ls st (pCa 170 d [.ref o] h) else none := r_callV rfl rfl rfl
theorem rX6_balloon_25 : pR 178 d 25 [a0, a1, a2] (.int x :: st) h = if p1 a1 = true then pR 178 d 26 [a0, .int x, a2] st h else none := r_sto (n := 1) (k := 1) (v := .int x) (ls := [a0, a1, a2]) rfl rfl rfl
theorem rX6_balloon_26 : pR 178 d 26 [.ref o, a1, a2] st h = pR 178 d 27 [.ref o, a1, a2] (.ref o :: st) h := pR_L rfl rfl
theorem rX6_balloon_27 : pR 178 d 27 [a0, .int x, a2] st h = pR 178 d 28 [a0, .int x, a2] (.int x :: st) h := pR_L rfl rfl
theorem rX6_balloon_28 : pR 178 d 28 ls st h = pR 178 d 30 ls (.int 48 :: st) h := pR_L rfl rfl
theorem rX6_balloon_30 : pR 178 d 30 ls (.int y :: .int x :: st) h = if x < y then pR 178 d 51 ls st h else pR 178 d 33 ls st h := r_clt rfl rfl
theorem rX6_balloon_33 : pR 178 d 33 [a0, .int x, a2] st h = pR 178 d 34 [a0, .int x, a2] (.int x :: st) h := pR_L rfl rfl
theorem rX6_balloon_34 : pR 178 d 34 ls st h = pR 178 d 36 ls (.int 48 :: st) h := pR_L rfl rfl
theorem rX6_balloon_36 : pR 178 d 36 [.ref o, a1, a2] st h = pR 178 d 37 [.ref o, a1, a2] (.ref o :: st) h := pR_L rfl rfl
theorem rX6_balloon_37 : pR 178 d 37 ls (.ref o :: st) h = if pis (pfl h 6 o 5) = true then pR 178 d 40 ls (pfl h 6 o 5 :: st) h else none := r_get rfl
theorem rX6_balloon_40 : pR 178 d 40 ls (.ref o :: st) h = if pis (pfl h 1 o 1) = true then pR 178 d 43 ls (pfl h 1 o 1 :: st) h else none := r_get rfl
theorem rX6_balloon_43 : pR 178 d 43 ls (.int y :: .int x :: st) h = pR 178 d 44 ls (.int (x + y) :: st) h := pR_L rfl rfl
theorem rX6_balloon_44 : pR 178 d 44 ls (.int y :: .int x :: st) h = if x < y then pR 178 d 47 ls st h else pR 178 d 51 ls st h := r_cge rfl rfl
theorem rX6_balloon_47 : pR 178 d 47 ls st h = pR 178 d 48 ls (.int 1 :: st) h := pR_L rfl rfl
theorem rX6_balloon_48 : pR 178 d 48 ls st h = pR 178 d 52 ls st h := pR_L rfl rfl
theorem rX6_balloon_51 : pR 178 d 51 ls st h = pR 178 d 52 ls (.int 0 :: st) h := pR_L rfl rfl
theorem rX6_balloon_52 : pR 178 (d + 1) 52 ls (b1 :: .ref o :: st) h = if (pok 6 (pcl h o) && pw st) = true then pK 178 (d + 1) 52 3 ls st (pCa 172 d [.ref o, b1] h) else none := r_callV rfl rfl rfl
theorem rX6_balloon_55 : pR 178 d 55 ls st h = pR 178 d 57 ls (.int 48 :: st) h := pR_L rfl rfl
theorem rX6_balloon_57 : pR 178 d 57 ls (.int y :: .int x :: st) h = pR 178 d 58 ls (.int (x - y) :: st) h := pR_L rfl rfl
theorem rX6_balloon_58 : pR 178 d 58 [a0, a1, a2] (.int x :: st) h = if p1 a2 = true then pR 178 d 59 [a0, a1, .int x] st h else none := r_sto (n := 1) (k := 2) (v := .int x) (ls := [a0, a1, a2]) rfl rfl rfl
theorem rX6_balloon_59 : pR 178 d 59 [.ref o, a1, a2] st h = pR 178 d 60 [.ref o, a1, a2] (.ref o :: st) h := pR_L rfl rfl
theorem rX6_balloon_60 : pR 178 d 60 ls (.ref o :: st) h = pR 178 d 61 ls (.ref o :: .ref o :: st) h := pR_L rfl rfl
theorem rX6_balloon_60i : pR 178 d 60 ls (.int x :: st) h = pR 178 d 61 ls (.int x :: .int x :: st) h := pR_L rfl rfl
theorem rX6_balloon_61 : pR 178 d 61 ls (.ref o :: st) h = if pis (pfl h 6 o 4) = true then pR 178 d 64 ls (pfl h 6 o 4 :: st) h else none := r_get rfl
theorem rX6_balloon_64 : pR 178 d 64 ls st h = pR 178 d 65 ls (.int 1 :: st) h := pR_L rfl rfl
theorem rX6_balloon_65 : pR 178 d 65 ls (.int y :: .int x :: st) h = pR 178 d 66 ls (.int (x + y) :: st) h := pR_L rfl rfl
theorem rX6_balloon_66 : pR 178 d 66 ls (.int x :: .ref o :: st) h = if pis (pfl h 6 o 4) = true then pR 178 d 69 ls st (psf h o 4 (.int x)) else none := r_put rfl rfl
theorem rX6_balloon_69 : pR 178 d 69 ls st h = pR 178 d 72 ls (.ref h.2.1 :: st) (pnw h (.inr (9, [.null, .int 0, .null])) 3) := pR_X rfl rfl
theorem rX6_balloon_72 : pR 178 d 72 ls (.ref o :: st) h = pR 178 d 73 ls (.ref o :: .ref o :: st) h := pR_L rfl rfl
theorem rX6_balloon_72i : pR 178 d 72 ls (.int x :: st) h = pR 178 d 73 ls (.int x :: .int x :: st) h := pR_L rfl rfl
theorem rX6_balloon_73 : pR 178 d 73 [a0, a1, .int x] st h = pR 178 d 74 [a0, a1, .int x] (.int x :: st) h := pR_L rfl rfl
theorem rX6_balloon_74 : pR 178 d 74 [.ref o, a1, a2] st h = pR 178 d 75 [.ref o, a1, a2] (.ref o :: st) h := pR_L rfl rfl
theorem rX6_balloon_75 : pR 178 (d + 1) 75 ls (.ref o :: st) h = if (pok 6 (pcl h o) && pw st) = true then pK 178 (d + 1) 75 3 ls st (pCa 179 d [.ref o] h) else none := r_callV rfl rfl rfl
theorem rX6_balloon_78 : pR 178 (d + 1) 78 ls (b2 :: b1 :: .ref o :: st) h = if (pok 9 (pcl h o) && pw st) = true then pK 178 (d + 1) 78 3 ls st (pCa 185 d [.ref o, b1, b2] h) else none := r_callV rfl rfl rfl
theorem rX6_balloon_81 : pR 178 d 81 ls [.ref o] h = some (.inl (some (.ref o)), h) := pR_E rfl rfl
-- 179 BalloonStall$FigureReader moves ()LBalloonStall$Move;
theorem eX6_moves : pCa 179 d [.ref o] h = pR 179 d 0 [.ref o, pU, pU] [] h := rfl
theorem rX6_moves_0 : pR 179 d 0 [.ref o, a1, a2] st h = pR 179 d 1 [.ref o, a1, a2] (.ref o :: st) h := pR_L rfl rfl
theorem rX6_moves_1 : pR 179 (d + 1) 1 ls (.ref o :: st) h = if (pok 6 (pcl h o) && pw st) = true then pK 179 (d + 1) 1 3 ls st (pCa 180 d [.ref o] h) else none := r_callV rfl rfl rfl
theorem rX6_moves_4 : pR 179 d 4 [a0, a1, a2] (.ref o :: st) h = if p1 a1 = true then pR 179 d 5 [a0, .ref o, a2] st h else none := r_sto (n := 1) (k := 1) (v := .ref o) (ls := [a0, a1, a2]) rfl rfl rfl
theorem rX6_moves_4n : pR 179 d 4 [a0, a1, a2] (.null :: st) h = if p1 a1 = true then pR 179 d 5 [a0, .null, a2] st h else none := r_sto (n := 1) (k := 1) (v := .null) (ls := [a0, a1, a2]) rfl rfl rfl
theorem rX6_moves_5 : pR 179 d 5 [a0, .ref o, a2] st h = pR 179 d 6 [a0, .ref o, a2] (.ref o :: st) h := pR_L rfl rfl
theorem rX6_moves_5n : pR 179 d 5 [a0, .null, a2] st h = pR 179 d 6 [a0, .null, a2] (.null :: st) h := pR_L rfl rfl
theorem rX6_moves_6 : pR 179 d 6 [a0, a1, a2] (.ref o :: st) h = if p1 a2 = true then pR 179 d 7 [a0, a1, .ref o] st h else none := r_sto (n := 1) (k := 2) (v := .ref o) (ls := [a0, a1, a2]) rfl rfl rfl
theorem rX6_moves_6n : pR 179 d 6 [a0, a1, a2] (.null :: st) h = if p1 a2 = true then pR 179 d 7 [a0, a1, .null] st h else none := r_sto (n := 1) (k := 2) (v := .null) (ls := [a0, a1, a2]) rfl rfl rfl
theorem rX6_moves_7 : pR 179 d 7 [.ref o, a1, a2] st h = pR 179 d 8 [.ref o, a1, a2] (.ref o :: st) h := pR_L rfl rfl
theorem rX6_moves_8 : pR 179 d 8 [.ref o, a1, a2] st h = pR 179 d 9 [.ref o, a1, a2] (.ref o :: st) h := pR_L rfl rfl
theorem rX6_moves_9 : pR 179 (d + 1) 9 ls (.ref o :: st) h = if (pok 6 (pcl h o) && pw st) = true then pK 179 (d + 1) 9 3 ls st (pCa 170 d [.ref o] h) else none := r_callV rfl rfl rfl
theorem rX6_moves_12 : pR 179 (d + 1) 12 ls (b1 :: .ref o :: st) h = if (pok 6 (pcl h o) && pw st) = true then pK 179 (d + 1) 12 3 ls st (pCa 181 d [.ref o, b1] h) else none := r_callV rfl rfl rfl
theorem rX6_moves_15 : pR 179 d 15 ls (.int x :: st) h = if x = 0 then pR 179 d 34 ls st h else pR 179 d 18 ls st h := r_ieq rfl rfl
theorem rX6_moves_18 : pR 179 d 18 [a0, a1, .ref o] st h = pR 179 d 19 [a0, a1, .ref o] (.ref o :: st) h := pR_L rfl rfl
theorem rX6_moves_18n : pR 179 d 18 [a0, a1, .null] st h = pR 179 d 19 [a0, a1, .null] (.null :: st) h := pR_L rfl rfl
theorem rX6_moves_19 : pR 179 d 19 [.ref o, a1, a2] st h = pR 179 d 20 [.ref o, a1, a2] (.ref o :: st) h := pR_L rfl rfl
theorem rX6_moves_20 : pR 179 (d + 1) 20 ls (.ref o :: st) h = if (pok 6 (pcl h o) && pw st) = true then pK 179 (d + 1) 20 3 ls st (pCa 180 d [.ref o] h) else none := r_callV rfl rfl rfl
theorem rX6_moves_23 : pR 179 d 23 ls (.ref o2 :: .ref o :: st) h = if pis (pfl h 8 o 0) = true then pR 179 d 26 ls st (psf h o 0 (.ref o2)) else none := r_put rfl rfl
theorem rX6_moves_23n : pR 179 d 23 ls (.null :: .ref o :: st) h = if pis (pfl h 8 o 0) = true then pR 179 d 26 ls st (psf h o 0 .null) else none := r_put rfl rfl
theorem rX6_moves_26 : pR 179 d 26 [a0, a1, .ref o] st h = pR 179 d 27 [a0, a1, .ref o] (.ref o :: st) h := pR_L rfl rfl
theorem rX6_moves_26n : pR 179 d 26 [a0, a1, .null] st h = pR 179 d 27 [a0, a1, .null] (.null :: st) h := pR_L rfl rfl
theorem rX6_moves_27 : pR 179 d 27 ls (.ref o :: st) h = if pis (pfl h 8 o 0) = true then pR 179 d 30 ls (pfl h 8 o 0 :: st) h else none := r_get rfl
theorem rX6_moves_30 : pR 179 d 30 [a0, a1, a2] (.ref o :: st) h = if p1 a2 = true then pR 179 d 31 [a0, a1, .ref o] st h else none := r_sto (n := 1) (k := 2) (v := .ref o) (ls := [a0, a1, a2]) rfl rfl rfl
theorem rX6_moves_30n : pR 179 d 30 [a0, a1, a2] (.null :: st) h = if p1 a2 = true then pR 179 d 31 [a0, a1, .null] st h else none := r_sto (n := 1) (k := 2) (v := .null) (ls := [a0, a1, a2]) rfl rfl rfl
theorem rX6_moves_31 : pR 179 d 31 ls st h = pR 179 d 7 ls st h := pR_L rfl rfl
theorem rX6_moves_34 : pR 179 d 34 [a0, .ref o, a2] st h = pR 179 d 35 [a0, .ref o, a2] (.ref o :: st) h := pR_L rfl rfl
theorem rX6_moves_34n : pR 179 d 34 [a0, .null, a2] st h = pR 179 d 35 [a0, .null, a2] (.null :: st) h := pR_L rfl rfl
theorem rX6_moves_35 : pR 179 d 35 ls [.ref o] h = some (.inl (some (.ref o)), h) := pR_E rfl rfl
-- 180 BalloonStall$FigureReader move ()LBalloonStall$Move;
theorem eX6_move : pCa 180 d [.ref o] h = pR 180 d 0 [.ref o, pU, pU] [] h := rfl
theorem rX6_move_0 : pR 180 d 0 [.ref o, a1, a2] st h = pR 180 d 1 [.ref o, a1, a2] (.ref o :: st) h := pR_L rfl rfl
theorem rX6_move_1 : pR 180 (d + 1) 1 ls (.ref o :: st) h = if (pok 6 (pcl h o) && pw st) = true then pK 180 (d + 1) 1 3 ls st (pCa 170 d [.ref o] h) else none := r_callV rfl rfl rfl
theorem rX6_move_4 : pR 180 d 4 [a0, a1, a2] (.int x :: st) h = if p1 a1 = true then pR 180 d 5 [a0, .int x, a2] st h else none := r_sto (n := 1) (k := 1) (v := .int x) (ls := [a0, a1, a2]) rfl rfl rfl
theorem rX6_move_5 : pR 180 d 5 [.ref o, a1, a2] st h = pR 180 d 6 [.ref o, a1, a2] (.ref o :: st) h := pR_L rfl rfl
theorem rX6_move_6 : pR 180 d 6 [a0, .int x, a2] st h = pR 180 d 7 [a0, .int x, a2] (.int x :: st) h := pR_L rfl rfl
theorem rX6_move_7 : pR 180 (d + 1) 7 ls (b1 :: .ref o :: st) h = if (pok 6 (pcl h o) && pw st) = true then pK 180 (d + 1) 7 3 ls st (pCa 181 d [.ref o, b1] h) else none := r_callV rfl rfl rfl
theorem rX6_move_10 : pR 180 d 10 ls (.int x :: st) h = if x = 0 then pR 180 d 13 ls st h else pR 180 d 25 ls st h := r_ine rfl rfl
theorem rX6_move_13 : pR 180 d 13 ls st h = pR 180 d 16 ls (.ref h.2.1 :: st) (pnw h (.inr (7, [.null, .null, .null, .null, .null, .int 0, .int 0])) 7) := pR_X rfl rfl
theorem rX6_move_16 : pR 180 d 16 ls (.ref o :: st) h = pR 180 d 17 ls (.ref o :: .ref o :: st) h := pR_L rfl rfl
theorem rX6_move_16i : pR 180 d 16 ls (.int x :: st) h = pR 180 d 17 ls (.int x :: .int x :: st) h := pR_L rfl rfl
theorem rX6_move_17 : pR 180 d 17 [.ref o, a1, a2] st h = pR 180 d 18 [.ref o, a1, a2] (.ref o :: st) h := pR_L rfl rfl
theorem rX6_move_18 : pR 180 d 18 ls (.ref o :: st) h = if pis (pfl h 6 o 0) = true then pR 180 d 21 ls (pfl h 6 o 0 :: st) h else none := r_get rfl
theorem rX6_move_21 : pR 180 (d + 1) 21 ls (b1 :: .ref o :: st) h = if (pok 7 (pcl h o) && pw st) = true then pK 180 (d + 1) 21 3 ls st (pCa 256 d [.ref o, b1] h) else none := r_callV rfl rfl rfl
theorem rX6_move_24 (hc : pcl h o = 7 ∨ pcl h o = 26) : pR 180 d 24 ls (.ref o :: st) h = some (.inr o, h) := r_throw rfl hc rfl
theorem rX6_move_25 : pR 180 d 25 [a0, .int x, a2] st h = pR 180 d 26 [a0, .int x, a2] (.int x :: st) h := pR_L rfl rfl
theorem rX6_move_26 : pR 180 d 26 ls st h = pR 180 d 28 ls (.int 97 :: st) h := pR_L rfl rfl
theorem rX6_move_28 : pR 180 d 28 ls (.int y :: .int x :: st) h = if x < y then pR 180 d 47 ls st h else pR 180 d 31 ls st h := r_clt rfl rfl
theorem rX6_move_31 : pR 180 d 31 ls st h = pR 180 d 34 ls (.ref h.2.1 :: st) (pnw h (.inr (10, [.null, .int 0])) 2) := pR_X rfl rfl
theorem rX6_move_34 : pR 180 d 34 ls (.ref o :: st) h = pR 180 d 35 ls (.ref o :: .ref o :: st) h := pR_L rfl rfl
theorem rX6_move_34i : pR 180 d 34 ls (.int x :: st) h = pR 180 d 35 ls (.int x :: .int x :: st) h := pR_L rfl rfl
theorem rX6_move_35 : pR 180 d 35 [.ref o, a1, a2] st h = pR 180 d 36 [.ref o, a1, a2] (.ref o :: st) h := pR_L rfl rfl
theorem rX6_move_36 : pR 180 d 36 ls st h = pR 180 d 37 ls (.int 1 :: st) h := pR_L rfl rfl
theorem rX6_move_37 : pR 180 (d + 1) 37 ls (b1 :: .ref o :: st) h = if (pok 6 (pcl h o) && pw st) = true then pK 180 (d + 1) 37 3 ls st (pCa 172 d [.ref o, b1] h) else none := r_callV rfl rfl rfl
theorem rX6_move_40 : pR 180 d 40 ls st h = pR 180 d 42 ls (.int 97 :: st) h := pR_L rfl rfl
theorem rX6_move_42 : pR 180 d 42 ls (.int y :: .int x :: st) h = pR 180 d 43 ls (.int (x - y) :: st) h := pR_L rfl rfl
theorem rX6_move_43 : pR 180 (d + 1) 43 ls (b1 :: .ref o :: st) h = if (pok 10 (pcl h o) && pw st) = true then pK 180 (d + 1) 43 3 ls st (pCa 187 d [.ref o, b1] h) else none := r_callV rfl rfl rfl
theorem rX6_move_46 : pR 180 d 46 ls [.ref o] h = some (.inl (some (.ref o)), h) := pR_E rfl rfl
theorem rX6_move_47 : pR 180 d 47 [a0, .int x, a2] st h = pR 180 d 48 [a0, .int x, a2] (.int x :: st) h := pR_L rfl rfl
theorem rX6_move_48 : pR 180 d 48 ls st h = pR 180 d 50 ls (.int 40 :: st) h := pR_L rfl rfl
theorem rX6_move_50 : pR 180 d 50 ls (.int y :: .int x :: st) h = if x = y then pR 180 d 65 ls st h else pR 180 d 53 ls st h := r_ceq rfl rfl
theorem rX6_move_53 : pR 180 d 53 ls st h = pR 180 d 56 ls (.ref h.2.1 :: st) (pnw h (.inr (11, [.null, .int 0])) 2) := pR_X rfl rfl
theorem rX6_move_56 : pR 180 d 56 ls (.ref o :: st) h = pR 180 d 57 ls (.ref o :: .ref o :: st) h := pR_L rfl rfl
theorem rX6_move_56i : pR 180 d 56 ls (.int x :: st) h = pR 180 d 57 ls (.int x :: .int x :: st) h := pR_L rfl rfl
theorem rX6_move_57 : pR 180 d 57 [.ref o, a1, a2] st h = pR 180 d 58 [.ref o, a1, a2] (.ref o :: st) h := pR_L rfl rfl
theorem rX6_move_58 : pR 180 (d + 1) 58 ls (.ref o :: st) h = if (pok 6 (pcl h o) && pw st) = true then pK 180 (d + 1) 58 3 ls st (pCa 182 d [.ref o] h) else none := r_callV rfl rfl rfl
theorem rX6_move_61 : pR 180 (d + 1) 61 ls (b1 :: .ref o :: st) h = if (pok 11 (pcl h o) && pw st) = true then pK 180 (d + 1) 61 3 ls st (pCa 189 d [.ref o, b1] h) else none := r_callV rfl rfl rfl
theorem rX6_move_64 : pR 180 d 64 ls [.ref o] h = some (.inl (some (.ref o)), h) := pR_E rfl rfl
theorem rX6_move_65 : pR 180 d 65 [.ref o, a1, a2] st h = pR 180 d 66 [.ref o, a1, a2] (.ref o :: st) h := pR_L rfl rfl
theorem rX6_move_66 : pR 180 (d + 1) 66 ls (.ref o :: st) h = if (pok 6 (pcl h o) && pw st) = true then pK 180 (d + 1) 66 3 ls st (pCa 174 d [.ref o] h) else none := r_callV rfl rfl rfl
theorem rX6_move_69 : pR 180 d 69 [.ref o, a1, a2] st h = pR 180 d 70 [.ref o, a1, a2] (.ref o :: st) h := pR_L rfl rfl
theorem rX6_move_70 : pR 180 (d + 1) 70 ls (.ref o :: st) h = if (pok 6 (pcl h o) && pw st) = true then pK 180 (d + 1) 70 3 ls st (pCa 179 d [.ref o] h) else none := r_callV rfl rfl rfl
theorem rX6_move_73 : pR 180 d 73 [a0, a1, a2] (.ref o :: st) h = if p1 a2 = true then pR 180 d 74 [a0, a1, .ref o] st h else none := r_sto (n := 1) (k := 2) (v := .ref o) (ls := [a0, a1, a2]) rfl rfl rfl
theorem rX6_move_73n : pR 180 d 73 [a0, a1, a2] (.null :: st) h = if p1 a2 = true then pR 180 d 74 [a0, a1, .null] st h else none := r_sto (n := 1) (k := 2) (v := .null) (ls := [a0, a1, a2]) rfl rfl rfl
theorem rX6_move_74 : pR 180 d 74 [.ref o, a1, a2] st h = pR 180 d 75 [.ref o, a1, a2] (.ref o :: st) h := pR_L rfl rfl
theorem rX6_move_75 : pR 180 d 75 ls st h = pR 180 d 77 ls (.int 41 :: st) h := pR_L rfl rfl
theorem rX6_move_77 : pR 180 (d + 1) 77 ls (b1 :: .ref o :: st) h = if (pok 6 (pcl h o) && pw st) = true then pK 180 (d + 1) 77 3 ls st (pCa 175 d [.ref o, b1] h) else none := r_callV rfl rfl rfl
theorem rX6_move_80 : pR 180 d 80 ls st h = pR 180 d 83 ls (.ref h.2.1 :: st) (pnw h (.inr (12, [.null, .null])) 2) := pR_X rfl rfl
theorem rX6_move_83 : pR 180 d 83 ls (.ref o :: st) h = pR 180 d 84 ls (.ref o :: .ref o :: st) h := pR_L rfl rfl
theorem rX6_move_83i : pR 180 d 83 ls (.int x :: st) h = pR 180 d 84 ls (.int x :: .int x :: st) h := pR_L rfl rfl
theorem rX6_move_84 : pR 180 d 84 [a0, a1, .ref o] st h = pR 180 d 85 [a0, a1, .ref o] (.ref o :: st) h := pR_L rfl rfl
theorem rX6_move_84n : pR 180 d 84 [a0, a1, .null] st h = pR 180 d 85 [a0, a1, .null] (.null :: st) h := pR_L rfl rfl
theorem rX6_move_85 : pR 180 (d + 1) 85 ls (b1 :: .ref o :: st) h = if (pok 12 (pcl h o) && pw st) = true then pK 180 (d + 1) 85 3 ls st (pCa 191 d [.ref o, b1] h) else none := r_callV rfl rfl rfl
theorem rX6_move_88 : pR 180 d 88 ls [.ref o] h = some (.inl (some (.ref o)), h) := pR_E rfl rfl
-- 181 BalloonStall$FigureReader isMove (I)Z
theorem eX6_isMove : pCa 181 d [.ref o, .int x0] h = pR 181 d 0 [.ref o, .int x0] [] h := rfl
theorem rX6_isMove_0 : pR 181 d 0 [a0, .int x] st h = pR 181 d 1 [a0, .int x] (.int x :: st) h := pR_L rfl rfl
theorem rX6_isMove_1 : pR 181 d 1 ls st h = pR 181 d 3 ls (.int 48 :: st) h := pR_L rfl rfl
theorem rX6_isMove_3 : pR 181 d 3 ls (.int y :: .int x :: st) h = if x < y then pR 181 d 12 ls st h else pR 181 d 6 ls st h := r_clt rfl rfl
theorem rX6_isMove_6 : pR 181 d 6 [a0, .int x] st h = pR 181 d 7 [a0, .int x] (.int x :: st) h := pR_L rfl rfl
theorem rX6_isMove_7 : pR 181 d 7 ls st h = pR 181 d 9 ls (.int 57 :: st) h := pR_L rfl rfl
theorem rX6_isMove_9 : pR 181 d 9 ls (.int y :: .int x :: st) h = if y < x then pR 181 d 12 ls st h else pR 181 d 30 ls st h := r_cle rfl rfl
theorem rX6_isMove_12 : pR 181 d 12 [a0, .int x] st h = pR 181 d 13 [a0, .int x] (.int x :: st) h := pR_L rfl rfl
theorem rX6_isMove_13 : pR 181 d 13 ls st h = pR 181 d 15 ls (.int 97 :: st) h := pR_L rfl rfl
theorem rX6_isMove_15 : pR 181 d 15 ls (.int y :: .int x :: st) h = if x < y then pR 181 d 24 ls st h else pR 181 d 18 ls st h := r_clt rfl rfl
theorem rX6_isMove_18 : pR 181 d 18 [a0, .int x] st h = pR 181 d 19 [a0, .int x] (.int x :: st) h := pR_L rfl rfl
theorem rX6_isMove_19 : pR 181 d 19 ls st h = pR 181 d 21 ls (.int 105 :: st) h := pR_L rfl rfl
theorem rX6_isMove_21 : pR 181 d 21 ls (.int y :: .int x :: st) h = if x < y then pR 181 d 30 ls st h else pR 181 d 24 ls st h := r_clt rfl rfl
theorem rX6_isMove_24 : pR 181 d 24 [a0, .int x] st h = pR 181 d 25 [a0, .int x] (.int x :: st) h := pR_L rfl rfl
theorem rX6_isMove_25 : pR 181 d 25 ls st h = pR 181 d 27 ls (.int 40 :: st) h := pR_L rfl rfl
theorem rX6_isMove_27 : pR 181 d 27 ls (.int y :: .int x :: st) h = if x = y then pR 181 d 30 ls st h else pR 181 d 34 ls st h := r_cne rfl rfl
theorem rX6_isMove_30 : pR 181 d 30 ls st h = pR 181 d 31 ls (.int 1 :: st) h := pR_L rfl rfl
theorem rX6_isMove_31 : pR 181 d 31 ls st h = pR 181 d 35 ls st h := pR_L rfl rfl
theorem rX6_isMove_34 : pR 181 d 34 ls st h = pR 181 d 35 ls (.int 0 :: st) h := pR_L rfl rfl
theorem rX6_isMove_350 : pR 181 d 35 ls [.int 0] h = some (.inl (some (.int 0)), h) := pR_E rfl rfl
theorem rX6_isMove_351 : pR 181 d 35 ls [.int 1] h = some (.inl (some (.int 1)), h) := pR_E rfl rfl
-- 182 BalloonStall$FigureReader bubble ()I
theorem eX6_bubble : pCa 182 d [.ref o] h = pR 182 d 0 [.ref o, pU] [] h := rfl
theorem rX6_bubble_0 : pR 182 d 0 [.ref o, a1] st h = pR 182 d 1 [.ref o, a1] (.ref o :: st) h := pR_L rfl rfl
theorem rX6_bubble_1 : pR 182 d 1 [.ref o, a1] st h = pR 182 d 2 [.ref o, a1] (.ref o :: st) h := pR_L rfl rfl
theorem rX6_bubble_2 : pR 182 d 2 ls (.ref o :: st) h = if pis (pfl h 6 o 3) = true then pR 182 d 5 ls (pfl h 6 o 3 :: st) h else none := r_get rfl
theorem rX6_bubble_5 : pR 182 d 5 ls st h = pR 182 d 7 ls (.int 24 :: st) h := pR_L rfl rfl
theorem rX6_bubble_7 : pR 182 d 7 ls (.int y :: .int x :: st) h = if x < y then pR 182 d 10 ls st h else pR 182 d 14 ls st h := r_cge rfl rfl
theorem rX6_bubble_10 : pR 182 d 10 ls st h = pR 182 d 11 ls (.int 1 :: st) h := pR_L rfl rfl
theorem rX6_bubble_11 : pR 182 d 11 ls st h = pR 182 d 15 ls st h := pR_L rfl rfl
theorem rX6_bubble_14 : pR 182 d 14 ls st h = pR 182 d 15 ls (.int 0 :: st) h := pR_L rfl rfl
theorem rX6_bubble_15 : pR 182 (d + 1) 15 ls (b1 :: .ref o :: st) h = if (pok 6 (pcl h o) && pw st) = true then pK 182 (d + 1) 15 3 ls st (pCa 172 d [.ref o, b1] h) else none := r_callV rfl rfl rfl
theorem rX6_bubble_18 : pR 182 d 18 ls st h = pR 182 d 20 ls (.int 48 :: st) h := pR_L rfl rfl
theorem rX6_bubble_20 : pR 182 d 20 ls (.int y :: .int x :: st) h = pR 182 d 21 ls (.int (x - y) :: st) h := pR_L rfl rfl
theorem rX6_bubble_21 : pR 182 d 21 [a0, a1] (.int x :: st) h = if p1 a1 = true then pR 182 d 22 [a0, .int x] st h else none := r_sto (n := 1) (k := 1) (v := .int x) (ls := [a0, a1]) rfl rfl rfl
theorem rX6_bubble_22 : pR 182 d 22 [.ref o, a1] st h = pR 182 d 23 [.ref o, a1] (.ref o :: st) h := pR_L rfl rfl
theorem rX6_bubble_23 : pR 182 d 23 ls (.ref o :: st) h = pR 182 d 24 ls (.ref o :: .ref o :: st) h := pR_L rfl rfl
theorem rX6_bubble_23i : pR 182 d 23 ls (.int x :: st) h = pR 182 d 24 ls (.int x :: .int x :: st) h := pR_L rfl rfl
theorem rX6_bubble_24 : pR 182 d 24 ls (.ref o :: st) h = if pis (pfl h 6 o 3) = true then pR 182 d 27 ls (pfl h 6 o 3 :: st) h else none := r_get rfl
theorem rX6_bubble_27 : pR 182 d 27 ls st h = pR 182 d 28 ls (.int 1 :: st) h := pR_L rfl rfl
theorem rX6_bubble_28 : pR 182 d 28 ls (.int y :: .int x :: st) h = pR 182 d 29 ls (.int (x + y) :: st) h := pR_L rfl rfl
theorem rX6_bubble_29 : pR 182 d 29 ls (.int x :: .ref o :: st) h = if pis (pfl h 6 o 3) = true then pR 182 d 32 ls st (psf h o 3 (.int x)) else none := r_put rfl rfl
theorem rX6_bubble_32 : pR 182 d 32 [.ref o, a1] st h = pR 182 d 33 [.ref o, a1] (.ref o :: st) h := pR_L rfl rfl
theorem rX6_bubble_33 : pR 182 (d + 1) 33 ls (.ref o :: st) h = if (pok 6 (pcl h o) && pw st) = true then pK 182 (d + 1) 33 3 ls st (pCa 173 d [.ref o] h) else none := r_callV rfl rfl rfl
theorem rX6_bubble_36 : pR 182 d 36 ls (.int x :: st) h = if x = 0 then pR 182 d 53 ls st h else pR 182 d 39 ls st h := r_ieq rfl rfl
theorem rX6_bubble_39 : pR 182 d 39 ls st h = pR 182 d 41 ls (.int 10 :: st) h := pR_L rfl rfl
theorem rX6_bubble_41 : pR 182 d 41 [a0, .int x] st h = pR 182 d 42 [a0, .int x] (.int x :: st) h := pR_L rfl rfl
theorem rX6_bubble_42 : pR 182 d 42 ls (.int y :: .int x :: st) h = pR 182 d 43 ls (.int (x * y) :: st) h := pR_L rfl rfl
theorem rX6_bubble_43 : pR 182 d 43 [.ref o, a1] st h = pR 182 d 44 [.ref o, a1] (.ref o :: st) h := pR_L rfl rfl
theorem rX6_bubble_44 : pR 182 d 44 ls st h = pR 182 d 45 ls (.int 1 :: st) h := pR_L rfl rfl
theorem rX6_bubble_45 : pR 182 (d + 1) 45 ls (b1 :: .ref o :: st) h = if (pok 6 (pcl h o) && pw st) = true then pK 182 (d + 1) 45 3 ls st (pCa 172 d [.ref o, b1] h) else none := r_callV rfl rfl rfl
theorem rX6_bubble_48 : pR 182 d 48 ls (.int y :: .int x :: st) h = pR 182 d 49 ls (.int (x + y) :: st) h := pR_L rfl rfl
theorem rX6_bubble_49 : pR 182 d 49 ls st h = pR 182 d 51 ls (.int 48 :: st) h := pR_L rfl rfl
theorem rX6_bubble_51 : pR 182 d 51 ls (.int y :: .int x :: st) h = pR 182 d 52 ls (.int (x - y) :: st) h := pR_L rfl rfl
theorem rX6_bubble_52 : pR 182 d 52 [a0, a1] (.int x :: st) h = if p1 a1 = true then pR 182 d 53 [a0, .int x] st h else none := r_sto (n := 1) (k := 1) (v := .int x) (ls := [a0, a1]) rfl rfl rfl
theorem rX6_bubble_53 : pR 182 d 53 [a0, .int x] st h = pR 182 d 54 [a0, .int x] (.int x :: st) h := pR_L rfl rfl
theorem rX6_bubble_54 : pR 182 d 54 ls (.int x :: st) h = pR 182 d 55 ls (.long x.toInt64 :: st) h := pR_L rfl rfl
theorem rX6_bubble_55 : pR 182 d 55 ls st h = pR 182 d 56 ls (.long 1 :: st) h := pR_L rfl rfl
theorem rX6_bubble_56 : pR 182 d 56 ls st h = pR 182 d 59 ls (.long 30 :: st) h := pR_X rfl rfl
theorem rX6_bubble_59 : pR 182 (d + 1) 59 ls (b2 :: b1 :: b0 :: st) h = if pw st = true then pK 182 (d + 1) 59 3 ls st (pCa 6 d [b0, b1, b2] h) else none := r_callS rfl rfl rfl
theorem rX6_bubble_62 : pR 182 d 62 ls (.int x :: st) h = if x = 0 then pR 182 d 65 ls st h else pR 182 d 79 ls st h := r_ine rfl rfl
theorem rX6_bubble_65 : pR 182 d 65 ls st h = pR 182 d 68 ls (.ref h.2.1 :: st) (pnw h (.inr (7, [.null, .null, .null, .null, .null, .int 0, .int 0])) 7) := pR_X rfl rfl
theorem rX6_bubble_68 : pR 182 d 68 ls (.ref o :: st) h = pR 182 d 69 ls (.ref o :: .ref o :: st) h := pR_L rfl rfl
theorem rX6_bubble_68i : pR 182 d 68 ls (.int x :: st) h = pR 182 d 69 ls (.int x :: .int x :: st) h := pR_L rfl rfl
theorem rX6_bubble_69 : pR 182 d 69 [.ref o, a1] st h = pR 182 d 70 [.ref o, a1] (.ref o :: st) h := pR_L rfl rfl
theorem rX6_bubble_70 : pR 182 d 70 ls (.ref o :: st) h = if pis (pfl h 6 o 0) = true then pR 182 d 73 ls (pfl h 6 o 0 :: st) h else none := r_get rfl
theorem rX6_bubble_73 : pR 182 d 73 ls st h = pR 182 d 74 ls (.int 1 :: st) h := pR_L rfl rfl
theorem rX6_bubble_74 : pR 182 d 74 ls (.int y :: .int x :: st) h = pR 182 d 75 ls (.int (x - y) :: st) h := pR_L rfl rfl
theorem rX6_bubble_75 : pR 182 (d + 1) 75 ls (b1 :: .ref o :: st) h = if (pok 7 (pcl h o) && pw st) = true then pK 182 (d + 1) 75 3 ls st (pCa 256 d [.ref o, b1] h) else none := r_callV rfl rfl rfl
theorem rX6_bubble_78 (hc : pcl h o = 7 ∨ pcl h o = 26) : pR 182 d 78 ls (.ref o :: st) h = some (.inr o, h) := r_throw rfl hc rfl
theorem rX6_bubble_79 : pR 182 d 79 [.ref o, a1] st h = pR 182 d 80 [.ref o, a1] (.ref o :: st) h := pR_L rfl rfl
theorem rX6_bubble_80 : pR 182 (d + 1) 80 ls (.ref o :: st) h = if (pok 6 (pcl h o) && pw st) = true then pK 182 (d + 1) 80 3 ls st (pCa 173 d [.ref o] h) else none := r_callV rfl rfl rfl
theorem rX6_bubble_83 : pR 182 d 83 ls (.int x :: st) h = if x = 0 then pR 182 d 98 ls st h else pR 182 d 86 ls st h := r_ieq rfl rfl
theorem rX6_bubble_86 : pR 182 d 86 ls st h = pR 182 d 89 ls (.ref h.2.1 :: st) (pnw h (.inr (7, [.null, .null, .null, .null, .null, .int 0, .int 0])) 7) := pR_X rfl rfl
theorem rX6_bubble_89 : pR 182 d 89 ls (.ref o :: st) h = pR 182 d 90 ls (.ref o :: .ref o :: st) h := pR_L rfl rfl
theorem rX6_bubble_89i : pR 182 d 89 ls (.int x :: st) h = pR 182 d 90 ls (.int x :: .int x :: st) h := pR_L rfl rfl
theorem rX6_bubble_90 : pR 182 d 90 [.ref o, a1] st h = pR 182 d 91 [.ref o, a1] (.ref o :: st) h := pR_L rfl rfl
theorem rX6_bubble_91 : pR 182 d 91 ls (.ref o :: st) h = if pis (pfl h 6 o 0) = true then pR 182 d 94 ls (pfl h 6 o 0 :: st) h else none := r_get rfl
theorem rX6_bubble_94 : pR 182 (d + 1) 94 ls (b1 :: .ref o :: st) h = if (pok 7 (pcl h o) && pw st) = true then pK 182 (d + 1) 94 3 ls st (pCa 256 d [.ref o, b1] h) else none := r_callV rfl rfl rfl
theorem rX6_bubble_97 (hc : pcl h o = 7 ∨ pcl h o = 26) : pR 182 d 97 ls (.ref o :: st) h = some (.inr o, h) := r_throw rfl hc rfl
theorem rX6_bubble_98 : pR 182 d 98 [a0, .int x] st h = pR 182 d 99 [a0, .int x] (.int x :: st) h := pR_L rfl rfl
theorem rX6_bubble_99 : pR 182 d 99 ls [.int x] h = some (.inl (some (.int x)), h) := pR_E rfl rfl
-- 183 BalloonStall$Move <init> ()V
theorem eX8_init : pCa 183 d [.ref o] h = pR 183 d 0 [.ref o] [] h := rfl
theorem rX8_init_0 : pR 183 d 0 [.ref o] st h = pR 183 d 1 [.ref o] (.ref o :: st) h := pR_L rfl rfl
theorem rX8_init_1 : pR 183 (d + 1) 1 ls (.ref o :: st) h = if pw st = true then pR 183 (d + 1) 4 ls st h else none := r_obj rfl
theorem rX8_init_4 : pR 183 d 4 ls [] h = some (.inl none, h) := pR_E rfl rfl
-- 184 BalloonStall$Move all (LBalloonStall$Hand;)V
theorem eX8_all : pCa 184 d [.ref o, .ref r0] h = pR 184 d 0 [.ref o, .ref r0, pU] [] h := rfl
theorem rX8_all_0 : pR 184 d 0 [.ref o, a1, a2] st h = pR 184 d 1 [.ref o, a1, a2] (.ref o :: st) h := pR_L rfl rfl
theorem rX8_all_1 : pR 184 d 1 [a0, a1, a2] (.ref o :: st) h = if p1 a2 = true then pR 184 d 2 [a0, a1, .ref o] st h else none := r_sto (n := 1) (k := 2) (v := .ref o) (ls := [a0, a1, a2]) rfl rfl rfl
theorem rX8_all_1n : pR 184 d 1 [a0, a1, a2] (.null :: st) h = if p1 a2 = true then pR 184 d 2 [a0, a1, .null] st h else none := r_sto (n := 1) (k := 2) (v := .null) (ls := [a0, a1, a2]) rfl rfl rfl
theorem rX8_all_2 : pR 184 d 2 [a0, a1, .ref o] st h = pR 184 d 3 [a0, a1, .ref o] (.ref o :: st) h := pR_L rfl rfl
theorem rX8_all_2n : pR 184 d 2 [a0, a1, .null] st h = pR 184 d 3 [a0, a1, .null] (.null :: st) h := pR_L rfl rfl
theorem rX8_all_3n : pR 184 d 3 ls (.null :: st) h = pR 184 d 19 ls st h := pR_L rfl rfl
theorem rX8_all_3 : pR 184 d 3 ls (.ref o :: st) h = pR 184 d 6 ls st h := pR_L rfl rfl
theorem rX8_all_6 : pR 184 d 6 [a0, a1, .ref o] st h = pR 184 d 7 [a0, a1, .ref o] (.ref o :: st) h := pR_L rfl rfl
theorem rX8_all_6n : pR 184 d 6 [a0, a1, .null] st h = pR 184 d 7 [a0, a1, .null] (.null :: st) h := pR_L rfl rfl
theorem rX8_all_7 : pR 184 d 7 [a0, .ref o, a2] st h = pR 184 d 8 [a0, .ref o, a2] (.ref o :: st) h := pR_L rfl rfl
theorem rX8_all_7n : pR 184 d 7 [a0, .null, a2] st h = pR 184 d 8 [a0, .null, a2] (.null :: st) h := pR_L rfl rfl
theorem rX8_all_8c9 (hc : pcl h o = 9) : pR 184 (d + 1) 8 ls (b1 :: .ref o :: st) h = if pw st = true then pK 184 (d + 1) 8 3 ls st (pCa 186 d [.ref o, b1] h) else none := r_callA rfl rfl rfl (by rw [hc]; rfl)
theorem rX8_all_8c10 (hc : pcl h o = 10) : pR 184 (d + 1) 8 ls (b1 :: .ref o :: st) h = if pw st = true then pK 184 (d + 1) 8 3 ls st (pCa 188 d [.ref o, b1] h) else none := r_callA rfl rfl rfl (by rw [hc]; rfl)
theorem rX8_all_8c11 (hc : pcl h o = 11) : pR 184 (d + 1) 8 ls (b1 :: .ref o :: st) h = if pw st = true then pK 184 (d + 1) 8 3 ls st (pCa 190 d [.ref o, b1] h) else none := r_callA rfl rfl rfl (by rw [hc]; rfl)
theorem rX8_all_8c12 (hc : pcl h o = 12) : pR 184 (d + 1) 8 ls (b1 :: .ref o :: st) h = if pw st = true then pK 184 (d + 1) 8 3 ls st (pCa 192 d [.ref o, b1] h) else none := r_callA rfl rfl rfl (by rw [hc]; rfl)
theorem rX8_all_11 : pR 184 d 11 [a0, a1, .ref o] st h = pR 184 d 12 [a0, a1, .ref o] (.ref o :: st) h := pR_L rfl rfl
theorem rX8_all_11n : pR 184 d 11 [a0, a1, .null] st h = pR 184 d 12 [a0, a1, .null] (.null :: st) h := pR_L rfl rfl
theorem rX8_all_12 : pR 184 d 12 ls (.ref o :: st) h = if pis (pfl h 8 o 0) = true then pR 184 d 15 ls (pfl h 8 o 0 :: st) h else none := r_get rfl
theorem rX8_all_15 : pR 184 d 15 [a0, a1, a2] (.ref o :: st) h = if p1 a2 = true then pR 184 d 16 [a0, a1, .ref o] st h else none := r_sto (n := 1) (k := 2) (v := .ref o) (ls := [a0, a1, a2]) rfl rfl rfl
theorem rX8_all_15n : pR 184 d 15 [a0, a1, a2] (.null :: st) h = if p1 a2 = true then pR 184 d 16 [a0, a1, .null] st h else none := r_sto (n := 1) (k := 2) (v := .null) (ls := [a0, a1, a2]) rfl rfl rfl
theorem rX8_all_16 : pR 184 d 16 ls st h = pR 184 d 2 ls st h := pR_L rfl rfl
theorem rX8_all_19 : pR 184 d 19 ls [] h = some (.inl none, h) := pR_E rfl rfl
-- 185 BalloonStall$Fresh <init> (ILBalloonStall$Move;)V
theorem eX9_init : pCa 185 d [.ref o, .int x0, .ref r1] h = pR 185 d 0 [.ref o, .int x0, .ref r1] [] h := rfl
theorem rX9_init_0 : pR 185 d 0 [.ref o, a1, a2] st h = pR 185 d 1 [.ref o, a1, a2] (.ref o :: st) h := pR_L rfl rfl
theorem rX9_init_1 : pR 185 (d + 1) 1 ls (.ref o :: st) h = if (pok 8 (pcl h o) && pw st) = true then pK 185 (d + 1) 1 3 ls st (pCa 183 d [.ref o] h) else none := r_callV rfl rfl rfl
theorem rX9_init_4 : pR 185 d 4 [.ref o, a1, a2] st h = pR 185 d 5 [.ref o, a1, a2] (.ref o :: st) h := pR_L rfl rfl
theorem rX9_init_5 : pR 185 d 5 [a0, .int x, a2] st h = pR 185 d 6 [a0, .int x, a2] (.int x :: st) h := pR_L rfl rfl
theorem rX9_init_6 : pR 185 d 6 ls (.int x :: .ref o :: st) h = if pis (pfl h 9 o 1) = true then pR 185 d 9 ls st (psf h o 1 (.int x)) else none := r_put rfl rfl
theorem rX9_init_9 : pR 185 d 9 [.ref o, a1, a2] st h = pR 185 d 10 [.ref o, a1, a2] (.ref o :: st) h := pR_L rfl rfl
theorem rX9_init_10 : pR 185 d 10 [a0, a1, .ref o] st h = pR 185 d 11 [a0, a1, .ref o] (.ref o :: st) h := pR_L rfl rfl
theorem rX9_init_10n : pR 185 d 10 [a0, a1, .null] st h = pR 185 d 11 [a0, a1, .null] (.null :: st) h := pR_L rfl rfl
theorem rX9_init_11 : pR 185 d 11 ls (.ref o2 :: .ref o :: st) h = if pis (pfl h 9 o 2) = true then pR 185 d 14 ls st (psf h o 2 (.ref o2)) else none := r_put rfl rfl
theorem rX9_init_11n : pR 185 d 11 ls (.null :: .ref o :: st) h = if pis (pfl h 9 o 2) = true then pR 185 d 14 ls st (psf h o 2 .null) else none := r_put rfl rfl
theorem rX9_init_14 : pR 185 d 14 ls [] h = some (.inl none, h) := pR_E rfl rfl
-- 186 BalloonStall$Fresh made (LBalloonStall$Hand;)V
theorem eX9_made : pCa 186 d [.ref o, .ref r0] h = pR 186 d 0 [.ref o, .ref r0] [] h := rfl
theorem rX9_made_0 : pR 186 d 0 [a0, .ref o] st h = pR 186 d 1 [a0, .ref o] (.ref o :: st) h := pR_L rfl rfl
theorem rX9_made_0n : pR 186 d 0 [a0, .null] st h = pR 186 d 1 [a0, .null] (.null :: st) h := pR_L rfl rfl
theorem rX9_made_1 : pR 186 d 1 [.ref o, a1] st h = pR 186 d 2 [.ref o, a1] (.ref o :: st) h := pR_L rfl rfl
theorem rX9_made_2 : pR 186 d 2 ls (.ref o :: st) h = if pis (pfl h 9 o 1) = true then pR 186 d 5 ls (pfl h 9 o 1 :: st) h else none := r_get rfl
theorem rX9_made_5 : pR 186 (d + 1) 5 ls (b1 :: .ref o :: st) h = if (pok 23 (pcl h o) && pw st) = true then pK 186 (d + 1) 5 3 ls st (pCa 226 d [.ref o, b1] h) else none := r_callV rfl rfl rfl
theorem rX9_made_8 : pR 186 d 8 [.ref o, a1] st h = pR 186 d 9 [.ref o, a1] (.ref o :: st) h := pR_L rfl rfl
theorem rX9_made_9 : pR 186 d 9 ls (.ref o :: st) h = if pis (pfl h 9 o 2) = true then pR 186 d 12 ls (pfl h 9 o 2 :: st) h else none := r_get rfl
theorem rX9_made_12 : pR 186 d 12 [a0, .ref o] st h = pR 186 d 13 [a0, .ref o] (.ref o :: st) h := pR_L rfl rfl
theorem rX9_made_12n : pR 186 d 12 [a0, .null] st h = pR 186 d 13 [a0, .null] (.null :: st) h := pR_L rfl rfl
theorem rX9_made_13 : pR 186 (d + 1) 13 ls (b1 :: .ref o :: st) h = if (pok 8 (pcl h o) && pw st) = true then pK 186 (d + 1) 13 3 ls st (pCa 184 d [.ref o, b1] h) else none := r_callV rfl rfl rfl
theorem rX9_made_16 : pR 186 d 16 ls [] h = some (.inl none, h) := pR_E rfl rfl
-- 187 BalloonStall$Name <init> (I)V
theorem eX10_init : pCa 187 d [.ref o, .int x0] h = pR 187 d 0 [.ref o, .int x0] [] h := rfl
theorem rX10_init_0 : pR 187 d 0 [.ref o, a1] st h = pR 187 d 1 [.ref o, a1] (.ref o :: st) h := pR_L rfl rfl
theorem rX10_init_1 : pR 187 (d + 1) 1 ls (.ref o :: st) h = if (pok 8 (pcl h o) && pw st) = true then pK 187 (d + 1) 1 3 ls st (pCa 183 d [.ref o] h) else none := r_callV rfl rfl rfl
theorem rX10_init_4 : pR 187 d 4 [.ref o, a1] st h = pR 187 d 5 [.ref o, a1] (.ref o :: st) h := pR_L rfl rfl
theorem rX10_init_5 : pR 187 d 5 [a0, .int x] st h = pR 187 d 6 [a0, .int x] (.int x :: st) h := pR_L rfl rfl
theorem rX10_init_6 : pR 187 d 6 ls (.int x :: .ref o :: st) h = if pis (pfl h 10 o 1) = true then pR 187 d 9 ls st (psf h o 1 (.int x)) else none := r_put rfl rfl
theorem rX10_init_9 : pR 187 d 9 ls [] h = some (.inl none, h) := pR_E rfl rfl
-- 188 BalloonStall$Name made (LBalloonStall$Hand;)V
theorem eX10_made : pCa 188 d [.ref o, .ref r0] h = pR 188 d 0 [.ref o, .ref r0] [] h := rfl
theorem rX10_made_0 : pR 188 d 0 [a0, .ref o] st h = pR 188 d 1 [a0, .ref o] (.ref o :: st) h := pR_L rfl rfl
theorem rX10_made_0n : pR 188 d 0 [a0, .null] st h = pR 188 d 1 [a0, .null] (.null :: st) h := pR_L rfl rfl
theorem rX10_made_1 : pR 188 d 1 ls (.ref o :: st) h = if pis (pfl h 23 o 1) = true then pR 188 d 4 ls (pfl h 23 o 1 :: st) h else none := r_get rfl
theorem rX10_made_4 : pR 188 d 4 [.ref o, a1] st h = pR 188 d 5 [.ref o, a1] (.ref o :: st) h := pR_L rfl rfl
theorem rX10_made_5 : pR 188 d 5 ls (.ref o :: st) h = if pis (pfl h 10 o 1) = true then pR 188 d 8 ls (pfl h 10 o 1 :: st) h else none := r_get rfl
theorem rX10_made_8 : pR 188 d 8 ls (.int x :: .ref o :: st) h = if (pin x (pln h 0 o) || pin x (pln h 9 o)) = true then pR 188 d 9 ls (.int (pct h o x.toNatClampNeg) :: st) h else none := pR_Lif rfl rfl
theorem rX10_made_9 : pR 188 d 9 ls st h = pR 188 d 10 ls (.int (-1) :: st) h := pR_L rfl rfl
theorem rX10_made_10 : pR 188 d 10 ls (.int y :: .int x :: st) h = if x = y then pR 188 d 13 ls st h else pR 188 d 29 ls st h := r_cne rfl rfl
theorem rX10_made_13 : pR 188 d 13 [a0, .ref o] st h = pR 188 d 14 [a0, .ref o] (.ref o :: st) h := pR_L rfl rfl
theorem rX10_made_13n : pR 188 d 13 [a0, .null] st h = pR 188 d 14 [a0, .null] (.null :: st) h := pR_L rfl rfl
theorem rX10_made_14 : pR 188 d 14 ls (.ref o :: st) h = if pis (pfl h 23 o 1) = true then pR 188 d 17 ls (pfl h 23 o 1 :: st) h else none := r_get rfl
theorem rX10_made_17 : pR 188 d 17 [.ref o, a1] st h = pR 188 d 18 [.ref o, a1] (.ref o :: st) h := pR_L rfl rfl
theorem rX10_made_18 : pR 188 d 18 ls (.ref o :: st) h = if pis (pfl h 10 o 1) = true then pR 188 d 21 ls (pfl h 10 o 1 :: st) h else none := r_get rfl
theorem rX10_made_21 : pR 188 d 21 [a0, .ref o] st h = pR 188 d 22 [a0, .ref o] (.ref o :: st) h := pR_L rfl rfl
theorem rX10_made_21n : pR 188 d 21 [a0, .null] st h = pR 188 d 22 [a0, .null] (.null :: st) h := pR_L rfl rfl
theorem rX10_made_22 : pR 188 d 22 ls (.ref o :: st) h = if pis (pfl h 23 o 7) = true then pR 188 d 25 ls (pfl h 23 o 7 :: st) h else none := r_get rfl
theorem rX10_made_25 : pR 188 d 25 ls (.int y :: .int x :: .ref o :: st) h = if pin x (pln h 0 o) = true then pR 188 d 26 ls st (pst h o x.toNatClampNeg y) else none := pR_Lif rfl rfl
theorem rX10_made_26 : pR 188 d 26 ls st h = pR 188 d 46 ls st h := pR_L rfl rfl
theorem rX10_made_29 : pR 188 d 29 [a0, .ref o] st h = pR 188 d 30 [a0, .ref o] (.ref o :: st) h := pR_L rfl rfl
theorem rX10_made_29n : pR 188 d 29 [a0, .null] st h = pR 188 d 30 [a0, .null] (.null :: st) h := pR_L rfl rfl
theorem rX10_made_30 : pR 188 d 30 [a0, .ref o] st h = pR 188 d 31 [a0, .ref o] (.ref o :: st) h := pR_L rfl rfl
theorem rX10_made_30n : pR 188 d 30 [a0, .null] st h = pR 188 d 31 [a0, .null] (.null :: st) h := pR_L rfl rfl
theorem rX10_made_31 : pR 188 d 31 ls (.ref o :: st) h = if pis (pfl h 23 o 1) = true then pR 188 d 34 ls (pfl h 23 o 1 :: st) h else none := r_get rfl
theorem rX10_made_34 : pR 188 d 34 [.ref o, a1] st h = pR 188 d 35 [.ref o, a1] (.ref o :: st) h := pR_L rfl rfl
theorem rX10_made_35 : pR 188 d 35 ls (.ref o :: st) h = if pis (pfl h 10 o 1) = true then pR 188 d 38 ls (pfl h 10 o 1 :: st) h else none := r_get rfl
theorem rX10_made_38 : pR 188 d 38 ls (.int x :: .ref o :: st) h = if (pin x (pln h 0 o) || pin x (pln h 9 o)) = true then pR 188 d 39 ls (.int (pct h o x.toNatClampNeg) :: st) h else none := pR_Lif rfl rfl
theorem rX10_made_39 : pR 188 d 39 [a0, .ref o] st h = pR 188 d 40 [a0, .ref o] (.ref o :: st) h := pR_L rfl rfl
theorem rX10_made_39n : pR 188 d 39 [a0, .null] st h = pR 188 d 40 [a0, .null] (.null :: st) h := pR_L rfl rfl
theorem rX10_made_40 : pR 188 d 40 ls (.ref o :: st) h = if pis (pfl h 23 o 7) = true then pR 188 d 43 ls (pfl h 23 o 7 :: st) h else none := r_get rfl
theorem rX10_made_43 : pR 188 (d + 1) 43 ls (b2 :: b1 :: .ref o :: st) h = if (pok 23 (pcl h o) && pw st) = true then pK 188 (d + 1) 43 3 ls st (pCa 227 d [.ref o, b1, b2] h) else none := r_callV rfl rfl rfl
theorem rX10_made_46 : pR 188 d 46 ls [] h = some (.inl none, h) := pR_E rfl rfl
-- 189 BalloonStall$Blow <init> (I)V
theorem eX11_init : pCa 189 d [.ref o, .int x0] h = pR 189 d 0 [.ref o, .int x0] [] h := rfl
theorem rX11_init_0 : pR 189 d 0 [.ref o, a1] st h = pR 189 d 1 [.ref o, a1] (.ref o :: st) h := pR_L rfl rfl
theorem rX11_init_1 : pR 189 (d + 1) 1 ls (.ref o :: st) h = if (pok 8 (pcl h o) && pw st) = true then pK 189 (d + 1) 1 3 ls st (pCa 183 d [.ref o] h) else none := r_callV rfl rfl rfl
theorem rX11_init_4 : pR 189 d 4 [.ref o, a1] st h = pR 189 d 5 [.ref o, a1] (.ref o :: st) h := pR_L rfl rfl
theorem rX11_init_5 : pR 189 d 5 [a0, .int x] st h = pR 189 d 6 [a0, .int x] (.int x :: st) h := pR_L rfl rfl
theorem rX11_init_6 : pR 189 d 6 ls (.int x :: .ref o :: st) h = if pis (pfl h 11 o 1) = true then pR 189 d 9 ls st (psf h o 1 (.int x)) else none := r_put rfl rfl
theorem rX11_init_9 : pR 189 d 9 ls [] h = some (.inl none, h) := pR_E rfl rfl
-- 190 BalloonStall$Blow made (LBalloonStall$Hand;)V
theorem eX11_made : pCa 190 d [.ref o, .ref r0] h = pR 190 d 0 [.ref o, .ref r0] [] h := rfl
theorem rX11_made_0 : pR 190 d 0 [a0, .ref o] st h = pR 190 d 1 [a0, .ref o] (.ref o :: st) h := pR_L rfl rfl
theorem rX11_made_0n : pR 190 d 0 [a0, .null] st h = pR 190 d 1 [a0, .null] (.null :: st) h := pR_L rfl rfl
theorem rX11_made_1 : pR 190 d 1 [.ref o, a1] st h = pR 190 d 2 [.ref o, a1] (.ref o :: st) h := pR_L rfl rfl
theorem rX11_made_2 : pR 190 d 2 ls (.ref o :: st) h = if pis (pfl h 11 o 1) = true then pR 190 d 5 ls (pfl h 11 o 1 :: st) h else none := r_get rfl
theorem rX11_made_5 : pR 190 (d + 1) 5 ls (b1 :: .ref o :: st) h = if (pok 23 (pcl h o) && pw st) = true then pK 190 (d + 1) 5 3 ls st (pCa 220 d [.ref o, b1] h) else none := r_callV rfl rfl rfl
theorem rX11_made_8 : pR 190 d 8 ls [] h = some (.inl none, h) := pR_E rfl rfl
-- 191 BalloonStall$Ring <init> (LBalloonStall$Move;)V
theorem eX12_init : pCa 191 d [.ref o, .ref r0] h = pR 191 d 0 [.ref o, .ref r0] [] h := rfl
theorem rX12_init_0 : pR 191 d 0 [.ref o, a1] st h = pR 191 d 1 [.ref o, a1] (.ref o :: st) h := pR_L rfl rfl
theorem rX12_init_1 : pR 191 (d + 1) 1 ls (.ref o :: st) h = if (pok 8 (pcl h o) && pw st) = true then pK 191 (d + 1) 1 3 ls st (pCa 183 d [.ref o] h) else none := r_callV rfl rfl rfl
theorem rX12_init_4 : pR 191 d 4 [.ref o, a1] st h = pR 191 d 5 [.ref o, a1] (.ref o :: st) h := pR_L rfl rfl
theorem rX12_init_5 : pR 191 d 5 [a0, .ref o] st h = pR 191 d 6 [a0, .ref o] (.ref o :: st) h := pR_L rfl rfl
theorem rX12_init_5n : pR 191 d 5 [a0, .null] st h = pR 191 d 6 [a0, .null] (.null :: st) h := pR_L rfl rfl
theorem rX12_init_6 : pR 191 d 6 ls (.ref o2 :: .ref o :: st) h = if pis (pfl h 12 o 1) = true then pR 191 d 9 ls st (psf h o 1 (.ref o2)) else none := r_put rfl rfl
theorem rX12_init_6n : pR 191 d 6 ls (.null :: .ref o :: st) h = if pis (pfl h 12 o 1) = true then pR 191 d 9 ls st (psf h o 1 .null) else none := r_put rfl rfl
theorem rX12_init_9 : pR 191 d 9 ls [] h = some (.inl none, h) := pR_E rfl rfl
-- 192 BalloonStall$Ring made (LBalloonStall$Hand;)V
theorem eX12_made : pCa 192 d [.ref o, .ref r0] h = pR 192 d 0 [.ref o, .ref r0, pU] [] h := rfl
theorem rX12_made_0 : pR 192 d 0 [a0, .ref o, a2] st h = pR 192 d 1 [a0, .ref o, a2] (.ref o :: st) h := pR_L rfl rfl
theorem rX12_made_0n : pR 192 d 0 [a0, .null, a2] st h = pR 192 d 1 [a0, .null, a2] (.null :: st) h := pR_L rfl rfl
theorem rX12_made_1 : pR 192 d 1 ls (.ref o :: st) h = if pis (pfl h 23 o 7) = true then pR 192 d 4 ls (pfl h 23 o 7 :: st) h else none := r_get rfl
theorem rX12_made_4 : pR 192 d 4 [a0, a1, a2] (.int x :: st) h = if p1 a2 = true then pR 192 d 5 [a0, a1, .int x] st h else none := r_sto (n := 1) (k := 2) (v := .int x) (ls := [a0, a1, a2]) rfl rfl rfl
theorem rX12_made_5 : pR 192 d 5 [.ref o, a1, a2] st h = pR 192 d 6 [.ref o, a1, a2] (.ref o :: st) h := pR_L rfl rfl
theorem rX12_made_6 : pR 192 d 6 ls (.ref o :: st) h = if pis (pfl h 12 o 1) = true then pR 192 d 9 ls (pfl h 12 o 1 :: st) h else none := r_get rfl
theorem rX12_made_9 : pR 192 d 9 [a0, .ref o, a2] st h = pR 192 d 10 [a0, .ref o, a2] (.ref o :: st) h := pR_L rfl rfl
theorem rX12_made_9n : pR 192 d 9 [a0, .null, a2] st h = pR 192 d 10 [a0, .null, a2] (.null :: st) h := pR_L rfl rfl
theorem rX12_made_10 : pR 192 (d + 1) 10 ls (b1 :: .ref o :: st) h = if (pok 8 (pcl h o) && pw st) = true then pK 192 (d + 1) 10 3 ls st (pCa 184 d [.ref o, b1] h) else none := r_callV rfl rfl rfl
theorem rX12_made_13 : pR 192 d 13 [a0, .ref o, a2] st h = pR 192 d 14 [a0, .ref o, a2] (.ref o :: st) h := pR_L rfl rfl
theorem rX12_made_13n : pR 192 d 13 [a0, .null, a2] st h = pR 192 d 14 [a0, .null, a2] (.null :: st) h := pR_L rfl rfl
theorem rX12_made_14 : pR 192 d 14 [a0, a1, .int x] st h = pR 192 d 15 [a0, a1, .int x] (.int x :: st) h := pR_L rfl rfl
theorem rX12_made_15 : pR 192 d 15 [a0, .ref o, a2] st h = pR 192 d 16 [a0, .ref o, a2] (.ref o :: st) h := pR_L rfl rfl
theorem rX12_made_15n : pR 192 d 15 [a0, .null, a2] st h = pR 192 d 16 [a0, .null, a2] (.null :: st) h := pR_L rfl rfl
theorem rX12_made_16 : pR 192 d 16 ls (.ref o :: st) h = if pis (pfl h 23 o 7) = true then pR 192 d 19 ls (pfl h 23 o 7 :: st) h else none := r_get rfl
theorem rX12_made_19 : pR 192 (d + 1) 19 ls (b2 :: b1 :: .ref o :: st) h = if (pok 23 (pcl h o) && pw st) = true then pK 192 (d + 1) 19 3 ls st (pCa 227 d [.ref o, b1, b2] h) else none := r_callV rfl rfl rfl
theorem rX12_made_22 : pR 192 d 22 ls [] h = some (.inl none, h) := pR_E rfl rfl
-- 193 BalloonStall$RuleReader whole ()LBalloonStall$Clause;
theorem eX13_whole : pCa 193 d [.ref o] h = pR 193 d 0 [.ref o, pU, pU] [] h := rfl
theorem rX13_whole_0 : pR 193 d 0 [.ref o, a1, a2] st h = pR 193 d 1 [.ref o, a1, a2] (.ref o :: st) h := pR_L rfl rfl
theorem rX13_whole_1 : pR 193 (d + 1) 1 ls (.ref o :: st) h = if (pok 13 (pcl h o) && pw st) = true then pK 193 (d + 1) 1 3 ls st (pCa 194 d [.ref o] h) else none := r_callV rfl rfl rfl
theorem rX13_whole_4 : pR 193 d 4 [a0, a1, a2] (.ref o :: st) h = if p1 a1 = true then pR 193 d 5 [a0, .ref o, a2] st h else none := r_sto (n := 1) (k := 1) (v := .ref o) (ls := [a0, a1, a2]) rfl rfl rfl
theorem rX13_whole_4n : pR 193 d 4 [a0, a1, a2] (.null :: st) h = if p1 a1 = true then pR 193 d 5 [a0, .null, a2] st h else none := r_sto (n := 1) (k := 1) (v := .null) (ls := [a0, a1, a2]) rfl rfl rfl
theorem rX13_whole_5 : pR 193 d 5 [a0, .ref o, a2] st h = pR 193 d 6 [a0, .ref o, a2] (.ref o :: st) h := pR_L rfl rfl
theorem rX13_whole_5n : pR 193 d 5 [a0, .null, a2] st h = pR 193 d 6 [a0, .null, a2] (.null :: st) h := pR_L rfl rfl
theorem rX13_whole_6 : pR 193 d 6 [a0, a1, a2] (.ref o :: st) h = if p1 a2 = true then pR 193 d 7 [a0, a1, .ref o] st h else none := r_sto (n := 1) (k := 2) (v := .ref o) (ls := [a0, a1, a2]) rfl rfl rfl
theorem rX13_whole_6n : pR 193 d 6 [a0, a1, a2] (.null :: st) h = if p1 a2 = true then pR 193 d 7 [a0, a1, .null] st h else none := r_sto (n := 1) (k := 2) (v := .null) (ls := [a0, a1, a2]) rfl rfl rfl
theorem rX13_whole_7 : pR 193 d 7 [.ref o, a1, a2] st h = pR 193 d 8 [.ref o, a1, a2] (.ref o :: st) h := pR_L rfl rfl
theorem rX13_whole_8 : pR 193 (d + 1) 8 ls (.ref o :: st) h = if (pok 13 (pcl h o) && pw st) = true then pK 193 (d + 1) 8 3 ls st (pCa 170 d [.ref o] h) else none := r_callV rfl rfl rfl
theorem rX13_whole_11 : pR 193 d 11 ls st h = pR 193 d 13 ls (.int 59 :: st) h := pR_L rfl rfl
theorem rX13_whole_13 : pR 193 d 13 ls (.int y :: .int x :: st) h = if x = y then pR 193 d 16 ls st h else pR 193 d 42 ls st h := r_cne rfl rfl
theorem rX13_whole_16 : pR 193 d 16 [.ref o, a1, a2] st h = pR 193 d 17 [.ref o, a1, a2] (.ref o :: st) h := pR_L rfl rfl
theorem rX13_whole_17 : pR 193 d 17 ls (.ref o :: st) h = pR 193 d 18 ls (.ref o :: .ref o :: st) h := pR_L rfl rfl
theorem rX13_whole_17i : pR 193 d 17 ls (.int x :: st) h = pR 193 d 18 ls (.int x :: .int x :: st) h := pR_L rfl rfl
theorem rX13_whole_18 : pR 193 d 18 ls (.ref o :: st) h = if pis (pfl h 13 o 0) = true then pR 193 d 21 ls (pfl h 13 o 0 :: st) h else none := r_get rfl
theorem rX13_whole_21 : pR 193 d 21 ls st h = pR 193 d 22 ls (.int 1 :: st) h := pR_L rfl rfl
theorem rX13_whole_22 : pR 193 d 22 ls (.int y :: .int x :: st) h = pR 193 d 23 ls (.int (x + y) :: st) h := pR_L rfl rfl
theorem rX13_whole_23 : pR 193 d 23 ls (.int x :: .ref o :: st) h = if pis (pfl h 13 o 0) = true then pR 193 d 26 ls st (psf h o 0 (.int x)) else none := r_put rfl rfl
theorem rX13_whole_26 : pR 193 d 26 [a0, a1, .ref o] st h = pR 193 d 27 [a0, a1, .ref o] (.ref o :: st) h := pR_L rfl rfl
theorem rX13_whole_26n : pR 193 d 26 [a0, a1, .null] st h = pR 193 d 27 [a0, a1, .null] (.null :: st) h := pR_L rfl rfl
theorem rX13_whole_27 : pR 193 d 27 [.ref o, a1, a2] st h = pR 193 d 28 [.ref o, a1, a2] (.ref o :: st) h := pR_L rfl rfl
theorem rX13_whole_28 : pR 193 (d + 1) 28 ls (.ref o :: st) h = if (pok 13 (pcl h o) && pw st) = true then pK 193 (d + 1) 28 3 ls st (pCa 194 d [.ref o] h) else none := r_callV rfl rfl rfl
theorem rX13_whole_31 : pR 193 d 31 ls (.ref o2 :: .ref o :: st) h = if pis (pfl h 22 o 2) = true then pR 193 d 34 ls st (psf h o 2 (.ref o2)) else none := r_put rfl rfl
theorem rX13_whole_31n : pR 193 d 31 ls (.null :: .ref o :: st) h = if pis (pfl h 22 o 2) = true then pR 193 d 34 ls st (psf h o 2 .null) else none := r_put rfl rfl
theorem rX13_whole_34 : pR 193 d 34 [a0, a1, .ref o] st h = pR 193 d 35 [a0, a1, .ref o] (.ref o :: st) h := pR_L rfl rfl
theorem rX13_whole_34n : pR 193 d 34 [a0, a1, .null] st h = pR 193 d 35 [a0, a1, .null] (.null :: st) h := pR_L rfl rfl
theorem rX13_whole_35 : pR 193 d 35 ls (.ref o :: st) h = if pis (pfl h 22 o 2) = true then pR 193 d 38 ls (pfl h 22 o 2 :: st) h else none := r_get rfl
theorem rX13_whole_38 : pR 193 d 38 [a0, a1, a2] (.ref o :: st) h = if p1 a2 = true then pR 193 d 39 [a0, a1, .ref o] st h else none := r_sto (n := 1) (k := 2) (v := .ref o) (ls := [a0, a1, a2]) rfl rfl rfl
theorem rX13_whole_38n : pR 193 d 38 [a0, a1, a2] (.null :: st) h = if p1 a2 = true then pR 193 d 39 [a0, a1, .null] st h else none := r_sto (n := 1) (k := 2) (v := .null) (ls := [a0, a1, a2]) rfl rfl rfl
theorem rX13_whole_39 : pR 193 d 39 ls st h = pR 193 d 7 ls st h := pR_L rfl rfl
theorem rX13_whole_42 : pR 193 d 42 [.ref o, a1, a2] st h = pR 193 d 43 [.ref o, a1, a2] (.ref o :: st) h := pR_L rfl rfl
theorem rX13_whole_43 : pR 193 (d + 1) 43 ls (.ref o :: st) h = if (pok 13 (pcl h o) && pw st) = true then pK 193 (d + 1) 43 3 ls st (pCa 170 d [.ref o] h) else none := r_callV rfl rfl rfl
theorem rX13_whole_46 : pR 193 d 46 ls st h = pR 193 d 47 ls (.int (-1) :: st) h := pR_L rfl rfl
theorem rX13_whole_47 : pR 193 d 47 ls (.int y :: .int x :: st) h = if x = y then pR 193 d 62 ls st h else pR 193 d 50 ls st h := r_ceq rfl rfl
theorem rX13_whole_50 : pR 193 d 50 ls st h = pR 193 d 53 ls (.ref h.2.1 :: st) (pnw h (.inr (7, [.null, .null, .null, .null, .null, .int 0, .int 0])) 7) := pR_X rfl rfl
theorem rX13_whole_53 : pR 193 d 53 ls (.ref o :: st) h = pR 193 d 54 ls (.ref o :: .ref o :: st) h := pR_L rfl rfl
theorem rX13_whole_53i : pR 193 d 53 ls (.int x :: st) h = pR 193 d 54 ls (.int x :: .int x :: st) h := pR_L rfl rfl
theorem rX13_whole_54 : pR 193 d 54 [.ref o, a1, a2] st h = pR 193 d 55 [.ref o, a1, a2] (.ref o :: st) h := pR_L rfl rfl
theorem rX13_whole_55 : pR 193 d 55 ls (.ref o :: st) h = if pis (pfl h 13 o 0) = true then pR 193 d 58 ls (pfl h 13 o 0 :: st) h else none := r_get rfl
theorem rX13_whole_58 : pR 193 (d + 1) 58 ls (b1 :: .ref o :: st) h = if (pok 7 (pcl h o) && pw st) = true then pK 193 (d + 1) 58 3 ls st (pCa 256 d [.ref o, b1] h) else none := r_callV rfl rfl rfl
theorem rX13_whole_61 (hc : pcl h o = 7 ∨ pcl h o = 26) : pR 193 d 61 ls (.ref o :: st) h = some (.inr o, h) := r_throw rfl hc rfl
theorem rX13_whole_62 : pR 193 d 62 [a0, .ref o, a2] st h = pR 193 d 63 [a0, .ref o, a2] (.ref o :: st) h := pR_L rfl rfl
theorem rX13_whole_62n : pR 193 d 62 [a0, .null, a2] st h = pR 193 d 63 [a0, .null, a2] (.null :: st) h := pR_L rfl rfl
theorem rX13_whole_63 : pR 193 d 63 ls [.ref o] h = some (.inl (some (.ref o)), h) := pR_E rfl rfl
-- 194 BalloonStall$RuleReader clause ()LBalloonStall$Clause;
theorem eX13_clause : pCa 194 d [.ref o] h = pR 194 d 0 [.ref o, pU, pU] [] h := rfl
theorem rX13_clause_0 : pR 194 d 0 [.ref o, a1, a2] st h = pR 194 d 1 [.ref o, a1, a2] (.ref o :: st) h := pR_L rfl rfl
theorem rX13_clause_1 : pR 194 (d + 1) 1 ls (.ref o :: st) h = if (pok 13 (pcl h o) && pw st) = true then pK 194 (d + 1) 1 3 ls st (pCa 170 d [.ref o] h) else none := r_callV rfl rfl rfl
theorem rX13_clause_4 : pR 194 d 4 [a0, a1, a2] (.int x :: st) h = if p1 a1 = true then pR 194 d 5 [a0, .int x, a2] st h else none := r_sto (n := 1) (k := 1) (v := .int x) (ls := [a0, a1, a2]) rfl rfl rfl
theorem rX13_clause_5 : pR 194 d 5 [.ref o, a1, a2] st h = pR 194 d 6 [.ref o, a1, a2] (.ref o :: st) h := pR_L rfl rfl
theorem rX13_clause_6 : pR 194 d 6 [a0, .int x, a2] st h = pR 194 d 7 [a0, .int x, a2] (.int x :: st) h := pR_L rfl rfl
theorem rX13_clause_7 : pR 194 d 7 ls st h = pR 194 d 9 ls (.int 119 :: st) h := pR_L rfl rfl
theorem rX13_clause_9 : pR 194 d 9 ls (.int y :: .int x :: st) h = if x = y then pR 194 d 12 ls st h else pR 194 d 16 ls st h := r_cne rfl rfl
theorem rX13_clause_12 : pR 194 d 12 ls st h = pR 194 d 13 ls (.int 1 :: st) h := pR_L rfl rfl
theorem rX13_clause_13 : pR 194 d 13 ls st h = pR 194 d 17 ls st h := pR_L rfl rfl
theorem rX13_clause_16 : pR 194 d 16 ls st h = pR 194 d 17 ls (.int 0 :: st) h := pR_L rfl rfl
theorem rX13_clause_17 : pR 194 (d + 1) 17 ls (b1 :: .ref o :: st) h = if (pok 13 (pcl h o) && pw st) = true then pK 194 (d + 1) 17 3 ls st (pCa 172 d [.ref o, b1] h) else none := r_callV rfl rfl rfl
theorem rX13_clause_20 : pR 194 d 20 [a0, a1, a2] (.int x :: st) h = if p1 a1 = true then pR 194 d 21 [a0, .int x, a2] st h else none := r_sto (n := 1) (k := 1) (v := .int x) (ls := [a0, a1, a2]) rfl rfl rfl
theorem rX13_clause_21 : pR 194 d 21 [.ref o, a1, a2] st h = pR 194 d 22 [.ref o, a1, a2] (.ref o :: st) h := pR_L rfl rfl
theorem rX13_clause_22 : pR 194 (d + 1) 22 ls (.ref o :: st) h = if (pok 13 (pcl h o) && pw st) = true then pK 194 (d + 1) 22 3 ls st (pCa 170 d [.ref o] h) else none := r_callV rfl rfl rfl
theorem rX13_clause_25 : pR 194 d 25 [a0, a1, a2] (.int x :: st) h = if p1 a1 = true then pR 194 d 26 [a0, .int x, a2] st h else none := r_sto (n := 1) (k := 1) (v := .int x) (ls := [a0, a1, a2]) rfl rfl rfl
theorem rX13_clause_26 : pR 194 d 26 [.ref o, a1, a2] st h = pR 194 d 27 [.ref o, a1, a2] (.ref o :: st) h := pR_L rfl rfl
theorem rX13_clause_27 : pR 194 d 27 [a0, .int x, a2] st h = pR 194 d 28 [a0, .int x, a2] (.int x :: st) h := pR_L rfl rfl
theorem rX13_clause_28 : pR 194 d 28 ls st h = pR 194 d 30 ls (.int 58 :: st) h := pR_L rfl rfl
theorem rX13_clause_30 : pR 194 d 30 ls (.int y :: .int x :: st) h = if x = y then pR 194 d 33 ls st h else pR 194 d 37 ls st h := r_cne rfl rfl
theorem rX13_clause_33 : pR 194 d 33 ls st h = pR 194 d 34 ls (.int 1 :: st) h := pR_L rfl rfl
theorem rX13_clause_34 : pR 194 d 34 ls st h = pR 194 d 38 ls st h := pR_L rfl rfl
theorem rX13_clause_37 : pR 194 d 37 ls st h = pR 194 d 38 ls (.int 0 :: st) h := pR_L rfl rfl
theorem rX13_clause_38 : pR 194 (d + 1) 38 ls (b1 :: .ref o :: st) h = if (pok 13 (pcl h o) && pw st) = true then pK 194 (d + 1) 38 3 ls st (pCa 172 d [.ref o, b1] h) else none := r_callV rfl rfl rfl
theorem rX13_clause_41 : pR 194 d 41 [a0, a1, a2] (.int x :: st) h = if p1 a1 = true then pR 194 d 42 [a0, .int x, a2] st h else none := r_sto (n := 1) (k := 1) (v := .int x) (ls := [a0, a1, a2]) rfl rfl rfl
theorem rX13_clause_42 : pR 194 d 42 [.ref o, a1, a2] st h = pR 194 d 43 [.ref o, a1, a2] (.ref o :: st) h := pR_L rfl rfl
theorem rX13_clause_43 : pR 194 (d + 1) 43 ls (.ref o :: st) h = if (pok 13 (pcl h o) && pw st) = true then pK 194 (d + 1) 43 3 ls st (pCa 170 d [.ref o] h) else none := r_callV rfl rfl rfl
theorem rX13_clause_46 : pR 194 d 46 [a0, a1, a2] (.int x :: st) h = if p1 a1 = true then pR 194 d 47 [a0, .int x, a2] st h else none := r_sto (n := 1) (k := 1) (v := .int x) (ls := [a0, a1, a2]) rfl rfl rfl
theorem rX13_clause_47 : pR 194 d 47 [a0, .int x, a2] st h = pR 194 d 48 [a0, .int x, a2] (.int x :: st) h := pR_L rfl rfl
theorem rX13_clause_48 : pR 194 d 48 ls st h = pR 194 d 50 ls (.int 33 :: st) h := pR_L rfl rfl
theorem rX13_clause_50 : pR 194 d 50 ls (.int y :: .int x :: st) h = if x = y then pR 194 d 59 ls st h else pR 194 d 53 ls st h := r_ceq rfl rfl
theorem rX13_clause_53 : pR 194 d 53 [a0, .int x, a2] st h = pR 194 d 54 [a0, .int x, a2] (.int x :: st) h := pR_L rfl rfl
theorem rX13_clause_54 : pR 194 d 54 ls st h = pR 194 d 56 ls (.int 40 :: st) h := pR_L rfl rfl
theorem rX13_clause_56 : pR 194 d 56 ls (.int y :: .int x :: st) h = if x = y then pR 194 d 59 ls st h else pR 194 d 69 ls st h := r_cne rfl rfl
theorem rX13_clause_59 : pR 194 d 59 [.ref o, a1, a2] st h = pR 194 d 60 [.ref o, a1, a2] (.ref o :: st) h := pR_L rfl rfl
theorem rX13_clause_60 : pR 194 d 60 [.ref o, a1, a2] st h = pR 194 d 61 [.ref o, a1, a2] (.ref o :: st) h := pR_L rfl rfl
theorem rX13_clause_61 : pR 194 d 61 ls st h = pR 194 d 62 ls (.null :: st) h := pR_L rfl rfl
theorem rX13_clause_62 : pR 194 (d + 1) 62 ls (b1 :: .ref o :: st) h = if (pok 13 (pcl h o) && pw st) = true then pK 194 (d + 1) 62 3 ls st (pCa 195 d [.ref o, b1] h) else none := r_callV rfl rfl rfl
theorem rX13_clause_65 : pR 194 (d + 1) 65 ls (b1 :: .ref o :: st) h = if (pok 13 (pcl h o) && pw st) = true then pK 194 (d + 1) 65 3 ls st (pCa 202 d [.ref o, b1] h) else none := r_callV rfl rfl rfl
theorem rX13_clause_68 : pR 194 d 68 ls [.ref o] h = some (.inl (some (.ref o)), h) := pR_E rfl rfl
theorem rX13_clause_69 : pR 194 d 69 [.ref o, a1, a2] st h = pR 194 d 70 [.ref o, a1, a2] (.ref o :: st) h := pR_L rfl rfl
theorem rX13_clause_70 : pR 194 (d + 1) 70 ls (.ref o :: st) h = if (pok 13 (pcl h o) && pw st) = true then pK 194 (d + 1) 70 3 ls st (pCa 198 d [.ref o] h) else none := r_callV rfl rfl rfl
theorem rX13_clause_73 : pR 194 d 73 [a0, a1, a2] (.ref o :: st) h = if p1 a2 = true then pR 194 d 74 [a0, a1, .ref o] st h else none := r_sto (n := 1) (k := 2) (v := .ref o) (ls := [a0, a1, a2]) rfl rfl rfl
theorem rX13_clause_73n : pR 194 d 73 [a0, a1, a2] (.null :: st) h = if p1 a2 = true then pR 194 d 74 [a0, a1, .null] st h else none := r_sto (n := 1) (k := 2) (v := .null) (ls := [a0, a1, a2]) rfl rfl rfl
theorem rX13_clause_74 : pR 194 d 74 [.ref o, a1, a2] st h = pR 194 d 75 [.ref o, a1, a2] (.ref o :: st) h := pR_L rfl rfl
theorem rX13_clause_75 : pR 194 (d + 1) 75 ls (.ref o :: st) h = if (pok 13 (pcl h o) && pw st) = true then pK 194 (d + 1) 75 3 ls st (pCa 170 d [.ref o] h) else none := r_callV rfl rfl rfl
theorem rX13_clause_78 : pR 194 d 78 [a0, a1, a2] (.int x :: st) h = if p1 a1 = true then pR 194 d 79 [a0, .int x, a2] st h else none := r_sto (n := 1) (k := 1) (v := .int x) (ls := [a0, a1, a2]) rfl rfl rfl
theorem rX13_clause_79 : pR 194 d 79 [a0, .int x, a2] st h = pR 194 d 80 [a0, .int x, a2] (.int x :: st) h := pR_L rfl rfl
theorem rX13_clause_80 : pR 194 d 80 ls st h = pR 194 d 82 ls (.int 61 :: st) h := pR_L rfl rfl
theorem rX13_clause_82 : pR 194 d 82 ls (.int y :: .int x :: st) h = if x = y then pR 194 d 97 ls st h else pR 194 d 85 ls st h := r_ceq rfl rfl
theorem rX13_clause_85 : pR 194 d 85 [a0, .int x, a2] st h = pR 194 d 86 [a0, .int x, a2] (.int x :: st) h := pR_L rfl rfl
theorem rX13_clause_86 : pR 194 d 86 ls st h = pR 194 d 88 ls (.int 60 :: st) h := pR_L rfl rfl
theorem rX13_clause_88 : pR 194 d 88 ls (.int y :: .int x :: st) h = if x = y then pR 194 d 97 ls st h else pR 194 d 91 ls st h := r_ceq rfl rfl
theorem rX13_clause_91 : pR 194 d 91 [a0, .int x, a2] st h = pR 194 d 92 [a0, .int x, a2] (.int x :: st) h := pR_L rfl rfl
theorem rX13_clause_92 : pR 194 d 92 ls st h = pR 194 d 94 ls (.int 62 :: st) h := pR_L rfl rfl
theorem rX13_clause_94 : pR 194 d 94 ls (.int y :: .int x :: st) h = if x = y then pR 194 d 97 ls st h else pR 194 d 109 ls st h := r_cne rfl rfl
theorem rX13_clause_97 : pR 194 d 97 [.ref o, a1, a2] st h = pR 194 d 98 [.ref o, a1, a2] (.ref o :: st) h := pR_L rfl rfl
theorem rX13_clause_98 : pR 194 d 98 [.ref o, a1, a2] st h = pR 194 d 99 [.ref o, a1, a2] (.ref o :: st) h := pR_L rfl rfl
theorem rX13_clause_99 : pR 194 d 99 [a0, a1, .ref o] st h = pR 194 d 100 [a0, a1, .ref o] (.ref o :: st) h := pR_L rfl rfl
theorem rX13_clause_99n : pR 194 d 99 [a0, a1, .null] st h = pR 194 d 100 [a0, a1, .null] (.null :: st) h := pR_L rfl rfl
theorem rX13_clause_100 : pR 194 (d + 1) 100 ls (b1 :: .ref o :: st) h = if (pok 13 (pcl h o) && pw st) = true then pK 194 (d + 1) 100 3 ls st (pCa 195 d [.ref o, b1] h) else none := r_callV rfl rfl rfl
theorem rX13_clause_103 : pR 194 (d + 1) 103 ls (b1 :: .ref o :: st) h = if (pok 13 (pcl h o) && pw st) = true then pK 194 (d + 1) 103 3 ls st (pCa 202 d [.ref o, b1] h) else none := r_callV rfl rfl rfl
theorem rX13_clause_106 : pR 194 d 106 ls st h = pR 194 d 118 ls st h := pR_L rfl rfl
theorem rX13_clause_109 : pR 194 d 109 ls st h = pR 194 d 112 ls (.ref h.2.1 :: st) (pnw h (.inr (22, [.null, .null, .null])) 3) := pR_X rfl rfl
theorem rX13_clause_112 : pR 194 d 112 ls (.ref o :: st) h = pR 194 d 113 ls (.ref o :: .ref o :: st) h := pR_L rfl rfl
theorem rX13_clause_112i : pR 194 d 112 ls (.int x :: st) h = pR 194 d 113 ls (.int x :: .int x :: st) h := pR_L rfl rfl
theorem rX13_clause_113 : pR 194 d 113 ls st h = pR 194 d 114 ls (.null :: st) h := pR_L rfl rfl
theorem rX13_clause_114 : pR 194 d 114 [a0, a1, .ref o] st h = pR 194 d 115 [a0, a1, .ref o] (.ref o :: st) h := pR_L rfl rfl
theorem rX13_clause_114n : pR 194 d 114 [a0, a1, .null] st h = pR 194 d 115 [a0, a1, .null] (.null :: st) h := pR_L rfl rfl
theorem rX13_clause_115 : pR 194 (d + 1) 115 ls (b2 :: b1 :: .ref o :: st) h = if (pok 22 (pcl h o) && pw st) = true then pK 194 (d + 1) 115 3 ls st (pCa 217 d [.ref o, b1, b2] h) else none := r_callV rfl rfl rfl
theorem rX13_clause_118 : pR 194 d 118 ls [.ref o] h = some (.inl (some (.ref o)), h) := pR_E rfl rfl
-- 195 BalloonStall$RuleReader condition (LBalloonStall$Sum;)LBalloonStall$Test;
theorem eX13_condition : pCa 195 d [.ref o, .ref r0] h = pR 195 d 0 [.ref o, .ref r0, pU] [] h := rfl
theorem eX13_conditionn : pCa 195 d [.ref o, .null] h = pR 195 d 0 [.ref o, .null, pU] [] h := rfl
theorem rX13_condition_0 : pR 195 d 0 [.ref o, a1, a2] st h = pR 195 d 1 [.ref o, a1, a2] (.ref o :: st) h := pR_L rfl rfl
theorem rX13_condition_1 : pR 195 d 1 [a0, .ref o, a2] st h = pR 195 d 2 [a0, .ref o, a2] (.ref o :: st) h := pR_L rfl rfl
theorem rX13_condition_1n : pR 195 d 1 [a0, .null, a2] st h = pR 195 d 2 [a0, .null, a2] (.null :: st) h := pR_L rfl rfl
theorem rX13_condition_2 : pR 195 (d + 1) 2 ls (b1 :: .ref o :: st) h = if (pok 13 (pcl h o) && pw st) = true then pK 195 (d + 1) 2 3 ls st (pCa 196 d [.ref o, b1] h) else none := r_callV rfl rfl rfl
theorem rX13_condition_5 : pR 195 d 5 [a0, a1, a2] (.ref o :: st) h = if p1 a2 = true then pR 195 d 6 [a0, a1, .ref o] st h else none := r_sto (n := 1) (k := 2) (v := .ref o) (ls := [a0, a1, a2]) rfl rfl rfl
theorem rX13_condition_5n : pR 195 d 5 [a0, a1, a2] (.null :: st) h = if p1 a2 = true then pR 195 d 6 [a0, a1, .null] st h else none := r_sto (n := 1) (k := 2) (v := .null) (ls := [a0, a1, a2]) rfl rfl rfl
theorem rX13_condition_6 : pR 195 d 6 [.ref o, a1, a2] st h = pR 195 d 7 [.ref o, a1, a2] (.ref o :: st) h := pR_L rfl rfl
theorem rX13_condition_7 : pR 195 (d + 1) 7 ls (.ref o :: st) h = if (pok 13 (pcl h o) && pw st) = true then pK 195 (d + 1) 7 3 ls st (pCa 170 d [.ref o] h) else none := r_callV rfl rfl rfl
theorem rX13_condition_10 : pR 195 d 10 ls st h = pR 195 d 12 ls (.int 124 :: st) h := pR_L rfl rfl
theorem rX13_condition_12 : pR 195 d 12 ls (.int y :: .int x :: st) h = if x = y then pR 195 d 15 ls st h else pR 195 d 43 ls st h := r_cne rfl rfl
theorem rX13_condition_15 : pR 195 d 15 [.ref o, a1, a2] st h = pR 195 d 16 [.ref o, a1, a2] (.ref o :: st) h := pR_L rfl rfl
theorem rX13_condition_16 : pR 195 d 16 ls (.ref o :: st) h = pR 195 d 17 ls (.ref o :: .ref o :: st) h := pR_L rfl rfl
theorem rX13_condition_16i : pR 195 d 16 ls (.int x :: st) h = pR 195 d 17 ls (.int x :: .int x :: st) h := pR_L rfl rfl
theorem rX13_condition_17 : pR 195 d 17 ls (.ref o :: st) h = if pis (pfl h 13 o 0) = true then pR 195 d 20 ls (pfl h 13 o 0 :: st) h else none := r_get rfl
theorem rX13_condition_20 : pR 195 d 20 ls st h = pR 195 d 21 ls (.int 1 :: st) h := pR_L rfl rfl
theorem rX13_condition_21 : pR 195 d 21 ls (.int y :: .int x :: st) h = pR 195 d 22 ls (.int (x + y) :: st) h := pR_L rfl rfl
theorem rX13_condition_22 : pR 195 d 22 ls (.int x :: .ref o :: st) h = if pis (pfl h 13 o 0) = true then pR 195 d 25 ls st (psf h o 0 (.int x)) else none := r_put rfl rfl
theorem rX13_condition_25 : pR 195 d 25 ls st h = pR 195 d 28 ls (.ref h.2.1 :: st) (pnw h (.inr (21, [.int 0, .null, .null])) 3) := pR_X rfl rfl
theorem rX13_condition_28 : pR 195 d 28 ls (.ref o :: st) h = pR 195 d 29 ls (.ref o :: .ref o :: st) h := pR_L rfl rfl
theorem rX13_condition_28i : pR 195 d 28 ls (.int x :: st) h = pR 195 d 29 ls (.int x :: .int x :: st) h := pR_L rfl rfl
theorem rX13_condition_29 : pR 195 d 29 ls st h = pR 195 d 30 ls (.int 0 :: st) h := pR_L rfl rfl
theorem rX13_condition_30 : pR 195 d 30 [a0, a1, .ref o] st h = pR 195 d 31 [a0, a1, .ref o] (.ref o :: st) h := pR_L rfl rfl
theorem rX13_condition_30n : pR 195 d 30 [a0, a1, .null] st h = pR 195 d 31 [a0, a1, .null] (.null :: st) h := pR_L rfl rfl
theorem rX13_condition_31 : pR 195 d 31 [.ref o, a1, a2] st h = pR 195 d 32 [.ref o, a1, a2] (.ref o :: st) h := pR_L rfl rfl
theorem rX13_condition_32 : pR 195 d 32 ls st h = pR 195 d 33 ls (.null :: st) h := pR_L rfl rfl
theorem rX13_condition_33 : pR 195 (d + 1) 33 ls (b1 :: .ref o :: st) h = if (pok 13 (pcl h o) && pw st) = true then pK 195 (d + 1) 33 3 ls st (pCa 196 d [.ref o, b1] h) else none := r_callV rfl rfl rfl
theorem rX13_condition_36 : pR 195 (d + 1) 36 ls (b3 :: b2 :: b1 :: .ref o :: st) h = if (pok 21 (pcl h o) && pw st) = true then pK 195 (d + 1) 36 3 ls st (pCa 215 d [.ref o, b1, b2, b3] h) else none := r_callV rfl rfl rfl
theorem rX13_condition_39 : pR 195 d 39 [a0, a1, a2] (.ref o :: st) h = if p1 a2 = true then pR 195 d 40 [a0, a1, .ref o] st h else none := r_sto (n := 1) (k := 2) (v := .ref o) (ls := [a0, a1, a2]) rfl rfl rfl
theorem rX13_condition_39n : pR 195 d 39 [a0, a1, a2] (.null :: st) h = if p1 a2 = true then pR 195 d 40 [a0, a1, .null] st h else none := r_sto (n := 1) (k := 2) (v := .null) (ls := [a0, a1, a2]) rfl rfl rfl
theorem rX13_condition_40 : pR 195 d 40 ls st h = pR 195 d 6 ls st h := pR_L rfl rfl
theorem rX13_condition_43 : pR 195 d 43 [a0, a1, .ref o] st h = pR 195 d 44 [a0, a1, .ref o] (.ref o :: st) h := pR_L rfl rfl
theorem rX13_condition_43n : pR 195 d 43 [a0, a1, .null] st h = pR 195 d 44 [a0, a1, .null] (.null :: st) h := pR_L rfl rfl
theorem rX13_condition_44 : pR 195 d 44 ls [.ref o] h = some (.inl (some (.ref o)), h) := pR_E rfl rfl
-- 196 BalloonStall$RuleReader truth (LBalloonStall$Sum;)LBalloonStall$Test;
theorem eX13_truth : pCa 196 d [.ref o, .ref r0] h = pR 196 d 0 [.ref o, .ref r0, pU] [] h := rfl
theorem eX13_truthn : pCa 196 d [.ref o, .null] h = pR 196 d 0 [.ref o, .null, pU] [] h := rfl
theorem rX13_truth_0 : pR 196 d 0 [a0, .ref o, a2] st h = pR 196 d 1 [a0, .ref o, a2] (.ref o :: st) h := pR_L rfl rfl
theorem rX13_truth_0n : pR 196 d 0 [a0, .null, a2] st h = pR 196 d 1 [a0, .null, a2] (.null :: st) h := pR_L rfl rfl
theorem rX13_truth_1n : pR 196 d 1 ls (.null :: st) h = pR 196 d 4 ls st h := pR_L rfl rfl
theorem rX13_truth_1 : pR 196 d 1 ls (.ref o :: st) h = pR 196 d 11 ls st h := pR_L rfl rfl
theorem rX13_truth_4 : pR 196 d 4 [.ref o, a1, a2] st h = pR 196 d 5 [.ref o, a1, a2] (.ref o :: st) h := pR_L rfl rfl
theorem rX13_truth_5 : pR 196 (d + 1) 5 ls (.ref o :: st) h = if (pok 13 (pcl h o) && pw st) = true then pK 196 (d + 1) 5 3 ls st (pCa 197 d [.ref o] h) else none := r_callV rfl rfl rfl
theorem rX13_truth_8 : pR 196 d 8 ls st h = pR 196 d 16 ls st h := pR_L rfl rfl
theorem rX13_truth_11 : pR 196 d 11 [.ref o, a1, a2] st h = pR 196 d 12 [.ref o, a1, a2] (.ref o :: st) h := pR_L rfl rfl
theorem rX13_truth_12 : pR 196 d 12 [a0, .ref o, a2] st h = pR 196 d 13 [a0, .ref o, a2] (.ref o :: st) h := pR_L rfl rfl
theorem rX13_truth_12n : pR 196 d 12 [a0, .null, a2] st h = pR 196 d 13 [a0, .null, a2] (.null :: st) h := pR_L rfl rfl
theorem rX13_truth_13 : pR 196 (d + 1) 13 ls (b1 :: .ref o :: st) h = if (pok 13 (pcl h o) && pw st) = true then pK 196 (d + 1) 13 3 ls st (pCa 201 d [.ref o, b1] h) else none := r_callV rfl rfl rfl
theorem rX13_truth_16 : pR 196 d 16 [a0, a1, a2] (.ref o :: st) h = if p1 a2 = true then pR 196 d 17 [a0, a1, .ref o] st h else none := r_sto (n := 1) (k := 2) (v := .ref o) (ls := [a0, a1, a2]) rfl rfl rfl
theorem rX13_truth_16n : pR 196 d 16 [a0, a1, a2] (.null :: st) h = if p1 a2 = true then pR 196 d 17 [a0, a1, .null] st h else none := r_sto (n := 1) (k := 2) (v := .null) (ls := [a0, a1, a2]) rfl rfl rfl
theorem rX13_truth_17 : pR 196 d 17 [.ref o, a1, a2] st h = pR 196 d 18 [.ref o, a1, a2] (.ref o :: st) h := pR_L rfl rfl
theorem rX13_truth_18 : pR 196 (d + 1) 18 ls (.ref o :: st) h = if (pok 13 (pcl h o) && pw st) = true then pK 196 (d + 1) 18 3 ls st (pCa 170 d [.ref o] h) else none := r_callV rfl rfl rfl
theorem rX13_truth_21 : pR 196 d 21 ls st h = pR 196 d 23 ls (.int 38 :: st) h := pR_L rfl rfl
theorem rX13_truth_23 : pR 196 d 23 ls (.int y :: .int x :: st) h = if x = y then pR 196 d 26 ls st h else pR 196 d 53 ls st h := r_cne rfl rfl
theorem rX13_truth_26 : pR 196 d 26 [.ref o, a1, a2] st h = pR 196 d 27 [.ref o, a1, a2] (.ref o :: st) h := pR_L rfl rfl
theorem rX13_truth_27 : pR 196 d 27 ls (.ref o :: st) h = pR 196 d 28 ls (.ref o :: .ref o :: st) h := pR_L rfl rfl
theorem rX13_truth_27i : pR 196 d 27 ls (.int x :: st) h = pR 196 d 28 ls (.int x :: .int x :: st) h := pR_L rfl rfl
theorem rX13_truth_28 : pR 196 d 28 ls (.ref o :: st) h = if pis (pfl h 13 o 0) = true then pR 196 d 31 ls (pfl h 13 o 0 :: st) h else none := r_get rfl
theorem rX13_truth_31 : pR 196 d 31 ls st h = pR 196 d 32 ls (.int 1 :: st) h := pR_L rfl rfl
theorem rX13_truth_32 : pR 196 d 32 ls (.int y :: .int x :: st) h = pR 196 d 33 ls (.int (x + y) :: st) h := pR_L rfl rfl
theorem rX13_truth_33 : pR 196 d 33 ls (.int x :: .ref o :: st) h = if pis (pfl h 13 o 0) = true then pR 196 d 36 ls st (psf h o 0 (.int x)) else none := r_put rfl rfl
theorem rX13_truth_36 : pR 196 d 36 ls st h = pR 196 d 39 ls (.ref h.2.1 :: st) (pnw h (.inr (21, [.int 0, .null, .null])) 3) := pR_X rfl rfl
theorem rX13_truth_39 : pR 196 d 39 ls (.ref o :: st) h = pR 196 d 40 ls (.ref o :: .ref o :: st) h := pR_L rfl rfl
theorem rX13_truth_39i : pR 196 d 39 ls (.int x :: st) h = pR 196 d 40 ls (.int x :: .int x :: st) h := pR_L rfl rfl
theorem rX13_truth_40 : pR 196 d 40 ls st h = pR 196 d 41 ls (.int 1 :: st) h := pR_L rfl rfl
theorem rX13_truth_41 : pR 196 d 41 [a0, a1, .ref o] st h = pR 196 d 42 [a0, a1, .ref o] (.ref o :: st) h := pR_L rfl rfl
theorem rX13_truth_41n : pR 196 d 41 [a0, a1, .null] st h = pR 196 d 42 [a0, a1, .null] (.null :: st) h := pR_L rfl rfl
theorem rX13_truth_42 : pR 196 d 42 [.ref o, a1, a2] st h = pR 196 d 43 [.ref o, a1, a2] (.ref o :: st) h := pR_L rfl rfl
theorem rX13_truth_43 : pR 196 (d + 1) 43 ls (.ref o :: st) h = if (pok 13 (pcl h o) && pw st) = true then pK 196 (d + 1) 43 3 ls st (pCa 197 d [.ref o] h) else none := r_callV rfl rfl rfl
theorem rX13_truth_46 : pR 196 (d + 1) 46 ls (b3 :: b2 :: b1 :: .ref o :: st) h = if (pok 21 (pcl h o) && pw st) = true then pK 196 (d + 1) 46 3 ls st (pCa 215 d [.ref o, b1, b2, b3] h) else none := r_callV rfl rfl rfl
theorem rX13_truth_49 : pR 196 d 49 [a0, a1, a2] (.ref o :: st) h = if p1 a2 = true then pR 196 d 50 [a0, a1, .ref o] st h else none := r_sto (n := 1) (k := 2) (v := .ref o) (ls := [a0, a1, a2]) rfl rfl rfl
theorem rX13_truth_49n : pR 196 d 49 [a0, a1, a2] (.null :: st) h = if p1 a2 = true then pR 196 d 50 [a0, a1, .null] st h else none := r_sto (n := 1) (k := 2) (v := .null) (ls := [a0, a1, a2]) rfl rfl rfl
theorem rX13_truth_50 : pR 196 d 50 ls st h = pR 196 d 17 ls st h := pR_L rfl rfl
theorem rX13_truth_53 : pR 196 d 53 [a0, a1, .ref o] st h = pR 196 d 54 [a0, a1, .ref o] (.ref o :: st) h := pR_L rfl rfl
theorem rX13_truth_53n : pR 196 d 53 [a0, a1, .null] st h = pR 196 d 54 [a0, a1, .null] (.null :: st) h := pR_L rfl rfl
theorem rX13_truth_54 : pR 196 d 54 ls [.ref o] h = some (.inl (some (.ref o)), h) := pR_E rfl rfl
-- 197 BalloonStall$RuleReader unit ()LBalloonStall$Test;
theorem eX13_unit : pCa 197 d [.ref o] h = pR 197 d 0 [.ref o, pU, pU] [] h := rfl
theorem rX13_unit_0 : pR 197 d 0 [.ref o, a1, a2] st h = pR 197 d 1 [.ref o, a1, a2] (.ref o :: st) h := pR_L rfl rfl
theorem rX13_unit_1 : pR 197 (d + 1) 1 ls (.ref o :: st) h = if (pok 13 (pcl h o) && pw st) = true then pK 197 (d + 1) 1 3 ls st (pCa 170 d [.ref o] h) else none := r_callV rfl rfl rfl
theorem rX13_unit_4 : pR 197 d 4 [a0, a1, a2] (.int x :: st) h = if p1 a1 = true then pR 197 d 5 [a0, .int x, a2] st h else none := r_sto (n := 1) (k := 1) (v := .int x) (ls := [a0, a1, a2]) rfl rfl rfl
theorem rX13_unit_5 : pR 197 d 5 [a0, .int x, a2] st h = pR 197 d 6 [a0, .int x, a2] (.int x :: st) h := pR_L rfl rfl
theorem rX13_unit_6 : pR 197 d 6 ls st h = pR 197 d 8 ls (.int 33 :: st) h := pR_L rfl rfl
theorem rX13_unit_8 : pR 197 d 8 ls (.int y :: .int x :: st) h = if x = y then pR 197 d 11 ls st h else pR 197 d 33 ls st h := r_cne rfl rfl
theorem rX13_unit_11 : pR 197 d 11 [.ref o, a1, a2] st h = pR 197 d 12 [.ref o, a1, a2] (.ref o :: st) h := pR_L rfl rfl
theorem rX13_unit_12 : pR 197 (d + 1) 12 ls (.ref o :: st) h = if (pok 13 (pcl h o) && pw st) = true then pK 197 (d + 1) 12 3 ls st (pCa 174 d [.ref o] h) else none := r_callV rfl rfl rfl
theorem rX13_unit_15 : pR 197 d 15 ls st h = pR 197 d 18 ls (.ref h.2.1 :: st) (pnw h (.inr (15, [.null])) 1) := pR_X rfl rfl
theorem rX13_unit_18 : pR 197 d 18 ls (.ref o :: st) h = pR 197 d 19 ls (.ref o :: .ref o :: st) h := pR_L rfl rfl
theorem rX13_unit_18i : pR 197 d 18 ls (.int x :: st) h = pR 197 d 19 ls (.int x :: .int x :: st) h := pR_L rfl rfl
theorem rX13_unit_19 : pR 197 d 19 [.ref o, a1, a2] st h = pR 197 d 20 [.ref o, a1, a2] (.ref o :: st) h := pR_L rfl rfl
theorem rX13_unit_20 : pR 197 (d + 1) 20 ls (.ref o :: st) h = if (pok 13 (pcl h o) && pw st) = true then pK 197 (d + 1) 20 3 ls st (pCa 197 d [.ref o] h) else none := r_callV rfl rfl rfl
theorem rX13_unit_23 : pR 197 (d + 1) 23 ls (b1 :: .ref o :: st) h = if (pok 15 (pcl h o) && pw st) = true then pK 197 (d + 1) 23 3 ls st (pCa 204 d [.ref o, b1] h) else none := r_callV rfl rfl rfl
theorem rX13_unit_26 : pR 197 d 26 [a0, a1, a2] (.ref o :: st) h = if p1 a2 = true then pR 197 d 27 [a0, a1, .ref o] st h else none := r_sto (n := 1) (k := 2) (v := .ref o) (ls := [a0, a1, a2]) rfl rfl rfl
theorem rX13_unit_26n : pR 197 d 26 [a0, a1, a2] (.null :: st) h = if p1 a2 = true then pR 197 d 27 [a0, a1, .null] st h else none := r_sto (n := 1) (k := 2) (v := .null) (ls := [a0, a1, a2]) rfl rfl rfl
theorem rX13_unit_27 : pR 197 d 27 [.ref o, a1, a2] st h = pR 197 d 28 [.ref o, a1, a2] (.ref o :: st) h := pR_L rfl rfl
theorem rX13_unit_28 : pR 197 (d + 1) 28 ls (.ref o :: st) h = if (pok 13 (pcl h o) && pw st) = true then pK 197 (d + 1) 28 3 ls st (pCa 176 d [.ref o] h) else none := r_callV rfl rfl rfl
theorem rX13_unit_31 : pR 197 d 31 [a0, a1, .ref o] st h = pR 197 d 32 [a0, a1, .ref o] (.ref o :: st) h := pR_L rfl rfl
theorem rX13_unit_31n : pR 197 d 31 [a0, a1, .null] st h = pR 197 d 32 [a0, a1, .null] (.null :: st) h := pR_L rfl rfl
theorem rX13_unit_32 : pR 197 d 32 ls [.ref o] h = some (.inl (some (.ref o)), h) := pR_E rfl rfl
theorem rX13_unit_33 : pR 197 d 33 [a0, .int x, a2] st h = pR 197 d 34 [a0, .int x, a2] (.int x :: st) h := pR_L rfl rfl
theorem rX13_unit_34 : pR 197 d 34 ls st h = pR 197 d 36 ls (.int 40 :: st) h := pR_L rfl rfl
theorem rX13_unit_36 : pR 197 d 36 ls (.int y :: .int x :: st) h = if x = y then pR 197 d 39 ls st h else pR 197 d 57 ls st h := r_cne rfl rfl
theorem rX13_unit_39 : pR 197 d 39 [.ref o, a1, a2] st h = pR 197 d 40 [.ref o, a1, a2] (.ref o :: st) h := pR_L rfl rfl
theorem rX13_unit_40 : pR 197 (d + 1) 40 ls (.ref o :: st) h = if (pok 13 (pcl h o) && pw st) = true then pK 197 (d + 1) 40 3 ls st (pCa 174 d [.ref o] h) else none := r_callV rfl rfl rfl
theorem rX13_unit_43 : pR 197 d 43 [.ref o, a1, a2] st h = pR 197 d 44 [.ref o, a1, a2] (.ref o :: st) h := pR_L rfl rfl
theorem rX13_unit_44 : pR 197 d 44 ls st h = pR 197 d 45 ls (.null :: st) h := pR_L rfl rfl
theorem rX13_unit_45 : pR 197 (d + 1) 45 ls (b1 :: .ref o :: st) h = if (pok 13 (pcl h o) && pw st) = true then pK 197 (d + 1) 45 3 ls st (pCa 195 d [.ref o, b1] h) else none := r_callV rfl rfl rfl
theorem rX13_unit_48 : pR 197 d 48 [a0, a1, a2] (.ref o :: st) h = if p1 a2 = true then pR 197 d 49 [a0, a1, .ref o] st h else none := r_sto (n := 1) (k := 2) (v := .ref o) (ls := [a0, a1, a2]) rfl rfl rfl
theorem rX13_unit_48n : pR 197 d 48 [a0, a1, a2] (.null :: st) h = if p1 a2 = true then pR 197 d 49 [a0, a1, .null] st h else none := r_sto (n := 1) (k := 2) (v := .null) (ls := [a0, a1, a2]) rfl rfl rfl
theorem rX13_unit_49 : pR 197 d 49 [.ref o, a1, a2] st h = pR 197 d 50 [.ref o, a1, a2] (.ref o :: st) h := pR_L rfl rfl
theorem rX13_unit_50 : pR 197 d 50 ls st h = pR 197 d 52 ls (.int 41 :: st) h := pR_L rfl rfl
theorem rX13_unit_52 : pR 197 (d + 1) 52 ls (b1 :: .ref o :: st) h = if (pok 13 (pcl h o) && pw st) = true then pK 197 (d + 1) 52 3 ls st (pCa 175 d [.ref o, b1] h) else none := r_callV rfl rfl rfl
theorem rX13_unit_55 : pR 197 d 55 [a0, a1, .ref o] st h = pR 197 d 56 [a0, a1, .ref o] (.ref o :: st) h := pR_L rfl rfl
theorem rX13_unit_55n : pR 197 d 55 [a0, a1, .null] st h = pR 197 d 56 [a0, a1, .null] (.null :: st) h := pR_L rfl rfl
theorem rX13_unit_56 : pR 197 d 56 ls [.ref o] h = some (.inl (some (.ref o)), h) := pR_E rfl rfl
theorem rX13_unit_57 : pR 197 d 57 [.ref o, a1, a2] st h = pR 197 d 58 [.ref o, a1, a2] (.ref o :: st) h := pR_L rfl rfl
theorem rX13_unit_58 : pR 197 d 58 [.ref o, a1, a2] st h = pR 197 d 59 [.ref o, a1, a2] (.ref o :: st) h := pR_L rfl rfl
theorem rX13_unit_59 : pR 197 (d + 1) 59 ls (.ref o :: st) h = if (pok 13 (pcl h o) && pw st) = true then pK 197 (d + 1) 59 3 ls st (pCa 198 d [.ref o] h) else none := r_callV rfl rfl rfl
theorem rX13_unit_62 : pR 197 (d + 1) 62 ls (b1 :: .ref o :: st) h = if (pok 13 (pcl h o) && pw st) = true then pK 197 (d + 1) 62 3 ls st (pCa 201 d [.ref o, b1] h) else none := r_callV rfl rfl rfl
theorem rX13_unit_65 : pR 197 d 65 ls [.ref o] h = some (.inl (some (.ref o)), h) := pR_E rfl rfl
-- 198 BalloonStall$RuleReader sum ()LBalloonStall$Sum;
theorem eX13_sum : pCa 198 d [.ref o] h = pR 198 d 0 [.ref o, pU, pU] [] h := rfl
theorem rX13_sum_0 : pR 198 d 0 [.ref o, a1, a2] st h = pR 198 d 1 [.ref o, a1, a2] (.ref o :: st) h := pR_L rfl rfl
theorem rX13_sum_1 : pR 198 (d + 1) 1 ls (.ref o :: st) h = if (pok 13 (pcl h o) && pw st) = true then pK 198 (d + 1) 1 3 ls st (pCa 199 d [.ref o] h) else none := r_callV rfl rfl rfl
theorem rX13_sum_4 : pR 198 d 4 [a0, a1, a2] (.ref o :: st) h = if p1 a1 = true then pR 198 d 5 [a0, .ref o, a2] st h else none := r_sto (n := 1) (k := 1) (v := .ref o) (ls := [a0, a1, a2]) rfl rfl rfl
theorem rX13_sum_4n : pR 198 d 4 [a0, a1, a2] (.null :: st) h = if p1 a1 = true then pR 198 d 5 [a0, .null, a2] st h else none := r_sto (n := 1) (k := 1) (v := .null) (ls := [a0, a1, a2]) rfl rfl rfl
theorem rX13_sum_5 : pR 198 d 5 [.ref o, a1, a2] st h = pR 198 d 6 [.ref o, a1, a2] (.ref o :: st) h := pR_L rfl rfl
theorem rX13_sum_6 : pR 198 (d + 1) 6 ls (.ref o :: st) h = if (pok 13 (pcl h o) && pw st) = true then pK 198 (d + 1) 6 3 ls st (pCa 170 d [.ref o] h) else none := r_callV rfl rfl rfl
theorem rX13_sum_9 : pR 198 d 9 [a0, a1, a2] (.int x :: st) h = if p1 a2 = true then pR 198 d 10 [a0, a1, .int x] st h else none := r_sto (n := 1) (k := 2) (v := .int x) (ls := [a0, a1, a2]) rfl rfl rfl
theorem rX13_sum_10 : pR 198 d 10 [a0, a1, .int x] st h = pR 198 d 11 [a0, a1, .int x] (.int x :: st) h := pR_L rfl rfl
theorem rX13_sum_11 : pR 198 d 11 ls st h = pR 198 d 13 ls (.int 43 :: st) h := pR_L rfl rfl
theorem rX13_sum_13 : pR 198 d 13 ls (.int y :: .int x :: st) h = if x = y then pR 198 d 22 ls st h else pR 198 d 16 ls st h := r_ceq rfl rfl
theorem rX13_sum_16 : pR 198 d 16 [a0, a1, .int x] st h = pR 198 d 17 [a0, a1, .int x] (.int x :: st) h := pR_L rfl rfl
theorem rX13_sum_17 : pR 198 d 17 ls st h = pR 198 d 19 ls (.int 45 :: st) h := pR_L rfl rfl
theorem rX13_sum_19 : pR 198 d 19 ls (.int y :: .int x :: st) h = if x = y then pR 198 d 22 ls st h else pR 198 d 54 ls st h := r_cne rfl rfl
theorem rX13_sum_22 : pR 198 d 22 [.ref o, a1, a2] st h = pR 198 d 23 [.ref o, a1, a2] (.ref o :: st) h := pR_L rfl rfl
theorem rX13_sum_23 : pR 198 d 23 ls (.ref o :: st) h = pR 198 d 24 ls (.ref o :: .ref o :: st) h := pR_L rfl rfl
theorem rX13_sum_23i : pR 198 d 23 ls (.int x :: st) h = pR 198 d 24 ls (.int x :: .int x :: st) h := pR_L rfl rfl
theorem rX13_sum_24 : pR 198 d 24 ls (.ref o :: st) h = if pis (pfl h 13 o 0) = true then pR 198 d 27 ls (pfl h 13 o 0 :: st) h else none := r_get rfl
theorem rX13_sum_27 : pR 198 d 27 ls st h = pR 198 d 28 ls (.int 1 :: st) h := pR_L rfl rfl
theorem rX13_sum_28 : pR 198 d 28 ls (.int y :: .int x :: st) h = pR 198 d 29 ls (.int (x + y) :: st) h := pR_L rfl rfl
theorem rX13_sum_29 : pR 198 d 29 ls (.int x :: .ref o :: st) h = if pis (pfl h 13 o 0) = true then pR 198 d 32 ls st (psf h o 0 (.int x)) else none := r_put rfl rfl
theorem rX13_sum_32 : pR 198 d 32 ls st h = pR 198 d 35 ls (.ref h.2.1 :: st) (pnw h (.inr (19, [.int 0, .null, .null])) 3) := pR_X rfl rfl
theorem rX13_sum_35 : pR 198 d 35 ls (.ref o :: st) h = pR 198 d 36 ls (.ref o :: .ref o :: st) h := pR_L rfl rfl
theorem rX13_sum_35i : pR 198 d 35 ls (.int x :: st) h = pR 198 d 36 ls (.int x :: .int x :: st) h := pR_L rfl rfl
theorem rX13_sum_36 : pR 198 d 36 [a0, a1, .int x] st h = pR 198 d 37 [a0, a1, .int x] (.int x :: st) h := pR_L rfl rfl
theorem rX13_sum_37 : pR 198 d 37 [a0, .ref o, a2] st h = pR 198 d 38 [a0, .ref o, a2] (.ref o :: st) h := pR_L rfl rfl
theorem rX13_sum_37n : pR 198 d 37 [a0, .null, a2] st h = pR 198 d 38 [a0, .null, a2] (.null :: st) h := pR_L rfl rfl
theorem rX13_sum_38 : pR 198 d 38 [.ref o, a1, a2] st h = pR 198 d 39 [.ref o, a1, a2] (.ref o :: st) h := pR_L rfl rfl
theorem rX13_sum_39 : pR 198 (d + 1) 39 ls (.ref o :: st) h = if (pok 13 (pcl h o) && pw st) = true then pK 198 (d + 1) 39 3 ls st (pCa 199 d [.ref o] h) else none := r_callV rfl rfl rfl
theorem rX13_sum_42 : pR 198 (d + 1) 42 ls (b3 :: b2 :: b1 :: .ref o :: st) h = if (pok 19 (pcl h o) && pw st) = true then pK 198 (d + 1) 42 3 ls st (pCa 211 d [.ref o, b1, b2, b3] h) else none := r_callV rfl rfl rfl
theorem rX13_sum_45 : pR 198 d 45 [a0, a1, a2] (.ref o :: st) h = if p1 a1 = true then pR 198 d 46 [a0, .ref o, a2] st h else none := r_sto (n := 1) (k := 1) (v := .ref o) (ls := [a0, a1, a2]) rfl rfl rfl
theorem rX13_sum_45n : pR 198 d 45 [a0, a1, a2] (.null :: st) h = if p1 a1 = true then pR 198 d 46 [a0, .null, a2] st h else none := r_sto (n := 1) (k := 1) (v := .null) (ls := [a0, a1, a2]) rfl rfl rfl
theorem rX13_sum_46 : pR 198 d 46 [.ref o, a1, a2] st h = pR 198 d 47 [.ref o, a1, a2] (.ref o :: st) h := pR_L rfl rfl
theorem rX13_sum_47 : pR 198 (d + 1) 47 ls (.ref o :: st) h = if (pok 13 (pcl h o) && pw st) = true then pK 198 (d + 1) 47 3 ls st (pCa 170 d [.ref o] h) else none := r_callV rfl rfl rfl
theorem rX13_sum_50 : pR 198 d 50 [a0, a1, a2] (.int x :: st) h = if p1 a2 = true then pR 198 d 51 [a0, a1, .int x] st h else none := r_sto (n := 1) (k := 2) (v := .int x) (ls := [a0, a1, a2]) rfl rfl rfl
theorem rX13_sum_51 : pR 198 d 51 ls st h = pR 198 d 10 ls st h := pR_L rfl rfl
theorem rX13_sum_54 : pR 198 d 54 [a0, .ref o, a2] st h = pR 198 d 55 [a0, .ref o, a2] (.ref o :: st) h := pR_L rfl rfl
theorem rX13_sum_54n : pR 198 d 54 [a0, .null, a2] st h = pR 198 d 55 [a0, .null, a2] (.null :: st) h := pR_L rfl rfl
theorem rX13_sum_55 : pR 198 d 55 ls [.ref o] h = some (.inl (some (.ref o)), h) := pR_E rfl rfl
-- 199 BalloonStall$RuleReader term ()LBalloonStall$Sum;
theorem eX13_term : pCa 199 d [.ref o] h = pR 199 d 0 [.ref o, pU, pU] [] h := rfl
theorem rX13_term_0 : pR 199 d 0 [.ref o, a1, a2] st h = pR 199 d 1 [.ref o, a1, a2] (.ref o :: st) h := pR_L rfl rfl
theorem rX13_term_1 : pR 199 (d + 1) 1 ls (.ref o :: st) h = if (pok 13 (pcl h o) && pw st) = true then pK 199 (d + 1) 1 3 ls st (pCa 200 d [.ref o] h) else none := r_callV rfl rfl rfl
theorem rX13_term_4 : pR 199 d 4 [a0, a1, a2] (.ref o :: st) h = if p1 a1 = true then pR 199 d 5 [a0, .ref o, a2] st h else none := r_sto (n := 1) (k := 1) (v := .ref o) (ls := [a0, a1, a2]) rfl rfl rfl
theorem rX13_term_4n : pR 199 d 4 [a0, a1, a2] (.null :: st) h = if p1 a1 = true then pR 199 d 5 [a0, .null, a2] st h else none := r_sto (n := 1) (k := 1) (v := .null) (ls := [a0, a1, a2]) rfl rfl rfl
theorem rX13_term_5 : pR 199 d 5 [.ref o, a1, a2] st h = pR 199 d 6 [.ref o, a1, a2] (.ref o :: st) h := pR_L rfl rfl
theorem rX13_term_6 : pR 199 (d + 1) 6 ls (.ref o :: st) h = if (pok 13 (pcl h o) && pw st) = true then pK 199 (d + 1) 6 3 ls st (pCa 170 d [.ref o] h) else none := r_callV rfl rfl rfl
theorem rX13_term_9 : pR 199 d 9 [a0, a1, a2] (.int x :: st) h = if p1 a2 = true then pR 199 d 10 [a0, a1, .int x] st h else none := r_sto (n := 1) (k := 2) (v := .int x) (ls := [a0, a1, a2]) rfl rfl rfl
theorem rX13_term_10 : pR 199 d 10 [a0, a1, .int x] st h = pR 199 d 11 [a0, a1, .int x] (.int x :: st) h := pR_L rfl rfl
theorem rX13_term_11 : pR 199 d 11 ls st h = pR 199 d 13 ls (.int 42 :: st) h := pR_L rfl rfl
theorem rX13_term_13 : pR 199 d 13 ls (.int y :: .int x :: st) h = if x = y then pR 199 d 22 ls st h else pR 199 d 16 ls st h := r_ceq rfl rfl
theorem rX13_term_16 : pR 199 d 16 [a0, a1, .int x] st h = pR 199 d 17 [a0, a1, .int x] (.int x :: st) h := pR_L rfl rfl
theorem rX13_term_17 : pR 199 d 17 ls st h = pR 199 d 19 ls (.int 47 :: st) h := pR_L rfl rfl
theorem rX13_term_19 : pR 199 d 19 ls (.int y :: .int x :: st) h = if x = y then pR 199 d 22 ls st h else pR 199 d 54 ls st h := r_cne rfl rfl
theorem rX13_term_22 : pR 199 d 22 [.ref o, a1, a2] st h = pR 199 d 23 [.ref o, a1, a2] (.ref o :: st) h := pR_L rfl rfl
theorem rX13_term_23 : pR 199 d 23 ls (.ref o :: st) h = pR 199 d 24 ls (.ref o :: .ref o :: st) h := pR_L rfl rfl
theorem rX13_term_23i : pR 199 d 23 ls (.int x :: st) h = pR 199 d 24 ls (.int x :: .int x :: st) h := pR_L rfl rfl
theorem rX13_term_24 : pR 199 d 24 ls (.ref o :: st) h = if pis (pfl h 13 o 0) = true then pR 199 d 27 ls (pfl h 13 o 0 :: st) h else none := r_get rfl
theorem rX13_term_27 : pR 199 d 27 ls st h = pR 199 d 28 ls (.int 1 :: st) h := pR_L rfl rfl
theorem rX13_term_28 : pR 199 d 28 ls (.int y :: .int x :: st) h = pR 199 d 29 ls (.int (x + y) :: st) h := pR_L rfl rfl
theorem rX13_term_29 : pR 199 d 29 ls (.int x :: .ref o :: st) h = if pis (pfl h 13 o 0) = true then pR 199 d 32 ls st (psf h o 0 (.int x)) else none := r_put rfl rfl
theorem rX13_term_32 : pR 199 d 32 ls st h = pR 199 d 35 ls (.ref h.2.1 :: st) (pnw h (.inr (19, [.int 0, .null, .null])) 3) := pR_X rfl rfl
theorem rX13_term_35 : pR 199 d 35 ls (.ref o :: st) h = pR 199 d 36 ls (.ref o :: .ref o :: st) h := pR_L rfl rfl
theorem rX13_term_35i : pR 199 d 35 ls (.int x :: st) h = pR 199 d 36 ls (.int x :: .int x :: st) h := pR_L rfl rfl
theorem rX13_term_36 : pR 199 d 36 [a0, a1, .int x] st h = pR 199 d 37 [a0, a1, .int x] (.int x :: st) h := pR_L rfl rfl
theorem rX13_term_37 : pR 199 d 37 [a0, .ref o, a2] st h = pR 199 d 38 [a0, .ref o, a2] (.ref o :: st) h := pR_L rfl rfl
theorem rX13_term_37n : pR 199 d 37 [a0, .null, a2] st h = pR 199 d 38 [a0, .null, a2] (.null :: st) h := pR_L rfl rfl
theorem rX13_term_38 : pR 199 d 38 [.ref o, a1, a2] st h = pR 199 d 39 [.ref o, a1, a2] (.ref o :: st) h := pR_L rfl rfl
theorem rX13_term_39 : pR 199 (d + 1) 39 ls (.ref o :: st) h = if (pok 13 (pcl h o) && pw st) = true then pK 199 (d + 1) 39 3 ls st (pCa 200 d [.ref o] h) else none := r_callV rfl rfl rfl
theorem rX13_term_42 : pR 199 (d + 1) 42 ls (b3 :: b2 :: b1 :: .ref o :: st) h = if (pok 19 (pcl h o) && pw st) = true then pK 199 (d + 1) 42 3 ls st (pCa 211 d [.ref o, b1, b2, b3] h) else none := r_callV rfl rfl rfl
theorem rX13_term_45 : pR 199 d 45 [a0, a1, a2] (.ref o :: st) h = if p1 a1 = true then pR 199 d 46 [a0, .ref o, a2] st h else none := r_sto (n := 1) (k := 1) (v := .ref o) (ls := [a0, a1, a2]) rfl rfl rfl
theorem rX13_term_45n : pR 199 d 45 [a0, a1, a2] (.null :: st) h = if p1 a1 = true then pR 199 d 46 [a0, .null, a2] st h else none := r_sto (n := 1) (k := 1) (v := .null) (ls := [a0, a1, a2]) rfl rfl rfl
theorem rX13_term_46 : pR 199 d 46 [.ref o, a1, a2] st h = pR 199 d 47 [.ref o, a1, a2] (.ref o :: st) h := pR_L rfl rfl
theorem rX13_term_47 : pR 199 (d + 1) 47 ls (.ref o :: st) h = if (pok 13 (pcl h o) && pw st) = true then pK 199 (d + 1) 47 3 ls st (pCa 170 d [.ref o] h) else none := r_callV rfl rfl rfl
theorem rX13_term_50 : pR 199 d 50 [a0, a1, a2] (.int x :: st) h = if p1 a2 = true then pR 199 d 51 [a0, a1, .int x] st h else none := r_sto (n := 1) (k := 2) (v := .int x) (ls := [a0, a1, a2]) rfl rfl rfl
theorem rX13_term_51 : pR 199 d 51 ls st h = pR 199 d 10 ls st h := pR_L rfl rfl
theorem rX13_term_54 : pR 199 d 54 [a0, .ref o, a2] st h = pR 199 d 55 [a0, .ref o, a2] (.ref o :: st) h := pR_L rfl rfl
theorem rX13_term_54n : pR 199 d 54 [a0, .null, a2] st h = pR 199 d 55 [a0, .null, a2] (.null :: st) h := pR_L rfl rfl
theorem rX13_term_55 : pR 199 d 55 ls [.ref o] h = some (.inl (some (.ref o)), h) := pR_E rfl rfl
-- 200 BalloonStall$RuleReader atom ()LBalloonStall$Sum;
theorem eX13_atom : pCa 200 d [.ref o] h = pR 200 d 0 [.ref o, pU, pU, pU] [] h := rfl
theorem rX13_atom_0 : pR 200 d 0 [.ref o, a1, a2, a3] st h = pR 200 d 1 [.ref o, a1, a2, a3] (.ref o :: st) h := pR_L rfl rfl
theorem rX13_atom_1 : pR 200 (d + 1) 1 ls (.ref o :: st) h = if (pok 13 (pcl h o) && pw st) = true then pK 200 (d + 1) 1 3 ls st (pCa 170 d [.ref o] h) else none := r_callV rfl rfl rfl
theorem rX13_atom_4 : pR 200 d 4 [a0, a1, a2, a3] (.int x :: st) h = if p1 a1 = true then pR 200 d 5 [a0, .int x, a2, a3] st h else none := r_sto (n := 1) (k := 1) (v := .int x) (ls := [a0, a1, a2, a3]) rfl rfl rfl
theorem rX13_atom_5 : pR 200 d 5 [a0, .int x, a2, a3] st h = pR 200 d 6 [a0, .int x, a2, a3] (.int x :: st) h := pR_L rfl rfl
theorem rX13_atom_6 : pR 200 d 6 ls st h = pR 200 d 8 ls (.int 108 :: st) h := pR_L rfl rfl
theorem rX13_atom_8 : pR 200 d 8 ls (.int y :: .int x :: st) h = if x = y then pR 200 d 35 ls st h else pR 200 d 11 ls st h := r_ceq rfl rfl
theorem rX13_atom_11 : pR 200 d 11 [a0, .int x, a2, a3] st h = pR 200 d 12 [a0, .int x, a2, a3] (.int x :: st) h := pR_L rfl rfl
theorem rX13_atom_12 : pR 200 d 12 ls st h = pR 200 d 14 ls (.int 104 :: st) h := pR_L rfl rfl
theorem rX13_atom_14 : pR 200 d 14 ls (.int y :: .int x :: st) h = if x = y then pR 200 d 35 ls st h else pR 200 d 17 ls st h := r_ceq rfl rfl
theorem rX13_atom_17 : pR 200 d 17 [a0, .int x, a2, a3] st h = pR 200 d 18 [a0, .int x, a2, a3] (.int x :: st) h := pR_L rfl rfl
theorem rX13_atom_18 : pR 200 d 18 ls st h = pR 200 d 20 ls (.int 107 :: st) h := pR_L rfl rfl
theorem rX13_atom_20 : pR 200 d 20 ls (.int y :: .int x :: st) h = if x = y then pR 200 d 35 ls st h else pR 200 d 23 ls st h := r_ceq rfl rfl
theorem rX13_atom_23 : pR 200 d 23 [a0, .int x, a2, a3] st h = pR 200 d 24 [a0, .int x, a2, a3] (.int x :: st) h := pR_L rfl rfl
theorem rX13_atom_24 : pR 200 d 24 ls st h = pR 200 d 26 ls (.int 115 :: st) h := pR_L rfl rfl
theorem rX13_atom_26 : pR 200 d 26 ls (.int y :: .int x :: st) h = if x = y then pR 200 d 35 ls st h else pR 200 d 29 ls st h := r_ceq rfl rfl
theorem rX13_atom_29 : pR 200 d 29 [a0, .int x, a2, a3] st h = pR 200 d 30 [a0, .int x, a2, a3] (.int x :: st) h := pR_L rfl rfl
theorem rX13_atom_30 : pR 200 d 30 ls st h = pR 200 d 32 ls (.int 97 :: st) h := pR_L rfl rfl
theorem rX13_atom_32 : pR 200 d 32 ls (.int y :: .int x :: st) h = if x = y then pR 200 d 35 ls st h else pR 200 d 54 ls st h := r_cne rfl rfl
theorem rX13_atom_35 : pR 200 d 35 [.ref o, a1, a2, a3] st h = pR 200 d 36 [.ref o, a1, a2, a3] (.ref o :: st) h := pR_L rfl rfl
theorem rX13_atom_36 : pR 200 d 36 ls (.ref o :: st) h = pR 200 d 37 ls (.ref o :: .ref o :: st) h := pR_L rfl rfl
theorem rX13_atom_36i : pR 200 d 36 ls (.int x :: st) h = pR 200 d 37 ls (.int x :: .int x :: st) h := pR_L rfl rfl
theorem rX13_atom_37 : pR 200 d 37 ls (.ref o :: st) h = if pis (pfl h 13 o 0) = true then pR 200 d 40 ls (pfl h 13 o 0 :: st) h else none := r_get rfl
theorem rX13_atom_40 : pR 200 d 40 ls st h = pR 200 d 41 ls (.int 1 :: st) h := pR_L rfl rfl
theorem rX13_atom_41 : pR 200 d 41 ls (.int y :: .int x :: st) h = pR 200 d 42 ls (.int (x + y) :: st) h := pR_L rfl rfl
theorem rX13_atom_42 : pR 200 d 42 ls (.int x :: .ref o :: st) h = if pis (pfl h 13 o 0) = true then pR 200 d 45 ls st (psf h o 0 (.int x)) else none := r_put rfl rfl
theorem rX13_atom_45 : pR 200 d 45 ls st h = pR 200 d 48 ls (.ref h.2.1 :: st) (pnw h (.inr (17, [.int 0])) 1) := pR_X rfl rfl
theorem rX13_atom_48 : pR 200 d 48 ls (.ref o :: st) h = pR 200 d 49 ls (.ref o :: .ref o :: st) h := pR_L rfl rfl
theorem rX13_atom_48i : pR 200 d 48 ls (.int x :: st) h = pR 200 d 49 ls (.int x :: .int x :: st) h := pR_L rfl rfl
theorem rX13_atom_49 : pR 200 d 49 [a0, .int x, a2, a3] st h = pR 200 d 50 [a0, .int x, a2, a3] (.int x :: st) h := pR_L rfl rfl
theorem rX13_atom_50 : pR 200 (d + 1) 50 ls (b1 :: .ref o :: st) h = if (pok 17 (pcl h o) && pw st) = true then pK 200 (d + 1) 50 3 ls st (pCa 207 d [.ref o, b1] h) else none := r_callV rfl rfl rfl
theorem rX13_atom_53 : pR 200 d 53 ls [.ref o] h = some (.inl (some (.ref o)), h) := pR_E rfl rfl
theorem rX13_atom_54 : pR 200 d 54 [a0, .int x, a2, a3] st h = pR 200 d 55 [a0, .int x, a2, a3] (.int x :: st) h := pR_L rfl rfl
theorem rX13_atom_55 : pR 200 d 55 ls st h = pR 200 d 57 ls (.int 91 :: st) h := pR_L rfl rfl
theorem rX13_atom_57 : pR 200 d 57 ls (.int y :: .int x :: st) h = if x = y then pR 200 d 60 ls st h else pR 200 d 77 ls st h := r_cne rfl rfl
theorem rX13_atom_60 : pR 200 d 60 [.ref o, a1, a2, a3] st h = pR 200 d 61 [.ref o, a1, a2, a3] (.ref o :: st) h := pR_L rfl rfl
theorem rX13_atom_61 : pR 200 (d + 1) 61 ls (.ref o :: st) h = if (pok 13 (pcl h o) && pw st) = true then pK 200 (d + 1) 61 3 ls st (pCa 174 d [.ref o] h) else none := r_callV rfl rfl rfl
theorem rX13_atom_64 : pR 200 d 64 [.ref o, a1, a2, a3] st h = pR 200 d 65 [.ref o, a1, a2, a3] (.ref o :: st) h := pR_L rfl rfl
theorem rX13_atom_65 : pR 200 (d + 1) 65 ls (.ref o :: st) h = if (pok 13 (pcl h o) && pw st) = true then pK 200 (d + 1) 65 3 ls st (pCa 198 d [.ref o] h) else none := r_callV rfl rfl rfl
theorem rX13_atom_68 : pR 200 d 68 [a0, a1, a2, a3] (.ref o :: st) h = if p1 a2 = true then pR 200 d 69 [a0, a1, .ref o, a3] st h else none := r_sto (n := 1) (k := 2) (v := .ref o) (ls := [a0, a1, a2, a3]) rfl rfl rfl
theorem rX13_atom_68n : pR 200 d 68 [a0, a1, a2, a3] (.null :: st) h = if p1 a2 = true then pR 200 d 69 [a0, a1, .null, a3] st h else none := r_sto (n := 1) (k := 2) (v := .null) (ls := [a0, a1, a2, a3]) rfl rfl rfl
theorem rX13_atom_69 : pR 200 d 69 [.ref o, a1, a2, a3] st h = pR 200 d 70 [.ref o, a1, a2, a3] (.ref o :: st) h := pR_L rfl rfl
theorem rX13_atom_70 : pR 200 d 70 ls st h = pR 200 d 72 ls (.int 93 :: st) h := pR_L rfl rfl
theorem rX13_atom_72 : pR 200 (d + 1) 72 ls (b1 :: .ref o :: st) h = if (pok 13 (pcl h o) && pw st) = true then pK 200 (d + 1) 72 3 ls st (pCa 175 d [.ref o, b1] h) else none := r_callV rfl rfl rfl
theorem rX13_atom_75 : pR 200 d 75 [a0, a1, .ref o, a3] st h = pR 200 d 76 [a0, a1, .ref o, a3] (.ref o :: st) h := pR_L rfl rfl
theorem rX13_atom_75n : pR 200 d 75 [a0, a1, .null, a3] st h = pR 200 d 76 [a0, a1, .null, a3] (.null :: st) h := pR_L rfl rfl
theorem rX13_atom_76 : pR 200 d 76 ls [.ref o] h = some (.inl (some (.ref o)), h) := pR_E rfl rfl
theorem rX13_atom_77 : pR 200 d 77 [.ref o, a1, a2, a3] st h = pR 200 d 78 [.ref o, a1, a2, a3] (.ref o :: st) h := pR_L rfl rfl
theorem rX13_atom_78 : pR 200 d 78 [.ref o, a1, a2, a3] st h = pR 200 d 79 [.ref o, a1, a2, a3] (.ref o :: st) h := pR_L rfl rfl
theorem rX13_atom_79 : pR 200 (d + 1) 79 ls (.ref o :: st) h = if (pok 13 (pcl h o) && pw st) = true then pK 200 (d + 1) 79 3 ls st (pCa 173 d [.ref o] h) else none := r_callV rfl rfl rfl
theorem rX13_atom_82 : pR 200 (d + 1) 82 ls (b1 :: .ref o :: st) h = if (pok 13 (pcl h o) && pw st) = true then pK 200 (d + 1) 82 3 ls st (pCa 172 d [.ref o, b1] h) else none := r_callV rfl rfl rfl
theorem rX13_atom_85 : pR 200 d 85 ls st h = pR 200 d 87 ls (.int 48 :: st) h := pR_L rfl rfl
theorem rX13_atom_87 : pR 200 d 87 ls (.int y :: .int x :: st) h = pR 200 d 88 ls (.int (x - y) :: st) h := pR_L rfl rfl
theorem rX13_atom_88 : pR 200 d 88 [a0, a1, a2, a3] (.int x :: st) h = if p1 a2 = true then pR 200 d 89 [a0, a1, .int x, a3] st h else none := r_sto (n := 1) (k := 2) (v := .int x) (ls := [a0, a1, a2, a3]) rfl rfl rfl
theorem rX13_atom_89 : pR 200 d 89 ls st h = pR 200 d 90 ls (.int 1 :: st) h := pR_L rfl rfl
theorem rX13_atom_90 : pR 200 d 90 [a0, a1, a2, a3] (.int x :: st) h = if p1 a3 = true then pR 200 d 91 [a0, a1, a2, .int x] st h else none := r_sto (n := 1) (k := 3) (v := .int x) (ls := [a0, a1, a2, a3]) rfl rfl rfl
theorem rX13_atom_91 : pR 200 d 91 [.ref o, a1, a2, a3] st h = pR 200 d 92 [.ref o, a1, a2, a3] (.ref o :: st) h := pR_L rfl rfl
theorem rX13_atom_92 : pR 200 (d + 1) 92 ls (.ref o :: st) h = if (pok 13 (pcl h o) && pw st) = true then pK 200 (d + 1) 92 3 ls st (pCa 173 d [.ref o] h) else none := r_callV rfl rfl rfl
theorem rX13_atom_95 : pR 200 d 95 ls (.int x :: st) h = if x = 0 then pR 200 d 127 ls st h else pR 200 d 98 ls st h := r_ieq rfl rfl
theorem rX13_atom_98 : pR 200 d 98 ls st h = pR 200 d 100 ls (.int 10 :: st) h := pR_L rfl rfl
theorem rX13_atom_100 : pR 200 d 100 [a0, a1, .int x, a3] st h = pR 200 d 101 [a0, a1, .int x, a3] (.int x :: st) h := pR_L rfl rfl
theorem rX13_atom_101 : pR 200 d 101 ls (.int y :: .int x :: st) h = pR 200 d 102 ls (.int (x * y) :: st) h := pR_L rfl rfl
theorem rX13_atom_102 : pR 200 d 102 [.ref o, a1, a2, a3] st h = pR 200 d 103 [.ref o, a1, a2, a3] (.ref o :: st) h := pR_L rfl rfl
theorem rX13_atom_103 : pR 200 d 103 [a0, a1, a2, .int x] st h = pR 200 d 104 [a0, a1, a2, .int x] (.int x :: st) h := pR_L rfl rfl
theorem rX13_atom_104 : pR 200 d 104 ls st h = pR 200 d 105 ls (.int 4 :: st) h := pR_L rfl rfl
theorem rX13_atom_105 : pR 200 d 105 ls (.int y :: .int x :: st) h = if x < y then pR 200 d 108 ls st h else pR 200 d 112 ls st h := r_cge rfl rfl
theorem rX13_atom_108 : pR 200 d 108 ls st h = pR 200 d 109 ls (.int 1 :: st) h := pR_L rfl rfl
theorem rX13_atom_109 : pR 200 d 109 ls st h = pR 200 d 113 ls st h := pR_L rfl rfl
theorem rX13_atom_112 : pR 200 d 112 ls st h = pR 200 d 113 ls (.int 0 :: st) h := pR_L rfl rfl
theorem rX13_atom_113 : pR 200 (d + 1) 113 ls (b1 :: .ref o :: st) h = if (pok 13 (pcl h o) && pw st) = true then pK 200 (d + 1) 113 3 ls st (pCa 172 d [.ref o, b1] h) else none := r_callV rfl rfl rfl
theorem rX13_atom_116 : pR 200 d 116 ls (.int y :: .int x :: st) h = pR 200 d 117 ls (.int (x + y) :: st) h := pR_L rfl rfl
theorem rX13_atom_117 : pR 200 d 117 ls st h = pR 200 d 119 ls (.int 48 :: st) h := pR_L rfl rfl
theorem rX13_atom_119 : pR 200 d 119 ls (.int y :: .int x :: st) h = pR 200 d 120 ls (.int (x - y) :: st) h := pR_L rfl rfl
theorem rX13_atom_120 : pR 200 d 120 [a0, a1, a2, a3] (.int x :: st) h = if p1 a2 = true then pR 200 d 121 [a0, a1, .int x, a3] st h else none := r_sto (n := 1) (k := 2) (v := .int x) (ls := [a0, a1, a2, a3]) rfl rfl rfl
theorem rX13_atom_121 : pR 200 d 121 [a0, a1, a2, .int x] st h = pR 200 d 124 [a0, a1, a2, .int (x + 1)] st h := pR_L rfl rfl
theorem rX13_atom_124 : pR 200 d 124 ls st h = pR 200 d 91 ls st h := pR_L rfl rfl
theorem rX13_atom_127 : pR 200 d 127 ls st h = pR 200 d 130 ls (.ref h.2.1 :: st) (pnw h (.inr (18, [.int 0])) 1) := pR_X rfl rfl
theorem rX13_atom_130 : pR 200 d 130 ls (.ref o :: st) h = pR 200 d 131 ls (.ref o :: .ref o :: st) h := pR_L rfl rfl
theorem rX13_atom_130i : pR 200 d 130 ls (.int x :: st) h = pR 200 d 131 ls (.int x :: .int x :: st) h := pR_L rfl rfl
theorem rX13_atom_131 : pR 200 d 131 [a0, a1, .int x, a3] st h = pR 200 d 132 [a0, a1, .int x, a3] (.int x :: st) h := pR_L rfl rfl
theorem rX13_atom_132 : pR 200 (d + 1) 132 ls (b1 :: .ref o :: st) h = if (pok 18 (pcl h o) && pw st) = true then pK 200 (d + 1) 132 3 ls st (pCa 209 d [.ref o, b1] h) else none := r_callV rfl rfl rfl
theorem rX13_atom_135 : pR 200 d 135 ls [.ref o] h = some (.inl (some (.ref o)), h) := pR_E rfl rfl
-- 201 BalloonStall$RuleReader compares (LBalloonStall$Sum;)LBalloonStall$Test;
theorem eX13_compares : pCa 201 d [.ref o, .ref r0] h = pR 201 d 0 [.ref o, .ref r0, pU, pU] [] h := rfl
theorem rX13_compares_0 : pR 201 d 0 [.ref o, a1, a2, a3] st h = pR 201 d 1 [.ref o, a1, a2, a3] (.ref o :: st) h := pR_L rfl rfl
theorem rX13_compares_1 : pR 201 (d + 1) 1 ls (.ref o :: st) h = if (pok 13 (pcl h o) && pw st) = true then pK 201 (d + 1) 1 3 ls st (pCa 170 d [.ref o] h) else none := r_callV rfl rfl rfl
theorem rX13_compares_4 : pR 201 d 4 [a0, a1, a2, a3] (.int x :: st) h = if p1 a2 = true then pR 201 d 5 [a0, a1, .int x, a3] st h else none := r_sto (n := 1) (k := 2) (v := .int x) (ls := [a0, a1, a2, a3]) rfl rfl rfl
theorem rX13_compares_5 : pR 201 d 5 [.ref o, a1, a2, a3] st h = pR 201 d 6 [.ref o, a1, a2, a3] (.ref o :: st) h := pR_L rfl rfl
theorem rX13_compares_6 : pR 201 d 6 [a0, a1, .int x, a3] st h = pR 201 d 7 [a0, a1, .int x, a3] (.int x :: st) h := pR_L rfl rfl
theorem rX13_compares_7 : pR 201 d 7 ls st h = pR 201 d 9 ls (.int 61 :: st) h := pR_L rfl rfl
theorem rX13_compares_9 : pR 201 d 9 ls (.int y :: .int x :: st) h = if x = y then pR 201 d 24 ls st h else pR 201 d 12 ls st h := r_ceq rfl rfl
theorem rX13_compares_12 : pR 201 d 12 [a0, a1, .int x, a3] st h = pR 201 d 13 [a0, a1, .int x, a3] (.int x :: st) h := pR_L rfl rfl
theorem rX13_compares_13 : pR 201 d 13 ls st h = pR 201 d 15 ls (.int 60 :: st) h := pR_L rfl rfl
theorem rX13_compares_15 : pR 201 d 15 ls (.int y :: .int x :: st) h = if x = y then pR 201 d 24 ls st h else pR 201 d 18 ls st h := r_ceq rfl rfl
theorem rX13_compares_18 : pR 201 d 18 [a0, a1, .int x, a3] st h = pR 201 d 19 [a0, a1, .int x, a3] (.int x :: st) h := pR_L rfl rfl
theorem rX13_compares_19 : pR 201 d 19 ls st h = pR 201 d 21 ls (.int 62 :: st) h := pR_L rfl rfl
theorem rX13_compares_21 : pR 201 d 21 ls (.int y :: .int x :: st) h = if x = y then pR 201 d 24 ls st h else pR 201 d 28 ls st h := r_cne rfl rfl
theorem rX13_compares_24 : pR 201 d 24 ls st h = pR 201 d 25 ls (.int 1 :: st) h := pR_L rfl rfl
theorem rX13_compares_25 : pR 201 d 25 ls st h = pR 201 d 29 ls st h := pR_L rfl rfl
theorem rX13_compares_28 : pR 201 d 28 ls st h = pR 201 d 29 ls (.int 0 :: st) h := pR_L rfl rfl
theorem rX13_compares_29 : pR 201 (d + 1) 29 ls (b1 :: .ref o :: st) h = if (pok 13 (pcl h o) && pw st) = true then pK 201 (d + 1) 29 3 ls st (pCa 172 d [.ref o, b1] h) else none := r_callV rfl rfl rfl
theorem rX13_compares_32 : pR 201 d 32 [a0, a1, a2, a3] (.int x :: st) h = if p1 a3 = true then pR 201 d 33 [a0, a1, a2, .int x] st h else none := r_sto (n := 1) (k := 3) (v := .int x) (ls := [a0, a1, a2, a3]) rfl rfl rfl
theorem rX13_compares_33 : pR 201 d 33 ls st h = pR 201 d 36 ls (.ref h.2.1 :: st) (pnw h (.inr (20, [.int 0, .null, .null])) 3) := pR_X rfl rfl
theorem rX13_compares_36 : pR 201 d 36 ls (.ref o :: st) h = pR 201 d 37 ls (.ref o :: .ref o :: st) h := pR_L rfl rfl
theorem rX13_compares_36i : pR 201 d 36 ls (.int x :: st) h = pR 201 d 37 ls (.int x :: .int x :: st) h := pR_L rfl rfl
theorem rX13_compares_37 : pR 201 d 37 [a0, a1, a2, .int x] st h = pR 201 d 38 [a0, a1, a2, .int x] (.int x :: st) h := pR_L rfl rfl
theorem rX13_compares_38 : pR 201 d 38 [a0, .ref o, a2, a3] st h = pR 201 d 39 [a0, .ref o, a2, a3] (.ref o :: st) h := pR_L rfl rfl
theorem rX13_compares_38n : pR 201 d 38 [a0, .null, a2, a3] st h = pR 201 d 39 [a0, .null, a2, a3] (.null :: st) h := pR_L rfl rfl
theorem rX13_compares_39 : pR 201 d 39 [.ref o, a1, a2, a3] st h = pR 201 d 40 [.ref o, a1, a2, a3] (.ref o :: st) h := pR_L rfl rfl
theorem rX13_compares_40 : pR 201 (d + 1) 40 ls (.ref o :: st) h = if (pok 13 (pcl h o) && pw st) = true then pK 201 (d + 1) 40 3 ls st (pCa 198 d [.ref o] h) else none := r_callV rfl rfl rfl
theorem rX13_compares_43 : pR 201 (d + 1) 43 ls (b3 :: b2 :: b1 :: .ref o :: st) h = if (pok 20 (pcl h o) && pw st) = true then pK 201 (d + 1) 43 3 ls st (pCa 213 d [.ref o, b1, b2, b3] h) else none := r_callV rfl rfl rfl
theorem rX13_compares_46 : pR 201 d 46 ls [.ref o] h = some (.inl (some (.ref o)), h) := pR_E rfl rfl
-- 202 BalloonStall$RuleReader asked (LBalloonStall$Test;)LBalloonStall$Clause;
theorem eX13_asked : pCa 202 d [.ref o, .ref r0] h = pR 202 d 0 [.ref o, .ref r0, pU] [] h := rfl
theorem rX13_asked_0 : pR 202 d 0 [.ref o, a1, a2] st h = pR 202 d 1 [.ref o, a1, a2] (.ref o :: st) h := pR_L rfl rfl
theorem rX13_asked_1 : pR 202 (d + 1) 1 ls (.ref o :: st) h = if (pok 13 (pcl h o) && pw st) = true then pK 202 (d + 1) 1 3 ls st (pCa 170 d [.ref o] h) else none := r_callV rfl rfl rfl
theorem rX13_asked_4 : pR 202 d 4 [a0, a1, a2] (.int x :: st) h = if p1 a2 = true then pR 202 d 5 [a0, a1, .int x] st h else none := r_sto (n := 1) (k := 2) (v := .int x) (ls := [a0, a1, a2]) rfl rfl rfl
theorem rX13_asked_5 : pR 202 d 5 [.ref o, a1, a2] st h = pR 202 d 6 [.ref o, a1, a2] (.ref o :: st) h := pR_L rfl rfl
theorem rX13_asked_6 : pR 202 d 6 [a0, a1, .int x] st h = pR 202 d 7 [a0, a1, .int x] (.int x :: st) h := pR_L rfl rfl
theorem rX13_asked_7 : pR 202 d 7 ls st h = pR 202 d 9 ls (.int 63 :: st) h := pR_L rfl rfl
theorem rX13_asked_9 : pR 202 d 9 ls (.int y :: .int x :: st) h = if x = y then pR 202 d 12 ls st h else pR 202 d 16 ls st h := r_cne rfl rfl
theorem rX13_asked_12 : pR 202 d 12 ls st h = pR 202 d 13 ls (.int 1 :: st) h := pR_L rfl rfl
theorem rX13_asked_13 : pR 202 d 13 ls st h = pR 202 d 17 ls st h := pR_L rfl rfl
theorem rX13_asked_16 : pR 202 d 16 ls st h = pR 202 d 17 ls (.int 0 :: st) h := pR_L rfl rfl
theorem rX13_asked_17 : pR 202 (d + 1) 17 ls (b1 :: .ref o :: st) h = if (pok 13 (pcl h o) && pw st) = true then pK 202 (d + 1) 17 3 ls st (pCa 172 d [.ref o, b1] h) else none := r_callV rfl rfl rfl
theorem rX13_asked_20 : pR 202 d 20 [a0, a1, a2] (.int x :: st) h = if p1 a2 = true then pR 202 d 21 [a0, a1, .int x] st h else none := r_sto (n := 1) (k := 2) (v := .int x) (ls := [a0, a1, a2]) rfl rfl rfl
theorem rX13_asked_21 : pR 202 d 21 ls st h = pR 202 d 24 ls (.ref h.2.1 :: st) (pnw h (.inr (22, [.null, .null, .null])) 3) := pR_X rfl rfl
theorem rX13_asked_24 : pR 202 d 24 ls (.ref o :: st) h = pR 202 d 25 ls (.ref o :: .ref o :: st) h := pR_L rfl rfl
theorem rX13_asked_24i : pR 202 d 24 ls (.int x :: st) h = pR 202 d 25 ls (.int x :: .int x :: st) h := pR_L rfl rfl
theorem rX13_asked_25 : pR 202 d 25 [a0, .ref o, a2] st h = pR 202 d 26 [a0, .ref o, a2] (.ref o :: st) h := pR_L rfl rfl
theorem rX13_asked_25n : pR 202 d 25 [a0, .null, a2] st h = pR 202 d 26 [a0, .null, a2] (.null :: st) h := pR_L rfl rfl
theorem rX13_asked_26 : pR 202 d 26 [.ref o, a1, a2] st h = pR 202 d 27 [.ref o, a1, a2] (.ref o :: st) h := pR_L rfl rfl
theorem rX13_asked_27 : pR 202 (d + 1) 27 ls (.ref o :: st) h = if (pok 13 (pcl h o) && pw st) = true then pK 202 (d + 1) 27 3 ls st (pCa 198 d [.ref o] h) else none := r_callV rfl rfl rfl
theorem rX13_asked_30 : pR 202 (d + 1) 30 ls (b2 :: b1 :: .ref o :: st) h = if (pok 22 (pcl h o) && pw st) = true then pK 202 (d + 1) 30 3 ls st (pCa 217 d [.ref o, b1, b2] h) else none := r_callV rfl rfl rfl
theorem rX13_asked_33 : pR 202 d 33 ls [.ref o] h = some (.inl (some (.ref o)), h) := pR_E rfl rfl
-- 203 BalloonStall$Test <init> ()V
theorem eX14_init : pCa 203 d [.ref o] h = pR 203 d 0 [.ref o] [] h := rfl
theorem rX14_init_0 : pR 203 d 0 [.ref o] st h = pR 203 d 1 [.ref o] (.ref o :: st) h := pR_L rfl rfl
theorem rX14_init_1 : pR 203 (d + 1) 1 ls (.ref o :: st) h = if pw st = true then pR 203 (d + 1) 4 ls st h else none := r_obj rfl
theorem rX14_init_4 : pR 203 d 4 ls [] h = some (.inl none, h) := pR_E rfl rfl
-- 204 BalloonStall$Not <init> (LBalloonStall$Test;)V
theorem eX15_init : pCa 204 d [.ref o, .ref r0] h = pR 204 d 0 [.ref o, .ref r0] [] h := rfl
theorem rX15_init_0 : pR 204 d 0 [.ref o, a1] st h = pR 204 d 1 [.ref o, a1] (.ref o :: st) h := pR_L rfl rfl
theorem rX15_init_1 : pR 204 (d + 1) 1 ls (.ref o :: st) h = if (pok 14 (pcl h o) && pw st) = true then pK 204 (d + 1) 1 3 ls st (pCa 203 d [.ref o] h) else none := r_callV rfl rfl rfl
theorem rX15_init_4 : pR 204 d 4 [.ref o, a1] st h = pR 204 d 5 [.ref o, a1] (.ref o :: st) h := pR_L rfl rfl
theorem rX15_init_5 : pR 204 d 5 [a0, .ref o] st h = pR 204 d 6 [a0, .ref o] (.ref o :: st) h := pR_L rfl rfl
theorem rX15_init_5n : pR 204 d 5 [a0, .null] st h = pR 204 d 6 [a0, .null] (.null :: st) h := pR_L rfl rfl
theorem rX15_init_6 : pR 204 d 6 ls (.ref o2 :: .ref o :: st) h = if pis (pfl h 15 o 0) = true then pR 204 d 9 ls st (psf h o 0 (.ref o2)) else none := r_put rfl rfl
theorem rX15_init_6n : pR 204 d 6 ls (.null :: .ref o :: st) h = if pis (pfl h 15 o 0) = true then pR 204 d 9 ls st (psf h o 0 .null) else none := r_put rfl rfl
theorem rX15_init_9 : pR 204 d 9 ls [] h = some (.inl none, h) := pR_E rfl rfl
-- 205 BalloonStall$Not holds (LBalloonStall$Letters;)Z
theorem eX15_holds : pCa 205 d [.ref o, .ref r0] h = pR 205 d 0 [.ref o, .ref r0] [] h := rfl
theorem rX15_holds_0 : pR 205 d 0 [.ref o, a1] st h = pR 205 d 1 [.ref o, a1] (.ref o :: st) h := pR_L rfl rfl
theorem rX15_holds_1 : pR 205 d 1 ls (.ref o :: st) h = if pis (pfl h 15 o 0) = true then pR 205 d 4 ls (pfl h 15 o 0 :: st) h else none := r_get rfl
theorem rX15_holds_4 : pR 205 d 4 [a0, .ref o] st h = pR 205 d 5 [a0, .ref o] (.ref o :: st) h := pR_L rfl rfl
theorem rX15_holds_4n : pR 205 d 4 [a0, .null] st h = pR 205 d 5 [a0, .null] (.null :: st) h := pR_L rfl rfl
theorem rX15_holds_5c15 (hc : pcl h o = 15) : pR 205 (d + 1) 5 ls (b1 :: .ref o :: st) h = if pw st = true then pK 205 (d + 1) 5 3 ls st (pCa 205 d [.ref o, b1] h) else none := r_callA rfl rfl rfl (by rw [hc]; rfl)
theorem rX15_holds_5c20 (hc : pcl h o = 20) : pR 205 (d + 1) 5 ls (b1 :: .ref o :: st) h = if pw st = true then pK 205 (d + 1) 5 3 ls st (pCa 214 d [.ref o, b1] h) else none := r_callA rfl rfl rfl (by rw [hc]; rfl)
theorem rX15_holds_5c21 (hc : pcl h o = 21) : pR 205 (d + 1) 5 ls (b1 :: .ref o :: st) h = if pw st = true then pK 205 (d + 1) 5 3 ls st (pCa 216 d [.ref o, b1] h) else none := r_callA rfl rfl rfl (by rw [hc]; rfl)
theorem rX15_holds_8 : pR 205 d 8 ls (.int x :: st) h = if x = 0 then pR 205 d 11 ls st h else pR 205 d 15 ls st h := r_ine rfl rfl
theorem rX15_holds_11 : pR 205 d 11 ls st h = pR 205 d 12 ls (.int 1 :: st) h := pR_L rfl rfl
theorem rX15_holds_12 : pR 205 d 12 ls st h = pR 205 d 16 ls st h := pR_L rfl rfl
theorem rX15_holds_15 : pR 205 d 15 ls st h = pR 205 d 16 ls (.int 0 :: st) h := pR_L rfl rfl
theorem rX15_holds_160 : pR 205 d 16 ls [.int 0] h = some (.inl (some (.int 0)), h) := pR_E rfl rfl
theorem rX15_holds_161 : pR 205 d 16 ls [.int 1] h = some (.inl (some (.int 1)), h) := pR_E rfl rfl
-- 206 BalloonStall$Sum <init> ()V
theorem eX16_init : pCa 206 d [.ref o] h = pR 206 d 0 [.ref o] [] h := rfl
theorem rX16_init_0 : pR 206 d 0 [.ref o] st h = pR 206 d 1 [.ref o] (.ref o :: st) h := pR_L rfl rfl
theorem rX16_init_1 : pR 206 (d + 1) 1 ls (.ref o :: st) h = if pw st = true then pR 206 (d + 1) 4 ls st h else none := r_obj rfl
theorem rX16_init_4 : pR 206 d 4 ls [] h = some (.inl none, h) := pR_E rfl rfl
-- 207 BalloonStall$Letter <init> (I)V
theorem eX17_init : pCa 207 d [.ref o, .int x0] h = pR 207 d 0 [.ref o, .int x0] [] h := rfl
theorem rX17_init_0 : pR 207 d 0 [.ref o, a1] st h = pR 207 d 1 [.ref o, a1] (.ref o :: st) h := pR_L rfl rfl
theorem rX17_init_1 : pR 207 (d + 1) 1 ls (.ref o :: st) h = if (pok 16 (pcl h o) && pw st) = true then pK 207 (d + 1) 1 3 ls st (pCa 206 d [.ref o] h) else none := r_callV rfl rfl rfl
theorem rX17_init_4 : pR 207 d 4 [.ref o, a1] st h = pR 207 d 5 [.ref o, a1] (.ref o :: st) h := pR_L rfl rfl
theorem rX17_init_5 : pR 207 d 5 [a0, .int x] st h = pR 207 d 6 [a0, .int x] (.int x :: st) h := pR_L rfl rfl
theorem rX17_init_6 : pR 207 d 6 ls (.int x :: .ref o :: st) h = if pis (pfl h 17 o 0) = true then pR 207 d 9 ls st (psf h o 0 (.int x)) else none := r_put rfl rfl
theorem rX17_init_9 : pR 207 d 9 ls [] h = some (.inl none, h) := pR_E rfl rfl
-- 208 BalloonStall$Letter of (LBalloonStall$Letters;)I
theorem eX17_of : pCa 208 d [.ref o, .ref r0] h = pR 208 d 0 [.ref o, .ref r0] [] h := rfl
theorem rX17_of_0 : pR 208 d 0 [a0, .ref o] st h = pR 208 d 1 [a0, .ref o] (.ref o :: st) h := pR_L rfl rfl
theorem rX17_of_0n : pR 208 d 0 [a0, .null] st h = pR 208 d 1 [a0, .null] (.null :: st) h := pR_L rfl rfl
theorem rX17_of_1 : pR 208 d 1 ls (.ref o :: st) h = if pis (pfl h 2 o 0) = true then pR 208 d 4 ls (pfl h 2 o 0 :: st) h else none := r_get rfl
theorem rX17_of_4 : pR 208 d 4 [.ref o, a1] st h = pR 208 d 5 [.ref o, a1] (.ref o :: st) h := pR_L rfl rfl
theorem rX17_of_5 : pR 208 d 5 ls (.ref o :: st) h = if pis (pfl h 17 o 0) = true then pR 208 d 8 ls (pfl h 17 o 0 :: st) h else none := r_get rfl
theorem rX17_of_8 : pR 208 d 8 ls (.int x :: .ref o :: st) h = if (pin x (pln h 0 o) || pin x (pln h 9 o)) = true then pR 208 d 9 ls (.int (pct h o x.toNatClampNeg) :: st) h else none := pR_Lif rfl rfl
theorem rX17_of_9 : pR 208 d 9 ls [.int x] h = some (.inl (some (.int x)), h) := pR_E rfl rfl
-- 209 BalloonStall$Plain <init> (I)V
theorem eX18_init : pCa 209 d [.ref o, .int x0] h = pR 209 d 0 [.ref o, .int x0] [] h := rfl
theorem rX18_init_0 : pR 209 d 0 [.ref o, a1] st h = pR 209 d 1 [.ref o, a1] (.ref o :: st) h := pR_L rfl rfl
theorem rX18_init_1 : pR 209 (d + 1) 1 ls (.ref o :: st) h = if (pok 16 (pcl h o) && pw st) = true then pK 209 (d + 1) 1 3 ls st (pCa 206 d [.ref o] h) else none := r_callV rfl rfl rfl
theorem rX18_init_4 : pR 209 d 4 [.ref o, a1] st h = pR 209 d 5 [.ref o, a1] (.ref o :: st) h := pR_L rfl rfl
theorem rX18_init_5 : pR 209 d 5 [a0, .int x] st h = pR 209 d 6 [a0, .int x] (.int x :: st) h := pR_L rfl rfl
theorem rX18_init_6 : pR 209 d 6 ls (.int x :: .ref o :: st) h = if pis (pfl h 18 o 0) = true then pR 209 d 9 ls st (psf h o 0 (.int x)) else none := r_put rfl rfl
theorem rX18_init_9 : pR 209 d 9 ls [] h = some (.inl none, h) := pR_E rfl rfl
-- 210 BalloonStall$Plain of (LBalloonStall$Letters;)I
theorem eX18_of : pCa 210 d [.ref o, .ref r0] h = pR 210 d 0 [.ref o, .ref r0] [] h := rfl
theorem rX18_of_0 : pR 210 d 0 [.ref o, a1] st h = pR 210 d 1 [.ref o, a1] (.ref o :: st) h := pR_L rfl rfl
theorem rX18_of_1 : pR 210 d 1 ls (.ref o :: st) h = if pis (pfl h 18 o 0) = true then pR 210 d 4 ls (pfl h 18 o 0 :: st) h else none := r_get rfl
theorem rX18_of_4 : pR 210 d 4 ls [.int x] h = some (.inl (some (.int x)), h) := pR_E rfl rfl
-- 211 BalloonStall$Pair <init> (ILBalloonStall$Sum;LBalloonStall$Sum;)V
theorem eX19_init : pCa 211 d [.ref o, .int x0, .ref r1, .ref r2] h = pR 211 d 0 [.ref o, .int x0, .ref r1, .ref r2] [] h := rfl
theorem rX19_init_0 : pR 211 d 0 [.ref o, a1, a2, a3] st h = pR 211 d 1 [.ref o, a1, a2, a3] (.ref o :: st) h := pR_L rfl rfl
theorem rX19_init_1 : pR 211 (d + 1) 1 ls (.ref o :: st) h = if (pok 16 (pcl h o) && pw st) = true then pK 211 (d + 1) 1 3 ls st (pCa 206 d [.ref o] h) else none := r_callV rfl rfl rfl
theorem rX19_init_4 : pR 211 d 4 [.ref o, a1, a2, a3] st h = pR 211 d 5 [.ref o, a1, a2, a3] (.ref o :: st) h := pR_L rfl rfl
theorem rX19_init_5 : pR 211 d 5 [a0, .int x, a2, a3] st h = pR 211 d 6 [a0, .int x, a2, a3] (.int x :: st) h := pR_L rfl rfl
theorem rX19_init_6 : pR 211 d 6 ls (.int x :: .ref o :: st) h = if pis (pfl h 19 o 0) = true then pR 211 d 9 ls st (psf h o 0 (.int x)) else none := r_put rfl rfl
theorem rX19_init_9 : pR 211 d 9 [.ref o, a1, a2, a3] st h = pR 211 d 10 [.ref o, a1, a2, a3] (.ref o :: st) h := pR_L rfl rfl
theorem rX19_init_10 : pR 211 d 10 [a0, a1, .ref o, a3] st h = pR 211 d 11 [a0, a1, .ref o, a3] (.ref o :: st) h := pR_L rfl rfl
theorem rX19_init_10n : pR 211 d 10 [a0, a1, .null, a3] st h = pR 211 d 11 [a0, a1, .null, a3] (.null :: st) h := pR_L rfl rfl
theorem rX19_init_11 : pR 211 d 11 ls (.ref o2 :: .ref o :: st) h = if pis (pfl h 19 o 1) = true then pR 211 d 14 ls st (psf h o 1 (.ref o2)) else none := r_put rfl rfl
theorem rX19_init_11n : pR 211 d 11 ls (.null :: .ref o :: st) h = if pis (pfl h 19 o 1) = true then pR 211 d 14 ls st (psf h o 1 .null) else none := r_put rfl rfl
theorem rX19_init_14 : pR 211 d 14 [.ref o, a1, a2, a3] st h = pR 211 d 15 [.ref o, a1, a2, a3] (.ref o :: st) h := pR_L rfl rfl
theorem rX19_init_15 : pR 211 d 15 [a0, a1, a2, .ref o] st h = pR 211 d 16 [a0, a1, a2, .ref o] (.ref o :: st) h := pR_L rfl rfl
theorem rX19_init_15n : pR 211 d 15 [a0, a1, a2, .null] st h = pR 211 d 16 [a0, a1, a2, .null] (.null :: st) h := pR_L rfl rfl
theorem rX19_init_16 : pR 211 d 16 ls (.ref o2 :: .ref o :: st) h = if pis (pfl h 19 o 2) = true then pR 211 d 19 ls st (psf h o 2 (.ref o2)) else none := r_put rfl rfl
theorem rX19_init_16n : pR 211 d 16 ls (.null :: .ref o :: st) h = if pis (pfl h 19 o 2) = true then pR 211 d 19 ls st (psf h o 2 .null) else none := r_put rfl rfl
theorem rX19_init_19 : pR 211 d 19 ls [] h = some (.inl none, h) := pR_E rfl rfl
-- 212 BalloonStall$Pair of (LBalloonStall$Letters;)I
theorem eX19_of : pCa 212 d [.ref o, .ref r0] h = pR 212 d 0 [.ref o, .ref r0, pU, pU, pU, pU, pU, pU] [] h := rfl
theorem rX19_of_0 : pR 212 d 0 [.ref o, a1, a2, a3, a4, a5, a6, a7] st h = pR 212 d 1 [.ref o, a1, a2, a3, a4, a5, a6, a7] (.ref o :: st) h := pR_L rfl rfl
theorem rX19_of_1 : pR 212 d 1 ls (.ref o :: st) h = if pis (pfl h 19 o 1) = true then pR 212 d 4 ls (pfl h 19 o 1 :: st) h else none := r_get rfl
theorem rX19_of_4 : pR 212 d 4 [a0, .ref o, a2, a3, a4, a5, a6, a7] st h = pR 212 d 5 [a0, .ref o, a2, a3, a4, a5, a6, a7] (.ref o :: st) h := pR_L rfl rfl
theorem rX19_of_4n : pR 212 d 4 [a0, .null, a2, a3, a4, a5, a6, a7] st h = pR 212 d 5 [a0, .null, a2, a3, a4, a5, a6, a7] (.null :: st) h := pR_L rfl rfl
theorem rX19_of_5c17 (hc : pcl h o = 17) : pR 212 (d + 1) 5 ls (b1 :: .ref o :: st) h = if pw st = true then pK 212 (d + 1) 5 3 ls st (pCa 208 d [.ref o, b1] h) else none := r_callA rfl rfl rfl (by rw [hc]; rfl)
theorem rX19_of_5c18 (hc : pcl h o = 18) : pR 212 (d + 1) 5 ls (b1 :: .ref o :: st) h = if pw st = true then pK 212 (d + 1) 5 3 ls st (pCa 210 d [.ref o, b1] h) else none := r_callA rfl rfl rfl (by rw [hc]; rfl)
theorem rX19_of_5c19 (hc : pcl h o = 19) : pR 212 (d + 1) 5 ls (b1 :: .ref o :: st) h = if pw st = true then pK 212 (d + 1) 5 3 ls st (pCa 212 d [.ref o, b1] h) else none := r_callA rfl rfl rfl (by rw [hc]; rfl)
theorem rX19_of_8 : pR 212 d 8 ls (.int x :: st) h = pR 212 d 9 ls (.long x.toInt64 :: st) h := pR_L rfl rfl
theorem rX19_of_9 : pR 212 d 9 [a0, a1, a2, a3, a4, a5, a6, a7] (.long lx :: st) h = if p2 a2 a3 = true then pR 212 d 10 [a0, a1, .long lx, pV, a4, a5, a6, a7] st h else none := r_stoL (n := 1) (k := 2) (x := lx) (ls := [a0, a1, a2, a3, a4, a5, a6, a7]) rfl rfl rfl rfl
theorem rX19_of_10 : pR 212 d 10 [.ref o, a1, a2, a3, a4, a5, a6, a7] st h = pR 212 d 11 [.ref o, a1, a2, a3, a4, a5, a6, a7] (.ref o :: st) h := pR_L rfl rfl
theorem rX19_of_11 : pR 212 d 11 ls (.ref o :: st) h = if pis (pfl h 19 o 2) = true then pR 212 d 14 ls (pfl h 19 o 2 :: st) h else none := r_get rfl
theorem rX19_of_14 : pR 212 d 14 [a0, .ref o, a2, a3, a4, a5, a6, a7] st h = pR 212 d 15 [a0, .ref o, a2, a3, a4, a5, a6, a7] (.ref o :: st) h := pR_L rfl rfl
theorem rX19_of_14n : pR 212 d 14 [a0, .null, a2, a3, a4, a5, a6, a7] st h = pR 212 d 15 [a0, .null, a2, a3, a4, a5, a6, a7] (.null :: st) h := pR_L rfl rfl
theorem rX19_of_15c17 (hc : pcl h o = 17) : pR 212 (d + 1) 15 ls (b1 :: .ref o :: st) h = if pw st = true then pK 212 (d + 1) 15 3 ls st (pCa 208 d [.ref o, b1] h) else none := r_callA rfl rfl rfl (by rw [hc]; rfl)
theorem rX19_of_15c18 (hc : pcl h o = 18) : pR 212 (d + 1) 15 ls (b1 :: .ref o :: st) h = if pw st = true then pK 212 (d + 1) 15 3 ls st (pCa 210 d [.ref o, b1] h) else none := r_callA rfl rfl rfl (by rw [hc]; rfl)
theorem rX19_of_15c19 (hc : pcl h o = 19) : pR 212 (d + 1) 15 ls (b1 :: .ref o :: st) h = if pw st = true then pK 212 (d + 1) 15 3 ls st (pCa 212 d [.ref o, b1] h) else none := r_callA rfl rfl rfl (by rw [hc]; rfl)
theorem rX19_of_18 : pR 212 d 18 ls (.int x :: st) h = pR 212 d 19 ls (.long x.toInt64 :: st) h := pR_L rfl rfl
theorem rX19_of_19 : pR 212 d 19 [a0, a1, a2, a3, a4, a5, a6, a7] (.long lx :: st) h = if p2 a4 a5 = true then pR 212 d 21 [a0, a1, a2, a3, .long lx, pV, a6, a7] st h else none := r_stoL (n := 2) (k := 4) (x := lx) (ls := [a0, a1, a2, a3, a4, a5, a6, a7]) rfl rfl rfl rfl
theorem rX19_of_21 : pR 212 d 21 [.ref o, a1, a2, a3, a4, a5, a6, a7] st h = pR 212 d 22 [.ref o, a1, a2, a3, a4, a5, a6, a7] (.ref o :: st) h := pR_L rfl rfl
theorem rX19_of_22 : pR 212 d 22 ls (.ref o :: st) h = if pis (pfl h 19 o 0) = true then pR 212 d 25 ls (pfl h 19 o 0 :: st) h else none := r_get rfl
theorem rX19_of_25 : pR 212 d 25 ls st h = pR 212 d 27 ls (.int 43 :: st) h := pR_L rfl rfl
theorem rX19_of_27 : pR 212 d 27 ls (.int y :: .int x :: st) h = if x = y then pR 212 d 30 ls st h else pR 212 d 37 ls st h := r_cne rfl rfl
theorem rX19_of_30 : pR 212 d 30 [a0, a1, .long lx, a3, a4, a5, a6, a7] st h = pR 212 d 31 [a0, a1, .long lx, a3, a4, a5, a6, a7] (.long lx :: st) h := pR_L rfl rfl
theorem rX19_of_31 : pR 212 d 31 [a0, a1, a2, a3, .long lx, a5, a6, a7] st h = pR 212 d 33 [a0, a1, a2, a3, .long lx, a5, a6, a7] (.long lx :: st) h := pR_L rfl rfl
theorem rX19_of_33 : pR 212 d 33 ls (.long ly :: .long lx :: st) h = pR 212 d 34 ls (.long (lx + ly) :: st) h := pR_L rfl rfl
theorem rX19_of_34 : pR 212 d 34 ls st h = pR 212 d 84 ls st h := pR_L rfl rfl
theorem rX19_of_37 : pR 212 d 37 [.ref o, a1, a2, a3, a4, a5, a6, a7] st h = pR 212 d 38 [.ref o, a1, a2, a3, a4, a5, a6, a7] (.ref o :: st) h := pR_L rfl rfl
theorem rX19_of_38 : pR 212 d 38 ls (.ref o :: st) h = if pis (pfl h 19 o 0) = true then pR 212 d 41 ls (pfl h 19 o 0 :: st) h else none := r_get rfl
theorem rX19_of_41 : pR 212 d 41 ls st h = pR 212 d 43 ls (.int 45 :: st) h := pR_L rfl rfl
theorem rX19_of_43 : pR 212 d 43 ls (.int y :: .int x :: st) h = if x = y then pR 212 d 46 ls st h else pR 212 d 53 ls st h := r_cne rfl rfl
theorem rX19_of_46 : pR 212 d 46 [a0, a1, .long lx, a3, a4, a5, a6, a7] st h = pR 212 d 47 [a0, a1, .long lx, a3, a4, a5, a6, a7] (.long lx :: st) h := pR_L rfl rfl
theorem rX19_of_47 : pR 212 d 47 [a0, a1, a2, a3, .long lx, a5, a6, a7] st h = pR 212 d 49 [a0, a1, a2, a3, .long lx, a5, a6, a7] (.long lx :: st) h := pR_L rfl rfl
theorem rX19_of_49 : pR 212 d 49 ls (.long ly :: .long lx :: st) h = pR 212 d 50 ls (.long (lx - ly) :: st) h := pR_L rfl rfl
theorem rX19_of_50 : pR 212 d 50 ls st h = pR 212 d 84 ls st h := pR_L rfl rfl
theorem rX19_of_53 : pR 212 d 53 [.ref o, a1, a2, a3, a4, a5, a6, a7] st h = pR 212 d 54 [.ref o, a1, a2, a3, a4, a5, a6, a7] (.ref o :: st) h := pR_L rfl rfl
theorem rX19_of_54 : pR 212 d 54 ls (.ref o :: st) h = if pis (pfl h 19 o 0) = true then pR 212 d 57 ls (pfl h 19 o 0 :: st) h else none := r_get rfl
theorem rX19_of_57 : pR 212 d 57 ls st h = pR 212 d 59 ls (.int 42 :: st) h := pR_L rfl rfl
theorem rX19_of_59 : pR 212 d 59 ls (.int y :: .int x :: st) h = if x = y then pR 212 d 62 ls st h else pR 212 d 69 ls st h := r_cne rfl rfl
theorem rX19_of_62 : pR 212 d 62 [a0, a1, .long lx, a3, a4, a5, a6, a7] st h = pR 212 d 63 [a0, a1, .long lx, a3, a4, a5, a6, a7] (.long lx :: st) h := pR_L rfl rfl
theorem rX19_of_63 : pR 212 d 63 [a0, a1, a2, a3, .long lx, a5, a6, a7] st h = pR 212 d 65 [a0, a1, a2, a3, .long lx, a5, a6, a7] (.long lx :: st) h := pR_L rfl rfl
theorem rX19_of_65 : pR 212 d 65 ls (.long ly :: .long lx :: st) h = pR 212 d 66 ls (.long (lx * ly) :: st) h := pR_L rfl rfl
theorem rX19_of_66 : pR 212 d 66 ls st h = pR 212 d 84 ls st h := pR_L rfl rfl
theorem rX19_of_69 : pR 212 d 69 [a0, a1, a2, a3, .long lx, a5, a6, a7] st h = pR 212 d 71 [a0, a1, a2, a3, .long lx, a5, a6, a7] (.long lx :: st) h := pR_L rfl rfl
theorem rX19_of_71 : pR 212 d 71 ls st h = pR 212 d 72 ls (.long 0 :: st) h := pR_L rfl rfl
theorem rX19_of_72 : pR 212 d 72 ls (.long ly :: .long lx :: st) h = pR 212 d 73 ls (.int (lg_cmp lx ly) :: st) h := pR_L rfl rfl
theorem rX19_of_73 : pR 212 d 73 ls (.int x :: st) h = if x = 0 then pR 212 d 76 ls st h else pR 212 d 80 ls st h := r_ine rfl rfl
theorem rX19_of_76 : pR 212 d 76 ls st h = pR 212 d 77 ls (.long 0 :: st) h := pR_L rfl rfl
theorem rX19_of_77 : pR 212 d 77 ls st h = pR 212 d 84 ls st h := pR_L rfl rfl
theorem rX19_of_80 : pR 212 d 80 [a0, a1, .long lx, a3, a4, a5, a6, a7] st h = pR 212 d 81 [a0, a1, .long lx, a3, a4, a5, a6, a7] (.long lx :: st) h := pR_L rfl rfl
theorem rX19_of_81 : pR 212 d 81 [a0, a1, a2, a3, .long lx, a5, a6, a7] st h = pR 212 d 83 [a0, a1, a2, a3, .long lx, a5, a6, a7] (.long lx :: st) h := pR_L rfl rfl
theorem rX19_of_83 : pR 212 d 83 ls (.long ly :: .long lx :: st) h = if ly = 0 then none else pR 212 d 84 ls (.long (lx / ly) :: st) h := r_ldiv rfl
theorem rX19_of_84 : pR 212 d 84 [a0, a1, a2, a3, a4, a5, a6, a7] (.long lx :: st) h = if p2 a6 a7 = true then pR 212 d 86 [a0, a1, a2, a3, a4, a5, .long lx, pV] st h else none := r_stoL (n := 2) (k := 6) (x := lx) (ls := [a0, a1, a2, a3, a4, a5, a6, a7]) rfl rfl rfl rfl
theorem rX19_of_86 : pR 212 d 86 ls st h = pR 212 d 89 ls (.long (-1000000) :: st) h := pR_X rfl rfl
theorem rX19_of_89 : pR 212 d 89 ls st h = pR 212 d 92 ls (.long 1000000 :: st) h := pR_X rfl rfl
theorem rX19_of_92 : pR 212 d 92 [a0, a1, a2, a3, a4, a5, .long lx, a7] st h = pR 212 d 94 [a0, a1, a2, a3, a4, a5, .long lx, a7] (.long lx :: st) h := pR_L rfl rfl
theorem rX19_of_94 : pR 212 (d + 1) 94 ls (.long ly :: .long lx :: st) h = if pw st = true then pR 212 (d + 1) 97 ls (.long (if ly < lx then ly else lx) :: st) h else none := r_mnl rfl
theorem rX19_of_97 : pR 212 (d + 1) 97 ls (.long ly :: .long lx :: st) h = if pw st = true then pR 212 (d + 1) 100 ls (.long (if ly < lx then lx else ly) :: st) h else none := r_mxl rfl
theorem rX19_of_100 : pR 212 d 100 ls (.long lx :: st) h = pR 212 d 101 ls (.int lx.toInt32 :: st) h := pR_L rfl rfl
theorem rX19_of_101 : pR 212 d 101 ls [.int x] h = some (.inl (some (.int x)), h) := pR_E rfl rfl
-- 213 BalloonStall$Compares <init> (ILBalloonStall$Sum;LBalloonStall$Sum;)V
theorem eX20_init : pCa 213 d [.ref o, .int x0, .ref r1, .ref r2] h = pR 213 d 0 [.ref o, .int x0, .ref r1, .ref r2] [] h := rfl
theorem rX20_init_0 : pR 213 d 0 [.ref o, a1, a2, a3] st h = pR 213 d 1 [.ref o, a1, a2, a3] (.ref o :: st) h := pR_L rfl rfl
theorem rX20_init_1 : pR 213 (d + 1) 1 ls (.ref o :: st) h = if (pok 14 (pcl h o) && pw st) = true then pK 213 (d + 1) 1 3 ls st (pCa 203 d [.ref o] h) else none := r_callV rfl rfl rfl
theorem rX20_init_4 : pR 213 d 4 [.ref o, a1, a2, a3] st h = pR 213 d 5 [.ref o, a1, a2, a3] (.ref o :: st) h := pR_L rfl rfl
theorem rX20_init_5 : pR 213 d 5 [a0, .int x, a2, a3] st h = pR 213 d 6 [a0, .int x, a2, a3] (.int x :: st) h := pR_L rfl rfl
theorem rX20_init_6 : pR 213 d 6 ls (.int x :: .ref o :: st) h = if pis (pfl h 20 o 0) = true then pR 213 d 9 ls st (psf h o 0 (.int x)) else none := r_put rfl rfl
theorem rX20_init_9 : pR 213 d 9 [.ref o, a1, a2, a3] st h = pR 213 d 10 [.ref o, a1, a2, a3] (.ref o :: st) h := pR_L rfl rfl
theorem rX20_init_10 : pR 213 d 10 [a0, a1, .ref o, a3] st h = pR 213 d 11 [a0, a1, .ref o, a3] (.ref o :: st) h := pR_L rfl rfl
theorem rX20_init_10n : pR 213 d 10 [a0, a1, .null, a3] st h = pR 213 d 11 [a0, a1, .null, a3] (.null :: st) h := pR_L rfl rfl
theorem rX20_init_11 : pR 213 d 11 ls (.ref o2 :: .ref o :: st) h = if pis (pfl h 20 o 1) = true then pR 213 d 14 ls st (psf h o 1 (.ref o2)) else none := r_put rfl rfl
theorem rX20_init_11n : pR 213 d 11 ls (.null :: .ref o :: st) h = if pis (pfl h 20 o 1) = true then pR 213 d 14 ls st (psf h o 1 .null) else none := r_put rfl rfl
theorem rX20_init_14 : pR 213 d 14 [.ref o, a1, a2, a3] st h = pR 213 d 15 [.ref o, a1, a2, a3] (.ref o :: st) h := pR_L rfl rfl
theorem rX20_init_15 : pR 213 d 15 [a0, a1, a2, .ref o] st h = pR 213 d 16 [a0, a1, a2, .ref o] (.ref o :: st) h := pR_L rfl rfl
theorem rX20_init_15n : pR 213 d 15 [a0, a1, a2, .null] st h = pR 213 d 16 [a0, a1, a2, .null] (.null :: st) h := pR_L rfl rfl
theorem rX20_init_16 : pR 213 d 16 ls (.ref o2 :: .ref o :: st) h = if pis (pfl h 20 o 2) = true then pR 213 d 19 ls st (psf h o 2 (.ref o2)) else none := r_put rfl rfl
theorem rX20_init_16n : pR 213 d 16 ls (.null :: .ref o :: st) h = if pis (pfl h 20 o 2) = true then pR 213 d 19 ls st (psf h o 2 .null) else none := r_put rfl rfl
theorem rX20_init_19 : pR 213 d 19 ls [] h = some (.inl none, h) := pR_E rfl rfl
-- 214 BalloonStall$Compares holds (LBalloonStall$Letters;)Z
theorem eX20_holds : pCa 214 d [.ref o, .ref r0] h = pR 214 d 0 [.ref o, .ref r0, pU, pU] [] h := rfl
theorem rX20_holds_0 : pR 214 d 0 [.ref o, a1, a2, a3] st h = pR 214 d 1 [.ref o, a1, a2, a3] (.ref o :: st) h := pR_L rfl rfl
theorem rX20_holds_1 : pR 214 d 1 ls (.ref o :: st) h = if pis (pfl h 20 o 1) = true then pR 214 d 4 ls (pfl h 20 o 1 :: st) h else none := r_get rfl
theorem rX20_holds_4 : pR 214 d 4 [a0, .ref o, a2, a3] st h = pR 214 d 5 [a0, .ref o, a2, a3] (.ref o :: st) h := pR_L rfl rfl
theorem rX20_holds_4n : pR 214 d 4 [a0, .null, a2, a3] st h = pR 214 d 5 [a0, .null, a2, a3] (.null :: st) h := pR_L rfl rfl
theorem rX20_holds_5c17 (hc : pcl h o = 17) : pR 214 (d + 1) 5 ls (b1 :: .ref o :: st) h = if pw st = true then pK 214 (d + 1) 5 3 ls st (pCa 208 d [.ref o, b1] h) else none := r_callA rfl rfl rfl (by rw [hc]; rfl)
theorem rX20_holds_5c18 (hc : pcl h o = 18) : pR 214 (d + 1) 5 ls (b1 :: .ref o :: st) h = if pw st = true then pK 214 (d + 1) 5 3 ls st (pCa 210 d [.ref o, b1] h) else none := r_callA rfl rfl rfl (by rw [hc]; rfl)
theorem rX20_holds_5c19 (hc : pcl h o = 19) : pR 214 (d + 1) 5 ls (b1 :: .ref o :: st) h = if pw st = true then pK 214 (d + 1) 5 3 ls st (pCa 212 d [.ref o, b1] h) else none := r_callA rfl rfl rfl (by rw [hc]; rfl)
theorem rX20_holds_8 : pR 214 d 8 [a0, a1, a2, a3] (.int x :: st) h = if p1 a2 = true then pR 214 d 9 [a0, a1, .int x, a3] st h else none := r_sto (n := 1) (k := 2) (v := .int x) (ls := [a0, a1, a2, a3]) rfl rfl rfl
theorem rX20_holds_9 : pR 214 d 9 [.ref o, a1, a2, a3] st h = pR 214 d 10 [.ref o, a1, a2, a3] (.ref o :: st) h := pR_L rfl rfl
theorem rX20_holds_10 : pR 214 d 10 ls (.ref o :: st) h = if pis (pfl h 20 o 2) = true then pR 214 d 13 ls (pfl h 20 o 2 :: st) h else none := r_get rfl
theorem rX20_holds_13 : pR 214 d 13 [a0, .ref o, a2, a3] st h = pR 214 d 14 [a0, .ref o, a2, a3] (.ref o :: st) h := pR_L rfl rfl
theorem rX20_holds_13n : pR 214 d 13 [a0, .null, a2, a3] st h = pR 214 d 14 [a0, .null, a2, a3] (.null :: st) h := pR_L rfl rfl
theorem rX20_holds_14c17 (hc : pcl h o = 17) : pR 214 (d + 1) 14 ls (b1 :: .ref o :: st) h = if pw st = true then pK 214 (d + 1) 14 3 ls st (pCa 208 d [.ref o, b1] h) else none := r_callA rfl rfl rfl (by rw [hc]; rfl)
theorem rX20_holds_14c18 (hc : pcl h o = 18) : pR 214 (d + 1) 14 ls (b1 :: .ref o :: st) h = if pw st = true then pK 214 (d + 1) 14 3 ls st (pCa 210 d [.ref o, b1] h) else none := r_callA rfl rfl rfl (by rw [hc]; rfl)
theorem rX20_holds_14c19 (hc : pcl h o = 19) : pR 214 (d + 1) 14 ls (b1 :: .ref o :: st) h = if pw st = true then pK 214 (d + 1) 14 3 ls st (pCa 212 d [.ref o, b1] h) else none := r_callA rfl rfl rfl (by rw [hc]; rfl)
theorem rX20_holds_17 : pR 214 d 17 [a0, a1, a2, a3] (.int x :: st) h = if p1 a3 = true then pR 214 d 18 [a0, a1, a2, .int x] st h else none := r_sto (n := 1) (k := 3) (v := .int x) (ls := [a0, a1, a2, a3]) rfl rfl rfl
theorem rX20_holds_18 : pR 214 d 18 [.ref o, a1, a2, a3] st h = pR 214 d 19 [.ref o, a1, a2, a3] (.ref o :: st) h := pR_L rfl rfl
theorem rX20_holds_19 : pR 214 d 19 ls (.ref o :: st) h = if pis (pfl h 20 o 0) = true then pR 214 d 22 ls (pfl h 20 o 0 :: st) h else none := r_get rfl
theorem rX20_holds_22 : pR 214 d 22 ls st h = pR 214 d 24 ls (.int 61 :: st) h := pR_L rfl rfl
theorem rX20_holds_24 : pR 214 d 24 ls (.int y :: .int x :: st) h = if x = y then pR 214 d 27 ls st h else pR 214 d 40 ls st h := r_cne rfl rfl
theorem rX20_holds_27 : pR 214 d 27 [a0, a1, .int x, a3] st h = pR 214 d 28 [a0, a1, .int x, a3] (.int x :: st) h := pR_L rfl rfl
theorem rX20_holds_28 : pR 214 d 28 [a0, a1, a2, .int x] st h = pR 214 d 29 [a0, a1, a2, .int x] (.int x :: st) h := pR_L rfl rfl
theorem rX20_holds_29 : pR 214 d 29 ls (.int y :: .int x :: st) h = if x = y then pR 214 d 32 ls st h else pR 214 d 36 ls st h := r_cne rfl rfl
theorem rX20_holds_32 : pR 214 d 32 ls st h = pR 214 d 33 ls (.int 1 :: st) h := pR_L rfl rfl
theorem rX20_holds_33 : pR 214 d 33 ls st h = pR 214 d 72 ls st h := pR_L rfl rfl
theorem rX20_holds_36 : pR 214 d 36 ls st h = pR 214 d 37 ls (.int 0 :: st) h := pR_L rfl rfl
theorem rX20_holds_37 : pR 214 d 37 ls st h = pR 214 d 72 ls st h := pR_L rfl rfl
theorem rX20_holds_40 : pR 214 d 40 [.ref o, a1, a2, a3] st h = pR 214 d 41 [.ref o, a1, a2, a3] (.ref o :: st) h := pR_L rfl rfl
theorem rX20_holds_41 : pR 214 d 41 ls (.ref o :: st) h = if pis (pfl h 20 o 0) = true then pR 214 d 44 ls (pfl h 20 o 0 :: st) h else none := r_get rfl
theorem rX20_holds_44 : pR 214 d 44 ls st h = pR 214 d 46 ls (.int 60 :: st) h := pR_L rfl rfl
theorem rX20_holds_46 : pR 214 d 46 ls (.int y :: .int x :: st) h = if x = y then pR 214 d 49 ls st h else pR 214 d 62 ls st h := r_cne rfl rfl
theorem rX20_holds_49 : pR 214 d 49 [a0, a1, .int x, a3] st h = pR 214 d 50 [a0, a1, .int x, a3] (.int x :: st) h := pR_L rfl rfl
theorem rX20_holds_50 : pR 214 d 50 [a0, a1, a2, .int x] st h = pR 214 d 51 [a0, a1, a2, .int x] (.int x :: st) h := pR_L rfl rfl
theorem rX20_holds_51 : pR 214 d 51 ls (.int y :: .int x :: st) h = if x < y then pR 214 d 54 ls st h else pR 214 d 58 ls st h := r_cge rfl rfl
theorem rX20_holds_54 : pR 214 d 54 ls st h = pR 214 d 55 ls (.int 1 :: st) h := pR_L rfl rfl
theorem rX20_holds_55 : pR 214 d 55 ls st h = pR 214 d 72 ls st h := pR_L rfl rfl
theorem rX20_holds_58 : pR 214 d 58 ls st h = pR 214 d 59 ls (.int 0 :: st) h := pR_L rfl rfl
theorem rX20_holds_59 : pR 214 d 59 ls st h = pR 214 d 72 ls st h := pR_L rfl rfl
theorem rX20_holds_62 : pR 214 d 62 [a0, a1, .int x, a3] st h = pR 214 d 63 [a0, a1, .int x, a3] (.int x :: st) h := pR_L rfl rfl
theorem rX20_holds_63 : pR 214 d 63 [a0, a1, a2, .int x] st h = pR 214 d 64 [a0, a1, a2, .int x] (.int x :: st) h := pR_L rfl rfl
theorem rX20_holds_64 : pR 214 d 64 ls (.int y :: .int x :: st) h = if y < x then pR 214 d 67 ls st h else pR 214 d 71 ls st h := r_cle rfl rfl
theorem rX20_holds_67 : pR 214 d 67 ls st h = pR 214 d 68 ls (.int 1 :: st) h := pR_L rfl rfl
theorem rX20_holds_68 : pR 214 d 68 ls st h = pR 214 d 72 ls st h := pR_L rfl rfl
theorem rX20_holds_71 : pR 214 d 71 ls st h = pR 214 d 72 ls (.int 0 :: st) h := pR_L rfl rfl
theorem rX20_holds_720 : pR 214 d 72 ls [.int 0] h = some (.inl (some (.int 0)), h) := pR_E rfl rfl
theorem rX20_holds_721 : pR 214 d 72 ls [.int 1] h = some (.inl (some (.int 1)), h) := pR_E rfl rfl
-- 215 BalloonStall$Both <init> (ZLBalloonStall$Test;LBalloonStall$Test;)V
theorem eX21_init : pCa 215 d [.ref o, .int x0, .ref r1, .ref r2] h = pR 215 d 0 [.ref o, .int x0, .ref r1, .ref r2] [] h := rfl
theorem rX21_init_0 : pR 215 d 0 [.ref o, a1, a2, a3] st h = pR 215 d 1 [.ref o, a1, a2, a3] (.ref o :: st) h := pR_L rfl rfl
theorem rX21_init_1 : pR 215 (d + 1) 1 ls (.ref o :: st) h = if (pok 14 (pcl h o) && pw st) = true then pK 215 (d + 1) 1 3 ls st (pCa 203 d [.ref o] h) else none := r_callV rfl rfl rfl
theorem rX21_init_4 : pR 215 d 4 [.ref o, a1, a2, a3] st h = pR 215 d 5 [.ref o, a1, a2, a3] (.ref o :: st) h := pR_L rfl rfl
theorem rX21_init_5 : pR 215 d 5 [a0, .int x, a2, a3] st h = pR 215 d 6 [a0, .int x, a2, a3] (.int x :: st) h := pR_L rfl rfl
theorem rX21_init_6 : pR 215 d 6 ls (.int x :: .ref o :: st) h = if (pis (pfl h 21 o 0) && (x == 0 || x == 1)) = true then pR 215 d 9 ls st (psf h o 0 (.int x)) else none := r_putz rfl
theorem rX21_init_9 : pR 215 d 9 [.ref o, a1, a2, a3] st h = pR 215 d 10 [.ref o, a1, a2, a3] (.ref o :: st) h := pR_L rfl rfl
theorem rX21_init_10 : pR 215 d 10 [a0, a1, .ref o, a3] st h = pR 215 d 11 [a0, a1, .ref o, a3] (.ref o :: st) h := pR_L rfl rfl
theorem rX21_init_10n : pR 215 d 10 [a0, a1, .null, a3] st h = pR 215 d 11 [a0, a1, .null, a3] (.null :: st) h := pR_L rfl rfl
theorem rX21_init_11 : pR 215 d 11 ls (.ref o2 :: .ref o :: st) h = if pis (pfl h 21 o 1) = true then pR 215 d 14 ls st (psf h o 1 (.ref o2)) else none := r_put rfl rfl
theorem rX21_init_11n : pR 215 d 11 ls (.null :: .ref o :: st) h = if pis (pfl h 21 o 1) = true then pR 215 d 14 ls st (psf h o 1 .null) else none := r_put rfl rfl
theorem rX21_init_14 : pR 215 d 14 [.ref o, a1, a2, a3] st h = pR 215 d 15 [.ref o, a1, a2, a3] (.ref o :: st) h := pR_L rfl rfl
theorem rX21_init_15 : pR 215 d 15 [a0, a1, a2, .ref o] st h = pR 215 d 16 [a0, a1, a2, .ref o] (.ref o :: st) h := pR_L rfl rfl
theorem rX21_init_15n : pR 215 d 15 [a0, a1, a2, .null] st h = pR 215 d 16 [a0, a1, a2, .null] (.null :: st) h := pR_L rfl rfl
theorem rX21_init_16 : pR 215 d 16 ls (.ref o2 :: .ref o :: st) h = if pis (pfl h 21 o 2) = true then pR 215 d 19 ls st (psf h o 2 (.ref o2)) else none := r_put rfl rfl
theorem rX21_init_16n : pR 215 d 16 ls (.null :: .ref o :: st) h = if pis (pfl h 21 o 2) = true then pR 215 d 19 ls st (psf h o 2 .null) else none := r_put rfl rfl
theorem rX21_init_19 : pR 215 d 19 ls [] h = some (.inl none, h) := pR_E rfl rfl
-- 216 BalloonStall$Both holds (LBalloonStall$Letters;)Z
theorem eX21_holds : pCa 216 d [.ref o, .ref r0] h = pR 216 d 0 [.ref o, .ref r0] [] h := rfl
theorem rX21_holds_0 : pR 216 d 0 [.ref o, a1] st h = pR 216 d 1 [.ref o, a1] (.ref o :: st) h := pR_L rfl rfl
theorem rX21_holds_1 : pR 216 d 1 ls (.ref o :: st) h = if pis (pfl h 21 o 0) = true then pR 216 d 4 ls (pfl h 21 o 0 :: st) h else none := r_get rfl
theorem rX21_holds_4 : pR 216 d 4 ls (.int x :: st) h = if x = 0 then pR 216 d 37 ls st h else pR 216 d 7 ls st h := r_ieq rfl rfl
theorem rX21_holds_7 : pR 216 d 7 [.ref o, a1] st h = pR 216 d 8 [.ref o, a1] (.ref o :: st) h := pR_L rfl rfl
theorem rX21_holds_8 : pR 216 d 8 ls (.ref o :: st) h = if pis (pfl h 21 o 1) = true then pR 216 d 11 ls (pfl h 21 o 1 :: st) h else none := r_get rfl
theorem rX21_holds_11 : pR 216 d 11 [a0, .ref o] st h = pR 216 d 12 [a0, .ref o] (.ref o :: st) h := pR_L rfl rfl
theorem rX21_holds_11n : pR 216 d 11 [a0, .null] st h = pR 216 d 12 [a0, .null] (.null :: st) h := pR_L rfl rfl
theorem rX21_holds_12c15 (hc : pcl h o = 15) : pR 216 (d + 1) 12 ls (b1 :: .ref o :: st) h = if pw st = true then pK 216 (d + 1) 12 3 ls st (pCa 205 d [.ref o, b1] h) else none := r_callA rfl rfl rfl (by rw [hc]; rfl)
theorem rX21_holds_12c20 (hc : pcl h o = 20) : pR 216 (d + 1) 12 ls (b1 :: .ref o :: st) h = if pw st = true then pK 216 (d + 1) 12 3 ls st (pCa 214 d [.ref o, b1] h) else none := r_callA rfl rfl rfl (by rw [hc]; rfl)
theorem rX21_holds_12c21 (hc : pcl h o = 21) : pR 216 (d + 1) 12 ls (b1 :: .ref o :: st) h = if pw st = true then pK 216 (d + 1) 12 3 ls st (pCa 216 d [.ref o, b1] h) else none := r_callA rfl rfl rfl (by rw [hc]; rfl)
theorem rX21_holds_15 : pR 216 d 15 ls (.int x :: st) h = if x = 0 then pR 216 d 33 ls st h else pR 216 d 18 ls st h := r_ieq rfl rfl
theorem rX21_holds_18 : pR 216 d 18 [.ref o, a1] st h = pR 216 d 19 [.ref o, a1] (.ref o :: st) h := pR_L rfl rfl
theorem rX21_holds_19 : pR 216 d 19 ls (.ref o :: st) h = if pis (pfl h 21 o 2) = true then pR 216 d 22 ls (pfl h 21 o 2 :: st) h else none := r_get rfl
theorem rX21_holds_22 : pR 216 d 22 [a0, .ref o] st h = pR 216 d 23 [a0, .ref o] (.ref o :: st) h := pR_L rfl rfl
theorem rX21_holds_22n : pR 216 d 22 [a0, .null] st h = pR 216 d 23 [a0, .null] (.null :: st) h := pR_L rfl rfl
theorem rX21_holds_23c15 (hc : pcl h o = 15) : pR 216 (d + 1) 23 ls (b1 :: .ref o :: st) h = if pw st = true then pK 216 (d + 1) 23 3 ls st (pCa 205 d [.ref o, b1] h) else none := r_callA rfl rfl rfl (by rw [hc]; rfl)
theorem rX21_holds_23c20 (hc : pcl h o = 20) : pR 216 (d + 1) 23 ls (b1 :: .ref o :: st) h = if pw st = true then pK 216 (d + 1) 23 3 ls st (pCa 214 d [.ref o, b1] h) else none := r_callA rfl rfl rfl (by rw [hc]; rfl)
theorem rX21_holds_23c21 (hc : pcl h o = 21) : pR 216 (d + 1) 23 ls (b1 :: .ref o :: st) h = if pw st = true then pK 216 (d + 1) 23 3 ls st (pCa 216 d [.ref o, b1] h) else none := r_callA rfl rfl rfl (by rw [hc]; rfl)
theorem rX21_holds_26 : pR 216 d 26 ls (.int x :: st) h = if x = 0 then pR 216 d 33 ls st h else pR 216 d 29 ls st h := r_ieq rfl rfl
theorem rX21_holds_29 : pR 216 d 29 ls st h = pR 216 d 30 ls (.int 1 :: st) h := pR_L rfl rfl
theorem rX21_holds_30 : pR 216 d 30 ls st h = pR 216 d 64 ls st h := pR_L rfl rfl
theorem rX21_holds_33 : pR 216 d 33 ls st h = pR 216 d 34 ls (.int 0 :: st) h := pR_L rfl rfl
theorem rX21_holds_34 : pR 216 d 34 ls st h = pR 216 d 64 ls st h := pR_L rfl rfl
theorem rX21_holds_37 : pR 216 d 37 [.ref o, a1] st h = pR 216 d 38 [.ref o, a1] (.ref o :: st) h := pR_L rfl rfl
theorem rX21_holds_38 : pR 216 d 38 ls (.ref o :: st) h = if pis (pfl h 21 o 1) = true then pR 216 d 41 ls (pfl h 21 o 1 :: st) h else none := r_get rfl
theorem rX21_holds_41 : pR 216 d 41 [a0, .ref o] st h = pR 216 d 42 [a0, .ref o] (.ref o :: st) h := pR_L rfl rfl
theorem rX21_holds_41n : pR 216 d 41 [a0, .null] st h = pR 216 d 42 [a0, .null] (.null :: st) h := pR_L rfl rfl
theorem rX21_holds_42c15 (hc : pcl h o = 15) : pR 216 (d + 1) 42 ls (b1 :: .ref o :: st) h = if pw st = true then pK 216 (d + 1) 42 3 ls st (pCa 205 d [.ref o, b1] h) else none := r_callA rfl rfl rfl (by rw [hc]; rfl)
theorem rX21_holds_42c20 (hc : pcl h o = 20) : pR 216 (d + 1) 42 ls (b1 :: .ref o :: st) h = if pw st = true then pK 216 (d + 1) 42 3 ls st (pCa 214 d [.ref o, b1] h) else none := r_callA rfl rfl rfl (by rw [hc]; rfl)
theorem rX21_holds_42c21 (hc : pcl h o = 21) : pR 216 (d + 1) 42 ls (b1 :: .ref o :: st) h = if pw st = true then pK 216 (d + 1) 42 3 ls st (pCa 216 d [.ref o, b1] h) else none := r_callA rfl rfl rfl (by rw [hc]; rfl)
theorem rX21_holds_45 : pR 216 d 45 ls (.int x :: st) h = if x = 0 then pR 216 d 48 ls st h else pR 216 d 59 ls st h := r_ine rfl rfl
theorem rX21_holds_48 : pR 216 d 48 [.ref o, a1] st h = pR 216 d 49 [.ref o, a1] (.ref o :: st) h := pR_L rfl rfl
theorem rX21_holds_49 : pR 216 d 49 ls (.ref o :: st) h = if pis (pfl h 21 o 2) = true then pR 216 d 52 ls (pfl h 21 o 2 :: st) h else none := r_get rfl
theorem rX21_holds_52 : pR 216 d 52 [a0, .ref o] st h = pR 216 d 53 [a0, .ref o] (.ref o :: st) h := pR_L rfl rfl
theorem rX21_holds_52n : pR 216 d 52 [a0, .null] st h = pR 216 d 53 [a0, .null] (.null :: st) h := pR_L rfl rfl
theorem rX21_holds_53c15 (hc : pcl h o = 15) : pR 216 (d + 1) 53 ls (b1 :: .ref o :: st) h = if pw st = true then pK 216 (d + 1) 53 3 ls st (pCa 205 d [.ref o, b1] h) else none := r_callA rfl rfl rfl (by rw [hc]; rfl)
theorem rX21_holds_53c20 (hc : pcl h o = 20) : pR 216 (d + 1) 53 ls (b1 :: .ref o :: st) h = if pw st = true then pK 216 (d + 1) 53 3 ls st (pCa 214 d [.ref o, b1] h) else none := r_callA rfl rfl rfl (by rw [hc]; rfl)
theorem rX21_holds_53c21 (hc : pcl h o = 21) : pR 216 (d + 1) 53 ls (b1 :: .ref o :: st) h = if pw st = true then pK 216 (d + 1) 53 3 ls st (pCa 216 d [.ref o, b1] h) else none := r_callA rfl rfl rfl (by rw [hc]; rfl)
theorem rX21_holds_56 : pR 216 d 56 ls (.int x :: st) h = if x = 0 then pR 216 d 63 ls st h else pR 216 d 59 ls st h := r_ieq rfl rfl
theorem rX21_holds_59 : pR 216 d 59 ls st h = pR 216 d 60 ls (.int 1 :: st) h := pR_L rfl rfl
theorem rX21_holds_60 : pR 216 d 60 ls st h = pR 216 d 64 ls st h := pR_L rfl rfl
theorem rX21_holds_63 : pR 216 d 63 ls st h = pR 216 d 64 ls (.int 0 :: st) h := pR_L rfl rfl
theorem rX21_holds_640 : pR 216 d 64 ls [.int 0] h = some (.inl (some (.int 0)), h) := pR_E rfl rfl
theorem rX21_holds_641 : pR 216 d 64 ls [.int 1] h = some (.inl (some (.int 1)), h) := pR_E rfl rfl
-- 217 BalloonStall$Clause <init> (LBalloonStall$Test;LBalloonStall$Sum;)V
theorem eX22_init : pCa 217 d [.ref o, .ref r0, .ref r1] h = pR 217 d 0 [.ref o, .ref r0, .ref r1] [] h := rfl
theorem eX22_initn : pCa 217 d [.ref o, .null, .ref r1] h = pR 217 d 0 [.ref o, .null, .ref r1] [] h := rfl
theorem rX22_init_0 : pR 217 d 0 [.ref o, a1, a2] st h = pR 217 d 1 [.ref o, a1, a2] (.ref o :: st) h := pR_L rfl rfl
theorem rX22_init_1 : pR 217 (d + 1) 1 ls (.ref o :: st) h = if pw st = true then pR 217 (d + 1) 4 ls st h else none := r_obj rfl
theorem rX22_init_4 : pR 217 d 4 [.ref o, a1, a2] st h = pR 217 d 5 [.ref o, a1, a2] (.ref o :: st) h := pR_L rfl rfl
theorem rX22_init_5 : pR 217 d 5 [a0, .ref o, a2] st h = pR 217 d 6 [a0, .ref o, a2] (.ref o :: st) h := pR_L rfl rfl
theorem rX22_init_5n : pR 217 d 5 [a0, .null, a2] st h = pR 217 d 6 [a0, .null, a2] (.null :: st) h := pR_L rfl rfl
theorem rX22_init_6 : pR 217 d 6 ls (.ref o2 :: .ref o :: st) h = if pis (pfl h 22 o 0) = true then pR 217 d 9 ls st (psf h o 0 (.ref o2)) else none := r_put rfl rfl
theorem rX22_init_6n : pR 217 d 6 ls (.null :: .ref o :: st) h = if pis (pfl h 22 o 0) = true then pR 217 d 9 ls st (psf h o 0 .null) else none := r_put rfl rfl
theorem rX22_init_9 : pR 217 d 9 [.ref o, a1, a2] st h = pR 217 d 10 [.ref o, a1, a2] (.ref o :: st) h := pR_L rfl rfl
theorem rX22_init_10 : pR 217 d 10 [a0, a1, .ref o] st h = pR 217 d 11 [a0, a1, .ref o] (.ref o :: st) h := pR_L rfl rfl
theorem rX22_init_10n : pR 217 d 10 [a0, a1, .null] st h = pR 217 d 11 [a0, a1, .null] (.null :: st) h := pR_L rfl rfl
theorem rX22_init_11 : pR 217 d 11 ls (.ref o2 :: .ref o :: st) h = if pis (pfl h 22 o 1) = true then pR 217 d 14 ls st (psf h o 1 (.ref o2)) else none := r_put rfl rfl
theorem rX22_init_11n : pR 217 d 11 ls (.null :: .ref o :: st) h = if pis (pfl h 22 o 1) = true then pR 217 d 14 ls st (psf h o 1 .null) else none := r_put rfl rfl
theorem rX22_init_14 : pR 217 d 14 ls [] h = some (.inl none, h) := pR_E rfl rfl
-- 218 BalloonStall$Clause holds (LBalloonStall$Letters;)Z
theorem eX22_holds : pCa 218 d [.ref o, .ref r0] h = pR 218 d 0 [.ref o, .ref r0] [] h := rfl
theorem rX22_holds_0 : pR 218 d 0 [.ref o, a1] st h = pR 218 d 1 [.ref o, a1] (.ref o :: st) h := pR_L rfl rfl
theorem rX22_holds_1 : pR 218 d 1 ls (.ref o :: st) h = if pis (pfl h 22 o 0) = true then pR 218 d 4 ls (pfl h 22 o 0 :: st) h else none := r_get rfl
theorem rX22_holds_4n : pR 218 d 4 ls (.null :: st) h = pR 218 d 18 ls st h := pR_L rfl rfl
theorem rX22_holds_4 : pR 218 d 4 ls (.ref o :: st) h = pR 218 d 7 ls st h := pR_L rfl rfl
theorem rX22_holds_7 : pR 218 d 7 [.ref o, a1] st h = pR 218 d 8 [.ref o, a1] (.ref o :: st) h := pR_L rfl rfl
theorem rX22_holds_8 : pR 218 d 8 ls (.ref o :: st) h = if pis (pfl h 22 o 0) = true then pR 218 d 11 ls (pfl h 22 o 0 :: st) h else none := r_get rfl
theorem rX22_holds_11 : pR 218 d 11 [a0, .ref o] st h = pR 218 d 12 [a0, .ref o] (.ref o :: st) h := pR_L rfl rfl
theorem rX22_holds_11n : pR 218 d 11 [a0, .null] st h = pR 218 d 12 [a0, .null] (.null :: st) h := pR_L rfl rfl
theorem rX22_holds_12c15 (hc : pcl h o = 15) : pR 218 (d + 1) 12 ls (b1 :: .ref o :: st) h = if pw st = true then pK 218 (d + 1) 12 3 ls st (pCa 205 d [.ref o, b1] h) else none := r_callA rfl rfl rfl (by rw [hc]; rfl)
theorem rX22_holds_12c20 (hc : pcl h o = 20) : pR 218 (d + 1) 12 ls (b1 :: .ref o :: st) h = if pw st = true then pK 218 (d + 1) 12 3 ls st (pCa 214 d [.ref o, b1] h) else none := r_callA rfl rfl rfl (by rw [hc]; rfl)
theorem rX22_holds_12c21 (hc : pcl h o = 21) : pR 218 (d + 1) 12 ls (b1 :: .ref o :: st) h = if pw st = true then pK 218 (d + 1) 12 3 ls st (pCa 216 d [.ref o, b1] h) else none := r_callA rfl rfl rfl (by rw [hc]; rfl)
theorem rX22_holds_15 : pR 218 d 15 ls (.int x :: st) h = if x = 0 then pR 218 d 22 ls st h else pR 218 d 18 ls st h := r_ieq rfl rfl
theorem rX22_holds_18 : pR 218 d 18 ls st h = pR 218 d 19 ls (.int 1 :: st) h := pR_L rfl rfl
theorem rX22_holds_19 : pR 218 d 19 ls st h = pR 218 d 23 ls st h := pR_L rfl rfl
theorem rX22_holds_22 : pR 218 d 22 ls st h = pR 218 d 23 ls (.int 0 :: st) h := pR_L rfl rfl
theorem rX22_holds_230 : pR 218 d 23 ls [.int 0] h = some (.inl (some (.int 0)), h) := pR_E rfl rfl
theorem rX22_holds_231 : pR 218 d 23 ls [.int 1] h = some (.inl (some (.int 1)), h) := pR_E rfl rfl
-- 219 BalloonStall$Hand <init> ()V
theorem eX23_init : pCa 219 d [.ref o] h = pR 219 d 0 [.ref o, pU] [] h := rfl
theorem rX23_init_0 : pR 219 d 0 [.ref o, a1] st h = pR 219 d 1 [.ref o, a1] (.ref o :: st) h := pR_L rfl rfl
theorem rX23_init_1 : pR 219 (d + 1) 1 ls (.ref o :: st) h = if pw st = true then pR 219 (d + 1) 4 ls st h else none := r_obj rfl
theorem rX23_init_4 : pR 219 d 4 [.ref o, a1] st h = pR 219 d 5 [.ref o, a1] (.ref o :: st) h := pR_L rfl rfl
theorem rX23_init_5 : pR 219 d 5 ls st h = pR 219 d 7 ls (.int 32 :: st) h := pR_L rfl rfl
theorem rX23_init_7 : pR 219 d 7 ls (.int 32 :: st) h = pR 219 d 9 ls (.ref h.2.1 :: st) (pnw h (.inl (0, 32, .inl fun _ => 0)) 32) := pR_X rfl rfl
theorem rX23_init_9 : pR 219 d 9 ls (.ref o2 :: .ref o :: st) h = if pis (pfl h 23 o 0) = true then pR 219 d 12 ls st (psf h o 0 (.ref o2)) else none := r_put rfl rfl
theorem rX23_init_9n : pR 219 d 9 ls (.null :: .ref o :: st) h = if pis (pfl h 23 o 0) = true then pR 219 d 12 ls st (psf h o 0 .null) else none := r_put rfl rfl
theorem rX23_init_12 : pR 219 d 12 [.ref o, a1] st h = pR 219 d 13 [.ref o, a1] (.ref o :: st) h := pR_L rfl rfl
theorem rX23_init_13 : pR 219 d 13 ls st h = pR 219 d 15 ls (.int 8 :: st) h := pR_L rfl rfl
theorem rX23_init_15 : pR 219 d 15 ls (.int 8 :: st) h = pR 219 d 17 ls (.ref h.2.1 :: st) (pnw h (.inl (0, 8, .inl fun _ => 0)) 8) := pR_X rfl rfl
theorem rX23_init_17 : pR 219 d 17 ls (.ref o2 :: .ref o :: st) h = if pis (pfl h 23 o 1) = true then pR 219 d 20 ls st (psf h o 1 (.ref o2)) else none := r_put rfl rfl
theorem rX23_init_17n : pR 219 d 17 ls (.null :: .ref o :: st) h = if pis (pfl h 23 o 1) = true then pR 219 d 20 ls st (psf h o 1 .null) else none := r_put rfl rfl
theorem rX23_init_20 : pR 219 d 20 [.ref o, a1] st h = pR 219 d 21 [.ref o, a1] (.ref o :: st) h := pR_L rfl rfl
theorem rX23_init_21 : pR 219 d 21 ls st h = pR 219 d 23 ls (.int 24 :: st) h := pR_L rfl rfl
theorem rX23_init_23 : pR 219 d 23 ls (.int 24 :: st) h = pR 219 d 25 ls (.ref h.2.1 :: st) (pnw h (.inl (0, 24, .inl fun _ => 0)) 24) := pR_X rfl rfl
theorem rX23_init_25 : pR 219 d 25 ls (.ref o2 :: .ref o :: st) h = if pis (pfl h 23 o 2) = true then pR 219 d 28 ls st (psf h o 2 (.ref o2)) else none := r_put rfl rfl
theorem rX23_init_25n : pR 219 d 25 ls (.null :: .ref o :: st) h = if pis (pfl h 23 o 2) = true then pR 219 d 28 ls st (psf h o 2 .null) else none := r_put rfl rfl
theorem rX23_init_28 : pR 219 d 28 [.ref o, a1] st h = pR 219 d 29 [.ref o, a1] (.ref o :: st) h := pR_L rfl rfl
theorem rX23_init_29 : pR 219 d 29 ls st h = pR 219 d 31 ls (.int 24 :: st) h := pR_L rfl rfl
theorem rX23_init_31 : pR 219 d 31 ls (.int 24 :: st) h = pR 219 d 33 ls (.ref h.2.1 :: st) (pnw h (.inl (0, 24, .inl fun _ => 0)) 24) := pR_X rfl rfl
theorem rX23_init_33 : pR 219 d 33 ls (.ref o2 :: .ref o :: st) h = if pis (pfl h 23 o 3) = true then pR 219 d 36 ls st (psf h o 3 (.ref o2)) else none := r_put rfl rfl
theorem rX23_init_33n : pR 219 d 33 ls (.null :: .ref o :: st) h = if pis (pfl h 23 o 3) = true then pR 219 d 36 ls st (psf h o 3 .null) else none := r_put rfl rfl
theorem rX23_init_36 : pR 219 d 36 [.ref o, a1] st h = pR 219 d 37 [.ref o, a1] (.ref o :: st) h := pR_L rfl rfl
theorem rX23_init_37 : pR 219 d 37 ls st h = pR 219 d 39 ls (.int 24 :: st) h := pR_L rfl rfl
theorem rX23_init_39 : pR 219 d 39 ls (.int 24 :: st) h = pR 219 d 41 ls (.ref h.2.1 :: st) (pnw h (.inl (0, 24, .inl fun _ => 0)) 24) := pR_X rfl rfl
theorem rX23_init_41 : pR 219 d 41 ls (.ref o2 :: .ref o :: st) h = if pis (pfl h 23 o 4) = true then pR 219 d 44 ls st (psf h o 4 (.ref o2)) else none := r_put rfl rfl
theorem rX23_init_41n : pR 219 d 41 ls (.null :: .ref o :: st) h = if pis (pfl h 23 o 4) = true then pR 219 d 44 ls st (psf h o 4 .null) else none := r_put rfl rfl
theorem rX23_init_44 : pR 219 d 44 [.ref o, a1] st h = pR 219 d 45 [.ref o, a1] (.ref o :: st) h := pR_L rfl rfl
theorem rX23_init_45 : pR 219 d 45 ls st h = pR 219 d 47 ls (.int 24 :: st) h := pR_L rfl rfl
theorem rX23_init_47 : pR 219 d 47 ls (.int 24 :: st) h = pR 219 d 49 ls (.ref h.2.1 :: st) (pnw h (.inl (0, 24, .inl fun _ => 0)) 24) := pR_X rfl rfl
theorem rX23_init_49 : pR 219 d 49 ls (.ref o2 :: .ref o :: st) h = if pis (pfl h 23 o 5) = true then pR 219 d 52 ls st (psf h o 5 (.ref o2)) else none := r_put rfl rfl
theorem rX23_init_49n : pR 219 d 49 ls (.null :: .ref o :: st) h = if pis (pfl h 23 o 5) = true then pR 219 d 52 ls st (psf h o 5 .null) else none := r_put rfl rfl
theorem rX23_init_52 : pR 219 d 52 [.ref o, a1] st h = pR 219 d 53 [.ref o, a1] (.ref o :: st) h := pR_L rfl rfl
theorem rX23_init_53 : pR 219 d 53 ls st h = pR 219 d 55 ls (.int 6 :: st) h := pR_L rfl rfl
theorem rX23_init_55 : pR 219 d 55 ls (.int 6 :: st) h = pR 219 d 57 ls (.ref h.2.1 :: st) (pnw h (.inl (0, 6, .inl fun _ => 0)) 6) := pR_X rfl rfl
theorem rX23_init_57 : pR 219 d 57 ls (.ref o2 :: .ref o :: st) h = if pis (pfl h 23 o 6) = true then pR 219 d 60 ls st (psf h o 6 (.ref o2)) else none := r_put rfl rfl
theorem rX23_init_57n : pR 219 d 57 ls (.null :: .ref o :: st) h = if pis (pfl h 23 o 6) = true then pR 219 d 60 ls st (psf h o 6 .null) else none := r_put rfl rfl
theorem rX23_init_60 : pR 219 d 60 ls st h = pR 219 d 61 ls (.int 0 :: st) h := pR_L rfl rfl
theorem rX23_init_61 : pR 219 d 61 [a0, a1] (.int x :: st) h = if p1 a1 = true then pR 219 d 62 [a0, .int x] st h else none := r_sto (n := 1) (k := 1) (v := .int x) (ls := [a0, a1]) rfl rfl rfl
theorem rX23_init_62 : pR 219 d 62 [a0, .int x] st h = pR 219 d 63 [a0, .int x] (.int x :: st) h := pR_L rfl rfl
theorem rX23_init_63 : pR 219 d 63 ls st h = pR 219 d 65 ls (.int 8 :: st) h := pR_L rfl rfl
theorem rX23_init_65 : pR 219 d 65 ls (.int y :: .int x :: st) h = if x < y then pR 219 d 68 ls st h else pR 219 d 81 ls st h := r_cge rfl rfl
theorem rX23_init_68 : pR 219 d 68 [.ref o, a1] st h = pR 219 d 69 [.ref o, a1] (.ref o :: st) h := pR_L rfl rfl
theorem rX23_init_69 : pR 219 d 69 ls (.ref o :: st) h = if pis (pfl h 23 o 1) = true then pR 219 d 72 ls (pfl h 23 o 1 :: st) h else none := r_get rfl
theorem rX23_init_72 : pR 219 d 72 [a0, .int x] st h = pR 219 d 73 [a0, .int x] (.int x :: st) h := pR_L rfl rfl
theorem rX23_init_73 : pR 219 d 73 ls st h = pR 219 d 74 ls (.int (-1) :: st) h := pR_L rfl rfl
theorem rX23_init_74 : pR 219 d 74 ls (.int y :: .int x :: .ref o :: st) h = if pin x (pln h 0 o) = true then pR 219 d 75 ls st (pst h o x.toNatClampNeg y) else none := pR_Lif rfl rfl
theorem rX23_init_75 : pR 219 d 75 [a0, .int x] st h = pR 219 d 78 [a0, .int (x + 1)] st h := pR_L rfl rfl
theorem rX23_init_78 : pR 219 d 78 ls st h = pR 219 d 62 ls st h := pR_L rfl rfl
theorem rX23_init_81 : pR 219 d 81 ls [] h = some (.inl none, h) := pR_E rfl rfl
-- 220 BalloonStall$Hand blows (I)V
theorem eX23_blows : pCa 220 d [.ref o, .int x0] h = pR 220 d 0 [.ref o, .int x0, pU] [] h := rfl
theorem rX23_blows_0 : pR 220 d 0 [.ref o, a1, a2] st h = pR 220 d 1 [.ref o, a1, a2] (.ref o :: st) h := pR_L rfl rfl
theorem rX23_blows_1 : pR 220 (d + 1) 1 ls (.ref o :: st) h = if (pok 23 (pcl h o) && pw st) = true then pK 220 (d + 1) 1 3 ls st (pCa 221 d [.ref o] h) else none := r_callV rfl rfl rfl
theorem rX23_blows_4 : pR 220 d 4 [a0, a1, a2] (.int x :: st) h = if p1 a2 = true then pR 220 d 5 [a0, a1, .int x] st h else none := r_sto (n := 1) (k := 2) (v := .int x) (ls := [a0, a1, a2]) rfl rfl rfl
theorem rX23_blows_5 : pR 220 d 5 [.ref o, a1, a2] st h = pR 220 d 6 [.ref o, a1, a2] (.ref o :: st) h := pR_L rfl rfl
theorem rX23_blows_6 : pR 220 d 6 [a0, .int x, a2] st h = pR 220 d 7 [a0, .int x, a2] (.int x :: st) h := pR_L rfl rfl
theorem rX23_blows_7 : pR 220 d 7 [.ref o, a1, a2] st h = pR 220 d 8 [.ref o, a1, a2] (.ref o :: st) h := pR_L rfl rfl
theorem rX23_blows_8 : pR 220 d 8 ls (.ref o :: st) h = if pis (pfl h 23 o 7) = true then pR 220 d 11 ls (pfl h 23 o 7 :: st) h else none := r_get rfl
theorem rX23_blows_11 : pR 220 d 11 [a0, a1, .int x] st h = pR 220 d 12 [a0, a1, .int x] (.int x :: st) h := pR_L rfl rfl
theorem rX23_blows_12 : pR 220 d 12 [.ref o, a1, a2] st h = pR 220 d 13 [.ref o, a1, a2] (.ref o :: st) h := pR_L rfl rfl
theorem rX23_blows_13 : pR 220 d 13 ls (.ref o :: st) h = if pis (pfl h 23 o 10) = true then pR 220 d 16 ls (pfl h 23 o 10 :: st) h else none := r_get rfl
theorem rX23_blows_16 : pR 220 d 16 ls st h = pR 220 d 17 ls (.int 1 :: st) h := pR_L rfl rfl
theorem rX23_blows_17 : pR 220 d 17 ls (.int y :: .int x :: st) h = pR 220 d 18 ls (.int (x - y) :: st) h := pR_L rfl rfl
theorem rX23_blows_18 : pR 220 (d + 1) 18 ls (b4 :: b3 :: b2 :: b1 :: .ref o :: st) h = if (pok 23 (pcl h o) && pw st) = true then pK 220 (d + 1) 18 3 ls st (pCa 222 d [.ref o, b1, b2, b3, b4] h) else none := r_callV rfl rfl rfl
theorem rX23_blows_21 : pR 220 d 21 [.ref o, a1, a2] st h = pR 220 d 22 [.ref o, a1, a2] (.ref o :: st) h := pR_L rfl rfl
theorem rX23_blows_22 : pR 220 d 22 [a0, a1, .int x] st h = pR 220 d 23 [a0, a1, .int x] (.int x :: st) h := pR_L rfl rfl
theorem rX23_blows_23 : pR 220 d 23 ls (.int x :: .ref o :: st) h = if pis (pfl h 23 o 7) = true then pR 220 d 26 ls st (psf h o 7 (.int x)) else none := r_put rfl rfl
theorem rX23_blows_26 : pR 220 d 26 ls [] h = some (.inl none, h) := pR_E rfl rfl
-- 221 BalloonStall$Hand point ()I
theorem eX23_point : pCa 221 d [.ref o] h = pR 221 d 0 [.ref o] [] h := rfl
theorem rX23_point_0 : pR 221 d 0 [.ref o] st h = pR 221 d 1 [.ref o] (.ref o :: st) h := pR_L rfl rfl
theorem rX23_point_1 : pR 221 d 1 ls (.ref o :: st) h = if pis (pfl h 23 o 0) = true then pR 221 d 4 ls (pfl h 23 o 0 :: st) h else none := r_get rfl
theorem rX23_point_4 : pR 221 d 4 [.ref o] st h = pR 221 d 5 [.ref o] (.ref o :: st) h := pR_L rfl rfl
theorem rX23_point_5 : pR 221 d 5 ls (.ref o :: st) h = if pis (pfl h 23 o 8) = true then pR 221 d 8 ls (pfl h 23 o 8 :: st) h else none := r_get rfl
theorem rX23_point_8 : pR 221 d 8 [.ref o] st h = pR 221 d 9 [.ref o] (.ref o :: st) h := pR_L rfl rfl
theorem rX23_point_9 : pR 221 d 9 ls (.ref o :: st) h = if pis (pfl h 23 o 8) = true then pR 221 d 12 ls (pfl h 23 o 8 :: st) h else none := r_get rfl
theorem rX23_point_12 : pR 221 d 12 ls (.int y :: .int x :: .ref o :: st) h = if pin x (pln h 0 o) = true then pR 221 d 13 ls st (pst h o x.toNatClampNeg y) else none := pR_Lif rfl rfl
theorem rX23_point_13 : pR 221 d 13 [.ref o] st h = pR 221 d 14 [.ref o] (.ref o :: st) h := pR_L rfl rfl
theorem rX23_point_14 : pR 221 d 14 ls (.ref o :: st) h = pR 221 d 15 ls (.ref o :: .ref o :: st) h := pR_L rfl rfl
theorem rX23_point_14i : pR 221 d 14 ls (.int x :: st) h = pR 221 d 15 ls (.int x :: .int x :: st) h := pR_L rfl rfl
theorem rX23_point_15 : pR 221 d 15 ls (.ref o :: st) h = if pis (pfl h 23 o 8) = true then pR 221 d 18 ls (pfl h 23 o 8 :: st) h else none := r_get rfl
theorem rX23_point_18 : pR 221 d 18 ls st h = pR 221 d 19 ls (.int 1 :: st) h := pR_L rfl rfl
theorem rX23_point_19 : pR 221 d 19 ls (.int y :: .int x :: st) h = pR 221 d 20 ls (.int (x + y) :: st) h := pR_L rfl rfl
theorem rX23_point_20 : pR 221 d 20 ls (.int x :: .ref o :: st) h = if pis (pfl h 23 o 8) = true then pR 221 d 23 ls st (psf h o 8 (.int x)) else none := r_put rfl rfl
theorem rX23_point_23 : pR 221 d 23 [.ref o] st h = pR 221 d 24 [.ref o] (.ref o :: st) h := pR_L rfl rfl
theorem rX23_point_24 : pR 221 d 24 ls (.ref o :: st) h = if pis (pfl h 23 o 8) = true then pR 221 d 27 ls (pfl h 23 o 8 :: st) h else none := r_get rfl
theorem rX23_point_27 : pR 221 d 27 ls st h = pR 221 d 28 ls (.int 1 :: st) h := pR_L rfl rfl
theorem rX23_point_28 : pR 221 d 28 ls (.int y :: .int x :: st) h = pR 221 d 29 ls (.int (x - y) :: st) h := pR_L rfl rfl
theorem rX23_point_29 : pR 221 d 29 ls [.int x] h = some (.inl (some (.int x)), h) := pR_E rfl rfl
-- 222 BalloonStall$Hand adds (IIII)V
theorem eX23_adds : pCa 222 d [.ref o, .int x0, .int x1, .int x2, .int x3] h = pR 222 d 0 [.ref o, .int x0, .int x1, .int x2, .int x3] [] h := rfl
theorem rX23_adds_0 : pR 222 d 0 [.ref o, a1, a2, a3, a4] st h = pR 222 d 1 [.ref o, a1, a2, a3, a4] (.ref o :: st) h := pR_L rfl rfl
theorem rX23_adds_1 : pR 222 d 1 ls (.ref o :: st) h = if pis (pfl h 23 o 2) = true then pR 222 d 4 ls (pfl h 23 o 2 :: st) h else none := r_get rfl
theorem rX23_adds_4 : pR 222 d 4 [.ref o, a1, a2, a3, a4] st h = pR 222 d 5 [.ref o, a1, a2, a3, a4] (.ref o :: st) h := pR_L rfl rfl
theorem rX23_adds_5 : pR 222 d 5 ls (.ref o :: st) h = if pis (pfl h 23 o 9) = true then pR 222 d 8 ls (pfl h 23 o 9 :: st) h else none := r_get rfl
theorem rX23_adds_8 : pR 222 d 8 [a0, a1, .int x, a3, a4] st h = pR 222 d 9 [a0, a1, .int x, a3, a4] (.int x :: st) h := pR_L rfl rfl
theorem rX23_adds_9 : pR 222 d 9 ls (.int y :: .int x :: .ref o :: st) h = if pin x (pln h 0 o) = true then pR 222 d 10 ls st (pst h o x.toNatClampNeg y) else none := pR_Lif rfl rfl
theorem rX23_adds_10 : pR 222 d 10 [.ref o, a1, a2, a3, a4] st h = pR 222 d 11 [.ref o, a1, a2, a3, a4] (.ref o :: st) h := pR_L rfl rfl
theorem rX23_adds_11 : pR 222 d 11 ls (.ref o :: st) h = if pis (pfl h 23 o 3) = true then pR 222 d 14 ls (pfl h 23 o 3 :: st) h else none := r_get rfl
theorem rX23_adds_14 : pR 222 d 14 [.ref o, a1, a2, a3, a4] st h = pR 222 d 15 [.ref o, a1, a2, a3, a4] (.ref o :: st) h := pR_L rfl rfl
theorem rX23_adds_15 : pR 222 d 15 ls (.ref o :: st) h = if pis (pfl h 23 o 9) = true then pR 222 d 18 ls (pfl h 23 o 9 :: st) h else none := r_get rfl
theorem rX23_adds_18 : pR 222 d 18 [a0, a1, a2, .int x, a4] st h = pR 222 d 19 [a0, a1, a2, .int x, a4] (.int x :: st) h := pR_L rfl rfl
theorem rX23_adds_19 : pR 222 d 19 ls (.int y :: .int x :: .ref o :: st) h = if pin x (pln h 0 o) = true then pR 222 d 20 ls st (pst h o x.toNatClampNeg y) else none := pR_Lif rfl rfl
theorem rX23_adds_20 : pR 222 d 20 [.ref o, a1, a2, a3, a4] st h = pR 222 d 21 [.ref o, a1, a2, a3, a4] (.ref o :: st) h := pR_L rfl rfl
theorem rX23_adds_21 : pR 222 d 21 ls (.ref o :: st) h = if pis (pfl h 23 o 4) = true then pR 222 d 24 ls (pfl h 23 o 4 :: st) h else none := r_get rfl
theorem rX23_adds_24 : pR 222 d 24 [.ref o, a1, a2, a3, a4] st h = pR 222 d 25 [.ref o, a1, a2, a3, a4] (.ref o :: st) h := pR_L rfl rfl
theorem rX23_adds_25 : pR 222 d 25 ls (.ref o :: st) h = if pis (pfl h 23 o 9) = true then pR 222 d 28 ls (pfl h 23 o 9 :: st) h else none := r_get rfl
theorem rX23_adds_28 : pR 222 d 28 [a0, .int x, a2, a3, a4] st h = pR 222 d 29 [a0, .int x, a2, a3, a4] (.int x :: st) h := pR_L rfl rfl
theorem rX23_adds_29 : pR 222 d 29 ls (.int y :: .int x :: .ref o :: st) h = if pin x (pln h 0 o) = true then pR 222 d 30 ls st (pst h o x.toNatClampNeg y) else none := pR_Lif rfl rfl
theorem rX23_adds_30 : pR 222 d 30 [.ref o, a1, a2, a3, a4] st h = pR 222 d 31 [.ref o, a1, a2, a3, a4] (.ref o :: st) h := pR_L rfl rfl
theorem rX23_adds_31 : pR 222 d 31 ls (.ref o :: st) h = if pis (pfl h 23 o 5) = true then pR 222 d 34 ls (pfl h 23 o 5 :: st) h else none := r_get rfl
theorem rX23_adds_34 : pR 222 d 34 [.ref o, a1, a2, a3, a4] st h = pR 222 d 35 [.ref o, a1, a2, a3, a4] (.ref o :: st) h := pR_L rfl rfl
theorem rX23_adds_35 : pR 222 d 35 ls (.ref o :: st) h = if pis (pfl h 23 o 9) = true then pR 222 d 38 ls (pfl h 23 o 9 :: st) h else none := r_get rfl
theorem rX23_adds_38 : pR 222 d 38 [a0, a1, a2, a3, .int x] st h = pR 222 d 40 [a0, a1, a2, a3, .int x] (.int x :: st) h := pR_L rfl rfl
theorem rX23_adds_40 : pR 222 d 40 ls (.int y :: .int x :: .ref o :: st) h = if pin x (pln h 0 o) = true then pR 222 d 41 ls st (pst h o x.toNatClampNeg y) else none := pR_Lif rfl rfl
theorem rX23_adds_41 : pR 222 d 41 [.ref o, a1, a2, a3, a4] st h = pR 222 d 42 [.ref o, a1, a2, a3, a4] (.ref o :: st) h := pR_L rfl rfl
theorem rX23_adds_42 : pR 222 d 42 ls (.ref o :: st) h = pR 222 d 43 ls (.ref o :: .ref o :: st) h := pR_L rfl rfl
theorem rX23_adds_42i : pR 222 d 42 ls (.int x :: st) h = pR 222 d 43 ls (.int x :: .int x :: st) h := pR_L rfl rfl
theorem rX23_adds_43 : pR 222 d 43 ls (.ref o :: st) h = if pis (pfl h 23 o 9) = true then pR 222 d 46 ls (pfl h 23 o 9 :: st) h else none := r_get rfl
theorem rX23_adds_46 : pR 222 d 46 ls st h = pR 222 d 47 ls (.int 1 :: st) h := pR_L rfl rfl
theorem rX23_adds_47 : pR 222 d 47 ls (.int y :: .int x :: st) h = pR 222 d 48 ls (.int (x + y) :: st) h := pR_L rfl rfl
theorem rX23_adds_48 : pR 222 d 48 ls (.int x :: .ref o :: st) h = if pis (pfl h 23 o 9) = true then pR 222 d 51 ls st (psf h o 9 (.int x)) else none := r_put rfl rfl
theorem rX23_adds_51 : pR 222 d 51 [.ref o, a1, a2, a3, a4] st h = pR 222 d 52 [.ref o, a1, a2, a3, a4] (.ref o :: st) h := pR_L rfl rfl
theorem rX23_adds_52 : pR 222 d 52 [.ref o, a1, a2, a3, a4] st h = pR 222 d 53 [.ref o, a1, a2, a3, a4] (.ref o :: st) h := pR_L rfl rfl
theorem rX23_adds_53 : pR 222 d 53 ls (.ref o :: st) h = if pis (pfl h 23 o 11) = true then pR 222 d 56 ls (pfl h 23 o 11 :: st) h else none := r_get rfl
theorem rX23_adds_56 : pR 222 d 56 [.ref o, a1, a2, a3, a4] st h = pR 222 d 57 [.ref o, a1, a2, a3, a4] (.ref o :: st) h := pR_L rfl rfl
theorem rX23_adds_57 : pR 222 (d + 1) 57 ls (.ref o :: st) h = if (pok 23 (pcl h o) && pw st) = true then pK 222 (d + 1) 57 3 ls st (pCa 223 d [.ref o] h) else none := r_callV rfl rfl rfl
theorem rX23_adds_60 : pR 222 (d + 1) 60 ls (.int y :: .int x :: st) h = if pw st = true then pR 222 (d + 1) 63 ls (.int (if x < y then y else x) :: st) h else none := r_mx rfl
theorem rX23_adds_63 : pR 222 d 63 ls (.int x :: .ref o :: st) h = if pis (pfl h 23 o 11) = true then pR 222 d 66 ls st (psf h o 11 (.int x)) else none := r_put rfl rfl
theorem rX23_adds_66 : pR 222 d 66 ls [] h = some (.inl none, h) := pR_E rfl rfl
-- 223 BalloonStall$Hand held ()I
theorem eX23_held : pCa 223 d [.ref o] h = pR 223 d 0 [.ref o, pU, pU] [] h := rfl
theorem rX23_held_0 : pR 223 d 0 ls st h = pR 223 d 1 ls (.int 0 :: st) h := pR_L rfl rfl
theorem rX23_held_1 : pR 223 d 1 [a0, a1, a2] (.int x :: st) h = if p1 a1 = true then pR 223 d 2 [a0, .int x, a2] st h else none := r_sto (n := 1) (k := 1) (v := .int x) (ls := [a0, a1, a2]) rfl rfl rfl
theorem rX23_held_2 : pR 223 d 2 ls st h = pR 223 d 3 ls (.int 0 :: st) h := pR_L rfl rfl
theorem rX23_held_3 : pR 223 d 3 [a0, a1, a2] (.int x :: st) h = if p1 a2 = true then pR 223 d 4 [a0, a1, .int x] st h else none := r_sto (n := 1) (k := 2) (v := .int x) (ls := [a0, a1, a2]) rfl rfl rfl
theorem rX23_held_4 : pR 223 d 4 [a0, a1, .int x] st h = pR 223 d 5 [a0, a1, .int x] (.int x :: st) h := pR_L rfl rfl
theorem rX23_held_5 : pR 223 d 5 ls st h = pR 223 d 6 ls (.int 1 :: st) h := pR_L rfl rfl
theorem rX23_held_6 : pR 223 d 6 ls (.int y :: .int x :: st) h = pR 223 d 7 ls (.int (x + y) :: st) h := pR_L rfl rfl
theorem rX23_held_7 : pR 223 d 7 [.ref o, a1, a2] st h = pR 223 d 8 [.ref o, a1, a2] (.ref o :: st) h := pR_L rfl rfl
theorem rX23_held_8 : pR 223 d 8 ls (.ref o :: st) h = if pis (pfl h 23 o 9) = true then pR 223 d 11 ls (pfl h 23 o 9 :: st) h else none := r_get rfl
theorem rX23_held_11 : pR 223 d 11 ls (.int y :: .int x :: st) h = if x < y then pR 223 d 14 ls st h else pR 223 d 63 ls st h := r_cge rfl rfl
theorem rX23_held_14 : pR 223 d 14 [a0, .int x, a2] st h = pR 223 d 15 [a0, .int x, a2] (.int x :: st) h := pR_L rfl rfl
theorem rX23_held_15 : pR 223 d 15 [.ref o, a1, a2] st h = pR 223 d 16 [.ref o, a1, a2] (.ref o :: st) h := pR_L rfl rfl
theorem rX23_held_16 : pR 223 d 16 ls (.ref o :: st) h = if pis (pfl h 23 o 5) = true then pR 223 d 19 ls (pfl h 23 o 5 :: st) h else none := r_get rfl
theorem rX23_held_19 : pR 223 d 19 [a0, a1, .int x] st h = pR 223 d 20 [a0, a1, .int x] (.int x :: st) h := pR_L rfl rfl
theorem rX23_held_20 : pR 223 d 20 ls (.int x :: .ref o :: st) h = if (pin x (pln h 0 o) || pin x (pln h 9 o)) = true then pR 223 d 21 ls (.int (pct h o x.toNatClampNeg) :: st) h else none := pR_Lif rfl rfl
theorem rX23_held_21 : pR 223 d 21 [.ref o, a1, a2] st h = pR 223 d 22 [.ref o, a1, a2] (.ref o :: st) h := pR_L rfl rfl
theorem rX23_held_22 : pR 223 d 22 ls (.ref o :: st) h = if pis (pfl h 23 o 5) = true then pR 223 d 25 ls (pfl h 23 o 5 :: st) h else none := r_get rfl
theorem rX23_held_25 : pR 223 d 25 [a0, a1, .int x] st h = pR 223 d 26 [a0, a1, .int x] (.int x :: st) h := pR_L rfl rfl
theorem rX23_held_26 : pR 223 d 26 ls st h = pR 223 d 27 ls (.int 1 :: st) h := pR_L rfl rfl
theorem rX23_held_27 : pR 223 d 27 ls (.int y :: .int x :: st) h = pR 223 d 28 ls (.int (x + y) :: st) h := pR_L rfl rfl
theorem rX23_held_28 : pR 223 d 28 ls (.int x :: .ref o :: st) h = if (pin x (pln h 0 o) || pin x (pln h 9 o)) = true then pR 223 d 29 ls (.int (pct h o x.toNatClampNeg) :: st) h else none := pR_Lif rfl rfl
theorem rX23_held_29 : pR 223 d 29 ls (.int y :: .int x :: st) h = if x = y then pR 223 d 32 ls st h else pR 223 d 54 ls st h := r_cne rfl rfl
theorem rX23_held_32 : pR 223 d 32 [.ref o, a1, a2] st h = pR 223 d 33 [.ref o, a1, a2] (.ref o :: st) h := pR_L rfl rfl
theorem rX23_held_33 : pR 223 d 33 [.ref o, a1, a2] st h = pR 223 d 34 [.ref o, a1, a2] (.ref o :: st) h := pR_L rfl rfl
theorem rX23_held_34 : pR 223 d 34 [.ref o, a1, a2] st h = pR 223 d 35 [.ref o, a1, a2] (.ref o :: st) h := pR_L rfl rfl
theorem rX23_held_35 : pR 223 d 35 ls (.ref o :: st) h = if pis (pfl h 23 o 3) = true then pR 223 d 38 ls (pfl h 23 o 3 :: st) h else none := r_get rfl
theorem rX23_held_38 : pR 223 d 38 [a0, a1, .int x] st h = pR 223 d 39 [a0, a1, .int x] (.int x :: st) h := pR_L rfl rfl
theorem rX23_held_39 : pR 223 d 39 ls (.int x :: .ref o :: st) h = if (pin x (pln h 0 o) || pin x (pln h 9 o)) = true then pR 223 d 40 ls (.int (pct h o x.toNatClampNeg) :: st) h else none := pR_Lif rfl rfl
theorem rX23_held_40 : pR 223 (d + 1) 40 ls (b1 :: .ref o :: st) h = if (pok 23 (pcl h o) && pw st) = true then pK 223 (d + 1) 40 3 ls st (pCa 224 d [.ref o, b1] h) else none := r_callV rfl rfl rfl
theorem rX23_held_43 : pR 223 (d + 1) 43 ls (b1 :: .ref o :: st) h = if (pok 23 (pcl h o) && pw st) = true then pK 223 (d + 1) 43 3 ls st (pCa 225 d [.ref o, b1] h) else none := r_callV rfl rfl rfl
theorem rX23_held_46 : pR 223 d 46 ls st h = pR 223 d 47 ls (.int 3 :: st) h := pR_L rfl rfl
theorem rX23_held_47 : pR 223 d 47 ls (.int y :: .int x :: st) h = if x < y then pR 223 d 50 ls st h else pR 223 d 54 ls st h := r_cge rfl rfl
theorem rX23_held_50 : pR 223 d 50 ls st h = pR 223 d 51 ls (.int 1 :: st) h := pR_L rfl rfl
theorem rX23_held_51 : pR 223 d 51 ls st h = pR 223 d 55 ls st h := pR_L rfl rfl
theorem rX23_held_54 : pR 223 d 54 ls st h = pR 223 d 55 ls (.int 0 :: st) h := pR_L rfl rfl
theorem rX23_held_55 : pR 223 d 55 ls (.int y :: .int x :: st) h = pR 223 d 56 ls (.int (x + y) :: st) h := pR_L rfl rfl
theorem rX23_held_56 : pR 223 d 56 [a0, a1, a2] (.int x :: st) h = if p1 a1 = true then pR 223 d 57 [a0, .int x, a2] st h else none := r_sto (n := 1) (k := 1) (v := .int x) (ls := [a0, a1, a2]) rfl rfl rfl
theorem rX23_held_57 : pR 223 d 57 [a0, a1, .int x] st h = pR 223 d 60 [a0, a1, .int (x + 1)] st h := pR_L rfl rfl
theorem rX23_held_60 : pR 223 d 60 ls st h = pR 223 d 4 ls st h := pR_L rfl rfl
theorem rX23_held_63 : pR 223 d 63 [a0, .int x, a2] st h = pR 223 d 64 [a0, .int x, a2] (.int x :: st) h := pR_L rfl rfl
theorem rX23_held_64 : pR 223 d 64 ls [.int x] h = some (.inl (some (.int x)), h) := pR_E rfl rfl
-- 224 BalloonStall$Hand root (I)I
theorem eX23_root : pCa 224 d [.ref o, .int x0] h = pR 224 d 0 [.ref o, .int x0, pU] [] h := rfl
theorem rX23_root_0 : pR 224 d 0 [a0, .int x, a2] st h = pR 224 d 1 [a0, .int x, a2] (.int x :: st) h := pR_L rfl rfl
theorem rX23_root_1 : pR 224 d 1 [a0, a1, a2] (.int x :: st) h = if p1 a2 = true then pR 224 d 2 [a0, a1, .int x] st h else none := r_sto (n := 1) (k := 2) (v := .int x) (ls := [a0, a1, a2]) rfl rfl rfl
theorem rX23_root_2 : pR 224 d 2 [.ref o, a1, a2] st h = pR 224 d 3 [.ref o, a1, a2] (.ref o :: st) h := pR_L rfl rfl
theorem rX23_root_3 : pR 224 d 3 ls (.ref o :: st) h = if pis (pfl h 23 o 0) = true then pR 224 d 6 ls (pfl h 23 o 0 :: st) h else none := r_get rfl
theorem rX23_root_6 : pR 224 d 6 [a0, a1, .int x] st h = pR 224 d 7 [a0, a1, .int x] (.int x :: st) h := pR_L rfl rfl
theorem rX23_root_7 : pR 224 d 7 ls (.int x :: .ref o :: st) h = if (pin x (pln h 0 o) || pin x (pln h 9 o)) = true then pR 224 d 8 ls (.int (pct h o x.toNatClampNeg) :: st) h else none := pR_Lif rfl rfl
theorem rX23_root_8 : pR 224 d 8 [a0, a1, .int x] st h = pR 224 d 9 [a0, a1, .int x] (.int x :: st) h := pR_L rfl rfl
theorem rX23_root_9 : pR 224 d 9 ls (.int y :: .int x :: st) h = if x = y then pR 224 d 22 ls st h else pR 224 d 12 ls st h := r_ceq rfl rfl
theorem rX23_root_12 : pR 224 d 12 [.ref o, a1, a2] st h = pR 224 d 13 [.ref o, a1, a2] (.ref o :: st) h := pR_L rfl rfl
theorem rX23_root_13 : pR 224 d 13 ls (.ref o :: st) h = if pis (pfl h 23 o 0) = true then pR 224 d 16 ls (pfl h 23 o 0 :: st) h else none := r_get rfl
theorem rX23_root_16 : pR 224 d 16 [a0, a1, .int x] st h = pR 224 d 17 [a0, a1, .int x] (.int x :: st) h := pR_L rfl rfl
theorem rX23_root_17 : pR 224 d 17 ls (.int x :: .ref o :: st) h = if (pin x (pln h 0 o) || pin x (pln h 9 o)) = true then pR 224 d 18 ls (.int (pct h o x.toNatClampNeg) :: st) h else none := pR_Lif rfl rfl
theorem rX23_root_18 : pR 224 d 18 [a0, a1, a2] (.int x :: st) h = if p1 a2 = true then pR 224 d 19 [a0, a1, .int x] st h else none := r_sto (n := 1) (k := 2) (v := .int x) (ls := [a0, a1, a2]) rfl rfl rfl
theorem rX23_root_19 : pR 224 d 19 ls st h = pR 224 d 2 ls st h := pR_L rfl rfl
theorem rX23_root_22 : pR 224 d 22 [a0, a1, .int x] st h = pR 224 d 23 [a0, a1, .int x] (.int x :: st) h := pR_L rfl rfl
theorem rX23_root_23 : pR 224 d 23 ls [.int x] h = some (.inl (some (.int x)), h) := pR_E rfl rfl
-- 225 BalloonStall$Hand ends (I)I
theorem eX23_ends : pCa 225 d [.ref o, .int x0] h = pR 225 d 0 [.ref o, .int x0, pU, pU] [] h := rfl
theorem rX23_ends_0 : pR 225 d 0 ls st h = pR 225 d 1 ls (.int 0 :: st) h := pR_L rfl rfl
theorem rX23_ends_1 : pR 225 d 1 [a0, a1, a2, a3] (.int x :: st) h = if p1 a2 = true then pR 225 d 2 [a0, a1, .int x, a3] st h else none := r_sto (n := 1) (k := 2) (v := .int x) (ls := [a0, a1, a2, a3]) rfl rfl rfl
theorem rX23_ends_2 : pR 225 d 2 ls st h = pR 225 d 3 ls (.int 0 :: st) h := pR_L rfl rfl
theorem rX23_ends_3 : pR 225 d 3 [a0, a1, a2, a3] (.int x :: st) h = if p1 a3 = true then pR 225 d 4 [a0, a1, a2, .int x] st h else none := r_sto (n := 1) (k := 3) (v := .int x) (ls := [a0, a1, a2, a3]) rfl rfl rfl
theorem rX23_ends_4 : pR 225 d 4 [a0, a1, a2, .int x] st h = pR 225 d 5 [a0, a1, a2, .int x] (.int x :: st) h := pR_L rfl rfl
theorem rX23_ends_5 : pR 225 d 5 [.ref o, a1, a2, a3] st h = pR 225 d 6 [.ref o, a1, a2, a3] (.ref o :: st) h := pR_L rfl rfl
theorem rX23_ends_6 : pR 225 d 6 ls (.ref o :: st) h = if pis (pfl h 23 o 9) = true then pR 225 d 9 ls (pfl h 23 o 9 :: st) h else none := r_get rfl
theorem rX23_ends_9 : pR 225 d 9 ls (.int y :: .int x :: st) h = if x < y then pR 225 d 12 ls st h else pR 225 d 60 ls st h := r_cge rfl rfl
theorem rX23_ends_12 : pR 225 d 12 [a0, a1, .int x, a3] st h = pR 225 d 13 [a0, a1, .int x, a3] (.int x :: st) h := pR_L rfl rfl
theorem rX23_ends_13 : pR 225 d 13 [.ref o, a1, a2, a3] st h = pR 225 d 14 [.ref o, a1, a2, a3] (.ref o :: st) h := pR_L rfl rfl
theorem rX23_ends_14 : pR 225 d 14 [.ref o, a1, a2, a3] st h = pR 225 d 15 [.ref o, a1, a2, a3] (.ref o :: st) h := pR_L rfl rfl
theorem rX23_ends_15 : pR 225 d 15 ls (.ref o :: st) h = if pis (pfl h 23 o 2) = true then pR 225 d 18 ls (pfl h 23 o 2 :: st) h else none := r_get rfl
theorem rX23_ends_18 : pR 225 d 18 [a0, a1, a2, .int x] st h = pR 225 d 19 [a0, a1, a2, .int x] (.int x :: st) h := pR_L rfl rfl
theorem rX23_ends_19 : pR 225 d 19 ls (.int x :: .ref o :: st) h = if (pin x (pln h 0 o) || pin x (pln h 9 o)) = true then pR 225 d 20 ls (.int (pct h o x.toNatClampNeg) :: st) h else none := pR_Lif rfl rfl
theorem rX23_ends_20 : pR 225 (d + 1) 20 ls (b1 :: .ref o :: st) h = if (pok 23 (pcl h o) && pw st) = true then pK 225 (d + 1) 20 3 ls st (pCa 224 d [.ref o, b1] h) else none := r_callV rfl rfl rfl
theorem rX23_ends_23 : pR 225 d 23 [a0, .int x, a2, a3] st h = pR 225 d 24 [a0, .int x, a2, a3] (.int x :: st) h := pR_L rfl rfl
theorem rX23_ends_24 : pR 225 d 24 ls (.int y :: .int x :: st) h = if x = y then pR 225 d 27 ls st h else pR 225 d 31 ls st h := r_cne rfl rfl
theorem rX23_ends_27 : pR 225 d 27 ls st h = pR 225 d 28 ls (.int 1 :: st) h := pR_L rfl rfl
theorem rX23_ends_28 : pR 225 d 28 ls st h = pR 225 d 32 ls st h := pR_L rfl rfl
theorem rX23_ends_31 : pR 225 d 31 ls st h = pR 225 d 32 ls (.int 0 :: st) h := pR_L rfl rfl
theorem rX23_ends_32 : pR 225 d 32 [.ref o, a1, a2, a3] st h = pR 225 d 33 [.ref o, a1, a2, a3] (.ref o :: st) h := pR_L rfl rfl
theorem rX23_ends_33 : pR 225 d 33 [.ref o, a1, a2, a3] st h = pR 225 d 34 [.ref o, a1, a2, a3] (.ref o :: st) h := pR_L rfl rfl
theorem rX23_ends_34 : pR 225 d 34 ls (.ref o :: st) h = if pis (pfl h 23 o 3) = true then pR 225 d 37 ls (pfl h 23 o 3 :: st) h else none := r_get rfl
theorem rX23_ends_37 : pR 225 d 37 [a0, a1, a2, .int x] st h = pR 225 d 38 [a0, a1, a2, .int x] (.int x :: st) h := pR_L rfl rfl
theorem rX23_ends_38 : pR 225 d 38 ls (.int x :: .ref o :: st) h = if (pin x (pln h 0 o) || pin x (pln h 9 o)) = true then pR 225 d 39 ls (.int (pct h o x.toNatClampNeg) :: st) h else none := pR_Lif rfl rfl
theorem rX23_ends_39 : pR 225 (d + 1) 39 ls (b1 :: .ref o :: st) h = if (pok 23 (pcl h o) && pw st) = true then pK 225 (d + 1) 39 3 ls st (pCa 224 d [.ref o, b1] h) else none := r_callV rfl rfl rfl
theorem rX23_ends_42 : pR 225 d 42 [a0, .int x, a2, a3] st h = pR 225 d 43 [a0, .int x, a2, a3] (.int x :: st) h := pR_L rfl rfl
theorem rX23_ends_43 : pR 225 d 43 ls (.int y :: .int x :: st) h = if x = y then pR 225 d 46 ls st h else pR 225 d 50 ls st h := r_cne rfl rfl
theorem rX23_ends_46 : pR 225 d 46 ls st h = pR 225 d 47 ls (.int 1 :: st) h := pR_L rfl rfl
theorem rX23_ends_47 : pR 225 d 47 ls st h = pR 225 d 51 ls st h := pR_L rfl rfl
theorem rX23_ends_50 : pR 225 d 50 ls st h = pR 225 d 51 ls (.int 0 :: st) h := pR_L rfl rfl
theorem rX23_ends_51 : pR 225 d 51 ls (.int y :: .int x :: st) h = pR 225 d 52 ls (.int (x + y) :: st) h := pR_L rfl rfl
theorem rX23_ends_52 : pR 225 d 52 ls (.int y :: .int x :: st) h = pR 225 d 53 ls (.int (x + y) :: st) h := pR_L rfl rfl
theorem rX23_ends_53 : pR 225 d 53 [a0, a1, a2, a3] (.int x :: st) h = if p1 a2 = true then pR 225 d 54 [a0, a1, .int x, a3] st h else none := r_sto (n := 1) (k := 2) (v := .int x) (ls := [a0, a1, a2, a3]) rfl rfl rfl
theorem rX23_ends_54 : pR 225 d 54 [a0, a1, a2, .int x] st h = pR 225 d 57 [a0, a1, a2, .int (x + 1)] st h := pR_L rfl rfl
theorem rX23_ends_57 : pR 225 d 57 ls st h = pR 225 d 4 ls st h := pR_L rfl rfl
theorem rX23_ends_60 : pR 225 d 60 [a0, a1, .int x, a3] st h = pR 225 d 61 [a0, a1, .int x, a3] (.int x :: st) h := pR_L rfl rfl
theorem rX23_ends_61 : pR 225 d 61 ls [.int x] h = some (.inl (some (.int x)), h) := pR_E rfl rfl
-- 226 BalloonStall$Hand begins (I)V
theorem eX23_begins : pCa 226 d [.ref o, .int x0] h = pR 226 d 0 [.ref o, .int x0] [] h := rfl
theorem rX23_begins_0 : pR 226 d 0 [.ref o, a1] st h = pR 226 d 1 [.ref o, a1] (.ref o :: st) h := pR_L rfl rfl
theorem rX23_begins_1 : pR 226 d 1 [.ref o, a1] st h = pR 226 d 2 [.ref o, a1] (.ref o :: st) h := pR_L rfl rfl
theorem rX23_begins_2 : pR 226 (d + 1) 2 ls (.ref o :: st) h = if (pok 23 (pcl h o) && pw st) = true then pK 226 (d + 1) 2 3 ls st (pCa 221 d [.ref o] h) else none := r_callV rfl rfl rfl
theorem rX23_begins_5 : pR 226 d 5 ls (.int x :: .ref o :: st) h = if pis (pfl h 23 o 7) = true then pR 226 d 8 ls st (psf h o 7 (.int x)) else none := r_put rfl rfl
theorem rX23_begins_8 : pR 226 d 8 [.ref o, a1] st h = pR 226 d 9 [.ref o, a1] (.ref o :: st) h := pR_L rfl rfl
theorem rX23_begins_9 : pR 226 d 9 ls (.ref o :: st) h = if pis (pfl h 23 o 6) = true then pR 226 d 12 ls (pfl h 23 o 6 :: st) h else none := r_get rfl
theorem rX23_begins_12 : pR 226 d 12 [.ref o, a1] st h = pR 226 d 13 [.ref o, a1] (.ref o :: st) h := pR_L rfl rfl
theorem rX23_begins_13 : pR 226 d 13 ls (.ref o :: st) h = if pis (pfl h 23 o 10) = true then pR 226 d 16 ls (pfl h 23 o 10 :: st) h else none := r_get rfl
theorem rX23_begins_16 : pR 226 d 16 [a0, .int x] st h = pR 226 d 17 [a0, .int x] (.int x :: st) h := pR_L rfl rfl
theorem rX23_begins_17 : pR 226 d 17 ls (.int y :: .int x :: .ref o :: st) h = if pin x (pln h 0 o) = true then pR 226 d 18 ls st (pst h o x.toNatClampNeg y) else none := pR_Lif rfl rfl
theorem rX23_begins_18 : pR 226 d 18 [.ref o, a1] st h = pR 226 d 19 [.ref o, a1] (.ref o :: st) h := pR_L rfl rfl
theorem rX23_begins_19 : pR 226 d 19 ls (.ref o :: st) h = pR 226 d 20 ls (.ref o :: .ref o :: st) h := pR_L rfl rfl
theorem rX23_begins_19i : pR 226 d 19 ls (.int x :: st) h = pR 226 d 20 ls (.int x :: .int x :: st) h := pR_L rfl rfl
theorem rX23_begins_20 : pR 226 d 20 ls (.ref o :: st) h = if pis (pfl h 23 o 10) = true then pR 226 d 23 ls (pfl h 23 o 10 :: st) h else none := r_get rfl
theorem rX23_begins_23 : pR 226 d 23 ls st h = pR 226 d 24 ls (.int 1 :: st) h := pR_L rfl rfl
theorem rX23_begins_24 : pR 226 d 24 ls (.int y :: .int x :: st) h = pR 226 d 25 ls (.int (x + y) :: st) h := pR_L rfl rfl
theorem rX23_begins_25 : pR 226 d 25 ls (.int x :: .ref o :: st) h = if pis (pfl h 23 o 10) = true then pR 226 d 28 ls st (psf h o 10 (.int x)) else none := r_put rfl rfl
theorem rX23_begins_28 : pR 226 d 28 ls [] h = some (.inl none, h) := pR_E rfl rfl
-- 227 BalloonStall$Hand joins (II)V
theorem eX23_joins : pCa 227 d [.ref o, .int x0, .int x1] h = pR 227 d 0 [.ref o, .int x0, .int x1, pU, pU] [] h := rfl
theorem rX23_joins_0 : pR 227 d 0 [.ref o, a1, a2, a3, a4] st h = pR 227 d 1 [.ref o, a1, a2, a3, a4] (.ref o :: st) h := pR_L rfl rfl
theorem rX23_joins_1 : pR 227 d 1 [a0, .int x, a2, a3, a4] st h = pR 227 d 2 [a0, .int x, a2, a3, a4] (.int x :: st) h := pR_L rfl rfl
theorem rX23_joins_2 : pR 227 (d + 1) 2 ls (b1 :: .ref o :: st) h = if (pok 23 (pcl h o) && pw st) = true then pK 227 (d + 1) 2 3 ls st (pCa 224 d [.ref o, b1] h) else none := r_callV rfl rfl rfl
theorem rX23_joins_5 : pR 227 d 5 [a0, a1, a2, a3, a4] (.int x :: st) h = if p1 a3 = true then pR 227 d 6 [a0, a1, a2, .int x, a4] st h else none := r_sto (n := 1) (k := 3) (v := .int x) (ls := [a0, a1, a2, a3, a4]) rfl rfl rfl
theorem rX23_joins_6 : pR 227 d 6 [.ref o, a1, a2, a3, a4] st h = pR 227 d 7 [.ref o, a1, a2, a3, a4] (.ref o :: st) h := pR_L rfl rfl
theorem rX23_joins_7 : pR 227 d 7 [a0, a1, .int x, a3, a4] st h = pR 227 d 8 [a0, a1, .int x, a3, a4] (.int x :: st) h := pR_L rfl rfl
theorem rX23_joins_8 : pR 227 (d + 1) 8 ls (b1 :: .ref o :: st) h = if (pok 23 (pcl h o) && pw st) = true then pK 227 (d + 1) 8 3 ls st (pCa 224 d [.ref o, b1] h) else none := r_callV rfl rfl rfl
theorem rX23_joins_11 : pR 227 d 11 [a0, a1, a2, a3, a4] (.int x :: st) h = if p1 a4 = true then pR 227 d 13 [a0, a1, a2, a3, .int x] st h else none := r_sto (n := 2) (k := 4) (v := .int x) (ls := [a0, a1, a2, a3, a4]) rfl rfl rfl
theorem rX23_joins_13 : pR 227 d 13 [.ref o, a1, a2, a3, a4] st h = pR 227 d 14 [.ref o, a1, a2, a3, a4] (.ref o :: st) h := pR_L rfl rfl
theorem rX23_joins_14 : pR 227 d 14 ls (.ref o :: st) h = if pis (pfl h 23 o 0) = true then pR 227 d 17 ls (pfl h 23 o 0 :: st) h else none := r_get rfl
theorem rX23_joins_17 : pR 227 d 17 [a0, a1, a2, .int x, a4] st h = pR 227 d 18 [a0, a1, a2, .int x, a4] (.int x :: st) h := pR_L rfl rfl
theorem rX23_joins_18 : pR 227 d 18 [a0, a1, a2, a3, .int x] st h = pR 227 d 20 [a0, a1, a2, a3, .int x] (.int x :: st) h := pR_L rfl rfl
theorem rX23_joins_20 : pR 227 (d + 1) 20 ls (.int y :: .int x :: st) h = if pw st = true then pR 227 (d + 1) 23 ls (.int (if x < y then y else x) :: st) h else none := r_mx rfl
theorem rX23_joins_23 : pR 227 d 23 [a0, a1, a2, .int x, a4] st h = pR 227 d 24 [a0, a1, a2, .int x, a4] (.int x :: st) h := pR_L rfl rfl
theorem rX23_joins_24 : pR 227 d 24 [a0, a1, a2, a3, .int x] st h = pR 227 d 26 [a0, a1, a2, a3, .int x] (.int x :: st) h := pR_L rfl rfl
theorem rX23_joins_26 : pR 227 (d + 1) 26 ls (.int y :: .int x :: st) h = if pw st = true then pR 227 (d + 1) 29 ls (.int (if y < x then y else x) :: st) h else none := r_mn rfl
theorem rX23_joins_29 : pR 227 d 29 ls (.int y :: .int x :: .ref o :: st) h = if pin x (pln h 0 o) = true then pR 227 d 30 ls st (pst h o x.toNatClampNeg y) else none := pR_Lif rfl rfl
theorem rX23_joins_30 : pR 227 d 30 ls [] h = some (.inl none, h) := pR_E rfl rfl
-- 228 BalloonStall$Hand takes (LBalloonStall$Figure;I)V
theorem eX23_takes : pCa 228 d [.ref o, .ref r0, .int x1] h = pR 228 d 0 [.ref o, .ref r0, .int x1, pU, pU] [] h := rfl
theorem rX23_takes_0 : pR 228 d 0 [.ref o, a1, a2, a3, a4] st h = pR 228 d 1 [.ref o, a1, a2, a3, a4] (.ref o :: st) h := pR_L rfl rfl
theorem rX23_takes_1 : pR 228 d 1 ls (.ref o :: st) h = if pis (pfl h 23 o 10) = true then pR 228 d 4 ls (pfl h 23 o 10 :: st) h else none := r_get rfl
theorem rX23_takes_4 : pR 228 d 4 [a0, a1, a2, a3, a4] (.int x :: st) h = if p1 a3 = true then pR 228 d 5 [a0, a1, a2, .int x, a4] st h else none := r_sto (n := 1) (k := 3) (v := .int x) (ls := [a0, a1, a2, a3, a4]) rfl rfl rfl
theorem rX23_takes_5 : pR 228 d 5 [a0, .ref o, a2, a3, a4] st h = pR 228 d 6 [a0, .ref o, a2, a3, a4] (.ref o :: st) h := pR_L rfl rfl
theorem rX23_takes_5n : pR 228 d 5 [a0, .null, a2, a3, a4] st h = pR 228 d 6 [a0, .null, a2, a3, a4] (.null :: st) h := pR_L rfl rfl
theorem rX23_takes_6 : pR 228 d 6 ls (.ref o :: st) h = if pis (pfl h 24 o 4) = true then pR 228 d 9 ls (pfl h 24 o 4 :: st) h else none := r_get rfl
theorem rX23_takes_9 : pR 228 d 9 ls st h = pR 228 d 10 ls (.int 0 :: st) h := pR_L rfl rfl
theorem rX23_takes_10 : pR 228 d 10 [.ref o, a1, a2, a3, a4] st h = pR 228 d 11 [.ref o, a1, a2, a3, a4] (.ref o :: st) h := pR_L rfl rfl
theorem rX23_takes_11 : pR 228 d 11 ls (.ref o :: st) h = if pis (pfl h 23 o 6) = true then pR 228 d 14 ls (pfl h 23 o 6 :: st) h else none := r_get rfl
theorem rX23_takes_14 : pR 228 d 14 [a0, a1, a2, .int x, a4] st h = pR 228 d 15 [a0, a1, a2, .int x, a4] (.int x :: st) h := pR_L rfl rfl
theorem rX23_takes_15 : pR 228 d 15 [a0, .ref o, a2, a3, a4] st h = pR 228 d 16 [a0, .ref o, a2, a3, a4] (.ref o :: st) h := pR_L rfl rfl
theorem rX23_takes_15n : pR 228 d 15 [a0, .null, a2, a3, a4] st h = pR 228 d 16 [a0, .null, a2, a3, a4] (.null :: st) h := pR_L rfl rfl
theorem rX23_takes_16 : pR 228 d 16 ls (.ref o :: st) h = if pis (pfl h 24 o 7) = true then pR 228 d 19 ls (pfl h 24 o 7 :: st) h else none := r_get rfl
theorem rX23_takes_19 : pR 228 (d + 1) 19 ls (.int x3 :: .int y :: .ref o2 :: .int x :: .ref o :: st) h = if (decide (0 < pln h 0 o) && decide (0 < pln h 0 o2) && decide (0 ≤ x) && decide (0 ≤ y) && decide (0 ≤ x3) && decide (x.toNatClampNeg + x3.toNatClampNeg ≤ pln h 0 o) && decide (y.toNatClampNeg + x3.toNatClampNeg ≤ pln h 0 o2) && !(o == o2) && pw st) = true then pR 228 (d + 1) 22 ls st (pcp h o x.toNatClampNeg o2 y.toNatClampNeg x3.toNatClampNeg) else none := r_cpy rfl
theorem rX23_takes_22 : pR 228 d 22 [.ref o, a1, a2, a3, a4] st h = pR 228 d 23 [.ref o, a1, a2, a3, a4] (.ref o :: st) h := pR_L rfl rfl
theorem rX23_takes_23 : pR 228 d 23 ls (.ref o :: st) h = pR 228 d 24 ls (.ref o :: .ref o :: st) h := pR_L rfl rfl
theorem rX23_takes_23i : pR 228 d 23 ls (.int x :: st) h = pR 228 d 24 ls (.int x :: .int x :: st) h := pR_L rfl rfl
theorem rX23_takes_24 : pR 228 d 24 ls (.ref o :: st) h = if pis (pfl h 23 o 10) = true then pR 228 d 27 ls (pfl h 23 o 10 :: st) h else none := r_get rfl
theorem rX23_takes_27 : pR 228 d 27 [a0, .ref o, a2, a3, a4] st h = pR 228 d 28 [a0, .ref o, a2, a3, a4] (.ref o :: st) h := pR_L rfl rfl
theorem rX23_takes_27n : pR 228 d 27 [a0, .null, a2, a3, a4] st h = pR 228 d 28 [a0, .null, a2, a3, a4] (.null :: st) h := pR_L rfl rfl
theorem rX23_takes_28 : pR 228 d 28 ls (.ref o :: st) h = if pis (pfl h 24 o 7) = true then pR 228 d 31 ls (pfl h 24 o 7 :: st) h else none := r_get rfl
theorem rX23_takes_31 : pR 228 d 31 ls (.int y :: .int x :: st) h = pR 228 d 32 ls (.int (x + y) :: st) h := pR_L rfl rfl
theorem rX23_takes_32 : pR 228 d 32 ls (.int x :: .ref o :: st) h = if pis (pfl h 23 o 10) = true then pR 228 d 35 ls st (psf h o 10 (.int x)) else none := r_put rfl rfl
theorem rX23_takes_35 : pR 228 d 35 ls st h = pR 228 d 36 ls (.int 0 :: st) h := pR_L rfl rfl
theorem rX23_takes_36 : pR 228 d 36 [a0, a1, a2, a3, a4] (.int x :: st) h = if p1 a4 = true then pR 228 d 38 [a0, a1, a2, a3, .int x] st h else none := r_sto (n := 2) (k := 4) (v := .int x) (ls := [a0, a1, a2, a3, a4]) rfl rfl rfl
theorem rX23_takes_38 : pR 228 d 38 [a0, a1, a2, a3, .int x] st h = pR 228 d 40 [a0, a1, a2, a3, .int x] (.int x :: st) h := pR_L rfl rfl
theorem rX23_takes_40 : pR 228 d 40 [a0, .ref o, a2, a3, a4] st h = pR 228 d 41 [a0, .ref o, a2, a3, a4] (.ref o :: st) h := pR_L rfl rfl
theorem rX23_takes_40n : pR 228 d 40 [a0, .null, a2, a3, a4] st h = pR 228 d 41 [a0, .null, a2, a3, a4] (.null :: st) h := pR_L rfl rfl
theorem rX23_takes_41 : pR 228 d 41 ls (.ref o :: st) h = if pis (pfl h 24 o 6) = true then pR 228 d 44 ls (pfl h 24 o 6 :: st) h else none := r_get rfl
theorem rX23_takes_44 : pR 228 d 44 ls (.int y :: .int x :: st) h = if x < y then pR 228 d 47 ls st h else pR 228 d 91 ls st h := r_cge rfl rfl
theorem rX23_takes_47 : pR 228 d 47 [.ref o, a1, a2, a3, a4] st h = pR 228 d 48 [.ref o, a1, a2, a3, a4] (.ref o :: st) h := pR_L rfl rfl
theorem rX23_takes_48 : pR 228 d 48 [a0, .ref o, a2, a3, a4] st h = pR 228 d 49 [a0, .ref o, a2, a3, a4] (.ref o :: st) h := pR_L rfl rfl
theorem rX23_takes_48n : pR 228 d 48 [a0, .null, a2, a3, a4] st h = pR 228 d 49 [a0, .null, a2, a3, a4] (.null :: st) h := pR_L rfl rfl
theorem rX23_takes_49 : pR 228 d 49 ls (.ref o :: st) h = if pis (pfl h 24 o 2) = true then pR 228 d 52 ls (pfl h 24 o 2 :: st) h else none := r_get rfl
theorem rX23_takes_52 : pR 228 d 52 [a0, a1, a2, a3, .int x] st h = pR 228 d 54 [a0, a1, a2, a3, .int x] (.int x :: st) h := pR_L rfl rfl
theorem rX23_takes_54 : pR 228 d 54 ls (.int x :: .ref o :: st) h = if (pin x (pln h 0 o) || pin x (pln h 9 o)) = true then pR 228 d 55 ls (.int (pct h o x.toNatClampNeg) :: st) h else none := pR_Lif rfl rfl
theorem rX23_takes_55 : pR 228 d 55 [a0, a1, .int x, a3, a4] st h = pR 228 d 56 [a0, a1, .int x, a3, a4] (.int x :: st) h := pR_L rfl rfl
theorem rX23_takes_56 : pR 228 d 56 [a0, .ref o, a2, a3, a4] st h = pR 228 d 57 [a0, .ref o, a2, a3, a4] (.ref o :: st) h := pR_L rfl rfl
theorem rX23_takes_56n : pR 228 d 56 [a0, .null, a2, a3, a4] st h = pR 228 d 57 [a0, .null, a2, a3, a4] (.null :: st) h := pR_L rfl rfl
theorem rX23_takes_57 : pR 228 d 57 ls (.ref o :: st) h = if pis (pfl h 24 o 0) = true then pR 228 d 60 ls (pfl h 24 o 0 :: st) h else none := r_get rfl
theorem rX23_takes_60 : pR 228 d 60 [a0, a1, a2, a3, .int x] st h = pR 228 d 62 [a0, a1, a2, a3, .int x] (.int x :: st) h := pR_L rfl rfl
theorem rX23_takes_62 : pR 228 d 62 ls (.int x :: .ref o :: st) h = if (pin x (pln h 0 o) || pin x (pln h 9 o)) = true then pR 228 d 63 ls (.int (pct h o x.toNatClampNeg) :: st) h else none := pR_Lif rfl rfl
theorem rX23_takes_63 : pR 228 d 63 ls (.int y :: .int x :: st) h = pR 228 d 64 ls (.int (x + y) :: st) h := pR_L rfl rfl
theorem rX23_takes_64 : pR 228 d 64 [a0, a1, .int x, a3, a4] st h = pR 228 d 65 [a0, a1, .int x, a3, a4] (.int x :: st) h := pR_L rfl rfl
theorem rX23_takes_65 : pR 228 d 65 [a0, .ref o, a2, a3, a4] st h = pR 228 d 66 [a0, .ref o, a2, a3, a4] (.ref o :: st) h := pR_L rfl rfl
theorem rX23_takes_65n : pR 228 d 65 [a0, .null, a2, a3, a4] st h = pR 228 d 66 [a0, .null, a2, a3, a4] (.null :: st) h := pR_L rfl rfl
theorem rX23_takes_66 : pR 228 d 66 ls (.ref o :: st) h = if pis (pfl h 24 o 1) = true then pR 228 d 69 ls (pfl h 24 o 1 :: st) h else none := r_get rfl
theorem rX23_takes_69 : pR 228 d 69 [a0, a1, a2, a3, .int x] st h = pR 228 d 71 [a0, a1, a2, a3, .int x] (.int x :: st) h := pR_L rfl rfl
theorem rX23_takes_71 : pR 228 d 71 ls (.int x :: .ref o :: st) h = if (pin x (pln h 0 o) || pin x (pln h 9 o)) = true then pR 228 d 72 ls (.int (pct h o x.toNatClampNeg) :: st) h else none := pR_Lif rfl rfl
theorem rX23_takes_72 : pR 228 d 72 ls (.int y :: .int x :: st) h = pR 228 d 73 ls (.int (x + y) :: st) h := pR_L rfl rfl
theorem rX23_takes_73 : pR 228 d 73 [a0, a1, a2, .int x, a4] st h = pR 228 d 74 [a0, a1, a2, .int x, a4] (.int x :: st) h := pR_L rfl rfl
theorem rX23_takes_74 : pR 228 d 74 [a0, .ref o, a2, a3, a4] st h = pR 228 d 75 [a0, .ref o, a2, a3, a4] (.ref o :: st) h := pR_L rfl rfl
theorem rX23_takes_74n : pR 228 d 74 [a0, .null, a2, a3, a4] st h = pR 228 d 75 [a0, .null, a2, a3, a4] (.null :: st) h := pR_L rfl rfl
theorem rX23_takes_75 : pR 228 d 75 ls (.ref o :: st) h = if pis (pfl h 24 o 3) = true then pR 228 d 78 ls (pfl h 24 o 3 :: st) h else none := r_get rfl
theorem rX23_takes_78 : pR 228 d 78 [a0, a1, a2, a3, .int x] st h = pR 228 d 80 [a0, a1, a2, a3, .int x] (.int x :: st) h := pR_L rfl rfl
theorem rX23_takes_80 : pR 228 d 80 ls (.int x :: .ref o :: st) h = if (pin x (pln h 0 o) || pin x (pln h 9 o)) = true then pR 228 d 81 ls (.int (pct h o x.toNatClampNeg) :: st) h else none := pR_Lif rfl rfl
theorem rX23_takes_81 : pR 228 d 81 ls (.int y :: .int x :: st) h = pR 228 d 82 ls (.int (x + y) :: st) h := pR_L rfl rfl
theorem rX23_takes_82 : pR 228 (d + 1) 82 ls (b4 :: b3 :: b2 :: b1 :: .ref o :: st) h = if (pok 23 (pcl h o) && pw st) = true then pK 228 (d + 1) 82 3 ls st (pCa 222 d [.ref o, b1, b2, b3, b4] h) else none := r_callV rfl rfl rfl
theorem rX23_takes_85 : pR 228 d 85 [a0, a1, a2, a3, .int x] st h = pR 228 d 88 [a0, a1, a2, a3, .int (x + 1)] st h := pR_L rfl rfl
theorem rX23_takes_88 : pR 228 d 88 ls st h = pR 228 d 38 ls st h := pR_L rfl rfl
theorem rX23_takes_91 : pR 228 d 91 ls [] h = some (.inl none, h) := pR_E rfl rfl
-- 229 BalloonStall$Figure <init> (LBalloonStall$Hand;)V
theorem eX24_init : pCa 229 d [.ref o, .ref r0] h = pR 229 d 0 [.ref o, .ref r0, pU, pU, pU] [] h := rfl
theorem rX24_init_0 : pR 229 d 0 [.ref o, a1, a2, a3, a4] st h = pR 229 d 1 [.ref o, a1, a2, a3, a4] (.ref o :: st) h := pR_L rfl rfl
theorem rX24_init_1 : pR 229 (d + 1) 1 ls (.ref o :: st) h = if pw st = true then pR 229 (d + 1) 4 ls st h else none := r_obj rfl
theorem rX24_init_4 : pR 229 d 4 [.ref o, a1, a2, a3, a4] st h = pR 229 d 5 [.ref o, a1, a2, a3, a4] (.ref o :: st) h := pR_L rfl rfl
theorem rX24_init_5 : pR 229 d 5 ls st h = pR 229 d 7 ls (.int 24 :: st) h := pR_L rfl rfl
theorem rX24_init_7 : pR 229 d 7 ls (.int 24 :: st) h = pR 229 d 9 ls (.ref h.2.1 :: st) (pnw h (.inl (0, 24, .inl fun _ => 0)) 24) := pR_X rfl rfl
theorem rX24_init_9 : pR 229 d 9 ls (.ref o2 :: .ref o :: st) h = if pis (pfl h 24 o 0) = true then pR 229 d 12 ls st (psf h o 0 (.ref o2)) else none := r_put rfl rfl
theorem rX24_init_9n : pR 229 d 9 ls (.null :: .ref o :: st) h = if pis (pfl h 24 o 0) = true then pR 229 d 12 ls st (psf h o 0 .null) else none := r_put rfl rfl
theorem rX24_init_12 : pR 229 d 12 [.ref o, a1, a2, a3, a4] st h = pR 229 d 13 [.ref o, a1, a2, a3, a4] (.ref o :: st) h := pR_L rfl rfl
theorem rX24_init_13 : pR 229 d 13 ls st h = pR 229 d 15 ls (.int 24 :: st) h := pR_L rfl rfl
theorem rX24_init_15 : pR 229 d 15 ls (.int 24 :: st) h = pR 229 d 17 ls (.ref h.2.1 :: st) (pnw h (.inl (0, 24, .inl fun _ => 0)) 24) := pR_X rfl rfl
theorem rX24_init_17 : pR 229 d 17 ls (.ref o2 :: .ref o :: st) h = if pis (pfl h 24 o 1) = true then pR 229 d 20 ls st (psf h o 1 (.ref o2)) else none := r_put rfl rfl
theorem rX24_init_17n : pR 229 d 17 ls (.null :: .ref o :: st) h = if pis (pfl h 24 o 1) = true then pR 229 d 20 ls st (psf h o 1 .null) else none := r_put rfl rfl
theorem rX24_init_20 : pR 229 d 20 [.ref o, a1, a2, a3, a4] st h = pR 229 d 21 [.ref o, a1, a2, a3, a4] (.ref o :: st) h := pR_L rfl rfl
theorem rX24_init_21 : pR 229 d 21 ls st h = pR 229 d 23 ls (.int 24 :: st) h := pR_L rfl rfl
theorem rX24_init_23 : pR 229 d 23 ls (.int 24 :: st) h = pR 229 d 25 ls (.ref h.2.1 :: st) (pnw h (.inl (0, 24, .inl fun _ => 0)) 24) := pR_X rfl rfl
theorem rX24_init_25 : pR 229 d 25 ls (.ref o2 :: .ref o :: st) h = if pis (pfl h 24 o 2) = true then pR 229 d 28 ls st (psf h o 2 (.ref o2)) else none := r_put rfl rfl
theorem rX24_init_25n : pR 229 d 25 ls (.null :: .ref o :: st) h = if pis (pfl h 24 o 2) = true then pR 229 d 28 ls st (psf h o 2 .null) else none := r_put rfl rfl
theorem rX24_init_28 : pR 229 d 28 [.ref o, a1, a2, a3, a4] st h = pR 229 d 29 [.ref o, a1, a2, a3, a4] (.ref o :: st) h := pR_L rfl rfl
theorem rX24_init_29 : pR 229 d 29 ls st h = pR 229 d 31 ls (.int 24 :: st) h := pR_L rfl rfl
theorem rX24_init_31 : pR 229 d 31 ls (.int 24 :: st) h = pR 229 d 33 ls (.ref h.2.1 :: st) (pnw h (.inl (0, 24, .inl fun _ => 0)) 24) := pR_X rfl rfl
theorem rX24_init_33 : pR 229 d 33 ls (.ref o2 :: .ref o :: st) h = if pis (pfl h 24 o 3) = true then pR 229 d 36 ls st (psf h o 3 (.ref o2)) else none := r_put rfl rfl
theorem rX24_init_33n : pR 229 d 33 ls (.null :: .ref o :: st) h = if pis (pfl h 24 o 3) = true then pR 229 d 36 ls st (psf h o 3 .null) else none := r_put rfl rfl
theorem rX24_init_36 : pR 229 d 36 [.ref o, a1, a2, a3, a4] st h = pR 229 d 37 [.ref o, a1, a2, a3, a4] (.ref o :: st) h := pR_L rfl rfl
theorem rX24_init_37 : pR 229 d 37 ls st h = pR 229 d 39 ls (.int 6 :: st) h := pR_L rfl rfl
theorem rX24_init_39 : pR 229 d 39 ls (.int 6 :: st) h = pR 229 d 41 ls (.ref h.2.1 :: st) (pnw h (.inl (0, 6, .inl fun _ => 0)) 6) := pR_X rfl rfl
theorem rX24_init_41 : pR 229 d 41 ls (.ref o2 :: .ref o :: st) h = if pis (pfl h 24 o 4) = true then pR 229 d 44 ls st (psf h o 4 (.ref o2)) else none := r_put rfl rfl
theorem rX24_init_41n : pR 229 d 41 ls (.null :: .ref o :: st) h = if pis (pfl h 24 o 4) = true then pR 229 d 44 ls st (psf h o 4 .null) else none := r_put rfl rfl
theorem rX24_init_44 : pR 229 d 44 [.ref o, a1, a2, a3, a4] st h = pR 229 d 45 [.ref o, a1, a2, a3, a4] (.ref o :: st) h := pR_L rfl rfl
theorem rX24_init_45 : pR 229 d 45 ls st h = pR 229 d 47 ls (.int 32 :: st) h := pR_L rfl rfl
theorem rX24_init_47 : pR 229 d 47 ls (.int 32 :: st) h = pR 229 d 49 ls (.ref h.2.1 :: st) (pnw h (.inl (0, 32, .inl fun _ => 0)) 32) := pR_X rfl rfl
theorem rX24_init_49 : pR 229 d 49 ls (.ref o2 :: .ref o :: st) h = if pis (pfl h 24 o 5) = true then pR 229 d 52 ls st (psf h o 5 (.ref o2)) else none := r_put rfl rfl
theorem rX24_init_49n : pR 229 d 49 ls (.null :: .ref o :: st) h = if pis (pfl h 24 o 5) = true then pR 229 d 52 ls st (psf h o 5 .null) else none := r_put rfl rfl
theorem rX24_init_52 : pR 229 d 52 [.ref o, a1, a2, a3, a4] st h = pR 229 d 53 [.ref o, a1, a2, a3, a4] (.ref o :: st) h := pR_L rfl rfl
theorem rX24_init_53 : pR 229 d 53 [a0, .ref o, a2, a3, a4] st h = pR 229 d 54 [a0, .ref o, a2, a3, a4] (.ref o :: st) h := pR_L rfl rfl
theorem rX24_init_53n : pR 229 d 53 [a0, .null, a2, a3, a4] st h = pR 229 d 54 [a0, .null, a2, a3, a4] (.null :: st) h := pR_L rfl rfl
theorem rX24_init_54 : pR 229 d 54 ls (.ref o :: st) h = if pis (pfl h 23 o 9) = true then pR 229 d 57 ls (pfl h 23 o 9 :: st) h else none := r_get rfl
theorem rX24_init_57 : pR 229 d 57 ls (.int x :: .ref o :: st) h = if pis (pfl h 24 o 6) = true then pR 229 d 60 ls st (psf h o 6 (.int x)) else none := r_put rfl rfl
theorem rX24_init_60 : pR 229 d 60 [.ref o, a1, a2, a3, a4] st h = pR 229 d 61 [.ref o, a1, a2, a3, a4] (.ref o :: st) h := pR_L rfl rfl
theorem rX24_init_61 : pR 229 d 61 [a0, .ref o, a2, a3, a4] st h = pR 229 d 62 [a0, .ref o, a2, a3, a4] (.ref o :: st) h := pR_L rfl rfl
theorem rX24_init_61n : pR 229 d 61 [a0, .null, a2, a3, a4] st h = pR 229 d 62 [a0, .null, a2, a3, a4] (.null :: st) h := pR_L rfl rfl
theorem rX24_init_62 : pR 229 d 62 ls (.ref o :: st) h = if pis (pfl h 23 o 10) = true then pR 229 d 65 ls (pfl h 23 o 10 :: st) h else none := r_get rfl
theorem rX24_init_65 : pR 229 d 65 ls (.int x :: .ref o :: st) h = if pis (pfl h 24 o 7) = true then pR 229 d 68 ls st (psf h o 7 (.int x)) else none := r_put rfl rfl
theorem rX24_init_68 : pR 229 d 68 [.ref o, a1, a2, a3, a4] st h = pR 229 d 69 [.ref o, a1, a2, a3, a4] (.ref o :: st) h := pR_L rfl rfl
theorem rX24_init_69 : pR 229 d 69 [a0, .ref o, a2, a3, a4] st h = pR 229 d 70 [a0, .ref o, a2, a3, a4] (.ref o :: st) h := pR_L rfl rfl
theorem rX24_init_69n : pR 229 d 69 [a0, .null, a2, a3, a4] st h = pR 229 d 70 [a0, .null, a2, a3, a4] (.null :: st) h := pR_L rfl rfl
theorem rX24_init_70 : pR 229 d 70 ls (.ref o :: st) h = if pis (pfl h 23 o 11) = true then pR 229 d 73 ls (pfl h 23 o 11 :: st) h else none := r_get rfl
theorem rX24_init_73 : pR 229 d 73 ls (.int x :: .ref o :: st) h = if pis (pfl h 24 o 9) = true then pR 229 d 76 ls st (psf h o 9 (.int x)) else none := r_put rfl rfl
theorem rX24_init_76 : pR 229 d 76 ls st h = pR 229 d 78 ls (.int 32 :: st) h := pR_L rfl rfl
theorem rX24_init_78 : pR 229 d 78 ls (.int 32 :: st) h = pR 229 d 80 ls (.ref h.2.1 :: st) (pnw h (.inl (0, 32, .inl fun _ => 0)) 32) := pR_X rfl rfl
theorem rX24_init_80 : pR 229 d 80 [a0, a1, a2, a3, a4] (.ref o :: st) h = if p1 a2 = true then pR 229 d 81 [a0, a1, .ref o, a3, a4] st h else none := r_sto (n := 1) (k := 2) (v := .ref o) (ls := [a0, a1, a2, a3, a4]) rfl rfl rfl
theorem rX24_init_80n : pR 229 d 80 [a0, a1, a2, a3, a4] (.null :: st) h = if p1 a2 = true then pR 229 d 81 [a0, a1, .null, a3, a4] st h else none := r_sto (n := 1) (k := 2) (v := .null) (ls := [a0, a1, a2, a3, a4]) rfl rfl rfl
theorem rX24_init_81 : pR 229 d 81 ls st h = pR 229 d 82 ls (.int 0 :: st) h := pR_L rfl rfl
theorem rX24_init_82 : pR 229 d 82 [a0, a1, a2, a3, a4] (.int x :: st) h = if p1 a3 = true then pR 229 d 83 [a0, a1, a2, .int x, a4] st h else none := r_sto (n := 1) (k := 3) (v := .int x) (ls := [a0, a1, a2, a3, a4]) rfl rfl rfl
theorem rX24_init_83 : pR 229 d 83 ls st h = pR 229 d 84 ls (.int 0 :: st) h := pR_L rfl rfl
theorem rX24_init_84 : pR 229 d 84 [a0, a1, a2, a3, a4] (.int x :: st) h = if p1 a4 = true then pR 229 d 86 [a0, a1, a2, a3, .int x] st h else none := r_sto (n := 2) (k := 4) (v := .int x) (ls := [a0, a1, a2, a3, a4]) rfl rfl rfl
theorem rX24_init_86 : pR 229 d 86 [a0, a1, a2, a3, .int x] st h = pR 229 d 88 [a0, a1, a2, a3, .int x] (.int x :: st) h := pR_L rfl rfl
theorem rX24_init_88 : pR 229 d 88 [a0, .ref o, a2, a3, a4] st h = pR 229 d 89 [a0, .ref o, a2, a3, a4] (.ref o :: st) h := pR_L rfl rfl
theorem rX24_init_88n : pR 229 d 88 [a0, .null, a2, a3, a4] st h = pR 229 d 89 [a0, .null, a2, a3, a4] (.null :: st) h := pR_L rfl rfl
theorem rX24_init_89 : pR 229 d 89 ls (.ref o :: st) h = if pis (pfl h 23 o 8) = true then pR 229 d 92 ls (pfl h 23 o 8 :: st) h else none := r_get rfl
theorem rX24_init_92 : pR 229 d 92 ls (.int y :: .int x :: st) h = if x < y then pR 229 d 95 ls st h else pR 229 d 123 ls st h := r_cge rfl rfl
theorem rX24_init_95 : pR 229 d 95 [a0, .ref o, a2, a3, a4] st h = pR 229 d 96 [a0, .ref o, a2, a3, a4] (.ref o :: st) h := pR_L rfl rfl
theorem rX24_init_95n : pR 229 d 95 [a0, .null, a2, a3, a4] st h = pR 229 d 96 [a0, .null, a2, a3, a4] (.null :: st) h := pR_L rfl rfl
theorem rX24_init_96 : pR 229 d 96 [a0, a1, a2, a3, .int x] st h = pR 229 d 98 [a0, a1, a2, a3, .int x] (.int x :: st) h := pR_L rfl rfl
theorem rX24_init_98 : pR 229 (d + 1) 98 ls (b1 :: .ref o :: st) h = if (pok 23 (pcl h o) && pw st) = true then pK 229 (d + 1) 98 3 ls st (pCa 224 d [.ref o, b1] h) else none := r_callV rfl rfl rfl
theorem rX24_init_101 : pR 229 d 101 [a0, a1, a2, a3, .int x] st h = pR 229 d 103 [a0, a1, a2, a3, .int x] (.int x :: st) h := pR_L rfl rfl
theorem rX24_init_103 : pR 229 d 103 ls (.int y :: .int x :: st) h = if x = y then pR 229 d 109 ls st h else pR 229 d 106 ls st h := r_ceq rfl rfl
theorem rX24_init_106 : pR 229 d 106 ls st h = pR 229 d 117 ls st h := pR_L rfl rfl
theorem rX24_init_109 : pR 229 d 109 [a0, a1, .ref o, a3, a4] st h = pR 229 d 110 [a0, a1, .ref o, a3, a4] (.ref o :: st) h := pR_L rfl rfl
theorem rX24_init_109n : pR 229 d 109 [a0, a1, .null, a3, a4] st h = pR 229 d 110 [a0, a1, .null, a3, a4] (.null :: st) h := pR_L rfl rfl
theorem rX24_init_110 : pR 229 d 110 [a0, a1, a2, a3, .int x] st h = pR 229 d 112 [a0, a1, a2, a3, .int x] (.int x :: st) h := pR_L rfl rfl
theorem rX24_init_112 : pR 229 d 112 [a0, a1, a2, .int x, a4] st h = pR 229 d 113 [a0, a1, a2, .int x, a4] (.int x :: st) h := pR_L rfl rfl
theorem rX24_init_113 : pR 229 d 113 ls (.int y :: .int x :: .ref o :: st) h = if pin x (pln h 0 o) = true then pR 229 d 114 ls st (pst h o x.toNatClampNeg y) else none := pR_Lif rfl rfl
theorem rX24_init_114 : pR 229 d 114 [a0, a1, a2, .int x, a4] st h = pR 229 d 117 [a0, a1, a2, .int (x + 1), a4] st h := pR_L rfl rfl
theorem rX24_init_117 : pR 229 d 117 [a0, a1, a2, a3, .int x] st h = pR 229 d 120 [a0, a1, a2, a3, .int (x + 1)] st h := pR_L rfl rfl
theorem rX24_init_120 : pR 229 d 120 ls st h = pR 229 d 86 ls st h := pR_L rfl rfl
theorem rX24_init_123 : pR 229 d 123 [.ref o, a1, a2, a3, a4] st h = pR 229 d 124 [.ref o, a1, a2, a3, a4] (.ref o :: st) h := pR_L rfl rfl
theorem rX24_init_124 : pR 229 d 124 [a0, a1, a2, .int x, a4] st h = pR 229 d 125 [a0, a1, a2, .int x, a4] (.int x :: st) h := pR_L rfl rfl
theorem rX24_init_125 : pR 229 d 125 ls (.int x :: .ref o :: st) h = if pis (pfl h 24 o 8) = true then pR 229 d 128 ls st (psf h o 8 (.int x)) else none := r_put rfl rfl
theorem rX24_init_128 : pR 229 d 128 ls st h = pR 229 d 129 ls (.int 0 :: st) h := pR_L rfl rfl
theorem rX24_init_129 : pR 229 d 129 [a0, a1, a2, a3, a4] (.int x :: st) h = if p1 a4 = true then pR 229 d 131 [a0, a1, a2, a3, .int x] st h else none := r_sto (n := 2) (k := 4) (v := .int x) (ls := [a0, a1, a2, a3, a4]) rfl rfl rfl
theorem rX24_init_131 : pR 229 d 131 [a0, a1, a2, a3, .int x] st h = pR 229 d 133 [a0, a1, a2, a3, .int x] (.int x :: st) h := pR_L rfl rfl
theorem rX24_init_133 : pR 229 d 133 [.ref o, a1, a2, a3, a4] st h = pR 229 d 134 [.ref o, a1, a2, a3, a4] (.ref o :: st) h := pR_L rfl rfl
theorem rX24_init_134 : pR 229 d 134 ls (.ref o :: st) h = if pis (pfl h 24 o 6) = true then pR 229 d 137 ls (pfl h 24 o 6 :: st) h else none := r_get rfl
theorem rX24_init_137 : pR 229 d 137 ls (.int y :: .int x :: st) h = if x < y then pR 229 d 140 ls st h else pR 229 d 246 ls st h := r_cge rfl rfl
theorem rX24_init_140 : pR 229 d 140 [.ref o, a1, a2, a3, a4] st h = pR 229 d 141 [.ref o, a1, a2, a3, a4] (.ref o :: st) h := pR_L rfl rfl
theorem rX24_init_141 : pR 229 d 141 ls (.ref o :: st) h = if pis (pfl h 24 o 0) = true then pR 229 d 144 ls (pfl h 24 o 0 :: st) h else none := r_get rfl
theorem rX24_init_144 : pR 229 d 144 [a0, a1, a2, a3, .int x] st h = pR 229 d 146 [a0, a1, a2, a3, .int x] (.int x :: st) h := pR_L rfl rfl
theorem rX24_init_146 : pR 229 d 146 [a0, a1, .ref o, a3, a4] st h = pR 229 d 147 [a0, a1, .ref o, a3, a4] (.ref o :: st) h := pR_L rfl rfl
theorem rX24_init_146n : pR 229 d 146 [a0, a1, .null, a3, a4] st h = pR 229 d 147 [a0, a1, .null, a3, a4] (.null :: st) h := pR_L rfl rfl
theorem rX24_init_147 : pR 229 d 147 [a0, .ref o, a2, a3, a4] st h = pR 229 d 148 [a0, .ref o, a2, a3, a4] (.ref o :: st) h := pR_L rfl rfl
theorem rX24_init_147n : pR 229 d 147 [a0, .null, a2, a3, a4] st h = pR 229 d 148 [a0, .null, a2, a3, a4] (.null :: st) h := pR_L rfl rfl
theorem rX24_init_148 : pR 229 d 148 [a0, .ref o, a2, a3, a4] st h = pR 229 d 149 [a0, .ref o, a2, a3, a4] (.ref o :: st) h := pR_L rfl rfl
theorem rX24_init_148n : pR 229 d 148 [a0, .null, a2, a3, a4] st h = pR 229 d 149 [a0, .null, a2, a3, a4] (.null :: st) h := pR_L rfl rfl
theorem rX24_init_149 : pR 229 d 149 ls (.ref o :: st) h = if pis (pfl h 23 o 2) = true then pR 229 d 152 ls (pfl h 23 o 2 :: st) h else none := r_get rfl
theorem rX24_init_152 : pR 229 d 152 [a0, a1, a2, a3, .int x] st h = pR 229 d 154 [a0, a1, a2, a3, .int x] (.int x :: st) h := pR_L rfl rfl
theorem rX24_init_154 : pR 229 d 154 ls (.int x :: .ref o :: st) h = if (pin x (pln h 0 o) || pin x (pln h 9 o)) = true then pR 229 d 155 ls (.int (pct h o x.toNatClampNeg) :: st) h else none := pR_Lif rfl rfl
theorem rX24_init_155 : pR 229 (d + 1) 155 ls (b1 :: .ref o :: st) h = if (pok 23 (pcl h o) && pw st) = true then pK 229 (d + 1) 155 3 ls st (pCa 224 d [.ref o, b1] h) else none := r_callV rfl rfl rfl
theorem rX24_init_158 : pR 229 d 158 ls (.int x :: .ref o :: st) h = if (pin x (pln h 0 o) || pin x (pln h 9 o)) = true then pR 229 d 159 ls (.int (pct h o x.toNatClampNeg) :: st) h else none := pR_Lif rfl rfl
theorem rX24_init_159 : pR 229 d 159 ls (.int y :: .int x :: .ref o :: st) h = if pin x (pln h 0 o) = true then pR 229 d 160 ls st (pst h o x.toNatClampNeg y) else none := pR_Lif rfl rfl
theorem rX24_init_160 : pR 229 d 160 [.ref o, a1, a2, a3, a4] st h = pR 229 d 161 [.ref o, a1, a2, a3, a4] (.ref o :: st) h := pR_L rfl rfl
theorem rX24_init_161 : pR 229 d 161 ls (.ref o :: st) h = if pis (pfl h 24 o 1) = true then pR 229 d 164 ls (pfl h 24 o 1 :: st) h else none := r_get rfl
theorem rX24_init_164 : pR 229 d 164 [a0, a1, a2, a3, .int x] st h = pR 229 d 166 [a0, a1, a2, a3, .int x] (.int x :: st) h := pR_L rfl rfl
theorem rX24_init_166 : pR 229 d 166 [a0, a1, .ref o, a3, a4] st h = pR 229 d 167 [a0, a1, .ref o, a3, a4] (.ref o :: st) h := pR_L rfl rfl
theorem rX24_init_166n : pR 229 d 166 [a0, a1, .null, a3, a4] st h = pR 229 d 167 [a0, a1, .null, a3, a4] (.null :: st) h := pR_L rfl rfl
theorem rX24_init_167 : pR 229 d 167 [a0, .ref o, a2, a3, a4] st h = pR 229 d 168 [a0, .ref o, a2, a3, a4] (.ref o :: st) h := pR_L rfl rfl
theorem rX24_init_167n : pR 229 d 167 [a0, .null, a2, a3, a4] st h = pR 229 d 168 [a0, .null, a2, a3, a4] (.null :: st) h := pR_L rfl rfl
theorem rX24_init_168 : pR 229 d 168 [a0, .ref o, a2, a3, a4] st h = pR 229 d 169 [a0, .ref o, a2, a3, a4] (.ref o :: st) h := pR_L rfl rfl
theorem rX24_init_168n : pR 229 d 168 [a0, .null, a2, a3, a4] st h = pR 229 d 169 [a0, .null, a2, a3, a4] (.null :: st) h := pR_L rfl rfl
theorem rX24_init_169 : pR 229 d 169 ls (.ref o :: st) h = if pis (pfl h 23 o 3) = true then pR 229 d 172 ls (pfl h 23 o 3 :: st) h else none := r_get rfl
theorem rX24_init_172 : pR 229 d 172 [a0, a1, a2, a3, .int x] st h = pR 229 d 174 [a0, a1, a2, a3, .int x] (.int x :: st) h := pR_L rfl rfl
theorem rX24_init_174 : pR 229 d 174 ls (.int x :: .ref o :: st) h = if (pin x (pln h 0 o) || pin x (pln h 9 o)) = true then pR 229 d 175 ls (.int (pct h o x.toNatClampNeg) :: st) h else none := pR_Lif rfl rfl
theorem rX24_init_175 : pR 229 (d + 1) 175 ls (b1 :: .ref o :: st) h = if (pok 23 (pcl h o) && pw st) = true then pK 229 (d + 1) 175 3 ls st (pCa 224 d [.ref o, b1] h) else none := r_callV rfl rfl rfl
theorem rX24_init_178 : pR 229 d 178 ls (.int x :: .ref o :: st) h = if (pin x (pln h 0 o) || pin x (pln h 9 o)) = true then pR 229 d 179 ls (.int (pct h o x.toNatClampNeg) :: st) h else none := pR_Lif rfl rfl
theorem rX24_init_179 : pR 229 d 179 ls (.int y :: .int x :: .ref o :: st) h = if pin x (pln h 0 o) = true then pR 229 d 180 ls st (pst h o x.toNatClampNeg y) else none := pR_Lif rfl rfl
theorem rX24_init_180 : pR 229 d 180 [.ref o, a1, a2, a3, a4] st h = pR 229 d 181 [.ref o, a1, a2, a3, a4] (.ref o :: st) h := pR_L rfl rfl
theorem rX24_init_181 : pR 229 d 181 ls (.ref o :: st) h = if pis (pfl h 24 o 2) = true then pR 229 d 184 ls (pfl h 24 o 2 :: st) h else none := r_get rfl
theorem rX24_init_184 : pR 229 d 184 [a0, a1, a2, a3, .int x] st h = pR 229 d 186 [a0, a1, a2, a3, .int x] (.int x :: st) h := pR_L rfl rfl
theorem rX24_init_186 : pR 229 d 186 [a0, .ref o, a2, a3, a4] st h = pR 229 d 187 [a0, .ref o, a2, a3, a4] (.ref o :: st) h := pR_L rfl rfl
theorem rX24_init_186n : pR 229 d 186 [a0, .null, a2, a3, a4] st h = pR 229 d 187 [a0, .null, a2, a3, a4] (.null :: st) h := pR_L rfl rfl
theorem rX24_init_187 : pR 229 d 187 ls (.ref o :: st) h = if pis (pfl h 23 o 4) = true then pR 229 d 190 ls (pfl h 23 o 4 :: st) h else none := r_get rfl
theorem rX24_init_190 : pR 229 d 190 [a0, a1, a2, a3, .int x] st h = pR 229 d 192 [a0, a1, a2, a3, .int x] (.int x :: st) h := pR_L rfl rfl
theorem rX24_init_192 : pR 229 d 192 ls (.int x :: .ref o :: st) h = if (pin x (pln h 0 o) || pin x (pln h 9 o)) = true then pR 229 d 193 ls (.int (pct h o x.toNatClampNeg) :: st) h else none := pR_Lif rfl rfl
theorem rX24_init_193 : pR 229 d 193 ls (.int y :: .int x :: .ref o :: st) h = if pin x (pln h 0 o) = true then pR 229 d 194 ls st (pst h o x.toNatClampNeg y) else none := pR_Lif rfl rfl
theorem rX24_init_194 : pR 229 d 194 [.ref o, a1, a2, a3, a4] st h = pR 229 d 195 [.ref o, a1, a2, a3, a4] (.ref o :: st) h := pR_L rfl rfl
theorem rX24_init_195 : pR 229 d 195 ls (.ref o :: st) h = if pis (pfl h 24 o 3) = true then pR 229 d 198 ls (pfl h 24 o 3 :: st) h else none := r_get rfl
theorem rX24_init_198 : pR 229 d 198 [a0, a1, a2, a3, .int x] st h = pR 229 d 200 [a0, a1, a2, a3, .int x] (.int x :: st) h := pR_L rfl rfl
theorem rX24_init_200 : pR 229 d 200 [a0, .ref o, a2, a3, a4] st h = pR 229 d 201 [a0, .ref o, a2, a3, a4] (.ref o :: st) h := pR_L rfl rfl
theorem rX24_init_200n : pR 229 d 200 [a0, .null, a2, a3, a4] st h = pR 229 d 201 [a0, .null, a2, a3, a4] (.null :: st) h := pR_L rfl rfl
theorem rX24_init_201 : pR 229 d 201 ls (.ref o :: st) h = if pis (pfl h 23 o 5) = true then pR 229 d 204 ls (pfl h 23 o 5 :: st) h else none := r_get rfl
theorem rX24_init_204 : pR 229 d 204 [a0, a1, a2, a3, .int x] st h = pR 229 d 206 [a0, a1, a2, a3, .int x] (.int x :: st) h := pR_L rfl rfl
theorem rX24_init_206 : pR 229 d 206 ls (.int x :: .ref o :: st) h = if (pin x (pln h 0 o) || pin x (pln h 9 o)) = true then pR 229 d 207 ls (.int (pct h o x.toNatClampNeg) :: st) h else none := pR_Lif rfl rfl
theorem rX24_init_207 : pR 229 d 207 ls (.int y :: .int x :: .ref o :: st) h = if pin x (pln h 0 o) = true then pR 229 d 208 ls st (pst h o x.toNatClampNeg y) else none := pR_Lif rfl rfl
theorem rX24_init_208 : pR 229 d 208 [.ref o, a1, a2, a3, a4] st h = pR 229 d 209 [.ref o, a1, a2, a3, a4] (.ref o :: st) h := pR_L rfl rfl
theorem rX24_init_209 : pR 229 d 209 ls (.ref o :: st) h = if pis (pfl h 24 o 5) = true then pR 229 d 212 ls (pfl h 24 o 5 :: st) h else none := r_get rfl
theorem rX24_init_212 : pR 229 d 212 [.ref o, a1, a2, a3, a4] st h = pR 229 d 213 [.ref o, a1, a2, a3, a4] (.ref o :: st) h := pR_L rfl rfl
theorem rX24_init_213 : pR 229 d 213 ls (.ref o :: st) h = if pis (pfl h 24 o 0) = true then pR 229 d 216 ls (pfl h 24 o 0 :: st) h else none := r_get rfl
theorem rX24_init_216 : pR 229 d 216 [a0, a1, a2, a3, .int x] st h = pR 229 d 218 [a0, a1, a2, a3, .int x] (.int x :: st) h := pR_L rfl rfl
theorem rX24_init_218 : pR 229 d 218 ls (.int x :: .ref o :: st) h = if (pin x (pln h 0 o) || pin x (pln h 9 o)) = true then pR 229 d 219 ls (.int (pct h o x.toNatClampNeg) :: st) h else none := pR_Lif rfl rfl
theorem rX24_init_219 : pR 229 d 219 ls (.int x :: .ref o :: st) h = pR 229 d 220 ls (.int x :: .ref o :: .int x :: .ref o :: st) h := pR_L rfl rfl
theorem rX24_init_220 : pR 229 d 220 ls (.int x :: .ref o :: st) h = if (pin x (pln h 0 o) || pin x (pln h 9 o)) = true then pR 229 d 221 ls (.int (pct h o x.toNatClampNeg) :: st) h else none := pR_Lif rfl rfl
theorem rX24_init_221 : pR 229 d 221 ls st h = pR 229 d 222 ls (.int 1 :: st) h := pR_L rfl rfl
theorem rX24_init_222 : pR 229 d 222 ls (.int y :: .int x :: st) h = pR 229 d 223 ls (.int (x + y) :: st) h := pR_L rfl rfl
theorem rX24_init_223 : pR 229 d 223 ls (.int y :: .int x :: .ref o :: st) h = if pin x (pln h 0 o) = true then pR 229 d 224 ls st (pst h o x.toNatClampNeg y) else none := pR_Lif rfl rfl
theorem rX24_init_224 : pR 229 d 224 [.ref o, a1, a2, a3, a4] st h = pR 229 d 225 [.ref o, a1, a2, a3, a4] (.ref o :: st) h := pR_L rfl rfl
theorem rX24_init_225 : pR 229 d 225 ls (.ref o :: st) h = if pis (pfl h 24 o 5) = true then pR 229 d 228 ls (pfl h 24 o 5 :: st) h else none := r_get rfl
theorem rX24_init_228 : pR 229 d 228 [.ref o, a1, a2, a3, a4] st h = pR 229 d 229 [.ref o, a1, a2, a3, a4] (.ref o :: st) h := pR_L rfl rfl
theorem rX24_init_229 : pR 229 d 229 ls (.ref o :: st) h = if pis (pfl h 24 o 1) = true then pR 229 d 232 ls (pfl h 24 o 1 :: st) h else none := r_get rfl
theorem rX24_init_232 : pR 229 d 232 [a0, a1, a2, a3, .int x] st h = pR 229 d 234 [a0, a1, a2, a3, .int x] (.int x :: st) h := pR_L rfl rfl
theorem rX24_init_234 : pR 229 d 234 ls (.int x :: .ref o :: st) h = if (pin x (pln h 0 o) || pin x (pln h 9 o)) = true then pR 229 d 235 ls (.int (pct h o x.toNatClampNeg) :: st) h else none := pR_Lif rfl rfl
theorem rX24_init_235 : pR 229 d 235 ls (.int x :: .ref o :: st) h = pR 229 d 236 ls (.int x :: .ref o :: .int x :: .ref o :: st) h := pR_L rfl rfl
theorem rX24_init_236 : pR 229 d 236 ls (.int x :: .ref o :: st) h = if (pin x (pln h 0 o) || pin x (pln h 9 o)) = true then pR 229 d 237 ls (.int (pct h o x.toNatClampNeg) :: st) h else none := pR_Lif rfl rfl
theorem rX24_init_237 : pR 229 d 237 ls st h = pR 229 d 238 ls (.int 1 :: st) h := pR_L rfl rfl
theorem rX24_init_238 : pR 229 d 238 ls (.int y :: .int x :: st) h = pR 229 d 239 ls (.int (x + y) :: st) h := pR_L rfl rfl
theorem rX24_init_239 : pR 229 d 239 ls (.int y :: .int x :: .ref o :: st) h = if pin x (pln h 0 o) = true then pR 229 d 240 ls st (pst h o x.toNatClampNeg y) else none := pR_Lif rfl rfl
theorem rX24_init_240 : pR 229 d 240 [a0, a1, a2, a3, .int x] st h = pR 229 d 243 [a0, a1, a2, a3, .int (x + 1)] st h := pR_L rfl rfl
theorem rX24_init_243 : pR 229 d 243 ls st h = pR 229 d 131 ls st h := pR_L rfl rfl
theorem rX24_init_246 : pR 229 d 246 [a0, .ref o, a2, a3, a4] st h = pR 229 d 247 [a0, .ref o, a2, a3, a4] (.ref o :: st) h := pR_L rfl rfl
theorem rX24_init_246n : pR 229 d 246 [a0, .null, a2, a3, a4] st h = pR 229 d 247 [a0, .null, a2, a3, a4] (.null :: st) h := pR_L rfl rfl
theorem rX24_init_247 : pR 229 d 247 ls (.ref o :: st) h = if pis (pfl h 23 o 6) = true then pR 229 d 250 ls (pfl h 23 o 6 :: st) h else none := r_get rfl
theorem rX24_init_250 : pR 229 d 250 ls st h = pR 229 d 251 ls (.int 0 :: st) h := pR_L rfl rfl
theorem rX24_init_251 : pR 229 d 251 [.ref o, a1, a2, a3, a4] st h = pR 229 d 252 [.ref o, a1, a2, a3, a4] (.ref o :: st) h := pR_L rfl rfl
theorem rX24_init_252 : pR 229 d 252 ls (.ref o :: st) h = if pis (pfl h 24 o 4) = true then pR 229 d 255 ls (pfl h 24 o 4 :: st) h else none := r_get rfl
theorem rX24_init_255 : pR 229 d 255 ls st h = pR 229 d 256 ls (.int 0 :: st) h := pR_L rfl rfl
theorem rX24_init_256 : pR 229 d 256 ls st h = pR 229 d 258 ls (.int 6 :: st) h := pR_L rfl rfl
theorem rX24_init_258 : pR 229 (d + 1) 258 ls (.int x3 :: .int y :: .ref o2 :: .int x :: .ref o :: st) h = if (decide (0 < pln h 0 o) && decide (0 < pln h 0 o2) && decide (0 ≤ x) && decide (0 ≤ y) && decide (0 ≤ x3) && decide (x.toNatClampNeg + x3.toNatClampNeg ≤ pln h 0 o) && decide (y.toNatClampNeg + x3.toNatClampNeg ≤ pln h 0 o2) && !(o == o2) && pw st) = true then pR 229 (d + 1) 261 ls st (pcp h o x.toNatClampNeg o2 y.toNatClampNeg x3.toNatClampNeg) else none := r_cpy rfl
theorem rX24_init_261 : pR 229 d 261 ls [] h = some (.inl none, h) := pR_E rfl rfl
-- 230 BalloonStall$Figure twists ()I
theorem eX24_twists : pCa 230 d [.ref o] h = pR 230 d 0 [.ref o, pU, pU] [] h := rfl
theorem rX24_twists_0 : pR 230 d 0 ls st h = pR 230 d 1 ls (.int 0 :: st) h := pR_L rfl rfl
theorem rX24_twists_1 : pR 230 d 1 [a0, a1, a2] (.int x :: st) h = if p1 a1 = true then pR 230 d 2 [a0, .int x, a2] st h else none := r_sto (n := 1) (k := 1) (v := .int x) (ls := [a0, a1, a2]) rfl rfl rfl
theorem rX24_twists_2 : pR 230 d 2 ls st h = pR 230 d 3 ls (.int 0 :: st) h := pR_L rfl rfl
theorem rX24_twists_3 : pR 230 d 3 [a0, a1, a2] (.int x :: st) h = if p1 a2 = true then pR 230 d 4 [a0, a1, .int x] st h else none := r_sto (n := 1) (k := 2) (v := .int x) (ls := [a0, a1, a2]) rfl rfl rfl
theorem rX24_twists_4 : pR 230 d 4 [a0, a1, .int x] st h = pR 230 d 5 [a0, a1, .int x] (.int x :: st) h := pR_L rfl rfl
theorem rX24_twists_5 : pR 230 d 5 [.ref o, a1, a2] st h = pR 230 d 6 [.ref o, a1, a2] (.ref o :: st) h := pR_L rfl rfl
theorem rX24_twists_6 : pR 230 d 6 ls (.ref o :: st) h = if pis (pfl h 24 o 6) = true then pR 230 d 9 ls (pfl h 24 o 6 :: st) h else none := r_get rfl
theorem rX24_twists_9 : pR 230 d 9 ls (.int y :: .int x :: st) h = if x < y then pR 230 d 12 ls st h else pR 230 d 34 ls st h := r_cge rfl rfl
theorem rX24_twists_12 : pR 230 d 12 [a0, .int x, a2] st h = pR 230 d 13 [a0, .int x, a2] (.int x :: st) h := pR_L rfl rfl
theorem rX24_twists_13 : pR 230 d 13 [.ref o, a1, a2] st h = pR 230 d 14 [.ref o, a1, a2] (.ref o :: st) h := pR_L rfl rfl
theorem rX24_twists_14 : pR 230 d 14 [a0, a1, .int x] st h = pR 230 d 15 [a0, a1, .int x] (.int x :: st) h := pR_L rfl rfl
theorem rX24_twists_15 : pR 230 (d + 1) 15 ls (b1 :: .ref o :: st) h = if (pok 24 (pcl h o) && pw st) = true then pK 230 (d + 1) 15 3 ls st (pCa 231 d [.ref o, b1] h) else none := r_callV rfl rfl rfl
theorem rX24_twists_18 : pR 230 d 18 ls (.int x :: st) h = if x = 0 then pR 230 d 25 ls st h else pR 230 d 21 ls st h := r_ieq rfl rfl
theorem rX24_twists_21 : pR 230 d 21 ls st h = pR 230 d 22 ls (.int 1 :: st) h := pR_L rfl rfl
theorem rX24_twists_22 : pR 230 d 22 ls st h = pR 230 d 26 ls st h := pR_L rfl rfl
theorem rX24_twists_25 : pR 230 d 25 ls st h = pR 230 d 26 ls (.int 0 :: st) h := pR_L rfl rfl
theorem rX24_twists_26 : pR 230 d 26 ls (.int y :: .int x :: st) h = pR 230 d 27 ls (.int (x + y) :: st) h := pR_L rfl rfl
theorem rX24_twists_27 : pR 230 d 27 [a0, a1, a2] (.int x :: st) h = if p1 a1 = true then pR 230 d 28 [a0, .int x, a2] st h else none := r_sto (n := 1) (k := 1) (v := .int x) (ls := [a0, a1, a2]) rfl rfl rfl
theorem rX24_twists_28 : pR 230 d 28 [a0, a1, .int x] st h = pR 230 d 31 [a0, a1, .int (x + 1)] st h := pR_L rfl rfl
theorem rX24_twists_31 : pR 230 d 31 ls st h = pR 230 d 4 ls st h := pR_L rfl rfl
theorem rX24_twists_34 : pR 230 d 34 [a0, .int x, a2] st h = pR 230 d 35 [a0, .int x, a2] (.int x :: st) h := pR_L rfl rfl
theorem rX24_twists_35 : pR 230 d 35 ls [.int x] h = some (.inl (some (.int x)), h) := pR_E rfl rfl
-- 231 BalloonStall$Figure isTwist (I)Z
theorem eX24_isTwist : pCa 231 d [.ref o, .int x0] h = pR 231 d 0 [.ref o, .int x0] [] h := rfl
theorem rX24_isTwist_0 : pR 231 d 0 [a0, .int x] st h = pR 231 d 1 [a0, .int x] (.int x :: st) h := pR_L rfl rfl
theorem rX24_isTwist_1 : pR 231 d 1 ls st h = pR 231 d 2 ls (.int 1 :: st) h := pR_L rfl rfl
theorem rX24_isTwist_2 : pR 231 d 2 ls (.int y :: .int x :: st) h = pR 231 d 3 ls (.int (x + y) :: st) h := pR_L rfl rfl
theorem rX24_isTwist_3 : pR 231 d 3 [.ref o, a1] st h = pR 231 d 4 [.ref o, a1] (.ref o :: st) h := pR_L rfl rfl
theorem rX24_isTwist_4 : pR 231 d 4 ls (.ref o :: st) h = if pis (pfl h 24 o 6) = true then pR 231 d 7 ls (pfl h 24 o 6 :: st) h else none := r_get rfl
theorem rX24_isTwist_7 : pR 231 d 7 ls (.int y :: .int x :: st) h = if x < y then pR 231 d 10 ls st h else pR 231 d 31 ls st h := r_cge rfl rfl
theorem rX24_isTwist_10 : pR 231 d 10 [.ref o, a1] st h = pR 231 d 11 [.ref o, a1] (.ref o :: st) h := pR_L rfl rfl
theorem rX24_isTwist_11 : pR 231 d 11 ls (.ref o :: st) h = if pis (pfl h 24 o 3) = true then pR 231 d 14 ls (pfl h 24 o 3 :: st) h else none := r_get rfl
theorem rX24_isTwist_14 : pR 231 d 14 [a0, .int x] st h = pR 231 d 15 [a0, .int x] (.int x :: st) h := pR_L rfl rfl
theorem rX24_isTwist_15 : pR 231 d 15 ls (.int x :: .ref o :: st) h = if (pin x (pln h 0 o) || pin x (pln h 9 o)) = true then pR 231 d 16 ls (.int (pct h o x.toNatClampNeg) :: st) h else none := pR_Lif rfl rfl
theorem rX24_isTwist_16 : pR 231 d 16 [.ref o, a1] st h = pR 231 d 17 [.ref o, a1] (.ref o :: st) h := pR_L rfl rfl
theorem rX24_isTwist_17 : pR 231 d 17 ls (.ref o :: st) h = if pis (pfl h 24 o 3) = true then pR 231 d 20 ls (pfl h 24 o 3 :: st) h else none := r_get rfl
theorem rX24_isTwist_20 : pR 231 d 20 [a0, .int x] st h = pR 231 d 21 [a0, .int x] (.int x :: st) h := pR_L rfl rfl
theorem rX24_isTwist_21 : pR 231 d 21 ls st h = pR 231 d 22 ls (.int 1 :: st) h := pR_L rfl rfl
theorem rX24_isTwist_22 : pR 231 d 22 ls (.int y :: .int x :: st) h = pR 231 d 23 ls (.int (x + y) :: st) h := pR_L rfl rfl
theorem rX24_isTwist_23 : pR 231 d 23 ls (.int x :: .ref o :: st) h = if (pin x (pln h 0 o) || pin x (pln h 9 o)) = true then pR 231 d 24 ls (.int (pct h o x.toNatClampNeg) :: st) h else none := pR_Lif rfl rfl
theorem rX24_isTwist_24 : pR 231 d 24 ls (.int y :: .int x :: st) h = if x = y then pR 231 d 27 ls st h else pR 231 d 31 ls st h := r_cne rfl rfl
theorem rX24_isTwist_27 : pR 231 d 27 ls st h = pR 231 d 28 ls (.int 1 :: st) h := pR_L rfl rfl
theorem rX24_isTwist_28 : pR 231 d 28 ls st h = pR 231 d 32 ls st h := pR_L rfl rfl
theorem rX24_isTwist_31 : pR 231 d 31 ls st h = pR 231 d 32 ls (.int 0 :: st) h := pR_L rfl rfl
theorem rX24_isTwist_320 : pR 231 d 32 ls [.int 0] h = some (.inl (some (.int 0)), h) := pR_E rfl rfl
theorem rX24_isTwist_321 : pR 231 d 32 ls [.int 1] h = some (.inl (some (.int 1)), h) := pR_E rfl rfl
-- 232 BalloonStall$Figure slack ()I
theorem eX24_slack : pCa 232 d [.ref o] h = pR 232 d 0 [.ref o, pU, pU] [] h := rfl
theorem rX24_slack_0 : pR 232 d 0 ls st h = pR 232 d 1 ls (.int 0 :: st) h := pR_L rfl rfl
theorem rX24_slack_1 : pR 232 d 1 [a0, a1, a2] (.int x :: st) h = if p1 a1 = true then pR 232 d 2 [a0, .int x, a2] st h else none := r_sto (n := 1) (k := 1) (v := .int x) (ls := [a0, a1, a2]) rfl rfl rfl
theorem rX24_slack_2 : pR 232 d 2 ls st h = pR 232 d 3 ls (.int 0 :: st) h := pR_L rfl rfl
theorem rX24_slack_3 : pR 232 d 3 [a0, a1, a2] (.int x :: st) h = if p1 a2 = true then pR 232 d 4 [a0, a1, .int x] st h else none := r_sto (n := 1) (k := 2) (v := .int x) (ls := [a0, a1, a2]) rfl rfl rfl
theorem rX24_slack_4 : pR 232 d 4 [a0, a1, .int x] st h = pR 232 d 5 [a0, a1, .int x] (.int x :: st) h := pR_L rfl rfl
theorem rX24_slack_5 : pR 232 d 5 [.ref o, a1, a2] st h = pR 232 d 6 [.ref o, a1, a2] (.ref o :: st) h := pR_L rfl rfl
theorem rX24_slack_6 : pR 232 d 6 ls (.ref o :: st) h = if pis (pfl h 24 o 6) = true then pR 232 d 9 ls (pfl h 24 o 6 :: st) h else none := r_get rfl
theorem rX24_slack_9 : pR 232 d 9 ls (.int y :: .int x :: st) h = if x < y then pR 232 d 12 ls st h else pR 232 d 42 ls st h := r_cge rfl rfl
theorem rX24_slack_12 : pR 232 d 12 [a0, .int x, a2] st h = pR 232 d 13 [a0, .int x, a2] (.int x :: st) h := pR_L rfl rfl
theorem rX24_slack_13 : pR 232 d 13 [.ref o, a1, a2] st h = pR 232 d 14 [.ref o, a1, a2] (.ref o :: st) h := pR_L rfl rfl
theorem rX24_slack_14 : pR 232 d 14 [a0, a1, .int x] st h = pR 232 d 15 [a0, a1, .int x] (.int x :: st) h := pR_L rfl rfl
theorem rX24_slack_15 : pR 232 (d + 1) 15 ls (b1 :: .ref o :: st) h = if (pok 24 (pcl h o) && pw st) = true then pK 232 (d + 1) 15 3 ls st (pCa 231 d [.ref o, b1] h) else none := r_callV rfl rfl rfl
theorem rX24_slack_18 : pR 232 d 18 ls (.int x :: st) h = if x = 0 then pR 232 d 33 ls st h else pR 232 d 21 ls st h := r_ieq rfl rfl
theorem rX24_slack_21 : pR 232 d 21 [.ref o, a1, a2] st h = pR 232 d 22 [.ref o, a1, a2] (.ref o :: st) h := pR_L rfl rfl
theorem rX24_slack_22 : pR 232 d 22 [a0, a1, .int x] st h = pR 232 d 23 [a0, a1, .int x] (.int x :: st) h := pR_L rfl rfl
theorem rX24_slack_23 : pR 232 (d + 1) 23 ls (b1 :: .ref o :: st) h = if (pok 24 (pcl h o) && pw st) = true then pK 232 (d + 1) 23 3 ls st (pCa 233 d [.ref o, b1] h) else none := r_callV rfl rfl rfl
theorem rX24_slack_26 : pR 232 d 26 ls (.int x :: st) h = if x = 0 then pR 232 d 29 ls st h else pR 232 d 33 ls st h := r_ine rfl rfl
theorem rX24_slack_29 : pR 232 d 29 ls st h = pR 232 d 30 ls (.int 1 :: st) h := pR_L rfl rfl
theorem rX24_slack_30 : pR 232 d 30 ls st h = pR 232 d 34 ls st h := pR_L rfl rfl
theorem rX24_slack_33 : pR 232 d 33 ls st h = pR 232 d 34 ls (.int 0 :: st) h := pR_L rfl rfl
theorem rX24_slack_34 : pR 232 d 34 ls (.int y :: .int x :: st) h = pR 232 d 35 ls (.int (x + y) :: st) h := pR_L rfl rfl
theorem rX24_slack_35 : pR 232 d 35 [a0, a1, a2] (.int x :: st) h = if p1 a1 = true then pR 232 d 36 [a0, .int x, a2] st h else none := r_sto (n := 1) (k := 1) (v := .int x) (ls := [a0, a1, a2]) rfl rfl rfl
theorem rX24_slack_36 : pR 232 d 36 [a0, a1, .int x] st h = pR 232 d 39 [a0, a1, .int (x + 1)] st h := pR_L rfl rfl
theorem rX24_slack_39 : pR 232 d 39 ls st h = pR 232 d 4 ls st h := pR_L rfl rfl
theorem rX24_slack_42 : pR 232 d 42 [a0, .int x, a2] st h = pR 232 d 43 [a0, .int x, a2] (.int x :: st) h := pR_L rfl rfl
theorem rX24_slack_43 : pR 232 d 43 ls [.int x] h = some (.inl (some (.int x)), h) := pR_E rfl rfl
-- 233 BalloonStall$Figure holds (I)Z
theorem eX24_holds : pCa 233 d [.ref o, .int x0] h = pR 233 d 0 [.ref o, .int x0] [] h := rfl
theorem rX24_holds_0 : pR 233 d 0 [.ref o, a1] st h = pR 233 d 1 [.ref o, a1] (.ref o :: st) h := pR_L rfl rfl
theorem rX24_holds_1 : pR 233 d 1 ls (.ref o :: st) h = if pis (pfl h 24 o 5) = true then pR 233 d 4 ls (pfl h 24 o 5 :: st) h else none := r_get rfl
theorem rX24_holds_4 : pR 233 d 4 [.ref o, a1] st h = pR 233 d 5 [.ref o, a1] (.ref o :: st) h := pR_L rfl rfl
theorem rX24_holds_5 : pR 233 d 5 ls (.ref o :: st) h = if pis (pfl h 24 o 1) = true then pR 233 d 8 ls (pfl h 24 o 1 :: st) h else none := r_get rfl
theorem rX24_holds_8 : pR 233 d 8 [a0, .int x] st h = pR 233 d 9 [a0, .int x] (.int x :: st) h := pR_L rfl rfl
theorem rX24_holds_9 : pR 233 d 9 ls (.int x :: .ref o :: st) h = if (pin x (pln h 0 o) || pin x (pln h 9 o)) = true then pR 233 d 10 ls (.int (pct h o x.toNatClampNeg) :: st) h else none := pR_Lif rfl rfl
theorem rX24_holds_10 : pR 233 d 10 ls (.int x :: .ref o :: st) h = if (pin x (pln h 0 o) || pin x (pln h 9 o)) = true then pR 233 d 11 ls (.int (pct h o x.toNatClampNeg) :: st) h else none := pR_Lif rfl rfl
theorem rX24_holds_11 : pR 233 d 11 ls st h = pR 233 d 12 ls (.int 2 :: st) h := pR_L rfl rfl
theorem rX24_holds_12 : pR 233 d 12 ls (.int y :: .int x :: st) h = if y < x then pR 233 d 15 ls st h else pR 233 d 19 ls st h := r_cle rfl rfl
theorem rX24_holds_15 : pR 233 d 15 ls st h = pR 233 d 16 ls (.int 1 :: st) h := pR_L rfl rfl
theorem rX24_holds_16 : pR 233 d 16 ls st h = pR 233 d 20 ls st h := pR_L rfl rfl
theorem rX24_holds_19 : pR 233 d 19 ls st h = pR 233 d 20 ls (.int 0 :: st) h := pR_L rfl rfl
theorem rX24_holds_200 : pR 233 d 20 ls [.int 0] h = some (.inl (some (.int 0)), h) := pR_E rfl rfl
theorem rX24_holds_201 : pR 233 d 20 ls [.int 1] h = some (.inl (some (.int 1)), h) := pR_E rfl rfl
-- 234 BalloonStall$Figure odd ()I
theorem eX24_odd : pCa 234 d [.ref o] h = pR 234 d 0 [.ref o, pU, pU] [] h := rfl
theorem rX24_odd_0 : pR 234 d 0 ls st h = pR 234 d 1 ls (.int 0 :: st) h := pR_L rfl rfl
theorem rX24_odd_1 : pR 234 d 1 [a0, a1, a2] (.int x :: st) h = if p1 a1 = true then pR 234 d 2 [a0, .int x, a2] st h else none := r_sto (n := 1) (k := 1) (v := .int x) (ls := [a0, a1, a2]) rfl rfl rfl
theorem rX24_odd_2 : pR 234 d 2 ls st h = pR 234 d 3 ls (.int 0 :: st) h := pR_L rfl rfl
theorem rX24_odd_3 : pR 234 d 3 [a0, a1, a2] (.int x :: st) h = if p1 a2 = true then pR 234 d 4 [a0, a1, .int x] st h else none := r_sto (n := 1) (k := 2) (v := .int x) (ls := [a0, a1, a2]) rfl rfl rfl
theorem rX24_odd_4 : pR 234 d 4 [a0, a1, .int x] st h = pR 234 d 5 [a0, a1, .int x] (.int x :: st) h := pR_L rfl rfl
theorem rX24_odd_5 : pR 234 d 5 [.ref o, a1, a2] st h = pR 234 d 6 [.ref o, a1, a2] (.ref o :: st) h := pR_L rfl rfl
theorem rX24_odd_6 : pR 234 d 6 ls (.ref o :: st) h = if pis (pfl h 24 o 8) = true then pR 234 d 9 ls (pfl h 24 o 8 :: st) h else none := r_get rfl
theorem rX24_odd_9 : pR 234 d 9 ls (.int y :: .int x :: st) h = if x < y then pR 234 d 12 ls st h else pR 234 d 29 ls st h := r_cge rfl rfl
theorem rX24_odd_12 : pR 234 d 12 [a0, .int x, a2] st h = pR 234 d 13 [a0, .int x, a2] (.int x :: st) h := pR_L rfl rfl
theorem rX24_odd_13 : pR 234 d 13 [.ref o, a1, a2] st h = pR 234 d 14 [.ref o, a1, a2] (.ref o :: st) h := pR_L rfl rfl
theorem rX24_odd_14 : pR 234 d 14 ls (.ref o :: st) h = if pis (pfl h 24 o 5) = true then pR 234 d 17 ls (pfl h 24 o 5 :: st) h else none := r_get rfl
theorem rX24_odd_17 : pR 234 d 17 [a0, a1, .int x] st h = pR 234 d 18 [a0, a1, .int x] (.int x :: st) h := pR_L rfl rfl
theorem rX24_odd_18 : pR 234 d 18 ls (.int x :: .ref o :: st) h = if (pin x (pln h 0 o) || pin x (pln h 9 o)) = true then pR 234 d 19 ls (.int (pct h o x.toNatClampNeg) :: st) h else none := pR_Lif rfl rfl
theorem rX24_odd_19 : pR 234 d 19 ls st h = pR 234 d 20 ls (.int 2 :: st) h := pR_L rfl rfl
theorem rX24_odd_20 : pR 234 d 20 ls (.int y :: .int x :: st) h = if y = 0 then none else pR 234 d 21 ls (.int (x - x / y * y) :: st) h := r_rem rfl
theorem rX24_odd_21 : pR 234 d 21 ls (.int y :: .int x :: st) h = pR 234 d 22 ls (.int (x + y) :: st) h := pR_L rfl rfl
theorem rX24_odd_22 : pR 234 d 22 [a0, a1, a2] (.int x :: st) h = if p1 a1 = true then pR 234 d 23 [a0, .int x, a2] st h else none := r_sto (n := 1) (k := 1) (v := .int x) (ls := [a0, a1, a2]) rfl rfl rfl
theorem rX24_odd_23 : pR 234 d 23 [a0, a1, .int x] st h = pR 234 d 26 [a0, a1, .int (x + 1)] st h := pR_L rfl rfl
theorem rX24_odd_26 : pR 234 d 26 ls st h = pR 234 d 4 ls st h := pR_L rfl rfl
theorem rX24_odd_29 : pR 234 d 29 [a0, .int x, a2] st h = pR 234 d 30 [a0, .int x, a2] (.int x :: st) h := pR_L rfl rfl
theorem rX24_odd_30 : pR 234 d 30 ls [.int x] h = some (.inl (some (.int x)), h) := pR_E rfl rfl
-- 235 BalloonStall$Figure needs (IILBalloonStall$Sort;)I
theorem eX24_needs : pCa 235 d [.ref o, .int x0, .int x1, .ref r2] h = pR 235 d 0 [.ref o, .int x0, .int x1, .ref r2, pU, pU, pU] [] h := rfl
theorem rX24_needs_0 : pR 235 d 0 ls st h = pR 235 d 1 ls (.int 0 :: st) h := pR_L rfl rfl
theorem rX24_needs_1 : pR 235 d 1 [a0, a1, a2, a3, a4, a5, a6] (.int x :: st) h = if p1 a4 = true then pR 235 d 3 [a0, a1, a2, a3, .int x, a5, a6] st h else none := r_sto (n := 2) (k := 4) (v := .int x) (ls := [a0, a1, a2, a3, a4, a5, a6]) rfl rfl rfl
theorem rX24_needs_3 : pR 235 d 3 ls st h = pR 235 d 4 ls (.int 0 :: st) h := pR_L rfl rfl
theorem rX24_needs_4 : pR 235 d 4 [a0, a1, a2, a3, a4, a5, a6] (.int x :: st) h = if p1 a5 = true then pR 235 d 6 [a0, a1, a2, a3, a4, .int x, a6] st h else none := r_sto (n := 2) (k := 5) (v := .int x) (ls := [a0, a1, a2, a3, a4, a5, a6]) rfl rfl rfl
theorem rX24_needs_6 : pR 235 d 6 ls st h = pR 235 d 7 ls (.int 0 :: st) h := pR_L rfl rfl
theorem rX24_needs_7 : pR 235 d 7 [a0, a1, a2, a3, a4, a5, a6] (.int x :: st) h = if p1 a6 = true then pR 235 d 9 [a0, a1, a2, a3, a4, a5, .int x] st h else none := r_sto (n := 2) (k := 6) (v := .int x) (ls := [a0, a1, a2, a3, a4, a5, a6]) rfl rfl rfl
theorem rX24_needs_9 : pR 235 d 9 [a0, a1, a2, a3, a4, a5, .int x] st h = pR 235 d 11 [a0, a1, a2, a3, a4, a5, .int x] (.int x :: st) h := pR_L rfl rfl
theorem rX24_needs_11 : pR 235 d 11 [a0, a1, .int x, a3, a4, a5, a6] st h = pR 235 d 12 [a0, a1, .int x, a3, a4, a5, a6] (.int x :: st) h := pR_L rfl rfl
theorem rX24_needs_12 : pR 235 d 12 ls (.int y :: .int x :: st) h = if y < x then pR 235 d 50 ls st h else pR 235 d 15 ls st h := r_cgt rfl rfl
theorem rX24_needs_15 : pR 235 d 15 [.ref o, a1, a2, a3, a4, a5, a6] st h = pR 235 d 16 [.ref o, a1, a2, a3, a4, a5, a6] (.ref o :: st) h := pR_L rfl rfl
theorem rX24_needs_16 : pR 235 d 16 ls (.ref o :: st) h = if pis (pfl h 24 o 3) = true then pR 235 d 19 ls (pfl h 24 o 3 :: st) h else none := r_get rfl
theorem rX24_needs_19 : pR 235 d 19 [a0, a1, a2, a3, a4, a5, .int x] st h = pR 235 d 21 [a0, a1, a2, a3, a4, a5, .int x] (.int x :: st) h := pR_L rfl rfl
theorem rX24_needs_21 : pR 235 d 21 ls (.int x :: .ref o :: st) h = if (pin x (pln h 0 o) || pin x (pln h 9 o)) = true then pR 235 d 22 ls (.int (pct h o x.toNatClampNeg) :: st) h else none := pR_Lif rfl rfl
theorem rX24_needs_22 : pR 235 d 22 [a0, .int x, a2, a3, a4, a5, a6] st h = pR 235 d 23 [a0, .int x, a2, a3, a4, a5, a6] (.int x :: st) h := pR_L rfl rfl
theorem rX24_needs_23 : pR 235 d 23 ls (.int y :: .int x :: st) h = if x = y then pR 235 d 29 ls st h else pR 235 d 26 ls st h := r_ceq rfl rfl
theorem rX24_needs_26 : pR 235 d 26 ls st h = pR 235 d 44 ls st h := pR_L rfl rfl
theorem rX24_needs_29 : pR 235 d 29 [a0, a1, a2, a3, .int x, a5, a6] st h = pR 235 d 32 [a0, a1, a2, a3, .int (x + 1), a5, a6] st h := pR_L rfl rfl
theorem rX24_needs_32 : pR 235 d 32 [a0, a1, a2, a3, a4, .int x, a6] st h = pR 235 d 34 [a0, a1, a2, a3, a4, .int x, a6] (.int x :: st) h := pR_L rfl rfl
theorem rX24_needs_34 : pR 235 d 34 [.ref o, a1, a2, a3, a4, a5, a6] st h = pR 235 d 35 [.ref o, a1, a2, a3, a4, a5, a6] (.ref o :: st) h := pR_L rfl rfl
theorem rX24_needs_35 : pR 235 d 35 ls (.ref o :: st) h = if pis (pfl h 24 o 2) = true then pR 235 d 38 ls (pfl h 24 o 2 :: st) h else none := r_get rfl
theorem rX24_needs_38 : pR 235 d 38 [a0, a1, a2, a3, a4, a5, .int x] st h = pR 235 d 40 [a0, a1, a2, a3, a4, a5, .int x] (.int x :: st) h := pR_L rfl rfl
theorem rX24_needs_40 : pR 235 d 40 ls (.int x :: .ref o :: st) h = if (pin x (pln h 0 o) || pin x (pln h 9 o)) = true then pR 235 d 41 ls (.int (pct h o x.toNatClampNeg) :: st) h else none := pR_Lif rfl rfl
theorem rX24_needs_41 : pR 235 d 41 ls (.int y :: .int x :: st) h = pR 235 d 42 ls (.int (x + y) :: st) h := pR_L rfl rfl
theorem rX24_needs_42 : pR 235 d 42 [a0, a1, a2, a3, a4, a5, a6] (.int x :: st) h = if p1 a5 = true then pR 235 d 44 [a0, a1, a2, a3, a4, .int x, a6] st h else none := r_sto (n := 2) (k := 5) (v := .int x) (ls := [a0, a1, a2, a3, a4, a5, a6]) rfl rfl rfl
theorem rX24_needs_44 : pR 235 d 44 [a0, a1, a2, a3, a4, a5, .int x] st h = pR 235 d 47 [a0, a1, a2, a3, a4, a5, .int (x + 1)] st h := pR_L rfl rfl
theorem rX24_needs_47 : pR 235 d 47 ls st h = pR 235 d 9 ls st h := pR_L rfl rfl
theorem rX24_needs_50 : pR 235 d 50 [a0, a1, a2, a3, a4, .int x, a6] st h = pR 235 d 52 [a0, a1, a2, a3, a4, .int x, a6] (.int x :: st) h := pR_L rfl rfl
theorem rX24_needs_52 : pR 235 d 52 [a0, a1, a2, .ref o, a4, a5, a6] st h = pR 235 d 53 [a0, a1, a2, .ref o, a4, a5, a6] (.ref o :: st) h := pR_L rfl rfl
theorem rX24_needs_52n : pR 235 d 52 [a0, a1, a2, .null, a4, a5, a6] st h = pR 235 d 53 [a0, a1, a2, .null, a4, a5, a6] (.null :: st) h := pR_L rfl rfl
theorem rX24_needs_53 : pR 235 d 53 [a0, a1, a2, a3, .int x, a5, a6] st h = pR 235 d 55 [a0, a1, a2, a3, .int x, a5, a6] (.int x :: st) h := pR_L rfl rfl
theorem rX24_needs_55 : pR 235 (d + 1) 55 ls (b1 :: .ref o :: st) h = if (pok 4 (pcl h o) && pw st) = true then pK 235 (d + 1) 55 3 ls st (pCa 169 d [.ref o, b1] h) else none := r_callV rfl rfl rfl
theorem rX24_needs_58 : pR 235 d 58 ls (.int y :: .int x :: st) h = pR 235 d 59 ls (.int (x + y) :: st) h := pR_L rfl rfl
theorem rX24_needs_59 : pR 235 d 59 ls [.int x] h = some (.inl (some (.int x)), h) := pR_E rfl rfl
-- 236 BalloonStall$Figure lost (I)I
theorem eX24_lost : pCa 236 d [.ref o, .int x0] h = pR 236 d 0 [.ref o, .int x0] [] h := rfl
theorem rX24_lost_0 : pR 236 d 0 [.ref o, a1] st h = pR 236 d 1 [.ref o, a1] (.ref o :: st) h := pR_L rfl rfl
theorem rX24_lost_1 : pR 236 d 1 ls st h = pR 236 d 2 ls (.int 1 :: st) h := pR_L rfl rfl
theorem rX24_lost_2 : pR 236 d 2 [a0, .int x] st h = pR 236 d 3 [a0, .int x] (.int x :: st) h := pR_L rfl rfl
theorem rX24_lost_3 : pR 236 d 3 ls (.int y :: .int x :: st) h = pR 236 d 4 ls (.int (x <<< (y &&& 31)) :: st) h := pR_L rfl rfl
theorem rX24_lost_4 : pR 236 (d + 1) 4 ls (b1 :: .ref o :: st) h = if (pok 24 (pcl h o) && pw st) = true then pK 236 (d + 1) 4 3 ls st (pCa 237 d [.ref o, b1] h) else none := r_callV rfl rfl rfl
theorem rX24_lost_7 : pR 236 d 7 ls [.int x] h = some (.inl (some (.int x)), h) := pR_E rfl rfl
-- 237 BalloonStall$Figure lostWith (I)I
theorem eX24_lostWith : pCa 237 d [.ref o, .int x0] h = pR 237 d 0 [.ref o, .int x0, pU, pU, pU] [] h := rfl
theorem rX24_lostWith_0 : pR 237 d 0 [a0, .int x, a2, a3, a4] st h = pR 237 d 1 [a0, .int x, a2, a3, a4] (.int x :: st) h := pR_L rfl rfl
theorem rX24_lostWith_1 : pR 237 d 1 [a0, a1, a2, a3, a4] (.int x :: st) h = if p1 a2 = true then pR 237 d 2 [a0, a1, .int x, a3, a4] st h else none := r_sto (n := 1) (k := 2) (v := .int x) (ls := [a0, a1, a2, a3, a4]) rfl rfl rfl
theorem rX24_lostWith_2 : pR 237 d 2 [a0, .int x, a2, a3, a4] st h = pR 237 d 3 [a0, .int x, a2, a3, a4] (.int x :: st) h := pR_L rfl rfl
theorem rX24_lostWith_3 : pR 237 d 3 ls st h = pR 237 d 4 ls (.int (-1) :: st) h := pR_L rfl rfl
theorem rX24_lostWith_4 : pR 237 d 4 ls (.int y :: .int x :: st) h = pR 237 d 5 ls (.int (x ^^^ y) :: st) h := pR_L rfl rfl
theorem rX24_lostWith_5 : pR 237 d 5 [a0, a1, a2, a3, a4] (.int x :: st) h = if p1 a3 = true then pR 237 d 6 [a0, a1, a2, .int x, a4] st h else none := r_sto (n := 1) (k := 3) (v := .int x) (ls := [a0, a1, a2, a3, a4]) rfl rfl rfl
theorem rX24_lostWith_6 : pR 237 d 6 [a0, a1, a2, .int x, a4] st h = pR 237 d 7 [a0, a1, a2, .int x, a4] (.int x :: st) h := pR_L rfl rfl
theorem rX24_lostWith_7 : pR 237 d 7 [a0, a1, .int x, a3, a4] st h = pR 237 d 8 [a0, a1, .int x, a3, a4] (.int x :: st) h := pR_L rfl rfl
theorem rX24_lostWith_8 : pR 237 d 8 ls (.int y :: .int x :: st) h = if x = y then pR 237 d 86 ls st h else pR 237 d 11 ls st h := r_ceq rfl rfl
theorem rX24_lostWith_11 : pR 237 d 11 [a0, a1, .int x, a3, a4] st h = pR 237 d 12 [a0, a1, .int x, a3, a4] (.int x :: st) h := pR_L rfl rfl
theorem rX24_lostWith_12 : pR 237 d 12 [a0, a1, a2, a3, a4] (.int x :: st) h = if p1 a3 = true then pR 237 d 13 [a0, a1, a2, .int x, a4] st h else none := r_sto (n := 1) (k := 3) (v := .int x) (ls := [a0, a1, a2, a3, a4]) rfl rfl rfl
theorem rX24_lostWith_13 : pR 237 d 13 ls st h = pR 237 d 14 ls (.int 0 :: st) h := pR_L rfl rfl
theorem rX24_lostWith_14 : pR 237 d 14 [a0, a1, a2, a3, a4] (.int x :: st) h = if p1 a4 = true then pR 237 d 16 [a0, a1, a2, a3, .int x] st h else none := r_sto (n := 2) (k := 4) (v := .int x) (ls := [a0, a1, a2, a3, a4]) rfl rfl rfl
theorem rX24_lostWith_16 : pR 237 d 16 [a0, a1, a2, a3, .int x] st h = pR 237 d 18 [a0, a1, a2, a3, .int x] (.int x :: st) h := pR_L rfl rfl
theorem rX24_lostWith_18 : pR 237 d 18 [.ref o, a1, a2, a3, a4] st h = pR 237 d 19 [.ref o, a1, a2, a3, a4] (.ref o :: st) h := pR_L rfl rfl
theorem rX24_lostWith_19 : pR 237 d 19 ls (.ref o :: st) h = if pis (pfl h 24 o 6) = true then pR 237 d 22 ls (pfl h 24 o 6 :: st) h else none := r_get rfl
theorem rX24_lostWith_22 : pR 237 d 22 ls (.int y :: .int x :: st) h = if x < y then pR 237 d 25 ls st h else pR 237 d 83 ls st h := r_cge rfl rfl
theorem rX24_lostWith_25 : pR 237 d 25 [.ref o, a1, a2, a3, a4] st h = pR 237 d 26 [.ref o, a1, a2, a3, a4] (.ref o :: st) h := pR_L rfl rfl
theorem rX24_lostWith_26 : pR 237 d 26 [a0, a1, a2, a3, .int x] st h = pR 237 d 28 [a0, a1, a2, a3, .int x] (.int x :: st) h := pR_L rfl rfl
theorem rX24_lostWith_28 : pR 237 (d + 1) 28 ls (b1 :: .ref o :: st) h = if (pok 24 (pcl h o) && pw st) = true then pK 237 (d + 1) 28 3 ls st (pCa 231 d [.ref o, b1] h) else none := r_callV rfl rfl rfl
theorem rX24_lostWith_31 : pR 237 d 31 ls (.int x :: st) h = if x = 0 then pR 237 d 77 ls st h else pR 237 d 34 ls st h := r_ieq rfl rfl
theorem rX24_lostWith_34 : pR 237 d 34 [a0, a1, .int x, a3, a4] st h = pR 237 d 35 [a0, a1, .int x, a3, a4] (.int x :: st) h := pR_L rfl rfl
theorem rX24_lostWith_35 : pR 237 d 35 [a0, a1, a2, a3, .int x] st h = pR 237 d 37 [a0, a1, a2, a3, .int x] (.int x :: st) h := pR_L rfl rfl
theorem rX24_lostWith_37 : pR 237 d 37 ls (.int y :: .int x :: st) h = pR 237 d 38 ls (.int (x >>> (y &&& 31)) :: st) h := pR_L rfl rfl
theorem rX24_lostWith_38 : pR 237 d 38 ls st h = pR 237 d 39 ls (.int 1 :: st) h := pR_L rfl rfl
theorem rX24_lostWith_39 : pR 237 d 39 ls (.int y :: .int x :: st) h = pR 237 d 40 ls (.int (x &&& y) :: st) h := pR_L rfl rfl
theorem rX24_lostWith_40 : pR 237 d 40 [a0, a1, .int x, a3, a4] st h = pR 237 d 41 [a0, a1, .int x, a3, a4] (.int x :: st) h := pR_L rfl rfl
theorem rX24_lostWith_41 : pR 237 d 41 [a0, a1, a2, a3, .int x] st h = pR 237 d 43 [a0, a1, a2, a3, .int x] (.int x :: st) h := pR_L rfl rfl
theorem rX24_lostWith_43 : pR 237 d 43 ls st h = pR 237 d 44 ls (.int 1 :: st) h := pR_L rfl rfl
theorem rX24_lostWith_44 : pR 237 d 44 ls (.int y :: .int x :: st) h = pR 237 d 45 ls (.int (x + y) :: st) h := pR_L rfl rfl
theorem rX24_lostWith_45 : pR 237 d 45 ls (.int y :: .int x :: st) h = pR 237 d 46 ls (.int (x >>> (y &&& 31)) :: st) h := pR_L rfl rfl
theorem rX24_lostWith_46 : pR 237 d 46 ls st h = pR 237 d 47 ls (.int 1 :: st) h := pR_L rfl rfl
theorem rX24_lostWith_47 : pR 237 d 47 ls (.int y :: .int x :: st) h = pR 237 d 48 ls (.int (x &&& y) :: st) h := pR_L rfl rfl
theorem rX24_lostWith_48 : pR 237 d 48 ls (.int y :: .int x :: st) h = if x = y then pR 237 d 77 ls st h else pR 237 d 51 ls st h := r_ceq rfl rfl
theorem rX24_lostWith_51 : pR 237 d 51 [.ref o, a1, a2, a3, a4] st h = pR 237 d 52 [.ref o, a1, a2, a3, a4] (.ref o :: st) h := pR_L rfl rfl
theorem rX24_lostWith_52 : pR 237 d 52 [a0, a1, .int x, a3, a4] st h = pR 237 d 53 [a0, a1, .int x, a3, a4] (.int x :: st) h := pR_L rfl rfl
theorem rX24_lostWith_53 : pR 237 d 53 [.ref o, a1, a2, a3, a4] st h = pR 237 d 54 [.ref o, a1, a2, a3, a4] (.ref o :: st) h := pR_L rfl rfl
theorem rX24_lostWith_54 : pR 237 d 54 ls (.ref o :: st) h = if pis (pfl h 24 o 1) = true then pR 237 d 57 ls (pfl h 24 o 1 :: st) h else none := r_get rfl
theorem rX24_lostWith_57 : pR 237 d 57 [a0, a1, a2, a3, .int x] st h = pR 237 d 59 [a0, a1, a2, a3, .int x] (.int x :: st) h := pR_L rfl rfl
theorem rX24_lostWith_59 : pR 237 d 59 ls (.int x :: .ref o :: st) h = if (pin x (pln h 0 o) || pin x (pln h 9 o)) = true then pR 237 d 60 ls (.int (pct h o x.toNatClampNeg) :: st) h else none := pR_Lif rfl rfl
theorem rX24_lostWith_60 : pR 237 (d + 1) 60 ls (b2 :: b1 :: .ref o :: st) h = if (pok 24 (pcl h o) && pw st) = true then pK 237 (d + 1) 60 3 ls st (pCa 238 d [.ref o, b1, b2] h) else none := r_callV rfl rfl rfl
theorem rX24_lostWith_63 : pR 237 d 63 ls st h = pR 237 d 64 ls (.int 2 :: st) h := pR_L rfl rfl
theorem rX24_lostWith_64 : pR 237 d 64 ls (.int y :: .int x :: st) h = if y < x then pR 237 d 67 ls st h else pR 237 d 70 ls st h := r_cle rfl rfl
theorem rX24_lostWith_67 : pR 237 d 67 ls st h = pR 237 d 77 ls st h := pR_L rfl rfl
theorem rX24_lostWith_70 : pR 237 d 70 [a0, a1, .int x, a3, a4] st h = pR 237 d 71 [a0, a1, .int x, a3, a4] (.int x :: st) h := pR_L rfl rfl
theorem rX24_lostWith_71 : pR 237 d 71 ls st h = pR 237 d 72 ls (.int 3 :: st) h := pR_L rfl rfl
theorem rX24_lostWith_72 : pR 237 d 72 [a0, a1, a2, a3, .int x] st h = pR 237 d 74 [a0, a1, a2, a3, .int x] (.int x :: st) h := pR_L rfl rfl
theorem rX24_lostWith_74 : pR 237 d 74 ls (.int y :: .int x :: st) h = pR 237 d 75 ls (.int (x <<< (y &&& 31)) :: st) h := pR_L rfl rfl
theorem rX24_lostWith_75 : pR 237 d 75 ls (.int y :: .int x :: st) h = pR 237 d 76 ls (.int (x ||| y) :: st) h := pR_L rfl rfl
theorem rX24_lostWith_76 : pR 237 d 76 [a0, a1, a2, a3, a4] (.int x :: st) h = if p1 a2 = true then pR 237 d 77 [a0, a1, .int x, a3, a4] st h else none := r_sto (n := 1) (k := 2) (v := .int x) (ls := [a0, a1, a2, a3, a4]) rfl rfl rfl
theorem rX24_lostWith_77 : pR 237 d 77 [a0, a1, a2, a3, .int x] st h = pR 237 d 80 [a0, a1, a2, a3, .int (x + 1)] st h := pR_L rfl rfl
theorem rX24_lostWith_80 : pR 237 d 80 ls st h = pR 237 d 16 ls st h := pR_L rfl rfl
theorem rX24_lostWith_83 : pR 237 d 83 ls st h = pR 237 d 6 ls st h := pR_L rfl rfl
theorem rX24_lostWith_86 : pR 237 d 86 [a0, a1, .int x, a3, a4] st h = pR 237 d 87 [a0, a1, .int x, a3, a4] (.int x :: st) h := pR_L rfl rfl
theorem rX24_lostWith_87 : pR 237 d 87 ls [.int x] h = some (.inl (some (.int x)), h) := pR_E rfl rfl
-- 238 BalloonStall$Figure left (II)I
theorem eX24_left : pCa 238 d [.ref o, .int x0, .int x1] h = pR 238 d 0 [.ref o, .int x0, .int x1, pU, pU] [] h := rfl
theorem rX24_left_0 : pR 238 d 0 ls st h = pR 238 d 1 ls (.int 0 :: st) h := pR_L rfl rfl
theorem rX24_left_1 : pR 238 d 1 [a0, a1, a2, a3, a4] (.int x :: st) h = if p1 a3 = true then pR 238 d 2 [a0, a1, a2, .int x, a4] st h else none := r_sto (n := 1) (k := 3) (v := .int x) (ls := [a0, a1, a2, a3, a4]) rfl rfl rfl
theorem rX24_left_2 : pR 238 d 2 ls st h = pR 238 d 3 ls (.int 0 :: st) h := pR_L rfl rfl
theorem rX24_left_3 : pR 238 d 3 [a0, a1, a2, a3, a4] (.int x :: st) h = if p1 a4 = true then pR 238 d 5 [a0, a1, a2, a3, .int x] st h else none := r_sto (n := 2) (k := 4) (v := .int x) (ls := [a0, a1, a2, a3, a4]) rfl rfl rfl
theorem rX24_left_5 : pR 238 d 5 [a0, a1, a2, a3, .int x] st h = pR 238 d 7 [a0, a1, a2, a3, .int x] (.int x :: st) h := pR_L rfl rfl
theorem rX24_left_7 : pR 238 d 7 [.ref o, a1, a2, a3, a4] st h = pR 238 d 8 [.ref o, a1, a2, a3, a4] (.ref o :: st) h := pR_L rfl rfl
theorem rX24_left_8 : pR 238 d 8 ls (.ref o :: st) h = if pis (pfl h 24 o 6) = true then pR 238 d 11 ls (pfl h 24 o 6 :: st) h else none := r_get rfl
theorem rX24_left_11 : pR 238 d 11 ls (.int y :: .int x :: st) h = if x < y then pR 238 d 14 ls st h else pR 238 d 65 ls st h := r_cge rfl rfl
theorem rX24_left_14 : pR 238 d 14 [a0, .int x, a2, a3, a4] st h = pR 238 d 15 [a0, .int x, a2, a3, a4] (.int x :: st) h := pR_L rfl rfl
theorem rX24_left_15 : pR 238 d 15 [a0, a1, a2, a3, .int x] st h = pR 238 d 17 [a0, a1, a2, a3, .int x] (.int x :: st) h := pR_L rfl rfl
theorem rX24_left_17 : pR 238 d 17 ls (.int y :: .int x :: st) h = pR 238 d 18 ls (.int (x >>> (y &&& 31)) :: st) h := pR_L rfl rfl
theorem rX24_left_18 : pR 238 d 18 ls st h = pR 238 d 19 ls (.int 1 :: st) h := pR_L rfl rfl
theorem rX24_left_19 : pR 238 d 19 ls (.int y :: .int x :: st) h = pR 238 d 20 ls (.int (x &&& y) :: st) h := pR_L rfl rfl
theorem rX24_left_20 : pR 238 d 20 ls (.int x :: st) h = if x = 0 then pR 238 d 23 ls st h else pR 238 d 59 ls st h := r_ine rfl rfl
theorem rX24_left_23 : pR 238 d 23 [a0, a1, a2, .int x, a4] st h = pR 238 d 24 [a0, a1, a2, .int x, a4] (.int x :: st) h := pR_L rfl rfl
theorem rX24_left_24 : pR 238 d 24 [.ref o, a1, a2, a3, a4] st h = pR 238 d 25 [.ref o, a1, a2, a3, a4] (.ref o :: st) h := pR_L rfl rfl
theorem rX24_left_25 : pR 238 d 25 ls (.ref o :: st) h = if pis (pfl h 24 o 0) = true then pR 238 d 28 ls (pfl h 24 o 0 :: st) h else none := r_get rfl
theorem rX24_left_28 : pR 238 d 28 [a0, a1, a2, a3, .int x] st h = pR 238 d 30 [a0, a1, a2, a3, .int x] (.int x :: st) h := pR_L rfl rfl
theorem rX24_left_30 : pR 238 d 30 ls (.int x :: .ref o :: st) h = if (pin x (pln h 0 o) || pin x (pln h 9 o)) = true then pR 238 d 31 ls (.int (pct h o x.toNatClampNeg) :: st) h else none := pR_Lif rfl rfl
theorem rX24_left_31 : pR 238 d 31 [a0, a1, .int x, a3, a4] st h = pR 238 d 32 [a0, a1, .int x, a3, a4] (.int x :: st) h := pR_L rfl rfl
theorem rX24_left_32 : pR 238 d 32 ls (.int y :: .int x :: st) h = if x = y then pR 238 d 35 ls st h else pR 238 d 39 ls st h := r_cne rfl rfl
theorem rX24_left_35 : pR 238 d 35 ls st h = pR 238 d 36 ls (.int 1 :: st) h := pR_L rfl rfl
theorem rX24_left_36 : pR 238 d 36 ls st h = pR 238 d 40 ls st h := pR_L rfl rfl
theorem rX24_left_39 : pR 238 d 39 ls st h = pR 238 d 40 ls (.int 0 :: st) h := pR_L rfl rfl
theorem rX24_left_40 : pR 238 d 40 [.ref o, a1, a2, a3, a4] st h = pR 238 d 41 [.ref o, a1, a2, a3, a4] (.ref o :: st) h := pR_L rfl rfl
theorem rX24_left_41 : pR 238 d 41 ls (.ref o :: st) h = if pis (pfl h 24 o 1) = true then pR 238 d 44 ls (pfl h 24 o 1 :: st) h else none := r_get rfl
theorem rX24_left_44 : pR 238 d 44 [a0, a1, a2, a3, .int x] st h = pR 238 d 46 [a0, a1, a2, a3, .int x] (.int x :: st) h := pR_L rfl rfl
theorem rX24_left_46 : pR 238 d 46 ls (.int x :: .ref o :: st) h = if (pin x (pln h 0 o) || pin x (pln h 9 o)) = true then pR 238 d 47 ls (.int (pct h o x.toNatClampNeg) :: st) h else none := pR_Lif rfl rfl
theorem rX24_left_47 : pR 238 d 47 [a0, a1, .int x, a3, a4] st h = pR 238 d 48 [a0, a1, .int x, a3, a4] (.int x :: st) h := pR_L rfl rfl
theorem rX24_left_48 : pR 238 d 48 ls (.int y :: .int x :: st) h = if x = y then pR 238 d 51 ls st h else pR 238 d 55 ls st h := r_cne rfl rfl
theorem rX24_left_51 : pR 238 d 51 ls st h = pR 238 d 52 ls (.int 1 :: st) h := pR_L rfl rfl
theorem rX24_left_52 : pR 238 d 52 ls st h = pR 238 d 56 ls st h := pR_L rfl rfl
theorem rX24_left_55 : pR 238 d 55 ls st h = pR 238 d 56 ls (.int 0 :: st) h := pR_L rfl rfl
theorem rX24_left_56 : pR 238 d 56 ls (.int y :: .int x :: st) h = pR 238 d 57 ls (.int (x + y) :: st) h := pR_L rfl rfl
theorem rX24_left_57 : pR 238 d 57 ls (.int y :: .int x :: st) h = pR 238 d 58 ls (.int (x + y) :: st) h := pR_L rfl rfl
theorem rX24_left_58 : pR 238 d 58 [a0, a1, a2, a3, a4] (.int x :: st) h = if p1 a3 = true then pR 238 d 59 [a0, a1, a2, .int x, a4] st h else none := r_sto (n := 1) (k := 3) (v := .int x) (ls := [a0, a1, a2, a3, a4]) rfl rfl rfl
theorem rX24_left_59 : pR 238 d 59 [a0, a1, a2, a3, .int x] st h = pR 238 d 62 [a0, a1, a2, a3, .int (x + 1)] st h := pR_L rfl rfl
theorem rX24_left_62 : pR 238 d 62 ls st h = pR 238 d 5 ls st h := pR_L rfl rfl
theorem rX24_left_65 : pR 238 d 65 [a0, a1, a2, .int x, a4] st h = pR 238 d 66 [a0, a1, a2, .int x, a4] (.int x :: st) h := pR_L rfl rfl
theorem rX24_left_66 : pR 238 d 66 ls [.int x] h = some (.inl (some (.int x)), h) := pR_E rfl rfl
-- 239 BalloonStall$Figure every ()I
theorem eX24_every : pCa 239 d [.ref o] h = pR 239 d 0 [.ref o] [] h := rfl
theorem rX24_every_0 : pR 239 d 0 ls st h = pR 239 d 1 ls (.int 1 :: st) h := pR_L rfl rfl
theorem rX24_every_1 : pR 239 d 1 [.ref o] st h = pR 239 d 2 [.ref o] (.ref o :: st) h := pR_L rfl rfl
theorem rX24_every_2 : pR 239 d 2 ls (.ref o :: st) h = if pis (pfl h 24 o 6) = true then pR 239 d 5 ls (pfl h 24 o 6 :: st) h else none := r_get rfl
theorem rX24_every_5 : pR 239 d 5 ls (.int y :: .int x :: st) h = pR 239 d 6 ls (.int (x <<< (y &&& 31)) :: st) h := pR_L rfl rfl
theorem rX24_every_6 : pR 239 d 6 ls st h = pR 239 d 7 ls (.int 1 :: st) h := pR_L rfl rfl
theorem rX24_every_7 : pR 239 d 7 ls (.int y :: .int x :: st) h = pR 239 d 8 ls (.int (x - y) :: st) h := pR_L rfl rfl
theorem rX24_every_8 : pR 239 d 8 ls [.int x] h = some (.inl (some (.int x)), h) := pR_E rfl rfl
-- 240 BalloonStall$Figure parts (I)I
theorem eX24_parts : pCa 240 d [.ref o, .int x0] h = pR 240 d 0 [.ref o, .int x0, pU, pU] [] h := rfl
theorem rX24_parts_0 : pR 240 d 0 ls st h = pR 240 d 1 ls (.int 0 :: st) h := pR_L rfl rfl
theorem rX24_parts_1 : pR 240 d 1 [a0, a1, a2, a3] (.int x :: st) h = if p1 a2 = true then pR 240 d 2 [a0, a1, .int x, a3] st h else none := r_sto (n := 1) (k := 2) (v := .int x) (ls := [a0, a1, a2, a3]) rfl rfl rfl
theorem rX24_parts_2 : pR 240 d 2 [a0, .int x, a2, a3] st h = pR 240 d 3 [a0, .int x, a2, a3] (.int x :: st) h := pR_L rfl rfl
theorem rX24_parts_3 : pR 240 d 3 [a0, a1, a2, a3] (.int x :: st) h = if p1 a3 = true then pR 240 d 4 [a0, a1, a2, .int x] st h else none := r_sto (n := 1) (k := 3) (v := .int x) (ls := [a0, a1, a2, a3]) rfl rfl rfl
theorem rX24_parts_4 : pR 240 d 4 [a0, a1, a2, .int x] st h = pR 240 d 5 [a0, a1, a2, .int x] (.int x :: st) h := pR_L rfl rfl
theorem rX24_parts_5 : pR 240 d 5 ls (.int x :: st) h = if x = 0 then pR 240 d 28 ls st h else pR 240 d 8 ls st h := r_ieq rfl rfl
theorem rX24_parts_8 : pR 240 d 8 [a0, a1, a2, .int x] st h = pR 240 d 9 [a0, a1, a2, .int x] (.int x :: st) h := pR_L rfl rfl
theorem rX24_parts_9 : pR 240 d 9 [.ref o, a1, a2, a3] st h = pR 240 d 10 [.ref o, a1, a2, a3] (.ref o :: st) h := pR_L rfl rfl
theorem rX24_parts_10 : pR 240 d 10 [a0, a1, a2, .int x] st h = pR 240 d 11 [a0, a1, a2, .int x] (.int x :: st) h := pR_L rfl rfl
theorem rX24_parts_11 : pR 240 d 11 [a0, a1, a2, .int x] st h = pR 240 d 12 [a0, a1, a2, .int x] (.int x :: st) h := pR_L rfl rfl
theorem rX24_parts_12 : pR 240 (d + 1) 12 ls (b0 :: st) h = if pw st = true then pK 240 (d + 1) 12 3 ls st (pCa 255 d [b0] h) else none := r_callS rfl rfl rfl
theorem rX24_parts_15 : pR 240 (d + 1) 15 ls (b2 :: b1 :: .ref o :: st) h = if (pok 24 (pcl h o) && pw st) = true then pK 240 (d + 1) 15 3 ls st (pCa 241 d [.ref o, b1, b2] h) else none := r_callV rfl rfl rfl
theorem rX24_parts_18 : pR 240 d 18 ls st h = pR 240 d 19 ls (.int (-1) :: st) h := pR_L rfl rfl
theorem rX24_parts_19 : pR 240 d 19 ls (.int y :: .int x :: st) h = pR 240 d 20 ls (.int (x ^^^ y) :: st) h := pR_L rfl rfl
theorem rX24_parts_20 : pR 240 d 20 ls (.int y :: .int x :: st) h = pR 240 d 21 ls (.int (x &&& y) :: st) h := pR_L rfl rfl
theorem rX24_parts_21 : pR 240 d 21 [a0, a1, a2, a3] (.int x :: st) h = if p1 a3 = true then pR 240 d 22 [a0, a1, a2, .int x] st h else none := r_sto (n := 1) (k := 3) (v := .int x) (ls := [a0, a1, a2, a3]) rfl rfl rfl
theorem rX24_parts_22 : pR 240 d 22 [a0, a1, .int x, a3] st h = pR 240 d 25 [a0, a1, .int (x + 1), a3] st h := pR_L rfl rfl
theorem rX24_parts_25 : pR 240 d 25 ls st h = pR 240 d 4 ls st h := pR_L rfl rfl
theorem rX24_parts_28 : pR 240 d 28 [a0, a1, .int x, a3] st h = pR 240 d 29 [a0, a1, .int x, a3] (.int x :: st) h := pR_L rfl rfl
theorem rX24_parts_29 : pR 240 d 29 ls [.int x] h = some (.inl (some (.int x)), h) := pR_E rfl rfl
-- 241 BalloonStall$Figure hang (II)I
theorem eX24_hang : pCa 241 d [.ref o, .int x0, .int x1] h = pR 241 d 0 [.ref o, .int x0, .int x1, pU, pU, pU, pU] [] h := rfl
theorem rX24_hang_0 : pR 241 d 0 ls st h = pR 241 d 1 ls (.int 1 :: st) h := pR_L rfl rfl
theorem rX24_hang_1 : pR 241 d 1 [a0, a1, .int x, a3, a4, a5, a6] st h = pR 241 d 2 [a0, a1, .int x, a3, a4, a5, a6] (.int x :: st) h := pR_L rfl rfl
theorem rX24_hang_2 : pR 241 d 2 ls (.int y :: .int x :: st) h = pR 241 d 3 ls (.int (x <<< (y &&& 31)) :: st) h := pR_L rfl rfl
theorem rX24_hang_3 : pR 241 d 3 [a0, a1, a2, a3, a4, a5, a6] (.int x :: st) h = if p1 a3 = true then pR 241 d 4 [a0, a1, a2, .int x, a4, a5, a6] st h else none := r_sto (n := 1) (k := 3) (v := .int x) (ls := [a0, a1, a2, a3, a4, a5, a6]) rfl rfl rfl
theorem rX24_hang_4 : pR 241 d 4 ls st h = pR 241 d 5 ls (.int 0 :: st) h := pR_L rfl rfl
theorem rX24_hang_5 : pR 241 d 5 [a0, a1, a2, a3, a4, a5, a6] (.int x :: st) h = if p1 a4 = true then pR 241 d 7 [a0, a1, a2, a3, .int x, a5, a6] st h else none := r_sto (n := 2) (k := 4) (v := .int x) (ls := [a0, a1, a2, a3, a4, a5, a6]) rfl rfl rfl
theorem rX24_hang_7 : pR 241 d 7 [a0, a1, a2, a3, .int x, a5, a6] st h = pR 241 d 9 [a0, a1, a2, a3, .int x, a5, a6] (.int x :: st) h := pR_L rfl rfl
theorem rX24_hang_9 : pR 241 d 9 [a0, a1, a2, .int x, a4, a5, a6] st h = pR 241 d 10 [a0, a1, a2, .int x, a4, a5, a6] (.int x :: st) h := pR_L rfl rfl
theorem rX24_hang_10 : pR 241 d 10 ls (.int y :: .int x :: st) h = if x = y then pR 241 d 105 ls st h else pR 241 d 13 ls st h := r_ceq rfl rfl
theorem rX24_hang_13 : pR 241 d 13 [a0, a1, a2, .int x, a4, a5, a6] st h = pR 241 d 14 [a0, a1, a2, .int x, a4, a5, a6] (.int x :: st) h := pR_L rfl rfl
theorem rX24_hang_14 : pR 241 d 14 [a0, a1, a2, a3, a4, a5, a6] (.int x :: st) h = if p1 a4 = true then pR 241 d 16 [a0, a1, a2, a3, .int x, a5, a6] st h else none := r_sto (n := 2) (k := 4) (v := .int x) (ls := [a0, a1, a2, a3, a4, a5, a6]) rfl rfl rfl
theorem rX24_hang_16 : pR 241 d 16 ls st h = pR 241 d 17 ls (.int 0 :: st) h := pR_L rfl rfl
theorem rX24_hang_17 : pR 241 d 17 [a0, a1, a2, a3, a4, a5, a6] (.int x :: st) h = if p1 a5 = true then pR 241 d 19 [a0, a1, a2, a3, a4, .int x, a6] st h else none := r_sto (n := 2) (k := 5) (v := .int x) (ls := [a0, a1, a2, a3, a4, a5, a6]) rfl rfl rfl
theorem rX24_hang_19 : pR 241 d 19 [a0, a1, a2, a3, a4, .int x, a6] st h = pR 241 d 21 [a0, a1, a2, a3, a4, .int x, a6] (.int x :: st) h := pR_L rfl rfl
theorem rX24_hang_21 : pR 241 d 21 [.ref o, a1, a2, a3, a4, a5, a6] st h = pR 241 d 22 [.ref o, a1, a2, a3, a4, a5, a6] (.ref o :: st) h := pR_L rfl rfl
theorem rX24_hang_22 : pR 241 d 22 ls (.ref o :: st) h = if pis (pfl h 24 o 6) = true then pR 241 d 25 ls (pfl h 24 o 6 :: st) h else none := r_get rfl
theorem rX24_hang_25 : pR 241 d 25 ls (.int y :: .int x :: st) h = if x < y then pR 241 d 28 ls st h else pR 241 d 102 ls st h := r_cge rfl rfl
theorem rX24_hang_28 : pR 241 d 28 [a0, .int x, a2, a3, a4, a5, a6] st h = pR 241 d 29 [a0, .int x, a2, a3, a4, a5, a6] (.int x :: st) h := pR_L rfl rfl
theorem rX24_hang_29 : pR 241 d 29 [a0, a1, a2, a3, a4, .int x, a6] st h = pR 241 d 31 [a0, a1, a2, a3, a4, .int x, a6] (.int x :: st) h := pR_L rfl rfl
theorem rX24_hang_31 : pR 241 d 31 ls (.int y :: .int x :: st) h = pR 241 d 32 ls (.int (x >>> (y &&& 31)) :: st) h := pR_L rfl rfl
theorem rX24_hang_32 : pR 241 d 32 ls st h = pR 241 d 33 ls (.int 1 :: st) h := pR_L rfl rfl
theorem rX24_hang_33 : pR 241 d 33 ls (.int y :: .int x :: st) h = pR 241 d 34 ls (.int (x &&& y) :: st) h := pR_L rfl rfl
theorem rX24_hang_34 : pR 241 d 34 ls (.int x :: st) h = if x = 0 then pR 241 d 96 ls st h else pR 241 d 37 ls st h := r_ieq rfl rfl
theorem rX24_hang_37 : pR 241 d 37 [a0, a1, a2, .int x, a4, a5, a6] st h = pR 241 d 38 [a0, a1, a2, .int x, a4, a5, a6] (.int x :: st) h := pR_L rfl rfl
theorem rX24_hang_38 : pR 241 d 38 [a0, a1, a2, a3, a4, .int x, a6] st h = pR 241 d 40 [a0, a1, a2, a3, a4, .int x, a6] (.int x :: st) h := pR_L rfl rfl
theorem rX24_hang_40 : pR 241 d 40 ls (.int y :: .int x :: st) h = pR 241 d 41 ls (.int (x >>> (y &&& 31)) :: st) h := pR_L rfl rfl
theorem rX24_hang_41 : pR 241 d 41 ls st h = pR 241 d 42 ls (.int 1 :: st) h := pR_L rfl rfl
theorem rX24_hang_42 : pR 241 d 42 ls (.int y :: .int x :: st) h = pR 241 d 43 ls (.int (x &&& y) :: st) h := pR_L rfl rfl
theorem rX24_hang_43 : pR 241 d 43 ls st h = pR 241 d 44 ls (.int 1 :: st) h := pR_L rfl rfl
theorem rX24_hang_44 : pR 241 d 44 ls (.int y :: .int x :: st) h = if x = y then pR 241 d 47 ls st h else pR 241 d 50 ls st h := r_cne rfl rfl
theorem rX24_hang_47 : pR 241 d 47 ls st h = pR 241 d 96 ls st h := pR_L rfl rfl
theorem rX24_hang_50 : pR 241 d 50 ls st h = pR 241 d 51 ls (.int 0 :: st) h := pR_L rfl rfl
theorem rX24_hang_51 : pR 241 d 51 [a0, a1, a2, a3, a4, a5, a6] (.int x :: st) h = if p1 a6 = true then pR 241 d 53 [a0, a1, a2, a3, a4, a5, .int x] st h else none := r_sto (n := 2) (k := 6) (v := .int x) (ls := [a0, a1, a2, a3, a4, a5, a6]) rfl rfl rfl
theorem rX24_hang_53 : pR 241 d 53 [a0, a1, a2, a3, a4, a5, .int x] st h = pR 241 d 55 [a0, a1, a2, a3, a4, a5, .int x] (.int x :: st) h := pR_L rfl rfl
theorem rX24_hang_55 : pR 241 d 55 [.ref o, a1, a2, a3, a4, a5, a6] st h = pR 241 d 56 [.ref o, a1, a2, a3, a4, a5, a6] (.ref o :: st) h := pR_L rfl rfl
theorem rX24_hang_56 : pR 241 d 56 ls (.ref o :: st) h = if pis (pfl h 24 o 6) = true then pR 241 d 59 ls (pfl h 24 o 6 :: st) h else none := r_get rfl
theorem rX24_hang_59 : pR 241 d 59 ls (.int y :: .int x :: st) h = if x < y then pR 241 d 62 ls st h else pR 241 d 96 ls st h := r_cge rfl rfl
theorem rX24_hang_62 : pR 241 d 62 [a0, a1, a2, .int x, a4, a5, a6] st h = pR 241 d 63 [a0, a1, a2, .int x, a4, a5, a6] (.int x :: st) h := pR_L rfl rfl
theorem rX24_hang_63 : pR 241 d 63 [a0, a1, a2, a3, a4, a5, .int x] st h = pR 241 d 65 [a0, a1, a2, a3, a4, a5, .int x] (.int x :: st) h := pR_L rfl rfl
theorem rX24_hang_65 : pR 241 d 65 ls (.int y :: .int x :: st) h = pR 241 d 66 ls (.int (x >>> (y &&& 31)) :: st) h := pR_L rfl rfl
theorem rX24_hang_66 : pR 241 d 66 ls st h = pR 241 d 67 ls (.int 1 :: st) h := pR_L rfl rfl
theorem rX24_hang_67 : pR 241 d 67 ls (.int y :: .int x :: st) h = pR 241 d 68 ls (.int (x &&& y) :: st) h := pR_L rfl rfl
theorem rX24_hang_68 : pR 241 d 68 ls st h = pR 241 d 69 ls (.int 1 :: st) h := pR_L rfl rfl
theorem rX24_hang_69 : pR 241 d 69 ls (.int y :: .int x :: st) h = if x = y then pR 241 d 72 ls st h else pR 241 d 90 ls st h := r_cne rfl rfl
theorem rX24_hang_72 : pR 241 d 72 [.ref o, a1, a2, a3, a4, a5, a6] st h = pR 241 d 73 [.ref o, a1, a2, a3, a4, a5, a6] (.ref o :: st) h := pR_L rfl rfl
theorem rX24_hang_73 : pR 241 d 73 [a0, a1, a2, a3, a4, .int x, a6] st h = pR 241 d 75 [a0, a1, a2, a3, a4, .int x, a6] (.int x :: st) h := pR_L rfl rfl
theorem rX24_hang_75 : pR 241 d 75 [a0, a1, a2, a3, a4, a5, .int x] st h = pR 241 d 77 [a0, a1, a2, a3, a4, a5, .int x] (.int x :: st) h := pR_L rfl rfl
theorem rX24_hang_77 : pR 241 (d + 1) 77 ls (b2 :: b1 :: .ref o :: st) h = if (pok 24 (pcl h o) && pw st) = true then pK 241 (d + 1) 77 3 ls st (pCa 242 d [.ref o, b1, b2] h) else none := r_callV rfl rfl rfl
theorem rX24_hang_80 : pR 241 d 80 ls (.int x :: st) h = if x = 0 then pR 241 d 90 ls st h else pR 241 d 83 ls st h := r_ieq rfl rfl
theorem rX24_hang_83 : pR 241 d 83 [a0, a1, a2, .int x, a4, a5, a6] st h = pR 241 d 84 [a0, a1, a2, .int x, a4, a5, a6] (.int x :: st) h := pR_L rfl rfl
theorem rX24_hang_84 : pR 241 d 84 ls st h = pR 241 d 85 ls (.int 1 :: st) h := pR_L rfl rfl
theorem rX24_hang_85 : pR 241 d 85 [a0, a1, a2, a3, a4, .int x, a6] st h = pR 241 d 87 [a0, a1, a2, a3, a4, .int x, a6] (.int x :: st) h := pR_L rfl rfl
theorem rX24_hang_87 : pR 241 d 87 ls (.int y :: .int x :: st) h = pR 241 d 88 ls (.int (x <<< (y &&& 31)) :: st) h := pR_L rfl rfl
theorem rX24_hang_88 : pR 241 d 88 ls (.int y :: .int x :: st) h = pR 241 d 89 ls (.int (x ||| y) :: st) h := pR_L rfl rfl
theorem rX24_hang_89 : pR 241 d 89 [a0, a1, a2, a3, a4, a5, a6] (.int x :: st) h = if p1 a3 = true then pR 241 d 90 [a0, a1, a2, .int x, a4, a5, a6] st h else none := r_sto (n := 1) (k := 3) (v := .int x) (ls := [a0, a1, a2, a3, a4, a5, a6]) rfl rfl rfl
theorem rX24_hang_90 : pR 241 d 90 [a0, a1, a2, a3, a4, a5, .int x] st h = pR 241 d 93 [a0, a1, a2, a3, a4, a5, .int (x + 1)] st h := pR_L rfl rfl
theorem rX24_hang_93 : pR 241 d 93 ls st h = pR 241 d 53 ls st h := pR_L rfl rfl
theorem rX24_hang_96 : pR 241 d 96 [a0, a1, a2, a3, a4, .int x, a6] st h = pR 241 d 99 [a0, a1, a2, a3, a4, .int (x + 1), a6] st h := pR_L rfl rfl
theorem rX24_hang_99 : pR 241 d 99 ls st h = pR 241 d 19 ls st h := pR_L rfl rfl
theorem rX24_hang_102 : pR 241 d 102 ls st h = pR 241 d 7 ls st h := pR_L rfl rfl
theorem rX24_hang_105 : pR 241 d 105 [a0, a1, a2, .int x, a4, a5, a6] st h = pR 241 d 106 [a0, a1, a2, .int x, a4, a5, a6] (.int x :: st) h := pR_L rfl rfl
theorem rX24_hang_106 : pR 241 d 106 ls [.int x] h = some (.inl (some (.int x)), h) := pR_E rfl rfl
-- 242 BalloonStall$Figure meets (II)Z
theorem eX24_meets : pCa 242 d [.ref o, .int x0, .int x1] h = pR 242 d 0 [.ref o, .int x0, .int x1] [] h := rfl
theorem rX24_meets_0 : pR 242 d 0 [.ref o, a1, a2] st h = pR 242 d 1 [.ref o, a1, a2] (.ref o :: st) h := pR_L rfl rfl
theorem rX24_meets_1 : pR 242 d 1 ls (.ref o :: st) h = if pis (pfl h 24 o 0) = true then pR 242 d 4 ls (pfl h 24 o 0 :: st) h else none := r_get rfl
theorem rX24_meets_4 : pR 242 d 4 [a0, .int x, a2] st h = pR 242 d 5 [a0, .int x, a2] (.int x :: st) h := pR_L rfl rfl
theorem rX24_meets_5 : pR 242 d 5 ls (.int x :: .ref o :: st) h = if (pin x (pln h 0 o) || pin x (pln h 9 o)) = true then pR 242 d 6 ls (.int (pct h o x.toNatClampNeg) :: st) h else none := pR_Lif rfl rfl
theorem rX24_meets_6 : pR 242 d 6 [.ref o, a1, a2] st h = pR 242 d 7 [.ref o, a1, a2] (.ref o :: st) h := pR_L rfl rfl
theorem rX24_meets_7 : pR 242 d 7 ls (.ref o :: st) h = if pis (pfl h 24 o 0) = true then pR 242 d 10 ls (pfl h 24 o 0 :: st) h else none := r_get rfl
theorem rX24_meets_10 : pR 242 d 10 [a0, a1, .int x] st h = pR 242 d 11 [a0, a1, .int x] (.int x :: st) h := pR_L rfl rfl
theorem rX24_meets_11 : pR 242 d 11 ls (.int x :: .ref o :: st) h = if (pin x (pln h 0 o) || pin x (pln h 9 o)) = true then pR 242 d 12 ls (.int (pct h o x.toNatClampNeg) :: st) h else none := pR_Lif rfl rfl
theorem rX24_meets_12 : pR 242 d 12 ls (.int y :: .int x :: st) h = if x = y then pR 242 d 60 ls st h else pR 242 d 15 ls st h := r_ceq rfl rfl
theorem rX24_meets_15 : pR 242 d 15 [.ref o, a1, a2] st h = pR 242 d 16 [.ref o, a1, a2] (.ref o :: st) h := pR_L rfl rfl
theorem rX24_meets_16 : pR 242 d 16 ls (.ref o :: st) h = if pis (pfl h 24 o 0) = true then pR 242 d 19 ls (pfl h 24 o 0 :: st) h else none := r_get rfl
theorem rX24_meets_19 : pR 242 d 19 [a0, .int x, a2] st h = pR 242 d 20 [a0, .int x, a2] (.int x :: st) h := pR_L rfl rfl
theorem rX24_meets_20 : pR 242 d 20 ls (.int x :: .ref o :: st) h = if (pin x (pln h 0 o) || pin x (pln h 9 o)) = true then pR 242 d 21 ls (.int (pct h o x.toNatClampNeg) :: st) h else none := pR_Lif rfl rfl
theorem rX24_meets_21 : pR 242 d 21 [.ref o, a1, a2] st h = pR 242 d 22 [.ref o, a1, a2] (.ref o :: st) h := pR_L rfl rfl
theorem rX24_meets_22 : pR 242 d 22 ls (.ref o :: st) h = if pis (pfl h 24 o 1) = true then pR 242 d 25 ls (pfl h 24 o 1 :: st) h else none := r_get rfl
theorem rX24_meets_25 : pR 242 d 25 [a0, a1, .int x] st h = pR 242 d 26 [a0, a1, .int x] (.int x :: st) h := pR_L rfl rfl
theorem rX24_meets_26 : pR 242 d 26 ls (.int x :: .ref o :: st) h = if (pin x (pln h 0 o) || pin x (pln h 9 o)) = true then pR 242 d 27 ls (.int (pct h o x.toNatClampNeg) :: st) h else none := pR_Lif rfl rfl
theorem rX24_meets_27 : pR 242 d 27 ls (.int y :: .int x :: st) h = if x = y then pR 242 d 60 ls st h else pR 242 d 30 ls st h := r_ceq rfl rfl
theorem rX24_meets_30 : pR 242 d 30 [.ref o, a1, a2] st h = pR 242 d 31 [.ref o, a1, a2] (.ref o :: st) h := pR_L rfl rfl
theorem rX24_meets_31 : pR 242 d 31 ls (.ref o :: st) h = if pis (pfl h 24 o 1) = true then pR 242 d 34 ls (pfl h 24 o 1 :: st) h else none := r_get rfl
theorem rX24_meets_34 : pR 242 d 34 [a0, .int x, a2] st h = pR 242 d 35 [a0, .int x, a2] (.int x :: st) h := pR_L rfl rfl
theorem rX24_meets_35 : pR 242 d 35 ls (.int x :: .ref o :: st) h = if (pin x (pln h 0 o) || pin x (pln h 9 o)) = true then pR 242 d 36 ls (.int (pct h o x.toNatClampNeg) :: st) h else none := pR_Lif rfl rfl
theorem rX24_meets_36 : pR 242 d 36 [.ref o, a1, a2] st h = pR 242 d 37 [.ref o, a1, a2] (.ref o :: st) h := pR_L rfl rfl
theorem rX24_meets_37 : pR 242 d 37 ls (.ref o :: st) h = if pis (pfl h 24 o 0) = true then pR 242 d 40 ls (pfl h 24 o 0 :: st) h else none := r_get rfl
theorem rX24_meets_40 : pR 242 d 40 [a0, a1, .int x] st h = pR 242 d 41 [a0, a1, .int x] (.int x :: st) h := pR_L rfl rfl
theorem rX24_meets_41 : pR 242 d 41 ls (.int x :: .ref o :: st) h = if (pin x (pln h 0 o) || pin x (pln h 9 o)) = true then pR 242 d 42 ls (.int (pct h o x.toNatClampNeg) :: st) h else none := pR_Lif rfl rfl
theorem rX24_meets_42 : pR 242 d 42 ls (.int y :: .int x :: st) h = if x = y then pR 242 d 60 ls st h else pR 242 d 45 ls st h := r_ceq rfl rfl
theorem rX24_meets_45 : pR 242 d 45 [.ref o, a1, a2] st h = pR 242 d 46 [.ref o, a1, a2] (.ref o :: st) h := pR_L rfl rfl
theorem rX24_meets_46 : pR 242 d 46 ls (.ref o :: st) h = if pis (pfl h 24 o 1) = true then pR 242 d 49 ls (pfl h 24 o 1 :: st) h else none := r_get rfl
theorem rX24_meets_49 : pR 242 d 49 [a0, .int x, a2] st h = pR 242 d 50 [a0, .int x, a2] (.int x :: st) h := pR_L rfl rfl
theorem rX24_meets_50 : pR 242 d 50 ls (.int x :: .ref o :: st) h = if (pin x (pln h 0 o) || pin x (pln h 9 o)) = true then pR 242 d 51 ls (.int (pct h o x.toNatClampNeg) :: st) h else none := pR_Lif rfl rfl
theorem rX24_meets_51 : pR 242 d 51 [.ref o, a1, a2] st h = pR 242 d 52 [.ref o, a1, a2] (.ref o :: st) h := pR_L rfl rfl
theorem rX24_meets_52 : pR 242 d 52 ls (.ref o :: st) h = if pis (pfl h 24 o 1) = true then pR 242 d 55 ls (pfl h 24 o 1 :: st) h else none := r_get rfl
theorem rX24_meets_55 : pR 242 d 55 [a0, a1, .int x] st h = pR 242 d 56 [a0, a1, .int x] (.int x :: st) h := pR_L rfl rfl
theorem rX24_meets_56 : pR 242 d 56 ls (.int x :: .ref o :: st) h = if (pin x (pln h 0 o) || pin x (pln h 9 o)) = true then pR 242 d 57 ls (.int (pct h o x.toNatClampNeg) :: st) h else none := pR_Lif rfl rfl
theorem rX24_meets_57 : pR 242 d 57 ls (.int y :: .int x :: st) h = if x = y then pR 242 d 60 ls st h else pR 242 d 64 ls st h := r_cne rfl rfl
theorem rX24_meets_60 : pR 242 d 60 ls st h = pR 242 d 61 ls (.int 1 :: st) h := pR_L rfl rfl
theorem rX24_meets_61 : pR 242 d 61 ls st h = pR 242 d 65 ls st h := pR_L rfl rfl
theorem rX24_meets_64 : pR 242 d 64 ls st h = pR 242 d 65 ls (.int 0 :: st) h := pR_L rfl rfl
theorem rX24_meets_650 : pR 242 d 65 ls [.int 0] h = some (.inl (some (.int 0)), h) := pR_E rfl rfl
theorem rX24_meets_651 : pR 242 d 65 ls [.int 1] h = some (.inl (some (.int 1)), h) := pR_E rfl rfl
-- 243 BalloonStall$Figure between (III)I
theorem eX24_between : pCa 243 d [.ref o, .int x0, .int x1, .int x2] h = pR 243 d 0 [.ref o, .int x0, .int x1, .int x2, pU, pU] [] h := rfl
theorem rX24_between_0 : pR 243 d 0 ls st h = pR 243 d 1 ls (.int 0 :: st) h := pR_L rfl rfl
theorem rX24_between_1 : pR 243 d 1 [a0, a1, a2, a3, a4, a5] (.int x :: st) h = if p1 a4 = true then pR 243 d 3 [a0, a1, a2, a3, .int x, a5] st h else none := r_sto (n := 2) (k := 4) (v := .int x) (ls := [a0, a1, a2, a3, a4, a5]) rfl rfl rfl
theorem rX24_between_3 : pR 243 d 3 ls st h = pR 243 d 4 ls (.int 0 :: st) h := pR_L rfl rfl
theorem rX24_between_4 : pR 243 d 4 [a0, a1, a2, a3, a4, a5] (.int x :: st) h = if p1 a5 = true then pR 243 d 6 [a0, a1, a2, a3, a4, .int x] st h else none := r_sto (n := 2) (k := 5) (v := .int x) (ls := [a0, a1, a2, a3, a4, a5]) rfl rfl rfl
theorem rX24_between_6 : pR 243 d 6 [a0, a1, a2, a3, a4, .int x] st h = pR 243 d 8 [a0, a1, a2, a3, a4, .int x] (.int x :: st) h := pR_L rfl rfl
theorem rX24_between_8 : pR 243 d 8 [.ref o, a1, a2, a3, a4, a5] st h = pR 243 d 9 [.ref o, a1, a2, a3, a4, a5] (.ref o :: st) h := pR_L rfl rfl
theorem rX24_between_9 : pR 243 d 9 ls (.ref o :: st) h = if pis (pfl h 24 o 6) = true then pR 243 d 12 ls (pfl h 24 o 6 :: st) h else none := r_get rfl
theorem rX24_between_12 : pR 243 d 12 ls (.int y :: .int x :: st) h = if x < y then pR 243 d 15 ls st h else pR 243 d 86 ls st h := r_cge rfl rfl
theorem rX24_between_15 : pR 243 d 15 [a0, a1, a2, a3, .int x, a5] st h = pR 243 d 17 [a0, a1, a2, a3, .int x, a5] (.int x :: st) h := pR_L rfl rfl
theorem rX24_between_17 : pR 243 d 17 [.ref o, a1, a2, a3, a4, a5] st h = pR 243 d 18 [.ref o, a1, a2, a3, a4, a5] (.ref o :: st) h := pR_L rfl rfl
theorem rX24_between_18 : pR 243 d 18 ls (.ref o :: st) h = if pis (pfl h 24 o 2) = true then pR 243 d 21 ls (pfl h 24 o 2 :: st) h else none := r_get rfl
theorem rX24_between_21 : pR 243 d 21 [a0, a1, a2, a3, a4, .int x] st h = pR 243 d 23 [a0, a1, a2, a3, a4, .int x] (.int x :: st) h := pR_L rfl rfl
theorem rX24_between_23 : pR 243 d 23 ls (.int x :: .ref o :: st) h = if (pin x (pln h 0 o) || pin x (pln h 9 o)) = true then pR 243 d 24 ls (.int (pct h o x.toNatClampNeg) :: st) h else none := pR_Lif rfl rfl
theorem rX24_between_24 : pR 243 d 24 [a0, a1, a2, .int x, a4, a5] st h = pR 243 d 25 [a0, a1, a2, .int x, a4, a5] (.int x :: st) h := pR_L rfl rfl
theorem rX24_between_25 : pR 243 d 25 ls (.int y :: .int x :: st) h = if x = y then pR 243 d 28 ls st h else pR 243 d 76 ls st h := r_cne rfl rfl
theorem rX24_between_28 : pR 243 d 28 [.ref o, a1, a2, a3, a4, a5] st h = pR 243 d 29 [.ref o, a1, a2, a3, a4, a5] (.ref o :: st) h := pR_L rfl rfl
theorem rX24_between_29 : pR 243 d 29 ls (.ref o :: st) h = if pis (pfl h 24 o 0) = true then pR 243 d 32 ls (pfl h 24 o 0 :: st) h else none := r_get rfl
theorem rX24_between_32 : pR 243 d 32 [a0, a1, a2, a3, a4, .int x] st h = pR 243 d 34 [a0, a1, a2, a3, a4, .int x] (.int x :: st) h := pR_L rfl rfl
theorem rX24_between_34 : pR 243 d 34 ls (.int x :: .ref o :: st) h = if (pin x (pln h 0 o) || pin x (pln h 9 o)) = true then pR 243 d 35 ls (.int (pct h o x.toNatClampNeg) :: st) h else none := pR_Lif rfl rfl
theorem rX24_between_35 : pR 243 d 35 [a0, .int x, a2, a3, a4, a5] st h = pR 243 d 36 [a0, .int x, a2, a3, a4, a5] (.int x :: st) h := pR_L rfl rfl
theorem rX24_between_36 : pR 243 d 36 ls (.int y :: .int x :: st) h = if x = y then pR 243 d 39 ls st h else pR 243 d 50 ls st h := r_cne rfl rfl
theorem rX24_between_39 : pR 243 d 39 [.ref o, a1, a2, a3, a4, a5] st h = pR 243 d 40 [.ref o, a1, a2, a3, a4, a5] (.ref o :: st) h := pR_L rfl rfl
theorem rX24_between_40 : pR 243 d 40 ls (.ref o :: st) h = if pis (pfl h 24 o 1) = true then pR 243 d 43 ls (pfl h 24 o 1 :: st) h else none := r_get rfl
theorem rX24_between_43 : pR 243 d 43 [a0, a1, a2, a3, a4, .int x] st h = pR 243 d 45 [a0, a1, a2, a3, a4, .int x] (.int x :: st) h := pR_L rfl rfl
theorem rX24_between_45 : pR 243 d 45 ls (.int x :: .ref o :: st) h = if (pin x (pln h 0 o) || pin x (pln h 9 o)) = true then pR 243 d 46 ls (.int (pct h o x.toNatClampNeg) :: st) h else none := pR_Lif rfl rfl
theorem rX24_between_46 : pR 243 d 46 [a0, a1, .int x, a3, a4, a5] st h = pR 243 d 47 [a0, a1, .int x, a3, a4, a5] (.int x :: st) h := pR_L rfl rfl
theorem rX24_between_47 : pR 243 d 47 ls (.int y :: .int x :: st) h = if x = y then pR 243 d 72 ls st h else pR 243 d 50 ls st h := r_ceq rfl rfl
theorem rX24_between_50 : pR 243 d 50 [.ref o, a1, a2, a3, a4, a5] st h = pR 243 d 51 [.ref o, a1, a2, a3, a4, a5] (.ref o :: st) h := pR_L rfl rfl
theorem rX24_between_51 : pR 243 d 51 ls (.ref o :: st) h = if pis (pfl h 24 o 0) = true then pR 243 d 54 ls (pfl h 24 o 0 :: st) h else none := r_get rfl
theorem rX24_between_54 : pR 243 d 54 [a0, a1, a2, a3, a4, .int x] st h = pR 243 d 56 [a0, a1, a2, a3, a4, .int x] (.int x :: st) h := pR_L rfl rfl
theorem rX24_between_56 : pR 243 d 56 ls (.int x :: .ref o :: st) h = if (pin x (pln h 0 o) || pin x (pln h 9 o)) = true then pR 243 d 57 ls (.int (pct h o x.toNatClampNeg) :: st) h else none := pR_Lif rfl rfl
theorem rX24_between_57 : pR 243 d 57 [a0, a1, .int x, a3, a4, a5] st h = pR 243 d 58 [a0, a1, .int x, a3, a4, a5] (.int x :: st) h := pR_L rfl rfl
theorem rX24_between_58 : pR 243 d 58 ls (.int y :: .int x :: st) h = if x = y then pR 243 d 61 ls st h else pR 243 d 76 ls st h := r_cne rfl rfl
theorem rX24_between_61 : pR 243 d 61 [.ref o, a1, a2, a3, a4, a5] st h = pR 243 d 62 [.ref o, a1, a2, a3, a4, a5] (.ref o :: st) h := pR_L rfl rfl
theorem rX24_between_62 : pR 243 d 62 ls (.ref o :: st) h = if pis (pfl h 24 o 1) = true then pR 243 d 65 ls (pfl h 24 o 1 :: st) h else none := r_get rfl
theorem rX24_between_65 : pR 243 d 65 [a0, a1, a2, a3, a4, .int x] st h = pR 243 d 67 [a0, a1, a2, a3, a4, .int x] (.int x :: st) h := pR_L rfl rfl
theorem rX24_between_67 : pR 243 d 67 ls (.int x :: .ref o :: st) h = if (pin x (pln h 0 o) || pin x (pln h 9 o)) = true then pR 243 d 68 ls (.int (pct h o x.toNatClampNeg) :: st) h else none := pR_Lif rfl rfl
theorem rX24_between_68 : pR 243 d 68 [a0, .int x, a2, a3, a4, a5] st h = pR 243 d 69 [a0, .int x, a2, a3, a4, a5] (.int x :: st) h := pR_L rfl rfl
theorem rX24_between_69 : pR 243 d 69 ls (.int y :: .int x :: st) h = if x = y then pR 243 d 72 ls st h else pR 243 d 76 ls st h := r_cne rfl rfl
theorem rX24_between_72 : pR 243 d 72 ls st h = pR 243 d 73 ls (.int 1 :: st) h := pR_L rfl rfl
theorem rX24_between_73 : pR 243 d 73 ls st h = pR 243 d 77 ls st h := pR_L rfl rfl
theorem rX24_between_76 : pR 243 d 76 ls st h = pR 243 d 77 ls (.int 0 :: st) h := pR_L rfl rfl
theorem rX24_between_77 : pR 243 d 77 ls (.int y :: .int x :: st) h = pR 243 d 78 ls (.int (x + y) :: st) h := pR_L rfl rfl
theorem rX24_between_78 : pR 243 d 78 [a0, a1, a2, a3, a4, a5] (.int x :: st) h = if p1 a4 = true then pR 243 d 80 [a0, a1, a2, a3, .int x, a5] st h else none := r_sto (n := 2) (k := 4) (v := .int x) (ls := [a0, a1, a2, a3, a4, a5]) rfl rfl rfl
theorem rX24_between_80 : pR 243 d 80 [a0, a1, a2, a3, a4, .int x] st h = pR 243 d 83 [a0, a1, a2, a3, a4, .int (x + 1)] st h := pR_L rfl rfl
theorem rX24_between_83 : pR 243 d 83 ls st h = pR 243 d 6 ls st h := pR_L rfl rfl
theorem rX24_between_86 : pR 243 d 86 [a0, a1, a2, a3, .int x, a5] st h = pR 243 d 88 [a0, a1, a2, a3, .int x, a5] (.int x :: st) h := pR_L rfl rfl
theorem rX24_between_88 : pR 243 d 88 ls [.int x] h = some (.inl (some (.int x)), h) := pR_E rfl rfl
-- 244 BalloonStall$Figure strokes ()I
theorem eX24_strokes : pCa 244 d [.ref o] h = pR 244 d 0 [.ref o, pU, pU, pU] [] h := rfl
theorem rX24_strokes_0 : pR 244 d 0 ls st h = pR 244 d 1 ls (.int 0 :: st) h := pR_L rfl rfl
theorem rX24_strokes_1 : pR 244 d 1 [a0, a1, a2, a3] (.int x :: st) h = if p1 a1 = true then pR 244 d 2 [a0, .int x, a2, a3] st h else none := r_sto (n := 1) (k := 1) (v := .int x) (ls := [a0, a1, a2, a3]) rfl rfl rfl
theorem rX24_strokes_2 : pR 244 d 2 [.ref o, a1, a2, a3] st h = pR 244 d 3 [.ref o, a1, a2, a3] (.ref o :: st) h := pR_L rfl rfl
theorem rX24_strokes_3 : pR 244 (d + 1) 3 ls (.ref o :: st) h = if (pok 24 (pcl h o) && pw st) = true then pK 244 (d + 1) 3 3 ls st (pCa 239 d [.ref o] h) else none := r_callV rfl rfl rfl
theorem rX24_strokes_6 : pR 244 d 6 [a0, a1, a2, a3] (.int x :: st) h = if p1 a2 = true then pR 244 d 7 [a0, a1, .int x, a3] st h else none := r_sto (n := 1) (k := 2) (v := .int x) (ls := [a0, a1, a2, a3]) rfl rfl rfl
theorem rX24_strokes_7 : pR 244 d 7 [a0, a1, .int x, a3] st h = pR 244 d 8 [a0, a1, .int x, a3] (.int x :: st) h := pR_L rfl rfl
theorem rX24_strokes_8 : pR 244 d 8 ls (.int x :: st) h = if x = 0 then pR 244 d 44 ls st h else pR 244 d 11 ls st h := r_ieq rfl rfl
theorem rX24_strokes_11 : pR 244 d 11 [.ref o, a1, a2, a3] st h = pR 244 d 12 [.ref o, a1, a2, a3] (.ref o :: st) h := pR_L rfl rfl
theorem rX24_strokes_12 : pR 244 d 12 [a0, a1, .int x, a3] st h = pR 244 d 13 [a0, a1, .int x, a3] (.int x :: st) h := pR_L rfl rfl
theorem rX24_strokes_13 : pR 244 d 13 [a0, a1, .int x, a3] st h = pR 244 d 14 [a0, a1, .int x, a3] (.int x :: st) h := pR_L rfl rfl
theorem rX24_strokes_14 : pR 244 (d + 1) 14 ls (b0 :: st) h = if pw st = true then pK 244 (d + 1) 14 3 ls st (pCa 255 d [b0] h) else none := r_callS rfl rfl rfl
theorem rX24_strokes_17 : pR 244 (d + 1) 17 ls (b2 :: b1 :: .ref o :: st) h = if (pok 24 (pcl h o) && pw st) = true then pK 244 (d + 1) 17 3 ls st (pCa 241 d [.ref o, b1, b2] h) else none := r_callV rfl rfl rfl
theorem rX24_strokes_20 : pR 244 d 20 [a0, a1, a2, a3] (.int x :: st) h = if p1 a3 = true then pR 244 d 21 [a0, a1, a2, .int x] st h else none := r_sto (n := 1) (k := 3) (v := .int x) (ls := [a0, a1, a2, a3]) rfl rfl rfl
theorem rX24_strokes_21 : pR 244 d 21 [a0, .int x, a2, a3] st h = pR 244 d 22 [a0, .int x, a2, a3] (.int x :: st) h := pR_L rfl rfl
theorem rX24_strokes_22 : pR 244 d 22 ls st h = pR 244 d 23 ls (.int 1 :: st) h := pR_L rfl rfl
theorem rX24_strokes_23 : pR 244 d 23 [.ref o, a1, a2, a3] st h = pR 244 d 24 [.ref o, a1, a2, a3] (.ref o :: st) h := pR_L rfl rfl
theorem rX24_strokes_24 : pR 244 d 24 [a0, a1, a2, .int x] st h = pR 244 d 25 [a0, a1, a2, .int x] (.int x :: st) h := pR_L rfl rfl
theorem rX24_strokes_25 : pR 244 (d + 1) 25 ls (b1 :: .ref o :: st) h = if (pok 24 (pcl h o) && pw st) = true then pK 244 (d + 1) 25 3 ls st (pCa 245 d [.ref o, b1] h) else none := r_callV rfl rfl rfl
theorem rX24_strokes_28 : pR 244 d 28 ls st h = pR 244 d 29 ls (.int 2 :: st) h := pR_L rfl rfl
theorem rX24_strokes_29 : pR 244 d 29 ls (.int y :: .int x :: st) h = if y = 0 then none else pR 244 d 30 ls (.int (x / y) :: st) h := r_div rfl
theorem rX24_strokes_30 : pR 244 (d + 1) 30 ls (.int y :: .int x :: st) h = if pw st = true then pR 244 (d + 1) 33 ls (.int (if x < y then y else x) :: st) h else none := r_mx rfl
theorem rX24_strokes_33 : pR 244 d 33 ls (.int y :: .int x :: st) h = pR 244 d 34 ls (.int (x + y) :: st) h := pR_L rfl rfl
theorem rX24_strokes_34 : pR 244 d 34 [a0, a1, a2, a3] (.int x :: st) h = if p1 a1 = true then pR 244 d 35 [a0, .int x, a2, a3] st h else none := r_sto (n := 1) (k := 1) (v := .int x) (ls := [a0, a1, a2, a3]) rfl rfl rfl
theorem rX24_strokes_35 : pR 244 d 35 [a0, a1, .int x, a3] st h = pR 244 d 36 [a0, a1, .int x, a3] (.int x :: st) h := pR_L rfl rfl
theorem rX24_strokes_36 : pR 244 d 36 [a0, a1, a2, .int x] st h = pR 244 d 37 [a0, a1, a2, .int x] (.int x :: st) h := pR_L rfl rfl
theorem rX24_strokes_37 : pR 244 d 37 ls st h = pR 244 d 38 ls (.int (-1) :: st) h := pR_L rfl rfl
theorem rX24_strokes_38 : pR 244 d 38 ls (.int y :: .int x :: st) h = pR 244 d 39 ls (.int (x ^^^ y) :: st) h := pR_L rfl rfl
theorem rX24_strokes_39 : pR 244 d 39 ls (.int y :: .int x :: st) h = pR 244 d 40 ls (.int (x &&& y) :: st) h := pR_L rfl rfl
theorem rX24_strokes_40 : pR 244 d 40 [a0, a1, a2, a3] (.int x :: st) h = if p1 a2 = true then pR 244 d 41 [a0, a1, .int x, a3] st h else none := r_sto (n := 1) (k := 2) (v := .int x) (ls := [a0, a1, a2, a3]) rfl rfl rfl
theorem rX24_strokes_41 : pR 244 d 41 ls st h = pR 244 d 7 ls st h := pR_L rfl rfl
theorem rX24_strokes_44 : pR 244 d 44 [a0, .int x, a2, a3] st h = pR 244 d 45 [a0, .int x, a2, a3] (.int x :: st) h := pR_L rfl rfl
theorem rX24_strokes_45 : pR 244 d 45 ls [.int x] h = some (.inl (some (.int x)), h) := pR_E rfl rfl
-- 245 BalloonStall$Figure oddOf (I)I
theorem eX24_oddOf : pCa 245 d [.ref o, .int x0] h = pR 245 d 0 [.ref o, .int x0, pU, pU] [] h := rfl
theorem rX24_oddOf_0 : pR 245 d 0 ls st h = pR 245 d 1 ls (.int 0 :: st) h := pR_L rfl rfl
theorem rX24_oddOf_1 : pR 245 d 1 [a0, a1, a2, a3] (.int x :: st) h = if p1 a2 = true then pR 245 d 2 [a0, a1, .int x, a3] st h else none := r_sto (n := 1) (k := 2) (v := .int x) (ls := [a0, a1, a2, a3]) rfl rfl rfl
theorem rX24_oddOf_2 : pR 245 d 2 ls st h = pR 245 d 3 ls (.int 0 :: st) h := pR_L rfl rfl
theorem rX24_oddOf_3 : pR 245 d 3 [a0, a1, a2, a3] (.int x :: st) h = if p1 a3 = true then pR 245 d 4 [a0, a1, a2, .int x] st h else none := r_sto (n := 1) (k := 3) (v := .int x) (ls := [a0, a1, a2, a3]) rfl rfl rfl
theorem rX24_oddOf_4 : pR 245 d 4 [a0, a1, a2, .int x] st h = pR 245 d 5 [a0, a1, a2, .int x] (.int x :: st) h := pR_L rfl rfl
theorem rX24_oddOf_5 : pR 245 d 5 [.ref o, a1, a2, a3] st h = pR 245 d 6 [.ref o, a1, a2, a3] (.ref o :: st) h := pR_L rfl rfl
theorem rX24_oddOf_6 : pR 245 d 6 ls (.ref o :: st) h = if pis (pfl h 24 o 6) = true then pR 245 d 9 ls (pfl h 24 o 6 :: st) h else none := r_get rfl
theorem rX24_oddOf_9 : pR 245 d 9 ls (.int y :: .int x :: st) h = if x < y then pR 245 d 12 ls st h else pR 245 d 47 ls st h := r_cge rfl rfl
theorem rX24_oddOf_12 : pR 245 d 12 [a0, .int x, a2, a3] st h = pR 245 d 13 [a0, .int x, a2, a3] (.int x :: st) h := pR_L rfl rfl
theorem rX24_oddOf_13 : pR 245 d 13 [a0, a1, a2, .int x] st h = pR 245 d 14 [a0, a1, a2, .int x] (.int x :: st) h := pR_L rfl rfl
theorem rX24_oddOf_14 : pR 245 d 14 ls (.int y :: .int x :: st) h = pR 245 d 15 ls (.int (x >>> (y &&& 31)) :: st) h := pR_L rfl rfl
theorem rX24_oddOf_15 : pR 245 d 15 ls st h = pR 245 d 16 ls (.int 1 :: st) h := pR_L rfl rfl
theorem rX24_oddOf_16 : pR 245 d 16 ls (.int y :: .int x :: st) h = pR 245 d 17 ls (.int (x &&& y) :: st) h := pR_L rfl rfl
theorem rX24_oddOf_17 : pR 245 d 17 ls st h = pR 245 d 18 ls (.int 1 :: st) h := pR_L rfl rfl
theorem rX24_oddOf_18 : pR 245 d 18 ls (.int y :: .int x :: st) h = if x = y then pR 245 d 21 ls st h else pR 245 d 41 ls st h := r_cne rfl rfl
theorem rX24_oddOf_21 : pR 245 d 21 [a0, a1, .int x, a3] st h = pR 245 d 22 [a0, a1, .int x, a3] (.int x :: st) h := pR_L rfl rfl
theorem rX24_oddOf_22 : pR 245 d 22 ls st h = pR 245 d 23 ls (.int 1 :: st) h := pR_L rfl rfl
theorem rX24_oddOf_23 : pR 245 d 23 [.ref o, a1, a2, a3] st h = pR 245 d 24 [.ref o, a1, a2, a3] (.ref o :: st) h := pR_L rfl rfl
theorem rX24_oddOf_24 : pR 245 d 24 ls (.ref o :: st) h = if pis (pfl h 24 o 0) = true then pR 245 d 27 ls (pfl h 24 o 0 :: st) h else none := r_get rfl
theorem rX24_oddOf_27 : pR 245 d 27 [a0, a1, a2, .int x] st h = pR 245 d 28 [a0, a1, a2, .int x] (.int x :: st) h := pR_L rfl rfl
theorem rX24_oddOf_28 : pR 245 d 28 ls (.int x :: .ref o :: st) h = if (pin x (pln h 0 o) || pin x (pln h 9 o)) = true then pR 245 d 29 ls (.int (pct h o x.toNatClampNeg) :: st) h else none := pR_Lif rfl rfl
theorem rX24_oddOf_29 : pR 245 d 29 ls (.int y :: .int x :: st) h = pR 245 d 30 ls (.int (x <<< (y &&& 31)) :: st) h := pR_L rfl rfl
theorem rX24_oddOf_30 : pR 245 d 30 ls st h = pR 245 d 31 ls (.int 1 :: st) h := pR_L rfl rfl
theorem rX24_oddOf_31 : pR 245 d 31 [.ref o, a1, a2, a3] st h = pR 245 d 32 [.ref o, a1, a2, a3] (.ref o :: st) h := pR_L rfl rfl
theorem rX24_oddOf_32 : pR 245 d 32 ls (.ref o :: st) h = if pis (pfl h 24 o 1) = true then pR 245 d 35 ls (pfl h 24 o 1 :: st) h else none := r_get rfl
theorem rX24_oddOf_35 : pR 245 d 35 [a0, a1, a2, .int x] st h = pR 245 d 36 [a0, a1, a2, .int x] (.int x :: st) h := pR_L rfl rfl
theorem rX24_oddOf_36 : pR 245 d 36 ls (.int x :: .ref o :: st) h = if (pin x (pln h 0 o) || pin x (pln h 9 o)) = true then pR 245 d 37 ls (.int (pct h o x.toNatClampNeg) :: st) h else none := pR_Lif rfl rfl
theorem rX24_oddOf_37 : pR 245 d 37 ls (.int y :: .int x :: st) h = pR 245 d 38 ls (.int (x <<< (y &&& 31)) :: st) h := pR_L rfl rfl
theorem rX24_oddOf_38 : pR 245 d 38 ls (.int y :: .int x :: st) h = pR 245 d 39 ls (.int (x ^^^ y) :: st) h := pR_L rfl rfl
theorem rX24_oddOf_39 : pR 245 d 39 ls (.int y :: .int x :: st) h = pR 245 d 40 ls (.int (x ^^^ y) :: st) h := pR_L rfl rfl
theorem rX24_oddOf_40 : pR 245 d 40 [a0, a1, a2, a3] (.int x :: st) h = if p1 a2 = true then pR 245 d 41 [a0, a1, .int x, a3] st h else none := r_sto (n := 1) (k := 2) (v := .int x) (ls := [a0, a1, a2, a3]) rfl rfl rfl
theorem rX24_oddOf_41 : pR 245 d 41 [a0, a1, a2, .int x] st h = pR 245 d 44 [a0, a1, a2, .int (x + 1)] st h := pR_L rfl rfl
theorem rX24_oddOf_44 : pR 245 d 44 ls st h = pR 245 d 4 ls st h := pR_L rfl rfl
theorem rX24_oddOf_47 : pR 245 d 47 [a0, a1, .int x, a3] st h = pR 245 d 48 [a0, a1, .int x, a3] (.int x :: st) h := pR_L rfl rfl
theorem rX24_oddOf_48 : pR 245 (d + 1) 48 ls (b0 :: st) h = if pw st = true then pK 245 (d + 1) 48 3 ls st (pCa 254 d [b0] h) else none := r_callS rfl rfl rfl
theorem rX24_oddOf_51 : pR 245 d 51 ls [.int x] h = some (.inl (some (.int x)), h) := pR_E rfl rfl
-- 246 BalloonStall$Figure lengthOf (I)I
theorem eX24_lengthOf : pCa 246 d [.ref o, .int x0] h = pR 246 d 0 [.ref o, .int x0, pU, pU] [] h := rfl
theorem rX24_lengthOf_0 : pR 246 d 0 ls st h = pR 246 d 1 ls (.int 0 :: st) h := pR_L rfl rfl
theorem rX24_lengthOf_1 : pR 246 d 1 [a0, a1, a2, a3] (.int x :: st) h = if p1 a2 = true then pR 246 d 2 [a0, a1, .int x, a3] st h else none := r_sto (n := 1) (k := 2) (v := .int x) (ls := [a0, a1, a2, a3]) rfl rfl rfl
theorem rX24_lengthOf_2 : pR 246 d 2 ls st h = pR 246 d 3 ls (.int 0 :: st) h := pR_L rfl rfl
theorem rX24_lengthOf_3 : pR 246 d 3 [a0, a1, a2, a3] (.int x :: st) h = if p1 a3 = true then pR 246 d 4 [a0, a1, a2, .int x] st h else none := r_sto (n := 1) (k := 3) (v := .int x) (ls := [a0, a1, a2, a3]) rfl rfl rfl
theorem rX24_lengthOf_4 : pR 246 d 4 [a0, a1, a2, .int x] st h = pR 246 d 5 [a0, a1, a2, .int x] (.int x :: st) h := pR_L rfl rfl
theorem rX24_lengthOf_5 : pR 246 d 5 [.ref o, a1, a2, a3] st h = pR 246 d 6 [.ref o, a1, a2, a3] (.ref o :: st) h := pR_L rfl rfl
theorem rX24_lengthOf_6 : pR 246 d 6 ls (.ref o :: st) h = if pis (pfl h 24 o 6) = true then pR 246 d 9 ls (pfl h 24 o 6 :: st) h else none := r_get rfl
theorem rX24_lengthOf_9 : pR 246 d 9 ls (.int y :: .int x :: st) h = if x < y then pR 246 d 12 ls st h else pR 246 d 40 ls st h := r_cge rfl rfl
theorem rX24_lengthOf_12 : pR 246 d 12 [a0, a1, .int x, a3] st h = pR 246 d 13 [a0, a1, .int x, a3] (.int x :: st) h := pR_L rfl rfl
theorem rX24_lengthOf_13 : pR 246 d 13 [a0, .int x, a2, a3] st h = pR 246 d 14 [a0, .int x, a2, a3] (.int x :: st) h := pR_L rfl rfl
theorem rX24_lengthOf_14 : pR 246 d 14 [a0, a1, a2, .int x] st h = pR 246 d 15 [a0, a1, a2, .int x] (.int x :: st) h := pR_L rfl rfl
theorem rX24_lengthOf_15 : pR 246 d 15 ls (.int y :: .int x :: st) h = pR 246 d 16 ls (.int (x >>> (y &&& 31)) :: st) h := pR_L rfl rfl
theorem rX24_lengthOf_16 : pR 246 d 16 ls st h = pR 246 d 17 ls (.int 1 :: st) h := pR_L rfl rfl
theorem rX24_lengthOf_17 : pR 246 d 17 ls (.int y :: .int x :: st) h = pR 246 d 18 ls (.int (x &&& y) :: st) h := pR_L rfl rfl
theorem rX24_lengthOf_18 : pR 246 d 18 ls st h = pR 246 d 19 ls (.int 1 :: st) h := pR_L rfl rfl
theorem rX24_lengthOf_19 : pR 246 d 19 ls (.int y :: .int x :: st) h = if x = y then pR 246 d 22 ls st h else pR 246 d 31 ls st h := r_cne rfl rfl
theorem rX24_lengthOf_22 : pR 246 d 22 [.ref o, a1, a2, a3] st h = pR 246 d 23 [.ref o, a1, a2, a3] (.ref o :: st) h := pR_L rfl rfl
theorem rX24_lengthOf_23 : pR 246 d 23 ls (.ref o :: st) h = if pis (pfl h 24 o 2) = true then pR 246 d 26 ls (pfl h 24 o 2 :: st) h else none := r_get rfl
theorem rX24_lengthOf_26 : pR 246 d 26 [a0, a1, a2, .int x] st h = pR 246 d 27 [a0, a1, a2, .int x] (.int x :: st) h := pR_L rfl rfl
theorem rX24_lengthOf_27 : pR 246 d 27 ls (.int x :: .ref o :: st) h = if (pin x (pln h 0 o) || pin x (pln h 9 o)) = true then pR 246 d 28 ls (.int (pct h o x.toNatClampNeg) :: st) h else none := pR_Lif rfl rfl
theorem rX24_lengthOf_28 : pR 246 d 28 ls st h = pR 246 d 32 ls st h := pR_L rfl rfl
theorem rX24_lengthOf_31 : pR 246 d 31 ls st h = pR 246 d 32 ls (.int 0 :: st) h := pR_L rfl rfl
theorem rX24_lengthOf_32 : pR 246 d 32 ls (.int y :: .int x :: st) h = pR 246 d 33 ls (.int (x + y) :: st) h := pR_L rfl rfl
theorem rX24_lengthOf_33 : pR 246 d 33 [a0, a1, a2, a3] (.int x :: st) h = if p1 a2 = true then pR 246 d 34 [a0, a1, .int x, a3] st h else none := r_sto (n := 1) (k := 2) (v := .int x) (ls := [a0, a1, a2, a3]) rfl rfl rfl
theorem rX24_lengthOf_34 : pR 246 d 34 [a0, a1, a2, .int x] st h = pR 246 d 37 [a0, a1, a2, .int (x + 1)] st h := pR_L rfl rfl
theorem rX24_lengthOf_37 : pR 246 d 37 ls st h = pR 246 d 4 ls st h := pR_L rfl rfl
theorem rX24_lengthOf_40 : pR 246 d 40 [a0, a1, .int x, a3] st h = pR 246 d 41 [a0, a1, .int x, a3] (.int x :: st) h := pR_L rfl rfl
theorem rX24_lengthOf_41 : pR 246 d 41 ls [.int x] h = some (.inl (some (.int x)), h) := pR_E rfl rfl
-- 247 BalloonStall$Figure isWay (I)Z
theorem eX24_isWay : pCa 247 d [.ref o, .int x0] h = pR 247 d 0 [.ref o, .int x0] [] h := rfl
theorem rX24_isWay_0 : pR 247 d 0 [.ref o, a1] st h = pR 247 d 1 [.ref o, a1] (.ref o :: st) h := pR_L rfl rfl
theorem rX24_isWay_1 : pR 247 d 1 [a0, .int x] st h = pR 247 d 2 [a0, .int x] (.int x :: st) h := pR_L rfl rfl
theorem rX24_isWay_2 : pR 247 (d + 1) 2 ls (b1 :: .ref o :: st) h = if (pok 24 (pcl h o) && pw st) = true then pK 247 (d + 1) 2 3 ls st (pCa 240 d [.ref o, b1] h) else none := r_callV rfl rfl rfl
theorem rX24_isWay_5 : pR 247 d 5 ls st h = pR 247 d 6 ls (.int 1 :: st) h := pR_L rfl rfl
theorem rX24_isWay_6 : pR 247 d 6 ls (.int y :: .int x :: st) h = if x = y then pR 247 d 9 ls st h else pR 247 d 22 ls st h := r_cne rfl rfl
theorem rX24_isWay_9 : pR 247 d 9 [.ref o, a1] st h = pR 247 d 10 [.ref o, a1] (.ref o :: st) h := pR_L rfl rfl
theorem rX24_isWay_10 : pR 247 d 10 [a0, .int x] st h = pR 247 d 11 [a0, .int x] (.int x :: st) h := pR_L rfl rfl
theorem rX24_isWay_11 : pR 247 (d + 1) 11 ls (b1 :: .ref o :: st) h = if (pok 24 (pcl h o) && pw st) = true then pK 247 (d + 1) 11 3 ls st (pCa 245 d [.ref o, b1] h) else none := r_callV rfl rfl rfl
theorem rX24_isWay_14 : pR 247 d 14 ls st h = pR 247 d 15 ls (.int 2 :: st) h := pR_L rfl rfl
theorem rX24_isWay_15 : pR 247 d 15 ls (.int y :: .int x :: st) h = if y < x then pR 247 d 22 ls st h else pR 247 d 18 ls st h := r_cgt rfl rfl
theorem rX24_isWay_18 : pR 247 d 18 ls st h = pR 247 d 19 ls (.int 1 :: st) h := pR_L rfl rfl
theorem rX24_isWay_19 : pR 247 d 19 ls st h = pR 247 d 23 ls st h := pR_L rfl rfl
theorem rX24_isWay_22 : pR 247 d 22 ls st h = pR 247 d 23 ls (.int 0 :: st) h := pR_L rfl rfl
theorem rX24_isWay_230 : pR 247 d 23 ls [.int 0] h = some (.inl (some (.int 0)), h) := pR_E rfl rfl
theorem rX24_isWay_231 : pR 247 d 23 ls [.int 1] h = some (.inl (some (.int 1)), h) := pR_E rfl rfl
-- 248 BalloonStall$Figure bubblesOf (I)I
theorem eX24_bubblesOf : pCa 248 d [.ref o, .int x0] h = pR 248 d 0 [.ref o, .int x0, pU, pU] [] h := rfl
theorem rX24_bubblesOf_0 : pR 248 d 0 ls st h = pR 248 d 1 ls (.int 0 :: st) h := pR_L rfl rfl
theorem rX24_bubblesOf_1 : pR 248 d 1 [a0, a1, a2, a3] (.int x :: st) h = if p1 a2 = true then pR 248 d 2 [a0, a1, .int x, a3] st h else none := r_sto (n := 1) (k := 2) (v := .int x) (ls := [a0, a1, a2, a3]) rfl rfl rfl
theorem rX24_bubblesOf_2 : pR 248 d 2 ls st h = pR 248 d 3 ls (.int 0 :: st) h := pR_L rfl rfl
theorem rX24_bubblesOf_3 : pR 248 d 3 [a0, a1, a2, a3] (.int x :: st) h = if p1 a3 = true then pR 248 d 4 [a0, a1, a2, .int x] st h else none := r_sto (n := 1) (k := 3) (v := .int x) (ls := [a0, a1, a2, a3]) rfl rfl rfl
theorem rX24_bubblesOf_4 : pR 248 d 4 [a0, a1, a2, .int x] st h = pR 248 d 5 [a0, a1, a2, .int x] (.int x :: st) h := pR_L rfl rfl
theorem rX24_bubblesOf_5 : pR 248 d 5 [.ref o, a1, a2, a3] st h = pR 248 d 6 [.ref o, a1, a2, a3] (.ref o :: st) h := pR_L rfl rfl
theorem rX24_bubblesOf_6 : pR 248 d 6 ls (.ref o :: st) h = if pis (pfl h 24 o 6) = true then pR 248 d 9 ls (pfl h 24 o 6 :: st) h else none := r_get rfl
theorem rX24_bubblesOf_9 : pR 248 d 9 ls (.int y :: .int x :: st) h = if x < y then pR 248 d 12 ls st h else pR 248 d 36 ls st h := r_cge rfl rfl
theorem rX24_bubblesOf_12 : pR 248 d 12 [a0, a1, .int x, a3] st h = pR 248 d 13 [a0, a1, .int x, a3] (.int x :: st) h := pR_L rfl rfl
theorem rX24_bubblesOf_13 : pR 248 d 13 [.ref o, a1, a2, a3] st h = pR 248 d 14 [.ref o, a1, a2, a3] (.ref o :: st) h := pR_L rfl rfl
theorem rX24_bubblesOf_14 : pR 248 d 14 ls (.ref o :: st) h = if pis (pfl h 24 o 3) = true then pR 248 d 17 ls (pfl h 24 o 3 :: st) h else none := r_get rfl
theorem rX24_bubblesOf_17 : pR 248 d 17 [a0, a1, a2, .int x] st h = pR 248 d 18 [a0, a1, a2, .int x] (.int x :: st) h := pR_L rfl rfl
theorem rX24_bubblesOf_18 : pR 248 d 18 ls (.int x :: .ref o :: st) h = if (pin x (pln h 0 o) || pin x (pln h 9 o)) = true then pR 248 d 19 ls (.int (pct h o x.toNatClampNeg) :: st) h else none := pR_Lif rfl rfl
theorem rX24_bubblesOf_19 : pR 248 d 19 [a0, .int x, a2, a3] st h = pR 248 d 20 [a0, .int x, a2, a3] (.int x :: st) h := pR_L rfl rfl
theorem rX24_bubblesOf_20 : pR 248 d 20 ls (.int y :: .int x :: st) h = if x = y then pR 248 d 23 ls st h else pR 248 d 27 ls st h := r_cne rfl rfl
theorem rX24_bubblesOf_23 : pR 248 d 23 ls st h = pR 248 d 24 ls (.int 1 :: st) h := pR_L rfl rfl
theorem rX24_bubblesOf_24 : pR 248 d 24 ls st h = pR 248 d 28 ls st h := pR_L rfl rfl
theorem rX24_bubblesOf_27 : pR 248 d 27 ls st h = pR 248 d 28 ls (.int 0 :: st) h := pR_L rfl rfl
theorem rX24_bubblesOf_28 : pR 248 d 28 ls (.int y :: .int x :: st) h = pR 248 d 29 ls (.int (x + y) :: st) h := pR_L rfl rfl
theorem rX24_bubblesOf_29 : pR 248 d 29 [a0, a1, a2, a3] (.int x :: st) h = if p1 a2 = true then pR 248 d 30 [a0, a1, .int x, a3] st h else none := r_sto (n := 1) (k := 2) (v := .int x) (ls := [a0, a1, a2, a3]) rfl rfl rfl
theorem rX24_bubblesOf_30 : pR 248 d 30 [a0, a1, a2, .int x] st h = pR 248 d 33 [a0, a1, a2, .int (x + 1)] st h := pR_L rfl rfl
theorem rX24_bubblesOf_33 : pR 248 d 33 ls st h = pR 248 d 4 ls st h := pR_L rfl rfl
theorem rX24_bubblesOf_36 : pR 248 d 36 [a0, a1, .int x, a3] st h = pR 248 d 37 [a0, a1, .int x, a3] (.int x :: st) h := pR_L rfl rfl
theorem rX24_bubblesOf_37 : pR 248 d 37 ls [.int x] h = some (.inl (some (.int x)), h) := pR_E rfl rfl
-- 249 BalloonStall$Guest <init> (LBalloonStall$Figure;II)V
theorem eX25_init : pCa 249 d [.ref o, .ref r0, .int x1, .int x2] h = pR 249 d 0 [.ref o, .ref r0, .int x1, .int x2] [] h := rfl
theorem rX25_init_0 : pR 249 d 0 [.ref o, a1, a2, a3] st h = pR 249 d 1 [.ref o, a1, a2, a3] (.ref o :: st) h := pR_L rfl rfl
theorem rX25_init_1 : pR 249 (d + 1) 1 ls (.ref o :: st) h = if pw st = true then pR 249 (d + 1) 4 ls st h else none := r_obj rfl
theorem rX25_init_4 : pR 249 d 4 [.ref o, a1, a2, a3] st h = pR 249 d 5 [.ref o, a1, a2, a3] (.ref o :: st) h := pR_L rfl rfl
theorem rX25_init_5 : pR 249 d 5 [a0, .ref o, a2, a3] st h = pR 249 d 6 [a0, .ref o, a2, a3] (.ref o :: st) h := pR_L rfl rfl
theorem rX25_init_5n : pR 249 d 5 [a0, .null, a2, a3] st h = pR 249 d 6 [a0, .null, a2, a3] (.null :: st) h := pR_L rfl rfl
theorem rX25_init_6 : pR 249 d 6 ls (.ref o2 :: .ref o :: st) h = if pis (pfl h 25 o 0) = true then pR 249 d 9 ls st (psf h o 0 (.ref o2)) else none := r_put rfl rfl
theorem rX25_init_6n : pR 249 d 6 ls (.null :: .ref o :: st) h = if pis (pfl h 25 o 0) = true then pR 249 d 9 ls st (psf h o 0 .null) else none := r_put rfl rfl
theorem rX25_init_9 : pR 249 d 9 [.ref o, a1, a2, a3] st h = pR 249 d 10 [.ref o, a1, a2, a3] (.ref o :: st) h := pR_L rfl rfl
theorem rX25_init_10 : pR 249 d 10 [a0, a1, .int x, a3] st h = pR 249 d 11 [a0, a1, .int x, a3] (.int x :: st) h := pR_L rfl rfl
theorem rX25_init_11 : pR 249 d 11 ls (.int x :: .ref o :: st) h = if pis (pfl h 25 o 1) = true then pR 249 d 14 ls st (psf h o 1 (.int x)) else none := r_put rfl rfl
theorem rX25_init_14 : pR 249 d 14 [.ref o, a1, a2, a3] st h = pR 249 d 15 [.ref o, a1, a2, a3] (.ref o :: st) h := pR_L rfl rfl
theorem rX25_init_15 : pR 249 d 15 [a0, a1, a2, .int x] st h = pR 249 d 16 [a0, a1, a2, .int x] (.int x :: st) h := pR_L rfl rfl
theorem rX25_init_16 : pR 249 d 16 ls (.int x :: .ref o :: st) h = if pis (pfl h 25 o 2) = true then pR 249 d 19 ls st (psf h o 2 (.int x)) else none := r_put rfl rfl
theorem rX25_init_19 : pR 249 d 19 ls [] h = some (.inl none, h) := pR_E rfl rfl
-- 250 java/lang/Math max (II)I
theorem eJ3_max : pCa 250 d [.int x0, .int x1] h = pR 250 d 0 [.int x0, .int x1] [] h := rfl
-- 251 java/lang/Math min (II)I
theorem eJ3_min : pCa 251 d [.int x0, .int x1] h = pR 251 d 0 [.int x0, .int x1] [] h := rfl
-- 252 java/lang/Math min (JJ)J
theorem eJ3_min_2 : pCa 252 d [.long l0, .long l1] h = pR 252 d 0 [.long l0, pV, .long l1, pV] [] h := rfl
-- 253 java/lang/Math max (JJ)J
theorem eJ3_max_2 : pCa 253 d [.long l0, .long l1] h = pR 253 d 0 [.long l0, pV, .long l1, pV] [] h := rfl
-- 254 java/lang/Integer bitCount (I)I
theorem eJ5_bitCount : pCa 254 d [.int x0] h = pR 254 d 0 [.int x0] [] h := rfl
theorem rJ5_bitCount_0 : pR 254 d 0 [.int x] st h = pR 254 d 1 [.int x] (.int x :: st) h := pR_L rfl rfl
theorem rJ5_bitCount_1 : pR 254 d 1 [.int x] st h = pR 254 d 2 [.int x] (.int x :: st) h := pR_L rfl rfl
theorem rJ5_bitCount_2 : pR 254 d 2 ls st h = pR 254 d 3 ls (.int 1 :: st) h := pR_L rfl rfl
theorem rJ5_bitCount_3 : pR 254 d 3 ls (.int y :: .int x :: st) h = pR 254 d 4 ls (.int ((x.toUInt32 >>> (y.toUInt32 &&& Int32.toUInt32 31)).toInt32) :: st) h := pR_L rfl rfl
theorem rJ5_bitCount_4 : pR 254 d 4 ls st h = pR 254 d 7 ls (.int 1431655765 :: st) h := pR_X rfl rfl
theorem rJ5_bitCount_7 : pR 254 d 7 ls (.int y :: .int x :: st) h = pR 254 d 8 ls (.int (x &&& y) :: st) h := pR_L rfl rfl
theorem rJ5_bitCount_8 : pR 254 d 8 ls (.int y :: .int x :: st) h = pR 254 d 9 ls (.int (x - y) :: st) h := pR_L rfl rfl
theorem rJ5_bitCount_9 : pR 254 d 9 [a0] (.int x :: st) h = if p1 a0 = true then pR 254 d 10 [.int x] st h else none := r_sto (n := 1) (k := 0) (v := .int x) (ls := [a0]) rfl rfl rfl
theorem rJ5_bitCount_10 : pR 254 d 10 [.int x] st h = pR 254 d 11 [.int x] (.int x :: st) h := pR_L rfl rfl
theorem rJ5_bitCount_11 : pR 254 d 11 ls st h = pR 254 d 14 ls (.int 858993459 :: st) h := pR_X rfl rfl
theorem rJ5_bitCount_14 : pR 254 d 14 ls (.int y :: .int x :: st) h = pR 254 d 15 ls (.int (x &&& y) :: st) h := pR_L rfl rfl
theorem rJ5_bitCount_15 : pR 254 d 15 [.int x] st h = pR 254 d 16 [.int x] (.int x :: st) h := pR_L rfl rfl
theorem rJ5_bitCount_16 : pR 254 d 16 ls st h = pR 254 d 17 ls (.int 2 :: st) h := pR_L rfl rfl
theorem rJ5_bitCount_17 : pR 254 d 17 ls (.int y :: .int x :: st) h = pR 254 d 18 ls (.int ((x.toUInt32 >>> (y.toUInt32 &&& Int32.toUInt32 31)).toInt32) :: st) h := pR_L rfl rfl
theorem rJ5_bitCount_18 : pR 254 d 18 ls st h = pR 254 d 21 ls (.int 858993459 :: st) h := pR_X rfl rfl
theorem rJ5_bitCount_21 : pR 254 d 21 ls (.int y :: .int x :: st) h = pR 254 d 22 ls (.int (x &&& y) :: st) h := pR_L rfl rfl
theorem rJ5_bitCount_22 : pR 254 d 22 ls (.int y :: .int x :: st) h = pR 254 d 23 ls (.int (x + y) :: st) h := pR_L rfl rfl
theorem rJ5_bitCount_23 : pR 254 d 23 [a0] (.int x :: st) h = if p1 a0 = true then pR 254 d 24 [.int x] st h else none := r_sto (n := 1) (k := 0) (v := .int x) (ls := [a0]) rfl rfl rfl
theorem rJ5_bitCount_24 : pR 254 d 24 [.int x] st h = pR 254 d 25 [.int x] (.int x :: st) h := pR_L rfl rfl
theorem rJ5_bitCount_25 : pR 254 d 25 [.int x] st h = pR 254 d 26 [.int x] (.int x :: st) h := pR_L rfl rfl
theorem rJ5_bitCount_26 : pR 254 d 26 ls st h = pR 254 d 27 ls (.int 4 :: st) h := pR_L rfl rfl
theorem rJ5_bitCount_27 : pR 254 d 27 ls (.int y :: .int x :: st) h = pR 254 d 28 ls (.int ((x.toUInt32 >>> (y.toUInt32 &&& Int32.toUInt32 31)).toInt32) :: st) h := pR_L rfl rfl
theorem rJ5_bitCount_28 : pR 254 d 28 ls (.int y :: .int x :: st) h = pR 254 d 29 ls (.int (x + y) :: st) h := pR_L rfl rfl
theorem rJ5_bitCount_29 : pR 254 d 29 ls st h = pR 254 d 32 ls (.int 252645135 :: st) h := pR_X rfl rfl
theorem rJ5_bitCount_32 : pR 254 d 32 ls (.int y :: .int x :: st) h = pR 254 d 33 ls (.int (x &&& y) :: st) h := pR_L rfl rfl
theorem rJ5_bitCount_33 : pR 254 d 33 [a0] (.int x :: st) h = if p1 a0 = true then pR 254 d 34 [.int x] st h else none := r_sto (n := 1) (k := 0) (v := .int x) (ls := [a0]) rfl rfl rfl
theorem rJ5_bitCount_34 : pR 254 d 34 [.int x] st h = pR 254 d 35 [.int x] (.int x :: st) h := pR_L rfl rfl
theorem rJ5_bitCount_35 : pR 254 d 35 [.int x] st h = pR 254 d 36 [.int x] (.int x :: st) h := pR_L rfl rfl
theorem rJ5_bitCount_36 : pR 254 d 36 ls st h = pR 254 d 38 ls (.int 8 :: st) h := pR_L rfl rfl
theorem rJ5_bitCount_38 : pR 254 d 38 ls (.int y :: .int x :: st) h = pR 254 d 39 ls (.int ((x.toUInt32 >>> (y.toUInt32 &&& Int32.toUInt32 31)).toInt32) :: st) h := pR_L rfl rfl
theorem rJ5_bitCount_39 : pR 254 d 39 ls (.int y :: .int x :: st) h = pR 254 d 40 ls (.int (x + y) :: st) h := pR_L rfl rfl
theorem rJ5_bitCount_40 : pR 254 d 40 [a0] (.int x :: st) h = if p1 a0 = true then pR 254 d 41 [.int x] st h else none := r_sto (n := 1) (k := 0) (v := .int x) (ls := [a0]) rfl rfl rfl
theorem rJ5_bitCount_41 : pR 254 d 41 [.int x] st h = pR 254 d 42 [.int x] (.int x :: st) h := pR_L rfl rfl
theorem rJ5_bitCount_42 : pR 254 d 42 [.int x] st h = pR 254 d 43 [.int x] (.int x :: st) h := pR_L rfl rfl
theorem rJ5_bitCount_43 : pR 254 d 43 ls st h = pR 254 d 45 ls (.int 16 :: st) h := pR_L rfl rfl
theorem rJ5_bitCount_45 : pR 254 d 45 ls (.int y :: .int x :: st) h = pR 254 d 46 ls (.int ((x.toUInt32 >>> (y.toUInt32 &&& Int32.toUInt32 31)).toInt32) :: st) h := pR_L rfl rfl
theorem rJ5_bitCount_46 : pR 254 d 46 ls (.int y :: .int x :: st) h = pR 254 d 47 ls (.int (x + y) :: st) h := pR_L rfl rfl
theorem rJ5_bitCount_47 : pR 254 d 47 [a0] (.int x :: st) h = if p1 a0 = true then pR 254 d 48 [.int x] st h else none := r_sto (n := 1) (k := 0) (v := .int x) (ls := [a0]) rfl rfl rfl
theorem rJ5_bitCount_48 : pR 254 d 48 [.int x] st h = pR 254 d 49 [.int x] (.int x :: st) h := pR_L rfl rfl
theorem rJ5_bitCount_49 : pR 254 d 49 ls st h = pR 254 d 51 ls (.int 63 :: st) h := pR_L rfl rfl
theorem rJ5_bitCount_51 : pR 254 d 51 ls (.int y :: .int x :: st) h = pR 254 d 52 ls (.int (x &&& y) :: st) h := pR_L rfl rfl
theorem rJ5_bitCount_52 : pR 254 d 52 ls [.int x] h = some (.inl (some (.int x)), h) := pR_E rfl rfl
-- 255 java/lang/Integer numberOfTrailingZeros (I)I
theorem eJ5_numberOfTrailingZeros : pCa 255 d [.int x0] h = pR 255 d 0 [.int x0, pU] [] h := rfl
theorem rJ5_numberOfTrailingZeros_0 : pR 255 d 0 [.int x, a1] st h = pR 255 d 1 [.int x, a1] (.int x :: st) h := pR_L rfl rfl
theorem rJ5_numberOfTrailingZeros_1 : pR 255 d 1 ls st h = pR 255 d 2 ls (.int (-1) :: st) h := pR_L rfl rfl
theorem rJ5_numberOfTrailingZeros_2 : pR 255 d 2 ls (.int y :: .int x :: st) h = pR 255 d 3 ls (.int (x ^^^ y) :: st) h := pR_L rfl rfl
theorem rJ5_numberOfTrailingZeros_3 : pR 255 d 3 [.int x, a1] st h = pR 255 d 4 [.int x, a1] (.int x :: st) h := pR_L rfl rfl
theorem rJ5_numberOfTrailingZeros_4 : pR 255 d 4 ls st h = pR 255 d 5 ls (.int 1 :: st) h := pR_L rfl rfl
theorem rJ5_numberOfTrailingZeros_5 : pR 255 d 5 ls (.int y :: .int x :: st) h = pR 255 d 6 ls (.int (x - y) :: st) h := pR_L rfl rfl
theorem rJ5_numberOfTrailingZeros_6 : pR 255 d 6 ls (.int y :: .int x :: st) h = pR 255 d 7 ls (.int (x &&& y) :: st) h := pR_L rfl rfl
theorem rJ5_numberOfTrailingZeros_7 : pR 255 d 7 [a0, a1] (.int x :: st) h = if p1 a0 = true then pR 255 d 8 [.int x, a1] st h else none := r_sto (n := 1) (k := 0) (v := .int x) (ls := [a0, a1]) rfl rfl rfl
theorem rJ5_numberOfTrailingZeros_8 : pR 255 d 8 [.int x, a1] st h = pR 255 d 9 [.int x, a1] (.int x :: st) h := pR_L rfl rfl
theorem rJ5_numberOfTrailingZeros_9 : pR 255 d 9 ls (.int x :: st) h = if 0 < x then pR 255 d 17 ls st h else pR 255 d 12 ls st h := r_igt rfl rfl
theorem rJ5_numberOfTrailingZeros_12 : pR 255 d 12 [.int x, a1] st h = pR 255 d 13 [.int x, a1] (.int x :: st) h := pR_L rfl rfl
theorem rJ5_numberOfTrailingZeros_13 : pR 255 d 13 ls st h = pR 255 d 15 ls (.int 32 :: st) h := pR_L rfl rfl
theorem rJ5_numberOfTrailingZeros_15 : pR 255 d 15 ls (.int y :: .int x :: st) h = pR 255 d 16 ls (.int (x &&& y) :: st) h := pR_L rfl rfl
theorem rJ5_numberOfTrailingZeros_16 : pR 255 d 16 ls [.int x] h = some (.inl (some (.int x)), h) := pR_E rfl rfl
theorem rJ5_numberOfTrailingZeros_17 : pR 255 d 17 ls st h = pR 255 d 18 ls (.int 1 :: st) h := pR_L rfl rfl
theorem rJ5_numberOfTrailingZeros_18 : pR 255 d 18 [a0, a1] (.int x :: st) h = if p1 a1 = true then pR 255 d 19 [a0, .int x] st h else none := r_sto (n := 1) (k := 1) (v := .int x) (ls := [a0, a1]) rfl rfl rfl
theorem rJ5_numberOfTrailingZeros_19 : pR 255 d 19 [.int x, a1] st h = pR 255 d 20 [.int x, a1] (.int x :: st) h := pR_L rfl rfl
theorem rJ5_numberOfTrailingZeros_20 : pR 255 d 20 ls st h = pR 255 d 23 ls (.int 65536 :: st) h := pR_X rfl rfl
theorem rJ5_numberOfTrailingZeros_23 : pR 255 d 23 ls (.int y :: .int x :: st) h = if y < x then pR 255 d 26 ls st h else pR 255 d 34 ls st h := r_cle rfl rfl
theorem rJ5_numberOfTrailingZeros_26 : pR 255 d 26 [a0, .int x] st h = pR 255 d 29 [a0, .int (x + 16)] st h := pR_L rfl rfl
theorem rJ5_numberOfTrailingZeros_29 : pR 255 d 29 [.int x, a1] st h = pR 255 d 30 [.int x, a1] (.int x :: st) h := pR_L rfl rfl
theorem rJ5_numberOfTrailingZeros_30 : pR 255 d 30 ls st h = pR 255 d 32 ls (.int 16 :: st) h := pR_L rfl rfl
theorem rJ5_numberOfTrailingZeros_32 : pR 255 d 32 ls (.int y :: .int x :: st) h = pR 255 d 33 ls (.int ((x.toUInt32 >>> (y.toUInt32 &&& Int32.toUInt32 31)).toInt32) :: st) h := pR_L rfl rfl
theorem rJ5_numberOfTrailingZeros_33 : pR 255 d 33 [a0, a1] (.int x :: st) h = if p1 a0 = true then pR 255 d 34 [.int x, a1] st h else none := r_sto (n := 1) (k := 0) (v := .int x) (ls := [a0, a1]) rfl rfl rfl
theorem rJ5_numberOfTrailingZeros_34 : pR 255 d 34 [.int x, a1] st h = pR 255 d 35 [.int x, a1] (.int x :: st) h := pR_L rfl rfl
theorem rJ5_numberOfTrailingZeros_35 : pR 255 d 35 ls st h = pR 255 d 38 ls (.int 256 :: st) h := pR_L rfl rfl
theorem rJ5_numberOfTrailingZeros_38 : pR 255 d 38 ls (.int y :: .int x :: st) h = if y < x then pR 255 d 41 ls st h else pR 255 d 49 ls st h := r_cle rfl rfl
theorem rJ5_numberOfTrailingZeros_41 : pR 255 d 41 [a0, .int x] st h = pR 255 d 44 [a0, .int (x + 8)] st h := pR_L rfl rfl
theorem rJ5_numberOfTrailingZeros_44 : pR 255 d 44 [.int x, a1] st h = pR 255 d 45 [.int x, a1] (.int x :: st) h := pR_L rfl rfl
theorem rJ5_numberOfTrailingZeros_45 : pR 255 d 45 ls st h = pR 255 d 47 ls (.int 8 :: st) h := pR_L rfl rfl
theorem rJ5_numberOfTrailingZeros_47 : pR 255 d 47 ls (.int y :: .int x :: st) h = pR 255 d 48 ls (.int ((x.toUInt32 >>> (y.toUInt32 &&& Int32.toUInt32 31)).toInt32) :: st) h := pR_L rfl rfl
theorem rJ5_numberOfTrailingZeros_48 : pR 255 d 48 [a0, a1] (.int x :: st) h = if p1 a0 = true then pR 255 d 49 [.int x, a1] st h else none := r_sto (n := 1) (k := 0) (v := .int x) (ls := [a0, a1]) rfl rfl rfl
theorem rJ5_numberOfTrailingZeros_49 : pR 255 d 49 [.int x, a1] st h = pR 255 d 50 [.int x, a1] (.int x :: st) h := pR_L rfl rfl
theorem rJ5_numberOfTrailingZeros_50 : pR 255 d 50 ls st h = pR 255 d 52 ls (.int 16 :: st) h := pR_L rfl rfl
theorem rJ5_numberOfTrailingZeros_52 : pR 255 d 52 ls (.int y :: .int x :: st) h = if y < x then pR 255 d 55 ls st h else pR 255 d 62 ls st h := r_cle rfl rfl
theorem rJ5_numberOfTrailingZeros_55 : pR 255 d 55 [a0, .int x] st h = pR 255 d 58 [a0, .int (x + 4)] st h := pR_L rfl rfl
theorem rJ5_numberOfTrailingZeros_58 : pR 255 d 58 [.int x, a1] st h = pR 255 d 59 [.int x, a1] (.int x :: st) h := pR_L rfl rfl
theorem rJ5_numberOfTrailingZeros_59 : pR 255 d 59 ls st h = pR 255 d 60 ls (.int 4 :: st) h := pR_L rfl rfl
theorem rJ5_numberOfTrailingZeros_60 : pR 255 d 60 ls (.int y :: .int x :: st) h = pR 255 d 61 ls (.int ((x.toUInt32 >>> (y.toUInt32 &&& Int32.toUInt32 31)).toInt32) :: st) h := pR_L rfl rfl
theorem rJ5_numberOfTrailingZeros_61 : pR 255 d 61 [a0, a1] (.int x :: st) h = if p1 a0 = true then pR 255 d 62 [.int x, a1] st h else none := r_sto (n := 1) (k := 0) (v := .int x) (ls := [a0, a1]) rfl rfl rfl
theorem rJ5_numberOfTrailingZeros_62 : pR 255 d 62 [.int x, a1] st h = pR 255 d 63 [.int x, a1] (.int x :: st) h := pR_L rfl rfl
theorem rJ5_numberOfTrailingZeros_63 : pR 255 d 63 ls st h = pR 255 d 64 ls (.int 4 :: st) h := pR_L rfl rfl
theorem rJ5_numberOfTrailingZeros_64 : pR 255 d 64 ls (.int y :: .int x :: st) h = if y < x then pR 255 d 67 ls st h else pR 255 d 74 ls st h := r_cle rfl rfl
theorem rJ5_numberOfTrailingZeros_67 : pR 255 d 67 [a0, .int x] st h = pR 255 d 70 [a0, .int (x + 2)] st h := pR_L rfl rfl
theorem rJ5_numberOfTrailingZeros_70 : pR 255 d 70 [.int x, a1] st h = pR 255 d 71 [.int x, a1] (.int x :: st) h := pR_L rfl rfl
theorem rJ5_numberOfTrailingZeros_71 : pR 255 d 71 ls st h = pR 255 d 72 ls (.int 2 :: st) h := pR_L rfl rfl
theorem rJ5_numberOfTrailingZeros_72 : pR 255 d 72 ls (.int y :: .int x :: st) h = pR 255 d 73 ls (.int ((x.toUInt32 >>> (y.toUInt32 &&& Int32.toUInt32 31)).toInt32) :: st) h := pR_L rfl rfl
theorem rJ5_numberOfTrailingZeros_73 : pR 255 d 73 [a0, a1] (.int x :: st) h = if p1 a0 = true then pR 255 d 74 [.int x, a1] st h else none := r_sto (n := 1) (k := 0) (v := .int x) (ls := [a0, a1]) rfl rfl rfl
theorem rJ5_numberOfTrailingZeros_74 : pR 255 d 74 [a0, .int x] st h = pR 255 d 75 [a0, .int x] (.int x :: st) h := pR_L rfl rfl
theorem rJ5_numberOfTrailingZeros_75 : pR 255 d 75 [.int x, a1] st h = pR 255 d 76 [.int x, a1] (.int x :: st) h := pR_L rfl rfl
theorem rJ5_numberOfTrailingZeros_76 : pR 255 d 76 ls st h = pR 255 d 77 ls (.int 1 :: st) h := pR_L rfl rfl
theorem rJ5_numberOfTrailingZeros_77 : pR 255 d 77 ls (.int y :: .int x :: st) h = pR 255 d 78 ls (.int ((x.toUInt32 >>> (y.toUInt32 &&& Int32.toUInt32 31)).toInt32) :: st) h := pR_L rfl rfl
theorem rJ5_numberOfTrailingZeros_78 : pR 255 d 78 ls (.int y :: .int x :: st) h = pR 255 d 79 ls (.int (x + y) :: st) h := pR_L rfl rfl
theorem rJ5_numberOfTrailingZeros_79 : pR 255 d 79 ls [.int x] h = some (.inl (some (.int x)), h) := pR_E rfl rfl
-- 256 BalloonStall$Wrong <init> (I)V
theorem eX7_init : pCa 256 d [.ref o, .int x0] h = pR 256 d 0 [.ref o, .int x0] [] h := rfl
theorem rX7_init_0 : pR 256 d 0 [.ref o, a1] st h = pR 256 d 1 [.ref o, a1] (.ref o :: st) h := pR_L rfl rfl
theorem rX7_init_1 : pR 256 d 1 ls st h = pR 256 d 2 ls (.null :: st) h := pR_L rfl rfl
theorem rX7_init_2 : pR 256 d 2 ls st h = pR 256 d 3 ls (.null :: st) h := pR_L rfl rfl
theorem rX7_init_3 : pR 256 d 3 ls st h = pR 256 d 4 ls (.int 0 :: st) h := pR_L rfl rfl
theorem rX7_init_4 : pR 256 d 4 ls st h = pR 256 d 5 ls (.int 0 :: st) h := pR_L rfl rfl
theorem rX7_init_5 : pR 256 (d + 1) 5 ls (b4 :: b3 :: b2 :: b1 :: .ref o :: st) h = if (pok 7 (pcl h o) && pw st) = true then pK 256 (d + 1) 5 3 ls st (pCa 257 d [.ref o, b1, b2, b3, b4] h) else none := r_callV rfl rfl rfl
theorem rX7_init_8 : pR 256 d 8 [.ref o, a1] st h = pR 256 d 9 [.ref o, a1] (.ref o :: st) h := pR_L rfl rfl
theorem rX7_init_9 : pR 256 d 9 [a0, .int x] st h = pR 256 d 10 [a0, .int x] (.int x :: st) h := pR_L rfl rfl
theorem rX7_init_10 : pR 256 d 10 ls (.int x :: .ref o :: st) h = if pis (pfl h 7 o 6) = true then pR 256 d 13 ls st (psf h o 6 (.int x)) else none := r_put rfl rfl
theorem rX7_init_13 : pR 256 d 13 ls [] h = some (.inl none, h) := pR_E rfl rfl
-- 257 java/lang/RuntimeException <init> (Ljava/lang/String;Ljava/lang/Throwable;ZZ)V
theorem eJ2_init : pCa 257 d [.ref o, .ref r0, .ref r1, .int x2, .int x3] h = pR 257 d 0 [.ref o, .ref r0, .ref r1, .int x2, .int x3] [] h := rfl
theorem rJ2_init_0 : pR 257 d 0 [.ref o, a1, a2, a3, a4] st h = pR 257 d 1 [.ref o, a1, a2, a3, a4] (.ref o :: st) h := pR_L rfl rfl
theorem rJ2_init_1 : pR 257 d 1 [a0, .ref o, a2, a3, a4] st h = pR 257 d 2 [a0, .ref o, a2, a3, a4] (.ref o :: st) h := pR_L rfl rfl
theorem rJ2_init_1n : pR 257 d 1 [a0, .null, a2, a3, a4] st h = pR 257 d 2 [a0, .null, a2, a3, a4] (.null :: st) h := pR_L rfl rfl
theorem rJ2_init_2 : pR 257 d 2 [a0, a1, .ref o, a3, a4] st h = pR 257 d 3 [a0, a1, .ref o, a3, a4] (.ref o :: st) h := pR_L rfl rfl
theorem rJ2_init_2n : pR 257 d 2 [a0, a1, .null, a3, a4] st h = pR 257 d 3 [a0, a1, .null, a3, a4] (.null :: st) h := pR_L rfl rfl
theorem rJ2_init_3 : pR 257 d 3 [a0, a1, a2, .int x, a4] st h = pR 257 d 4 [a0, a1, a2, .int x, a4] (.int x :: st) h := pR_L rfl rfl
theorem rJ2_init_4 : pR 257 d 4 [a0, a1, a2, a3, .int x] st h = pR 257 d 6 [a0, a1, a2, a3, .int x] (.int x :: st) h := pR_L rfl rfl
theorem rJ2_init_6 : pR 257 (d + 1) 6 ls (b4 :: b3 :: b2 :: b1 :: .ref o :: st) h = if (pok 7 (pcl h o) && pw st) = true then pK 257 (d + 1) 6 3 ls st (pCa 258 d [.ref o, b1, b2, b3, b4] h) else none := r_callV rfl rfl rfl
theorem rJ2_init_9 : pR 257 d 9 ls [] h = some (.inl none, h) := pR_E rfl rfl
-- 258 java/lang/Exception <init> (Ljava/lang/String;Ljava/lang/Throwable;ZZ)V
theorem eJ1_init : pCa 258 d [.ref o, .ref r0, .ref r1, .int x2, .int x3] h = pR 258 d 0 [.ref o, .ref r0, .ref r1, .int x2, .int x3] [] h := rfl
theorem rJ1_init_0 : pR 258 d 0 [.ref o, a1, a2, a3, a4] st h = pR 258 d 1 [.ref o, a1, a2, a3, a4] (.ref o :: st) h := pR_L rfl rfl
theorem rJ1_init_1 : pR 258 d 1 [a0, .ref o, a2, a3, a4] st h = pR 258 d 2 [a0, .ref o, a2, a3, a4] (.ref o :: st) h := pR_L rfl rfl
theorem rJ1_init_1n : pR 258 d 1 [a0, .null, a2, a3, a4] st h = pR 258 d 2 [a0, .null, a2, a3, a4] (.null :: st) h := pR_L rfl rfl
theorem rJ1_init_2 : pR 258 d 2 [a0, a1, .ref o, a3, a4] st h = pR 258 d 3 [a0, a1, .ref o, a3, a4] (.ref o :: st) h := pR_L rfl rfl
theorem rJ1_init_2n : pR 258 d 2 [a0, a1, .null, a3, a4] st h = pR 258 d 3 [a0, a1, .null, a3, a4] (.null :: st) h := pR_L rfl rfl
theorem rJ1_init_3 : pR 258 d 3 [a0, a1, a2, .int x, a4] st h = pR 258 d 4 [a0, a1, a2, .int x, a4] (.int x :: st) h := pR_L rfl rfl
theorem rJ1_init_4 : pR 258 d 4 [a0, a1, a2, a3, .int x] st h = pR 258 d 6 [a0, a1, a2, a3, .int x] (.int x :: st) h := pR_L rfl rfl
theorem rJ1_init_6 : pR 258 (d + 3) 6 ls (.int 0 :: .int 0 :: .null :: .null :: .ref o :: st) h = if (pis (pfl h 7 o 0) && pis (pfl h 7 o 1) && pis (pfl h 7 o 2) && pis (pfl h 7 o 3) && pw st) = true then pR 258 (d + 3) 9 ls st (psf (psf (psf (psf h o 0 .null) o 1 .null) o 2 .null) o 3 .null) else none := r_wr rfl
theorem rJ1_init_9 : pR 258 d 9 ls [] h = some (.inl none, h) := pR_E rfl rfl
-- 259 java/lang/Throwable <init> (Ljava/lang/String;Ljava/lang/Throwable;ZZ)V
theorem eJ0_init_2 : pCa 259 d [.ref o, .ref r0, .ref r1, .int x2, .int x3] h = pR 259 d 0 [.ref o, .ref r0, .ref r1, .int x2, .int x3] [] h := rfl
-- 260 BalloonStall$FigureReader <init> (LBalloonStall;)V
theorem eX6_init : pCa 260 d [.ref o, .ref r0] h = pR 260 d 0 [.ref o, .ref r0] [] h := rfl
-- 261 BalloonStall$RuleReader <init> (LBalloonStall;)V
theorem eX13_init : pCa 261 d [.ref o, .ref r0] h = pR 261 d 0 [.ref o, .ref r0] [] h := rfl
-- 262 BalloonStall$Reader <init> (LBalloonStall;)V
theorem eX5_init : pCa 262 d [.ref o, .ref r0] h = pR 262 d 0 [.ref o, .ref r0] [] h := rfl
end
