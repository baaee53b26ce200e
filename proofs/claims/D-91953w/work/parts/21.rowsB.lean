/-! rows: one equation an instruction, printed by gen.py -/
set_option maxRecDepth 100000
section
variable {d o o2 : Nat} {ls st : List Value} {h : pH} {x y x3 : Int32} {lx ly : Int64} {a0 a1 a2 a3 a4 a5 a6 a7 a8 a9 a10 a11 a12 a13 a14 : Value} {b0 b1 b2 b3 b4 b5 b6 b7 b8 : Value} {x0 x1 x2 x4 x5 x6 x7 x8 : Int32} {l0 l1 l2 l3 l4 l5 l6 l7 l8 : Int64} {r0 r1 r2 r3 r4 r5 r6 r7 r8 : Nat}
-- 4 BalloonStall <init> ()V
theorem eX1_init : pCa 4 d [.ref o] h = pR 4 d 0 [.ref o] [] h := rfl
theorem rX1_init_0 : pR 4 d 0 [.ref o] st h = pR 4 d 1 [.ref o] (.ref o :: st) h := pR_L rfl rfl
theorem rX1_init_1 : pR 4 (d + 1) 1 ls (.ref o :: st) h = if pw st = true then pR 4 (d + 1) 4 ls st h else none := r_obj rfl
theorem rX1_init_4 : pR 4 d 4 [.ref o] st h = pR 4 d 5 [.ref o] (.ref o :: st) h := pR_L rfl rfl
theorem rX1_init_5 : pR 4 d 5 ls st h = pR 4 d 7 ls (.int 6 :: st) h := pR_L rfl rfl
theorem rX1_init_7 : pR 4 d 7 ls (.int 6 :: st) h = pR 4 d 10 ls (.ref h.2.1 :: st) (pnw h (.inl (4, 6, .inr (.inr (.inr (.inr fun _ => none))))) 6) := pR_X rfl rfl
theorem rX1_init_10 : pR 4 d 10 ls (.ref o2 :: .ref o :: st) h = if pis (pfl h 1 o 0) = true then pR 4 d 13 ls st (psf h o 0 (.ref o2)) else none := r_put rfl rfl
theorem rX1_init_10n : pR 4 d 10 ls (.null :: .ref o :: st) h = if pis (pfl h 1 o 0) = true then pR 4 d 13 ls st (psf h o 0 .null) else none := r_put rfl rfl
theorem rX1_init_13 : pR 4 d 13 [.ref o] st h = pR 4 d 14 [.ref o] (.ref o :: st) h := pR_L rfl rfl
theorem rX1_init_14 : pR 4 d 14 ls st h = pR 4 d 17 ls (.int 200 :: st) h := pR_L rfl rfl
theorem rX1_init_17 : pR 4 d 17 ls (.int 200 :: st) h = pR 4 d 19 ls (.ref h.2.1 :: st) (pnw h (.inl (1, 200, .inl fun _ => 0)) 200) := pR_X rfl rfl
theorem rX1_init_19 : pR 4 d 19 ls (.ref o2 :: .ref o :: st) h = if pis (pfl h 1 o 2) = true then pR 4 d 22 ls st (psf h o 2 (.ref o2)) else none := r_put rfl rfl
theorem rX1_init_19n : pR 4 d 19 ls (.null :: .ref o :: st) h = if pis (pfl h 1 o 2) = true then pR 4 d 22 ls st (psf h o 2 .null) else none := r_put rfl rfl
theorem rX1_init_22 : pR 4 d 22 [.ref o] st h = pR 4 d 23 [.ref o] (.ref o :: st) h := pR_L rfl rfl
theorem rX1_init_23 : pR 4 d 23 ls st h = pR 4 d 25 ls (.int 12 :: st) h := pR_L rfl rfl
theorem rX1_init_25 : pR 4 d 25 ls (.int 12 :: st) h = pR 4 d 28 ls (.ref h.2.1 :: st) (pnw h (.inl (5, 12, .inr (.inr (.inr (.inr fun _ => none))))) 12) := pR_X rfl rfl
theorem rX1_init_28 : pR 4 d 28 ls (.ref o2 :: .ref o :: st) h = if pis (pfl h 1 o 4) = true then pR 4 d 31 ls st (psf h o 4 (.ref o2)) else none := r_put rfl rfl
theorem rX1_init_28n : pR 4 d 28 ls (.null :: .ref o :: st) h = if pis (pfl h 1 o 4) = true then pR 4 d 31 ls st (psf h o 4 .null) else none := r_put rfl rfl
theorem rX1_init_31 : pR 4 d 31 [.ref o] st h = pR 4 d 32 [.ref o] (.ref o :: st) h := pR_L rfl rfl
theorem rX1_init_32 : pR 4 d 32 ls st h = pR 4 d 34 ls (.int 8 :: st) h := pR_L rfl rfl
theorem rX1_init_34 : pR 4 d 34 ls (.int 8 :: st) h = pR 4 d 36 ls (.ref h.2.1 :: st) (pnw h (.inl (0, 8, .inl fun _ => 0)) 8) := pR_X rfl rfl
theorem rX1_init_36 : pR 4 d 36 ls (.ref o2 :: .ref o :: st) h = if pis (pfl h 1 o 6) = true then pR 4 d 39 ls st (psf h o 6 (.ref o2)) else none := r_put rfl rfl
theorem rX1_init_36n : pR 4 d 36 ls (.null :: .ref o :: st) h = if pis (pfl h 1 o 6) = true then pR 4 d 39 ls st (psf h o 6 .null) else none := r_put rfl rfl
theorem rX1_init_39 : pR 4 d 39 [.ref o] st h = pR 4 d 40 [.ref o] (.ref o :: st) h := pR_L rfl rfl
theorem rX1_init_40 : pR 4 d 40 ls st h = pR 4 d 43 ls (.int 1024 :: st) h := pR_L rfl rfl
theorem rX1_init_43 : pR 4 d 43 ls (.int 1024 :: st) h = pR 4 d 45 ls (.ref h.2.1 :: st) (pnw h (.inl (0, 1024, .inl fun _ => 0)) 1024) := pR_X rfl rfl
theorem rX1_init_45 : pR 4 d 45 ls (.ref o2 :: .ref o :: st) h = if pis (pfl h 1 o 7) = true then pR 4 d 48 ls st (psf h o 7 (.ref o2)) else none := r_put rfl rfl
theorem rX1_init_45n : pR 4 d 45 ls (.null :: .ref o :: st) h = if pis (pfl h 1 o 7) = true then pR 4 d 48 ls st (psf h o 7 .null) else none := r_put rfl rfl
theorem rX1_init_48 : pR 4 d 48 [.ref o] st h = pR 4 d 49 [.ref o] (.ref o :: st) h := pR_L rfl rfl
theorem rX1_init_49 : pR 4 d 49 ls st h = pR 4 d 52 ls (.int 1024 :: st) h := pR_L rfl rfl
theorem rX1_init_52 : pR 4 d 52 ls (.int 1024 :: st) h = pR 4 d 54 ls (.ref h.2.1 :: st) (pnw h (.inl (0, 1024, .inl fun _ => 0)) 1024) := pR_X rfl rfl
theorem rX1_init_54 : pR 4 d 54 ls (.ref o2 :: .ref o :: st) h = if pis (pfl h 1 o 8) = true then pR 4 d 57 ls st (psf h o 8 (.ref o2)) else none := r_put rfl rfl
theorem rX1_init_54n : pR 4 d 54 ls (.null :: .ref o :: st) h = if pis (pfl h 1 o 8) = true then pR 4 d 57 ls st (psf h o 8 .null) else none := r_put rfl rfl
theorem rX1_init_57 : pR 4 d 57 [.ref o] st h = pR 4 d 58 [.ref o] (.ref o :: st) h := pR_L rfl rfl
theorem rX1_init_58 : pR 4 d 58 ls st h = pR 4 d 61 ls (.int 1024 :: st) h := pR_L rfl rfl
theorem rX1_init_61 : pR 4 d 61 ls (.int 1024 :: st) h = pR 4 d 63 ls (.ref h.2.1 :: st) (pnw h (.inl (0, 1024, .inl fun _ => 0)) 1024) := pR_X rfl rfl
theorem rX1_init_63 : pR 4 d 63 ls (.ref o2 :: .ref o :: st) h = if pis (pfl h 1 o 9) = true then pR 4 d 66 ls st (psf h o 9 (.ref o2)) else none := r_put rfl rfl
theorem rX1_init_63n : pR 4 d 63 ls (.null :: .ref o :: st) h = if pis (pfl h 1 o 9) = true then pR 4 d 66 ls st (psf h o 9 .null) else none := r_put rfl rfl
theorem rX1_init_66 : pR 4 d 66 [.ref o] st h = pR 4 d 67 [.ref o] (.ref o :: st) h := pR_L rfl rfl
theorem rX1_init_67 : pR 4 d 67 ls st h = pR 4 d 69 ls (.int 32 :: st) h := pR_L rfl rfl
theorem rX1_init_69 : pR 4 d 69 ls (.int 32 :: st) h = pR 4 d 71 ls (.ref h.2.1 :: st) (pnw h (.inl (0, 32, .inl fun _ => 0)) 32) := pR_X rfl rfl
theorem rX1_init_71 : pR 4 d 71 ls (.ref o2 :: .ref o :: st) h = if pis (pfl h 1 o 10) = true then pR 4 d 74 ls st (psf h o 10 (.ref o2)) else none := r_put rfl rfl
theorem rX1_init_71n : pR 4 d 71 ls (.null :: .ref o :: st) h = if pis (pfl h 1 o 10) = true then pR 4 d 74 ls st (psf h o 10 .null) else none := r_put rfl rfl
theorem rX1_init_74 : pR 4 d 74 [.ref o] st h = pR 4 d 75 [.ref o] (.ref o :: st) h := pR_L rfl rfl
theorem rX1_init_75 : pR 4 d 75 ls st h = pR 4 d 77 ls (.int 30 :: st) h := pR_L rfl rfl
theorem rX1_init_77 : pR 4 d 77 ls (.int 30 :: st) h = pR 4 d 80 ls (.ref h.2.1 :: st) (pnw h (.inl (6, 30, .inr (.inr (.inr (.inr fun _ => none))))) 30) := pR_X rfl rfl
theorem rX1_init_80 : pR 4 d 80 ls (.ref o2 :: .ref o :: st) h = if pis (pfl h 1 o 11) = true then pR 4 d 83 ls st (psf h o 11 (.ref o2)) else none := r_put rfl rfl
theorem rX1_init_80n : pR 4 d 80 ls (.null :: .ref o :: st) h = if pis (pfl h 1 o 11) = true then pR 4 d 83 ls st (psf h o 11 .null) else none := r_put rfl rfl
theorem rX1_init_83 : pR 4 d 83 [.ref o] st h = pR 4 d 84 [.ref o] (.ref o :: st) h := pR_L rfl rfl
theorem rX1_init_84 : pR 4 d 84 ls st h = pR 4 d 85 ls (.int 1 :: st) h := pR_L rfl rfl
theorem rX1_init_85 : pR 4 d 85 ls (.int x :: .ref o :: st) h = if pis (pfl h 1 o 14) = true then pR 4 d 88 ls st (psf h o 14 (.int x)) else none := r_put rfl rfl
theorem rX1_init_88 : pR 4 d 88 [.ref o] st h = pR 4 d 89 [.ref o] (.ref o :: st) h := pR_L rfl rfl
theorem rX1_init_89 : pR 4 d 89 ls st h = pR 4 d 91 ls (.int 6 :: st) h := pR_L rfl rfl
theorem rX1_init_91 : pR 4 d 91 ls (.int 6 :: st) h = pR 4 d 94 ls (.ref h.2.1 :: st) (pnw h (.inl (7, 6, .inr (.inr (.inr (.inr fun _ => none))))) 6) := pR_X rfl rfl
theorem rX1_init_94 : pR 4 d 94 ls (.ref o2 :: .ref o :: st) h = if pis (pfl h 1 o 18) = true then pR 4 d 97 ls st (psf h o 18 (.ref o2)) else none := r_put rfl rfl
theorem rX1_init_94n : pR 4 d 94 ls (.null :: .ref o :: st) h = if pis (pfl h 1 o 18) = true then pR 4 d 97 ls st (psf h o 18 .null) else none := r_put rfl rfl
theorem rX1_init_97 : pR 4 d 97 [.ref o] st h = pR 4 d 98 [.ref o] (.ref o :: st) h := pR_L rfl rfl
theorem rX1_init_98 : pR 4 d 98 ls st h = pR 4 d 101 ls (.ref h.2.1 :: st) (pnw h (.inr (2, [.null])) 1) := pR_X rfl rfl
theorem rX1_init_101 : pR 4 d 101 ls (.ref o :: st) h = pR 4 d 102 ls (.ref o :: .ref o :: st) h := pR_L rfl rfl
theorem rX1_init_101i : pR 4 d 101 ls (.int x :: st) h = pR 4 d 102 ls (.int x :: .int x :: st) h := pR_L rfl rfl
theorem rX1_init_102 : pR 4 (d + 1) 102 ls (.ref o :: st) h = if (pok 2 (pcl h o) && pw st) = true then pK 4 (d + 1) 102 3 ls st (pCa 65 d [.ref o] h) else none := r_callV rfl rfl rfl
theorem rX1_init_105 : pR 4 d 105 ls (.ref o2 :: .ref o :: st) h = if pis (pfl h 1 o 19) = true then pR 4 d 108 ls st (psf h o 19 (.ref o2)) else none := r_put rfl rfl
theorem rX1_init_105n : pR 4 d 105 ls (.null :: .ref o :: st) h = if pis (pfl h 1 o 19) = true then pR 4 d 108 ls st (psf h o 19 .null) else none := r_put rfl rfl
theorem rX1_init_108 : pR 4 d 108 [.ref o] st h = pR 4 d 109 [.ref o] (.ref o :: st) h := pR_L rfl rfl
theorem rX1_init_109 : pR 4 d 109 ls st h = pR 4 d 111 ls (.int 24 :: st) h := pR_L rfl rfl
theorem rX1_init_111 : pR 4 d 111 ls (.int 24 :: st) h = pR 4 d 113 ls (.ref h.2.1 :: st) (pnw h (.inl (0, 24, .inl fun _ => 0)) 24) := pR_X rfl rfl
theorem rX1_init_113 : pR 4 d 113 ls (.ref o2 :: .ref o :: st) h = if pis (pfl h 1 o 21) = true then pR 4 d 116 ls st (psf h o 21 (.ref o2)) else none := r_put rfl rfl
theorem rX1_init_113n : pR 4 d 113 ls (.null :: .ref o :: st) h = if pis (pfl h 1 o 21) = true then pR 4 d 116 ls st (psf h o 21 .null) else none := r_put rfl rfl
theorem rX1_init_116 : pR 4 d 116 ls [] h = some (.inl none, h) := pR_E rfl rfl
-- 5 BalloonStall sort (III)I
theorem eX1_sort : pCa 5 d [.ref o, .int x0, .int x1, .int x2] h = pR 5 d 0 [.ref o, .int x0, .int x1, .int x2] [] h := rfl
theorem rX1_sort_0 : pR 5 d 0 [.ref o, a1, a2, a3] st h = pR 5 d 1 [.ref o, a1, a2, a3] (.ref o :: st) h := pR_L rfl rfl
theorem rX1_sort_1 : pR 5 d 1 ls (.ref o :: st) h = if pis (pfl h 1 o 1) = true then pR 5 d 4 ls (pfl h 1 o 1 :: st) h else none := r_get rfl
theorem rX1_sort_4 : pR 5 d 4 ls st h = pR 5 d 6 ls (.int 6 :: st) h := pR_L rfl rfl
theorem rX1_sort_6 : pR 5 d 6 ls (.int y :: .int x :: st) h = if x = y then pR 5 d 47 ls st h else pR 5 d 9 ls st h := r_ceq rfl rfl
theorem rX1_sort_9 : pR 5 d 9 [a0, .int x, a2, a3] st h = pR 5 d 10 [a0, .int x, a2, a3] (.int x :: st) h := pR_L rfl rfl
theorem rX1_sort_10 : pR 5 d 10 ls (.int x :: st) h = pR 5 d 11 ls (.long x.toInt64 :: st) h := pR_L rfl rfl
theorem rX1_sort_11 : pR 5 d 11 ls st h = pR 5 d 14 ls (.long 5 :: st) h := pR_X rfl rfl
theorem rX1_sort_14 : pR 5 d 14 ls st h = pR 5 d 17 ls (.long 200 :: st) h := pR_X rfl rfl
theorem rX1_sort_17 : pR 5 (d + 1) 17 ls (b2 :: b1 :: b0 :: st) h = if pw st = true then pK 5 (d + 1) 17 3 ls st (pCa 6 d [b0, b1, b2] h) else none := r_callS rfl rfl rfl
theorem rX1_sort_20 : pR 5 d 20 ls (.int x :: st) h = if x = 0 then pR 5 d 47 ls st h else pR 5 d 23 ls st h := r_ieq rfl rfl
theorem rX1_sort_23 : pR 5 d 23 [a0, a1, .int x, a3] st h = pR 5 d 24 [a0, a1, .int x, a3] (.int x :: st) h := pR_L rfl rfl
theorem rX1_sort_24 : pR 5 d 24 ls (.int x :: st) h = pR 5 d 25 ls (.long x.toInt64 :: st) h := pR_L rfl rfl
theorem rX1_sort_25 : pR 5 d 25 ls st h = pR 5 d 26 ls (.long 0 :: st) h := pR_L rfl rfl
theorem rX1_sort_26 : pR 5 d 26 ls st h = pR 5 d 29 ls (.long 9 :: st) h := pR_X rfl rfl
theorem rX1_sort_29 : pR 5 (d + 1) 29 ls (b2 :: b1 :: b0 :: st) h = if pw st = true then pK 5 (d + 1) 29 3 ls st (pCa 6 d [b0, b1, b2] h) else none := r_callS rfl rfl rfl
theorem rX1_sort_32 : pR 5 d 32 ls (.int x :: st) h = if x = 0 then pR 5 d 47 ls st h else pR 5 d 35 ls st h := r_ieq rfl rfl
theorem rX1_sort_35 : pR 5 d 35 [a0, a1, a2, .int x] st h = pR 5 d 36 [a0, a1, a2, .int x] (.int x :: st) h := pR_L rfl rfl
theorem rX1_sort_36 : pR 5 d 36 ls (.int x :: st) h = pR 5 d 37 ls (.long x.toInt64 :: st) h := pR_L rfl rfl
theorem rX1_sort_37 : pR 5 d 37 ls st h = pR 5 d 38 ls (.long 0 :: st) h := pR_L rfl rfl
theorem rX1_sort_38 : pR 5 d 38 ls st h = pR 5 d 41 ls (.long 99 :: st) h := pR_X rfl rfl
theorem rX1_sort_41 : pR 5 (d + 1) 41 ls (b2 :: b1 :: b0 :: st) h = if pw st = true then pK 5 (d + 1) 41 3 ls st (pCa 6 d [b0, b1, b2] h) else none := r_callS rfl rfl rfl
theorem rX1_sort_44 : pR 5 d 44 ls (.int x :: st) h = if x = 0 then pR 5 d 47 ls st h else pR 5 d 49 ls st h := r_ine rfl rfl
theorem rX1_sort_47 : pR 5 d 47 ls st h = pR 5 d 48 ls (.int (-1) :: st) h := pR_L rfl rfl
theorem rX1_sort_48 : pR 5 d 48 ls [.int x] h = some (.inl (some (.int x)), h) := pR_E rfl rfl
theorem rX1_sort_49 : pR 5 d 49 [.ref o, a1, a2, a3] st h = pR 5 d 50 [.ref o, a1, a2, a3] (.ref o :: st) h := pR_L rfl rfl
theorem rX1_sort_50 : pR 5 d 50 ls (.ref o :: st) h = if pis (pfl h 1 o 0) = true then pR 5 d 53 ls (pfl h 1 o 0 :: st) h else none := r_get rfl
theorem rX1_sort_53 : pR 5 d 53 [.ref o, a1, a2, a3] st h = pR 5 d 54 [.ref o, a1, a2, a3] (.ref o :: st) h := pR_L rfl rfl
theorem rX1_sort_54 : pR 5 d 54 ls (.ref o :: st) h = if pis (pfl h 1 o 1) = true then pR 5 d 57 ls (pfl h 1 o 1 :: st) h else none := r_get rfl
theorem rX1_sort_57 : pR 5 d 57 ls st h = pR 5 d 60 ls (.ref h.2.1 :: st) (pnw h (.inr (4, [.int 0, .int 0, .int 0, .int 0, .int 0, .int 0])) 6) := pR_X rfl rfl
theorem rX1_sort_60 : pR 5 d 60 ls (.ref o :: st) h = pR 5 d 61 ls (.ref o :: .ref o :: st) h := pR_L rfl rfl
theorem rX1_sort_60i : pR 5 d 60 ls (.int x :: st) h = pR 5 d 61 ls (.int x :: .int x :: st) h := pR_L rfl rfl
theorem rX1_sort_61 : pR 5 d 61 [a0, .int x, a2, a3] st h = pR 5 d 62 [a0, .int x, a2, a3] (.int x :: st) h := pR_L rfl rfl
theorem rX1_sort_62 : pR 5 d 62 [a0, a1, .int x, a3] st h = pR 5 d 63 [a0, a1, .int x, a3] (.int x :: st) h := pR_L rfl rfl
theorem rX1_sort_63 : pR 5 d 63 [a0, a1, a2, .int x] st h = pR 5 d 64 [a0, a1, a2, .int x] (.int x :: st) h := pR_L rfl rfl
theorem rX1_sort_64 : pR 5 (d + 1) 64 ls (b3 :: b2 :: b1 :: .ref o :: st) h = if (pok 4 (pcl h o) && pw st) = true then pK 5 (d + 1) 64 3 ls st (pCa 168 d [.ref o, b1, b2, b3] h) else none := r_callV rfl rfl rfl
theorem rX1_sort_67 : pR 5 d 67 ls (.ref o2 :: .int x :: .ref o :: st) h = if (pin x (plnQ h o) && pcl h o2 == pel (pkdQ h o)) = true then pR 5 d 68 ls st (pstQ h o x.toNatClampNeg (some o2)) else none := pR_Lif rfl rfl
theorem rX1_sort_68 : pR 5 d 68 [.ref o, a1, a2, a3] st h = pR 5 d 69 [.ref o, a1, a2, a3] (.ref o :: st) h := pR_L rfl rfl
theorem rX1_sort_69 : pR 5 d 69 ls (.ref o :: st) h = pR 5 d 70 ls (.ref o :: .ref o :: st) h := pR_L rfl rfl
theorem rX1_sort_69i : pR 5 d 69 ls (.int x :: st) h = pR 5 d 70 ls (.int x :: .int x :: st) h := pR_L rfl rfl
theorem rX1_sort_70 : pR 5 d 70 ls (.ref o :: st) h = if pis (pfl h 1 o 1) = true then pR 5 d 73 ls (pfl h 1 o 1 :: st) h else none := r_get rfl
theorem rX1_sort_73 : pR 5 d 73 ls st h = pR 5 d 74 ls (.int 1 :: st) h := pR_L rfl rfl
theorem rX1_sort_74 : pR 5 d 74 ls (.int y :: .int x :: st) h = pR 5 d 75 ls (.int (x + y) :: st) h := pR_L rfl rfl
theorem rX1_sort_75 : pR 5 d 75 ls (.int x :: .ref o :: st) h = if pis (pfl h 1 o 1) = true then pR 5 d 78 ls st (psf h o 1 (.int x)) else none := r_put rfl rfl
theorem rX1_sort_78 : pR 5 d 78 [.ref o, a1, a2, a3] st h = pR 5 d 79 [.ref o, a1, a2, a3] (.ref o :: st) h := pR_L rfl rfl
theorem rX1_sort_79 : pR 5 d 79 ls (.ref o :: st) h = if pis (pfl h 1 o 1) = true then pR 5 d 82 ls (pfl h 1 o 1 :: st) h else none := r_get rfl
theorem rX1_sort_82 : pR 5 d 82 ls st h = pR 5 d 83 ls (.int 1 :: st) h := pR_L rfl rfl
theorem rX1_sort_83 : pR 5 d 83 ls (.int y :: .int x :: st) h = pR 5 d 84 ls (.int (x - y) :: st) h := pR_L rfl rfl
theorem rX1_sort_84 : pR 5 d 84 ls [.int x] h = some (.inl (some (.int x)), h) := pR_E rfl rfl
-- 6 BalloonStall isIn (JJJ)Z
theorem eX1_isIn : pCa 6 d [.long l0, .long l1, .long l2] h = pR 6 d 0 [.long l0, pV, .long l1, pV, .long l2, pV] [] h := rfl
theorem rX1_isIn_0 : pR 6 d 0 [.long lx, a1, a2, a3, a4, a5] st h = pR 6 d 1 [.long lx, a1, a2, a3, a4, a5] (.long lx :: st) h := pR_L rfl rfl
theorem rX1_isIn_1 : pR 6 d 1 [a0, a1, .long lx, a3, a4, a5] st h = pR 6 d 2 [a0, a1, .long lx, a3, a4, a5] (.long lx :: st) h := pR_L rfl rfl
theorem rX1_isIn_2 : pR 6 d 2 ls (.long ly :: .long lx :: st) h = pR 6 d 3 ls (.int (lg_cmp lx ly) :: st) h := pR_L rfl rfl
theorem rX1_isIn_3 : pR 6 d 3 ls (.int x :: st) h = if x < 0 then pR 6 d 17 ls st h else pR 6 d 6 ls st h := r_ilt rfl rfl
theorem rX1_isIn_6 : pR 6 d 6 [.long lx, a1, a2, a3, a4, a5] st h = pR 6 d 7 [.long lx, a1, a2, a3, a4, a5] (.long lx :: st) h := pR_L rfl rfl
theorem rX1_isIn_7 : pR 6 d 7 [a0, a1, a2, a3, .long lx, a5] st h = pR 6 d 9 [a0, a1, a2, a3, .long lx, a5] (.long lx :: st) h := pR_L rfl rfl
theorem rX1_isIn_9 : pR 6 d 9 ls (.long ly :: .long lx :: st) h = pR 6 d 10 ls (.int (lg_cmp lx ly) :: st) h := pR_L rfl rfl
theorem rX1_isIn_10 : pR 6 d 10 ls (.int x :: st) h = if 0 < x then pR 6 d 17 ls st h else pR 6 d 13 ls st h := r_igt rfl rfl
theorem rX1_isIn_13 : pR 6 d 13 ls st h = pR 6 d 14 ls (.int 1 :: st) h := pR_L rfl rfl
theorem rX1_isIn_14 : pR 6 d 14 ls st h = pR 6 d 18 ls st h := pR_L rfl rfl
theorem rX1_isIn_17 : pR 6 d 17 ls st h = pR 6 d 18 ls (.int 0 :: st) h := pR_L rfl rfl
theorem rX1_isIn_180 : pR 6 d 18 ls [.int 0] h = some (.inl (some (.int 0)), h) := pR_E rfl rfl
theorem rX1_isIn_181 : pR 6 d 18 ls [.int 1] h = some (.inl (some (.int 1)), h) := pR_E rfl rfl
-- 7 BalloonStall feed (IIIII)I
theorem eX1_feed : pCa 7 d [.ref o, .int x0, .int x1, .int x2, .int x3, .int x4] h = pR 7 d 0 [.ref o, .int x0, .int x1, .int x2, .int x3, .int x4, pU] [] h := rfl
theorem rX1_feed_0 : pR 7 d 0 [a0, .int x, a2, a3, a4, a5, a6] st h = pR 7 d 1 [a0, .int x, a2, a3, a4, a5, a6] (.int x :: st) h := pR_L rfl rfl
theorem rX1_feed_1 : pR 7 (d + 1) 1 ls (b0 :: st) h = if pw st = true then pK 7 (d + 1) 1 3 ls st (pCa 8 d [b0] h) else none := r_callS rfl rfl rfl
theorem rX1_feed_4 : pR 7 d 4 [a0, a1, .int x, a3, a4, a5, a6] st h = pR 7 d 5 [a0, a1, .int x, a3, a4, a5, a6] (.int x :: st) h := pR_L rfl rfl
theorem rX1_feed_5 : pR 7 (d + 1) 5 ls (b0 :: st) h = if pw st = true then pK 7 (d + 1) 5 3 ls st (pCa 8 d [b0] h) else none := r_callS rfl rfl rfl
theorem rX1_feed_8 : pR 7 d 8 ls (.int y :: .int x :: st) h = pR 7 d 9 ls (.int (x + y) :: st) h := pR_L rfl rfl
theorem rX1_feed_9 : pR 7 d 9 [a0, a1, a2, .int x, a4, a5, a6] st h = pR 7 d 10 [a0, a1, a2, .int x, a4, a5, a6] (.int x :: st) h := pR_L rfl rfl
theorem rX1_feed_10 : pR 7 (d + 1) 10 ls (b0 :: st) h = if pw st = true then pK 7 (d + 1) 10 3 ls st (pCa 8 d [b0] h) else none := r_callS rfl rfl rfl
theorem rX1_feed_13 : pR 7 d 13 ls (.int y :: .int x :: st) h = pR 7 d 14 ls (.int (x + y) :: st) h := pR_L rfl rfl
theorem rX1_feed_14 : pR 7 d 14 [a0, a1, a2, a3, .int x, a5, a6] st h = pR 7 d 16 [a0, a1, a2, a3, .int x, a5, a6] (.int x :: st) h := pR_L rfl rfl
theorem rX1_feed_16 : pR 7 (d + 1) 16 ls (b0 :: st) h = if pw st = true then pK 7 (d + 1) 16 3 ls st (pCa 8 d [b0] h) else none := r_callS rfl rfl rfl
theorem rX1_feed_19 : pR 7 d 19 ls (.int y :: .int x :: st) h = pR 7 d 20 ls (.int (x + y) :: st) h := pR_L rfl rfl
theorem rX1_feed_20 : pR 7 d 20 [a0, a1, a2, a3, a4, .int x, a6] st h = pR 7 d 22 [a0, a1, a2, a3, a4, .int x, a6] (.int x :: st) h := pR_L rfl rfl
theorem rX1_feed_22 : pR 7 (d + 1) 22 ls (b0 :: st) h = if pw st = true then pK 7 (d + 1) 22 3 ls st (pCa 8 d [b0] h) else none := r_callS rfl rfl rfl
theorem rX1_feed_25 : pR 7 d 25 ls (.int y :: .int x :: st) h = pR 7 d 26 ls (.int (x + y) :: st) h := pR_L rfl rfl
theorem rX1_feed_26 : pR 7 d 26 [a0, a1, a2, a3, a4, a5, a6] (.int x :: st) h = if p1 a6 = true then pR 7 d 28 [a0, a1, a2, a3, a4, a5, .int x] st h else none := r_sto (n := 2) (k := 6) (v := .int x) (ls := [a0, a1, a2, a3, a4, a5, a6]) rfl rfl rfl
theorem rX1_feed_28 : pR 7 d 28 [.ref o, a1, a2, a3, a4, a5, a6] st h = pR 7 d 29 [.ref o, a1, a2, a3, a4, a5, a6] (.ref o :: st) h := pR_L rfl rfl
theorem rX1_feed_29 : pR 7 d 29 ls (.ref o :: st) h = if pis (pfl h 1 o 3) = true then pR 7 d 32 ls (pfl h 1 o 3 :: st) h else none := r_get rfl
theorem rX1_feed_32 : pR 7 d 32 [a0, a1, a2, a3, a4, a5, .int x] st h = pR 7 d 34 [a0, a1, a2, a3, a4, a5, .int x] (.int x :: st) h := pR_L rfl rfl
theorem rX1_feed_34 : pR 7 d 34 ls (.int y :: .int x :: st) h = pR 7 d 35 ls (.int (x + y) :: st) h := pR_L rfl rfl
theorem rX1_feed_35 : pR 7 d 35 ls st h = pR 7 d 38 ls (.int 200 :: st) h := pR_L rfl rfl
theorem rX1_feed_38 : pR 7 d 38 ls (.int y :: .int x :: st) h = if y < x then pR 7 d 41 ls st h else pR 7 d 43 ls st h := r_cle rfl rfl
theorem rX1_feed_41 : pR 7 d 41 ls st h = pR 7 d 42 ls (.int (-1) :: st) h := pR_L rfl rfl
theorem rX1_feed_42 : pR 7 d 42 ls [.int x] h = some (.inl (some (.int x)), h) := pR_E rfl rfl
theorem rX1_feed_43 : pR 7 d 43 [.ref o, a1, a2, a3, a4, a5, a6] st h = pR 7 d 44 [.ref o, a1, a2, a3, a4, a5, a6] (.ref o :: st) h := pR_L rfl rfl
theorem rX1_feed_44 : pR 7 d 44 [a0, .int x, a2, a3, a4, a5, a6] st h = pR 7 d 45 [a0, .int x, a2, a3, a4, a5, a6] (.int x :: st) h := pR_L rfl rfl
theorem rX1_feed_45 : pR 7 (d + 1) 45 ls (b1 :: .ref o :: st) h = if (pok 1 (pcl h o) && pw st) = true then pK 7 (d + 1) 45 3 ls st (pCa 9 d [.ref o, b1] h) else none := r_callV rfl rfl rfl
theorem rX1_feed_48 : pR 7 d 48 [.ref o, a1, a2, a3, a4, a5, a6] st h = pR 7 d 49 [.ref o, a1, a2, a3, a4, a5, a6] (.ref o :: st) h := pR_L rfl rfl
theorem rX1_feed_49 : pR 7 d 49 [a0, a1, .int x, a3, a4, a5, a6] st h = pR 7 d 50 [a0, a1, .int x, a3, a4, a5, a6] (.int x :: st) h := pR_L rfl rfl
theorem rX1_feed_50 : pR 7 (d + 1) 50 ls (b1 :: .ref o :: st) h = if (pok 1 (pcl h o) && pw st) = true then pK 7 (d + 1) 50 3 ls st (pCa 9 d [.ref o, b1] h) else none := r_callV rfl rfl rfl
theorem rX1_feed_53 : pR 7 d 53 [.ref o, a1, a2, a3, a4, a5, a6] st h = pR 7 d 54 [.ref o, a1, a2, a3, a4, a5, a6] (.ref o :: st) h := pR_L rfl rfl
theorem rX1_feed_54 : pR 7 d 54 [a0, a1, a2, .int x, a4, a5, a6] st h = pR 7 d 55 [a0, a1, a2, .int x, a4, a5, a6] (.int x :: st) h := pR_L rfl rfl
theorem rX1_feed_55 : pR 7 (d + 1) 55 ls (b1 :: .ref o :: st) h = if (pok 1 (pcl h o) && pw st) = true then pK 7 (d + 1) 55 3 ls st (pCa 9 d [.ref o, b1] h) else none := r_callV rfl rfl rfl
theorem rX1_feed_58 : pR 7 d 58 [.ref o, a1, a2, a3, a4, a5, a6] st h = pR 7 d 59 [.ref o, a1, a2, a3, a4, a5, a6] (.ref o :: st) h := pR_L rfl rfl
theorem rX1_feed_59 : pR 7 d 59 [a0, a1, a2, a3, .int x, a5, a6] st h = pR 7 d 61 [a0, a1, a2, a3, .int x, a5, a6] (.int x :: st) h := pR_L rfl rfl
theorem rX1_feed_61 : pR 7 (d + 1) 61 ls (b1 :: .ref o :: st) h = if (pok 1 (pcl h o) && pw st) = true then pK 7 (d + 1) 61 3 ls st (pCa 9 d [.ref o, b1] h) else none := r_callV rfl rfl rfl
theorem rX1_feed_64 : pR 7 d 64 [.ref o, a1, a2, a3, a4, a5, a6] st h = pR 7 d 65 [.ref o, a1, a2, a3, a4, a5, a6] (.ref o :: st) h := pR_L rfl rfl
theorem rX1_feed_65 : pR 7 d 65 [a0, a1, a2, a3, a4, .int x, a6] st h = pR 7 d 67 [a0, a1, a2, a3, a4, .int x, a6] (.int x :: st) h := pR_L rfl rfl
theorem rX1_feed_67 : pR 7 (d + 1) 67 ls (b1 :: .ref o :: st) h = if (pok 1 (pcl h o) && pw st) = true then pK 7 (d + 1) 67 3 ls st (pCa 9 d [.ref o, b1] h) else none := r_callV rfl rfl rfl
theorem rX1_feed_70 : pR 7 d 70 [.ref o, a1, a2, a3, a4, a5, a6] st h = pR 7 d 71 [.ref o, a1, a2, a3, a4, a5, a6] (.ref o :: st) h := pR_L rfl rfl
theorem rX1_feed_71 : pR 7 d 71 ls (.ref o :: st) h = if pis (pfl h 1 o 3) = true then pR 7 d 74 ls (pfl h 1 o 3 :: st) h else none := r_get rfl
theorem rX1_feed_74 : pR 7 d 74 ls [.int x] h = some (.inl (some (.int x)), h) := pR_E rfl rfl
-- 8 BalloonStall bytes (I)I
theorem eX1_bytes : pCa 8 d [.int x0] h = pR 8 d 0 [.int x0, pU, pU] [] h := rfl
theorem rX1_bytes_0 : pR 8 d 0 ls st h = pR 8 d 1 ls (.int 0 :: st) h := pR_L rfl rfl
theorem rX1_bytes_1 : pR 8 d 1 [a0, a1, a2] (.int x :: st) h = if p1 a1 = true then pR 8 d 2 [a0, .int x, a2] st h else none := r_sto (n := 1) (k := 1) (v := .int x) (ls := [a0, a1, a2]) rfl rfl rfl
theorem rX1_bytes_2 : pR 8 d 2 ls st h = pR 8 d 4 ls (.int 24 :: st) h := pR_L rfl rfl
theorem rX1_bytes_4 : pR 8 d 4 [a0, a1, a2] (.int x :: st) h = if p1 a2 = true then pR 8 d 5 [a0, a1, .int x] st h else none := r_sto (n := 1) (k := 2) (v := .int x) (ls := [a0, a1, a2]) rfl rfl rfl
theorem rX1_bytes_5 : pR 8 d 5 [a0, a1, .int x] st h = pR 8 d 6 [a0, a1, .int x] (.int x :: st) h := pR_L rfl rfl
theorem rX1_bytes_6 : pR 8 d 6 ls (.int x :: st) h = if x < 0 then pR 8 d 33 ls st h else pR 8 d 9 ls st h := r_ilt rfl rfl
theorem rX1_bytes_9 : pR 8 d 9 [a0, .int x, a2] st h = pR 8 d 10 [a0, .int x, a2] (.int x :: st) h := pR_L rfl rfl
theorem rX1_bytes_10 : pR 8 d 10 [.int x, a1, a2] st h = pR 8 d 11 [.int x, a1, a2] (.int x :: st) h := pR_L rfl rfl
theorem rX1_bytes_11 : pR 8 d 11 [a0, a1, .int x] st h = pR 8 d 12 [a0, a1, .int x] (.int x :: st) h := pR_L rfl rfl
theorem rX1_bytes_12 : pR 8 d 12 ls (.int y :: .int x :: st) h = pR 8 d 13 ls (.int (x >>> (y &&& 31)) :: st) h := pR_L rfl rfl
theorem rX1_bytes_13 : pR 8 d 13 ls st h = pR 8 d 16 ls (.int 255 :: st) h := pR_L rfl rfl
theorem rX1_bytes_16 : pR 8 d 16 ls (.int y :: .int x :: st) h = pR 8 d 17 ls (.int (x &&& y) :: st) h := pR_L rfl rfl
theorem rX1_bytes_17 : pR 8 d 17 ls (.int x :: st) h = if x = 0 then pR 8 d 24 ls st h else pR 8 d 20 ls st h := r_ieq rfl rfl
theorem rX1_bytes_20 : pR 8 d 20 ls st h = pR 8 d 21 ls (.int 1 :: st) h := pR_L rfl rfl
theorem rX1_bytes_21 : pR 8 d 21 ls st h = pR 8 d 25 ls st h := pR_L rfl rfl
theorem rX1_bytes_24 : pR 8 d 24 ls st h = pR 8 d 25 ls (.int 0 :: st) h := pR_L rfl rfl
theorem rX1_bytes_25 : pR 8 d 25 ls (.int y :: .int x :: st) h = pR 8 d 26 ls (.int (x + y) :: st) h := pR_L rfl rfl
theorem rX1_bytes_26 : pR 8 d 26 [a0, a1, a2] (.int x :: st) h = if p1 a1 = true then pR 8 d 27 [a0, .int x, a2] st h else none := r_sto (n := 1) (k := 1) (v := .int x) (ls := [a0, a1, a2]) rfl rfl rfl
theorem rX1_bytes_27 : pR 8 d 27 [a0, a1, .int x] st h = pR 8 d 30 [a0, a1, .int (x + (-8))] st h := pR_L rfl rfl
theorem rX1_bytes_30 : pR 8 d 30 ls st h = pR 8 d 5 ls st h := pR_L rfl rfl
theorem rX1_bytes_33 : pR 8 d 33 [a0, .int x, a2] st h = pR 8 d 34 [a0, .int x, a2] (.int x :: st) h := pR_L rfl rfl
theorem rX1_bytes_34 : pR 8 d 34 ls [.int x] h = some (.inl (some (.int x)), h) := pR_E rfl rfl
-- 9 BalloonStall bring (I)V
theorem eX1_bring : pCa 9 d [.ref o, .int x0] h = pR 9 d 0 [.ref o, .int x0, pU] [] h := rfl
theorem rX1_bring_0 : pR 9 d 0 ls st h = pR 9 d 2 ls (.int 24 :: st) h := pR_L rfl rfl
theorem rX1_bring_2 : pR 9 d 2 [a0, a1, a2] (.int x :: st) h = if p1 a2 = true then pR 9 d 3 [a0, a1, .int x] st h else none := r_sto (n := 1) (k := 2) (v := .int x) (ls := [a0, a1, a2]) rfl rfl rfl
theorem rX1_bring_3 : pR 9 d 3 [a0, a1, .int x] st h = pR 9 d 4 [a0, a1, .int x] (.int x :: st) h := pR_L rfl rfl
theorem rX1_bring_4 : pR 9 d 4 ls (.int x :: st) h = if x < 0 then pR 9 d 49 ls st h else pR 9 d 7 ls st h := r_ilt rfl rfl
theorem rX1_bring_7 : pR 9 d 7 [a0, .int x, a2] st h = pR 9 d 8 [a0, .int x, a2] (.int x :: st) h := pR_L rfl rfl
theorem rX1_bring_8 : pR 9 d 8 [a0, a1, .int x] st h = pR 9 d 9 [a0, a1, .int x] (.int x :: st) h := pR_L rfl rfl
theorem rX1_bring_9 : pR 9 d 9 ls (.int y :: .int x :: st) h = pR 9 d 10 ls (.int (x >>> (y &&& 31)) :: st) h := pR_L rfl rfl
theorem rX1_bring_10 : pR 9 d 10 ls st h = pR 9 d 13 ls (.int 255 :: st) h := pR_L rfl rfl
theorem rX1_bring_13 : pR 9 d 13 ls (.int y :: .int x :: st) h = pR 9 d 14 ls (.int (x &&& y) :: st) h := pR_L rfl rfl
theorem rX1_bring_14 : pR 9 d 14 ls (.int x :: st) h = if x = 0 then pR 9 d 17 ls st h else pR 9 d 20 ls st h := r_ine rfl rfl
theorem rX1_bring_17 : pR 9 d 17 ls st h = pR 9 d 43 ls st h := pR_L rfl rfl
theorem rX1_bring_20 : pR 9 d 20 [.ref o, a1, a2] st h = pR 9 d 21 [.ref o, a1, a2] (.ref o :: st) h := pR_L rfl rfl
theorem rX1_bring_21 : pR 9 d 21 ls (.ref o :: st) h = if pis (pfl h 1 o 2) = true then pR 9 d 24 ls (pfl h 1 o 2 :: st) h else none := r_get rfl
theorem rX1_bring_24 : pR 9 d 24 [.ref o, a1, a2] st h = pR 9 d 25 [.ref o, a1, a2] (.ref o :: st) h := pR_L rfl rfl
theorem rX1_bring_25 : pR 9 d 25 ls (.ref o :: st) h = if pis (pfl h 1 o 3) = true then pR 9 d 28 ls (pfl h 1 o 3 :: st) h else none := r_get rfl
theorem rX1_bring_28 : pR 9 d 28 [a0, .int x, a2] st h = pR 9 d 29 [a0, .int x, a2] (.int x :: st) h := pR_L rfl rfl
theorem rX1_bring_29 : pR 9 d 29 [a0, a1, .int x] st h = pR 9 d 30 [a0, a1, .int x] (.int x :: st) h := pR_L rfl rfl
theorem rX1_bring_30 : pR 9 d 30 ls (.int y :: .int x :: st) h = pR 9 d 31 ls (.int (x >>> (y &&& 31)) :: st) h := pR_L rfl rfl
theorem rX1_bring_31 : pR 9 d 31 ls (.int x :: st) h = pR 9 d 32 ls (.int x.toInt8.toInt32 :: st) h := pR_L rfl rfl
theorem rX1_bring_32 : pR 9 d 32 ls (.int y :: .int x :: .ref o :: st) h = if pin x (pln h 1 o) = true then pR 9 d 33 ls st (pst h o x.toNatClampNeg y.toInt8.toInt32) else if (pin x (pln h 2 o) && (y == 0 || y == 1)) = true then pR 9 d 33 ls st (pst h o x.toNatClampNeg y) else none := r_bast rfl
theorem rX1_bring_33 : pR 9 d 33 [.ref o, a1, a2] st h = pR 9 d 34 [.ref o, a1, a2] (.ref o :: st) h := pR_L rfl rfl
theorem rX1_bring_34 : pR 9 d 34 ls (.ref o :: st) h = pR 9 d 35 ls (.ref o :: .ref o :: st) h := pR_L rfl rfl
theorem rX1_bring_34i : pR 9 d 34 ls (.int x :: st) h = pR 9 d 35 ls (.int x :: .int x :: st) h := pR_L rfl rfl
theorem rX1_bring_35 : pR 9 d 35 ls (.ref o :: st) h = if pis (pfl h 1 o 3) = true then pR 9 d 38 ls (pfl h 1 o 3 :: st) h else none := r_get rfl
theorem rX1_bring_38 : pR 9 d 38 ls st h = pR 9 d 39 ls (.int 1 :: st) h := pR_L rfl rfl
theorem rX1_bring_39 : pR 9 d 39 ls (.int y :: .int x :: st) h = pR 9 d 40 ls (.int (x + y) :: st) h := pR_L rfl rfl
theorem rX1_bring_40 : pR 9 d 40 ls (.int x :: .ref o :: st) h = if pis (pfl h 1 o 3) = true then pR 9 d 43 ls st (psf h o 3 (.int x)) else none := r_put rfl rfl
theorem rX1_bring_43 : pR 9 d 43 [a0, a1, .int x] st h = pR 9 d 46 [a0, a1, .int (x + (-8))] st h := pR_L rfl rfl
theorem rX1_bring_46 : pR 9 d 46 ls st h = pR 9 d 3 ls st h := pR_L rfl rfl
theorem rX1_bring_49 : pR 9 d 49 ls [] h = some (.inl none, h) := pR_E rfl rfl
-- 10 BalloonStall end (I)Z
theorem eX1_end : pCa 10 d [.ref o, .int x0] h = pR 10 d 0 [.ref o, .int x0] [] h := rfl
theorem rX1_end_0 : pR 10 d 0 [a0, .int x] st h = pR 10 d 1 [a0, .int x] (.int x :: st) h := pR_L rfl rfl
theorem rX1_end_1 : pR 10 d 1 ls (.int x :: st) h = if x < 0 then pR 10 d 12 ls st h else pR 10 d 4 ls st h := r_ilt rfl rfl
theorem rX1_end_4 : pR 10 d 4 [a0, .int x] st h = pR 10 d 5 [a0, .int x] (.int x :: st) h := pR_L rfl rfl
theorem rX1_end_5 : pR 10 d 5 [.ref o, a1] st h = pR 10 d 6 [.ref o, a1] (.ref o :: st) h := pR_L rfl rfl
theorem rX1_end_6 : pR 10 d 6 ls (.ref o :: st) h = if pis (pfl h 1 o 3) = true then pR 10 d 9 ls (pfl h 1 o 3 :: st) h else none := r_get rfl
theorem rX1_end_9 : pR 10 d 9 ls (.int y :: .int x :: st) h = if y < x then pR 10 d 12 ls st h else pR 10 d 14 ls st h := r_cle rfl rfl
theorem rX1_end_12 : pR 10 d 12 ls st h = pR 10 d 13 ls (.int 0 :: st) h := pR_L rfl rfl
theorem rX1_end_130 : pR 10 d 13 ls [.int 0] h = some (.inl (some (.int 0)), h) := pR_E rfl rfl
theorem rX1_end_131 : pR 10 d 13 ls [.int 1] h = some (.inl (some (.int 1)), h) := pR_E rfl rfl
theorem rX1_end_14 : pR 10 d 14 [.ref o, a1] st h = pR 10 d 15 [.ref o, a1] (.ref o :: st) h := pR_L rfl rfl
theorem rX1_end_15 : pR 10 d 15 [a0, .int x] st h = pR 10 d 16 [a0, .int x] (.int x :: st) h := pR_L rfl rfl
theorem rX1_end_16 : pR 10 d 16 ls (.int x :: .ref o :: st) h = if pis (pfl h 1 o 3) = true then pR 10 d 19 ls st (psf h o 3 (.int x)) else none := r_put rfl rfl
theorem rX1_end_19 : pR 10 d 19 ls st h = pR 10 d 20 ls (.int 1 :: st) h := pR_L rfl rfl
theorem rX1_end_200 : pR 10 d 20 ls [.int 0] h = some (.inl (some (.int 0)), h) := pR_E rfl rfl
theorem rX1_end_201 : pR 10 d 20 ls [.int 1] h = some (.inl (some (.int 1)), h) := pR_E rfl rfl
-- 11 BalloonStall fault (I)I
theorem eX1_fault : pCa 11 d [.ref o, .int x0] h = pR 11 d 0 [.ref o, .int x0, pU] [] h := rfl
theorem rX1_fault_0 : pR 11 d 0 [a0, .int x, a2] st h = pR 11 d 1 [a0, .int x, a2] (.int x :: st) h := pR_L rfl rfl
theorem rX1_fault_1 : pR 11 d 1 ls (.int x :: st) h = pR 11 d 2 ls (.long x.toInt64 :: st) h := pR_L rfl rfl
theorem rX1_fault_2 : pR 11 d 2 ls st h = pR 11 d 3 ls (.long 0 :: st) h := pR_L rfl rfl
theorem rX1_fault_3 : pR 11 d 3 ls st h = pR 11 d 4 ls (.long 1 :: st) h := pR_L rfl rfl
theorem rX1_fault_4 : pR 11 (d + 1) 4 ls (b2 :: b1 :: b0 :: st) h = if pw st = true then pK 11 (d + 1) 4 3 ls st (pCa 6 d [b0, b1, b2] h) else none := r_callS rfl rfl rfl
theorem rX1_fault_7 : pR 11 d 7 ls (.int x :: st) h = if x = 0 then pR 11 d 10 ls st h else pR 11 d 13 ls st h := r_ine rfl rfl
theorem rX1_fault_10 : pR 11 d 10 ls st h = pR 11 d 12 ls (.int (-2) :: st) h := pR_L rfl rfl
theorem rX1_fault_12 : pR 11 d 12 ls [.int x] h = some (.inl (some (.int x)), h) := pR_E rfl rfl
theorem rX1_fault_13 : pR 11 d 13 [a0, .int x, a2] st h = pR 11 d 14 [a0, .int x, a2] (.int x :: st) h := pR_L rfl rfl
theorem rX1_fault_14 : pR 11 d 14 ls (.int x :: st) h = if x = 0 then pR 11 d 17 ls st h else pR 11 d 32 ls st h := r_ine rfl rfl
theorem rX1_fault_17 : pR 11 d 17 ls st h = pR 11 d 20 ls (.ref h.2.1 :: st) (pnw h (.inr (6, [.int 0, .int 0, .null, .int 0, .int 0, .null])) 6) := pR_X rfl rfl
theorem rX1_fault_20 : pR 11 d 20 ls (.ref o :: st) h = pR 11 d 21 ls (.ref o :: .ref o :: st) h := pR_L rfl rfl
theorem rX1_fault_20i : pR 11 d 20 ls (.int x :: st) h = pR 11 d 21 ls (.int x :: .int x :: st) h := pR_L rfl rfl
theorem rX1_fault_21 : pR 11 d 21 [.ref o, a1, a2] st h = pR 11 d 22 [.ref o, a1, a2] (.ref o :: st) h := pR_L rfl rfl
theorem rX1_fault_22 : pR 11 (d + 11) 22 ls (.ref o2 :: .ref o :: st) h = if (pcl h o == 6 && pw st) = true then pR 11 (d + 11) 25 ls st (psf (psf h o 5 (.ref o2)) o 2 (.ref o2)) else none := r_rd6 rfl
theorem rX1_fault_25 : pR 11 (d + 1) 25 ls (.ref o :: st) h = if (pok 6 (pcl h o) && pw st) = true then pK 11 (d + 1) 25 3 ls st (pCa 177 d [.ref o] h) else none := r_callV rfl rfl rfl
theorem rX1_fault_28 : pR 11 d 28 [a0, a1, a2] (.ref o :: st) h = if p1 a2 = true then pR 11 d 29 [a0, a1, .ref o] st h else none := r_sto (n := 1) (k := 2) (v := .ref o) (ls := [a0, a1, a2]) rfl rfl rfl
theorem rX1_fault_28n : pR 11 d 28 [a0, a1, a2] (.null :: st) h = if p1 a2 = true then pR 11 d 29 [a0, a1, .null] st h else none := r_sto (n := 1) (k := 2) (v := .null) (ls := [a0, a1, a2]) rfl rfl rfl
theorem rX1_fault_29 : pR 11 d 29 ls st h = pR 11 d 44 ls st h := pR_L rfl rfl
theorem rX1_fault_32 : pR 11 d 32 ls st h = pR 11 d 35 ls (.ref h.2.1 :: st) (pnw h (.inr (13, [.int 0, .int 0, .null, .null])) 4) := pR_X rfl rfl
theorem rX1_fault_35 : pR 11 d 35 ls (.ref o :: st) h = pR 11 d 36 ls (.ref o :: .ref o :: st) h := pR_L rfl rfl
theorem rX1_fault_35i : pR 11 d 35 ls (.int x :: st) h = pR 11 d 36 ls (.int x :: .int x :: st) h := pR_L rfl rfl
theorem rX1_fault_36 : pR 11 d 36 [.ref o, a1, a2] st h = pR 11 d 37 [.ref o, a1, a2] (.ref o :: st) h := pR_L rfl rfl
theorem rX1_fault_37 : pR 11 (d + 11) 37 ls (.ref o2 :: .ref o :: st) h = if (pcl h o == 13 && pw st) = true then pR 11 (d + 11) 40 ls st (psf (psf h o 3 (.ref o2)) o 2 (.ref o2)) else none := r_rd13 rfl
theorem rX1_fault_40 : pR 11 (d + 1) 40 ls (.ref o :: st) h = if (pok 13 (pcl h o) && pw st) = true then pK 11 (d + 1) 40 3 ls st (pCa 193 d [.ref o] h) else none := r_callV rfl rfl rfl
theorem rX1_fault_43 : pR 11 d 43 [a0, a1, a2] (.ref o :: st) h = if p1 a2 = true then pR 11 d 44 [a0, a1, .ref o] st h else none := r_sto (n := 1) (k := 2) (v := .ref o) (ls := [a0, a1, a2]) rfl rfl rfl
theorem rX1_fault_43n : pR 11 d 43 [a0, a1, a2] (.null :: st) h = if p1 a2 = true then pR 11 d 44 [a0, a1, .null] st h else none := r_sto (n := 1) (k := 2) (v := .null) (ls := [a0, a1, a2]) rfl rfl rfl
theorem rX1_fault_44 : pR 11 d 44 ls st h = pR 11 d 45 ls (.int (-1) :: st) h := pR_L rfl rfl
theorem rX1_fault_45 : pR 11 d 45 ls [.int x] h = some (.inl (some (.int x)), h) := pR_E rfl rfl
theorem rX1_fault_46 : pR 11 d 46 [a0, a1, a2] (.ref o :: st) h = if p1 a2 = true then pR 11 d 47 [a0, a1, .ref o] st h else none := r_sto (n := 1) (k := 2) (v := .ref o) (ls := [a0, a1, a2]) rfl rfl rfl
theorem rX1_fault_46n : pR 11 d 46 [a0, a1, a2] (.null :: st) h = if p1 a2 = true then pR 11 d 47 [a0, a1, .null] st h else none := r_sto (n := 1) (k := 2) (v := .null) (ls := [a0, a1, a2]) rfl rfl rfl
theorem rX1_fault_47 : pR 11 d 47 [a0, a1, .ref o] st h = pR 11 d 48 [a0, a1, .ref o] (.ref o :: st) h := pR_L rfl rfl
theorem rX1_fault_47n : pR 11 d 47 [a0, a1, .null] st h = pR 11 d 48 [a0, a1, .null] (.null :: st) h := pR_L rfl rfl
theorem rX1_fault_48 : pR 11 d 48 ls (.ref o :: st) h = if pis (pfl h 7 o 6) = true then pR 11 d 51 ls (pfl h 7 o 6 :: st) h else none := r_get rfl
theorem rX1_fault_51 : pR 11 d 51 ls [.int x] h = some (.inl (some (.int x)), h) := pR_E rfl rfl
-- 12 BalloonStall figure ()I
theorem eX1_figure : pCa 12 d [.ref o] h = pR 12 d 0 [.ref o, pU, pU] [] h := rfl
theorem rX1_figure_0 : pR 12 d 0 [.ref o, a1, a2] st h = pR 12 d 1 [.ref o, a1, a2] (.ref o :: st) h := pR_L rfl rfl
theorem rX1_figure_1 : pR 12 d 1 ls (.ref o :: st) h = if pis (pfl h 1 o 5) = true then pR 12 d 4 ls (pfl h 1 o 5 :: st) h else none := r_get rfl
theorem rX1_figure_4 : pR 12 d 4 ls st h = pR 12 d 6 ls (.int 12 :: st) h := pR_L rfl rfl
theorem rX1_figure_6 : pR 12 d 6 ls (.int y :: .int x :: st) h = if x = y then pR 12 d 9 ls st h else pR 12 d 11 ls st h := r_cne rfl rfl
theorem rX1_figure_9 : pR 12 d 9 ls st h = pR 12 d 10 ls (.int (-1) :: st) h := pR_L rfl rfl
theorem rX1_figure_10 : pR 12 d 10 ls [.int x] h = some (.inl (some (.int x)), h) := pR_E rfl rfl
theorem rX1_figure_11 : pR 12 d 11 ls st h = pR 12 d 14 ls (.ref h.2.1 :: st) (pnw h (.inr (23, [.null, .null, .null, .null, .null, .null, .null, .int 0, .int 0, .int 0, .int 0, .int 0])) 12) := pR_X rfl rfl
theorem rX1_figure_14 : pR 12 d 14 ls (.ref o :: st) h = pR 12 d 15 ls (.ref o :: .ref o :: st) h := pR_L rfl rfl
theorem rX1_figure_14i : pR 12 d 14 ls (.int x :: st) h = pR 12 d 15 ls (.int x :: .int x :: st) h := pR_L rfl rfl
theorem rX1_figure_15 : pR 12 (d + 1) 15 ls (.ref o :: st) h = if (pok 23 (pcl h o) && pw st) = true then pK 12 (d + 1) 15 3 ls st (pCa 219 d [.ref o] h) else none := r_callV rfl rfl rfl
theorem rX1_figure_18 : pR 12 d 18 [a0, a1, a2] (.ref o :: st) h = if p1 a1 = true then pR 12 d 19 [a0, .ref o, a2] st h else none := r_sto (n := 1) (k := 1) (v := .ref o) (ls := [a0, a1, a2]) rfl rfl rfl
theorem rX1_figure_18n : pR 12 d 18 [a0, a1, a2] (.null :: st) h = if p1 a1 = true then pR 12 d 19 [a0, .null, a2] st h else none := r_sto (n := 1) (k := 1) (v := .null) (ls := [a0, a1, a2]) rfl rfl rfl
theorem rX1_figure_19 : pR 12 d 19 ls st h = pR 12 d 22 ls (.ref h.2.1 :: st) (pnw h (.inr (6, [.int 0, .int 0, .null, .int 0, .int 0, .null])) 6) := pR_X rfl rfl
theorem rX1_figure_22 : pR 12 d 22 ls (.ref o :: st) h = pR 12 d 23 ls (.ref o :: .ref o :: st) h := pR_L rfl rfl
theorem rX1_figure_22i : pR 12 d 22 ls (.int x :: st) h = pR 12 d 23 ls (.int x :: .int x :: st) h := pR_L rfl rfl
theorem rX1_figure_23 : pR 12 d 23 [.ref o, a1, a2] st h = pR 12 d 24 [.ref o, a1, a2] (.ref o :: st) h := pR_L rfl rfl
theorem rX1_figure_24 : pR 12 (d + 11) 24 ls (.ref o2 :: .ref o :: st) h = if (pcl h o == 6 && pw st) = true then pR 12 (d + 11) 27 ls st (psf (psf h o 5 (.ref o2)) o 2 (.ref o2)) else none := r_rd6 rfl
theorem rX1_figure_27 : pR 12 (d + 1) 27 ls (.ref o :: st) h = if (pok 6 (pcl h o) && pw st) = true then pK 12 (d + 1) 27 3 ls st (pCa 177 d [.ref o] h) else none := r_callV rfl rfl rfl
theorem rX1_figure_30 : pR 12 d 30 [a0, .ref o, a2] st h = pR 12 d 31 [a0, .ref o, a2] (.ref o :: st) h := pR_L rfl rfl
theorem rX1_figure_30n : pR 12 d 30 [a0, .null, a2] st h = pR 12 d 31 [a0, .null, a2] (.null :: st) h := pR_L rfl rfl
theorem rX1_figure_31 : pR 12 (d + 1) 31 ls (b1 :: .ref o :: st) h = if (pok 8 (pcl h o) && pw st) = true then pK 12 (d + 1) 31 3 ls st (pCa 184 d [.ref o, b1] h) else none := r_callV rfl rfl rfl
theorem rX1_figure_34 : pR 12 d 34 ls st h = pR 12 d 40 ls st h := pR_L rfl rfl
theorem rX1_figure_37 : pR 12 d 37 [a0, a1, a2] (.ref o :: st) h = if p1 a2 = true then pR 12 d 38 [a0, a1, .ref o] st h else none := r_sto (n := 1) (k := 2) (v := .ref o) (ls := [a0, a1, a2]) rfl rfl rfl
theorem rX1_figure_37n : pR 12 d 37 [a0, a1, a2] (.null :: st) h = if p1 a2 = true then pR 12 d 38 [a0, a1, .null] st h else none := r_sto (n := 1) (k := 2) (v := .null) (ls := [a0, a1, a2]) rfl rfl rfl
theorem rX1_figure_38 : pR 12 d 38 ls st h = pR 12 d 39 ls (.int (-1) :: st) h := pR_L rfl rfl
theorem rX1_figure_39 : pR 12 d 39 ls [.int x] h = some (.inl (some (.int x)), h) := pR_E rfl rfl
theorem rX1_figure_40 : pR 12 d 40 [.ref o, a1, a2] st h = pR 12 d 41 [.ref o, a1, a2] (.ref o :: st) h := pR_L rfl rfl
theorem rX1_figure_41 : pR 12 d 41 ls st h = pR 12 d 42 ls (.int 0 :: st) h := pR_L rfl rfl
theorem rX1_figure_42 : pR 12 d 42 ls (.int x :: .ref o :: st) h = if pis (pfl h 1 o 3) = true then pR 12 d 45 ls st (psf h o 3 (.int x)) else none := r_put rfl rfl
theorem rX1_figure_45 : pR 12 d 45 [.ref o, a1, a2] st h = pR 12 d 46 [.ref o, a1, a2] (.ref o :: st) h := pR_L rfl rfl
theorem rX1_figure_46 : pR 12 d 46 ls st h = pR 12 d 49 ls (.ref h.2.1 :: st) (pnw h (.inr (24, [.null, .null, .null, .null, .null, .null, .int 0, .int 0, .int 0, .int 0])) 10) := pR_X rfl rfl
theorem rX1_figure_49 : pR 12 d 49 ls (.ref o :: st) h = pR 12 d 50 ls (.ref o :: .ref o :: st) h := pR_L rfl rfl
theorem rX1_figure_49i : pR 12 d 49 ls (.int x :: st) h = pR 12 d 50 ls (.int x :: .int x :: st) h := pR_L rfl rfl
theorem rX1_figure_50 : pR 12 d 50 [a0, .ref o, a2] st h = pR 12 d 51 [a0, .ref o, a2] (.ref o :: st) h := pR_L rfl rfl
theorem rX1_figure_50n : pR 12 d 50 [a0, .null, a2] st h = pR 12 d 51 [a0, .null, a2] (.null :: st) h := pR_L rfl rfl
theorem rX1_figure_51 : pR 12 (d + 1) 51 ls (b1 :: .ref o :: st) h = if (pok 24 (pcl h o) && pw st) = true then pK 12 (d + 1) 51 3 ls st (pCa 229 d [.ref o, b1] h) else none := r_callV rfl rfl rfl
theorem rX1_figure_54 : pR 12 (d + 1) 54 ls (b1 :: .ref o :: st) h = if (pok 1 (pcl h o) && pw st) = true then pK 12 (d + 1) 54 3 ls st (pCa 13 d [.ref o, b1] h) else none := r_callV rfl rfl rfl
theorem rX1_figure_57 : pR 12 d 57 ls [.int x] h = some (.inl (some (.int x)), h) := pR_E rfl rfl
-- 13 BalloonStall keep (LBalloonStall$Figure;)I
theorem eX1_keep : pCa 13 d [.ref o, .ref r0] h = pR 13 d 0 [.ref o, .ref r0] [] h := rfl
theorem rX1_keep_0 : pR 13 d 0 [.ref o, a1] st h = pR 13 d 1 [.ref o, a1] (.ref o :: st) h := pR_L rfl rfl
theorem rX1_keep_1 : pR 13 d 1 ls (.ref o :: st) h = if pis (pfl h 1 o 4) = true then pR 13 d 4 ls (pfl h 1 o 4 :: st) h else none := r_get rfl
theorem rX1_keep_4 : pR 13 d 4 [.ref o, a1] st h = pR 13 d 5 [.ref o, a1] (.ref o :: st) h := pR_L rfl rfl
theorem rX1_keep_5 : pR 13 d 5 ls (.ref o :: st) h = if pis (pfl h 1 o 5) = true then pR 13 d 8 ls (pfl h 1 o 5 :: st) h else none := r_get rfl
theorem rX1_keep_8 : pR 13 d 8 [a0, .ref o] st h = pR 13 d 9 [a0, .ref o] (.ref o :: st) h := pR_L rfl rfl
theorem rX1_keep_8n : pR 13 d 8 [a0, .null] st h = pR 13 d 9 [a0, .null] (.null :: st) h := pR_L rfl rfl
theorem rX1_keep_9 : pR 13 d 9 ls (.ref o2 :: .int x :: .ref o :: st) h = if (pin x (plnQ h o) && pcl h o2 == pel (pkdQ h o)) = true then pR 13 d 10 ls st (pstQ h o x.toNatClampNeg (some o2)) else none := pR_Lif rfl rfl
theorem rX1_keep_10 : pR 13 d 10 [.ref o, a1] st h = pR 13 d 11 [.ref o, a1] (.ref o :: st) h := pR_L rfl rfl
theorem rX1_keep_11 : pR 13 d 11 ls (.ref o :: st) h = pR 13 d 12 ls (.ref o :: .ref o :: st) h := pR_L rfl rfl
theorem rX1_keep_11i : pR 13 d 11 ls (.int x :: st) h = pR 13 d 12 ls (.int x :: .int x :: st) h := pR_L rfl rfl
theorem rX1_keep_12 : pR 13 d 12 ls (.ref o :: st) h = if pis (pfl h 1 o 5) = true then pR 13 d 15 ls (pfl h 1 o 5 :: st) h else none := r_get rfl
theorem rX1_keep_15 : pR 13 d 15 ls st h = pR 13 d 16 ls (.int 1 :: st) h := pR_L rfl rfl
theorem rX1_keep_16 : pR 13 d 16 ls (.int y :: .int x :: st) h = pR 13 d 17 ls (.int (x + y) :: st) h := pR_L rfl rfl
theorem rX1_keep_17 : pR 13 d 17 ls (.int x :: .ref o :: st) h = if pis (pfl h 1 o 5) = true then pR 13 d 20 ls st (psf h o 5 (.int x)) else none := r_put rfl rfl
theorem rX1_keep_20 : pR 13 d 20 [.ref o, a1] st h = pR 13 d 21 [.ref o, a1] (.ref o :: st) h := pR_L rfl rfl
theorem rX1_keep_21 : pR 13 d 21 ls (.ref o :: st) h = if pis (pfl h 1 o 5) = true then pR 13 d 24 ls (pfl h 1 o 5 :: st) h else none := r_get rfl
theorem rX1_keep_24 : pR 13 d 24 ls st h = pR 13 d 25 ls (.int 1 :: st) h := pR_L rfl rfl
theorem rX1_keep_25 : pR 13 d 25 ls (.int y :: .int x :: st) h = pR 13 d 26 ls (.int (x - y) :: st) h := pR_L rfl rfl
theorem rX1_keep_26 : pR 13 d 26 ls [.int x] h = some (.inl (some (.int x)), h) := pR_E rfl rfl
-- 14 BalloonStall many (II)I
theorem eX1_many : pCa 14 d [.ref o, .int x0, .int x1] h = pR 14 d 0 [.ref o, .int x0, .int x1, pU] [] h := rfl
theorem rX1_many_0 : pR 14 d 0 [.ref o, a1, a2, a3] st h = pR 14 d 1 [.ref o, a1, a2, a3] (.ref o :: st) h := pR_L rfl rfl
theorem rX1_many_1 : pR 14 d 1 [a0, .int x, a2, a3] st h = pR 14 d 2 [a0, .int x, a2, a3] (.int x :: st) h := pR_L rfl rfl
theorem rX1_many_2 : pR 14 (d + 1) 2 ls (b1 :: .ref o :: st) h = if (pok 1 (pcl h o) && pw st) = true then pK 14 (d + 1) 2 3 ls st (pCa 15 d [.ref o, b1] h) else none := r_callV rfl rfl rfl
theorem rX1_many_5 : pR 14 d 5 ls (.int x :: st) h = if x = 0 then pR 14 d 8 ls st h else pR 14 d 10 ls st h := r_ine rfl rfl
theorem rX1_many_8 : pR 14 d 8 ls st h = pR 14 d 9 ls (.int (-1) :: st) h := pR_L rfl rfl
theorem rX1_many_9 : pR 14 d 9 ls [.int x] h = some (.inl (some (.int x)), h) := pR_E rfl rfl
theorem rX1_many_10 : pR 14 d 10 [.ref o, a1, a2, a3] st h = pR 14 d 11 [.ref o, a1, a2, a3] (.ref o :: st) h := pR_L rfl rfl
theorem rX1_many_11 : pR 14 d 11 ls (.ref o :: st) h = if pis (pfl h 1 o 4) = true then pR 14 d 14 ls (pfl h 1 o 4 :: st) h else none := r_get rfl
theorem rX1_many_14 : pR 14 d 14 [a0, .int x, a2, a3] st h = pR 14 d 15 [a0, .int x, a2, a3] (.int x :: st) h := pR_L rfl rfl
theorem rX1_many_15 : pR 14 d 15 ls (.int x :: .ref o :: st) h = if pin x (plnQ h o) = true then pR 14 d 16 ls (va_rf (pctQ h o x.toNatClampNeg) :: st) h else none := pR_Lif rfl rfl
theorem rX1_many_16 : pR 14 d 16 [a0, a1, a2, a3] (.ref o :: st) h = if p1 a3 = true then pR 14 d 17 [a0, a1, a2, .ref o] st h else none := r_sto (n := 1) (k := 3) (v := .ref o) (ls := [a0, a1, a2, a3]) rfl rfl rfl
theorem rX1_many_16n : pR 14 d 16 [a0, a1, a2, a3] (.null :: st) h = if p1 a3 = true then pR 14 d 17 [a0, a1, a2, .null] st h else none := r_sto (n := 1) (k := 3) (v := .null) (ls := [a0, a1, a2, a3]) rfl rfl rfl
theorem rX1_many_17 : pR 14 d 17 [a0, a1, .int x, a3] st h = pR 14 d 18 [a0, a1, .int x, a3] (.int x :: st) h := pR_L rfl rfl
theorem rX1_many_18k0 : pR 14 d 18 ls (.int 0 :: st) h = pR 14 d 56 ls st h := pR_L rfl rfl
theorem rX1_many_18k1 : pR 14 d 18 ls (.int 1 :: st) h = pR 14 d 61 ls st h := pR_L rfl rfl
theorem rX1_many_18k2 : pR 14 d 18 ls (.int 2 :: st) h = pR 14 d 66 ls st h := pR_L rfl rfl
theorem rX1_many_18k3 : pR 14 d 18 ls (.int 3 :: st) h = pR 14 d 71 ls st h := pR_L rfl rfl
theorem rX1_many_18k4 : pR 14 d 18 ls (.int 4 :: st) h = pR 14 d 76 ls st h := pR_L rfl rfl
theorem rX1_many_18k5 : pR 14 d 18 ls (.int 5 :: st) h = pR 14 d 81 ls st h := pR_L rfl rfl
theorem rX1_many_18d (hx : x.toInt < 0 ∨ 5 < x.toInt) : pR 14 d 18 ls (.int x :: st) h = pR 14 d 86 ls st h := r_sw rfl rfl hx
theorem rX1_many_56 : pR 14 d 56 [a0, a1, a2, .ref o] st h = pR 14 d 57 [a0, a1, a2, .ref o] (.ref o :: st) h := pR_L rfl rfl
theorem rX1_many_56n : pR 14 d 56 [a0, a1, a2, .null] st h = pR 14 d 57 [a0, a1, a2, .null] (.null :: st) h := pR_L rfl rfl
theorem rX1_many_57 : pR 14 d 57 ls (.ref o :: st) h = if pis (pfl h 24 o 7) = true then pR 14 d 60 ls (pfl h 24 o 7 :: st) h else none := r_get rfl
theorem rX1_many_60 : pR 14 d 60 ls [.int x] h = some (.inl (some (.int x)), h) := pR_E rfl rfl
theorem rX1_many_61 : pR 14 d 61 [a0, a1, a2, .ref o] st h = pR 14 d 62 [a0, a1, a2, .ref o] (.ref o :: st) h := pR_L rfl rfl
theorem rX1_many_61n : pR 14 d 61 [a0, a1, a2, .null] st h = pR 14 d 62 [a0, a1, a2, .null] (.null :: st) h := pR_L rfl rfl
theorem rX1_many_62 : pR 14 d 62 ls (.ref o :: st) h = if pis (pfl h 24 o 6) = true then pR 14 d 65 ls (pfl h 24 o 6 :: st) h else none := r_get rfl
theorem rX1_many_65 : pR 14 d 65 ls [.int x] h = some (.inl (some (.int x)), h) := pR_E rfl rfl
theorem rX1_many_66 : pR 14 d 66 [a0, a1, a2, .ref o] st h = pR 14 d 67 [a0, a1, a2, .ref o] (.ref o :: st) h := pR_L rfl rfl
theorem rX1_many_66n : pR 14 d 66 [a0, a1, a2, .null] st h = pR 14 d 67 [a0, a1, a2, .null] (.null :: st) h := pR_L rfl rfl
theorem rX1_many_67 : pR 14 d 67 ls (.ref o :: st) h = if pis (pfl h 24 o 8) = true then pR 14 d 70 ls (pfl h 24 o 8 :: st) h else none := r_get rfl
theorem rX1_many_70 : pR 14 d 70 ls [.int x] h = some (.inl (some (.int x)), h) := pR_E rfl rfl
theorem rX1_many_71 : pR 14 d 71 [a0, a1, a2, .ref o] st h = pR 14 d 72 [a0, a1, a2, .ref o] (.ref o :: st) h := pR_L rfl rfl
theorem rX1_many_71n : pR 14 d 71 [a0, a1, a2, .null] st h = pR 14 d 72 [a0, a1, a2, .null] (.null :: st) h := pR_L rfl rfl
theorem rX1_many_72 : pR 14 (d + 1) 72 ls (.ref o :: st) h = if (pok 24 (pcl h o) && pw st) = true then pK 14 (d + 1) 72 3 ls st (pCa 230 d [.ref o] h) else none := r_callV rfl rfl rfl
theorem rX1_many_75 : pR 14 d 75 ls [.int x] h = some (.inl (some (.int x)), h) := pR_E rfl rfl
theorem rX1_many_76 : pR 14 d 76 [a0, a1, a2, .ref o] st h = pR 14 d 77 [a0, a1, a2, .ref o] (.ref o :: st) h := pR_L rfl rfl
theorem rX1_many_76n : pR 14 d 76 [a0, a1, a2, .null] st h = pR 14 d 77 [a0, a1, a2, .null] (.null :: st) h := pR_L rfl rfl
theorem rX1_many_77 : pR 14 (d + 1) 77 ls (.ref o :: st) h = if (pok 24 (pcl h o) && pw st) = true then pK 14 (d + 1) 77 3 ls st (pCa 232 d [.ref o] h) else none := r_callV rfl rfl rfl
theorem rX1_many_80 : pR 14 d 80 ls [.int x] h = some (.inl (some (.int x)), h) := pR_E rfl rfl
theorem rX1_many_81 : pR 14 d 81 [a0, a1, a2, .ref o] st h = pR 14 d 82 [a0, a1, a2, .ref o] (.ref o :: st) h := pR_L rfl rfl
theorem rX1_many_81n : pR 14 d 81 [a0, a1, a2, .null] st h = pR 14 d 82 [a0, a1, a2, .null] (.null :: st) h := pR_L rfl rfl
theorem rX1_many_82 : pR 14 (d + 1) 82 ls (.ref o :: st) h = if (pok 24 (pcl h o) && pw st) = true then pK 14 (d + 1) 82 3 ls st (pCa 234 d [.ref o] h) else none := r_callV rfl rfl rfl
theorem rX1_many_85 : pR 14 d 85 ls [.int x] h = some (.inl (some (.int x)), h) := pR_E rfl rfl
theorem rX1_many_86 : pR 14 d 86 ls st h = pR 14 d 87 ls (.int (-1) :: st) h := pR_L rfl rfl
theorem rX1_many_87 : pR 14 d 87 ls [.int x] h = some (.inl (some (.int x)), h) := pR_E rfl rfl
-- 15 BalloonStall isFigure (I)Z
theorem eX1_isFigure : pCa 15 d [.ref o, .int x0] h = pR 15 d 0 [.ref o, .int x0] [] h := rfl
theorem rX1_isFigure_0 : pR 15 d 0 [a0, .int x] st h = pR 15 d 1 [a0, .int x] (.int x :: st) h := pR_L rfl rfl
theorem rX1_isFigure_1 : pR 15 d 1 ls (.int x :: st) h = if x < 0 then pR 15 d 16 ls st h else pR 15 d 4 ls st h := r_ilt rfl rfl
theorem rX1_isFigure_4 : pR 15 d 4 [a0, .int x] st h = pR 15 d 5 [a0, .int x] (.int x :: st) h := pR_L rfl rfl
theorem rX1_isFigure_5 : pR 15 d 5 [.ref o, a1] st h = pR 15 d 6 [.ref o, a1] (.ref o :: st) h := pR_L rfl rfl
theorem rX1_isFigure_6 : pR 15 d 6 ls (.ref o :: st) h = if pis (pfl h 1 o 5) = true then pR 15 d 9 ls (pfl h 1 o 5 :: st) h else none := r_get rfl
theorem rX1_isFigure_9 : pR 15 d 9 ls (.int y :: .int x :: st) h = if x < y then pR 15 d 12 ls st h else pR 15 d 16 ls st h := r_cge rfl rfl
theorem rX1_isFigure_12 : pR 15 d 12 ls st h = pR 15 d 13 ls (.int 1 :: st) h := pR_L rfl rfl
theorem rX1_isFigure_13 : pR 15 d 13 ls st h = pR 15 d 17 ls st h := pR_L rfl rfl
theorem rX1_isFigure_16 : pR 15 d 16 ls st h = pR 15 d 17 ls (.int 0 :: st) h := pR_L rfl rfl
theorem rX1_isFigure_170 : pR 15 d 17 ls [.int 0] h = some (.inl (some (.int 0)), h) := pR_E rfl rfl
theorem rX1_isFigure_171 : pR 15 d 17 ls [.int 1] h = some (.inl (some (.int 1)), h) := pR_E rfl rfl
-- 16 BalloonStall ends (II)I
theorem eX1_ends : pCa 16 d [.ref o, .int x0, .int x1] h = pR 16 d 0 [.ref o, .int x0, .int x1] [] h := rfl
theorem rX1_ends_0 : pR 16 d 0 [.ref o, a1, a2] st h = pR 16 d 1 [.ref o, a1, a2] (.ref o :: st) h := pR_L rfl rfl
theorem rX1_ends_1 : pR 16 d 1 [a0, .int x, a2] st h = pR 16 d 2 [a0, .int x, a2] (.int x :: st) h := pR_L rfl rfl
theorem rX1_ends_2 : pR 16 d 2 [a0, a1, .int x] st h = pR 16 d 3 [a0, a1, .int x] (.int x :: st) h := pR_L rfl rfl
theorem rX1_ends_3 : pR 16 (d + 1) 3 ls (b2 :: b1 :: .ref o :: st) h = if (pok 1 (pcl h o) && pw st) = true then pK 16 (d + 1) 3 3 ls st (pCa 17 d [.ref o, b1, b2] h) else none := r_callV rfl rfl rfl
theorem rX1_ends_6 : pR 16 d 6 ls (.int x :: st) h = if x = 0 then pR 16 d 23 ls st h else pR 16 d 9 ls st h := r_ieq rfl rfl
theorem rX1_ends_9 : pR 16 d 9 [.ref o, a1, a2] st h = pR 16 d 10 [.ref o, a1, a2] (.ref o :: st) h := pR_L rfl rfl
theorem rX1_ends_10 : pR 16 d 10 ls (.ref o :: st) h = if pis (pfl h 1 o 4) = true then pR 16 d 13 ls (pfl h 1 o 4 :: st) h else none := r_get rfl
theorem rX1_ends_13 : pR 16 d 13 [a0, .int x, a2] st h = pR 16 d 14 [a0, .int x, a2] (.int x :: st) h := pR_L rfl rfl
theorem rX1_ends_14 : pR 16 d 14 ls (.int x :: .ref o :: st) h = if pin x (plnQ h o) = true then pR 16 d 15 ls (va_rf (pctQ h o x.toNatClampNeg) :: st) h else none := pR_Lif rfl rfl
theorem rX1_ends_15 : pR 16 d 15 ls (.ref o :: st) h = if pis (pfl h 24 o 5) = true then pR 16 d 18 ls (pfl h 24 o 5 :: st) h else none := r_get rfl
theorem rX1_ends_18 : pR 16 d 18 [a0, a1, .int x] st h = pR 16 d 19 [a0, a1, .int x] (.int x :: st) h := pR_L rfl rfl
theorem rX1_ends_19 : pR 16 d 19 ls (.int x :: .ref o :: st) h = if (pin x (pln h 0 o) || pin x (pln h 9 o)) = true then pR 16 d 20 ls (.int (pct h o x.toNatClampNeg) :: st) h else none := pR_Lif rfl rfl
theorem rX1_ends_20 : pR 16 d 20 ls st h = pR 16 d 24 ls st h := pR_L rfl rfl
theorem rX1_ends_23 : pR 16 d 23 ls st h = pR 16 d 24 ls (.int (-1) :: st) h := pR_L rfl rfl
theorem rX1_ends_24 : pR 16 d 24 ls [.int x] h = some (.inl (some (.int x)), h) := pR_E rfl rfl
-- 17 BalloonStall isPoint (II)Z
theorem eX1_isPoint : pCa 17 d [.ref o, .int x0, .int x1] h = pR 17 d 0 [.ref o, .int x0, .int x1] [] h := rfl
theorem rX1_isPoint_0 : pR 17 d 0 [.ref o, a1, a2] st h = pR 17 d 1 [.ref o, a1, a2] (.ref o :: st) h := pR_L rfl rfl
theorem rX1_isPoint_1 : pR 17 d 1 [a0, .int x, a2] st h = pR 17 d 2 [a0, .int x, a2] (.int x :: st) h := pR_L rfl rfl
theorem rX1_isPoint_2 : pR 17 (d + 1) 2 ls (b1 :: .ref o :: st) h = if (pok 1 (pcl h o) && pw st) = true then pK 17 (d + 1) 2 3 ls st (pCa 15 d [.ref o, b1] h) else none := r_callV rfl rfl rfl
theorem rX1_isPoint_5 : pR 17 d 5 ls (.int x :: st) h = if x = 0 then pR 17 d 33 ls st h else pR 17 d 8 ls st h := r_ieq rfl rfl
theorem rX1_isPoint_8 : pR 17 d 8 [a0, a1, .int x] st h = pR 17 d 9 [a0, a1, .int x] (.int x :: st) h := pR_L rfl rfl
theorem rX1_isPoint_9 : pR 17 d 9 ls (.int x :: st) h = pR 17 d 10 ls (.long x.toInt64 :: st) h := pR_L rfl rfl
theorem rX1_isPoint_10 : pR 17 d 10 ls st h = pR 17 d 11 ls (.long 0 :: st) h := pR_L rfl rfl
theorem rX1_isPoint_11 : pR 17 d 11 [.ref o, a1, a2] st h = pR 17 d 12 [.ref o, a1, a2] (.ref o :: st) h := pR_L rfl rfl
theorem rX1_isPoint_12 : pR 17 d 12 ls (.ref o :: st) h = if pis (pfl h 1 o 4) = true then pR 17 d 15 ls (pfl h 1 o 4 :: st) h else none := r_get rfl
theorem rX1_isPoint_15 : pR 17 d 15 [a0, .int x, a2] st h = pR 17 d 16 [a0, .int x, a2] (.int x :: st) h := pR_L rfl rfl
theorem rX1_isPoint_16 : pR 17 d 16 ls (.int x :: .ref o :: st) h = if pin x (plnQ h o) = true then pR 17 d 17 ls (va_rf (pctQ h o x.toNatClampNeg) :: st) h else none := pR_Lif rfl rfl
theorem rX1_isPoint_17 : pR 17 d 17 ls (.ref o :: st) h = if pis (pfl h 24 o 8) = true then pR 17 d 20 ls (pfl h 24 o 8 :: st) h else none := r_get rfl
theorem rX1_isPoint_20 : pR 17 d 20 ls st h = pR 17 d 21 ls (.int 1 :: st) h := pR_L rfl rfl
theorem rX1_isPoint_21 : pR 17 d 21 ls (.int y :: .int x :: st) h = pR 17 d 22 ls (.int (x - y) :: st) h := pR_L rfl rfl
theorem rX1_isPoint_22 : pR 17 d 22 ls (.int x :: st) h = pR 17 d 23 ls (.long x.toInt64 :: st) h := pR_L rfl rfl
theorem rX1_isPoint_23 : pR 17 (d + 1) 23 ls (b2 :: b1 :: b0 :: st) h = if pw st = true then pK 17 (d + 1) 23 3 ls st (pCa 6 d [b0, b1, b2] h) else none := r_callS rfl rfl rfl
theorem rX1_isPoint_26 : pR 17 d 26 ls (.int x :: st) h = if x = 0 then pR 17 d 33 ls st h else pR 17 d 29 ls st h := r_ieq rfl rfl
theorem rX1_isPoint_29 : pR 17 d 29 ls st h = pR 17 d 30 ls (.int 1 :: st) h := pR_L rfl rfl
theorem rX1_isPoint_30 : pR 17 d 30 ls st h = pR 17 d 34 ls st h := pR_L rfl rfl
theorem rX1_isPoint_33 : pR 17 d 33 ls st h = pR 17 d 34 ls (.int 0 :: st) h := pR_L rfl rfl
theorem rX1_isPoint_340 : pR 17 d 34 ls [.int 0] h = some (.inl (some (.int 0)), h) := pR_E rfl rfl
theorem rX1_isPoint_341 : pR 17 d 34 ls [.int 1] h = some (.inl (some (.int 1)), h) := pR_E rfl rfl
-- 18 BalloonStall bursts (II)I
theorem eX1_bursts : pCa 18 d [.ref o, .int x0, .int x1] h = pR 18 d 0 [.ref o, .int x0, .int x1, pU, pU, pU] [] h := rfl
theorem rX1_bursts_0 : pR 18 d 0 [.ref o, a1, a2, a3, a4, a5] st h = pR 18 d 1 [.ref o, a1, a2, a3, a4, a5] (.ref o :: st) h := pR_L rfl rfl
theorem rX1_bursts_1 : pR 18 d 1 [a0, .int x, a2, a3, a4, a5] st h = pR 18 d 2 [a0, .int x, a2, a3, a4, a5] (.int x :: st) h := pR_L rfl rfl
theorem rX1_bursts_2 : pR 18 d 2 [a0, a1, .int x, a3, a4, a5] st h = pR 18 d 3 [a0, a1, .int x, a3, a4, a5] (.int x :: st) h := pR_L rfl rfl
theorem rX1_bursts_3 : pR 18 (d + 1) 3 ls (b2 :: b1 :: .ref o :: st) h = if (pok 1 (pcl h o) && pw st) = true then pK 18 (d + 1) 3 3 ls st (pCa 19 d [.ref o, b1, b2] h) else none := r_callV rfl rfl rfl
theorem rX1_bursts_6 : pR 18 d 6 ls (.int x :: st) h = if x = 0 then pR 18 d 9 ls st h else pR 18 d 11 ls st h := r_ine rfl rfl
theorem rX1_bursts_9 : pR 18 d 9 ls st h = pR 18 d 10 ls (.int (-1) :: st) h := pR_L rfl rfl
theorem rX1_bursts_10 : pR 18 d 10 ls [.int x] h = some (.inl (some (.int x)), h) := pR_E rfl rfl
theorem rX1_bursts_11 : pR 18 d 11 [.ref o, a1, a2, a3, a4, a5] st h = pR 18 d 12 [.ref o, a1, a2, a3, a4, a5] (.ref o :: st) h := pR_L rfl rfl
theorem rX1_bursts_12 : pR 18 d 12 ls (.ref o :: st) h = if pis (pfl h 1 o 4) = true then pR 18 d 15 ls (pfl h 1 o 4 :: st) h else none := r_get rfl
theorem rX1_bursts_15 : pR 18 d 15 [a0, .int x, a2, a3, a4, a5] st h = pR 18 d 16 [a0, .int x, a2, a3, a4, a5] (.int x :: st) h := pR_L rfl rfl
theorem rX1_bursts_16 : pR 18 d 16 ls (.int x :: .ref o :: st) h = if pin x (plnQ h o) = true then pR 18 d 17 ls (va_rf (pctQ h o x.toNatClampNeg) :: st) h else none := pR_Lif rfl rfl
theorem rX1_bursts_17 : pR 18 d 17 [a0, a1, a2, a3, a4, a5] (.ref o :: st) h = if p1 a3 = true then pR 18 d 18 [a0, a1, a2, .ref o, a4, a5] st h else none := r_sto (n := 1) (k := 3) (v := .ref o) (ls := [a0, a1, a2, a3, a4, a5]) rfl rfl rfl
theorem rX1_bursts_17n : pR 18 d 17 [a0, a1, a2, a3, a4, a5] (.null :: st) h = if p1 a3 = true then pR 18 d 18 [a0, a1, a2, .null, a4, a5] st h else none := r_sto (n := 1) (k := 3) (v := .null) (ls := [a0, a1, a2, a3, a4, a5]) rfl rfl rfl
theorem rX1_bursts_18 : pR 18 d 18 [.ref o, a1, a2, a3, a4, a5] st h = pR 18 d 19 [.ref o, a1, a2, a3, a4, a5] (.ref o :: st) h := pR_L rfl rfl
theorem rX1_bursts_19 : pR 18 d 19 ls (.ref o :: st) h = if pis (pfl h 1 o 0) = true then pR 18 d 22 ls (pfl h 1 o 0 :: st) h else none := r_get rfl
theorem rX1_bursts_22 : pR 18 d 22 [a0, a1, a2, .ref o, a4, a5] st h = pR 18 d 23 [a0, a1, a2, .ref o, a4, a5] (.ref o :: st) h := pR_L rfl rfl
theorem rX1_bursts_22n : pR 18 d 22 [a0, a1, a2, .null, a4, a5] st h = pR 18 d 23 [a0, a1, a2, .null, a4, a5] (.null :: st) h := pR_L rfl rfl
theorem rX1_bursts_23 : pR 18 d 23 ls (.ref o :: st) h = if pis (pfl h 24 o 4) = true then pR 18 d 26 ls (pfl h 24 o 4 :: st) h else none := r_get rfl
theorem rX1_bursts_26 : pR 18 d 26 [a0, a1, .int x, a3, a4, a5] st h = pR 18 d 27 [a0, a1, .int x, a3, a4, a5] (.int x :: st) h := pR_L rfl rfl
theorem rX1_bursts_27 : pR 18 d 27 ls (.int x :: .ref o :: st) h = if (pin x (pln h 0 o) || pin x (pln h 9 o)) = true then pR 18 d 28 ls (.int (pct h o x.toNatClampNeg) :: st) h else none := pR_Lif rfl rfl
theorem rX1_bursts_28 : pR 18 d 28 ls (.int x :: .ref o :: st) h = if pin x (plnQ h o) = true then pR 18 d 29 ls (va_rf (pctQ h o x.toNatClampNeg) :: st) h else none := pR_Lif rfl rfl
theorem rX1_bursts_29 : pR 18 d 29 [a0, a1, a2, a3, a4, a5] (.ref o :: st) h = if p1 a4 = true then pR 18 d 31 [a0, a1, a2, a3, .ref o, a5] st h else none := r_sto (n := 2) (k := 4) (v := .ref o) (ls := [a0, a1, a2, a3, a4, a5]) rfl rfl rfl
theorem rX1_bursts_29n : pR 18 d 29 [a0, a1, a2, a3, a4, a5] (.null :: st) h = if p1 a4 = true then pR 18 d 31 [a0, a1, a2, a3, .null, a5] st h else none := r_sto (n := 2) (k := 4) (v := .null) (ls := [a0, a1, a2, a3, a4, a5]) rfl rfl rfl
theorem rX1_bursts_31 : pR 18 d 31 ls st h = pR 18 d 32 ls (.int 0 :: st) h := pR_L rfl rfl
theorem rX1_bursts_32 : pR 18 d 32 [a0, a1, a2, a3, a4, a5] (.int x :: st) h = if p1 a5 = true then pR 18 d 34 [a0, a1, a2, a3, a4, .int x] st h else none := r_sto (n := 2) (k := 5) (v := .int x) (ls := [a0, a1, a2, a3, a4, a5]) rfl rfl rfl
theorem rX1_bursts_34 : pR 18 d 34 [a0, a1, a2, a3, a4, .int x] st h = pR 18 d 36 [a0, a1, a2, a3, a4, .int x] (.int x :: st) h := pR_L rfl rfl
theorem rX1_bursts_36 : pR 18 d 36 [a0, a1, a2, .ref o, a4, a5] st h = pR 18 d 37 [a0, a1, a2, .ref o, a4, a5] (.ref o :: st) h := pR_L rfl rfl
theorem rX1_bursts_36n : pR 18 d 36 [a0, a1, a2, .null, a4, a5] st h = pR 18 d 37 [a0, a1, a2, .null, a4, a5] (.null :: st) h := pR_L rfl rfl
theorem rX1_bursts_37 : pR 18 d 37 ls (.ref o :: st) h = if pis (pfl h 24 o 6) = true then pR 18 d 40 ls (pfl h 24 o 6 :: st) h else none := r_get rfl
theorem rX1_bursts_40 : pR 18 d 40 ls (.int y :: .int x :: st) h = if x < y then pR 18 d 43 ls st h else pR 18 d 80 ls st h := r_cge rfl rfl
theorem rX1_bursts_43 : pR 18 d 43 [a0, a1, a2, .ref o, a4, a5] st h = pR 18 d 44 [a0, a1, a2, .ref o, a4, a5] (.ref o :: st) h := pR_L rfl rfl
theorem rX1_bursts_43n : pR 18 d 43 [a0, a1, a2, .null, a4, a5] st h = pR 18 d 44 [a0, a1, a2, .null, a4, a5] (.null :: st) h := pR_L rfl rfl
theorem rX1_bursts_44 : pR 18 d 44 ls (.ref o :: st) h = if pis (pfl h 24 o 3) = true then pR 18 d 47 ls (pfl h 24 o 3 :: st) h else none := r_get rfl
theorem rX1_bursts_47 : pR 18 d 47 [a0, a1, a2, a3, a4, .int x] st h = pR 18 d 49 [a0, a1, a2, a3, a4, .int x] (.int x :: st) h := pR_L rfl rfl
theorem rX1_bursts_49 : pR 18 d 49 ls (.int x :: .ref o :: st) h = if (pin x (pln h 0 o) || pin x (pln h 9 o)) = true then pR 18 d 50 ls (.int (pct h o x.toNatClampNeg) :: st) h else none := pR_Lif rfl rfl
theorem rX1_bursts_50 : pR 18 d 50 [a0, a1, .int x, a3, a4, a5] st h = pR 18 d 51 [a0, a1, .int x, a3, a4, a5] (.int x :: st) h := pR_L rfl rfl
theorem rX1_bursts_51 : pR 18 d 51 ls (.int y :: .int x :: st) h = if x = y then pR 18 d 54 ls st h else pR 18 d 74 ls st h := r_cne rfl rfl
theorem rX1_bursts_54 : pR 18 d 54 [a0, a1, a2, .ref o, a4, a5] st h = pR 18 d 55 [a0, a1, a2, .ref o, a4, a5] (.ref o :: st) h := pR_L rfl rfl
theorem rX1_bursts_54n : pR 18 d 54 [a0, a1, a2, .null, a4, a5] st h = pR 18 d 55 [a0, a1, a2, .null, a4, a5] (.null :: st) h := pR_L rfl rfl
theorem rX1_bursts_55 : pR 18 d 55 [a0, a1, .int x, a3, a4, a5] st h = pR 18 d 56 [a0, a1, .int x, a3, a4, a5] (.int x :: st) h := pR_L rfl rfl
theorem rX1_bursts_56 : pR 18 d 56 [a0, a1, a2, a3, a4, .int x] st h = pR 18 d 58 [a0, a1, a2, a3, a4, .int x] (.int x :: st) h := pR_L rfl rfl
theorem rX1_bursts_58 : pR 18 d 58 [a0, a1, a2, a3, .ref o, a5] st h = pR 18 d 60 [a0, a1, a2, a3, .ref o, a5] (.ref o :: st) h := pR_L rfl rfl
theorem rX1_bursts_58n : pR 18 d 58 [a0, a1, a2, a3, .null, a5] st h = pR 18 d 60 [a0, a1, a2, a3, .null, a5] (.null :: st) h := pR_L rfl rfl
theorem rX1_bursts_60 : pR 18 (d + 1) 60 ls (b3 :: b2 :: b1 :: .ref o :: st) h = if (pok 24 (pcl h o) && pw st) = true then pK 18 (d + 1) 60 3 ls st (pCa 235 d [.ref o, b1, b2, b3] h) else none := r_callV rfl rfl rfl
theorem rX1_bursts_63 : pR 18 d 63 [a0, a1, a2, a3, .ref o, a5] st h = pR 18 d 65 [a0, a1, a2, a3, .ref o, a5] (.ref o :: st) h := pR_L rfl rfl
theorem rX1_bursts_63n : pR 18 d 63 [a0, a1, a2, a3, .null, a5] st h = pR 18 d 65 [a0, a1, a2, a3, .null, a5] (.null :: st) h := pR_L rfl rfl
theorem rX1_bursts_65 : pR 18 d 65 ls (.ref o :: st) h = if pis (pfl h 4 o 0) = true then pR 18 d 68 ls (pfl h 4 o 0 :: st) h else none := r_get rfl
theorem rX1_bursts_68 : pR 18 d 68 ls (.int y :: .int x :: st) h = if y < x then pR 18 d 71 ls st h else pR 18 d 74 ls st h := r_cle rfl rfl
theorem rX1_bursts_71 : pR 18 d 71 [a0, a1, a2, a3, a4, .int x] st h = pR 18 d 73 [a0, a1, a2, a3, a4, .int x] (.int x :: st) h := pR_L rfl rfl
theorem rX1_bursts_73 : pR 18 d 73 ls [.int x] h = some (.inl (some (.int x)), h) := pR_E rfl rfl
theorem rX1_bursts_74 : pR 18 d 74 [a0, a1, a2, a3, a4, .int x] st h = pR 18 d 77 [a0, a1, a2, a3, a4, .int (x + 1)] st h := pR_L rfl rfl
theorem rX1_bursts_77 : pR 18 d 77 ls st h = pR 18 d 34 ls st h := pR_L rfl rfl
theorem rX1_bursts_80 : pR 18 d 80 ls st h = pR 18 d 81 ls (.int (-1) :: st) h := pR_L rfl rfl
theorem rX1_bursts_81 : pR 18 d 81 ls [.int x] h = some (.inl (some (.int x)), h) := pR_E rfl rfl
-- 19 BalloonStall isBalloon (II)Z
theorem eX1_isBalloon : pCa 19 d [.ref o, .int x0, .int x1] h = pR 19 d 0 [.ref o, .int x0, .int x1] [] h := rfl
theorem rX1_isBalloon_0 : pR 19 d 0 [.ref o, a1, a2] st h = pR 19 d 1 [.ref o, a1, a2] (.ref o :: st) h := pR_L rfl rfl
theorem rX1_isBalloon_1 : pR 19 d 1 [a0, .int x, a2] st h = pR 19 d 2 [a0, .int x, a2] (.int x :: st) h := pR_L rfl rfl
theorem rX1_isBalloon_2 : pR 19 (d + 1) 2 ls (b1 :: .ref o :: st) h = if (pok 1 (pcl h o) && pw st) = true then pK 19 (d + 1) 2 3 ls st (pCa 15 d [.ref o, b1] h) else none := r_callV rfl rfl rfl
theorem rX1_isBalloon_5 : pR 19 d 5 ls (.int x :: st) h = if x = 0 then pR 19 d 33 ls st h else pR 19 d 8 ls st h := r_ieq rfl rfl
theorem rX1_isBalloon_8 : pR 19 d 8 [a0, a1, .int x] st h = pR 19 d 9 [a0, a1, .int x] (.int x :: st) h := pR_L rfl rfl
theorem rX1_isBalloon_9 : pR 19 d 9 ls (.int x :: st) h = pR 19 d 10 ls (.long x.toInt64 :: st) h := pR_L rfl rfl
theorem rX1_isBalloon_10 : pR 19 d 10 ls st h = pR 19 d 11 ls (.long 0 :: st) h := pR_L rfl rfl
theorem rX1_isBalloon_11 : pR 19 d 11 [.ref o, a1, a2] st h = pR 19 d 12 [.ref o, a1, a2] (.ref o :: st) h := pR_L rfl rfl
theorem rX1_isBalloon_12 : pR 19 d 12 ls (.ref o :: st) h = if pis (pfl h 1 o 4) = true then pR 19 d 15 ls (pfl h 1 o 4 :: st) h else none := r_get rfl
theorem rX1_isBalloon_15 : pR 19 d 15 [a0, .int x, a2] st h = pR 19 d 16 [a0, .int x, a2] (.int x :: st) h := pR_L rfl rfl
theorem rX1_isBalloon_16 : pR 19 d 16 ls (.int x :: .ref o :: st) h = if pin x (plnQ h o) = true then pR 19 d 17 ls (va_rf (pctQ h o x.toNatClampNeg) :: st) h else none := pR_Lif rfl rfl
theorem rX1_isBalloon_17 : pR 19 d 17 ls (.ref o :: st) h = if pis (pfl h 24 o 7) = true then pR 19 d 20 ls (pfl h 24 o 7 :: st) h else none := r_get rfl
theorem rX1_isBalloon_20 : pR 19 d 20 ls st h = pR 19 d 21 ls (.int 1 :: st) h := pR_L rfl rfl
theorem rX1_isBalloon_21 : pR 19 d 21 ls (.int y :: .int x :: st) h = pR 19 d 22 ls (.int (x - y) :: st) h := pR_L rfl rfl
theorem rX1_isBalloon_22 : pR 19 d 22 ls (.int x :: st) h = pR 19 d 23 ls (.long x.toInt64 :: st) h := pR_L rfl rfl
theorem rX1_isBalloon_23 : pR 19 (d + 1) 23 ls (b2 :: b1 :: b0 :: st) h = if pw st = true then pK 19 (d + 1) 23 3 ls st (pCa 6 d [b0, b1, b2] h) else none := r_callS rfl rfl rfl
theorem rX1_isBalloon_26 : pR 19 d 26 ls (.int x :: st) h = if x = 0 then pR 19 d 33 ls st h else pR 19 d 29 ls st h := r_ieq rfl rfl
theorem rX1_isBalloon_29 : pR 19 d 29 ls st h = pR 19 d 30 ls (.int 1 :: st) h := pR_L rfl rfl
theorem rX1_isBalloon_30 : pR 19 d 30 ls st h = pR 19 d 34 ls st h := pR_L rfl rfl
theorem rX1_isBalloon_33 : pR 19 d 33 ls st h = pR 19 d 34 ls (.int 0 :: st) h := pR_L rfl rfl
theorem rX1_isBalloon_340 : pR 19 d 34 ls [.int 0] h = some (.inl (some (.int 0)), h) := pR_E rfl rfl
theorem rX1_isBalloon_341 : pR 19 d 34 ls [.int 1] h = some (.inl (some (.int 1)), h) := pR_E rfl rfl
-- 20 BalloonStall rest (II)I
theorem eX1_rest : pCa 20 d [.ref o, .int x0, .int x1] h = pR 20 d 0 [.ref o, .int x0, .int x1, pU, pU] [] h := rfl
theorem rX1_rest_0 : pR 20 d 0 [.ref o, a1, a2, a3, a4] st h = pR 20 d 1 [.ref o, a1, a2, a3, a4] (.ref o :: st) h := pR_L rfl rfl
theorem rX1_rest_1 : pR 20 d 1 [a0, .int x, a2, a3, a4] st h = pR 20 d 2 [a0, .int x, a2, a3, a4] (.int x :: st) h := pR_L rfl rfl
theorem rX1_rest_2 : pR 20 d 2 [a0, a1, .int x, a3, a4] st h = pR 20 d 3 [a0, a1, .int x, a3, a4] (.int x :: st) h := pR_L rfl rfl
theorem rX1_rest_3 : pR 20 (d + 1) 3 ls (b2 :: b1 :: .ref o :: st) h = if (pok 1 (pcl h o) && pw st) = true then pK 20 (d + 1) 3 3 ls st (pCa 19 d [.ref o, b1, b2] h) else none := r_callV rfl rfl rfl
theorem rX1_rest_6 : pR 20 d 6 ls (.int x :: st) h = if x = 0 then pR 20 d 9 ls st h else pR 20 d 11 ls st h := r_ine rfl rfl
theorem rX1_rest_9 : pR 20 d 9 ls st h = pR 20 d 10 ls (.int (-1) :: st) h := pR_L rfl rfl
theorem rX1_rest_10 : pR 20 d 10 ls [.int x] h = some (.inl (some (.int x)), h) := pR_E rfl rfl
theorem rX1_rest_11 : pR 20 d 11 [.ref o, a1, a2, a3, a4] st h = pR 20 d 12 [.ref o, a1, a2, a3, a4] (.ref o :: st) h := pR_L rfl rfl
theorem rX1_rest_12 : pR 20 d 12 ls (.ref o :: st) h = if pis (pfl h 1 o 4) = true then pR 20 d 15 ls (pfl h 1 o 4 :: st) h else none := r_get rfl
theorem rX1_rest_15 : pR 20 d 15 [a0, .int x, a2, a3, a4] st h = pR 20 d 16 [a0, .int x, a2, a3, a4] (.int x :: st) h := pR_L rfl rfl
theorem rX1_rest_16 : pR 20 d 16 ls (.int x :: .ref o :: st) h = if pin x (plnQ h o) = true then pR 20 d 17 ls (va_rf (pctQ h o x.toNatClampNeg) :: st) h else none := pR_Lif rfl rfl
theorem rX1_rest_17 : pR 20 d 17 [a0, a1, a2, a3, a4] (.ref o :: st) h = if p1 a3 = true then pR 20 d 18 [a0, a1, a2, .ref o, a4] st h else none := r_sto (n := 1) (k := 3) (v := .ref o) (ls := [a0, a1, a2, a3, a4]) rfl rfl rfl
theorem rX1_rest_17n : pR 20 d 17 [a0, a1, a2, a3, a4] (.null :: st) h = if p1 a3 = true then pR 20 d 18 [a0, a1, a2, .null, a4] st h else none := r_sto (n := 1) (k := 3) (v := .null) (ls := [a0, a1, a2, a3, a4]) rfl rfl rfl
theorem rX1_rest_18 : pR 20 d 18 [.ref o, a1, a2, a3, a4] st h = pR 20 d 19 [.ref o, a1, a2, a3, a4] (.ref o :: st) h := pR_L rfl rfl
theorem rX1_rest_19 : pR 20 d 19 ls (.ref o :: st) h = if pis (pfl h 1 o 0) = true then pR 20 d 22 ls (pfl h 1 o 0 :: st) h else none := r_get rfl
theorem rX1_rest_22 : pR 20 d 22 [a0, a1, a2, .ref o, a4] st h = pR 20 d 23 [a0, a1, a2, .ref o, a4] (.ref o :: st) h := pR_L rfl rfl
theorem rX1_rest_22n : pR 20 d 22 [a0, a1, a2, .null, a4] st h = pR 20 d 23 [a0, a1, a2, .null, a4] (.null :: st) h := pR_L rfl rfl
theorem rX1_rest_23 : pR 20 d 23 ls (.ref o :: st) h = if pis (pfl h 24 o 4) = true then pR 20 d 26 ls (pfl h 24 o 4 :: st) h else none := r_get rfl
theorem rX1_rest_26 : pR 20 d 26 [a0, a1, .int x, a3, a4] st h = pR 20 d 27 [a0, a1, .int x, a3, a4] (.int x :: st) h := pR_L rfl rfl
theorem rX1_rest_27 : pR 20 d 27 ls (.int x :: .ref o :: st) h = if (pin x (pln h 0 o) || pin x (pln h 9 o)) = true then pR 20 d 28 ls (.int (pct h o x.toNatClampNeg) :: st) h else none := pR_Lif rfl rfl
theorem rX1_rest_28 : pR 20 d 28 ls (.int x :: .ref o :: st) h = if pin x (plnQ h o) = true then pR 20 d 29 ls (va_rf (pctQ h o x.toNatClampNeg) :: st) h else none := pR_Lif rfl rfl
theorem rX1_rest_29 : pR 20 d 29 [a0, a1, a2, a3, a4] (.ref o :: st) h = if p1 a4 = true then pR 20 d 31 [a0, a1, a2, a3, .ref o] st h else none := r_sto (n := 2) (k := 4) (v := .ref o) (ls := [a0, a1, a2, a3, a4]) rfl rfl rfl
theorem rX1_rest_29n : pR 20 d 29 [a0, a1, a2, a3, a4] (.null :: st) h = if p1 a4 = true then pR 20 d 31 [a0, a1, a2, a3, .null] st h else none := r_sto (n := 2) (k := 4) (v := .null) (ls := [a0, a1, a2, a3, a4]) rfl rfl rfl
theorem rX1_rest_31 : pR 20 d 31 ls st h = pR 20 d 32 ls (.int 0 :: st) h := pR_L rfl rfl
theorem rX1_rest_32 : pR 20 d 32 [a0, a1, a2, a3, .ref o] st h = pR 20 d 34 [a0, a1, a2, a3, .ref o] (.ref o :: st) h := pR_L rfl rfl
theorem rX1_rest_32n : pR 20 d 32 [a0, a1, a2, a3, .null] st h = pR 20 d 34 [a0, a1, a2, a3, .null] (.null :: st) h := pR_L rfl rfl
theorem rX1_rest_34 : pR 20 d 34 ls (.ref o :: st) h = if pis (pfl h 4 o 0) = true then pR 20 d 37 ls (pfl h 4 o 0 :: st) h else none := r_get rfl
theorem rX1_rest_37 : pR 20 d 37 [a0, a1, a2, .ref o, a4] st h = pR 20 d 38 [a0, a1, a2, .ref o, a4] (.ref o :: st) h := pR_L rfl rfl
theorem rX1_rest_37n : pR 20 d 37 [a0, a1, a2, .null, a4] st h = pR 20 d 38 [a0, a1, a2, .null, a4] (.null :: st) h := pR_L rfl rfl
theorem rX1_rest_38 : pR 20 d 38 [a0, a1, .int x, a3, a4] st h = pR 20 d 39 [a0, a1, .int x, a3, a4] (.int x :: st) h := pR_L rfl rfl
theorem rX1_rest_39 : pR 20 d 39 [a0, a1, a2, .ref o, a4] st h = pR 20 d 40 [a0, a1, a2, .ref o, a4] (.ref o :: st) h := pR_L rfl rfl
theorem rX1_rest_39n : pR 20 d 39 [a0, a1, a2, .null, a4] st h = pR 20 d 40 [a0, a1, a2, .null, a4] (.null :: st) h := pR_L rfl rfl
theorem rX1_rest_40 : pR 20 d 40 ls (.ref o :: st) h = if pis (pfl h 24 o 6) = true then pR 20 d 43 ls (pfl h 24 o 6 :: st) h else none := r_get rfl
theorem rX1_rest_43 : pR 20 d 43 ls st h = pR 20 d 44 ls (.int 1 :: st) h := pR_L rfl rfl
theorem rX1_rest_44 : pR 20 d 44 ls (.int y :: .int x :: st) h = pR 20 d 45 ls (.int (x - y) :: st) h := pR_L rfl rfl
theorem rX1_rest_45 : pR 20 d 45 [a0, a1, a2, a3, .ref o] st h = pR 20 d 47 [a0, a1, a2, a3, .ref o] (.ref o :: st) h := pR_L rfl rfl
theorem rX1_rest_45n : pR 20 d 45 [a0, a1, a2, a3, .null] st h = pR 20 d 47 [a0, a1, a2, a3, .null] (.null :: st) h := pR_L rfl rfl
theorem rX1_rest_47 : pR 20 (d + 1) 47 ls (b3 :: b2 :: b1 :: .ref o :: st) h = if (pok 24 (pcl h o) && pw st) = true then pK 20 (d + 1) 47 3 ls st (pCa 235 d [.ref o, b1, b2, b3] h) else none := r_callV rfl rfl rfl
theorem rX1_rest_50 : pR 20 d 50 ls (.int y :: .int x :: st) h = pR 20 d 51 ls (.int (x - y) :: st) h := pR_L rfl rfl
theorem rX1_rest_51 : pR 20 (d + 1) 51 ls (.int y :: .int x :: st) h = if pw st = true then pR 20 (d + 1) 54 ls (.int (if x < y then y else x) :: st) h else none := r_mx rfl
theorem rX1_rest_54 : pR 20 d 54 ls [.int x] h = some (.inl (some (.int x)), h) := pR_E rfl rfl
-- 21 BalloonStall hands (I)I
theorem eX1_hands : pCa 21 d [.ref o, .int x0] h = pR 21 d 0 [.ref o, .int x0] [] h := rfl
theorem rX1_hands_0 : pR 21 d 0 [.ref o, a1] st h = pR 21 d 1 [.ref o, a1] (.ref o :: st) h := pR_L rfl rfl
theorem rX1_hands_1 : pR 21 d 1 [a0, .int x] st h = pR 21 d 2 [a0, .int x] (.int x :: st) h := pR_L rfl rfl
theorem rX1_hands_2 : pR 21 (d + 1) 2 ls (b1 :: .ref o :: st) h = if (pok 1 (pcl h o) && pw st) = true then pK 21 (d + 1) 2 3 ls st (pCa 15 d [.ref o, b1] h) else none := r_callV rfl rfl rfl
theorem rX1_hands_5 : pR 21 d 5 ls (.int x :: st) h = if x = 0 then pR 21 d 20 ls st h else pR 21 d 8 ls st h := r_ieq rfl rfl
theorem rX1_hands_8 : pR 21 d 8 [.ref o, a1] st h = pR 21 d 9 [.ref o, a1] (.ref o :: st) h := pR_L rfl rfl
theorem rX1_hands_9 : pR 21 d 9 ls (.ref o :: st) h = if pis (pfl h 1 o 4) = true then pR 21 d 12 ls (pfl h 1 o 4 :: st) h else none := r_get rfl
theorem rX1_hands_12 : pR 21 d 12 [a0, .int x] st h = pR 21 d 13 [a0, .int x] (.int x :: st) h := pR_L rfl rfl
theorem rX1_hands_13 : pR 21 d 13 ls (.int x :: .ref o :: st) h = if pin x (plnQ h o) = true then pR 21 d 14 ls (va_rf (pctQ h o x.toNatClampNeg) :: st) h else none := pR_Lif rfl rfl
theorem rX1_hands_14 : pR 21 d 14 ls (.ref o :: st) h = if pis (pfl h 24 o 9) = true then pR 21 d 17 ls (pfl h 24 o 9 :: st) h else none := r_get rfl
theorem rX1_hands_17 : pR 21 d 17 ls st h = pR 21 d 21 ls st h := pR_L rfl rfl
theorem rX1_hands_20 : pR 21 d 20 ls st h = pR 21 d 21 ls (.int (-1) :: st) h := pR_L rfl rfl
theorem rX1_hands_21 : pR 21 d 21 ls [.int x] h = some (.inl (some (.int x)), h) := pR_E rfl rfl
-- 22 BalloonStall holds (II)I
theorem eX1_holds : pCa 22 d [.ref o, .int x0, .int x1] h = pR 22 d 0 [.ref o, .int x0, .int x1] [] h := rfl
theorem rX1_holds_0 : pR 22 d 0 [.ref o, a1, a2] st h = pR 22 d 1 [.ref o, a1, a2] (.ref o :: st) h := pR_L rfl rfl
theorem rX1_holds_1 : pR 22 d 1 [a0, .int x, a2] st h = pR 22 d 2 [a0, .int x, a2] (.int x :: st) h := pR_L rfl rfl
theorem rX1_holds_2 : pR 22 d 2 [a0, a1, .int x] st h = pR 22 d 3 [a0, a1, .int x] (.int x :: st) h := pR_L rfl rfl
theorem rX1_holds_3 : pR 22 (d + 1) 3 ls (b2 :: b1 :: .ref o :: st) h = if (pok 1 (pcl h o) && pw st) = true then pK 22 (d + 1) 3 3 ls st (pCa 23 d [.ref o, b1, b2] h) else none := r_callV rfl rfl rfl
theorem rX1_holds_6 : pR 22 d 6 ls (.int x :: st) h = if x = 0 then pR 22 d 43 ls st h else pR 22 d 9 ls st h := r_ieq rfl rfl
theorem rX1_holds_9 : pR 22 d 9 [.ref o, a1, a2] st h = pR 22 d 10 [.ref o, a1, a2] (.ref o :: st) h := pR_L rfl rfl
theorem rX1_holds_10 : pR 22 d 10 ls (.ref o :: st) h = if pis (pfl h 1 o 4) = true then pR 22 d 13 ls (pfl h 1 o 4 :: st) h else none := r_get rfl
theorem rX1_holds_13 : pR 22 d 13 [a0, .int x, a2] st h = pR 22 d 14 [a0, .int x, a2] (.int x :: st) h := pR_L rfl rfl
theorem rX1_holds_14 : pR 22 d 14 ls (.int x :: .ref o :: st) h = if pin x (plnQ h o) = true then pR 22 d 15 ls (va_rf (pctQ h o x.toNatClampNeg) :: st) h else none := pR_Lif rfl rfl
theorem rX1_holds_15 : pR 22 d 15 [a0, a1, .int x] st h = pR 22 d 16 [a0, a1, .int x] (.int x :: st) h := pR_L rfl rfl
theorem rX1_holds_16 : pR 22 (d + 1) 16 ls (b1 :: .ref o :: st) h = if (pok 24 (pcl h o) && pw st) = true then pK 22 (d + 1) 16 3 ls st (pCa 231 d [.ref o, b1] h) else none := r_callV rfl rfl rfl
theorem rX1_holds_19 : pR 22 d 19 ls (.int x :: st) h = if x = 0 then pR 22 d 43 ls st h else pR 22 d 22 ls st h := r_ieq rfl rfl
theorem rX1_holds_22 : pR 22 d 22 [.ref o, a1, a2] st h = pR 22 d 23 [.ref o, a1, a2] (.ref o :: st) h := pR_L rfl rfl
theorem rX1_holds_23 : pR 22 d 23 ls (.ref o :: st) h = if pis (pfl h 1 o 4) = true then pR 22 d 26 ls (pfl h 1 o 4 :: st) h else none := r_get rfl
theorem rX1_holds_26 : pR 22 d 26 [a0, .int x, a2] st h = pR 22 d 27 [a0, .int x, a2] (.int x :: st) h := pR_L rfl rfl
theorem rX1_holds_27 : pR 22 d 27 ls (.int x :: .ref o :: st) h = if pin x (plnQ h o) = true then pR 22 d 28 ls (va_rf (pctQ h o x.toNatClampNeg) :: st) h else none := pR_Lif rfl rfl
theorem rX1_holds_28 : pR 22 d 28 [a0, a1, .int x] st h = pR 22 d 29 [a0, a1, .int x] (.int x :: st) h := pR_L rfl rfl
theorem rX1_holds_29 : pR 22 (d + 1) 29 ls (b1 :: .ref o :: st) h = if (pok 24 (pcl h o) && pw st) = true then pK 22 (d + 1) 29 3 ls st (pCa 233 d [.ref o, b1] h) else none := r_callV rfl rfl rfl
theorem rX1_holds_32 : pR 22 d 32 ls (.int x :: st) h = if x = 0 then pR 22 d 39 ls st h else pR 22 d 35 ls st h := r_ieq rfl rfl
theorem rX1_holds_35 : pR 22 d 35 ls st h = pR 22 d 36 ls (.int 1 :: st) h := pR_L rfl rfl
theorem rX1_holds_36 : pR 22 d 36 ls st h = pR 22 d 44 ls st h := pR_L rfl rfl
theorem rX1_holds_39 : pR 22 d 39 ls st h = pR 22 d 40 ls (.int 0 :: st) h := pR_L rfl rfl
theorem rX1_holds_40 : pR 22 d 40 ls st h = pR 22 d 44 ls st h := pR_L rfl rfl
theorem rX1_holds_43 : pR 22 d 43 ls st h = pR 22 d 44 ls (.int (-1) :: st) h := pR_L rfl rfl
theorem rX1_holds_44 : pR 22 d 44 ls [.int x] h = some (.inl (some (.int x)), h) := pR_E rfl rfl
-- 23 BalloonStall isBubble (II)Z
theorem eX1_isBubble : pCa 23 d [.ref o, .int x0, .int x1] h = pR 23 d 0 [.ref o, .int x0, .int x1] [] h := rfl
theorem rX1_isBubble_0 : pR 23 d 0 [.ref o, a1, a2] st h = pR 23 d 1 [.ref o, a1, a2] (.ref o :: st) h := pR_L rfl rfl
theorem rX1_isBubble_1 : pR 23 d 1 [a0, .int x, a2] st h = pR 23 d 2 [a0, .int x, a2] (.int x :: st) h := pR_L rfl rfl
theorem rX1_isBubble_2 : pR 23 (d + 1) 2 ls (b1 :: .ref o :: st) h = if (pok 1 (pcl h o) && pw st) = true then pK 23 (d + 1) 2 3 ls st (pCa 15 d [.ref o, b1] h) else none := r_callV rfl rfl rfl
theorem rX1_isBubble_5 : pR 23 d 5 ls (.int x :: st) h = if x = 0 then pR 23 d 33 ls st h else pR 23 d 8 ls st h := r_ieq rfl rfl
theorem rX1_isBubble_8 : pR 23 d 8 [a0, a1, .int x] st h = pR 23 d 9 [a0, a1, .int x] (.int x :: st) h := pR_L rfl rfl
theorem rX1_isBubble_9 : pR 23 d 9 ls (.int x :: st) h = pR 23 d 10 ls (.long x.toInt64 :: st) h := pR_L rfl rfl
theorem rX1_isBubble_10 : pR 23 d 10 ls st h = pR 23 d 11 ls (.long 0 :: st) h := pR_L rfl rfl
theorem rX1_isBubble_11 : pR 23 d 11 [.ref o, a1, a2] st h = pR 23 d 12 [.ref o, a1, a2] (.ref o :: st) h := pR_L rfl rfl
theorem rX1_isBubble_12 : pR 23 d 12 ls (.ref o :: st) h = if pis (pfl h 1 o 4) = true then pR 23 d 15 ls (pfl h 1 o 4 :: st) h else none := r_get rfl
theorem rX1_isBubble_15 : pR 23 d 15 [a0, .int x, a2] st h = pR 23 d 16 [a0, .int x, a2] (.int x :: st) h := pR_L rfl rfl
theorem rX1_isBubble_16 : pR 23 d 16 ls (.int x :: .ref o :: st) h = if pin x (plnQ h o) = true then pR 23 d 17 ls (va_rf (pctQ h o x.toNatClampNeg) :: st) h else none := pR_Lif rfl rfl
theorem rX1_isBubble_17 : pR 23 d 17 ls (.ref o :: st) h = if pis (pfl h 24 o 6) = true then pR 23 d 20 ls (pfl h 24 o 6 :: st) h else none := r_get rfl
theorem rX1_isBubble_20 : pR 23 d 20 ls st h = pR 23 d 21 ls (.int 1 :: st) h := pR_L rfl rfl
theorem rX1_isBubble_21 : pR 23 d 21 ls (.int y :: .int x :: st) h = pR 23 d 22 ls (.int (x - y) :: st) h := pR_L rfl rfl
theorem rX1_isBubble_22 : pR 23 d 22 ls (.int x :: st) h = pR 23 d 23 ls (.long x.toInt64 :: st) h := pR_L rfl rfl
theorem rX1_isBubble_23 : pR 23 (d + 1) 23 ls (b2 :: b1 :: b0 :: st) h = if pw st = true then pK 23 (d + 1) 23 3 ls st (pCa 6 d [b0, b1, b2] h) else none := r_callS rfl rfl rfl
theorem rX1_isBubble_26 : pR 23 d 26 ls (.int x :: st) h = if x = 0 then pR 23 d 33 ls st h else pR 23 d 29 ls st h := r_ieq rfl rfl
theorem rX1_isBubble_29 : pR 23 d 29 ls st h = pR 23 d 30 ls (.int 1 :: st) h := pR_L rfl rfl
theorem rX1_isBubble_30 : pR 23 d 30 ls st h = pR 23 d 34 ls st h := pR_L rfl rfl
theorem rX1_isBubble_33 : pR 23 d 33 ls st h = pR 23 d 34 ls (.int 0 :: st) h := pR_L rfl rfl
theorem rX1_isBubble_340 : pR 23 d 34 ls [.int 0] h = some (.inl (some (.int 0)), h) := pR_E rfl rfl
theorem rX1_isBubble_341 : pR 23 d 34 ls [.int 1] h = some (.inl (some (.int 1)), h) := pR_E rfl rfl
-- 24 BalloonStall plain (I)I
theorem eX1_plain : pCa 24 d [.ref o, .int x0] h = pR 24 d 0 [.ref o, .int x0, pU, pU, pU, pU, pU, pU, pU] [] h := rfl
theorem rX1_plain_0 : pR 24 d 0 [.ref o, a1, a2, a3, a4, a5, a6, a7, a8] st h = pR 24 d 1 [.ref o, a1, a2, a3, a4, a5, a6, a7, a8] (.ref o :: st) h := pR_L rfl rfl
theorem rX1_plain_1 : pR 24 d 1 [a0, .int x, a2, a3, a4, a5, a6, a7, a8] st h = pR 24 d 2 [a0, .int x, a2, a3, a4, a5, a6, a7, a8] (.int x :: st) h := pR_L rfl rfl
theorem rX1_plain_2 : pR 24 (d + 1) 2 ls (b1 :: .ref o :: st) h = if (pok 1 (pcl h o) && pw st) = true then pK 24 (d + 1) 2 3 ls st (pCa 15 d [.ref o, b1] h) else none := r_callV rfl rfl rfl
theorem rX1_plain_5 : pR 24 d 5 ls (.int x :: st) h = if x = 0 then pR 24 d 17 ls st h else pR 24 d 8 ls st h := r_ieq rfl rfl
theorem rX1_plain_8 : pR 24 d 8 [.ref o, a1, a2, a3, a4, a5, a6, a7, a8] st h = pR 24 d 9 [.ref o, a1, a2, a3, a4, a5, a6, a7, a8] (.ref o :: st) h := pR_L rfl rfl
theorem rX1_plain_9 : pR 24 d 9 ls (.ref o :: st) h = if pis (pfl h 1 o 5) = true then pR 24 d 12 ls (pfl h 1 o 5 :: st) h else none := r_get rfl
theorem rX1_plain_12 : pR 24 d 12 ls st h = pR 24 d 14 ls (.int 12 :: st) h := pR_L rfl rfl
theorem rX1_plain_14 : pR 24 d 14 ls (.int y :: .int x :: st) h = if x = y then pR 24 d 17 ls st h else pR 24 d 19 ls st h := r_cne rfl rfl
theorem rX1_plain_17 : pR 24 d 17 ls st h = pR 24 d 18 ls (.int (-1) :: st) h := pR_L rfl rfl
theorem rX1_plain_18 : pR 24 d 18 ls [.int x] h = some (.inl (some (.int x)), h) := pR_E rfl rfl
theorem rX1_plain_19 : pR 24 d 19 [.ref o, a1, a2, a3, a4, a5, a6, a7, a8] st h = pR 24 d 20 [.ref o, a1, a2, a3, a4, a5, a6, a7, a8] (.ref o :: st) h := pR_L rfl rfl
theorem rX1_plain_20 : pR 24 d 20 ls (.ref o :: st) h = if pis (pfl h 1 o 4) = true then pR 24 d 23 ls (pfl h 1 o 4 :: st) h else none := r_get rfl
theorem rX1_plain_23 : pR 24 d 23 [a0, .int x, a2, a3, a4, a5, a6, a7, a8] st h = pR 24 d 24 [a0, .int x, a2, a3, a4, a5, a6, a7, a8] (.int x :: st) h := pR_L rfl rfl
theorem rX1_plain_24 : pR 24 d 24 ls (.int x :: .ref o :: st) h = if pin x (plnQ h o) = true then pR 24 d 25 ls (va_rf (pctQ h o x.toNatClampNeg) :: st) h else none := pR_Lif rfl rfl
theorem rX1_plain_25 : pR 24 d 25 [a0, a1, a2, a3, a4, a5, a6, a7, a8] (.ref o :: st) h = if p1 a2 = true then pR 24 d 26 [a0, a1, .ref o, a3, a4, a5, a6, a7, a8] st h else none := r_sto (n := 1) (k := 2) (v := .ref o) (ls := [a0, a1, a2, a3, a4, a5, a6, a7, a8]) rfl rfl rfl
theorem rX1_plain_25n : pR 24 d 25 [a0, a1, a2, a3, a4, a5, a6, a7, a8] (.null :: st) h = if p1 a2 = true then pR 24 d 26 [a0, a1, .null, a3, a4, a5, a6, a7, a8] st h else none := r_sto (n := 1) (k := 2) (v := .null) (ls := [a0, a1, a2, a3, a4, a5, a6, a7, a8]) rfl rfl rfl
theorem rX1_plain_26 : pR 24 d 26 ls st h = pR 24 d 27 ls (.int 0 :: st) h := pR_L rfl rfl
theorem rX1_plain_27 : pR 24 d 27 [a0, a1, a2, a3, a4, a5, a6, a7, a8] (.int x :: st) h = if p1 a3 = true then pR 24 d 28 [a0, a1, a2, .int x, a4, a5, a6, a7, a8] st h else none := r_sto (n := 1) (k := 3) (v := .int x) (ls := [a0, a1, a2, a3, a4, a5, a6, a7, a8]) rfl rfl rfl
theorem rX1_plain_28 : pR 24 d 28 ls st h = pR 24 d 29 ls (.int 0 :: st) h := pR_L rfl rfl
theorem rX1_plain_29 : pR 24 d 29 [a0, a1, a2, a3, a4, a5, a6, a7, a8] (.int x :: st) h = if p1 a4 = true then pR 24 d 31 [a0, a1, a2, a3, .int x, a5, a6, a7, a8] st h else none := r_sto (n := 2) (k := 4) (v := .int x) (ls := [a0, a1, a2, a3, a4, a5, a6, a7, a8]) rfl rfl rfl
theorem rX1_plain_31 : pR 24 d 31 [a0, a1, a2, a3, .int x, a5, a6, a7, a8] st h = pR 24 d 33 [a0, a1, a2, a3, .int x, a5, a6, a7, a8] (.int x :: st) h := pR_L rfl rfl
theorem rX1_plain_33 : pR 24 d 33 [a0, a1, .ref o, a3, a4, a5, a6, a7, a8] st h = pR 24 d 34 [a0, a1, .ref o, a3, a4, a5, a6, a7, a8] (.ref o :: st) h := pR_L rfl rfl
theorem rX1_plain_33n : pR 24 d 33 [a0, a1, .null, a3, a4, a5, a6, a7, a8] st h = pR 24 d 34 [a0, a1, .null, a3, a4, a5, a6, a7, a8] (.null :: st) h := pR_L rfl rfl
theorem rX1_plain_34 : pR 24 d 34 ls (.ref o :: st) h = if pis (pfl h 24 o 6) = true then pR 24 d 37 ls (pfl h 24 o 6 :: st) h else none := r_get rfl
theorem rX1_plain_37 : pR 24 d 37 ls (.int y :: .int x :: st) h = if x < y then pR 24 d 40 ls st h else pR 24 d 76 ls st h := r_cge rfl rfl
theorem rX1_plain_40 : pR 24 d 40 [a0, a1, .ref o, a3, a4, a5, a6, a7, a8] st h = pR 24 d 41 [a0, a1, .ref o, a3, a4, a5, a6, a7, a8] (.ref o :: st) h := pR_L rfl rfl
theorem rX1_plain_40n : pR 24 d 40 [a0, a1, .null, a3, a4, a5, a6, a7, a8] st h = pR 24 d 41 [a0, a1, .null, a3, a4, a5, a6, a7, a8] (.null :: st) h := pR_L rfl rfl
theorem rX1_plain_41 : pR 24 d 41 [a0, a1, a2, a3, .int x, a5, a6, a7, a8] st h = pR 24 d 43 [a0, a1, a2, a3, .int x, a5, a6, a7, a8] (.int x :: st) h := pR_L rfl rfl
theorem rX1_plain_43 : pR 24 (d + 1) 43 ls (b1 :: .ref o :: st) h = if (pok 24 (pcl h o) && pw st) = true then pK 24 (d + 1) 43 3 ls st (pCa 231 d [.ref o, b1] h) else none := r_callV rfl rfl rfl
theorem rX1_plain_46 : pR 24 d 46 ls (.int x :: st) h = if x = 0 then pR 24 d 70 ls st h else pR 24 d 49 ls st h := r_ieq rfl rfl
theorem rX1_plain_49 : pR 24 d 49 [a0, a1, .ref o, a3, a4, a5, a6, a7, a8] st h = pR 24 d 50 [a0, a1, .ref o, a3, a4, a5, a6, a7, a8] (.ref o :: st) h := pR_L rfl rfl
theorem rX1_plain_49n : pR 24 d 49 [a0, a1, .null, a3, a4, a5, a6, a7, a8] st h = pR 24 d 50 [a0, a1, .null, a3, a4, a5, a6, a7, a8] (.null :: st) h := pR_L rfl rfl
theorem rX1_plain_50 : pR 24 d 50 [a0, a1, a2, a3, .int x, a5, a6, a7, a8] st h = pR 24 d 52 [a0, a1, a2, a3, .int x, a5, a6, a7, a8] (.int x :: st) h := pR_L rfl rfl
theorem rX1_plain_52 : pR 24 (d + 1) 52 ls (b1 :: .ref o :: st) h = if (pok 24 (pcl h o) && pw st) = true then pK 24 (d + 1) 52 3 ls st (pCa 233 d [.ref o, b1] h) else none := r_callV rfl rfl rfl
theorem rX1_plain_55 : pR 24 d 55 ls (.int x :: st) h = if x = 0 then pR 24 d 58 ls st h else pR 24 d 70 ls st h := r_ine rfl rfl
theorem rX1_plain_58 : pR 24 d 58 [a0, a1, a2, .int x, a4, a5, a6, a7, a8] st h = pR 24 d 59 [a0, a1, a2, .int x, a4, a5, a6, a7, a8] (.int x :: st) h := pR_L rfl rfl
theorem rX1_plain_59 : pR 24 d 59 ls st h = pR 24 d 60 ls (.int 1 :: st) h := pR_L rfl rfl
theorem rX1_plain_60 : pR 24 d 60 [a0, a1, .ref o, a3, a4, a5, a6, a7, a8] st h = pR 24 d 61 [a0, a1, .ref o, a3, a4, a5, a6, a7, a8] (.ref o :: st) h := pR_L rfl rfl
theorem rX1_plain_60n : pR 24 d 60 [a0, a1, .null, a3, a4, a5, a6, a7, a8] st h = pR 24 d 61 [a0, a1, .null, a3, a4, a5, a6, a7, a8] (.null :: st) h := pR_L rfl rfl
theorem rX1_plain_61 : pR 24 d 61 ls (.ref o :: st) h = if pis (pfl h 24 o 1) = true then pR 24 d 64 ls (pfl h 24 o 1 :: st) h else none := r_get rfl
theorem rX1_plain_64 : pR 24 d 64 [a0, a1, a2, a3, .int x, a5, a6, a7, a8] st h = pR 24 d 66 [a0, a1, a2, a3, .int x, a5, a6, a7, a8] (.int x :: st) h := pR_L rfl rfl
theorem rX1_plain_66 : pR 24 d 66 ls (.int x :: .ref o :: st) h = if (pin x (pln h 0 o) || pin x (pln h 9 o)) = true then pR 24 d 67 ls (.int (pct h o x.toNatClampNeg) :: st) h else none := pR_Lif rfl rfl
theorem rX1_plain_67 : pR 24 d 67 ls (.int y :: .int x :: st) h = pR 24 d 68 ls (.int (x <<< (y &&& 31)) :: st) h := pR_L rfl rfl
theorem rX1_plain_68 : pR 24 d 68 ls (.int y :: .int x :: st) h = pR 24 d 69 ls (.int (x ||| y) :: st) h := pR_L rfl rfl
theorem rX1_plain_69 : pR 24 d 69 [a0, a1, a2, a3, a4, a5, a6, a7, a8] (.int x :: st) h = if p1 a3 = true then pR 24 d 70 [a0, a1, a2, .int x, a4, a5, a6, a7, a8] st h else none := r_sto (n := 1) (k := 3) (v := .int x) (ls := [a0, a1, a2, a3, a4, a5, a6, a7, a8]) rfl rfl rfl
theorem rX1_plain_70 : pR 24 d 70 [a0, a1, a2, a3, .int x, a5, a6, a7, a8] st h = pR 24 d 73 [a0, a1, a2, a3, .int (x + 1), a5, a6, a7, a8] st h := pR_L rfl rfl
theorem rX1_plain_73 : pR 24 d 73 ls st h = pR 24 d 31 ls st h := pR_L rfl rfl
theorem rX1_plain_76 : pR 24 d 76 ls st h = pR 24 d 79 ls (.ref h.2.1 :: st) (pnw h (.inr (23, [.null, .null, .null, .null, .null, .null, .null, .int 0, .int 0, .int 0, .int 0, .int 0])) 12) := pR_X rfl rfl
theorem rX1_plain_79 : pR 24 d 79 ls (.ref o :: st) h = pR 24 d 80 ls (.ref o :: .ref o :: st) h := pR_L rfl rfl
theorem rX1_plain_79i : pR 24 d 79 ls (.int x :: st) h = pR 24 d 80 ls (.int x :: .int x :: st) h := pR_L rfl rfl
theorem rX1_plain_80 : pR 24 (d + 1) 80 ls (.ref o :: st) h = if (pok 23 (pcl h o) && pw st) = true then pK 24 (d + 1) 80 3 ls st (pCa 219 d [.ref o] h) else none := r_callV rfl rfl rfl
theorem rX1_plain_83 : pR 24 d 83 [a0, a1, a2, a3, a4, a5, a6, a7, a8] (.ref o :: st) h = if p1 a4 = true then pR 24 d 85 [a0, a1, a2, a3, .ref o, a5, a6, a7, a8] st h else none := r_sto (n := 2) (k := 4) (v := .ref o) (ls := [a0, a1, a2, a3, a4, a5, a6, a7, a8]) rfl rfl rfl
theorem rX1_plain_83n : pR 24 d 83 [a0, a1, a2, a3, a4, a5, a6, a7, a8] (.null :: st) h = if p1 a4 = true then pR 24 d 85 [a0, a1, a2, a3, .null, a5, a6, a7, a8] st h else none := r_sto (n := 2) (k := 4) (v := .null) (ls := [a0, a1, a2, a3, a4, a5, a6, a7, a8]) rfl rfl rfl
theorem rX1_plain_85 : pR 24 d 85 ls st h = pR 24 d 87 ls (.int 32 :: st) h := pR_L rfl rfl
theorem rX1_plain_87 : pR 24 d 87 ls (.int 32 :: st) h = pR 24 d 89 ls (.ref h.2.1 :: st) (pnw h (.inl (0, 32, .inl fun _ => 0)) 32) := pR_X rfl rfl
theorem rX1_plain_89 : pR 24 d 89 [a0, a1, a2, a3, a4, a5, a6, a7, a8] (.ref o :: st) h = if p1 a5 = true then pR 24 d 91 [a0, a1, a2, a3, a4, .ref o, a6, a7, a8] st h else none := r_sto (n := 2) (k := 5) (v := .ref o) (ls := [a0, a1, a2, a3, a4, a5, a6, a7, a8]) rfl rfl rfl
theorem rX1_plain_89n : pR 24 d 89 [a0, a1, a2, a3, a4, a5, a6, a7, a8] (.null :: st) h = if p1 a5 = true then pR 24 d 91 [a0, a1, a2, a3, a4, .null, a6, a7, a8] st h else none := r_sto (n := 2) (k := 5) (v := .null) (ls := [a0, a1, a2, a3, a4, a5, a6, a7, a8]) rfl rfl rfl
theorem rX1_plain_91 : pR 24 d 91 ls st h = pR 24 d 92 ls (.int 0 :: st) h := pR_L rfl rfl
theorem rX1_plain_92 : pR 24 d 92 [a0, a1, a2, a3, a4, a5, a6, a7, a8] (.int x :: st) h = if p1 a6 = true then pR 24 d 94 [a0, a1, a2, a3, a4, a5, .int x, a7, a8] st h else none := r_sto (n := 2) (k := 6) (v := .int x) (ls := [a0, a1, a2, a3, a4, a5, a6, a7, a8]) rfl rfl rfl
theorem rX1_plain_94 : pR 24 d 94 [a0, a1, a2, a3, a4, a5, .int x, a7, a8] st h = pR 24 d 96 [a0, a1, a2, a3, a4, a5, .int x, a7, a8] (.int x :: st) h := pR_L rfl rfl
theorem rX1_plain_96 : pR 24 d 96 [a0, a1, .ref o, a3, a4, a5, a6, a7, a8] st h = pR 24 d 97 [a0, a1, .ref o, a3, a4, a5, a6, a7, a8] (.ref o :: st) h := pR_L rfl rfl
theorem rX1_plain_96n : pR 24 d 96 [a0, a1, .null, a3, a4, a5, a6, a7, a8] st h = pR 24 d 97 [a0, a1, .null, a3, a4, a5, a6, a7, a8] (.null :: st) h := pR_L rfl rfl
theorem rX1_plain_97 : pR 24 d 97 ls (.ref o :: st) h = if pis (pfl h 24 o 8) = true then pR 24 d 100 ls (pfl h 24 o 8 :: st) h else none := r_get rfl
theorem rX1_plain_100 : pR 24 d 100 ls (.int y :: .int x :: st) h = if x < y then pR 24 d 103 ls st h else pR 24 d 128 ls st h := r_cge rfl rfl
theorem rX1_plain_103 : pR 24 d 103 [a0, a1, a2, .int x, a4, a5, a6, a7, a8] st h = pR 24 d 104 [a0, a1, a2, .int x, a4, a5, a6, a7, a8] (.int x :: st) h := pR_L rfl rfl
theorem rX1_plain_104 : pR 24 d 104 [a0, a1, a2, a3, a4, a5, .int x, a7, a8] st h = pR 24 d 106 [a0, a1, a2, a3, a4, a5, .int x, a7, a8] (.int x :: st) h := pR_L rfl rfl
theorem rX1_plain_106 : pR 24 d 106 ls (.int y :: .int x :: st) h = pR 24 d 107 ls (.int (x >>> (y &&& 31)) :: st) h := pR_L rfl rfl
theorem rX1_plain_107 : pR 24 d 107 ls st h = pR 24 d 108 ls (.int 1 :: st) h := pR_L rfl rfl
theorem rX1_plain_108 : pR 24 d 108 ls (.int y :: .int x :: st) h = pR 24 d 109 ls (.int (x &&& y) :: st) h := pR_L rfl rfl
theorem rX1_plain_109 : pR 24 d 109 ls (.int x :: st) h = if x = 0 then pR 24 d 112 ls st h else pR 24 d 122 ls st h := r_ine rfl rfl
theorem rX1_plain_112 : pR 24 d 112 [a0, a1, a2, a3, a4, .ref o, a6, a7, a8] st h = pR 24 d 114 [a0, a1, a2, a3, a4, .ref o, a6, a7, a8] (.ref o :: st) h := pR_L rfl rfl
theorem rX1_plain_112n : pR 24 d 112 [a0, a1, a2, a3, a4, .null, a6, a7, a8] st h = pR 24 d 114 [a0, a1, a2, a3, a4, .null, a6, a7, a8] (.null :: st) h := pR_L rfl rfl
theorem rX1_plain_114 : pR 24 d 114 [a0, a1, a2, a3, a4, a5, .int x, a7, a8] st h = pR 24 d 116 [a0, a1, a2, a3, a4, a5, .int x, a7, a8] (.int x :: st) h := pR_L rfl rfl
theorem rX1_plain_116 : pR 24 d 116 [a0, a1, a2, a3, .ref o, a5, a6, a7, a8] st h = pR 24 d 118 [a0, a1, a2, a3, .ref o, a5, a6, a7, a8] (.ref o :: st) h := pR_L rfl rfl
theorem rX1_plain_116n : pR 24 d 116 [a0, a1, a2, a3, .null, a5, a6, a7, a8] st h = pR 24 d 118 [a0, a1, a2, a3, .null, a5, a6, a7, a8] (.null :: st) h := pR_L rfl rfl
theorem rX1_plain_118 : pR 24 (d + 1) 118 ls (.ref o :: st) h = if (pok 23 (pcl h o) && pw st) = true then pK 24 (d + 1) 118 3 ls st (pCa 221 d [.ref o] h) else none := r_callV rfl rfl rfl
theorem rX1_plain_121 : pR 24 d 121 ls (.int y :: .int x :: .ref o :: st) h = if pin x (pln h 0 o) = true then pR 24 d 122 ls st (pst h o x.toNatClampNeg y) else none := pR_Lif rfl rfl
theorem rX1_plain_122 : pR 24 d 122 [a0, a1, a2, a3, a4, a5, .int x, a7, a8] st h = pR 24 d 125 [a0, a1, a2, a3, a4, a5, .int (x + 1), a7, a8] st h := pR_L rfl rfl
theorem rX1_plain_125 : pR 24 d 125 ls st h = pR 24 d 94 ls st h := pR_L rfl rfl
theorem rX1_plain_128 : pR 24 d 128 [a0, a1, .ref o, a3, a4, a5, a6, a7, a8] st h = pR 24 d 129 [a0, a1, .ref o, a3, a4, a5, a6, a7, a8] (.ref o :: st) h := pR_L rfl rfl
theorem rX1_plain_128n : pR 24 d 128 [a0, a1, .null, a3, a4, a5, a6, a7, a8] st h = pR 24 d 129 [a0, a1, .null, a3, a4, a5, a6, a7, a8] (.null :: st) h := pR_L rfl rfl
theorem rX1_plain_129 : pR 24 d 129 ls (.ref o :: st) h = if pis (pfl h 24 o 4) = true then pR 24 d 132 ls (pfl h 24 o 4 :: st) h else none := r_get rfl
theorem rX1_plain_132 : pR 24 d 132 ls st h = pR 24 d 133 ls (.int 0 :: st) h := pR_L rfl rfl
theorem rX1_plain_133 : pR 24 d 133 [a0, a1, a2, a3, .ref o, a5, a6, a7, a8] st h = pR 24 d 135 [a0, a1, a2, a3, .ref o, a5, a6, a7, a8] (.ref o :: st) h := pR_L rfl rfl
theorem rX1_plain_133n : pR 24 d 133 [a0, a1, a2, a3, .null, a5, a6, a7, a8] st h = pR 24 d 135 [a0, a1, a2, a3, .null, a5, a6, a7, a8] (.null :: st) h := pR_L rfl rfl
theorem rX1_plain_135 : pR 24 d 135 ls (.ref o :: st) h = if pis (pfl h 23 o 6) = true then pR 24 d 138 ls (pfl h 23 o 6 :: st) h else none := r_get rfl
theorem rX1_plain_138 : pR 24 d 138 ls st h = pR 24 d 139 ls (.int 0 :: st) h := pR_L rfl rfl
theorem rX1_plain_139 : pR 24 d 139 [a0, a1, .ref o, a3, a4, a5, a6, a7, a8] st h = pR 24 d 140 [a0, a1, .ref o, a3, a4, a5, a6, a7, a8] (.ref o :: st) h := pR_L rfl rfl
theorem rX1_plain_139n : pR 24 d 139 [a0, a1, .null, a3, a4, a5, a6, a7, a8] st h = pR 24 d 140 [a0, a1, .null, a3, a4, a5, a6, a7, a8] (.null :: st) h := pR_L rfl rfl
theorem rX1_plain_140 : pR 24 d 140 ls (.ref o :: st) h = if pis (pfl h 24 o 7) = true then pR 24 d 143 ls (pfl h 24 o 7 :: st) h else none := r_get rfl
theorem rX1_plain_143 : pR 24 (d + 1) 143 ls (.int x3 :: .int y :: .ref o2 :: .int x :: .ref o :: st) h = if (decide (0 < pln h 0 o) && decide (0 < pln h 0 o2) && decide (0 ≤ x) && decide (0 ≤ y) && decide (0 ≤ x3) && decide (x.toNatClampNeg + x3.toNatClampNeg ≤ pln h 0 o) && decide (y.toNatClampNeg + x3.toNatClampNeg ≤ pln h 0 o2) && !(o == o2) && pw st) = true then pR 24 (d + 1) 146 ls st (pcp h o x.toNatClampNeg o2 y.toNatClampNeg x3.toNatClampNeg) else none := r_cpy rfl
theorem rX1_plain_146 : pR 24 d 146 [a0, a1, a2, a3, .ref o, a5, a6, a7, a8] st h = pR 24 d 148 [a0, a1, a2, a3, .ref o, a5, a6, a7, a8] (.ref o :: st) h := pR_L rfl rfl
theorem rX1_plain_146n : pR 24 d 146 [a0, a1, a2, a3, .null, a5, a6, a7, a8] st h = pR 24 d 148 [a0, a1, a2, a3, .null, a5, a6, a7, a8] (.null :: st) h := pR_L rfl rfl
theorem rX1_plain_148 : pR 24 d 148 [a0, a1, .ref o, a3, a4, a5, a6, a7, a8] st h = pR 24 d 149 [a0, a1, .ref o, a3, a4, a5, a6, a7, a8] (.ref o :: st) h := pR_L rfl rfl
theorem rX1_plain_148n : pR 24 d 148 [a0, a1, .null, a3, a4, a5, a6, a7, a8] st h = pR 24 d 149 [a0, a1, .null, a3, a4, a5, a6, a7, a8] (.null :: st) h := pR_L rfl rfl
theorem rX1_plain_149 : pR 24 d 149 ls (.ref o :: st) h = if pis (pfl h 24 o 7) = true then pR 24 d 152 ls (pfl h 24 o 7 :: st) h else none := r_get rfl
theorem rX1_plain_152 : pR 24 d 152 ls (.int x :: .ref o :: st) h = if pis (pfl h 23 o 10) = true then pR 24 d 155 ls st (psf h o 10 (.int x)) else none := r_put rfl rfl
theorem rX1_plain_155 : pR 24 d 155 ls st h = pR 24 d 156 ls (.int 0 :: st) h := pR_L rfl rfl
theorem rX1_plain_156 : pR 24 d 156 [a0, a1, a2, a3, a4, a5, a6, a7, a8] (.int x :: st) h = if p1 a6 = true then pR 24 d 158 [a0, a1, a2, a3, a4, a5, .int x, a7, a8] st h else none := r_sto (n := 2) (k := 6) (v := .int x) (ls := [a0, a1, a2, a3, a4, a5, a6, a7, a8]) rfl rfl rfl
theorem rX1_plain_158 : pR 24 d 158 ls st h = pR 24 d 159 ls (.int 0 :: st) h := pR_L rfl rfl
theorem rX1_plain_159 : pR 24 d 159 [a0, a1, a2, a3, a4, a5, a6, a7, a8] (.int x :: st) h = if p1 a7 = true then pR 24 d 161 [a0, a1, a2, a3, a4, a5, a6, .int x, a8] st h else none := r_sto (n := 2) (k := 7) (v := .int x) (ls := [a0, a1, a2, a3, a4, a5, a6, a7, a8]) rfl rfl rfl
theorem rX1_plain_161 : pR 24 d 161 ls st h = pR 24 d 162 ls (.int 0 :: st) h := pR_L rfl rfl
theorem rX1_plain_162 : pR 24 d 162 [a0, a1, a2, a3, a4, a5, a6, a7, a8] (.int x :: st) h = if p1 a8 = true then pR 24 d 164 [a0, a1, a2, a3, a4, a5, a6, a7, .int x] st h else none := r_sto (n := 2) (k := 8) (v := .int x) (ls := [a0, a1, a2, a3, a4, a5, a6, a7, a8]) rfl rfl rfl
theorem rX1_plain_164 : pR 24 d 164 [a0, a1, a2, a3, a4, a5, a6, a7, .int x] st h = pR 24 d 166 [a0, a1, a2, a3, a4, a5, a6, a7, .int x] (.int x :: st) h := pR_L rfl rfl
theorem rX1_plain_166 : pR 24 d 166 [a0, a1, .ref o, a3, a4, a5, a6, a7, a8] st h = pR 24 d 167 [a0, a1, .ref o, a3, a4, a5, a6, a7, a8] (.ref o :: st) h := pR_L rfl rfl
theorem rX1_plain_166n : pR 24 d 166 [a0, a1, .null, a3, a4, a5, a6, a7, a8] st h = pR 24 d 167 [a0, a1, .null, a3, a4, a5, a6, a7, a8] (.null :: st) h := pR_L rfl rfl
theorem rX1_plain_167 : pR 24 d 167 ls (.ref o :: st) h = if pis (pfl h 24 o 6) = true then pR 24 d 170 ls (pfl h 24 o 6 :: st) h else none := r_get rfl
theorem rX1_plain_170 : pR 24 d 170 ls (.int y :: .int x :: st) h = if x < y then pR 24 d 173 ls st h else pR 24 d 255 ls st h := r_cge rfl rfl
theorem rX1_plain_173 : pR 24 d 173 [a0, a1, a2, a3, a4, a5, a6, .int x, a8] st h = pR 24 d 175 [a0, a1, a2, a3, a4, a5, a6, .int x, a8] (.int x :: st) h := pR_L rfl rfl
theorem rX1_plain_175 : pR 24 d 175 [a0, a1, .ref o, a3, a4, a5, a6, a7, a8] st h = pR 24 d 176 [a0, a1, .ref o, a3, a4, a5, a6, a7, a8] (.ref o :: st) h := pR_L rfl rfl
theorem rX1_plain_175n : pR 24 d 175 [a0, a1, .null, a3, a4, a5, a6, a7, a8] st h = pR 24 d 176 [a0, a1, .null, a3, a4, a5, a6, a7, a8] (.null :: st) h := pR_L rfl rfl
theorem rX1_plain_176 : pR 24 d 176 ls (.ref o :: st) h = if pis (pfl h 24 o 2) = true then pR 24 d 179 ls (pfl h 24 o 2 :: st) h else none := r_get rfl
theorem rX1_plain_179 : pR 24 d 179 [a0, a1, a2, a3, a4, a5, a6, a7, .int x] st h = pR 24 d 181 [a0, a1, a2, a3, a4, a5, a6, a7, .int x] (.int x :: st) h := pR_L rfl rfl
theorem rX1_plain_181 : pR 24 d 181 ls (.int x :: .ref o :: st) h = if (pin x (pln h 0 o) || pin x (pln h 9 o)) = true then pR 24 d 182 ls (.int (pct h o x.toNatClampNeg) :: st) h else none := pR_Lif rfl rfl
theorem rX1_plain_182 : pR 24 d 182 ls (.int y :: .int x :: st) h = pR 24 d 183 ls (.int (x + y) :: st) h := pR_L rfl rfl
theorem rX1_plain_183 : pR 24 d 183 [a0, a1, a2, a3, a4, a5, a6, a7, a8] (.int x :: st) h = if p1 a7 = true then pR 24 d 185 [a0, a1, a2, a3, a4, a5, a6, .int x, a8] st h else none := r_sto (n := 2) (k := 7) (v := .int x) (ls := [a0, a1, a2, a3, a4, a5, a6, a7, a8]) rfl rfl rfl
theorem rX1_plain_185 : pR 24 d 185 [a0, a1, .ref o, a3, a4, a5, a6, a7, a8] st h = pR 24 d 186 [a0, a1, .ref o, a3, a4, a5, a6, a7, a8] (.ref o :: st) h := pR_L rfl rfl
theorem rX1_plain_185n : pR 24 d 185 [a0, a1, .null, a3, a4, a5, a6, a7, a8] st h = pR 24 d 186 [a0, a1, .null, a3, a4, a5, a6, a7, a8] (.null :: st) h := pR_L rfl rfl
theorem rX1_plain_186 : pR 24 d 186 [a0, a1, a2, a3, a4, a5, a6, a7, .int x] st h = pR 24 d 188 [a0, a1, a2, a3, a4, a5, a6, a7, .int x] (.int x :: st) h := pR_L rfl rfl
theorem rX1_plain_188 : pR 24 (d + 1) 188 ls (b1 :: .ref o :: st) h = if (pok 24 (pcl h o) && pw st) = true then pK 24 (d + 1) 188 3 ls st (pCa 231 d [.ref o, b1] h) else none := r_callV rfl rfl rfl
theorem rX1_plain_191 : pR 24 d 191 ls (.int x :: st) h = if x = 0 then pR 24 d 206 ls st h else pR 24 d 194 ls st h := r_ieq rfl rfl
theorem rX1_plain_194 : pR 24 d 194 [a0, a1, .ref o, a3, a4, a5, a6, a7, a8] st h = pR 24 d 195 [a0, a1, .ref o, a3, a4, a5, a6, a7, a8] (.ref o :: st) h := pR_L rfl rfl
theorem rX1_plain_194n : pR 24 d 194 [a0, a1, .null, a3, a4, a5, a6, a7, a8] st h = pR 24 d 195 [a0, a1, .null, a3, a4, a5, a6, a7, a8] (.null :: st) h := pR_L rfl rfl
theorem rX1_plain_195 : pR 24 d 195 [a0, a1, a2, a3, a4, a5, a6, a7, .int x] st h = pR 24 d 197 [a0, a1, a2, a3, a4, a5, a6, a7, .int x] (.int x :: st) h := pR_L rfl rfl
theorem rX1_plain_197 : pR 24 (d + 1) 197 ls (b1 :: .ref o :: st) h = if (pok 24 (pcl h o) && pw st) = true then pK 24 (d + 1) 197 3 ls st (pCa 233 d [.ref o, b1] h) else none := r_callV rfl rfl rfl
theorem rX1_plain_200 : pR 24 d 200 ls (.int x :: st) h = if x = 0 then pR 24 d 203 ls st h else pR 24 d 206 ls st h := r_ine rfl rfl
theorem rX1_plain_203 : pR 24 d 203 ls st h = pR 24 d 249 ls st h := pR_L rfl rfl
theorem rX1_plain_206 : pR 24 d 206 [a0, a1, a2, a3, .ref o, a5, a6, a7, a8] st h = pR 24 d 208 [a0, a1, a2, a3, .ref o, a5, a6, a7, a8] (.ref o :: st) h := pR_L rfl rfl
theorem rX1_plain_206n : pR 24 d 206 [a0, a1, a2, a3, .null, a5, a6, a7, a8] st h = pR 24 d 208 [a0, a1, a2, a3, .null, a5, a6, a7, a8] (.null :: st) h := pR_L rfl rfl
theorem rX1_plain_208 : pR 24 d 208 [a0, a1, a2, a3, a4, a5, a6, .int x, a8] st h = pR 24 d 210 [a0, a1, a2, a3, a4, a5, a6, .int x, a8] (.int x :: st) h := pR_L rfl rfl
theorem rX1_plain_210 : pR 24 d 210 [a0, a1, a2, a3, a4, .ref o, a6, a7, a8] st h = pR 24 d 212 [a0, a1, a2, a3, a4, .ref o, a6, a7, a8] (.ref o :: st) h := pR_L rfl rfl
theorem rX1_plain_210n : pR 24 d 210 [a0, a1, a2, a3, a4, .null, a6, a7, a8] st h = pR 24 d 212 [a0, a1, a2, a3, a4, .null, a6, a7, a8] (.null :: st) h := pR_L rfl rfl
theorem rX1_plain_212 : pR 24 d 212 [a0, a1, .ref o, a3, a4, a5, a6, a7, a8] st h = pR 24 d 213 [a0, a1, .ref o, a3, a4, a5, a6, a7, a8] (.ref o :: st) h := pR_L rfl rfl
theorem rX1_plain_212n : pR 24 d 212 [a0, a1, .null, a3, a4, a5, a6, a7, a8] st h = pR 24 d 213 [a0, a1, .null, a3, a4, a5, a6, a7, a8] (.null :: st) h := pR_L rfl rfl
theorem rX1_plain_213 : pR 24 d 213 ls (.ref o :: st) h = if pis (pfl h 24 o 0) = true then pR 24 d 216 ls (pfl h 24 o 0 :: st) h else none := r_get rfl
theorem rX1_plain_216 : pR 24 d 216 [a0, a1, a2, a3, a4, a5, .int x, a7, a8] st h = pR 24 d 218 [a0, a1, a2, a3, a4, a5, .int x, a7, a8] (.int x :: st) h := pR_L rfl rfl
theorem rX1_plain_218 : pR 24 d 218 ls (.int x :: .ref o :: st) h = if (pin x (pln h 0 o) || pin x (pln h 9 o)) = true then pR 24 d 219 ls (.int (pct h o x.toNatClampNeg) :: st) h else none := pR_Lif rfl rfl
theorem rX1_plain_219 : pR 24 d 219 ls (.int x :: .ref o :: st) h = if (pin x (pln h 0 o) || pin x (pln h 9 o)) = true then pR 24 d 220 ls (.int (pct h o x.toNatClampNeg) :: st) h else none := pR_Lif rfl rfl
theorem rX1_plain_220 : pR 24 d 220 [a0, a1, a2, a3, a4, .ref o, a6, a7, a8] st h = pR 24 d 222 [a0, a1, a2, a3, a4, .ref o, a6, a7, a8] (.ref o :: st) h := pR_L rfl rfl
theorem rX1_plain_220n : pR 24 d 220 [a0, a1, a2, a3, a4, .null, a6, a7, a8] st h = pR 24 d 222 [a0, a1, a2, a3, a4, .null, a6, a7, a8] (.null :: st) h := pR_L rfl rfl
theorem rX1_plain_222 : pR 24 d 222 [a0, a1, .ref o, a3, a4, a5, a6, a7, a8] st h = pR 24 d 223 [a0, a1, .ref o, a3, a4, a5, a6, a7, a8] (.ref o :: st) h := pR_L rfl rfl
theorem rX1_plain_222n : pR 24 d 222 [a0, a1, .null, a3, a4, a5, a6, a7, a8] st h = pR 24 d 223 [a0, a1, .null, a3, a4, a5, a6, a7, a8] (.null :: st) h := pR_L rfl rfl
theorem rX1_plain_223 : pR 24 d 223 ls (.ref o :: st) h = if pis (pfl h 24 o 1) = true then pR 24 d 226 ls (pfl h 24 o 1 :: st) h else none := r_get rfl
theorem rX1_plain_226 : pR 24 d 226 [a0, a1, a2, a3, a4, a5, a6, a7, .int x] st h = pR 24 d 228 [a0, a1, a2, a3, a4, a5, a6, a7, .int x] (.int x :: st) h := pR_L rfl rfl
theorem rX1_plain_228 : pR 24 d 228 ls (.int x :: .ref o :: st) h = if (pin x (pln h 0 o) || pin x (pln h 9 o)) = true then pR 24 d 229 ls (.int (pct h o x.toNatClampNeg) :: st) h else none := pR_Lif rfl rfl
theorem rX1_plain_229 : pR 24 d 229 ls (.int x :: .ref o :: st) h = if (pin x (pln h 0 o) || pin x (pln h 9 o)) = true then pR 24 d 230 ls (.int (pct h o x.toNatClampNeg) :: st) h else none := pR_Lif rfl rfl
theorem rX1_plain_230 : pR 24 d 230 [a0, a1, .ref o, a3, a4, a5, a6, a7, a8] st h = pR 24 d 231 [a0, a1, .ref o, a3, a4, a5, a6, a7, a8] (.ref o :: st) h := pR_L rfl rfl
theorem rX1_plain_230n : pR 24 d 230 [a0, a1, .null, a3, a4, a5, a6, a7, a8] st h = pR 24 d 231 [a0, a1, .null, a3, a4, a5, a6, a7, a8] (.null :: st) h := pR_L rfl rfl
theorem rX1_plain_231 : pR 24 d 231 ls (.ref o :: st) h = if pis (pfl h 24 o 3) = true then pR 24 d 234 ls (pfl h 24 o 3 :: st) h else none := r_get rfl
theorem rX1_plain_234 : pR 24 d 234 [a0, a1, a2, a3, a4, a5, a6, a7, .int x] st h = pR 24 d 236 [a0, a1, a2, a3, a4, a5, a6, a7, .int x] (.int x :: st) h := pR_L rfl rfl
theorem rX1_plain_236 : pR 24 d 236 ls (.int x :: .ref o :: st) h = if (pin x (pln h 0 o) || pin x (pln h 9 o)) = true then pR 24 d 237 ls (.int (pct h o x.toNatClampNeg) :: st) h else none := pR_Lif rfl rfl
theorem rX1_plain_237 : pR 24 (d + 1) 237 ls (b4 :: b3 :: b2 :: b1 :: .ref o :: st) h = if (pok 23 (pcl h o) && pw st) = true then pK 24 (d + 1) 237 3 ls st (pCa 222 d [.ref o, b1, b2, b3, b4] h) else none := r_callV rfl rfl rfl
theorem rX1_plain_240 : pR 24 d 240 [a0, a1, a2, a3, a4, a5, a6, a7, .int x] st h = pR 24 d 242 [a0, a1, a2, a3, a4, a5, a6, a7, .int x] (.int x :: st) h := pR_L rfl rfl
theorem rX1_plain_242 : pR 24 d 242 ls st h = pR 24 d 243 ls (.int 1 :: st) h := pR_L rfl rfl
theorem rX1_plain_243 : pR 24 d 243 ls (.int y :: .int x :: st) h = pR 24 d 244 ls (.int (x + y) :: st) h := pR_L rfl rfl
theorem rX1_plain_244 : pR 24 d 244 [a0, a1, a2, a3, a4, a5, a6, a7, a8] (.int x :: st) h = if p1 a6 = true then pR 24 d 246 [a0, a1, a2, a3, a4, a5, .int x, a7, a8] st h else none := r_sto (n := 2) (k := 6) (v := .int x) (ls := [a0, a1, a2, a3, a4, a5, a6, a7, a8]) rfl rfl rfl
theorem rX1_plain_246 : pR 24 d 246 ls st h = pR 24 d 247 ls (.int 0 :: st) h := pR_L rfl rfl
theorem rX1_plain_247 : pR 24 d 247 [a0, a1, a2, a3, a4, a5, a6, a7, a8] (.int x :: st) h = if p1 a7 = true then pR 24 d 249 [a0, a1, a2, a3, a4, a5, a6, .int x, a8] st h else none := r_sto (n := 2) (k := 7) (v := .int x) (ls := [a0, a1, a2, a3, a4, a5, a6, a7, a8]) rfl rfl rfl
theorem rX1_plain_249 : pR 24 d 249 [a0, a1, a2, a3, a4, a5, a6, a7, .int x] st h = pR 24 d 252 [a0, a1, a2, a3, a4, a5, a6, a7, .int (x + 1)] st h := pR_L rfl rfl
theorem rX1_plain_252 : pR 24 d 252 ls st h = pR 24 d 164 ls st h := pR_L rfl rfl
theorem rX1_plain_255 : pR 24 d 255 [.ref o, a1, a2, a3, a4, a5, a6, a7, a8] st h = pR 24 d 256 [.ref o, a1, a2, a3, a4, a5, a6, a7, a8] (.ref o :: st) h := pR_L rfl rfl
theorem rX1_plain_256 : pR 24 d 256 ls st h = pR 24 d 259 ls (.ref h.2.1 :: st) (pnw h (.inr (24, [.null, .null, .null, .null, .null, .null, .int 0, .int 0, .int 0, .int 0])) 10) := pR_X rfl rfl
theorem rX1_plain_259 : pR 24 d 259 ls (.ref o :: st) h = pR 24 d 260 ls (.ref o :: .ref o :: st) h := pR_L rfl rfl
theorem rX1_plain_259i : pR 24 d 259 ls (.int x :: st) h = pR 24 d 260 ls (.int x :: .int x :: st) h := pR_L rfl rfl
theorem rX1_plain_260 : pR 24 d 260 [a0, a1, a2, a3, .ref o, a5, a6, a7, a8] st h = pR 24 d 262 [a0, a1, a2, a3, .ref o, a5, a6, a7, a8] (.ref o :: st) h := pR_L rfl rfl
theorem rX1_plain_260n : pR 24 d 260 [a0, a1, a2, a3, .null, a5, a6, a7, a8] st h = pR 24 d 262 [a0, a1, a2, a3, .null, a5, a6, a7, a8] (.null :: st) h := pR_L rfl rfl
theorem rX1_plain_262 : pR 24 (d + 1) 262 ls (b1 :: .ref o :: st) h = if (pok 24 (pcl h o) && pw st) = true then pK 24 (d + 1) 262 3 ls st (pCa 229 d [.ref o, b1] h) else none := r_callV rfl rfl rfl
theorem rX1_plain_265 : pR 24 (d + 1) 265 ls (b1 :: .ref o :: st) h = if (pok 1 (pcl h o) && pw st) = true then pK 24 (d + 1) 265 3 ls st (pCa 13 d [.ref o, b1] h) else none := r_callV rfl rfl rfl
theorem rX1_plain_268 : pR 24 d 268 ls [.int x] h = some (.inl (some (.int x)), h) := pR_E rfl rfl
-- 25 BalloonStall pop (III)I
theorem eX1_pop : pCa 25 d [.ref o, .int x0, .int x1, .int x2] h = pR 25 d 0 [.ref o, .int x0, .int x1, .int x2, pU, pU] [] h := rfl
theorem rX1_pop_0 : pR 25 d 0 [.ref o, a1, a2, a3, a4, a5] st h = pR 25 d 1 [.ref o, a1, a2, a3, a4, a5] (.ref o :: st) h := pR_L rfl rfl
theorem rX1_pop_1 : pR 25 d 1 [a0, .int x, a2, a3, a4, a5] st h = pR 25 d 2 [a0, .int x, a2, a3, a4, a5] (.int x :: st) h := pR_L rfl rfl
theorem rX1_pop_2 : pR 25 d 2 [a0, a1, .int x, a3, a4, a5] st h = pR 25 d 3 [a0, a1, .int x, a3, a4, a5] (.int x :: st) h := pR_L rfl rfl
theorem rX1_pop_3 : pR 25 (d + 1) 3 ls (b2 :: b1 :: .ref o :: st) h = if (pok 1 (pcl h o) && pw st) = true then pK 25 (d + 1) 3 3 ls st (pCa 23 d [.ref o, b1, b2] h) else none := r_callV rfl rfl rfl
theorem rX1_pop_6 : pR 25 d 6 ls (.int x :: st) h = if x = 0 then pR 25 d 21 ls st h else pR 25 d 9 ls st h := r_ieq rfl rfl
theorem rX1_pop_9 : pR 25 d 9 [a0, a1, a2, .int x, a4, a5] st h = pR 25 d 10 [a0, a1, a2, .int x, a4, a5] (.int x :: st) h := pR_L rfl rfl
theorem rX1_pop_10 : pR 25 d 10 ls (.int x :: st) h = pR 25 d 11 ls (.long x.toInt64 :: st) h := pR_L rfl rfl
theorem rX1_pop_11 : pR 25 d 11 ls st h = pR 25 d 12 ls (.long 0 :: st) h := pR_L rfl rfl
theorem rX1_pop_12 : pR 25 d 12 ls st h = pR 25 d 15 ls (.long 2 :: st) h := pR_X rfl rfl
theorem rX1_pop_15 : pR 25 (d + 1) 15 ls (b2 :: b1 :: b0 :: st) h = if pw st = true then pK 25 (d + 1) 15 3 ls st (pCa 6 d [b0, b1, b2] h) else none := r_callS rfl rfl rfl
theorem rX1_pop_18 : pR 25 d 18 ls (.int x :: st) h = if x = 0 then pR 25 d 21 ls st h else pR 25 d 23 ls st h := r_ine rfl rfl
theorem rX1_pop_21 : pR 25 d 21 ls st h = pR 25 d 22 ls (.int (-1) :: st) h := pR_L rfl rfl
theorem rX1_pop_22 : pR 25 d 22 ls [.int x] h = some (.inl (some (.int x)), h) := pR_E rfl rfl
theorem rX1_pop_23 : pR 25 d 23 [.ref o, a1, a2, a3, a4, a5] st h = pR 25 d 24 [.ref o, a1, a2, a3, a4, a5] (.ref o :: st) h := pR_L rfl rfl
theorem rX1_pop_24 : pR 25 d 24 ls (.ref o :: st) h = if pis (pfl h 1 o 4) = true then pR 25 d 27 ls (pfl h 1 o 4 :: st) h else none := r_get rfl
theorem rX1_pop_27 : pR 25 d 27 [a0, .int x, a2, a3, a4, a5] st h = pR 25 d 28 [a0, .int x, a2, a3, a4, a5] (.int x :: st) h := pR_L rfl rfl
theorem rX1_pop_28 : pR 25 d 28 ls (.int x :: .ref o :: st) h = if pin x (plnQ h o) = true then pR 25 d 29 ls (va_rf (pctQ h o x.toNatClampNeg) :: st) h else none := pR_Lif rfl rfl
theorem rX1_pop_29 : pR 25 d 29 [a0, a1, a2, a3, a4, a5] (.ref o :: st) h = if p1 a4 = true then pR 25 d 31 [a0, a1, a2, a3, .ref o, a5] st h else none := r_sto (n := 2) (k := 4) (v := .ref o) (ls := [a0, a1, a2, a3, a4, a5]) rfl rfl rfl
theorem rX1_pop_29n : pR 25 d 29 [a0, a1, a2, a3, a4, a5] (.null :: st) h = if p1 a4 = true then pR 25 d 31 [a0, a1, a2, a3, .null, a5] st h else none := r_sto (n := 2) (k := 4) (v := .null) (ls := [a0, a1, a2, a3, a4, a5]) rfl rfl rfl
theorem rX1_pop_31 : pR 25 d 31 [a0, a1, a2, a3, .ref o, a5] st h = pR 25 d 33 [a0, a1, a2, a3, .ref o, a5] (.ref o :: st) h := pR_L rfl rfl
theorem rX1_pop_31n : pR 25 d 31 [a0, a1, a2, a3, .null, a5] st h = pR 25 d 33 [a0, a1, a2, a3, .null, a5] (.null :: st) h := pR_L rfl rfl
theorem rX1_pop_33 : pR 25 d 33 [a0, a1, .int x, a3, a4, a5] st h = pR 25 d 34 [a0, a1, .int x, a3, a4, a5] (.int x :: st) h := pR_L rfl rfl
theorem rX1_pop_34 : pR 25 (d + 1) 34 ls (b1 :: .ref o :: st) h = if (pok 24 (pcl h o) && pw st) = true then pK 25 (d + 1) 34 3 ls st (pCa 236 d [.ref o, b1] h) else none := r_callV rfl rfl rfl
theorem rX1_pop_37 : pR 25 d 37 [a0, a1, a2, a3, a4, a5] (.int x :: st) h = if p1 a5 = true then pR 25 d 39 [a0, a1, a2, a3, a4, .int x] st h else none := r_sto (n := 2) (k := 5) (v := .int x) (ls := [a0, a1, a2, a3, a4, a5]) rfl rfl rfl
theorem rX1_pop_39 : pR 25 d 39 [a0, a1, a2, .int x, a4, a5] st h = pR 25 d 40 [a0, a1, a2, .int x, a4, a5] (.int x :: st) h := pR_L rfl rfl
theorem rX1_pop_40 : pR 25 d 40 ls (.int x :: st) h = if x = 0 then pR 25 d 43 ls st h else pR 25 d 48 ls st h := r_ine rfl rfl
theorem rX1_pop_43 : pR 25 d 43 [a0, a1, a2, a3, a4, .int x] st h = pR 25 d 45 [a0, a1, a2, a3, a4, .int x] (.int x :: st) h := pR_L rfl rfl
theorem rX1_pop_45 : pR 25 d 45 ls st h = pR 25 d 76 ls st h := pR_L rfl rfl
theorem rX1_pop_48 : pR 25 d 48 [a0, a1, a2, .int x, a4, a5] st h = pR 25 d 49 [a0, a1, a2, .int x, a4, a5] (.int x :: st) h := pR_L rfl rfl
theorem rX1_pop_49 : pR 25 d 49 ls st h = pR 25 d 50 ls (.int 1 :: st) h := pR_L rfl rfl
theorem rX1_pop_50 : pR 25 d 50 ls (.int y :: .int x :: st) h = if x = y then pR 25 d 53 ls st h else pR 25 d 61 ls st h := r_cne rfl rfl
theorem rX1_pop_53 : pR 25 d 53 [a0, a1, a2, a3, a4, .int x] st h = pR 25 d 55 [a0, a1, a2, a3, a4, .int x] (.int x :: st) h := pR_L rfl rfl
theorem rX1_pop_55 : pR 25 (d + 1) 55 ls (b0 :: st) h = if pw st = true then pK 25 (d + 1) 55 3 ls st (pCa 254 d [b0] h) else none := r_callS rfl rfl rfl
theorem rX1_pop_58 : pR 25 d 58 ls st h = pR 25 d 76 ls st h := pR_L rfl rfl
theorem rX1_pop_61 : pR 25 d 61 [a0, a1, a2, a3, .ref o, a5] st h = pR 25 d 63 [a0, a1, a2, a3, .ref o, a5] (.ref o :: st) h := pR_L rfl rfl
theorem rX1_pop_61n : pR 25 d 61 [a0, a1, a2, a3, .null, a5] st h = pR 25 d 63 [a0, a1, a2, a3, .null, a5] (.null :: st) h := pR_L rfl rfl
theorem rX1_pop_63 : pR 25 d 63 [a0, a1, a2, a3, .ref o, a5] st h = pR 25 d 65 [a0, a1, a2, a3, .ref o, a5] (.ref o :: st) h := pR_L rfl rfl
theorem rX1_pop_63n : pR 25 d 63 [a0, a1, a2, a3, .null, a5] st h = pR 25 d 65 [a0, a1, a2, a3, .null, a5] (.null :: st) h := pR_L rfl rfl
theorem rX1_pop_65 : pR 25 (d + 1) 65 ls (.ref o :: st) h = if (pok 24 (pcl h o) && pw st) = true then pK 25 (d + 1) 65 3 ls st (pCa 239 d [.ref o] h) else none := r_callV rfl rfl rfl
theorem rX1_pop_68 : pR 25 d 68 [a0, a1, a2, a3, a4, .int x] st h = pR 25 d 70 [a0, a1, a2, a3, a4, .int x] (.int x :: st) h := pR_L rfl rfl
theorem rX1_pop_70 : pR 25 d 70 ls st h = pR 25 d 71 ls (.int (-1) :: st) h := pR_L rfl rfl
theorem rX1_pop_71 : pR 25 d 71 ls (.int y :: .int x :: st) h = pR 25 d 72 ls (.int (x ^^^ y) :: st) h := pR_L rfl rfl
theorem rX1_pop_72 : pR 25 d 72 ls (.int y :: .int x :: st) h = pR 25 d 73 ls (.int (x &&& y) :: st) h := pR_L rfl rfl
theorem rX1_pop_73 : pR 25 (d + 1) 73 ls (b1 :: .ref o :: st) h = if (pok 24 (pcl h o) && pw st) = true then pK 25 (d + 1) 73 3 ls st (pCa 240 d [.ref o, b1] h) else none := r_callV rfl rfl rfl
theorem rX1_pop_76 : pR 25 d 76 ls [.int x] h = some (.inl (some (.int x)), h) := pR_E rfl rfl
-- 26 BalloonStall weakest (I)I
theorem eX1_weakest : pCa 26 d [.ref o, .int x0] h = pR 26 d 0 [.ref o, .int x0, pU, pU, pU, pU, pU] [] h := rfl
theorem rX1_weakest_0 : pR 26 d 0 [.ref o, a1, a2, a3, a4, a5, a6] st h = pR 26 d 1 [.ref o, a1, a2, a3, a4, a5, a6] (.ref o :: st) h := pR_L rfl rfl
theorem rX1_weakest_1 : pR 26 d 1 [a0, .int x, a2, a3, a4, a5, a6] st h = pR 26 d 2 [a0, .int x, a2, a3, a4, a5, a6] (.int x :: st) h := pR_L rfl rfl
theorem rX1_weakest_2 : pR 26 (d + 1) 2 ls (b1 :: .ref o :: st) h = if (pok 1 (pcl h o) && pw st) = true then pK 26 (d + 1) 2 3 ls st (pCa 15 d [.ref o, b1] h) else none := r_callV rfl rfl rfl
theorem rX1_weakest_5 : pR 26 d 5 ls (.int x :: st) h = if x = 0 then pR 26 d 8 ls st h else pR 26 d 10 ls st h := r_ine rfl rfl
theorem rX1_weakest_8 : pR 26 d 8 ls st h = pR 26 d 9 ls (.int (-1) :: st) h := pR_L rfl rfl
theorem rX1_weakest_9 : pR 26 d 9 ls [.int x] h = some (.inl (some (.int x)), h) := pR_E rfl rfl
theorem rX1_weakest_10 : pR 26 d 10 [.ref o, a1, a2, a3, a4, a5, a6] st h = pR 26 d 11 [.ref o, a1, a2, a3, a4, a5, a6] (.ref o :: st) h := pR_L rfl rfl
theorem rX1_weakest_11 : pR 26 d 11 ls (.ref o :: st) h = if pis (pfl h 1 o 4) = true then pR 26 d 14 ls (pfl h 1 o 4 :: st) h else none := r_get rfl
theorem rX1_weakest_14 : pR 26 d 14 [a0, .int x, a2, a3, a4, a5, a6] st h = pR 26 d 15 [a0, .int x, a2, a3, a4, a5, a6] (.int x :: st) h := pR_L rfl rfl
theorem rX1_weakest_15 : pR 26 d 15 ls (.int x :: .ref o :: st) h = if pin x (plnQ h o) = true then pR 26 d 16 ls (va_rf (pctQ h o x.toNatClampNeg) :: st) h else none := pR_Lif rfl rfl
theorem rX1_weakest_16 : pR 26 d 16 [a0, a1, a2, a3, a4, a5, a6] (.ref o :: st) h = if p1 a2 = true then pR 26 d 17 [a0, a1, .ref o, a3, a4, a5, a6] st h else none := r_sto (n := 1) (k := 2) (v := .ref o) (ls := [a0, a1, a2, a3, a4, a5, a6]) rfl rfl rfl
theorem rX1_weakest_16n : pR 26 d 16 [a0, a1, a2, a3, a4, a5, a6] (.null :: st) h = if p1 a2 = true then pR 26 d 17 [a0, a1, .null, a3, a4, a5, a6] st h else none := r_sto (n := 1) (k := 2) (v := .null) (ls := [a0, a1, a2, a3, a4, a5, a6]) rfl rfl rfl
theorem rX1_weakest_17 : pR 26 d 17 ls st h = pR 26 d 18 ls (.int (-1) :: st) h := pR_L rfl rfl
theorem rX1_weakest_18 : pR 26 d 18 [a0, a1, a2, a3, a4, a5, a6] (.int x :: st) h = if p1 a3 = true then pR 26 d 19 [a0, a1, a2, .int x, a4, a5, a6] st h else none := r_sto (n := 1) (k := 3) (v := .int x) (ls := [a0, a1, a2, a3, a4, a5, a6]) rfl rfl rfl
theorem rX1_weakest_19 : pR 26 d 19 ls st h = pR 26 d 20 ls (.int 0 :: st) h := pR_L rfl rfl
theorem rX1_weakest_20 : pR 26 d 20 [a0, a1, a2, a3, a4, a5, a6] (.int x :: st) h = if p1 a4 = true then pR 26 d 22 [a0, a1, a2, a3, .int x, a5, a6] st h else none := r_sto (n := 2) (k := 4) (v := .int x) (ls := [a0, a1, a2, a3, a4, a5, a6]) rfl rfl rfl
theorem rX1_weakest_22 : pR 26 d 22 ls st h = pR 26 d 23 ls (.int 0 :: st) h := pR_L rfl rfl
theorem rX1_weakest_23 : pR 26 d 23 [a0, a1, a2, a3, a4, a5, a6] (.int x :: st) h = if p1 a5 = true then pR 26 d 25 [a0, a1, a2, a3, a4, .int x, a6] st h else none := r_sto (n := 2) (k := 5) (v := .int x) (ls := [a0, a1, a2, a3, a4, a5, a6]) rfl rfl rfl
theorem rX1_weakest_25 : pR 26 d 25 [a0, a1, a2, a3, a4, .int x, a6] st h = pR 26 d 27 [a0, a1, a2, a3, a4, .int x, a6] (.int x :: st) h := pR_L rfl rfl
theorem rX1_weakest_27 : pR 26 d 27 [a0, a1, .ref o, a3, a4, a5, a6] st h = pR 26 d 28 [a0, a1, .ref o, a3, a4, a5, a6] (.ref o :: st) h := pR_L rfl rfl
theorem rX1_weakest_27n : pR 26 d 27 [a0, a1, .null, a3, a4, a5, a6] st h = pR 26 d 28 [a0, a1, .null, a3, a4, a5, a6] (.null :: st) h := pR_L rfl rfl
theorem rX1_weakest_28 : pR 26 d 28 ls (.ref o :: st) h = if pis (pfl h 24 o 6) = true then pR 26 d 31 ls (pfl h 24 o 6 :: st) h else none := r_get rfl
theorem rX1_weakest_31 : pR 26 d 31 ls (.int y :: .int x :: st) h = if x < y then pR 26 d 34 ls st h else pR 26 d 68 ls st h := r_cge rfl rfl
theorem rX1_weakest_34 : pR 26 d 34 [a0, a1, .ref o, a3, a4, a5, a6] st h = pR 26 d 35 [a0, a1, .ref o, a3, a4, a5, a6] (.ref o :: st) h := pR_L rfl rfl
theorem rX1_weakest_34n : pR 26 d 34 [a0, a1, .null, a3, a4, a5, a6] st h = pR 26 d 35 [a0, a1, .null, a3, a4, a5, a6] (.null :: st) h := pR_L rfl rfl
theorem rX1_weakest_35 : pR 26 d 35 [a0, a1, a2, a3, a4, .int x, a6] st h = pR 26 d 37 [a0, a1, a2, a3, a4, .int x, a6] (.int x :: st) h := pR_L rfl rfl
theorem rX1_weakest_37 : pR 26 (d + 1) 37 ls (b1 :: .ref o :: st) h = if (pok 24 (pcl h o) && pw st) = true then pK 26 (d + 1) 37 3 ls st (pCa 236 d [.ref o, b1] h) else none := r_callV rfl rfl rfl
theorem rX1_weakest_40 : pR 26 (d + 1) 40 ls (b0 :: st) h = if pw st = true then pK 26 (d + 1) 40 3 ls st (pCa 254 d [b0] h) else none := r_callS rfl rfl rfl
theorem rX1_weakest_43 : pR 26 d 43 [a0, a1, a2, a3, a4, a5, a6] (.int x :: st) h = if p1 a6 = true then pR 26 d 45 [a0, a1, a2, a3, a4, a5, .int x] st h else none := r_sto (n := 2) (k := 6) (v := .int x) (ls := [a0, a1, a2, a3, a4, a5, a6]) rfl rfl rfl
theorem rX1_weakest_45 : pR 26 d 45 [a0, a1, a2, a3, a4, a5, .int x] st h = pR 26 d 47 [a0, a1, a2, a3, a4, a5, .int x] (.int x :: st) h := pR_L rfl rfl
theorem rX1_weakest_47 : pR 26 d 47 [a0, a1, a2, a3, .int x, a5, a6] st h = pR 26 d 49 [a0, a1, a2, a3, .int x, a5, a6] (.int x :: st) h := pR_L rfl rfl
theorem rX1_weakest_49 : pR 26 d 49 ls (.int y :: .int x :: st) h = if y < x then pR 26 d 55 ls st h else pR 26 d 52 ls st h := r_cgt rfl rfl
theorem rX1_weakest_52 : pR 26 d 52 ls st h = pR 26 d 62 ls st h := pR_L rfl rfl
theorem rX1_weakest_55 : pR 26 d 55 [a0, a1, a2, a3, a4, a5, .int x] st h = pR 26 d 57 [a0, a1, a2, a3, a4, a5, .int x] (.int x :: st) h := pR_L rfl rfl
theorem rX1_weakest_57 : pR 26 d 57 [a0, a1, a2, a3, a4, a5, a6] (.int x :: st) h = if p1 a4 = true then pR 26 d 59 [a0, a1, a2, a3, .int x, a5, a6] st h else none := r_sto (n := 2) (k := 4) (v := .int x) (ls := [a0, a1, a2, a3, a4, a5, a6]) rfl rfl rfl
theorem rX1_weakest_59 : pR 26 d 59 [a0, a1, a2, a3, a4, .int x, a6] st h = pR 26 d 61 [a0, a1, a2, a3, a4, .int x, a6] (.int x :: st) h := pR_L rfl rfl
theorem rX1_weakest_61 : pR 26 d 61 [a0, a1, a2, a3, a4, a5, a6] (.int x :: st) h = if p1 a3 = true then pR 26 d 62 [a0, a1, a2, .int x, a4, a5, a6] st h else none := r_sto (n := 1) (k := 3) (v := .int x) (ls := [a0, a1, a2, a3, a4, a5, a6]) rfl rfl rfl
theorem rX1_weakest_62 : pR 26 d 62 [a0, a1, a2, a3, a4, .int x, a6] st h = pR 26 d 65 [a0, a1, a2, a3, a4, .int (x + 1), a6] st h := pR_L rfl rfl
theorem rX1_weakest_65 : pR 26 d 65 ls st h = pR 26 d 25 ls st h := pR_L rfl rfl
theorem rX1_weakest_68 : pR 26 d 68 [a0, a1, a2, .int x, a4, a5, a6] st h = pR 26 d 69 [a0, a1, a2, .int x, a4, a5, a6] (.int x :: st) h := pR_L rfl rfl
theorem rX1_weakest_69 : pR 26 d 69 ls [.int x] h = some (.inl (some (.int x)), h) := pR_E rfl rfl
-- 27 BalloonStall add (IIII)I
theorem eX1_add : pCa 27 d [.ref o, .int x0, .int x1, .int x2, .int x3] h = pR 27 d 0 [.ref o, .int x0, .int x1, .int x2, .int x3, pU, pU, pU, pU, pU] [] h := rfl
theorem rX1_add_0 : pR 27 d 0 [.ref o, a1, a2, a3, a4, a5, a6, a7, a8, a9] st h = pR 27 d 1 [.ref o, a1, a2, a3, a4, a5, a6, a7, a8, a9] (.ref o :: st) h := pR_L rfl rfl
theorem rX1_add_1 : pR 27 d 1 [a0, .int x, a2, a3, a4, a5, a6, a7, a8, a9] st h = pR 27 d 2 [a0, .int x, a2, a3, a4, a5, a6, a7, a8, a9] (.int x :: st) h := pR_L rfl rfl
theorem rX1_add_2 : pR 27 d 2 [a0, a1, a2, .int x, a4, a5, a6, a7, a8, a9] st h = pR 27 d 3 [a0, a1, a2, .int x, a4, a5, a6, a7, a8, a9] (.int x :: st) h := pR_L rfl rfl
theorem rX1_add_3 : pR 27 (d + 1) 3 ls (b2 :: b1 :: .ref o :: st) h = if (pok 1 (pcl h o) && pw st) = true then pK 27 (d + 1) 3 3 ls st (pCa 17 d [.ref o, b1, b2] h) else none := r_callV rfl rfl rfl
theorem rX1_add_6 : pR 27 d 6 ls (.int x :: st) h = if x = 0 then pR 27 d 28 ls st h else pR 27 d 9 ls st h := r_ieq rfl rfl
theorem rX1_add_9 : pR 27 d 9 [.ref o, a1, a2, a3, a4, a5, a6, a7, a8, a9] st h = pR 27 d 10 [.ref o, a1, a2, a3, a4, a5, a6, a7, a8, a9] (.ref o :: st) h := pR_L rfl rfl
theorem rX1_add_10 : pR 27 d 10 [a0, a1, .int x, a3, a4, a5, a6, a7, a8, a9] st h = pR 27 d 11 [a0, a1, .int x, a3, a4, a5, a6, a7, a8, a9] (.int x :: st) h := pR_L rfl rfl
theorem rX1_add_11 : pR 27 d 11 [a0, a1, a2, a3, .int x, a5, a6, a7, a8, a9] st h = pR 27 d 13 [a0, a1, a2, a3, .int x, a5, a6, a7, a8, a9] (.int x :: st) h := pR_L rfl rfl
theorem rX1_add_13 : pR 27 (d + 1) 13 ls (b2 :: b1 :: .ref o :: st) h = if (pok 1 (pcl h o) && pw st) = true then pK 27 (d + 1) 13 3 ls st (pCa 17 d [.ref o, b1, b2] h) else none := r_callV rfl rfl rfl
theorem rX1_add_16 : pR 27 d 16 ls (.int x :: st) h = if x = 0 then pR 27 d 28 ls st h else pR 27 d 19 ls st h := r_ieq rfl rfl
theorem rX1_add_19 : pR 27 d 19 [.ref o, a1, a2, a3, a4, a5, a6, a7, a8, a9] st h = pR 27 d 20 [.ref o, a1, a2, a3, a4, a5, a6, a7, a8, a9] (.ref o :: st) h := pR_L rfl rfl
theorem rX1_add_20 : pR 27 d 20 ls (.ref o :: st) h = if pis (pfl h 1 o 5) = true then pR 27 d 23 ls (pfl h 1 o 5 :: st) h else none := r_get rfl
theorem rX1_add_23 : pR 27 d 23 ls st h = pR 27 d 25 ls (.int 12 :: st) h := pR_L rfl rfl
theorem rX1_add_25 : pR 27 d 25 ls (.int y :: .int x :: st) h = if x = y then pR 27 d 28 ls st h else pR 27 d 30 ls st h := r_cne rfl rfl
theorem rX1_add_28 : pR 27 d 28 ls st h = pR 27 d 29 ls (.int (-1) :: st) h := pR_L rfl rfl
theorem rX1_add_29 : pR 27 d 29 ls [.int x] h = some (.inl (some (.int x)), h) := pR_E rfl rfl
theorem rX1_add_30 : pR 27 d 30 [.ref o, a1, a2, a3, a4, a5, a6, a7, a8, a9] st h = pR 27 d 31 [.ref o, a1, a2, a3, a4, a5, a6, a7, a8, a9] (.ref o :: st) h := pR_L rfl rfl
theorem rX1_add_31 : pR 27 d 31 ls (.ref o :: st) h = if pis (pfl h 1 o 4) = true then pR 27 d 34 ls (pfl h 1 o 4 :: st) h else none := r_get rfl
theorem rX1_add_34 : pR 27 d 34 [a0, .int x, a2, a3, a4, a5, a6, a7, a8, a9] st h = pR 27 d 35 [a0, .int x, a2, a3, a4, a5, a6, a7, a8, a9] (.int x :: st) h := pR_L rfl rfl
theorem rX1_add_35 : pR 27 d 35 ls (.int x :: .ref o :: st) h = if pin x (plnQ h o) = true then pR 27 d 36 ls (va_rf (pctQ h o x.toNatClampNeg) :: st) h else none := pR_Lif rfl rfl
theorem rX1_add_36 : pR 27 d 36 [a0, a1, a2, a3, a4, a5, a6, a7, a8, a9] (.ref o :: st) h = if p1 a5 = true then pR 27 d 38 [a0, a1, a2, a3, a4, .ref o, a6, a7, a8, a9] st h else none := r_sto (n := 2) (k := 5) (v := .ref o) (ls := [a0, a1, a2, a3, a4, a5, a6, a7, a8, a9]) rfl rfl rfl
theorem rX1_add_36n : pR 27 d 36 [a0, a1, a2, a3, a4, a5, a6, a7, a8, a9] (.null :: st) h = if p1 a5 = true then pR 27 d 38 [a0, a1, a2, a3, a4, .null, a6, a7, a8, a9] st h else none := r_sto (n := 2) (k := 5) (v := .null) (ls := [a0, a1, a2, a3, a4, a5, a6, a7, a8, a9]) rfl rfl rfl
theorem rX1_add_38 : pR 27 d 38 [.ref o, a1, a2, a3, a4, a5, a6, a7, a8, a9] st h = pR 27 d 39 [.ref o, a1, a2, a3, a4, a5, a6, a7, a8, a9] (.ref o :: st) h := pR_L rfl rfl
theorem rX1_add_39 : pR 27 d 39 ls (.ref o :: st) h = if pis (pfl h 1 o 4) = true then pR 27 d 42 ls (pfl h 1 o 4 :: st) h else none := r_get rfl
theorem rX1_add_42 : pR 27 d 42 [a0, a1, .int x, a3, a4, a5, a6, a7, a8, a9] st h = pR 27 d 43 [a0, a1, .int x, a3, a4, a5, a6, a7, a8, a9] (.int x :: st) h := pR_L rfl rfl
theorem rX1_add_43 : pR 27 d 43 ls (.int x :: .ref o :: st) h = if pin x (plnQ h o) = true then pR 27 d 44 ls (va_rf (pctQ h o x.toNatClampNeg) :: st) h else none := pR_Lif rfl rfl
theorem rX1_add_44 : pR 27 d 44 [a0, a1, a2, a3, a4, a5, a6, a7, a8, a9] (.ref o :: st) h = if p1 a6 = true then pR 27 d 46 [a0, a1, a2, a3, a4, a5, .ref o, a7, a8, a9] st h else none := r_sto (n := 2) (k := 6) (v := .ref o) (ls := [a0, a1, a2, a3, a4, a5, a6, a7, a8, a9]) rfl rfl rfl
theorem rX1_add_44n : pR 27 d 44 [a0, a1, a2, a3, a4, a5, a6, a7, a8, a9] (.null :: st) h = if p1 a6 = true then pR 27 d 46 [a0, a1, a2, a3, a4, a5, .null, a7, a8, a9] st h else none := r_sto (n := 2) (k := 6) (v := .null) (ls := [a0, a1, a2, a3, a4, a5, a6, a7, a8, a9]) rfl rfl rfl
theorem rX1_add_46 : pR 27 d 46 [a0, a1, a2, a3, a4, .ref o, a6, a7, a8, a9] st h = pR 27 d 48 [a0, a1, a2, a3, a4, .ref o, a6, a7, a8, a9] (.ref o :: st) h := pR_L rfl rfl
theorem rX1_add_46n : pR 27 d 46 [a0, a1, a2, a3, a4, .null, a6, a7, a8, a9] st h = pR 27 d 48 [a0, a1, a2, a3, a4, .null, a6, a7, a8, a9] (.null :: st) h := pR_L rfl rfl
theorem rX1_add_48 : pR 27 d 48 ls (.ref o :: st) h = if pis (pfl h 24 o 6) = true then pR 27 d 51 ls (pfl h 24 o 6 :: st) h else none := r_get rfl
theorem rX1_add_51 : pR 27 d 51 [a0, a1, a2, a3, a4, a5, .ref o, a7, a8, a9] st h = pR 27 d 53 [a0, a1, a2, a3, a4, a5, .ref o, a7, a8, a9] (.ref o :: st) h := pR_L rfl rfl
theorem rX1_add_51n : pR 27 d 51 [a0, a1, a2, a3, a4, a5, .null, a7, a8, a9] st h = pR 27 d 53 [a0, a1, a2, a3, a4, a5, .null, a7, a8, a9] (.null :: st) h := pR_L rfl rfl
theorem rX1_add_53 : pR 27 d 53 ls (.ref o :: st) h = if pis (pfl h 24 o 6) = true then pR 27 d 56 ls (pfl h 24 o 6 :: st) h else none := r_get rfl
theorem rX1_add_56 : pR 27 d 56 ls (.int y :: .int x :: st) h = pR 27 d 57 ls (.int (x + y) :: st) h := pR_L rfl rfl
theorem rX1_add_57 : pR 27 d 57 ls st h = pR 27 d 59 ls (.int 24 :: st) h := pR_L rfl rfl
theorem rX1_add_59 : pR 27 d 59 ls (.int y :: .int x :: st) h = if y < x then pR 27 d 78 ls st h else pR 27 d 62 ls st h := r_cgt rfl rfl
theorem rX1_add_62 : pR 27 d 62 [a0, a1, a2, a3, a4, .ref o, a6, a7, a8, a9] st h = pR 27 d 64 [a0, a1, a2, a3, a4, .ref o, a6, a7, a8, a9] (.ref o :: st) h := pR_L rfl rfl
theorem rX1_add_62n : pR 27 d 62 [a0, a1, a2, a3, a4, .null, a6, a7, a8, a9] st h = pR 27 d 64 [a0, a1, a2, a3, a4, .null, a6, a7, a8, a9] (.null :: st) h := pR_L rfl rfl
theorem rX1_add_64 : pR 27 d 64 ls (.ref o :: st) h = if pis (pfl h 24 o 7) = true then pR 27 d 67 ls (pfl h 24 o 7 :: st) h else none := r_get rfl
theorem rX1_add_67 : pR 27 d 67 [a0, a1, a2, a3, a4, a5, .ref o, a7, a8, a9] st h = pR 27 d 69 [a0, a1, a2, a3, a4, a5, .ref o, a7, a8, a9] (.ref o :: st) h := pR_L rfl rfl
theorem rX1_add_67n : pR 27 d 67 [a0, a1, a2, a3, a4, a5, .null, a7, a8, a9] st h = pR 27 d 69 [a0, a1, a2, a3, a4, a5, .null, a7, a8, a9] (.null :: st) h := pR_L rfl rfl
theorem rX1_add_69 : pR 27 d 69 ls (.ref o :: st) h = if pis (pfl h 24 o 7) = true then pR 27 d 72 ls (pfl h 24 o 7 :: st) h else none := r_get rfl
theorem rX1_add_72 : pR 27 d 72 ls (.int y :: .int x :: st) h = pR 27 d 73 ls (.int (x + y) :: st) h := pR_L rfl rfl
theorem rX1_add_73 : pR 27 d 73 ls st h = pR 27 d 75 ls (.int 6 :: st) h := pR_L rfl rfl
theorem rX1_add_75 : pR 27 d 75 ls (.int y :: .int x :: st) h = if y < x then pR 27 d 78 ls st h else pR 27 d 80 ls st h := r_cle rfl rfl
theorem rX1_add_78 : pR 27 d 78 ls st h = pR 27 d 79 ls (.int (-1) :: st) h := pR_L rfl rfl
theorem rX1_add_79 : pR 27 d 79 ls [.int x] h = some (.inl (some (.int x)), h) := pR_E rfl rfl
theorem rX1_add_80 : pR 27 d 80 ls st h = pR 27 d 83 ls (.ref h.2.1 :: st) (pnw h (.inr (23, [.null, .null, .null, .null, .null, .null, .null, .int 0, .int 0, .int 0, .int 0, .int 0])) 12) := pR_X rfl rfl
theorem rX1_add_83 : pR 27 d 83 ls (.ref o :: st) h = pR 27 d 84 ls (.ref o :: .ref o :: st) h := pR_L rfl rfl
theorem rX1_add_83i : pR 27 d 83 ls (.int x :: st) h = pR 27 d 84 ls (.int x :: .int x :: st) h := pR_L rfl rfl
theorem rX1_add_84 : pR 27 (d + 1) 84 ls (.ref o :: st) h = if (pok 23 (pcl h o) && pw st) = true then pK 27 (d + 1) 84 3 ls st (pCa 219 d [.ref o] h) else none := r_callV rfl rfl rfl
theorem rX1_add_87 : pR 27 d 87 [a0, a1, a2, a3, a4, a5, a6, a7, a8, a9] (.ref o :: st) h = if p1 a7 = true then pR 27 d 89 [a0, a1, a2, a3, a4, a5, a6, .ref o, a8, a9] st h else none := r_sto (n := 2) (k := 7) (v := .ref o) (ls := [a0, a1, a2, a3, a4, a5, a6, a7, a8, a9]) rfl rfl rfl
theorem rX1_add_87n : pR 27 d 87 [a0, a1, a2, a3, a4, a5, a6, a7, a8, a9] (.null :: st) h = if p1 a7 = true then pR 27 d 89 [a0, a1, a2, a3, a4, a5, a6, .null, a8, a9] st h else none := r_sto (n := 2) (k := 7) (v := .null) (ls := [a0, a1, a2, a3, a4, a5, a6, a7, a8, a9]) rfl rfl rfl
theorem rX1_add_89 : pR 27 d 89 ls st h = pR 27 d 90 ls (.int 0 :: st) h := pR_L rfl rfl
theorem rX1_add_90 : pR 27 d 90 [a0, a1, a2, a3, a4, a5, a6, a7, a8, a9] (.int x :: st) h = if p1 a8 = true then pR 27 d 92 [a0, a1, a2, a3, a4, a5, a6, a7, .int x, a9] st h else none := r_sto (n := 2) (k := 8) (v := .int x) (ls := [a0, a1, a2, a3, a4, a5, a6, a7, a8, a9]) rfl rfl rfl
theorem rX1_add_92 : pR 27 d 92 [a0, a1, a2, a3, a4, a5, a6, a7, .int x, a9] st h = pR 27 d 94 [a0, a1, a2, a3, a4, a5, a6, a7, .int x, a9] (.int x :: st) h := pR_L rfl rfl
theorem rX1_add_94 : pR 27 d 94 [a0, a1, a2, a3, a4, .ref o, a6, a7, a8, a9] st h = pR 27 d 96 [a0, a1, a2, a3, a4, .ref o, a6, a7, a8, a9] (.ref o :: st) h := pR_L rfl rfl
theorem rX1_add_94n : pR 27 d 94 [a0, a1, a2, a3, a4, .null, a6, a7, a8, a9] st h = pR 27 d 96 [a0, a1, a2, a3, a4, .null, a6, a7, a8, a9] (.null :: st) h := pR_L rfl rfl
theorem rX1_add_96 : pR 27 d 96 ls (.ref o :: st) h = if pis (pfl h 24 o 8) = true then pR 27 d 99 ls (pfl h 24 o 8 :: st) h else none := r_get rfl
theorem rX1_add_99 : pR 27 d 99 [a0, a1, a2, a3, a4, a5, .ref o, a7, a8, a9] st h = pR 27 d 101 [a0, a1, a2, a3, a4, a5, .ref o, a7, a8, a9] (.ref o :: st) h := pR_L rfl rfl
theorem rX1_add_99n : pR 27 d 99 [a0, a1, a2, a3, a4, a5, .null, a7, a8, a9] st h = pR 27 d 101 [a0, a1, a2, a3, a4, a5, .null, a7, a8, a9] (.null :: st) h := pR_L rfl rfl
theorem rX1_add_101 : pR 27 d 101 ls (.ref o :: st) h = if pis (pfl h 24 o 8) = true then pR 27 d 104 ls (pfl h 24 o 8 :: st) h else none := r_get rfl
theorem rX1_add_104 : pR 27 d 104 ls (.int y :: .int x :: st) h = pR 27 d 105 ls (.int (x + y) :: st) h := pR_L rfl rfl
theorem rX1_add_105 : pR 27 d 105 ls (.int y :: .int x :: st) h = if x < y then pR 27 d 108 ls st h else pR 27 d 121 ls st h := r_cge rfl rfl
theorem rX1_add_108 : pR 27 d 108 [a0, a1, a2, a3, a4, a5, a6, .ref o, a8, a9] st h = pR 27 d 110 [a0, a1, a2, a3, a4, a5, a6, .ref o, a8, a9] (.ref o :: st) h := pR_L rfl rfl
theorem rX1_add_108n : pR 27 d 108 [a0, a1, a2, a3, a4, a5, a6, .null, a8, a9] st h = pR 27 d 110 [a0, a1, a2, a3, a4, a5, a6, .null, a8, a9] (.null :: st) h := pR_L rfl rfl
theorem rX1_add_110 : pR 27 (d + 1) 110 ls (.ref o :: st) h = if (pok 23 (pcl h o) && pw st) = true then pK 27 (d + 1) 110 3 ls st (pCa 221 d [.ref o] h) else none := r_callV rfl rfl rfl
theorem rX1_add_113 : pR 27 d 113 [a0, a1, a2, a3, a4, a5, a6, a7, a8, a9] (.int x :: st) h = if p1 a9 = true then pR 27 d 115 [a0, a1, a2, a3, a4, a5, a6, a7, a8, .int x] st h else none := r_sto (n := 2) (k := 9) (v := .int x) (ls := [a0, a1, a2, a3, a4, a5, a6, a7, a8, a9]) rfl rfl rfl
theorem rX1_add_115 : pR 27 d 115 [a0, a1, a2, a3, a4, a5, a6, a7, .int x, a9] st h = pR 27 d 118 [a0, a1, a2, a3, a4, a5, a6, a7, .int (x + 1), a9] st h := pR_L rfl rfl
theorem rX1_add_118 : pR 27 d 118 ls st h = pR 27 d 92 ls st h := pR_L rfl rfl
theorem rX1_add_121 : pR 27 d 121 [a0, a1, a2, a3, a4, a5, a6, .ref o, a8, a9] st h = pR 27 d 123 [a0, a1, a2, a3, a4, a5, a6, .ref o, a8, a9] (.ref o :: st) h := pR_L rfl rfl
theorem rX1_add_121n : pR 27 d 121 [a0, a1, a2, a3, a4, a5, a6, .null, a8, a9] st h = pR 27 d 123 [a0, a1, a2, a3, a4, a5, a6, .null, a8, a9] (.null :: st) h := pR_L rfl rfl
theorem rX1_add_123 : pR 27 d 123 [a0, a1, a2, .int x, a4, a5, a6, a7, a8, a9] st h = pR 27 d 124 [a0, a1, a2, .int x, a4, a5, a6, a7, a8, a9] (.int x :: st) h := pR_L rfl rfl
theorem rX1_add_124 : pR 27 d 124 [a0, a1, a2, a3, a4, .ref o, a6, a7, a8, a9] st h = pR 27 d 126 [a0, a1, a2, a3, a4, .ref o, a6, a7, a8, a9] (.ref o :: st) h := pR_L rfl rfl
theorem rX1_add_124n : pR 27 d 124 [a0, a1, a2, a3, a4, .null, a6, a7, a8, a9] st h = pR 27 d 126 [a0, a1, a2, a3, a4, .null, a6, a7, a8, a9] (.null :: st) h := pR_L rfl rfl
theorem rX1_add_126 : pR 27 d 126 ls (.ref o :: st) h = if pis (pfl h 24 o 8) = true then pR 27 d 129 ls (pfl h 24 o 8 :: st) h else none := r_get rfl
theorem rX1_add_129 : pR 27 d 129 [a0, a1, a2, a3, .int x, a5, a6, a7, a8, a9] st h = pR 27 d 131 [a0, a1, a2, a3, .int x, a5, a6, a7, a8, a9] (.int x :: st) h := pR_L rfl rfl
theorem rX1_add_131 : pR 27 d 131 ls (.int y :: .int x :: st) h = pR 27 d 132 ls (.int (x + y) :: st) h := pR_L rfl rfl
theorem rX1_add_132 : pR 27 (d + 1) 132 ls (b2 :: b1 :: .ref o :: st) h = if (pok 23 (pcl h o) && pw st) = true then pK 27 (d + 1) 132 3 ls st (pCa 227 d [.ref o, b1, b2] h) else none := r_callV rfl rfl rfl
theorem rX1_add_135 : pR 27 d 135 [a0, a1, a2, a3, a4, a5, a6, .ref o, a8, a9] st h = pR 27 d 137 [a0, a1, a2, a3, a4, a5, a6, .ref o, a8, a9] (.ref o :: st) h := pR_L rfl rfl
theorem rX1_add_135n : pR 27 d 135 [a0, a1, a2, a3, a4, a5, a6, .null, a8, a9] st h = pR 27 d 137 [a0, a1, a2, a3, a4, a5, a6, .null, a8, a9] (.null :: st) h := pR_L rfl rfl
theorem rX1_add_137 : pR 27 d 137 [a0, a1, a2, a3, a4, .ref o, a6, a7, a8, a9] st h = pR 27 d 139 [a0, a1, a2, a3, a4, .ref o, a6, a7, a8, a9] (.ref o :: st) h := pR_L rfl rfl
theorem rX1_add_137n : pR 27 d 137 [a0, a1, a2, a3, a4, .null, a6, a7, a8, a9] st h = pR 27 d 139 [a0, a1, a2, a3, a4, .null, a6, a7, a8, a9] (.null :: st) h := pR_L rfl rfl
theorem rX1_add_139 : pR 27 d 139 ls st h = pR 27 d 140 ls (.int 0 :: st) h := pR_L rfl rfl
theorem rX1_add_140 : pR 27 (d + 1) 140 ls (b2 :: b1 :: .ref o :: st) h = if (pok 23 (pcl h o) && pw st) = true then pK 27 (d + 1) 140 3 ls st (pCa 228 d [.ref o, b1, b2] h) else none := r_callV rfl rfl rfl
theorem rX1_add_143 : pR 27 d 143 [a0, a1, a2, a3, a4, a5, a6, .ref o, a8, a9] st h = pR 27 d 145 [a0, a1, a2, a3, a4, a5, a6, .ref o, a8, a9] (.ref o :: st) h := pR_L rfl rfl
theorem rX1_add_143n : pR 27 d 143 [a0, a1, a2, a3, a4, a5, a6, .null, a8, a9] st h = pR 27 d 145 [a0, a1, a2, a3, a4, a5, a6, .null, a8, a9] (.null :: st) h := pR_L rfl rfl
theorem rX1_add_145 : pR 27 d 145 [a0, a1, a2, a3, a4, a5, .ref o, a7, a8, a9] st h = pR 27 d 147 [a0, a1, a2, a3, a4, a5, .ref o, a7, a8, a9] (.ref o :: st) h := pR_L rfl rfl
theorem rX1_add_145n : pR 27 d 145 [a0, a1, a2, a3, a4, a5, .null, a7, a8, a9] st h = pR 27 d 147 [a0, a1, a2, a3, a4, a5, .null, a7, a8, a9] (.null :: st) h := pR_L rfl rfl
theorem rX1_add_147 : pR 27 d 147 [a0, a1, a2, a3, a4, .ref o, a6, a7, a8, a9] st h = pR 27 d 149 [a0, a1, a2, a3, a4, .ref o, a6, a7, a8, a9] (.ref o :: st) h := pR_L rfl rfl
theorem rX1_add_147n : pR 27 d 147 [a0, a1, a2, a3, a4, .null, a6, a7, a8, a9] st h = pR 27 d 149 [a0, a1, a2, a3, a4, .null, a6, a7, a8, a9] (.null :: st) h := pR_L rfl rfl
theorem rX1_add_149 : pR 27 d 149 ls (.ref o :: st) h = if pis (pfl h 24 o 8) = true then pR 27 d 152 ls (pfl h 24 o 8 :: st) h else none := r_get rfl
theorem rX1_add_152 : pR 27 (d + 1) 152 ls (b2 :: b1 :: .ref o :: st) h = if (pok 23 (pcl h o) && pw st) = true then pK 27 (d + 1) 152 3 ls st (pCa 228 d [.ref o, b1, b2] h) else none := r_callV rfl rfl rfl
theorem rX1_add_155 : pR 27 d 155 [.ref o, a1, a2, a3, a4, a5, a6, a7, a8, a9] st h = pR 27 d 156 [.ref o, a1, a2, a3, a4, a5, a6, a7, a8, a9] (.ref o :: st) h := pR_L rfl rfl
theorem rX1_add_156 : pR 27 d 156 ls st h = pR 27 d 159 ls (.ref h.2.1 :: st) (pnw h (.inr (24, [.null, .null, .null, .null, .null, .null, .int 0, .int 0, .int 0, .int 0])) 10) := pR_X rfl rfl
theorem rX1_add_159 : pR 27 d 159 ls (.ref o :: st) h = pR 27 d 160 ls (.ref o :: .ref o :: st) h := pR_L rfl rfl
theorem rX1_add_159i : pR 27 d 159 ls (.int x :: st) h = pR 27 d 160 ls (.int x :: .int x :: st) h := pR_L rfl rfl
theorem rX1_add_160 : pR 27 d 160 [a0, a1, a2, a3, a4, a5, a6, .ref o, a8, a9] st h = pR 27 d 162 [a0, a1, a2, a3, a4, a5, a6, .ref o, a8, a9] (.ref o :: st) h := pR_L rfl rfl
theorem rX1_add_160n : pR 27 d 160 [a0, a1, a2, a3, a4, a5, a6, .null, a8, a9] st h = pR 27 d 162 [a0, a1, a2, a3, a4, a5, a6, .null, a8, a9] (.null :: st) h := pR_L rfl rfl
theorem rX1_add_162 : pR 27 (d + 1) 162 ls (b1 :: .ref o :: st) h = if (pok 24 (pcl h o) && pw st) = true then pK 27 (d + 1) 162 3 ls st (pCa 229 d [.ref o, b1] h) else none := r_callV rfl rfl rfl
theorem rX1_add_165 : pR 27 (d + 1) 165 ls (b1 :: .ref o :: st) h = if (pok 1 (pcl h o) && pw st) = true then pK 27 (d + 1) 165 3 ls st (pCa 13 d [.ref o, b1] h) else none := r_callV rfl rfl rfl
theorem rX1_add_168 : pR 27 d 168 ls [.int x] h = some (.inl (some (.int x)), h) := pR_E rfl rfl
-- 28 BalloonStall alike (II)I
theorem eX1_alike : pCa 28 d [.ref o, .int x0, .int x1] h = pR 28 d 0 [.ref o, .int x0, .int x1] [] h := rfl
theorem rX1_alike_0 : pR 28 d 0 [.ref o, a1, a2] st h = pR 28 d 1 [.ref o, a1, a2] (.ref o :: st) h := pR_L rfl rfl
theorem rX1_alike_1 : pR 28 d 1 [a0, .int x, a2] st h = pR 28 d 2 [a0, .int x, a2] (.int x :: st) h := pR_L rfl rfl
theorem rX1_alike_2 : pR 28 (d + 1) 2 ls (b1 :: .ref o :: st) h = if (pok 1 (pcl h o) && pw st) = true then pK 28 (d + 1) 2 3 ls st (pCa 29 d [.ref o, b1] h) else none := r_callV rfl rfl rfl
theorem rX1_alike_5 : pR 28 d 5 ls (.int x :: st) h = if x = 0 then pR 28 d 33 ls st h else pR 28 d 8 ls st h := r_ieq rfl rfl
theorem rX1_alike_8 : pR 28 d 8 [.ref o, a1, a2] st h = pR 28 d 9 [.ref o, a1, a2] (.ref o :: st) h := pR_L rfl rfl
theorem rX1_alike_9 : pR 28 d 9 [a0, a1, .int x] st h = pR 28 d 10 [a0, a1, .int x] (.int x :: st) h := pR_L rfl rfl
theorem rX1_alike_10 : pR 28 (d + 1) 10 ls (b1 :: .ref o :: st) h = if (pok 1 (pcl h o) && pw st) = true then pK 28 (d + 1) 10 3 ls st (pCa 29 d [.ref o, b1] h) else none := r_callV rfl rfl rfl
theorem rX1_alike_13 : pR 28 d 13 ls (.int x :: st) h = if x = 0 then pR 28 d 33 ls st h else pR 28 d 16 ls st h := r_ieq rfl rfl
theorem rX1_alike_16 : pR 28 d 16 [.ref o, a1, a2] st h = pR 28 d 17 [.ref o, a1, a2] (.ref o :: st) h := pR_L rfl rfl
theorem rX1_alike_17 : pR 28 d 17 [a0, .int x, a2] st h = pR 28 d 18 [a0, .int x, a2] (.int x :: st) h := pR_L rfl rfl
theorem rX1_alike_18 : pR 28 d 18 [a0, a1, .int x] st h = pR 28 d 19 [a0, a1, .int x] (.int x :: st) h := pR_L rfl rfl
theorem rX1_alike_19 : pR 28 (d + 1) 19 ls (b2 :: b1 :: .ref o :: st) h = if (pok 1 (pcl h o) && pw st) = true then pK 28 (d + 1) 19 3 ls st (pCa 30 d [.ref o, b1, b2] h) else none := r_callV rfl rfl rfl
theorem rX1_alike_22 : pR 28 d 22 ls (.int x :: st) h = if x = 0 then pR 28 d 29 ls st h else pR 28 d 25 ls st h := r_ieq rfl rfl
theorem rX1_alike_25 : pR 28 d 25 ls st h = pR 28 d 26 ls (.int 1 :: st) h := pR_L rfl rfl
theorem rX1_alike_26 : pR 28 d 26 ls st h = pR 28 d 34 ls st h := pR_L rfl rfl
theorem rX1_alike_29 : pR 28 d 29 ls st h = pR 28 d 30 ls (.int 0 :: st) h := pR_L rfl rfl
theorem rX1_alike_30 : pR 28 d 30 ls st h = pR 28 d 34 ls st h := pR_L rfl rfl
theorem rX1_alike_33 : pR 28 d 33 ls st h = pR 28 d 34 ls (.int (-1) :: st) h := pR_L rfl rfl
theorem rX1_alike_34 : pR 28 d 34 ls [.int x] h = some (.inl (some (.int x)), h) := pR_E rfl rfl
-- 29 BalloonStall isMatched (I)Z
theorem eX1_isMatched : pCa 29 d [.ref o, .int x0] h = pR 29 d 0 [.ref o, .int x0] [] h := rfl
theorem rX1_isMatched_0 : pR 29 d 0 [.ref o, a1] st h = pR 29 d 1 [.ref o, a1] (.ref o :: st) h := pR_L rfl rfl
theorem rX1_isMatched_1 : pR 29 d 1 [a0, .int x] st h = pR 29 d 2 [a0, .int x] (.int x :: st) h := pR_L rfl rfl
theorem rX1_isMatched_2 : pR 29 (d + 1) 2 ls (b1 :: .ref o :: st) h = if (pok 1 (pcl h o) && pw st) = true then pK 29 (d + 1) 2 3 ls st (pCa 15 d [.ref o, b1] h) else none := r_callV rfl rfl rfl
theorem rX1_isMatched_5 : pR 29 d 5 ls (.int x :: st) h = if x = 0 then pR 29 d 26 ls st h else pR 29 d 8 ls st h := r_ieq rfl rfl
theorem rX1_isMatched_8 : pR 29 d 8 [.ref o, a1] st h = pR 29 d 9 [.ref o, a1] (.ref o :: st) h := pR_L rfl rfl
theorem rX1_isMatched_9 : pR 29 d 9 ls (.ref o :: st) h = if pis (pfl h 1 o 4) = true then pR 29 d 12 ls (pfl h 1 o 4 :: st) h else none := r_get rfl
theorem rX1_isMatched_12 : pR 29 d 12 [a0, .int x] st h = pR 29 d 13 [a0, .int x] (.int x :: st) h := pR_L rfl rfl
theorem rX1_isMatched_13 : pR 29 d 13 ls (.int x :: .ref o :: st) h = if pin x (plnQ h o) = true then pR 29 d 14 ls (va_rf (pctQ h o x.toNatClampNeg) :: st) h else none := pR_Lif rfl rfl
theorem rX1_isMatched_14 : pR 29 d 14 ls (.ref o :: st) h = if pis (pfl h 24 o 8) = true then pR 29 d 17 ls (pfl h 24 o 8 :: st) h else none := r_get rfl
theorem rX1_isMatched_17 : pR 29 d 17 ls st h = pR 29 d 19 ls (.int 8 :: st) h := pR_L rfl rfl
theorem rX1_isMatched_19 : pR 29 d 19 ls (.int y :: .int x :: st) h = if y < x then pR 29 d 26 ls st h else pR 29 d 22 ls st h := r_cgt rfl rfl
theorem rX1_isMatched_22 : pR 29 d 22 ls st h = pR 29 d 23 ls (.int 1 :: st) h := pR_L rfl rfl
theorem rX1_isMatched_23 : pR 29 d 23 ls st h = pR 29 d 27 ls st h := pR_L rfl rfl
theorem rX1_isMatched_26 : pR 29 d 26 ls st h = pR 29 d 27 ls (.int 0 :: st) h := pR_L rfl rfl
theorem rX1_isMatched_270 : pR 29 d 27 ls [.int 0] h = some (.inl (some (.int 0)), h) := pR_E rfl rfl
theorem rX1_isMatched_271 : pR 29 d 27 ls [.int 1] h = some (.inl (some (.int 1)), h) := pR_E rfl rfl
-- 30 BalloonStall areAlike (II)Z
theorem eX1_areAlike : pCa 30 d [.ref o, .int x0, .int x1] h = pR 30 d 0 [.ref o, .int x0, .int x1, pU, pU] [] h := rfl
theorem rX1_areAlike_0 : pR 30 d 0 [.ref o, a1, a2, a3, a4] st h = pR 30 d 1 [.ref o, a1, a2, a3, a4] (.ref o :: st) h := pR_L rfl rfl
theorem rX1_areAlike_1 : pR 30 d 1 ls (.ref o :: st) h = if pis (pfl h 1 o 4) = true then pR 30 d 4 ls (pfl h 1 o 4 :: st) h else none := r_get rfl
theorem rX1_areAlike_4 : pR 30 d 4 [a0, .int x, a2, a3, a4] st h = pR 30 d 5 [a0, .int x, a2, a3, a4] (.int x :: st) h := pR_L rfl rfl
theorem rX1_areAlike_5 : pR 30 d 5 ls (.int x :: .ref o :: st) h = if pin x (plnQ h o) = true then pR 30 d 6 ls (va_rf (pctQ h o x.toNatClampNeg) :: st) h else none := pR_Lif rfl rfl
theorem rX1_areAlike_6 : pR 30 d 6 [a0, a1, a2, a3, a4] (.ref o :: st) h = if p1 a3 = true then pR 30 d 7 [a0, a1, a2, .ref o, a4] st h else none := r_sto (n := 1) (k := 3) (v := .ref o) (ls := [a0, a1, a2, a3, a4]) rfl rfl rfl
theorem rX1_areAlike_6n : pR 30 d 6 [a0, a1, a2, a3, a4] (.null :: st) h = if p1 a3 = true then pR 30 d 7 [a0, a1, a2, .null, a4] st h else none := r_sto (n := 1) (k := 3) (v := .null) (ls := [a0, a1, a2, a3, a4]) rfl rfl rfl
theorem rX1_areAlike_7 : pR 30 d 7 [.ref o, a1, a2, a3, a4] st h = pR 30 d 8 [.ref o, a1, a2, a3, a4] (.ref o :: st) h := pR_L rfl rfl
theorem rX1_areAlike_8 : pR 30 d 8 ls (.ref o :: st) h = if pis (pfl h 1 o 4) = true then pR 30 d 11 ls (pfl h 1 o 4 :: st) h else none := r_get rfl
theorem rX1_areAlike_11 : pR 30 d 11 [a0, a1, .int x, a3, a4] st h = pR 30 d 12 [a0, a1, .int x, a3, a4] (.int x :: st) h := pR_L rfl rfl
theorem rX1_areAlike_12 : pR 30 d 12 ls (.int x :: .ref o :: st) h = if pin x (plnQ h o) = true then pR 30 d 13 ls (va_rf (pctQ h o x.toNatClampNeg) :: st) h else none := pR_Lif rfl rfl
theorem rX1_areAlike_13 : pR 30 d 13 [a0, a1, a2, a3, a4] (.ref o :: st) h = if p1 a4 = true then pR 30 d 15 [a0, a1, a2, a3, .ref o] st h else none := r_sto (n := 2) (k := 4) (v := .ref o) (ls := [a0, a1, a2, a3, a4]) rfl rfl rfl
theorem rX1_areAlike_13n : pR 30 d 13 [a0, a1, a2, a3, a4] (.null :: st) h = if p1 a4 = true then pR 30 d 15 [a0, a1, a2, a3, .null] st h else none := r_sto (n := 2) (k := 4) (v := .null) (ls := [a0, a1, a2, a3, a4]) rfl rfl rfl
theorem rX1_areAlike_15 : pR 30 d 15 [a0, a1, a2, .ref o, a4] st h = pR 30 d 16 [a0, a1, a2, .ref o, a4] (.ref o :: st) h := pR_L rfl rfl
theorem rX1_areAlike_15n : pR 30 d 15 [a0, a1, a2, .null, a4] st h = pR 30 d 16 [a0, a1, a2, .null, a4] (.null :: st) h := pR_L rfl rfl
theorem rX1_areAlike_16 : pR 30 d 16 ls (.ref o :: st) h = if pis (pfl h 24 o 8) = true then pR 30 d 19 ls (pfl h 24 o 8 :: st) h else none := r_get rfl
theorem rX1_areAlike_19 : pR 30 d 19 [a0, a1, a2, a3, .ref o] st h = pR 30 d 21 [a0, a1, a2, a3, .ref o] (.ref o :: st) h := pR_L rfl rfl
theorem rX1_areAlike_19n : pR 30 d 19 [a0, a1, a2, a3, .null] st h = pR 30 d 21 [a0, a1, a2, a3, .null] (.null :: st) h := pR_L rfl rfl
theorem rX1_areAlike_21 : pR 30 d 21 ls (.ref o :: st) h = if pis (pfl h 24 o 8) = true then pR 30 d 24 ls (pfl h 24 o 8 :: st) h else none := r_get rfl
theorem rX1_areAlike_24 : pR 30 d 24 ls (.int y :: .int x :: st) h = if x = y then pR 30 d 27 ls st h else pR 30 d 55 ls st h := r_cne rfl rfl
theorem rX1_areAlike_27 : pR 30 d 27 [a0, a1, a2, .ref o, a4] st h = pR 30 d 28 [a0, a1, a2, .ref o, a4] (.ref o :: st) h := pR_L rfl rfl
theorem rX1_areAlike_27n : pR 30 d 27 [a0, a1, a2, .null, a4] st h = pR 30 d 28 [a0, a1, a2, .null, a4] (.null :: st) h := pR_L rfl rfl
theorem rX1_areAlike_28 : pR 30 d 28 ls (.ref o :: st) h = if pis (pfl h 24 o 6) = true then pR 30 d 31 ls (pfl h 24 o 6 :: st) h else none := r_get rfl
theorem rX1_areAlike_31 : pR 30 d 31 [a0, a1, a2, a3, .ref o] st h = pR 30 d 33 [a0, a1, a2, a3, .ref o] (.ref o :: st) h := pR_L rfl rfl
theorem rX1_areAlike_31n : pR 30 d 31 [a0, a1, a2, a3, .null] st h = pR 30 d 33 [a0, a1, a2, a3, .null] (.null :: st) h := pR_L rfl rfl
theorem rX1_areAlike_33 : pR 30 d 33 ls (.ref o :: st) h = if pis (pfl h 24 o 6) = true then pR 30 d 36 ls (pfl h 24 o 6 :: st) h else none := r_get rfl
theorem rX1_areAlike_36 : pR 30 d 36 ls (.int y :: .int x :: st) h = if x = y then pR 30 d 39 ls st h else pR 30 d 55 ls st h := r_cne rfl rfl
theorem rX1_areAlike_39 : pR 30 d 39 [.ref o, a1, a2, a3, a4] st h = pR 30 d 40 [.ref o, a1, a2, a3, a4] (.ref o :: st) h := pR_L rfl rfl
theorem rX1_areAlike_40 : pR 30 d 40 [a0, a1, a2, .ref o, a4] st h = pR 30 d 41 [a0, a1, a2, .ref o, a4] (.ref o :: st) h := pR_L rfl rfl
theorem rX1_areAlike_40n : pR 30 d 40 [a0, a1, a2, .null, a4] st h = pR 30 d 41 [a0, a1, a2, .null, a4] (.null :: st) h := pR_L rfl rfl
theorem rX1_areAlike_41 : pR 30 d 41 [a0, a1, a2, a3, .ref o] st h = pR 30 d 43 [a0, a1, a2, a3, .ref o] (.ref o :: st) h := pR_L rfl rfl
theorem rX1_areAlike_41n : pR 30 d 41 [a0, a1, a2, a3, .null] st h = pR 30 d 43 [a0, a1, a2, a3, .null] (.null :: st) h := pR_L rfl rfl
theorem rX1_areAlike_43 : pR 30 d 43 ls st h = pR 30 d 44 ls (.int 0 :: st) h := pR_L rfl rfl
theorem rX1_areAlike_44 : pR 30 d 44 ls st h = pR 30 d 45 ls (.int 0 :: st) h := pR_L rfl rfl
theorem rX1_areAlike_45 : pR 30 (d + 1) 45 ls (b4 :: b3 :: b2 :: b1 :: .ref o :: st) h = if (pok 1 (pcl h o) && pw st) = true then pK 30 (d + 1) 45 3 ls st (pCa 31 d [.ref o, b1, b2, b3, b4] h) else none := r_callV rfl rfl rfl
theorem rX1_areAlike_48 : pR 30 d 48 ls (.int x :: st) h = if x = 0 then pR 30 d 55 ls st h else pR 30 d 51 ls st h := r_ieq rfl rfl
theorem rX1_areAlike_51 : pR 30 d 51 ls st h = pR 30 d 52 ls (.int 1 :: st) h := pR_L rfl rfl
theorem rX1_areAlike_52 : pR 30 d 52 ls st h = pR 30 d 56 ls st h := pR_L rfl rfl
theorem rX1_areAlike_55 : pR 30 d 55 ls st h = pR 30 d 56 ls (.int 0 :: st) h := pR_L rfl rfl
theorem rX1_areAlike_560 : pR 30 d 56 ls [.int 0] h = some (.inl (some (.int 0)), h) := pR_E rfl rfl
theorem rX1_areAlike_561 : pR 30 d 56 ls [.int 1] h = some (.inl (some (.int 1)), h) := pR_E rfl rfl
-- 31 BalloonStall matches (LBalloonStall$Figure;LBalloonStall$Figure;II)Z
theorem eX1_matches : pCa 31 d [.ref o, .ref r0, .ref r1, .int x2, .int x3] h = pR 31 d 0 [.ref o, .ref r0, .ref r1, .int x2, .int x3, pU] [] h := rfl
theorem rX1_matches_0 : pR 31 d 0 [a0, a1, a2, .int x, a4, a5] st h = pR 31 d 1 [a0, a1, a2, .int x, a4, a5] (.int x :: st) h := pR_L rfl rfl
theorem rX1_matches_1 : pR 31 d 1 [a0, .ref o, a2, a3, a4, a5] st h = pR 31 d 2 [a0, .ref o, a2, a3, a4, a5] (.ref o :: st) h := pR_L rfl rfl
theorem rX1_matches_1n : pR 31 d 1 [a0, .null, a2, a3, a4, a5] st h = pR 31 d 2 [a0, .null, a2, a3, a4, a5] (.null :: st) h := pR_L rfl rfl
theorem rX1_matches_2 : pR 31 d 2 ls (.ref o :: st) h = if pis (pfl h 24 o 8) = true then pR 31 d 5 ls (pfl h 24 o 8 :: st) h else none := r_get rfl
theorem rX1_matches_5 : pR 31 d 5 ls (.int y :: .int x :: st) h = if x = y then pR 31 d 8 ls st h else pR 31 d 10 ls st h := r_cne rfl rfl
theorem rX1_matches_8 : pR 31 d 8 ls st h = pR 31 d 9 ls (.int 1 :: st) h := pR_L rfl rfl
theorem rX1_matches_90 : pR 31 d 9 ls [.int 0] h = some (.inl (some (.int 0)), h) := pR_E rfl rfl
theorem rX1_matches_91 : pR 31 d 9 ls [.int 1] h = some (.inl (some (.int 1)), h) := pR_E rfl rfl
theorem rX1_matches_10 : pR 31 d 10 ls st h = pR 31 d 11 ls (.int 0 :: st) h := pR_L rfl rfl
theorem rX1_matches_11 : pR 31 d 11 [a0, a1, a2, a3, a4, a5] (.int x :: st) h = if p1 a5 = true then pR 31 d 13 [a0, a1, a2, a3, a4, .int x] st h else none := r_sto (n := 2) (k := 5) (v := .int x) (ls := [a0, a1, a2, a3, a4, a5]) rfl rfl rfl
theorem rX1_matches_13 : pR 31 d 13 [a0, a1, a2, a3, a4, .int x] st h = pR 31 d 15 [a0, a1, a2, a3, a4, .int x] (.int x :: st) h := pR_L rfl rfl
theorem rX1_matches_15 : pR 31 d 15 [a0, .ref o, a2, a3, a4, a5] st h = pR 31 d 16 [a0, .ref o, a2, a3, a4, a5] (.ref o :: st) h := pR_L rfl rfl
theorem rX1_matches_15n : pR 31 d 15 [a0, .null, a2, a3, a4, a5] st h = pR 31 d 16 [a0, .null, a2, a3, a4, a5] (.null :: st) h := pR_L rfl rfl
theorem rX1_matches_16 : pR 31 d 16 ls (.ref o :: st) h = if pis (pfl h 24 o 8) = true then pR 31 d 19 ls (pfl h 24 o 8 :: st) h else none := r_get rfl
theorem rX1_matches_19 : pR 31 d 19 ls (.int y :: .int x :: st) h = if x < y then pR 31 d 22 ls st h else pR 31 d 87 ls st h := r_cge rfl rfl
theorem rX1_matches_22 : pR 31 d 22 [a0, a1, a2, a3, .int x, a5] st h = pR 31 d 24 [a0, a1, a2, a3, .int x, a5] (.int x :: st) h := pR_L rfl rfl
theorem rX1_matches_24 : pR 31 d 24 [a0, a1, a2, a3, a4, .int x] st h = pR 31 d 26 [a0, a1, a2, a3, a4, .int x] (.int x :: st) h := pR_L rfl rfl
theorem rX1_matches_26 : pR 31 d 26 ls (.int y :: .int x :: st) h = pR 31 d 27 ls (.int (x >>> (y &&& 31)) :: st) h := pR_L rfl rfl
theorem rX1_matches_27 : pR 31 d 27 ls st h = pR 31 d 28 ls (.int 1 :: st) h := pR_L rfl rfl
theorem rX1_matches_28 : pR 31 d 28 ls (.int y :: .int x :: st) h = pR 31 d 29 ls (.int (x &&& y) :: st) h := pR_L rfl rfl
theorem rX1_matches_29 : pR 31 d 29 ls (.int x :: st) h = if x = 0 then pR 31 d 32 ls st h else pR 31 d 81 ls st h := r_ine rfl rfl
theorem rX1_matches_32 : pR 31 d 32 [a0, .ref o, a2, a3, a4, a5] st h = pR 31 d 33 [a0, .ref o, a2, a3, a4, a5] (.ref o :: st) h := pR_L rfl rfl
theorem rX1_matches_32n : pR 31 d 32 [a0, .null, a2, a3, a4, a5] st h = pR 31 d 33 [a0, .null, a2, a3, a4, a5] (.null :: st) h := pR_L rfl rfl
theorem rX1_matches_33 : pR 31 d 33 ls (.ref o :: st) h = if pis (pfl h 24 o 5) = true then pR 31 d 36 ls (pfl h 24 o 5 :: st) h else none := r_get rfl
theorem rX1_matches_36 : pR 31 d 36 [a0, a1, a2, .int x, a4, a5] st h = pR 31 d 37 [a0, a1, a2, .int x, a4, a5] (.int x :: st) h := pR_L rfl rfl
theorem rX1_matches_37 : pR 31 d 37 ls (.int x :: .ref o :: st) h = if (pin x (pln h 0 o) || pin x (pln h 9 o)) = true then pR 31 d 38 ls (.int (pct h o x.toNatClampNeg) :: st) h else none := pR_Lif rfl rfl
theorem rX1_matches_38 : pR 31 d 38 [a0, a1, .ref o, a3, a4, a5] st h = pR 31 d 39 [a0, a1, .ref o, a3, a4, a5] (.ref o :: st) h := pR_L rfl rfl
theorem rX1_matches_38n : pR 31 d 38 [a0, a1, .null, a3, a4, a5] st h = pR 31 d 39 [a0, a1, .null, a3, a4, a5] (.null :: st) h := pR_L rfl rfl
theorem rX1_matches_39 : pR 31 d 39 ls (.ref o :: st) h = if pis (pfl h 24 o 5) = true then pR 31 d 42 ls (pfl h 24 o 5 :: st) h else none := r_get rfl
theorem rX1_matches_42 : pR 31 d 42 [a0, a1, a2, a3, a4, .int x] st h = pR 31 d 44 [a0, a1, a2, a3, a4, .int x] (.int x :: st) h := pR_L rfl rfl
theorem rX1_matches_44 : pR 31 d 44 ls (.int x :: .ref o :: st) h = if (pin x (pln h 0 o) || pin x (pln h 9 o)) = true then pR 31 d 45 ls (.int (pct h o x.toNatClampNeg) :: st) h else none := pR_Lif rfl rfl
theorem rX1_matches_45 : pR 31 d 45 ls (.int y :: .int x :: st) h = if x = y then pR 31 d 48 ls st h else pR 31 d 81 ls st h := r_cne rfl rfl
theorem rX1_matches_48 : pR 31 d 48 [.ref o, a1, a2, a3, a4, a5] st h = pR 31 d 49 [.ref o, a1, a2, a3, a4, a5] (.ref o :: st) h := pR_L rfl rfl
theorem rX1_matches_49 : pR 31 d 49 [a0, .ref o, a2, a3, a4, a5] st h = pR 31 d 50 [a0, .ref o, a2, a3, a4, a5] (.ref o :: st) h := pR_L rfl rfl
theorem rX1_matches_49n : pR 31 d 49 [a0, .null, a2, a3, a4, a5] st h = pR 31 d 50 [a0, .null, a2, a3, a4, a5] (.null :: st) h := pR_L rfl rfl
theorem rX1_matches_50 : pR 31 d 50 [a0, a1, .ref o, a3, a4, a5] st h = pR 31 d 51 [a0, a1, .ref o, a3, a4, a5] (.ref o :: st) h := pR_L rfl rfl
theorem rX1_matches_50n : pR 31 d 50 [a0, a1, .null, a3, a4, a5] st h = pR 31 d 51 [a0, a1, .null, a3, a4, a5] (.null :: st) h := pR_L rfl rfl
theorem rX1_matches_51 : pR 31 d 51 [a0, a1, a2, .int x, a4, a5] st h = pR 31 d 52 [a0, a1, a2, .int x, a4, a5] (.int x :: st) h := pR_L rfl rfl
theorem rX1_matches_52 : pR 31 d 52 [a0, a1, a2, a3, a4, .int x] st h = pR 31 d 54 [a0, a1, a2, a3, a4, .int x] (.int x :: st) h := pR_L rfl rfl
theorem rX1_matches_54 : pR 31 (d + 1) 54 ls (b4 :: b3 :: b2 :: b1 :: .ref o :: st) h = if (pok 1 (pcl h o) && pw st) = true then pK 31 (d + 1) 54 3 ls st (pCa 32 d [.ref o, b1, b2, b3, b4] h) else none := r_callV rfl rfl rfl
theorem rX1_matches_57 : pR 31 d 57 ls (.int x :: st) h = if x = 0 then pR 31 d 81 ls st h else pR 31 d 60 ls st h := r_ieq rfl rfl
theorem rX1_matches_60 : pR 31 d 60 [.ref o, a1, a2, a3, a4, a5] st h = pR 31 d 61 [.ref o, a1, a2, a3, a4, a5] (.ref o :: st) h := pR_L rfl rfl
theorem rX1_matches_61 : pR 31 d 61 [a0, .ref o, a2, a3, a4, a5] st h = pR 31 d 62 [a0, .ref o, a2, a3, a4, a5] (.ref o :: st) h := pR_L rfl rfl
theorem rX1_matches_61n : pR 31 d 61 [a0, .null, a2, a3, a4, a5] st h = pR 31 d 62 [a0, .null, a2, a3, a4, a5] (.null :: st) h := pR_L rfl rfl
theorem rX1_matches_62 : pR 31 d 62 [a0, a1, .ref o, a3, a4, a5] st h = pR 31 d 63 [a0, a1, .ref o, a3, a4, a5] (.ref o :: st) h := pR_L rfl rfl
theorem rX1_matches_62n : pR 31 d 62 [a0, a1, .null, a3, a4, a5] st h = pR 31 d 63 [a0, a1, .null, a3, a4, a5] (.null :: st) h := pR_L rfl rfl
theorem rX1_matches_63 : pR 31 d 63 [a0, a1, a2, .int x, a4, a5] st h = pR 31 d 64 [a0, a1, a2, .int x, a4, a5] (.int x :: st) h := pR_L rfl rfl
theorem rX1_matches_64 : pR 31 d 64 ls st h = pR 31 d 65 ls (.int 1 :: st) h := pR_L rfl rfl
theorem rX1_matches_65 : pR 31 d 65 ls (.int y :: .int x :: st) h = pR 31 d 66 ls (.int (x + y) :: st) h := pR_L rfl rfl
theorem rX1_matches_66 : pR 31 d 66 [a0, a1, a2, a3, .int x, a5] st h = pR 31 d 68 [a0, a1, a2, a3, .int x, a5] (.int x :: st) h := pR_L rfl rfl
theorem rX1_matches_68 : pR 31 d 68 ls st h = pR 31 d 69 ls (.int 1 :: st) h := pR_L rfl rfl
theorem rX1_matches_69 : pR 31 d 69 [a0, a1, a2, a3, a4, .int x] st h = pR 31 d 71 [a0, a1, a2, a3, a4, .int x] (.int x :: st) h := pR_L rfl rfl
theorem rX1_matches_71 : pR 31 d 71 ls (.int y :: .int x :: st) h = pR 31 d 72 ls (.int (x <<< (y &&& 31)) :: st) h := pR_L rfl rfl
theorem rX1_matches_72 : pR 31 d 72 ls (.int y :: .int x :: st) h = pR 31 d 73 ls (.int (x ||| y) :: st) h := pR_L rfl rfl
theorem rX1_matches_73 : pR 31 (d + 1) 73 ls (b4 :: b3 :: b2 :: b1 :: .ref o :: st) h = if (pok 1 (pcl h o) && pw st) = true then pK 31 (d + 1) 73 3 ls st (pCa 31 d [.ref o, b1, b2, b3, b4] h) else none := r_callV rfl rfl rfl
theorem rX1_matches_76 : pR 31 d 76 ls (.int x :: st) h = if x = 0 then pR 31 d 81 ls st h else pR 31 d 79 ls st h := r_ieq rfl rfl
theorem rX1_matches_79 : pR 31 d 79 ls st h = pR 31 d 80 ls (.int 1 :: st) h := pR_L rfl rfl
theorem rX1_matches_800 : pR 31 d 80 ls [.int 0] h = some (.inl (some (.int 0)), h) := pR_E rfl rfl
theorem rX1_matches_801 : pR 31 d 80 ls [.int 1] h = some (.inl (some (.int 1)), h) := pR_E rfl rfl
theorem rX1_matches_81 : pR 31 d 81 [a0, a1, a2, a3, a4, .int x] st h = pR 31 d 84 [a0, a1, a2, a3, a4, .int (x + 1)] st h := pR_L rfl rfl
theorem rX1_matches_84 : pR 31 d 84 ls st h = pR 31 d 13 ls st h := pR_L rfl rfl
theorem rX1_matches_87 : pR 31 d 87 ls st h = pR 31 d 88 ls (.int 0 :: st) h := pR_L rfl rfl
theorem rX1_matches_880 : pR 31 d 88 ls [.int 0] h = some (.inl (some (.int 0)), h) := pR_E rfl rfl
theorem rX1_matches_881 : pR 31 d 88 ls [.int 1] h = some (.inl (some (.int 1)), h) := pR_E rfl rfl
-- 32 BalloonStall fits (LBalloonStall$Figure;LBalloonStall$Figure;II)Z
theorem eX1_fits : pCa 32 d [.ref o, .ref r0, .ref r1, .int x2, .int x3] h = pR 32 d 0 [.ref o, .ref r0, .ref r1, .int x2, .int x3, pU, pU] [] h := rfl
theorem rX1_fits_0 : pR 32 d 0 [.ref o, a1, a2, a3, a4, a5, a6] st h = pR 32 d 1 [.ref o, a1, a2, a3, a4, a5, a6] (.ref o :: st) h := pR_L rfl rfl
theorem rX1_fits_1 : pR 32 d 1 ls (.ref o :: st) h = if pis (pfl h 1 o 6) = true then pR 32 d 4 ls (pfl h 1 o 6 :: st) h else none := r_get rfl
theorem rX1_fits_4 : pR 32 d 4 [a0, a1, a2, .int x, a4, a5, a6] st h = pR 32 d 5 [a0, a1, a2, .int x, a4, a5, a6] (.int x :: st) h := pR_L rfl rfl
theorem rX1_fits_5 : pR 32 d 5 [a0, a1, a2, a3, .int x, a5, a6] st h = pR 32 d 7 [a0, a1, a2, a3, .int x, a5, a6] (.int x :: st) h := pR_L rfl rfl
theorem rX1_fits_7 : pR 32 d 7 ls (.int y :: .int x :: .ref o :: st) h = if pin x (pln h 0 o) = true then pR 32 d 8 ls st (pst h o x.toNatClampNeg y) else none := pR_Lif rfl rfl
theorem rX1_fits_8 : pR 32 d 8 ls st h = pR 32 d 9 ls (.int 0 :: st) h := pR_L rfl rfl
theorem rX1_fits_9 : pR 32 d 9 [a0, a1, a2, a3, a4, a5, a6] (.int x :: st) h = if p1 a5 = true then pR 32 d 11 [a0, a1, a2, a3, a4, .int x, a6] st h else none := r_sto (n := 2) (k := 5) (v := .int x) (ls := [a0, a1, a2, a3, a4, a5, a6]) rfl rfl rfl
theorem rX1_fits_11 : pR 32 d 11 [a0, a1, a2, a3, a4, .int x, a6] st h = pR 32 d 13 [a0, a1, a2, a3, a4, .int x, a6] (.int x :: st) h := pR_L rfl rfl
theorem rX1_fits_13 : pR 32 d 13 [a0, .ref o, a2, a3, a4, a5, a6] st h = pR 32 d 14 [a0, .ref o, a2, a3, a4, a5, a6] (.ref o :: st) h := pR_L rfl rfl
theorem rX1_fits_13n : pR 32 d 13 [a0, .null, a2, a3, a4, a5, a6] st h = pR 32 d 14 [a0, .null, a2, a3, a4, a5, a6] (.null :: st) h := pR_L rfl rfl
theorem rX1_fits_14 : pR 32 d 14 ls (.ref o :: st) h = if pis (pfl h 24 o 6) = true then pR 32 d 17 ls (pfl h 24 o 6 :: st) h else none := r_get rfl
theorem rX1_fits_17 : pR 32 d 17 ls (.int y :: .int x :: st) h = if x < y then pR 32 d 20 ls st h else pR 32 d 80 ls st h := r_cge rfl rfl
theorem rX1_fits_20 : pR 32 d 20 ls st h = pR 32 d 21 ls (.int 0 :: st) h := pR_L rfl rfl
theorem rX1_fits_21 : pR 32 d 21 [a0, a1, a2, a3, a4, a5, a6] (.int x :: st) h = if p1 a6 = true then pR 32 d 23 [a0, a1, a2, a3, a4, a5, .int x] st h else none := r_sto (n := 2) (k := 6) (v := .int x) (ls := [a0, a1, a2, a3, a4, a5, a6]) rfl rfl rfl
theorem rX1_fits_23 : pR 32 d 23 [a0, a1, a2, a3, a4, a5, .int x] st h = pR 32 d 25 [a0, a1, a2, a3, a4, a5, .int x] (.int x :: st) h := pR_L rfl rfl
theorem rX1_fits_25 : pR 32 d 25 [a0, a1, a2, .int x, a4, a5, a6] st h = pR 32 d 26 [a0, a1, a2, .int x, a4, a5, a6] (.int x :: st) h := pR_L rfl rfl
theorem rX1_fits_26 : pR 32 d 26 ls (.int y :: .int x :: st) h = if y < x then pR 32 d 74 ls st h else pR 32 d 29 ls st h := r_cgt rfl rfl
theorem rX1_fits_29 : pR 32 d 29 [a0, .ref o, a2, a3, a4, a5, a6] st h = pR 32 d 30 [a0, .ref o, a2, a3, a4, a5, a6] (.ref o :: st) h := pR_L rfl rfl
theorem rX1_fits_29n : pR 32 d 29 [a0, .null, a2, a3, a4, a5, a6] st h = pR 32 d 30 [a0, .null, a2, a3, a4, a5, a6] (.null :: st) h := pR_L rfl rfl
theorem rX1_fits_30 : pR 32 d 30 [a0, a1, a2, a3, a4, a5, .int x] st h = pR 32 d 32 [a0, a1, a2, a3, a4, a5, .int x] (.int x :: st) h := pR_L rfl rfl
theorem rX1_fits_32 : pR 32 d 32 [a0, a1, a2, .int x, a4, a5, a6] st h = pR 32 d 33 [a0, a1, a2, .int x, a4, a5, a6] (.int x :: st) h := pR_L rfl rfl
theorem rX1_fits_33 : pR 32 d 33 [a0, .ref o, a2, a3, a4, a5, a6] st h = pR 32 d 34 [a0, .ref o, a2, a3, a4, a5, a6] (.ref o :: st) h := pR_L rfl rfl
theorem rX1_fits_33n : pR 32 d 33 [a0, .null, a2, a3, a4, a5, a6] st h = pR 32 d 34 [a0, .null, a2, a3, a4, a5, a6] (.null :: st) h := pR_L rfl rfl
theorem rX1_fits_34 : pR 32 d 34 ls (.ref o :: st) h = if pis (pfl h 24 o 2) = true then pR 32 d 37 ls (pfl h 24 o 2 :: st) h else none := r_get rfl
theorem rX1_fits_37 : pR 32 d 37 [a0, a1, a2, a3, a4, .int x, a6] st h = pR 32 d 39 [a0, a1, a2, a3, a4, .int x, a6] (.int x :: st) h := pR_L rfl rfl
theorem rX1_fits_39 : pR 32 d 39 ls (.int x :: .ref o :: st) h = if (pin x (pln h 0 o) || pin x (pln h 9 o)) = true then pR 32 d 40 ls (.int (pct h o x.toNatClampNeg) :: st) h else none := pR_Lif rfl rfl
theorem rX1_fits_40 : pR 32 (d + 1) 40 ls (b3 :: b2 :: b1 :: .ref o :: st) h = if (pok 24 (pcl h o) && pw st) = true then pK 32 (d + 1) 40 3 ls st (pCa 243 d [.ref o, b1, b2, b3] h) else none := r_callV rfl rfl rfl
theorem rX1_fits_43 : pR 32 d 43 [a0, a1, .ref o, a3, a4, a5, a6] st h = pR 32 d 44 [a0, a1, .ref o, a3, a4, a5, a6] (.ref o :: st) h := pR_L rfl rfl
theorem rX1_fits_43n : pR 32 d 43 [a0, a1, .null, a3, a4, a5, a6] st h = pR 32 d 44 [a0, a1, .null, a3, a4, a5, a6] (.null :: st) h := pR_L rfl rfl
theorem rX1_fits_44 : pR 32 d 44 [.ref o, a1, a2, a3, a4, a5, a6] st h = pR 32 d 45 [.ref o, a1, a2, a3, a4, a5, a6] (.ref o :: st) h := pR_L rfl rfl
theorem rX1_fits_45 : pR 32 d 45 ls (.ref o :: st) h = if pis (pfl h 1 o 6) = true then pR 32 d 48 ls (pfl h 1 o 6 :: st) h else none := r_get rfl
theorem rX1_fits_48 : pR 32 d 48 [a0, a1, a2, a3, a4, a5, .int x] st h = pR 32 d 50 [a0, a1, a2, a3, a4, a5, .int x] (.int x :: st) h := pR_L rfl rfl
theorem rX1_fits_50 : pR 32 d 50 ls (.int x :: .ref o :: st) h = if (pin x (pln h 0 o) || pin x (pln h 9 o)) = true then pR 32 d 51 ls (.int (pct h o x.toNatClampNeg) :: st) h else none := pR_Lif rfl rfl
theorem rX1_fits_51 : pR 32 d 51 [a0, a1, a2, a3, .int x, a5, a6] st h = pR 32 d 53 [a0, a1, a2, a3, .int x, a5, a6] (.int x :: st) h := pR_L rfl rfl
theorem rX1_fits_53 : pR 32 d 53 [a0, .ref o, a2, a3, a4, a5, a6] st h = pR 32 d 54 [a0, .ref o, a2, a3, a4, a5, a6] (.ref o :: st) h := pR_L rfl rfl
theorem rX1_fits_53n : pR 32 d 53 [a0, .null, a2, a3, a4, a5, a6] st h = pR 32 d 54 [a0, .null, a2, a3, a4, a5, a6] (.null :: st) h := pR_L rfl rfl
theorem rX1_fits_54 : pR 32 d 54 ls (.ref o :: st) h = if pis (pfl h 24 o 2) = true then pR 32 d 57 ls (pfl h 24 o 2 :: st) h else none := r_get rfl
theorem rX1_fits_57 : pR 32 d 57 [a0, a1, a2, a3, a4, .int x, a6] st h = pR 32 d 59 [a0, a1, a2, a3, a4, .int x, a6] (.int x :: st) h := pR_L rfl rfl
theorem rX1_fits_59 : pR 32 d 59 ls (.int x :: .ref o :: st) h = if (pin x (pln h 0 o) || pin x (pln h 9 o)) = true then pR 32 d 60 ls (.int (pct h o x.toNatClampNeg) :: st) h else none := pR_Lif rfl rfl
theorem rX1_fits_60 : pR 32 (d + 1) 60 ls (b3 :: b2 :: b1 :: .ref o :: st) h = if (pok 24 (pcl h o) && pw st) = true then pK 32 (d + 1) 60 3 ls st (pCa 243 d [.ref o, b1, b2, b3] h) else none := r_callV rfl rfl rfl
theorem rX1_fits_63 : pR 32 d 63 ls (.int y :: .int x :: st) h = if x = y then pR 32 d 68 ls st h else pR 32 d 66 ls st h := r_ceq rfl rfl
theorem rX1_fits_66 : pR 32 d 66 ls st h = pR 32 d 67 ls (.int 0 :: st) h := pR_L rfl rfl
theorem rX1_fits_670 : pR 32 d 67 ls [.int 0] h = some (.inl (some (.int 0)), h) := pR_E rfl rfl
theorem rX1_fits_671 : pR 32 d 67 ls [.int 1] h = some (.inl (some (.int 1)), h) := pR_E rfl rfl
theorem rX1_fits_68 : pR 32 d 68 [a0, a1, a2, a3, a4, a5, .int x] st h = pR 32 d 71 [a0, a1, a2, a3, a4, a5, .int (x + 1)] st h := pR_L rfl rfl
theorem rX1_fits_71 : pR 32 d 71 ls st h = pR 32 d 23 ls st h := pR_L rfl rfl
theorem rX1_fits_74 : pR 32 d 74 [a0, a1, a2, a3, a4, .int x, a6] st h = pR 32 d 77 [a0, a1, a2, a3, a4, .int (x + 1), a6] st h := pR_L rfl rfl
theorem rX1_fits_77 : pR 32 d 77 ls st h = pR 32 d 11 ls st h := pR_L rfl rfl
theorem rX1_fits_80 : pR 32 d 80 ls st h = pR 32 d 81 ls (.int 1 :: st) h := pR_L rfl rfl
theorem rX1_fits_810 : pR 32 d 81 ls [.int 0] h = some (.inl (some (.int 0)), h) := pR_E rfl rfl
theorem rX1_fits_811 : pR 32 d 81 ls [.int 1] h = some (.inl (some (.int 1)), h) := pR_E rfl rfl
-- 33 BalloonStall match (III)I
theorem eX1_match : pCa 33 d [.ref o, .int x0, .int x1, .int x2] h = pR 33 d 0 [.ref o, .int x0, .int x1, .int x2] [] h := rfl
theorem rX1_match_0 : pR 33 d 0 [.ref o, a1, a2, a3] st h = pR 33 d 1 [.ref o, a1, a2, a3] (.ref o :: st) h := pR_L rfl rfl
theorem rX1_match_1 : pR 33 d 1 [a0, .int x, a2, a3] st h = pR 33 d 2 [a0, .int x, a2, a3] (.int x :: st) h := pR_L rfl rfl
theorem rX1_match_2 : pR 33 (d + 1) 2 ls (b1 :: .ref o :: st) h = if (pok 1 (pcl h o) && pw st) = true then pK 33 (d + 1) 2 3 ls st (pCa 29 d [.ref o, b1] h) else none := r_callV rfl rfl rfl
theorem rX1_match_5 : pR 33 d 5 ls (.int x :: st) h = if x = 0 then pR 33 d 43 ls st h else pR 33 d 8 ls st h := r_ieq rfl rfl
theorem rX1_match_8 : pR 33 d 8 [.ref o, a1, a2, a3] st h = pR 33 d 9 [.ref o, a1, a2, a3] (.ref o :: st) h := pR_L rfl rfl
theorem rX1_match_9 : pR 33 d 9 [a0, a1, .int x, a3] st h = pR 33 d 10 [a0, a1, .int x, a3] (.int x :: st) h := pR_L rfl rfl
theorem rX1_match_10 : pR 33 (d + 1) 10 ls (b1 :: .ref o :: st) h = if (pok 1 (pcl h o) && pw st) = true then pK 33 (d + 1) 10 3 ls st (pCa 29 d [.ref o, b1] h) else none := r_callV rfl rfl rfl
theorem rX1_match_13 : pR 33 d 13 ls (.int x :: st) h = if x = 0 then pR 33 d 43 ls st h else pR 33 d 16 ls st h := r_ieq rfl rfl
theorem rX1_match_16 : pR 33 d 16 [.ref o, a1, a2, a3] st h = pR 33 d 17 [.ref o, a1, a2, a3] (.ref o :: st) h := pR_L rfl rfl
theorem rX1_match_17 : pR 33 d 17 [a0, .int x, a2, a3] st h = pR 33 d 18 [a0, .int x, a2, a3] (.int x :: st) h := pR_L rfl rfl
theorem rX1_match_18 : pR 33 d 18 [a0, a1, a2, .int x] st h = pR 33 d 19 [a0, a1, a2, .int x] (.int x :: st) h := pR_L rfl rfl
theorem rX1_match_19 : pR 33 (d + 1) 19 ls (b2 :: b1 :: .ref o :: st) h = if (pok 1 (pcl h o) && pw st) = true then pK 33 (d + 1) 19 3 ls st (pCa 17 d [.ref o, b1, b2] h) else none := r_callV rfl rfl rfl
theorem rX1_match_22 : pR 33 d 22 ls (.int x :: st) h = if x = 0 then pR 33 d 43 ls st h else pR 33 d 25 ls st h := r_ieq rfl rfl
theorem rX1_match_25 : pR 33 d 25 [.ref o, a1, a2, a3] st h = pR 33 d 26 [.ref o, a1, a2, a3] (.ref o :: st) h := pR_L rfl rfl
theorem rX1_match_26 : pR 33 d 26 [a0, .int x, a2, a3] st h = pR 33 d 27 [a0, .int x, a2, a3] (.int x :: st) h := pR_L rfl rfl
theorem rX1_match_27 : pR 33 d 27 [a0, a1, .int x, a3] st h = pR 33 d 28 [a0, a1, .int x, a3] (.int x :: st) h := pR_L rfl rfl
theorem rX1_match_28 : pR 33 (d + 1) 28 ls (b2 :: b1 :: .ref o :: st) h = if (pok 1 (pcl h o) && pw st) = true then pK 33 (d + 1) 28 3 ls st (pCa 30 d [.ref o, b1, b2] h) else none := r_callV rfl rfl rfl
theorem rX1_match_31 : pR 33 d 31 ls (.int x :: st) h = if x = 0 then pR 33 d 43 ls st h else pR 33 d 34 ls st h := r_ieq rfl rfl
theorem rX1_match_34 : pR 33 d 34 [.ref o, a1, a2, a3] st h = pR 33 d 35 [.ref o, a1, a2, a3] (.ref o :: st) h := pR_L rfl rfl
theorem rX1_match_35 : pR 33 d 35 ls (.ref o :: st) h = if pis (pfl h 1 o 6) = true then pR 33 d 38 ls (pfl h 1 o 6 :: st) h else none := r_get rfl
theorem rX1_match_38 : pR 33 d 38 [a0, a1, a2, .int x] st h = pR 33 d 39 [a0, a1, a2, .int x] (.int x :: st) h := pR_L rfl rfl
theorem rX1_match_39 : pR 33 d 39 ls (.int x :: .ref o :: st) h = if (pin x (pln h 0 o) || pin x (pln h 9 o)) = true then pR 33 d 40 ls (.int (pct h o x.toNatClampNeg) :: st) h else none := pR_Lif rfl rfl
theorem rX1_match_40 : pR 33 d 40 ls st h = pR 33 d 44 ls st h := pR_L rfl rfl
theorem rX1_match_43 : pR 33 d 43 ls st h = pR 33 d 44 ls (.int (-1) :: st) h := pR_L rfl rfl
theorem rX1_match_44 : pR 33 d 44 ls [.int x] h = some (.inl (some (.int x)), h) := pR_E rfl rfl
-- 34 BalloonStall far (III)I
theorem eX1_far : pCa 34 d [.ref o, .int x0, .int x1, .int x2] h = pR 34 d 0 [.ref o, .int x0, .int x1, .int x2] [] h := rfl
theorem rX1_far_0 : pR 34 d 0 [.ref o, a1, a2, a3] st h = pR 34 d 1 [.ref o, a1, a2, a3] (.ref o :: st) h := pR_L rfl rfl
theorem rX1_far_1 : pR 34 d 1 [a0, .int x, a2, a3] st h = pR 34 d 2 [a0, .int x, a2, a3] (.int x :: st) h := pR_L rfl rfl
theorem rX1_far_2 : pR 34 d 2 [a0, a1, .int x, a3] st h = pR 34 d 3 [a0, a1, .int x, a3] (.int x :: st) h := pR_L rfl rfl
theorem rX1_far_3 : pR 34 (d + 1) 3 ls (b2 :: b1 :: .ref o :: st) h = if (pok 1 (pcl h o) && pw st) = true then pK 34 (d + 1) 3 3 ls st (pCa 17 d [.ref o, b1, b2] h) else none := r_callV rfl rfl rfl
theorem rX1_far_6 : pR 34 d 6 ls (.int x :: st) h = if x = 0 then pR 34 d 18 ls st h else pR 34 d 9 ls st h := r_ieq rfl rfl
theorem rX1_far_9 : pR 34 d 9 [.ref o, a1, a2, a3] st h = pR 34 d 10 [.ref o, a1, a2, a3] (.ref o :: st) h := pR_L rfl rfl
theorem rX1_far_10 : pR 34 d 10 [a0, .int x, a2, a3] st h = pR 34 d 11 [a0, .int x, a2, a3] (.int x :: st) h := pR_L rfl rfl
theorem rX1_far_11 : pR 34 d 11 [a0, a1, a2, .int x] st h = pR 34 d 12 [a0, a1, a2, .int x] (.int x :: st) h := pR_L rfl rfl
theorem rX1_far_12 : pR 34 (d + 1) 12 ls (b2 :: b1 :: .ref o :: st) h = if (pok 1 (pcl h o) && pw st) = true then pK 34 (d + 1) 12 3 ls st (pCa 17 d [.ref o, b1, b2] h) else none := r_callV rfl rfl rfl
theorem rX1_far_15 : pR 34 d 15 ls (.int x :: st) h = if x = 0 then pR 34 d 18 ls st h else pR 34 d 20 ls st h := r_ine rfl rfl
theorem rX1_far_18 : pR 34 d 18 ls st h = pR 34 d 19 ls (.int (-1) :: st) h := pR_L rfl rfl
theorem rX1_far_19 : pR 34 d 19 ls [.int x] h = some (.inl (some (.int x)), h) := pR_E rfl rfl
theorem rX1_far_20 : pR 34 d 20 [.ref o, a1, a2, a3] st h = pR 34 d 21 [.ref o, a1, a2, a3] (.ref o :: st) h := pR_L rfl rfl
theorem rX1_far_21 : pR 34 d 21 [.ref o, a1, a2, a3] st h = pR 34 d 22 [.ref o, a1, a2, a3] (.ref o :: st) h := pR_L rfl rfl
theorem rX1_far_22 : pR 34 d 22 ls (.ref o :: st) h = if pis (pfl h 1 o 4) = true then pR 34 d 25 ls (pfl h 1 o 4 :: st) h else none := r_get rfl
theorem rX1_far_25 : pR 34 d 25 [a0, .int x, a2, a3] st h = pR 34 d 26 [a0, .int x, a2, a3] (.int x :: st) h := pR_L rfl rfl
theorem rX1_far_26 : pR 34 d 26 ls (.int x :: .ref o :: st) h = if pin x (plnQ h o) = true then pR 34 d 27 ls (va_rf (pctQ h o x.toNatClampNeg) :: st) h else none := pR_Lif rfl rfl
theorem rX1_far_27 : pR 34 (d + 1) 27 ls (b1 :: .ref o :: st) h = if (pok 1 (pcl h o) && pw st) = true then pK 34 (d + 1) 27 3 ls st (pCa 35 d [.ref o, b1] h) else none := r_callV rfl rfl rfl
theorem rX1_far_30 : pR 34 d 30 [.ref o, a1, a2, a3] st h = pR 34 d 31 [.ref o, a1, a2, a3] (.ref o :: st) h := pR_L rfl rfl
theorem rX1_far_31 : pR 34 d 31 ls (.ref o :: st) h = if pis (pfl h 1 o 7) = true then pR 34 d 34 ls (pfl h 1 o 7 :: st) h else none := r_get rfl
theorem rX1_far_34 : pR 34 d 34 ls st h = pR 34 d 36 ls (.int 32 :: st) h := pR_L rfl rfl
theorem rX1_far_36 : pR 34 d 36 [a0, a1, .int x, a3] st h = pR 34 d 37 [a0, a1, .int x, a3] (.int x :: st) h := pR_L rfl rfl
theorem rX1_far_37 : pR 34 d 37 ls (.int y :: .int x :: st) h = pR 34 d 38 ls (.int (x * y) :: st) h := pR_L rfl rfl
theorem rX1_far_38 : pR 34 d 38 [a0, a1, a2, .int x] st h = pR 34 d 39 [a0, a1, a2, .int x] (.int x :: st) h := pR_L rfl rfl
theorem rX1_far_39 : pR 34 d 39 ls (.int y :: .int x :: st) h = pR 34 d 40 ls (.int (x + y) :: st) h := pR_L rfl rfl
theorem rX1_far_40 : pR 34 d 40 ls (.int x :: .ref o :: st) h = if (pin x (pln h 0 o) || pin x (pln h 9 o)) = true then pR 34 d 41 ls (.int (pct h o x.toNatClampNeg) :: st) h else none := pR_Lif rfl rfl
theorem rX1_far_41 : pR 34 d 41 ls st h = pR 34 d 44 ls (.int 1000000 :: st) h := pR_X rfl rfl
theorem rX1_far_44 : pR 34 d 44 ls (.int y :: .int x :: st) h = if x < y then pR 34 d 47 ls st h else pR 34 d 61 ls st h := r_cge rfl rfl
theorem rX1_far_47 : pR 34 d 47 [.ref o, a1, a2, a3] st h = pR 34 d 48 [.ref o, a1, a2, a3] (.ref o :: st) h := pR_L rfl rfl
theorem rX1_far_48 : pR 34 d 48 ls (.ref o :: st) h = if pis (pfl h 1 o 7) = true then pR 34 d 51 ls (pfl h 1 o 7 :: st) h else none := r_get rfl
theorem rX1_far_51 : pR 34 d 51 ls st h = pR 34 d 53 ls (.int 32 :: st) h := pR_L rfl rfl
theorem rX1_far_53 : pR 34 d 53 [a0, a1, .int x, a3] st h = pR 34 d 54 [a0, a1, .int x, a3] (.int x :: st) h := pR_L rfl rfl
theorem rX1_far_54 : pR 34 d 54 ls (.int y :: .int x :: st) h = pR 34 d 55 ls (.int (x * y) :: st) h := pR_L rfl rfl
theorem rX1_far_55 : pR 34 d 55 [a0, a1, a2, .int x] st h = pR 34 d 56 [a0, a1, a2, .int x] (.int x :: st) h := pR_L rfl rfl
theorem rX1_far_56 : pR 34 d 56 ls (.int y :: .int x :: st) h = pR 34 d 57 ls (.int (x + y) :: st) h := pR_L rfl rfl
theorem rX1_far_57 : pR 34 d 57 ls (.int x :: .ref o :: st) h = if (pin x (pln h 0 o) || pin x (pln h 9 o)) = true then pR 34 d 58 ls (.int (pct h o x.toNatClampNeg) :: st) h else none := pR_Lif rfl rfl
theorem rX1_far_58 : pR 34 d 58 ls st h = pR 34 d 62 ls st h := pR_L rfl rfl
theorem rX1_far_61 : pR 34 d 61 ls st h = pR 34 d 62 ls (.int (-1) :: st) h := pR_L rfl rfl
theorem rX1_far_62 : pR 34 d 62 ls [.int x] h = some (.inl (some (.int x)), h) := pR_E rfl rfl
-- 35 BalloonStall layFars (LBalloonStall$Figure;)V
theorem eX1_layFars : pCa 35 d [.ref o, .ref r0] h = pR 35 d 0 [.ref o, .ref r0, pU, pU, pU] [] h := rfl
theorem rX1_layFars_0 : pR 35 d 0 ls st h = pR 35 d 1 ls (.int 0 :: st) h := pR_L rfl rfl
theorem rX1_layFars_1 : pR 35 d 1 [a0, a1, a2, a3, a4] (.int x :: st) h = if p1 a2 = true then pR 35 d 2 [a0, a1, .int x, a3, a4] st h else none := r_sto (n := 1) (k := 2) (v := .int x) (ls := [a0, a1, a2, a3, a4]) rfl rfl rfl
theorem rX1_layFars_2 : pR 35 d 2 [a0, a1, .int x, a3, a4] st h = pR 35 d 3 [a0, a1, .int x, a3, a4] (.int x :: st) h := pR_L rfl rfl
theorem rX1_layFars_3 : pR 35 d 3 [a0, .ref o, a2, a3, a4] st h = pR 35 d 4 [a0, .ref o, a2, a3, a4] (.ref o :: st) h := pR_L rfl rfl
theorem rX1_layFars_3n : pR 35 d 3 [a0, .null, a2, a3, a4] st h = pR 35 d 4 [a0, .null, a2, a3, a4] (.null :: st) h := pR_L rfl rfl
theorem rX1_layFars_4 : pR 35 d 4 ls (.ref o :: st) h = if pis (pfl h 24 o 8) = true then pR 35 d 7 ls (pfl h 24 o 8 :: st) h else none := r_get rfl
theorem rX1_layFars_7 : pR 35 d 7 ls (.int y :: .int x :: st) h = if x < y then pR 35 d 10 ls st h else pR 35 d 55 ls st h := r_cge rfl rfl
theorem rX1_layFars_10 : pR 35 d 10 ls st h = pR 35 d 11 ls (.int 0 :: st) h := pR_L rfl rfl
theorem rX1_layFars_11 : pR 35 d 11 [a0, a1, a2, a3, a4] (.int x :: st) h = if p1 a3 = true then pR 35 d 12 [a0, a1, a2, .int x, a4] st h else none := r_sto (n := 1) (k := 3) (v := .int x) (ls := [a0, a1, a2, a3, a4]) rfl rfl rfl
theorem rX1_layFars_12 : pR 35 d 12 [a0, a1, a2, .int x, a4] st h = pR 35 d 13 [a0, a1, a2, .int x, a4] (.int x :: st) h := pR_L rfl rfl
theorem rX1_layFars_13 : pR 35 d 13 [a0, .ref o, a2, a3, a4] st h = pR 35 d 14 [a0, .ref o, a2, a3, a4] (.ref o :: st) h := pR_L rfl rfl
theorem rX1_layFars_13n : pR 35 d 13 [a0, .null, a2, a3, a4] st h = pR 35 d 14 [a0, .null, a2, a3, a4] (.null :: st) h := pR_L rfl rfl
theorem rX1_layFars_14 : pR 35 d 14 ls (.ref o :: st) h = if pis (pfl h 24 o 8) = true then pR 35 d 17 ls (pfl h 24 o 8 :: st) h else none := r_get rfl
theorem rX1_layFars_17 : pR 35 d 17 ls (.int y :: .int x :: st) h = if x < y then pR 35 d 20 ls st h else pR 35 d 49 ls st h := r_cge rfl rfl
theorem rX1_layFars_20 : pR 35 d 20 [.ref o, a1, a2, a3, a4] st h = pR 35 d 21 [.ref o, a1, a2, a3, a4] (.ref o :: st) h := pR_L rfl rfl
theorem rX1_layFars_21 : pR 35 d 21 ls (.ref o :: st) h = if pis (pfl h 1 o 7) = true then pR 35 d 24 ls (pfl h 1 o 7 :: st) h else none := r_get rfl
theorem rX1_layFars_24 : pR 35 d 24 ls st h = pR 35 d 26 ls (.int 32 :: st) h := pR_L rfl rfl
theorem rX1_layFars_26 : pR 35 d 26 [a0, a1, .int x, a3, a4] st h = pR 35 d 27 [a0, a1, .int x, a3, a4] (.int x :: st) h := pR_L rfl rfl
theorem rX1_layFars_27 : pR 35 d 27 ls (.int y :: .int x :: st) h = pR 35 d 28 ls (.int (x * y) :: st) h := pR_L rfl rfl
theorem rX1_layFars_28 : pR 35 d 28 [a0, a1, a2, .int x, a4] st h = pR 35 d 29 [a0, a1, a2, .int x, a4] (.int x :: st) h := pR_L rfl rfl
theorem rX1_layFars_29 : pR 35 d 29 ls (.int y :: .int x :: st) h = pR 35 d 30 ls (.int (x + y) :: st) h := pR_L rfl rfl
theorem rX1_layFars_30 : pR 35 d 30 [a0, a1, .int x, a3, a4] st h = pR 35 d 31 [a0, a1, .int x, a3, a4] (.int x :: st) h := pR_L rfl rfl
theorem rX1_layFars_31 : pR 35 d 31 [a0, a1, a2, .int x, a4] st h = pR 35 d 32 [a0, a1, a2, .int x, a4] (.int x :: st) h := pR_L rfl rfl
theorem rX1_layFars_32 : pR 35 d 32 ls (.int y :: .int x :: st) h = if x = y then pR 35 d 35 ls st h else pR 35 d 39 ls st h := r_cne rfl rfl
theorem rX1_layFars_35 : pR 35 d 35 ls st h = pR 35 d 36 ls (.int 0 :: st) h := pR_L rfl rfl
theorem rX1_layFars_36 : pR 35 d 36 ls st h = pR 35 d 42 ls st h := pR_L rfl rfl
theorem rX1_layFars_39 : pR 35 d 39 ls st h = pR 35 d 42 ls (.int 1000000 :: st) h := pR_X rfl rfl
theorem rX1_layFars_42 : pR 35 d 42 ls (.int y :: .int x :: .ref o :: st) h = if pin x (pln h 0 o) = true then pR 35 d 43 ls st (pst h o x.toNatClampNeg y) else none := pR_Lif rfl rfl
theorem rX1_layFars_43 : pR 35 d 43 [a0, a1, a2, .int x, a4] st h = pR 35 d 46 [a0, a1, a2, .int (x + 1), a4] st h := pR_L rfl rfl
theorem rX1_layFars_46 : pR 35 d 46 ls st h = pR 35 d 12 ls st h := pR_L rfl rfl
theorem rX1_layFars_49 : pR 35 d 49 [a0, a1, .int x, a3, a4] st h = pR 35 d 52 [a0, a1, .int (x + 1), a3, a4] st h := pR_L rfl rfl
theorem rX1_layFars_52 : pR 35 d 52 ls st h = pR 35 d 2 ls st h := pR_L rfl rfl
theorem rX1_layFars_55 : pR 35 d 55 ls st h = pR 35 d 56 ls (.int 0 :: st) h := pR_L rfl rfl
theorem rX1_layFars_56 : pR 35 d 56 [a0, a1, a2, a3, a4] (.int x :: st) h = if p1 a2 = true then pR 35 d 57 [a0, a1, .int x, a3, a4] st h else none := r_sto (n := 1) (k := 2) (v := .int x) (ls := [a0, a1, a2, a3, a4]) rfl rfl rfl
theorem rX1_layFars_57 : pR 35 d 57 [a0, a1, .int x, a3, a4] st h = pR 35 d 58 [a0, a1, .int x, a3, a4] (.int x :: st) h := pR_L rfl rfl
theorem rX1_layFars_58 : pR 35 d 58 [a0, .ref o, a2, a3, a4] st h = pR 35 d 59 [a0, .ref o, a2, a3, a4] (.ref o :: st) h := pR_L rfl rfl
theorem rX1_layFars_58n : pR 35 d 58 [a0, .null, a2, a3, a4] st h = pR 35 d 59 [a0, .null, a2, a3, a4] (.null :: st) h := pR_L rfl rfl
theorem rX1_layFars_59 : pR 35 d 59 ls (.ref o :: st) h = if pis (pfl h 24 o 6) = true then pR 35 d 62 ls (pfl h 24 o 6 :: st) h else none := r_get rfl
theorem rX1_layFars_62 : pR 35 d 62 ls (.int y :: .int x :: st) h = if x < y then pR 35 d 65 ls st h else pR 35 d 140 ls st h := r_cge rfl rfl
theorem rX1_layFars_65 : pR 35 d 65 ls st h = pR 35 d 67 ls (.int 32 :: st) h := pR_L rfl rfl
theorem rX1_layFars_67 : pR 35 d 67 [a0, .ref o, a2, a3, a4] st h = pR 35 d 68 [a0, .ref o, a2, a3, a4] (.ref o :: st) h := pR_L rfl rfl
theorem rX1_layFars_67n : pR 35 d 67 [a0, .null, a2, a3, a4] st h = pR 35 d 68 [a0, .null, a2, a3, a4] (.null :: st) h := pR_L rfl rfl
theorem rX1_layFars_68 : pR 35 d 68 ls (.ref o :: st) h = if pis (pfl h 24 o 0) = true then pR 35 d 71 ls (pfl h 24 o 0 :: st) h else none := r_get rfl
theorem rX1_layFars_71 : pR 35 d 71 [a0, a1, .int x, a3, a4] st h = pR 35 d 72 [a0, a1, .int x, a3, a4] (.int x :: st) h := pR_L rfl rfl
theorem rX1_layFars_72 : pR 35 d 72 ls (.int x :: .ref o :: st) h = if (pin x (pln h 0 o) || pin x (pln h 9 o)) = true then pR 35 d 73 ls (.int (pct h o x.toNatClampNeg) :: st) h else none := pR_Lif rfl rfl
theorem rX1_layFars_73 : pR 35 d 73 ls (.int y :: .int x :: st) h = pR 35 d 74 ls (.int (x * y) :: st) h := pR_L rfl rfl
theorem rX1_layFars_74 : pR 35 d 74 [a0, .ref o, a2, a3, a4] st h = pR 35 d 75 [a0, .ref o, a2, a3, a4] (.ref o :: st) h := pR_L rfl rfl
theorem rX1_layFars_74n : pR 35 d 74 [a0, .null, a2, a3, a4] st h = pR 35 d 75 [a0, .null, a2, a3, a4] (.null :: st) h := pR_L rfl rfl
theorem rX1_layFars_75 : pR 35 d 75 ls (.ref o :: st) h = if pis (pfl h 24 o 1) = true then pR 35 d 78 ls (pfl h 24 o 1 :: st) h else none := r_get rfl
theorem rX1_layFars_78 : pR 35 d 78 [a0, a1, .int x, a3, a4] st h = pR 35 d 79 [a0, a1, .int x, a3, a4] (.int x :: st) h := pR_L rfl rfl
theorem rX1_layFars_79 : pR 35 d 79 ls (.int x :: .ref o :: st) h = if (pin x (pln h 0 o) || pin x (pln h 9 o)) = true then pR 35 d 80 ls (.int (pct h o x.toNatClampNeg) :: st) h else none := pR_Lif rfl rfl
theorem rX1_layFars_80 : pR 35 d 80 ls (.int y :: .int x :: st) h = pR 35 d 81 ls (.int (x + y) :: st) h := pR_L rfl rfl
theorem rX1_layFars_81 : pR 35 d 81 [a0, a1, a2, a3, a4] (.int x :: st) h = if p1 a3 = true then pR 35 d 82 [a0, a1, a2, .int x, a4] st h else none := r_sto (n := 1) (k := 3) (v := .int x) (ls := [a0, a1, a2, a3, a4]) rfl rfl rfl
theorem rX1_layFars_82 : pR 35 d 82 ls st h = pR 35 d 84 ls (.int 32 :: st) h := pR_L rfl rfl
theorem rX1_layFars_84 : pR 35 d 84 [a0, .ref o, a2, a3, a4] st h = pR 35 d 85 [a0, .ref o, a2, a3, a4] (.ref o :: st) h := pR_L rfl rfl
theorem rX1_layFars_84n : pR 35 d 84 [a0, .null, a2, a3, a4] st h = pR 35 d 85 [a0, .null, a2, a3, a4] (.null :: st) h := pR_L rfl rfl
theorem rX1_layFars_85 : pR 35 d 85 ls (.ref o :: st) h = if pis (pfl h 24 o 1) = true then pR 35 d 88 ls (pfl h 24 o 1 :: st) h else none := r_get rfl
theorem rX1_layFars_88 : pR 35 d 88 [a0, a1, .int x, a3, a4] st h = pR 35 d 89 [a0, a1, .int x, a3, a4] (.int x :: st) h := pR_L rfl rfl
theorem rX1_layFars_89 : pR 35 d 89 ls (.int x :: .ref o :: st) h = if (pin x (pln h 0 o) || pin x (pln h 9 o)) = true then pR 35 d 90 ls (.int (pct h o x.toNatClampNeg) :: st) h else none := pR_Lif rfl rfl
theorem rX1_layFars_90 : pR 35 d 90 ls (.int y :: .int x :: st) h = pR 35 d 91 ls (.int (x * y) :: st) h := pR_L rfl rfl
theorem rX1_layFars_91 : pR 35 d 91 [a0, .ref o, a2, a3, a4] st h = pR 35 d 92 [a0, .ref o, a2, a3, a4] (.ref o :: st) h := pR_L rfl rfl
theorem rX1_layFars_91n : pR 35 d 91 [a0, .null, a2, a3, a4] st h = pR 35 d 92 [a0, .null, a2, a3, a4] (.null :: st) h := pR_L rfl rfl
theorem rX1_layFars_92 : pR 35 d 92 ls (.ref o :: st) h = if pis (pfl h 24 o 0) = true then pR 35 d 95 ls (pfl h 24 o 0 :: st) h else none := r_get rfl
theorem rX1_layFars_95 : pR 35 d 95 [a0, a1, .int x, a3, a4] st h = pR 35 d 96 [a0, a1, .int x, a3, a4] (.int x :: st) h := pR_L rfl rfl
theorem rX1_layFars_96 : pR 35 d 96 ls (.int x :: .ref o :: st) h = if (pin x (pln h 0 o) || pin x (pln h 9 o)) = true then pR 35 d 97 ls (.int (pct h o x.toNatClampNeg) :: st) h else none := pR_Lif rfl rfl
theorem rX1_layFars_97 : pR 35 d 97 ls (.int y :: .int x :: st) h = pR 35 d 98 ls (.int (x + y) :: st) h := pR_L rfl rfl
theorem rX1_layFars_98 : pR 35 d 98 [a0, a1, a2, a3, a4] (.int x :: st) h = if p1 a4 = true then pR 35 d 100 [a0, a1, a2, a3, .int x] st h else none := r_sto (n := 2) (k := 4) (v := .int x) (ls := [a0, a1, a2, a3, a4]) rfl rfl rfl
theorem rX1_layFars_100 : pR 35 d 100 [.ref o, a1, a2, a3, a4] st h = pR 35 d 101 [.ref o, a1, a2, a3, a4] (.ref o :: st) h := pR_L rfl rfl
theorem rX1_layFars_101 : pR 35 d 101 ls (.ref o :: st) h = if pis (pfl h 1 o 7) = true then pR 35 d 104 ls (pfl h 1 o 7 :: st) h else none := r_get rfl
theorem rX1_layFars_104 : pR 35 d 104 [a0, a1, a2, .int x, a4] st h = pR 35 d 105 [a0, a1, a2, .int x, a4] (.int x :: st) h := pR_L rfl rfl
theorem rX1_layFars_105 : pR 35 d 105 [.ref o, a1, a2, a3, a4] st h = pR 35 d 106 [.ref o, a1, a2, a3, a4] (.ref o :: st) h := pR_L rfl rfl
theorem rX1_layFars_106 : pR 35 d 106 ls (.ref o :: st) h = if pis (pfl h 1 o 7) = true then pR 35 d 109 ls (pfl h 1 o 7 :: st) h else none := r_get rfl
theorem rX1_layFars_109 : pR 35 d 109 [a0, a1, a2, .int x, a4] st h = pR 35 d 110 [a0, a1, a2, .int x, a4] (.int x :: st) h := pR_L rfl rfl
theorem rX1_layFars_110 : pR 35 d 110 ls (.int x :: .ref o :: st) h = if (pin x (pln h 0 o) || pin x (pln h 9 o)) = true then pR 35 d 111 ls (.int (pct h o x.toNatClampNeg) :: st) h else none := pR_Lif rfl rfl
theorem rX1_layFars_111 : pR 35 d 111 [a0, .ref o, a2, a3, a4] st h = pR 35 d 112 [a0, .ref o, a2, a3, a4] (.ref o :: st) h := pR_L rfl rfl
theorem rX1_layFars_111n : pR 35 d 111 [a0, .null, a2, a3, a4] st h = pR 35 d 112 [a0, .null, a2, a3, a4] (.null :: st) h := pR_L rfl rfl
theorem rX1_layFars_112 : pR 35 d 112 ls (.ref o :: st) h = if pis (pfl h 24 o 2) = true then pR 35 d 115 ls (pfl h 24 o 2 :: st) h else none := r_get rfl
theorem rX1_layFars_115 : pR 35 d 115 [a0, a1, .int x, a3, a4] st h = pR 35 d 116 [a0, a1, .int x, a3, a4] (.int x :: st) h := pR_L rfl rfl
theorem rX1_layFars_116 : pR 35 d 116 ls (.int x :: .ref o :: st) h = if (pin x (pln h 0 o) || pin x (pln h 9 o)) = true then pR 35 d 117 ls (.int (pct h o x.toNatClampNeg) :: st) h else none := pR_Lif rfl rfl
theorem rX1_layFars_117 : pR 35 (d + 1) 117 ls (.int y :: .int x :: st) h = if pw st = true then pR 35 (d + 1) 120 ls (.int (if y < x then y else x) :: st) h else none := r_mn rfl
theorem rX1_layFars_120 : pR 35 d 120 ls (.int y :: .int x :: .ref o :: st) h = if pin x (pln h 0 o) = true then pR 35 d 121 ls st (pst h o x.toNatClampNeg y) else none := pR_Lif rfl rfl
theorem rX1_layFars_121 : pR 35 d 121 [.ref o, a1, a2, a3, a4] st h = pR 35 d 122 [.ref o, a1, a2, a3, a4] (.ref o :: st) h := pR_L rfl rfl
theorem rX1_layFars_122 : pR 35 d 122 ls (.ref o :: st) h = if pis (pfl h 1 o 7) = true then pR 35 d 125 ls (pfl h 1 o 7 :: st) h else none := r_get rfl
theorem rX1_layFars_125 : pR 35 d 125 [a0, a1, a2, a3, .int x] st h = pR 35 d 127 [a0, a1, a2, a3, .int x] (.int x :: st) h := pR_L rfl rfl
theorem rX1_layFars_127 : pR 35 d 127 [.ref o, a1, a2, a3, a4] st h = pR 35 d 128 [.ref o, a1, a2, a3, a4] (.ref o :: st) h := pR_L rfl rfl
theorem rX1_layFars_128 : pR 35 d 128 ls (.ref o :: st) h = if pis (pfl h 1 o 7) = true then pR 35 d 131 ls (pfl h 1 o 7 :: st) h else none := r_get rfl
theorem rX1_layFars_131 : pR 35 d 131 [a0, a1, a2, .int x, a4] st h = pR 35 d 132 [a0, a1, a2, .int x, a4] (.int x :: st) h := pR_L rfl rfl
theorem rX1_layFars_132 : pR 35 d 132 ls (.int x :: .ref o :: st) h = if (pin x (pln h 0 o) || pin x (pln h 9 o)) = true then pR 35 d 133 ls (.int (pct h o x.toNatClampNeg) :: st) h else none := pR_Lif rfl rfl
theorem rX1_layFars_133 : pR 35 d 133 ls (.int y :: .int x :: .ref o :: st) h = if pin x (pln h 0 o) = true then pR 35 d 134 ls st (pst h o x.toNatClampNeg y) else none := pR_Lif rfl rfl
theorem rX1_layFars_134 : pR 35 d 134 [a0, a1, .int x, a3, a4] st h = pR 35 d 137 [a0, a1, .int (x + 1), a3, a4] st h := pR_L rfl rfl
theorem rX1_layFars_137 : pR 35 d 137 ls st h = pR 35 d 57 ls st h := pR_L rfl rfl
theorem rX1_layFars_140 : pR 35 d 140 ls st h = pR 35 d 141 ls (.int 0 :: st) h := pR_L rfl rfl
theorem rX1_layFars_141 : pR 35 d 141 [a0, a1, a2, a3, a4] (.int x :: st) h = if p1 a2 = true then pR 35 d 142 [a0, a1, .int x, a3, a4] st h else none := r_sto (n := 1) (k := 2) (v := .int x) (ls := [a0, a1, a2, a3, a4]) rfl rfl rfl
theorem rX1_layFars_142 : pR 35 d 142 [a0, a1, .int x, a3, a4] st h = pR 35 d 143 [a0, a1, .int x, a3, a4] (.int x :: st) h := pR_L rfl rfl
theorem rX1_layFars_143 : pR 35 d 143 [a0, .ref o, a2, a3, a4] st h = pR 35 d 144 [a0, .ref o, a2, a3, a4] (.ref o :: st) h := pR_L rfl rfl
theorem rX1_layFars_143n : pR 35 d 143 [a0, .null, a2, a3, a4] st h = pR 35 d 144 [a0, .null, a2, a3, a4] (.null :: st) h := pR_L rfl rfl
theorem rX1_layFars_144 : pR 35 d 144 ls (.ref o :: st) h = if pis (pfl h 24 o 8) = true then pR 35 d 147 ls (pfl h 24 o 8 :: st) h else none := r_get rfl
theorem rX1_layFars_147 : pR 35 d 147 ls (.int y :: .int x :: st) h = if x < y then pR 35 d 150 ls st h else pR 35 d 241 ls st h := r_cge rfl rfl
theorem rX1_layFars_150 : pR 35 d 150 ls st h = pR 35 d 151 ls (.int 0 :: st) h := pR_L rfl rfl
theorem rX1_layFars_151 : pR 35 d 151 [a0, a1, a2, a3, a4] (.int x :: st) h = if p1 a3 = true then pR 35 d 152 [a0, a1, a2, .int x, a4] st h else none := r_sto (n := 1) (k := 3) (v := .int x) (ls := [a0, a1, a2, a3, a4]) rfl rfl rfl
theorem rX1_layFars_152 : pR 35 d 152 [a0, a1, a2, .int x, a4] st h = pR 35 d 153 [a0, a1, a2, .int x, a4] (.int x :: st) h := pR_L rfl rfl
theorem rX1_layFars_153 : pR 35 d 153 [a0, .ref o, a2, a3, a4] st h = pR 35 d 154 [a0, .ref o, a2, a3, a4] (.ref o :: st) h := pR_L rfl rfl
theorem rX1_layFars_153n : pR 35 d 153 [a0, .null, a2, a3, a4] st h = pR 35 d 154 [a0, .null, a2, a3, a4] (.null :: st) h := pR_L rfl rfl
theorem rX1_layFars_154 : pR 35 d 154 ls (.ref o :: st) h = if pis (pfl h 24 o 8) = true then pR 35 d 157 ls (pfl h 24 o 8 :: st) h else none := r_get rfl
theorem rX1_layFars_157 : pR 35 d 157 ls (.int y :: .int x :: st) h = if x < y then pR 35 d 160 ls st h else pR 35 d 235 ls st h := r_cge rfl rfl
theorem rX1_layFars_160 : pR 35 d 160 ls st h = pR 35 d 161 ls (.int 0 :: st) h := pR_L rfl rfl
theorem rX1_layFars_161 : pR 35 d 161 [a0, a1, a2, a3, a4] (.int x :: st) h = if p1 a4 = true then pR 35 d 163 [a0, a1, a2, a3, .int x] st h else none := r_sto (n := 2) (k := 4) (v := .int x) (ls := [a0, a1, a2, a3, a4]) rfl rfl rfl
theorem rX1_layFars_163 : pR 35 d 163 [a0, a1, a2, a3, .int x] st h = pR 35 d 165 [a0, a1, a2, a3, .int x] (.int x :: st) h := pR_L rfl rfl
theorem rX1_layFars_165 : pR 35 d 165 [a0, .ref o, a2, a3, a4] st h = pR 35 d 166 [a0, .ref o, a2, a3, a4] (.ref o :: st) h := pR_L rfl rfl
theorem rX1_layFars_165n : pR 35 d 165 [a0, .null, a2, a3, a4] st h = pR 35 d 166 [a0, .null, a2, a3, a4] (.null :: st) h := pR_L rfl rfl
theorem rX1_layFars_166 : pR 35 d 166 ls (.ref o :: st) h = if pis (pfl h 24 o 8) = true then pR 35 d 169 ls (pfl h 24 o 8 :: st) h else none := r_get rfl
theorem rX1_layFars_169 : pR 35 d 169 ls (.int y :: .int x :: st) h = if x < y then pR 35 d 172 ls st h else pR 35 d 229 ls st h := r_cge rfl rfl
theorem rX1_layFars_172 : pR 35 d 172 [.ref o, a1, a2, a3, a4] st h = pR 35 d 173 [.ref o, a1, a2, a3, a4] (.ref o :: st) h := pR_L rfl rfl
theorem rX1_layFars_173 : pR 35 d 173 ls (.ref o :: st) h = if pis (pfl h 1 o 7) = true then pR 35 d 176 ls (pfl h 1 o 7 :: st) h else none := r_get rfl
theorem rX1_layFars_176 : pR 35 d 176 ls st h = pR 35 d 178 ls (.int 32 :: st) h := pR_L rfl rfl
theorem rX1_layFars_178 : pR 35 d 178 [a0, a1, a2, .int x, a4] st h = pR 35 d 179 [a0, a1, a2, .int x, a4] (.int x :: st) h := pR_L rfl rfl
theorem rX1_layFars_179 : pR 35 d 179 ls (.int y :: .int x :: st) h = pR 35 d 180 ls (.int (x * y) :: st) h := pR_L rfl rfl
theorem rX1_layFars_180 : pR 35 d 180 [a0, a1, a2, a3, .int x] st h = pR 35 d 182 [a0, a1, a2, a3, .int x] (.int x :: st) h := pR_L rfl rfl
theorem rX1_layFars_182 : pR 35 d 182 ls (.int y :: .int x :: st) h = pR 35 d 183 ls (.int (x + y) :: st) h := pR_L rfl rfl
theorem rX1_layFars_183 : pR 35 d 183 [.ref o, a1, a2, a3, a4] st h = pR 35 d 184 [.ref o, a1, a2, a3, a4] (.ref o :: st) h := pR_L rfl rfl
theorem rX1_layFars_184 : pR 35 d 184 ls (.ref o :: st) h = if pis (pfl h 1 o 7) = true then pR 35 d 187 ls (pfl h 1 o 7 :: st) h else none := r_get rfl
theorem rX1_layFars_187 : pR 35 d 187 ls st h = pR 35 d 189 ls (.int 32 :: st) h := pR_L rfl rfl
theorem rX1_layFars_189 : pR 35 d 189 [a0, a1, a2, .int x, a4] st h = pR 35 d 190 [a0, a1, a2, .int x, a4] (.int x :: st) h := pR_L rfl rfl
theorem rX1_layFars_190 : pR 35 d 190 ls (.int y :: .int x :: st) h = pR 35 d 191 ls (.int (x * y) :: st) h := pR_L rfl rfl
theorem rX1_layFars_191 : pR 35 d 191 [a0, a1, a2, a3, .int x] st h = pR 35 d 193 [a0, a1, a2, a3, .int x] (.int x :: st) h := pR_L rfl rfl
theorem rX1_layFars_193 : pR 35 d 193 ls (.int y :: .int x :: st) h = pR 35 d 194 ls (.int (x + y) :: st) h := pR_L rfl rfl
theorem rX1_layFars_194 : pR 35 d 194 ls (.int x :: .ref o :: st) h = if (pin x (pln h 0 o) || pin x (pln h 9 o)) = true then pR 35 d 195 ls (.int (pct h o x.toNatClampNeg) :: st) h else none := pR_Lif rfl rfl
theorem rX1_layFars_195 : pR 35 d 195 [.ref o, a1, a2, a3, a4] st h = pR 35 d 196 [.ref o, a1, a2, a3, a4] (.ref o :: st) h := pR_L rfl rfl
theorem rX1_layFars_196 : pR 35 d 196 ls (.ref o :: st) h = if pis (pfl h 1 o 7) = true then pR 35 d 199 ls (pfl h 1 o 7 :: st) h else none := r_get rfl
theorem rX1_layFars_199 : pR 35 d 199 ls st h = pR 35 d 201 ls (.int 32 :: st) h := pR_L rfl rfl
theorem rX1_layFars_201 : pR 35 d 201 [a0, a1, a2, .int x, a4] st h = pR 35 d 202 [a0, a1, a2, .int x, a4] (.int x :: st) h := pR_L rfl rfl
theorem rX1_layFars_202 : pR 35 d 202 ls (.int y :: .int x :: st) h = pR 35 d 203 ls (.int (x * y) :: st) h := pR_L rfl rfl
theorem rX1_layFars_203 : pR 35 d 203 [a0, a1, .int x, a3, a4] st h = pR 35 d 204 [a0, a1, .int x, a3, a4] (.int x :: st) h := pR_L rfl rfl
theorem rX1_layFars_204 : pR 35 d 204 ls (.int y :: .int x :: st) h = pR 35 d 205 ls (.int (x + y) :: st) h := pR_L rfl rfl
theorem rX1_layFars_205 : pR 35 d 205 ls (.int x :: .ref o :: st) h = if (pin x (pln h 0 o) || pin x (pln h 9 o)) = true then pR 35 d 206 ls (.int (pct h o x.toNatClampNeg) :: st) h else none := pR_Lif rfl rfl
theorem rX1_layFars_206 : pR 35 d 206 [.ref o, a1, a2, a3, a4] st h = pR 35 d 207 [.ref o, a1, a2, a3, a4] (.ref o :: st) h := pR_L rfl rfl
theorem rX1_layFars_207 : pR 35 d 207 ls (.ref o :: st) h = if pis (pfl h 1 o 7) = true then pR 35 d 210 ls (pfl h 1 o 7 :: st) h else none := r_get rfl
theorem rX1_layFars_210 : pR 35 d 210 ls st h = pR 35 d 212 ls (.int 32 :: st) h := pR_L rfl rfl
theorem rX1_layFars_212 : pR 35 d 212 [a0, a1, .int x, a3, a4] st h = pR 35 d 213 [a0, a1, .int x, a3, a4] (.int x :: st) h := pR_L rfl rfl
theorem rX1_layFars_213 : pR 35 d 213 ls (.int y :: .int x :: st) h = pR 35 d 214 ls (.int (x * y) :: st) h := pR_L rfl rfl
theorem rX1_layFars_214 : pR 35 d 214 [a0, a1, a2, a3, .int x] st h = pR 35 d 216 [a0, a1, a2, a3, .int x] (.int x :: st) h := pR_L rfl rfl
theorem rX1_layFars_216 : pR 35 d 216 ls (.int y :: .int x :: st) h = pR 35 d 217 ls (.int (x + y) :: st) h := pR_L rfl rfl
theorem rX1_layFars_217 : pR 35 d 217 ls (.int x :: .ref o :: st) h = if (pin x (pln h 0 o) || pin x (pln h 9 o)) = true then pR 35 d 218 ls (.int (pct h o x.toNatClampNeg) :: st) h else none := pR_Lif rfl rfl
theorem rX1_layFars_218 : pR 35 d 218 ls (.int y :: .int x :: st) h = pR 35 d 219 ls (.int (x + y) :: st) h := pR_L rfl rfl
theorem rX1_layFars_219 : pR 35 (d + 1) 219 ls (.int y :: .int x :: st) h = if pw st = true then pR 35 (d + 1) 222 ls (.int (if y < x then y else x) :: st) h else none := r_mn rfl
theorem rX1_layFars_222 : pR 35 d 222 ls (.int y :: .int x :: .ref o :: st) h = if pin x (pln h 0 o) = true then pR 35 d 223 ls st (pst h o x.toNatClampNeg y) else none := pR_Lif rfl rfl
theorem rX1_layFars_223 : pR 35 d 223 [a0, a1, a2, a3, .int x] st h = pR 35 d 226 [a0, a1, a2, a3, .int (x + 1)] st h := pR_L rfl rfl
theorem rX1_layFars_226 : pR 35 d 226 ls st h = pR 35 d 163 ls st h := pR_L rfl rfl
theorem rX1_layFars_229 : pR 35 d 229 [a0, a1, a2, .int x, a4] st h = pR 35 d 232 [a0, a1, a2, .int (x + 1), a4] st h := pR_L rfl rfl
theorem rX1_layFars_232 : pR 35 d 232 ls st h = pR 35 d 152 ls st h := pR_L rfl rfl
theorem rX1_layFars_235 : pR 35 d 235 [a0, a1, .int x, a3, a4] st h = pR 35 d 238 [a0, a1, .int (x + 1), a3, a4] st h := pR_L rfl rfl
theorem rX1_layFars_238 : pR 35 d 238 ls st h = pR 35 d 142 ls st h := pR_L rfl rfl
theorem rX1_layFars_241 : pR 35 d 241 ls [] h = some (.inl none, h) := pR_E rfl rfl
-- 36 BalloonStall span (I)I
theorem eX1_span : pCa 36 d [.ref o, .int x0] h = pR 36 d 0 [.ref o, .int x0, pU, pU, pU, pU] [] h := rfl
theorem rX1_span_0 : pR 36 d 0 [.ref o, a1, a2, a3, a4, a5] st h = pR 36 d 1 [.ref o, a1, a2, a3, a4, a5] (.ref o :: st) h := pR_L rfl rfl
theorem rX1_span_1 : pR 36 d 1 [a0, .int x, a2, a3, a4, a5] st h = pR 36 d 2 [a0, .int x, a2, a3, a4, a5] (.int x :: st) h := pR_L rfl rfl
theorem rX1_span_2 : pR 36 (d + 1) 2 ls (b1 :: .ref o :: st) h = if (pok 1 (pcl h o) && pw st) = true then pK 36 (d + 1) 2 3 ls st (pCa 15 d [.ref o, b1] h) else none := r_callV rfl rfl rfl
theorem rX1_span_5 : pR 36 d 5 ls (.int x :: st) h = if x = 0 then pR 36 d 8 ls st h else pR 36 d 10 ls st h := r_ine rfl rfl
theorem rX1_span_8 : pR 36 d 8 ls st h = pR 36 d 9 ls (.int (-1) :: st) h := pR_L rfl rfl
theorem rX1_span_9 : pR 36 d 9 ls [.int x] h = some (.inl (some (.int x)), h) := pR_E rfl rfl
theorem rX1_span_10 : pR 36 d 10 [.ref o, a1, a2, a3, a4, a5] st h = pR 36 d 11 [.ref o, a1, a2, a3, a4, a5] (.ref o :: st) h := pR_L rfl rfl
theorem rX1_span_11 : pR 36 d 11 ls (.ref o :: st) h = if pis (pfl h 1 o 4) = true then pR 36 d 14 ls (pfl h 1 o 4 :: st) h else none := r_get rfl
theorem rX1_span_14 : pR 36 d 14 [a0, .int x, a2, a3, a4, a5] st h = pR 36 d 15 [a0, .int x, a2, a3, a4, a5] (.int x :: st) h := pR_L rfl rfl
theorem rX1_span_15 : pR 36 d 15 ls (.int x :: .ref o :: st) h = if pin x (plnQ h o) = true then pR 36 d 16 ls (va_rf (pctQ h o x.toNatClampNeg) :: st) h else none := pR_Lif rfl rfl
theorem rX1_span_16 : pR 36 d 16 [a0, a1, a2, a3, a4, a5] (.ref o :: st) h = if p1 a2 = true then pR 36 d 17 [a0, a1, .ref o, a3, a4, a5] st h else none := r_sto (n := 1) (k := 2) (v := .ref o) (ls := [a0, a1, a2, a3, a4, a5]) rfl rfl rfl
theorem rX1_span_16n : pR 36 d 16 [a0, a1, a2, a3, a4, a5] (.null :: st) h = if p1 a2 = true then pR 36 d 17 [a0, a1, .null, a3, a4, a5] st h else none := r_sto (n := 1) (k := 2) (v := .null) (ls := [a0, a1, a2, a3, a4, a5]) rfl rfl rfl
theorem rX1_span_17 : pR 36 d 17 [.ref o, a1, a2, a3, a4, a5] st h = pR 36 d 18 [.ref o, a1, a2, a3, a4, a5] (.ref o :: st) h := pR_L rfl rfl
theorem rX1_span_18 : pR 36 d 18 [a0, a1, .ref o, a3, a4, a5] st h = pR 36 d 19 [a0, a1, .ref o, a3, a4, a5] (.ref o :: st) h := pR_L rfl rfl
theorem rX1_span_18n : pR 36 d 18 [a0, a1, .null, a3, a4, a5] st h = pR 36 d 19 [a0, a1, .null, a3, a4, a5] (.null :: st) h := pR_L rfl rfl
theorem rX1_span_19 : pR 36 (d + 1) 19 ls (b1 :: .ref o :: st) h = if (pok 1 (pcl h o) && pw st) = true then pK 36 (d + 1) 19 3 ls st (pCa 35 d [.ref o, b1] h) else none := r_callV rfl rfl rfl
theorem rX1_span_22 : pR 36 d 22 ls st h = pR 36 d 23 ls (.int 0 :: st) h := pR_L rfl rfl
theorem rX1_span_23 : pR 36 d 23 [a0, a1, a2, a3, a4, a5] (.int x :: st) h = if p1 a3 = true then pR 36 d 24 [a0, a1, a2, .int x, a4, a5] st h else none := r_sto (n := 1) (k := 3) (v := .int x) (ls := [a0, a1, a2, a3, a4, a5]) rfl rfl rfl
theorem rX1_span_24 : pR 36 d 24 ls st h = pR 36 d 25 ls (.int 0 :: st) h := pR_L rfl rfl
theorem rX1_span_25 : pR 36 d 25 [a0, a1, a2, a3, a4, a5] (.int x :: st) h = if p1 a4 = true then pR 36 d 27 [a0, a1, a2, a3, .int x, a5] st h else none := r_sto (n := 2) (k := 4) (v := .int x) (ls := [a0, a1, a2, a3, a4, a5]) rfl rfl rfl
theorem rX1_span_27 : pR 36 d 27 [a0, a1, a2, a3, .int x, a5] st h = pR 36 d 29 [a0, a1, a2, a3, .int x, a5] (.int x :: st) h := pR_L rfl rfl
theorem rX1_span_29 : pR 36 d 29 [a0, a1, .ref o, a3, a4, a5] st h = pR 36 d 30 [a0, a1, .ref o, a3, a4, a5] (.ref o :: st) h := pR_L rfl rfl
theorem rX1_span_29n : pR 36 d 29 [a0, a1, .null, a3, a4, a5] st h = pR 36 d 30 [a0, a1, .null, a3, a4, a5] (.null :: st) h := pR_L rfl rfl
theorem rX1_span_30 : pR 36 d 30 ls (.ref o :: st) h = if pis (pfl h 24 o 8) = true then pR 36 d 33 ls (pfl h 24 o 8 :: st) h else none := r_get rfl
theorem rX1_span_33 : pR 36 d 33 ls (.int y :: .int x :: st) h = if x < y then pR 36 d 36 ls st h else pR 36 d 97 ls st h := r_cge rfl rfl
theorem rX1_span_36 : pR 36 d 36 ls st h = pR 36 d 37 ls (.int 0 :: st) h := pR_L rfl rfl
theorem rX1_span_37 : pR 36 d 37 [a0, a1, a2, a3, a4, a5] (.int x :: st) h = if p1 a5 = true then pR 36 d 39 [a0, a1, a2, a3, a4, .int x] st h else none := r_sto (n := 2) (k := 5) (v := .int x) (ls := [a0, a1, a2, a3, a4, a5]) rfl rfl rfl
theorem rX1_span_39 : pR 36 d 39 [a0, a1, a2, a3, a4, .int x] st h = pR 36 d 41 [a0, a1, a2, a3, a4, .int x] (.int x :: st) h := pR_L rfl rfl
theorem rX1_span_41 : pR 36 d 41 [a0, a1, .ref o, a3, a4, a5] st h = pR 36 d 42 [a0, a1, .ref o, a3, a4, a5] (.ref o :: st) h := pR_L rfl rfl
theorem rX1_span_41n : pR 36 d 41 [a0, a1, .null, a3, a4, a5] st h = pR 36 d 42 [a0, a1, .null, a3, a4, a5] (.null :: st) h := pR_L rfl rfl
theorem rX1_span_42 : pR 36 d 42 ls (.ref o :: st) h = if pis (pfl h 24 o 8) = true then pR 36 d 45 ls (pfl h 24 o 8 :: st) h else none := r_get rfl
theorem rX1_span_45 : pR 36 d 45 ls (.int y :: .int x :: st) h = if x < y then pR 36 d 48 ls st h else pR 36 d 91 ls st h := r_cge rfl rfl
theorem rX1_span_48 : pR 36 d 48 [.ref o, a1, a2, a3, a4, a5] st h = pR 36 d 49 [.ref o, a1, a2, a3, a4, a5] (.ref o :: st) h := pR_L rfl rfl
theorem rX1_span_49 : pR 36 d 49 ls (.ref o :: st) h = if pis (pfl h 1 o 7) = true then pR 36 d 52 ls (pfl h 1 o 7 :: st) h else none := r_get rfl
theorem rX1_span_52 : pR 36 d 52 ls st h = pR 36 d 54 ls (.int 32 :: st) h := pR_L rfl rfl
theorem rX1_span_54 : pR 36 d 54 [a0, a1, a2, a3, .int x, a5] st h = pR 36 d 56 [a0, a1, a2, a3, .int x, a5] (.int x :: st) h := pR_L rfl rfl
theorem rX1_span_56 : pR 36 d 56 ls (.int y :: .int x :: st) h = pR 36 d 57 ls (.int (x * y) :: st) h := pR_L rfl rfl
theorem rX1_span_57 : pR 36 d 57 [a0, a1, a2, a3, a4, .int x] st h = pR 36 d 59 [a0, a1, a2, a3, a4, .int x] (.int x :: st) h := pR_L rfl rfl
theorem rX1_span_59 : pR 36 d 59 ls (.int y :: .int x :: st) h = pR 36 d 60 ls (.int (x + y) :: st) h := pR_L rfl rfl
theorem rX1_span_60 : pR 36 d 60 ls (.int x :: .ref o :: st) h = if (pin x (pln h 0 o) || pin x (pln h 9 o)) = true then pR 36 d 61 ls (.int (pct h o x.toNatClampNeg) :: st) h else none := pR_Lif rfl rfl
theorem rX1_span_61 : pR 36 d 61 ls st h = pR 36 d 64 ls (.int 1000000 :: st) h := pR_X rfl rfl
theorem rX1_span_64 : pR 36 d 64 ls (.int y :: .int x :: st) h = if x < y then pR 36 d 67 ls st h else pR 36 d 85 ls st h := r_cge rfl rfl
theorem rX1_span_67 : pR 36 d 67 [a0, a1, a2, .int x, a4, a5] st h = pR 36 d 68 [a0, a1, a2, .int x, a4, a5] (.int x :: st) h := pR_L rfl rfl
theorem rX1_span_68 : pR 36 d 68 [.ref o, a1, a2, a3, a4, a5] st h = pR 36 d 69 [.ref o, a1, a2, a3, a4, a5] (.ref o :: st) h := pR_L rfl rfl
theorem rX1_span_69 : pR 36 d 69 ls (.ref o :: st) h = if pis (pfl h 1 o 7) = true then pR 36 d 72 ls (pfl h 1 o 7 :: st) h else none := r_get rfl
theorem rX1_span_72 : pR 36 d 72 ls st h = pR 36 d 74 ls (.int 32 :: st) h := pR_L rfl rfl
theorem rX1_span_74 : pR 36 d 74 [a0, a1, a2, a3, .int x, a5] st h = pR 36 d 76 [a0, a1, a2, a3, .int x, a5] (.int x :: st) h := pR_L rfl rfl
theorem rX1_span_76 : pR 36 d 76 ls (.int y :: .int x :: st) h = pR 36 d 77 ls (.int (x * y) :: st) h := pR_L rfl rfl
theorem rX1_span_77 : pR 36 d 77 [a0, a1, a2, a3, a4, .int x] st h = pR 36 d 79 [a0, a1, a2, a3, a4, .int x] (.int x :: st) h := pR_L rfl rfl
theorem rX1_span_79 : pR 36 d 79 ls (.int y :: .int x :: st) h = pR 36 d 80 ls (.int (x + y) :: st) h := pR_L rfl rfl
theorem rX1_span_80 : pR 36 d 80 ls (.int x :: .ref o :: st) h = if (pin x (pln h 0 o) || pin x (pln h 9 o)) = true then pR 36 d 81 ls (.int (pct h o x.toNatClampNeg) :: st) h else none := pR_Lif rfl rfl
theorem rX1_span_81 : pR 36 (d + 1) 81 ls (.int y :: .int x :: st) h = if pw st = true then pR 36 (d + 1) 84 ls (.int (if x < y then y else x) :: st) h else none := r_mx rfl
theorem rX1_span_84 : pR 36 d 84 [a0, a1, a2, a3, a4, a5] (.int x :: st) h = if p1 a3 = true then pR 36 d 85 [a0, a1, a2, .int x, a4, a5] st h else none := r_sto (n := 1) (k := 3) (v := .int x) (ls := [a0, a1, a2, a3, a4, a5]) rfl rfl rfl
theorem rX1_span_85 : pR 36 d 85 [a0, a1, a2, a3, a4, .int x] st h = pR 36 d 88 [a0, a1, a2, a3, a4, .int (x + 1)] st h := pR_L rfl rfl
theorem rX1_span_88 : pR 36 d 88 ls st h = pR 36 d 39 ls st h := pR_L rfl rfl
theorem rX1_span_91 : pR 36 d 91 [a0, a1, a2, a3, .int x, a5] st h = pR 36 d 94 [a0, a1, a2, a3, .int (x + 1), a5] st h := pR_L rfl rfl
theorem rX1_span_94 : pR 36 d 94 ls st h = pR 36 d 27 ls st h := pR_L rfl rfl
theorem rX1_span_97 : pR 36 d 97 [a0, a1, a2, .int x, a4, a5] st h = pR 36 d 98 [a0, a1, a2, .int x, a4, a5] (.int x :: st) h := pR_L rfl rfl
theorem rX1_span_98 : pR 36 d 98 ls [.int x] h = some (.inl (some (.int x)), h) := pR_E rfl rfl
-- 37 BalloonStall strokes (I)I
theorem eX1_strokes : pCa 37 d [.ref o, .int x0] h = pR 37 d 0 [.ref o, .int x0] [] h := rfl
theorem rX1_strokes_0 : pR 37 d 0 [.ref o, a1] st h = pR 37 d 1 [.ref o, a1] (.ref o :: st) h := pR_L rfl rfl
theorem rX1_strokes_1 : pR 37 d 1 [a0, .int x] st h = pR 37 d 2 [a0, .int x] (.int x :: st) h := pR_L rfl rfl
theorem rX1_strokes_2 : pR 37 (d + 1) 2 ls (b1 :: .ref o :: st) h = if (pok 1 (pcl h o) && pw st) = true then pK 37 (d + 1) 2 3 ls st (pCa 15 d [.ref o, b1] h) else none := r_callV rfl rfl rfl
theorem rX1_strokes_5 : pR 37 d 5 ls (.int x :: st) h = if x = 0 then pR 37 d 20 ls st h else pR 37 d 8 ls st h := r_ieq rfl rfl
theorem rX1_strokes_8 : pR 37 d 8 [.ref o, a1] st h = pR 37 d 9 [.ref o, a1] (.ref o :: st) h := pR_L rfl rfl
theorem rX1_strokes_9 : pR 37 d 9 ls (.ref o :: st) h = if pis (pfl h 1 o 4) = true then pR 37 d 12 ls (pfl h 1 o 4 :: st) h else none := r_get rfl
theorem rX1_strokes_12 : pR 37 d 12 [a0, .int x] st h = pR 37 d 13 [a0, .int x] (.int x :: st) h := pR_L rfl rfl
theorem rX1_strokes_13 : pR 37 d 13 ls (.int x :: .ref o :: st) h = if pin x (plnQ h o) = true then pR 37 d 14 ls (va_rf (pctQ h o x.toNatClampNeg) :: st) h else none := pR_Lif rfl rfl
theorem rX1_strokes_14 : pR 37 (d + 1) 14 ls (.ref o :: st) h = if (pok 24 (pcl h o) && pw st) = true then pK 37 (d + 1) 14 3 ls st (pCa 244 d [.ref o] h) else none := r_callV rfl rfl rfl
theorem rX1_strokes_17 : pR 37 d 17 ls st h = pR 37 d 21 ls st h := pR_L rfl rfl
theorem rX1_strokes_20 : pR 37 d 20 ls st h = pR 37 d 21 ls (.int (-1) :: st) h := pR_L rfl rfl
theorem rX1_strokes_21 : pR 37 d 21 ls [.int x] h = some (.inl (some (.int x)), h) := pR_E rfl rfl
-- 38 BalloonStall made (II)I
theorem eX1_made : pCa 38 d [.ref o, .int x0, .int x1] h = pR 38 d 0 [.ref o, .int x0, .int x1, pU] [] h := rfl
theorem rX1_made_0 : pR 38 d 0 [.ref o, a1, a2, a3] st h = pR 38 d 1 [.ref o, a1, a2, a3] (.ref o :: st) h := pR_L rfl rfl
theorem rX1_made_1 : pR 38 d 1 [a0, .int x, a2, a3] st h = pR 38 d 2 [a0, .int x, a2, a3] (.int x :: st) h := pR_L rfl rfl
theorem rX1_made_2 : pR 38 d 2 [a0, a1, .int x, a3] st h = pR 38 d 3 [a0, a1, .int x, a3] (.int x :: st) h := pR_L rfl rfl
theorem rX1_made_3 : pR 38 (d + 1) 3 ls (b2 :: b1 :: .ref o :: st) h = if (pok 1 (pcl h o) && pw st) = true then pK 38 (d + 1) 3 3 ls st (pCa 39 d [.ref o, b1, b2] h) else none := r_callV rfl rfl rfl
theorem rX1_made_6 : pR 38 d 6 ls (.int x :: st) h = if x = 0 then pR 38 d 9 ls st h else pR 38 d 11 ls st h := r_ine rfl rfl
theorem rX1_made_9 : pR 38 d 9 ls st h = pR 38 d 10 ls (.int (-1) :: st) h := pR_L rfl rfl
theorem rX1_made_10 : pR 38 d 10 ls [.int x] h = some (.inl (some (.int x)), h) := pR_E rfl rfl
theorem rX1_made_11 : pR 38 d 11 [.ref o, a1, a2, a3] st h = pR 38 d 12 [.ref o, a1, a2, a3] (.ref o :: st) h := pR_L rfl rfl
theorem rX1_made_12 : pR 38 d 12 ls (.ref o :: st) h = if pis (pfl h 1 o 4) = true then pR 38 d 15 ls (pfl h 1 o 4 :: st) h else none := r_get rfl
theorem rX1_made_15 : pR 38 d 15 [a0, .int x, a2, a3] st h = pR 38 d 16 [a0, .int x, a2, a3] (.int x :: st) h := pR_L rfl rfl
theorem rX1_made_16 : pR 38 d 16 ls (.int x :: .ref o :: st) h = if pin x (plnQ h o) = true then pR 38 d 17 ls (va_rf (pctQ h o x.toNatClampNeg) :: st) h else none := pR_Lif rfl rfl
theorem rX1_made_17 : pR 38 d 17 [a0, a1, a2, a3] (.ref o :: st) h = if p1 a3 = true then pR 38 d 18 [a0, a1, a2, .ref o] st h else none := r_sto (n := 1) (k := 3) (v := .ref o) (ls := [a0, a1, a2, a3]) rfl rfl rfl
theorem rX1_made_17n : pR 38 d 17 [a0, a1, a2, a3] (.null :: st) h = if p1 a3 = true then pR 38 d 18 [a0, a1, a2, .null] st h else none := r_sto (n := 1) (k := 3) (v := .null) (ls := [a0, a1, a2, a3]) rfl rfl rfl
theorem rX1_made_18 : pR 38 d 18 [.ref o, a1, a2, a3] st h = pR 38 d 19 [.ref o, a1, a2, a3] (.ref o :: st) h := pR_L rfl rfl
theorem rX1_made_19 : pR 38 d 19 [a0, a1, a2, .ref o] st h = pR 38 d 20 [a0, a1, a2, .ref o] (.ref o :: st) h := pR_L rfl rfl
theorem rX1_made_19n : pR 38 d 19 [a0, a1, a2, .null] st h = pR 38 d 20 [a0, a1, a2, .null] (.null :: st) h := pR_L rfl rfl
theorem rX1_made_20 : pR 38 d 20 [.ref o, a1, a2, a3] st h = pR 38 d 21 [.ref o, a1, a2, a3] (.ref o :: st) h := pR_L rfl rfl
theorem rX1_made_21 : pR 38 d 21 ls (.ref o :: st) h = if pis (pfl h 1 o 0) = true then pR 38 d 24 ls (pfl h 1 o 0 :: st) h else none := r_get rfl
theorem rX1_made_24 : pR 38 d 24 [a0, a1, .int x, a3] st h = pR 38 d 25 [a0, a1, .int x, a3] (.int x :: st) h := pR_L rfl rfl
theorem rX1_made_25 : pR 38 d 25 ls (.int x :: .ref o :: st) h = if pin x (plnQ h o) = true then pR 38 d 26 ls (va_rf (pctQ h o x.toNatClampNeg) :: st) h else none := pR_Lif rfl rfl
theorem rX1_made_26 : pR 38 (d + 1) 26 ls (b2 :: b1 :: .ref o :: st) h = if (pok 1 (pcl h o) && pw st) = true then pK 38 (d + 1) 26 3 ls st (pCa 41 d [.ref o, b1, b2] h) else none := r_callV rfl rfl rfl
theorem rX1_made_29 : pR 38 d 29 [.ref o, a1, a2, a3] st h = pR 38 d 30 [.ref o, a1, a2, a3] (.ref o :: st) h := pR_L rfl rfl
theorem rX1_made_30 : pR 38 d 30 ls (.ref o :: st) h = if pis (pfl h 1 o 8) = true then pR 38 d 33 ls (pfl h 1 o 8 :: st) h else none := r_get rfl
theorem rX1_made_33 : pR 38 d 33 [a0, a1, a2, .ref o] st h = pR 38 d 34 [a0, a1, a2, .ref o] (.ref o :: st) h := pR_L rfl rfl
theorem rX1_made_33n : pR 38 d 33 [a0, a1, a2, .null] st h = pR 38 d 34 [a0, a1, a2, .null] (.null :: st) h := pR_L rfl rfl
theorem rX1_made_34 : pR 38 (d + 1) 34 ls (.ref o :: st) h = if (pok 24 (pcl h o) && pw st) = true then pK 38 (d + 1) 34 3 ls st (pCa 239 d [.ref o] h) else none := r_callV rfl rfl rfl
theorem rX1_made_37 : pR 38 d 37 ls (.int x :: .ref o :: st) h = if (pin x (pln h 0 o) || pin x (pln h 9 o)) = true then pR 38 d 38 ls (.int (pct h o x.toNatClampNeg) :: st) h else none := pR_Lif rfl rfl
theorem rX1_made_38 : pR 38 d 38 ls st h = pR 38 d 40 ls (.int 24 :: st) h := pR_L rfl rfl
theorem rX1_made_40 : pR 38 d 40 ls (.int y :: .int x :: st) h = if y < x then pR 38 d 55 ls st h else pR 38 d 43 ls st h := r_cgt rfl rfl
theorem rX1_made_43 : pR 38 d 43 [.ref o, a1, a2, a3] st h = pR 38 d 44 [.ref o, a1, a2, a3] (.ref o :: st) h := pR_L rfl rfl
theorem rX1_made_44 : pR 38 d 44 ls (.ref o :: st) h = if pis (pfl h 1 o 8) = true then pR 38 d 47 ls (pfl h 1 o 8 :: st) h else none := r_get rfl
theorem rX1_made_47 : pR 38 d 47 [a0, a1, a2, .ref o] st h = pR 38 d 48 [a0, a1, a2, .ref o] (.ref o :: st) h := pR_L rfl rfl
theorem rX1_made_47n : pR 38 d 47 [a0, a1, a2, .null] st h = pR 38 d 48 [a0, a1, a2, .null] (.null :: st) h := pR_L rfl rfl
theorem rX1_made_48 : pR 38 (d + 1) 48 ls (.ref o :: st) h = if (pok 24 (pcl h o) && pw st) = true then pK 38 (d + 1) 48 3 ls st (pCa 239 d [.ref o] h) else none := r_callV rfl rfl rfl
theorem rX1_made_51 : pR 38 d 51 ls (.int x :: .ref o :: st) h = if (pin x (pln h 0 o) || pin x (pln h 9 o)) = true then pR 38 d 52 ls (.int (pct h o x.toNatClampNeg) :: st) h else none := pR_Lif rfl rfl
theorem rX1_made_52 : pR 38 d 52 ls st h = pR 38 d 56 ls st h := pR_L rfl rfl
theorem rX1_made_55 : pR 38 d 55 ls st h = pR 38 d 56 ls (.int (-1) :: st) h := pR_L rfl rfl
theorem rX1_made_56 : pR 38 d 56 ls [.int x] h = some (.inl (some (.int x)), h) := pR_E rfl rfl
-- 39 BalloonStall isMaking (II)Z
theorem eX1_isMaking : pCa 39 d [.ref o, .int x0, .int x1] h = pR 39 d 0 [.ref o, .int x0, .int x1] [] h := rfl
theorem rX1_isMaking_0 : pR 39 d 0 [.ref o, a1, a2] st h = pR 39 d 1 [.ref o, a1, a2] (.ref o :: st) h := pR_L rfl rfl
theorem rX1_isMaking_1 : pR 39 d 1 [a0, .int x, a2] st h = pR 39 d 2 [a0, .int x, a2] (.int x :: st) h := pR_L rfl rfl
theorem rX1_isMaking_2 : pR 39 (d + 1) 2 ls (b1 :: .ref o :: st) h = if (pok 1 (pcl h o) && pw st) = true then pK 39 (d + 1) 2 3 ls st (pCa 15 d [.ref o, b1] h) else none := r_callV rfl rfl rfl
theorem rX1_isMaking_5 : pR 39 d 5 ls (.int x :: st) h = if x = 0 then pR 39 d 34 ls st h else pR 39 d 8 ls st h := r_ieq rfl rfl
theorem rX1_isMaking_8 : pR 39 d 8 [.ref o, a1, a2] st h = pR 39 d 9 [.ref o, a1, a2] (.ref o :: st) h := pR_L rfl rfl
theorem rX1_isMaking_9 : pR 39 d 9 [a0, a1, .int x] st h = pR 39 d 10 [a0, a1, .int x] (.int x :: st) h := pR_L rfl rfl
theorem rX1_isMaking_10 : pR 39 (d + 1) 10 ls (b1 :: .ref o :: st) h = if (pok 1 (pcl h o) && pw st) = true then pK 39 (d + 1) 10 3 ls st (pCa 40 d [.ref o, b1] h) else none := r_callV rfl rfl rfl
theorem rX1_isMaking_13 : pR 39 d 13 ls (.int x :: st) h = if x = 0 then pR 39 d 34 ls st h else pR 39 d 16 ls st h := r_ieq rfl rfl
theorem rX1_isMaking_16 : pR 39 d 16 [.ref o, a1, a2] st h = pR 39 d 17 [.ref o, a1, a2] (.ref o :: st) h := pR_L rfl rfl
theorem rX1_isMaking_17 : pR 39 d 17 ls (.ref o :: st) h = if pis (pfl h 1 o 4) = true then pR 39 d 20 ls (pfl h 1 o 4 :: st) h else none := r_get rfl
theorem rX1_isMaking_20 : pR 39 d 20 [a0, .int x, a2] st h = pR 39 d 21 [a0, .int x, a2] (.int x :: st) h := pR_L rfl rfl
theorem rX1_isMaking_21 : pR 39 d 21 ls (.int x :: .ref o :: st) h = if pin x (plnQ h o) = true then pR 39 d 22 ls (va_rf (pctQ h o x.toNatClampNeg) :: st) h else none := pR_Lif rfl rfl
theorem rX1_isMaking_22 : pR 39 d 22 ls (.ref o :: st) h = if pis (pfl h 24 o 6) = true then pR 39 d 25 ls (pfl h 24 o 6 :: st) h else none := r_get rfl
theorem rX1_isMaking_25 : pR 39 d 25 ls st h = pR 39 d 27 ls (.int 10 :: st) h := pR_L rfl rfl
theorem rX1_isMaking_27 : pR 39 d 27 ls (.int y :: .int x :: st) h = if y < x then pR 39 d 34 ls st h else pR 39 d 30 ls st h := r_cgt rfl rfl
theorem rX1_isMaking_30 : pR 39 d 30 ls st h = pR 39 d 31 ls (.int 1 :: st) h := pR_L rfl rfl
theorem rX1_isMaking_31 : pR 39 d 31 ls st h = pR 39 d 35 ls st h := pR_L rfl rfl
theorem rX1_isMaking_34 : pR 39 d 34 ls st h = pR 39 d 35 ls (.int 0 :: st) h := pR_L rfl rfl
theorem rX1_isMaking_350 : pR 39 d 35 ls [.int 0] h = some (.inl (some (.int 0)), h) := pR_E rfl rfl
theorem rX1_isMaking_351 : pR 39 d 35 ls [.int 1] h = some (.inl (some (.int 1)), h) := pR_E rfl rfl
-- 40 BalloonStall isSort (I)Z
theorem eX1_isSort : pCa 40 d [.ref o, .int x0] h = pR 40 d 0 [.ref o, .int x0] [] h := rfl
theorem rX1_isSort_0 : pR 40 d 0 [a0, .int x] st h = pR 40 d 1 [a0, .int x] (.int x :: st) h := pR_L rfl rfl
theorem rX1_isSort_1 : pR 40 d 1 ls (.int x :: st) h = if x < 0 then pR 40 d 16 ls st h else pR 40 d 4 ls st h := r_ilt rfl rfl
theorem rX1_isSort_4 : pR 40 d 4 [a0, .int x] st h = pR 40 d 5 [a0, .int x] (.int x :: st) h := pR_L rfl rfl
theorem rX1_isSort_5 : pR 40 d 5 [.ref o, a1] st h = pR 40 d 6 [.ref o, a1] (.ref o :: st) h := pR_L rfl rfl
theorem rX1_isSort_6 : pR 40 d 6 ls (.ref o :: st) h = if pis (pfl h 1 o 1) = true then pR 40 d 9 ls (pfl h 1 o 1 :: st) h else none := r_get rfl
theorem rX1_isSort_9 : pR 40 d 9 ls (.int y :: .int x :: st) h = if x < y then pR 40 d 12 ls st h else pR 40 d 16 ls st h := r_cge rfl rfl
theorem rX1_isSort_12 : pR 40 d 12 ls st h = pR 40 d 13 ls (.int 1 :: st) h := pR_L rfl rfl
theorem rX1_isSort_13 : pR 40 d 13 ls st h = pR 40 d 17 ls st h := pR_L rfl rfl
theorem rX1_isSort_16 : pR 40 d 16 ls st h = pR 40 d 17 ls (.int 0 :: st) h := pR_L rfl rfl
theorem rX1_isSort_170 : pR 40 d 17 ls [.int 0] h = some (.inl (some (.int 0)), h) := pR_E rfl rfl
theorem rX1_isSort_171 : pR 40 d 17 ls [.int 1] h = some (.inl (some (.int 1)), h) := pR_E rfl rfl
-- 41 BalloonStall layMade (LBalloonStall$Figure;LBalloonStall$Sort;)V
theorem eX1_layMade : pCa 41 d [.ref o, .ref r0, .ref r1] h = pR 41 d 0 [.ref o, .ref r0, .ref r1, pU, pU, pU] [] h := rfl
theorem rX1_layMade_0 : pR 41 d 0 ls st h = pR 41 d 1 ls (.int 1 :: st) h := pR_L rfl rfl
theorem rX1_layMade_1 : pR 41 d 1 [a0, a1, a2, a3, a4, a5] (.int x :: st) h = if p1 a3 = true then pR 41 d 2 [a0, a1, a2, .int x, a4, a5] st h else none := r_sto (n := 1) (k := 3) (v := .int x) (ls := [a0, a1, a2, a3, a4, a5]) rfl rfl rfl
theorem rX1_layMade_2 : pR 41 d 2 [a0, a1, a2, .int x, a4, a5] st h = pR 41 d 3 [a0, a1, a2, .int x, a4, a5] (.int x :: st) h := pR_L rfl rfl
theorem rX1_layMade_3 : pR 41 d 3 [a0, .ref o, a2, a3, a4, a5] st h = pR 41 d 4 [a0, .ref o, a2, a3, a4, a5] (.ref o :: st) h := pR_L rfl rfl
theorem rX1_layMade_3n : pR 41 d 3 [a0, .null, a2, a3, a4, a5] st h = pR 41 d 4 [a0, .null, a2, a3, a4, a5] (.null :: st) h := pR_L rfl rfl
theorem rX1_layMade_4 : pR 41 (d + 1) 4 ls (.ref o :: st) h = if (pok 24 (pcl h o) && pw st) = true then pK 41 (d + 1) 4 3 ls st (pCa 239 d [.ref o] h) else none := r_callV rfl rfl rfl
theorem rX1_layMade_7 : pR 41 d 7 ls (.int y :: .int x :: st) h = if y < x then pR 41 d 56 ls st h else pR 41 d 10 ls st h := r_cgt rfl rfl
theorem rX1_layMade_10 : pR 41 d 10 [.ref o, a1, a2, a3, a4, a5] st h = pR 41 d 11 [.ref o, a1, a2, a3, a4, a5] (.ref o :: st) h := pR_L rfl rfl
theorem rX1_layMade_11 : pR 41 d 11 ls (.ref o :: st) h = if pis (pfl h 1 o 9) = true then pR 41 d 14 ls (pfl h 1 o 9 :: st) h else none := r_get rfl
theorem rX1_layMade_14 : pR 41 d 14 [a0, a1, a2, .int x, a4, a5] st h = pR 41 d 15 [a0, a1, a2, .int x, a4, a5] (.int x :: st) h := pR_L rfl rfl
theorem rX1_layMade_15 : pR 41 d 15 [a0, .ref o, a2, a3, a4, a5] st h = pR 41 d 16 [a0, .ref o, a2, a3, a4, a5] (.ref o :: st) h := pR_L rfl rfl
theorem rX1_layMade_15n : pR 41 d 15 [a0, .null, a2, a3, a4, a5] st h = pR 41 d 16 [a0, .null, a2, a3, a4, a5] (.null :: st) h := pR_L rfl rfl
theorem rX1_layMade_16 : pR 41 d 16 [a0, a1, a2, .int x, a4, a5] st h = pR 41 d 17 [a0, a1, a2, .int x, a4, a5] (.int x :: st) h := pR_L rfl rfl
theorem rX1_layMade_17 : pR 41 (d + 1) 17 ls (b1 :: .ref o :: st) h = if (pok 24 (pcl h o) && pw st) = true then pK 41 (d + 1) 17 3 ls st (pCa 246 d [.ref o, b1] h) else none := r_callV rfl rfl rfl
theorem rX1_layMade_20 : pR 41 d 20 [a0, a1, .ref o, a3, a4, a5] st h = pR 41 d 21 [a0, a1, .ref o, a3, a4, a5] (.ref o :: st) h := pR_L rfl rfl
theorem rX1_layMade_20n : pR 41 d 20 [a0, a1, .null, a3, a4, a5] st h = pR 41 d 21 [a0, a1, .null, a3, a4, a5] (.null :: st) h := pR_L rfl rfl
theorem rX1_layMade_21 : pR 41 d 21 [a0, a1, a2, .int x, a4, a5] st h = pR 41 d 22 [a0, a1, a2, .int x, a4, a5] (.int x :: st) h := pR_L rfl rfl
theorem rX1_layMade_22 : pR 41 (d + 1) 22 ls (b0 :: st) h = if pw st = true then pK 41 (d + 1) 22 3 ls st (pCa 254 d [b0] h) else none := r_callS rfl rfl rfl
theorem rX1_layMade_25 : pR 41 (d + 1) 25 ls (b1 :: .ref o :: st) h = if (pok 4 (pcl h o) && pw st) = true then pK 41 (d + 1) 25 3 ls st (pCa 169 d [.ref o, b1] h) else none := r_callV rfl rfl rfl
theorem rX1_layMade_28 : pR 41 d 28 ls (.int y :: .int x :: st) h = pR 41 d 29 ls (.int (x + y) :: st) h := pR_L rfl rfl
theorem rX1_layMade_29 : pR 41 d 29 [a0, a1, .ref o, a3, a4, a5] st h = pR 41 d 30 [a0, a1, .ref o, a3, a4, a5] (.ref o :: st) h := pR_L rfl rfl
theorem rX1_layMade_29n : pR 41 d 29 [a0, a1, .null, a3, a4, a5] st h = pR 41 d 30 [a0, a1, .null, a3, a4, a5] (.null :: st) h := pR_L rfl rfl
theorem rX1_layMade_30 : pR 41 d 30 ls (.ref o :: st) h = if pis (pfl h 4 o 0) = true then pR 41 d 33 ls (pfl h 4 o 0 :: st) h else none := r_get rfl
theorem rX1_layMade_33 : pR 41 d 33 ls (.int y :: .int x :: st) h = if y < x then pR 41 d 48 ls st h else pR 41 d 36 ls st h := r_cgt rfl rfl
theorem rX1_layMade_36 : pR 41 d 36 [a0, .ref o, a2, a3, a4, a5] st h = pR 41 d 37 [a0, .ref o, a2, a3, a4, a5] (.ref o :: st) h := pR_L rfl rfl
theorem rX1_layMade_36n : pR 41 d 36 [a0, .null, a2, a3, a4, a5] st h = pR 41 d 37 [a0, .null, a2, a3, a4, a5] (.null :: st) h := pR_L rfl rfl
theorem rX1_layMade_37 : pR 41 d 37 [a0, a1, a2, .int x, a4, a5] st h = pR 41 d 38 [a0, a1, a2, .int x, a4, a5] (.int x :: st) h := pR_L rfl rfl
theorem rX1_layMade_38 : pR 41 (d + 1) 38 ls (b1 :: .ref o :: st) h = if (pok 24 (pcl h o) && pw st) = true then pK 41 (d + 1) 38 3 ls st (pCa 247 d [.ref o, b1] h) else none := r_callV rfl rfl rfl
theorem rX1_layMade_41 : pR 41 d 41 ls (.int x :: st) h = if x = 0 then pR 41 d 48 ls st h else pR 41 d 44 ls st h := r_ieq rfl rfl
theorem rX1_layMade_44 : pR 41 d 44 ls st h = pR 41 d 45 ls (.int 1 :: st) h := pR_L rfl rfl
theorem rX1_layMade_45 : pR 41 d 45 ls st h = pR 41 d 49 ls st h := pR_L rfl rfl
theorem rX1_layMade_48 : pR 41 d 48 ls st h = pR 41 d 49 ls (.int 0 :: st) h := pR_L rfl rfl
theorem rX1_layMade_49 : pR 41 d 49 ls (.int y :: .int x :: .ref o :: st) h = if pin x (pln h 0 o) = true then pR 41 d 50 ls st (pst h o x.toNatClampNeg y) else none := pR_Lif rfl rfl
theorem rX1_layMade_50 : pR 41 d 50 [a0, a1, a2, .int x, a4, a5] st h = pR 41 d 53 [a0, a1, a2, .int (x + 1), a4, a5] st h := pR_L rfl rfl
theorem rX1_layMade_53 : pR 41 d 53 ls st h = pR 41 d 2 ls st h := pR_L rfl rfl
theorem rX1_layMade_56 : pR 41 d 56 [.ref o, a1, a2, a3, a4, a5] st h = pR 41 d 57 [.ref o, a1, a2, a3, a4, a5] (.ref o :: st) h := pR_L rfl rfl
theorem rX1_layMade_57 : pR 41 d 57 ls (.ref o :: st) h = if pis (pfl h 1 o 8) = true then pR 41 d 60 ls (pfl h 1 o 8 :: st) h else none := r_get rfl
theorem rX1_layMade_60 : pR 41 d 60 ls st h = pR 41 d 61 ls (.int 0 :: st) h := pR_L rfl rfl
theorem rX1_layMade_61 : pR 41 d 61 ls st h = pR 41 d 62 ls (.int 0 :: st) h := pR_L rfl rfl
theorem rX1_layMade_62 : pR 41 d 62 ls (.int y :: .int x :: .ref o :: st) h = if pin x (pln h 0 o) = true then pR 41 d 63 ls st (pst h o x.toNatClampNeg y) else none := pR_Lif rfl rfl
theorem rX1_layMade_63 : pR 41 d 63 ls st h = pR 41 d 64 ls (.int 1 :: st) h := pR_L rfl rfl
theorem rX1_layMade_64 : pR 41 d 64 [a0, a1, a2, a3, a4, a5] (.int x :: st) h = if p1 a3 = true then pR 41 d 65 [a0, a1, a2, .int x, a4, a5] st h else none := r_sto (n := 1) (k := 3) (v := .int x) (ls := [a0, a1, a2, a3, a4, a5]) rfl rfl rfl
theorem rX1_layMade_65 : pR 41 d 65 [a0, a1, a2, .int x, a4, a5] st h = pR 41 d 66 [a0, a1, a2, .int x, a4, a5] (.int x :: st) h := pR_L rfl rfl
theorem rX1_layMade_66 : pR 41 d 66 [a0, .ref o, a2, a3, a4, a5] st h = pR 41 d 67 [a0, .ref o, a2, a3, a4, a5] (.ref o :: st) h := pR_L rfl rfl
theorem rX1_layMade_66n : pR 41 d 66 [a0, .null, a2, a3, a4, a5] st h = pR 41 d 67 [a0, .null, a2, a3, a4, a5] (.null :: st) h := pR_L rfl rfl
theorem rX1_layMade_67 : pR 41 (d + 1) 67 ls (.ref o :: st) h = if (pok 24 (pcl h o) && pw st) = true then pK 41 (d + 1) 67 3 ls st (pCa 239 d [.ref o] h) else none := r_callV rfl rfl rfl
theorem rX1_layMade_70 : pR 41 d 70 ls (.int y :: .int x :: st) h = if y < x then pR 41 d 159 ls st h else pR 41 d 73 ls st h := r_cgt rfl rfl
theorem rX1_layMade_73 : pR 41 d 73 [.ref o, a1, a2, a3, a4, a5] st h = pR 41 d 74 [.ref o, a1, a2, a3, a4, a5] (.ref o :: st) h := pR_L rfl rfl
theorem rX1_layMade_74 : pR 41 d 74 ls (.ref o :: st) h = if pis (pfl h 1 o 8) = true then pR 41 d 77 ls (pfl h 1 o 8 :: st) h else none := r_get rfl
theorem rX1_layMade_77 : pR 41 d 77 [a0, a1, a2, .int x, a4, a5] st h = pR 41 d 78 [a0, a1, a2, .int x, a4, a5] (.int x :: st) h := pR_L rfl rfl
theorem rX1_layMade_78 : pR 41 d 78 ls st h = pR 41 d 80 ls (.int 25 :: st) h := pR_L rfl rfl
theorem rX1_layMade_80 : pR 41 d 80 ls (.int y :: .int x :: .ref o :: st) h = if pin x (pln h 0 o) = true then pR 41 d 81 ls st (pst h o x.toNatClampNeg y) else none := pR_Lif rfl rfl
theorem rX1_layMade_81 : pR 41 d 81 [a0, a1, a2, .int x, a4, a5] st h = pR 41 d 82 [a0, a1, a2, .int x, a4, a5] (.int x :: st) h := pR_L rfl rfl
theorem rX1_layMade_82 : pR 41 d 82 [a0, a1, a2, .int x, a4, a5] st h = pR 41 d 83 [a0, a1, a2, .int x, a4, a5] (.int x :: st) h := pR_L rfl rfl
theorem rX1_layMade_83 : pR 41 d 83 ls (.int x :: st) h = pR 41 d 84 ls (.int (-x) :: st) h := pR_L rfl rfl
theorem rX1_layMade_84 : pR 41 d 84 ls (.int y :: .int x :: st) h = pR 41 d 85 ls (.int (x &&& y) :: st) h := pR_L rfl rfl
theorem rX1_layMade_85 : pR 41 d 85 [a0, a1, a2, a3, a4, a5] (.int x :: st) h = if p1 a4 = true then pR 41 d 87 [a0, a1, a2, a3, .int x, a5] st h else none := r_sto (n := 2) (k := 4) (v := .int x) (ls := [a0, a1, a2, a3, a4, a5]) rfl rfl rfl
theorem rX1_layMade_87 : pR 41 d 87 [a0, a1, a2, .int x, a4, a5] st h = pR 41 d 88 [a0, a1, a2, .int x, a4, a5] (.int x :: st) h := pR_L rfl rfl
theorem rX1_layMade_88 : pR 41 d 88 [a0, a1, a2, a3, a4, a5] (.int x :: st) h = if p1 a5 = true then pR 41 d 90 [a0, a1, a2, a3, a4, .int x] st h else none := r_sto (n := 2) (k := 5) (v := .int x) (ls := [a0, a1, a2, a3, a4, a5]) rfl rfl rfl
theorem rX1_layMade_90 : pR 41 d 90 [a0, a1, a2, a3, a4, .int x] st h = pR 41 d 92 [a0, a1, a2, a3, a4, .int x] (.int x :: st) h := pR_L rfl rfl
theorem rX1_layMade_92 : pR 41 d 92 ls (.int x :: st) h = if 0 < x then pR 41 d 95 ls st h else pR 41 d 153 ls st h := r_ile rfl rfl
theorem rX1_layMade_95 : pR 41 d 95 [a0, a1, a2, a3, a4, .int x] st h = pR 41 d 97 [a0, a1, a2, a3, a4, .int x] (.int x :: st) h := pR_L rfl rfl
theorem rX1_layMade_97 : pR 41 d 97 [a0, a1, a2, a3, .int x, a5] st h = pR 41 d 99 [a0, a1, a2, a3, .int x, a5] (.int x :: st) h := pR_L rfl rfl
theorem rX1_layMade_99 : pR 41 d 99 ls (.int y :: .int x :: st) h = pR 41 d 100 ls (.int (x &&& y) :: st) h := pR_L rfl rfl
theorem rX1_layMade_100 : pR 41 d 100 ls (.int x :: st) h = if x = 0 then pR 41 d 142 ls st h else pR 41 d 103 ls st h := r_ieq rfl rfl
theorem rX1_layMade_103 : pR 41 d 103 [.ref o, a1, a2, a3, a4, a5] st h = pR 41 d 104 [.ref o, a1, a2, a3, a4, a5] (.ref o :: st) h := pR_L rfl rfl
theorem rX1_layMade_104 : pR 41 d 104 ls (.ref o :: st) h = if pis (pfl h 1 o 9) = true then pR 41 d 107 ls (pfl h 1 o 9 :: st) h else none := r_get rfl
theorem rX1_layMade_107 : pR 41 d 107 [a0, a1, a2, a3, a4, .int x] st h = pR 41 d 109 [a0, a1, a2, a3, a4, .int x] (.int x :: st) h := pR_L rfl rfl
theorem rX1_layMade_109 : pR 41 d 109 ls (.int x :: .ref o :: st) h = if (pin x (pln h 0 o) || pin x (pln h 9 o)) = true then pR 41 d 110 ls (.int (pct h o x.toNatClampNeg) :: st) h else none := pR_Lif rfl rfl
theorem rX1_layMade_110 : pR 41 d 110 ls st h = pR 41 d 111 ls (.int 1 :: st) h := pR_L rfl rfl
theorem rX1_layMade_111 : pR 41 d 111 ls (.int y :: .int x :: st) h = if x = y then pR 41 d 114 ls st h else pR 41 d 142 ls st h := r_cne rfl rfl
theorem rX1_layMade_114 : pR 41 d 114 [.ref o, a1, a2, a3, a4, a5] st h = pR 41 d 115 [.ref o, a1, a2, a3, a4, a5] (.ref o :: st) h := pR_L rfl rfl
theorem rX1_layMade_115 : pR 41 d 115 ls (.ref o :: st) h = if pis (pfl h 1 o 8) = true then pR 41 d 118 ls (pfl h 1 o 8 :: st) h else none := r_get rfl
theorem rX1_layMade_118 : pR 41 d 118 [a0, a1, a2, .int x, a4, a5] st h = pR 41 d 119 [a0, a1, a2, .int x, a4, a5] (.int x :: st) h := pR_L rfl rfl
theorem rX1_layMade_119 : pR 41 d 119 [.ref o, a1, a2, a3, a4, a5] st h = pR 41 d 120 [.ref o, a1, a2, a3, a4, a5] (.ref o :: st) h := pR_L rfl rfl
theorem rX1_layMade_120 : pR 41 d 120 ls (.ref o :: st) h = if pis (pfl h 1 o 8) = true then pR 41 d 123 ls (pfl h 1 o 8 :: st) h else none := r_get rfl
theorem rX1_layMade_123 : pR 41 d 123 [a0, a1, a2, .int x, a4, a5] st h = pR 41 d 124 [a0, a1, a2, .int x, a4, a5] (.int x :: st) h := pR_L rfl rfl
theorem rX1_layMade_124 : pR 41 d 124 ls (.int x :: .ref o :: st) h = if (pin x (pln h 0 o) || pin x (pln h 9 o)) = true then pR 41 d 125 ls (.int (pct h o x.toNatClampNeg) :: st) h else none := pR_Lif rfl rfl
theorem rX1_layMade_125 : pR 41 d 125 ls st h = pR 41 d 126 ls (.int 1 :: st) h := pR_L rfl rfl
theorem rX1_layMade_126 : pR 41 d 126 [.ref o, a1, a2, a3, a4, a5] st h = pR 41 d 127 [.ref o, a1, a2, a3, a4, a5] (.ref o :: st) h := pR_L rfl rfl
theorem rX1_layMade_127 : pR 41 d 127 ls (.ref o :: st) h = if pis (pfl h 1 o 8) = true then pR 41 d 130 ls (pfl h 1 o 8 :: st) h else none := r_get rfl
theorem rX1_layMade_130 : pR 41 d 130 [a0, a1, a2, .int x, a4, a5] st h = pR 41 d 131 [a0, a1, a2, .int x, a4, a5] (.int x :: st) h := pR_L rfl rfl
theorem rX1_layMade_131 : pR 41 d 131 [a0, a1, a2, a3, a4, .int x] st h = pR 41 d 133 [a0, a1, a2, a3, a4, .int x] (.int x :: st) h := pR_L rfl rfl
theorem rX1_layMade_133 : pR 41 d 133 ls st h = pR 41 d 134 ls (.int (-1) :: st) h := pR_L rfl rfl
theorem rX1_layMade_134 : pR 41 d 134 ls (.int y :: .int x :: st) h = pR 41 d 135 ls (.int (x ^^^ y) :: st) h := pR_L rfl rfl
theorem rX1_layMade_135 : pR 41 d 135 ls (.int y :: .int x :: st) h = pR 41 d 136 ls (.int (x &&& y) :: st) h := pR_L rfl rfl
theorem rX1_layMade_136 : pR 41 d 136 ls (.int x :: .ref o :: st) h = if (pin x (pln h 0 o) || pin x (pln h 9 o)) = true then pR 41 d 137 ls (.int (pct h o x.toNatClampNeg) :: st) h else none := pR_Lif rfl rfl
theorem rX1_layMade_137 : pR 41 d 137 ls (.int y :: .int x :: st) h = pR 41 d 138 ls (.int (x + y) :: st) h := pR_L rfl rfl
theorem rX1_layMade_138 : pR 41 (d + 1) 138 ls (.int y :: .int x :: st) h = if pw st = true then pR 41 (d + 1) 141 ls (.int (if y < x then y else x) :: st) h else none := r_mn rfl
theorem rX1_layMade_141 : pR 41 d 141 ls (.int y :: .int x :: .ref o :: st) h = if pin x (pln h 0 o) = true then pR 41 d 142 ls st (pst h o x.toNatClampNeg y) else none := pR_Lif rfl rfl
theorem rX1_layMade_142 : pR 41 d 142 [a0, a1, a2, a3, a4, .int x] st h = pR 41 d 144 [a0, a1, a2, a3, a4, .int x] (.int x :: st) h := pR_L rfl rfl
theorem rX1_layMade_144 : pR 41 d 144 ls st h = pR 41 d 145 ls (.int 1 :: st) h := pR_L rfl rfl
theorem rX1_layMade_145 : pR 41 d 145 ls (.int y :: .int x :: st) h = pR 41 d 146 ls (.int (x - y) :: st) h := pR_L rfl rfl
theorem rX1_layMade_146 : pR 41 d 146 [a0, a1, a2, .int x, a4, a5] st h = pR 41 d 147 [a0, a1, a2, .int x, a4, a5] (.int x :: st) h := pR_L rfl rfl
theorem rX1_layMade_147 : pR 41 d 147 ls (.int y :: .int x :: st) h = pR 41 d 148 ls (.int (x &&& y) :: st) h := pR_L rfl rfl
theorem rX1_layMade_148 : pR 41 d 148 [a0, a1, a2, a3, a4, a5] (.int x :: st) h = if p1 a5 = true then pR 41 d 150 [a0, a1, a2, a3, a4, .int x] st h else none := r_sto (n := 2) (k := 5) (v := .int x) (ls := [a0, a1, a2, a3, a4, a5]) rfl rfl rfl
theorem rX1_layMade_150 : pR 41 d 150 ls st h = pR 41 d 90 ls st h := pR_L rfl rfl
theorem rX1_layMade_153 : pR 41 d 153 [a0, a1, a2, .int x, a4, a5] st h = pR 41 d 156 [a0, a1, a2, .int (x + 1), a4, a5] st h := pR_L rfl rfl
theorem rX1_layMade_156 : pR 41 d 156 ls st h = pR 41 d 65 ls st h := pR_L rfl rfl
theorem rX1_layMade_159 : pR 41 d 159 ls [] h = some (.inl none, h) := pR_E rfl rfl
-- 42 BalloonStall set (III)I
theorem eX1_set : pCa 42 d [.ref o, .int x0, .int x1, .int x2] h = pR 42 d 0 [.ref o, .int x0, .int x1, .int x2, pU, pU, pU] [] h := rfl
theorem rX1_set_0 : pR 42 d 0 [.ref o, a1, a2, a3, a4, a5, a6] st h = pR 42 d 1 [.ref o, a1, a2, a3, a4, a5, a6] (.ref o :: st) h := pR_L rfl rfl
theorem rX1_set_1 : pR 42 d 1 [a0, .int x, a2, a3, a4, a5, a6] st h = pR 42 d 2 [a0, .int x, a2, a3, a4, a5, a6] (.int x :: st) h := pR_L rfl rfl
theorem rX1_set_2 : pR 42 d 2 [a0, a1, .int x, a3, a4, a5, a6] st h = pR 42 d 3 [a0, a1, .int x, a3, a4, a5, a6] (.int x :: st) h := pR_L rfl rfl
theorem rX1_set_3 : pR 42 (d + 1) 3 ls (b2 :: b1 :: .ref o :: st) h = if (pok 1 (pcl h o) && pw st) = true then pK 42 (d + 1) 3 3 ls st (pCa 38 d [.ref o, b1, b2] h) else none := r_callV rfl rfl rfl
theorem rX1_set_6 : pR 42 d 6 [a0, a1, a2, a3, a4, a5, a6] (.int x :: st) h = if p1 a4 = true then pR 42 d 8 [a0, a1, a2, a3, .int x, a5, a6] st h else none := r_sto (n := 2) (k := 4) (v := .int x) (ls := [a0, a1, a2, a3, a4, a5, a6]) rfl rfl rfl
theorem rX1_set_8 : pR 42 d 8 [a0, a1, a2, a3, .int x, a5, a6] st h = pR 42 d 10 [a0, a1, a2, a3, .int x, a5, a6] (.int x :: st) h := pR_L rfl rfl
theorem rX1_set_10 : pR 42 d 10 ls st h = pR 42 d 11 ls (.int (-1) :: st) h := pR_L rfl rfl
theorem rX1_set_11 : pR 42 d 11 ls (.int y :: .int x :: st) h = if x = y then pR 42 d 28 ls st h else pR 42 d 14 ls st h := r_ceq rfl rfl
theorem rX1_set_14 : pR 42 d 14 [a0, a1, a2, .int x, a4, a5, a6] st h = pR 42 d 15 [a0, a1, a2, .int x, a4, a5, a6] (.int x :: st) h := pR_L rfl rfl
theorem rX1_set_15 : pR 42 d 15 ls (.int x :: st) h = pR 42 d 16 ls (.long x.toInt64 :: st) h := pR_L rfl rfl
theorem rX1_set_16 : pR 42 d 16 ls st h = pR 42 d 17 ls (.long 0 :: st) h := pR_L rfl rfl
theorem rX1_set_17 : pR 42 d 17 [a0, a1, a2, a3, .int x, a5, a6] st h = pR 42 d 19 [a0, a1, a2, a3, .int x, a5, a6] (.int x :: st) h := pR_L rfl rfl
theorem rX1_set_19 : pR 42 d 19 ls st h = pR 42 d 20 ls (.int 1 :: st) h := pR_L rfl rfl
theorem rX1_set_20 : pR 42 d 20 ls (.int y :: .int x :: st) h = pR 42 d 21 ls (.int (x - y) :: st) h := pR_L rfl rfl
theorem rX1_set_21 : pR 42 d 21 ls (.int x :: st) h = pR 42 d 22 ls (.long x.toInt64 :: st) h := pR_L rfl rfl
theorem rX1_set_22 : pR 42 (d + 1) 22 ls (b2 :: b1 :: b0 :: st) h = if pw st = true then pK 42 (d + 1) 22 3 ls st (pCa 6 d [b0, b1, b2] h) else none := r_callS rfl rfl rfl
theorem rX1_set_25 : pR 42 d 25 ls (.int x :: st) h = if x = 0 then pR 42 d 28 ls st h else pR 42 d 30 ls st h := r_ine rfl rfl
theorem rX1_set_28 : pR 42 d 28 ls st h = pR 42 d 29 ls (.int (-1) :: st) h := pR_L rfl rfl
theorem rX1_set_29 : pR 42 d 29 ls [.int x] h = some (.inl (some (.int x)), h) := pR_E rfl rfl
theorem rX1_set_30 : pR 42 d 30 [.ref o, a1, a2, a3, a4, a5, a6] st h = pR 42 d 31 [.ref o, a1, a2, a3, a4, a5, a6] (.ref o :: st) h := pR_L rfl rfl
theorem rX1_set_31 : pR 42 d 31 ls (.ref o :: st) h = if pis (pfl h 1 o 4) = true then pR 42 d 34 ls (pfl h 1 o 4 :: st) h else none := r_get rfl
theorem rX1_set_34 : pR 42 d 34 [a0, .int x, a2, a3, a4, a5, a6] st h = pR 42 d 35 [a0, .int x, a2, a3, a4, a5, a6] (.int x :: st) h := pR_L rfl rfl
theorem rX1_set_35 : pR 42 d 35 ls (.int x :: .ref o :: st) h = if pin x (plnQ h o) = true then pR 42 d 36 ls (va_rf (pctQ h o x.toNatClampNeg) :: st) h else none := pR_Lif rfl rfl
theorem rX1_set_36 : pR 42 (d + 1) 36 ls (.ref o :: st) h = if (pok 24 (pcl h o) && pw st) = true then pK 42 (d + 1) 36 3 ls st (pCa 239 d [.ref o] h) else none := r_callV rfl rfl rfl
theorem rX1_set_39 : pR 42 d 39 [a0, a1, a2, a3, a4, a5, a6] (.int x :: st) h = if p1 a5 = true then pR 42 d 41 [a0, a1, a2, a3, a4, .int x, a6] st h else none := r_sto (n := 2) (k := 5) (v := .int x) (ls := [a0, a1, a2, a3, a4, a5, a6]) rfl rfl rfl
theorem rX1_set_41 : pR 42 d 41 ls st h = pR 42 d 42 ls (.int 0 :: st) h := pR_L rfl rfl
theorem rX1_set_42 : pR 42 d 42 [a0, a1, a2, a3, a4, a5, a6] (.int x :: st) h = if p1 a6 = true then pR 42 d 44 [a0, a1, a2, a3, a4, a5, .int x] st h else none := r_sto (n := 2) (k := 6) (v := .int x) (ls := [a0, a1, a2, a3, a4, a5, a6]) rfl rfl rfl
theorem rX1_set_44 : pR 42 d 44 [a0, a1, a2, a3, a4, a5, .int x] st h = pR 42 d 46 [a0, a1, a2, a3, a4, a5, .int x] (.int x :: st) h := pR_L rfl rfl
theorem rX1_set_46 : pR 42 d 46 [a0, a1, a2, .int x, a4, a5, a6] st h = pR 42 d 47 [a0, a1, a2, .int x, a4, a5, a6] (.int x :: st) h := pR_L rfl rfl
theorem rX1_set_47 : pR 42 d 47 ls (.int y :: .int x :: st) h = if x < y then pR 42 d 50 ls st h else pR 42 d 69 ls st h := r_cge rfl rfl
theorem rX1_set_50 : pR 42 d 50 [a0, a1, a2, a3, a4, .int x, a6] st h = pR 42 d 52 [a0, a1, a2, a3, a4, .int x, a6] (.int x :: st) h := pR_L rfl rfl
theorem rX1_set_52 : pR 42 d 52 [.ref o, a1, a2, a3, a4, a5, a6] st h = pR 42 d 53 [.ref o, a1, a2, a3, a4, a5, a6] (.ref o :: st) h := pR_L rfl rfl
theorem rX1_set_53 : pR 42 d 53 [a0, a1, a2, a3, a4, .int x, a6] st h = pR 42 d 55 [a0, a1, a2, a3, a4, .int x, a6] (.int x :: st) h := pR_L rfl rfl
theorem rX1_set_55 : pR 42 (d + 1) 55 ls (b1 :: .ref o :: st) h = if (pok 1 (pcl h o) && pw st) = true then pK 42 (d + 1) 55 3 ls st (pCa 43 d [.ref o, b1] h) else none := r_callV rfl rfl rfl
theorem rX1_set_58 : pR 42 d 58 ls st h = pR 42 d 59 ls (.int (-1) :: st) h := pR_L rfl rfl
theorem rX1_set_59 : pR 42 d 59 ls (.int y :: .int x :: st) h = pR 42 d 60 ls (.int (x ^^^ y) :: st) h := pR_L rfl rfl
theorem rX1_set_60 : pR 42 d 60 ls (.int y :: .int x :: st) h = pR 42 d 61 ls (.int (x &&& y) :: st) h := pR_L rfl rfl
theorem rX1_set_61 : pR 42 d 61 [a0, a1, a2, a3, a4, a5, a6] (.int x :: st) h = if p1 a5 = true then pR 42 d 63 [a0, a1, a2, a3, a4, .int x, a6] st h else none := r_sto (n := 2) (k := 5) (v := .int x) (ls := [a0, a1, a2, a3, a4, a5, a6]) rfl rfl rfl
theorem rX1_set_63 : pR 42 d 63 [a0, a1, a2, a3, a4, a5, .int x] st h = pR 42 d 66 [a0, a1, a2, a3, a4, a5, .int (x + 1)] st h := pR_L rfl rfl
theorem rX1_set_66 : pR 42 d 66 ls st h = pR 42 d 44 ls st h := pR_L rfl rfl
theorem rX1_set_69 : pR 42 d 69 [.ref o, a1, a2, a3, a4, a5, a6] st h = pR 42 d 70 [.ref o, a1, a2, a3, a4, a5, a6] (.ref o :: st) h := pR_L rfl rfl
theorem rX1_set_70 : pR 42 d 70 [a0, a1, a2, a3, a4, .int x, a6] st h = pR 42 d 72 [a0, a1, a2, a3, a4, .int x, a6] (.int x :: st) h := pR_L rfl rfl
theorem rX1_set_72 : pR 42 (d + 1) 72 ls (b1 :: .ref o :: st) h = if (pok 1 (pcl h o) && pw st) = true then pK 42 (d + 1) 72 3 ls st (pCa 43 d [.ref o, b1] h) else none := r_callV rfl rfl rfl
theorem rX1_set_75 : pR 42 d 75 ls [.int x] h = some (.inl (some (.int x)), h) := pR_E rfl rfl
-- 43 BalloonStall firstOf (I)I
theorem eX1_firstOf : pCa 43 d [.ref o, .int x0] h = pR 43 d 0 [.ref o, .int x0, pU, pU] [] h := rfl
theorem rX1_firstOf_0 : pR 43 d 0 [a0, .int x, a2, a3] st h = pR 43 d 1 [a0, .int x, a2, a3] (.int x :: st) h := pR_L rfl rfl
theorem rX1_firstOf_1 : pR 43 d 1 [a0, .int x, a2, a3] st h = pR 43 d 2 [a0, .int x, a2, a3] (.int x :: st) h := pR_L rfl rfl
theorem rX1_firstOf_2 : pR 43 d 2 ls (.int x :: st) h = pR 43 d 3 ls (.int (-x) :: st) h := pR_L rfl rfl
theorem rX1_firstOf_3 : pR 43 d 3 ls (.int y :: .int x :: st) h = pR 43 d 4 ls (.int (x &&& y) :: st) h := pR_L rfl rfl
theorem rX1_firstOf_4 : pR 43 d 4 [a0, a1, a2, a3] (.int x :: st) h = if p1 a2 = true then pR 43 d 5 [a0, a1, .int x, a3] st h else none := r_sto (n := 1) (k := 2) (v := .int x) (ls := [a0, a1, a2, a3]) rfl rfl rfl
theorem rX1_firstOf_5 : pR 43 d 5 [a0, a1, .int x, a3] st h = pR 43 d 6 [a0, a1, .int x, a3] (.int x :: st) h := pR_L rfl rfl
theorem rX1_firstOf_6 : pR 43 d 6 [a0, a1, a2, a3] (.int x :: st) h = if p1 a3 = true then pR 43 d 7 [a0, a1, a2, .int x] st h else none := r_sto (n := 1) (k := 3) (v := .int x) (ls := [a0, a1, a2, a3]) rfl rfl rfl
theorem rX1_firstOf_7 : pR 43 d 7 [a0, a1, a2, .int x] st h = pR 43 d 8 [a0, a1, a2, .int x] (.int x :: st) h := pR_L rfl rfl
theorem rX1_firstOf_8 : pR 43 d 8 [a0, .int x, a2, a3] st h = pR 43 d 9 [a0, .int x, a2, a3] (.int x :: st) h := pR_L rfl rfl
theorem rX1_firstOf_9 : pR 43 d 9 ls (.int y :: .int x :: st) h = if y < x then pR 43 d 65 ls st h else pR 43 d 12 ls st h := r_cgt rfl rfl
theorem rX1_firstOf_12 : pR 43 d 12 [a0, a1, a2, .int x] st h = pR 43 d 13 [a0, a1, a2, .int x] (.int x :: st) h := pR_L rfl rfl
theorem rX1_firstOf_13 : pR 43 d 13 [a0, .int x, a2, a3] st h = pR 43 d 14 [a0, .int x, a2, a3] (.int x :: st) h := pR_L rfl rfl
theorem rX1_firstOf_14 : pR 43 d 14 ls st h = pR 43 d 15 ls (.int (-1) :: st) h := pR_L rfl rfl
theorem rX1_firstOf_15 : pR 43 d 15 ls (.int y :: .int x :: st) h = pR 43 d 16 ls (.int (x ^^^ y) :: st) h := pR_L rfl rfl
theorem rX1_firstOf_16 : pR 43 d 16 ls (.int y :: .int x :: st) h = pR 43 d 17 ls (.int (x &&& y) :: st) h := pR_L rfl rfl
theorem rX1_firstOf_17 : pR 43 d 17 ls (.int x :: st) h = if x = 0 then pR 43 d 20 ls st h else pR 43 d 59 ls st h := r_ine rfl rfl
theorem rX1_firstOf_20 : pR 43 d 20 [a0, a1, a2, .int x] st h = pR 43 d 21 [a0, a1, a2, .int x] (.int x :: st) h := pR_L rfl rfl
theorem rX1_firstOf_21 : pR 43 d 21 [a0, a1, .int x, a3] st h = pR 43 d 22 [a0, a1, .int x, a3] (.int x :: st) h := pR_L rfl rfl
theorem rX1_firstOf_22 : pR 43 d 22 ls (.int y :: .int x :: st) h = pR 43 d 23 ls (.int (x &&& y) :: st) h := pR_L rfl rfl
theorem rX1_firstOf_23 : pR 43 d 23 ls (.int x :: st) h = if x = 0 then pR 43 d 59 ls st h else pR 43 d 26 ls st h := r_ieq rfl rfl
theorem rX1_firstOf_26 : pR 43 d 26 [.ref o, a1, a2, a3] st h = pR 43 d 27 [.ref o, a1, a2, a3] (.ref o :: st) h := pR_L rfl rfl
theorem rX1_firstOf_27 : pR 43 d 27 ls (.ref o :: st) h = if pis (pfl h 1 o 9) = true then pR 43 d 30 ls (pfl h 1 o 9 :: st) h else none := r_get rfl
theorem rX1_firstOf_30 : pR 43 d 30 [a0, a1, a2, .int x] st h = pR 43 d 31 [a0, a1, a2, .int x] (.int x :: st) h := pR_L rfl rfl
theorem rX1_firstOf_31 : pR 43 d 31 ls (.int x :: .ref o :: st) h = if (pin x (pln h 0 o) || pin x (pln h 9 o)) = true then pR 43 d 32 ls (.int (pct h o x.toNatClampNeg) :: st) h else none := pR_Lif rfl rfl
theorem rX1_firstOf_32 : pR 43 d 32 ls st h = pR 43 d 33 ls (.int 1 :: st) h := pR_L rfl rfl
theorem rX1_firstOf_33 : pR 43 d 33 ls (.int y :: .int x :: st) h = if x = y then pR 43 d 36 ls st h else pR 43 d 59 ls st h := r_cne rfl rfl
theorem rX1_firstOf_36 : pR 43 d 36 ls st h = pR 43 d 37 ls (.int 1 :: st) h := pR_L rfl rfl
theorem rX1_firstOf_37 : pR 43 d 37 [.ref o, a1, a2, a3] st h = pR 43 d 38 [.ref o, a1, a2, a3] (.ref o :: st) h := pR_L rfl rfl
theorem rX1_firstOf_38 : pR 43 d 38 ls (.ref o :: st) h = if pis (pfl h 1 o 8) = true then pR 43 d 41 ls (pfl h 1 o 8 :: st) h else none := r_get rfl
theorem rX1_firstOf_41 : pR 43 d 41 [a0, .int x, a2, a3] st h = pR 43 d 42 [a0, .int x, a2, a3] (.int x :: st) h := pR_L rfl rfl
theorem rX1_firstOf_42 : pR 43 d 42 [a0, a1, a2, .int x] st h = pR 43 d 43 [a0, a1, a2, .int x] (.int x :: st) h := pR_L rfl rfl
theorem rX1_firstOf_43 : pR 43 d 43 ls st h = pR 43 d 44 ls (.int (-1) :: st) h := pR_L rfl rfl
theorem rX1_firstOf_44 : pR 43 d 44 ls (.int y :: .int x :: st) h = pR 43 d 45 ls (.int (x ^^^ y) :: st) h := pR_L rfl rfl
theorem rX1_firstOf_45 : pR 43 d 45 ls (.int y :: .int x :: st) h = pR 43 d 46 ls (.int (x &&& y) :: st) h := pR_L rfl rfl
theorem rX1_firstOf_46 : pR 43 d 46 ls (.int x :: .ref o :: st) h = if (pin x (pln h 0 o) || pin x (pln h 9 o)) = true then pR 43 d 47 ls (.int (pct h o x.toNatClampNeg) :: st) h else none := pR_Lif rfl rfl
theorem rX1_firstOf_47 : pR 43 d 47 ls (.int y :: .int x :: st) h = pR 43 d 48 ls (.int (x + y) :: st) h := pR_L rfl rfl
theorem rX1_firstOf_48 : pR 43 d 48 [.ref o, a1, a2, a3] st h = pR 43 d 49 [.ref o, a1, a2, a3] (.ref o :: st) h := pR_L rfl rfl
theorem rX1_firstOf_49 : pR 43 d 49 ls (.ref o :: st) h = if pis (pfl h 1 o 8) = true then pR 43 d 52 ls (pfl h 1 o 8 :: st) h else none := r_get rfl
theorem rX1_firstOf_52 : pR 43 d 52 [a0, .int x, a2, a3] st h = pR 43 d 53 [a0, .int x, a2, a3] (.int x :: st) h := pR_L rfl rfl
theorem rX1_firstOf_53 : pR 43 d 53 ls (.int x :: .ref o :: st) h = if (pin x (pln h 0 o) || pin x (pln h 9 o)) = true then pR 43 d 54 ls (.int (pct h o x.toNatClampNeg) :: st) h else none := pR_Lif rfl rfl
theorem rX1_firstOf_54 : pR 43 d 54 ls (.int y :: .int x :: st) h = if x = y then pR 43 d 57 ls st h else pR 43 d 59 ls st h := r_cne rfl rfl
theorem rX1_firstOf_57 : pR 43 d 57 [a0, a1, a2, .int x] st h = pR 43 d 58 [a0, a1, a2, .int x] (.int x :: st) h := pR_L rfl rfl
theorem rX1_firstOf_58 : pR 43 d 58 ls [.int x] h = some (.inl (some (.int x)), h) := pR_E rfl rfl
theorem rX1_firstOf_59 : pR 43 d 59 [a0, a1, a2, .int x] st h = pR 43 d 62 [a0, a1, a2, .int (x + 1)] st h := pR_L rfl rfl
theorem rX1_firstOf_62 : pR 43 d 62 ls st h = pR 43 d 7 ls st h := pR_L rfl rfl
theorem rX1_firstOf_65 : pR 43 d 65 [a0, .int x, a2, a3] st h = pR 43 d 66 [a0, .int x, a2, a3] (.int x :: st) h := pR_L rfl rfl
theorem rX1_firstOf_66 : pR 43 d 66 ls [.int x] h = some (.inl (some (.int x)), h) := pR_E rfl rfl
-- 44 BalloonStall twice (I)I
theorem eX1_twice : pCa 44 d [.ref o, .int x0] h = pR 44 d 0 [.ref o, .int x0, pU, pU, pU] [] h := rfl
theorem rX1_twice_0 : pR 44 d 0 [.ref o, a1, a2, a3, a4] st h = pR 44 d 1 [.ref o, a1, a2, a3, a4] (.ref o :: st) h := pR_L rfl rfl
theorem rX1_twice_1 : pR 44 d 1 [a0, .int x, a2, a3, a4] st h = pR 44 d 2 [a0, .int x, a2, a3, a4] (.int x :: st) h := pR_L rfl rfl
theorem rX1_twice_2 : pR 44 (d + 1) 2 ls (b1 :: .ref o :: st) h = if (pok 1 (pcl h o) && pw st) = true then pK 44 (d + 1) 2 3 ls st (pCa 15 d [.ref o, b1] h) else none := r_callV rfl rfl rfl
theorem rX1_twice_5 : pR 44 d 5 ls (.int x :: st) h = if x = 0 then pR 44 d 44 ls st h else pR 44 d 8 ls st h := r_ieq rfl rfl
theorem rX1_twice_8 : pR 44 d 8 [.ref o, a1, a2, a3, a4] st h = pR 44 d 9 [.ref o, a1, a2, a3, a4] (.ref o :: st) h := pR_L rfl rfl
theorem rX1_twice_9 : pR 44 d 9 ls (.ref o :: st) h = if pis (pfl h 1 o 4) = true then pR 44 d 12 ls (pfl h 1 o 4 :: st) h else none := r_get rfl
theorem rX1_twice_12 : pR 44 d 12 [a0, .int x, a2, a3, a4] st h = pR 44 d 13 [a0, .int x, a2, a3, a4] (.int x :: st) h := pR_L rfl rfl
theorem rX1_twice_13 : pR 44 d 13 ls (.int x :: .ref o :: st) h = if pin x (plnQ h o) = true then pR 44 d 14 ls (va_rf (pctQ h o x.toNatClampNeg) :: st) h else none := pR_Lif rfl rfl
theorem rX1_twice_14 : pR 44 d 14 ls (.ref o :: st) h = if pis (pfl h 24 o 6) = true then pR 44 d 17 ls (pfl h 24 o 6 :: st) h else none := r_get rfl
theorem rX1_twice_17 : pR 44 d 17 ls st h = pR 44 d 19 ls (.int 12 :: st) h := pR_L rfl rfl
theorem rX1_twice_19 : pR 44 d 19 ls (.int y :: .int x :: st) h = if y < x then pR 44 d 44 ls st h else pR 44 d 22 ls st h := r_cgt rfl rfl
theorem rX1_twice_22 : pR 44 d 22 [.ref o, a1, a2, a3, a4] st h = pR 44 d 23 [.ref o, a1, a2, a3, a4] (.ref o :: st) h := pR_L rfl rfl
theorem rX1_twice_23 : pR 44 d 23 ls (.ref o :: st) h = if pis (pfl h 1 o 4) = true then pR 44 d 26 ls (pfl h 1 o 4 :: st) h else none := r_get rfl
theorem rX1_twice_26 : pR 44 d 26 [a0, .int x, a2, a3, a4] st h = pR 44 d 27 [a0, .int x, a2, a3, a4] (.int x :: st) h := pR_L rfl rfl
theorem rX1_twice_27 : pR 44 d 27 ls (.int x :: .ref o :: st) h = if pin x (plnQ h o) = true then pR 44 d 28 ls (va_rf (pctQ h o x.toNatClampNeg) :: st) h else none := pR_Lif rfl rfl
theorem rX1_twice_28 : pR 44 d 28 [.ref o, a1, a2, a3, a4] st h = pR 44 d 29 [.ref o, a1, a2, a3, a4] (.ref o :: st) h := pR_L rfl rfl
theorem rX1_twice_29 : pR 44 d 29 ls (.ref o :: st) h = if pis (pfl h 1 o 4) = true then pR 44 d 32 ls (pfl h 1 o 4 :: st) h else none := r_get rfl
theorem rX1_twice_32 : pR 44 d 32 [a0, .int x, a2, a3, a4] st h = pR 44 d 33 [a0, .int x, a2, a3, a4] (.int x :: st) h := pR_L rfl rfl
theorem rX1_twice_33 : pR 44 d 33 ls (.int x :: .ref o :: st) h = if pin x (plnQ h o) = true then pR 44 d 34 ls (va_rf (pctQ h o x.toNatClampNeg) :: st) h else none := pR_Lif rfl rfl
theorem rX1_twice_34 : pR 44 (d + 1) 34 ls (.ref o :: st) h = if (pok 24 (pcl h o) && pw st) = true then pK 44 (d + 1) 34 3 ls st (pCa 239 d [.ref o] h) else none := r_callV rfl rfl rfl
theorem rX1_twice_37 : pR 44 (d + 1) 37 ls (b1 :: .ref o :: st) h = if (pok 24 (pcl h o) && pw st) = true then pK 44 (d + 1) 37 3 ls st (pCa 240 d [.ref o, b1] h) else none := r_callV rfl rfl rfl
theorem rX1_twice_40 : pR 44 d 40 ls st h = pR 44 d 41 ls (.int 1 :: st) h := pR_L rfl rfl
theorem rX1_twice_41 : pR 44 d 41 ls (.int y :: .int x :: st) h = if y < x then pR 44 d 44 ls st h else pR 44 d 46 ls st h := r_cle rfl rfl
theorem rX1_twice_44 : pR 44 d 44 ls st h = pR 44 d 45 ls (.int (-1) :: st) h := pR_L rfl rfl
theorem rX1_twice_45 : pR 44 d 45 ls [.int x] h = some (.inl (some (.int x)), h) := pR_E rfl rfl
theorem rX1_twice_46 : pR 44 d 46 [.ref o, a1, a2, a3, a4] st h = pR 44 d 47 [.ref o, a1, a2, a3, a4] (.ref o :: st) h := pR_L rfl rfl
theorem rX1_twice_47 : pR 44 d 47 ls (.ref o :: st) h = if pis (pfl h 1 o 4) = true then pR 44 d 50 ls (pfl h 1 o 4 :: st) h else none := r_get rfl
theorem rX1_twice_50 : pR 44 d 50 [a0, .int x, a2, a3, a4] st h = pR 44 d 51 [a0, .int x, a2, a3, a4] (.int x :: st) h := pR_L rfl rfl
theorem rX1_twice_51 : pR 44 d 51 ls (.int x :: .ref o :: st) h = if pin x (plnQ h o) = true then pR 44 d 52 ls (va_rf (pctQ h o x.toNatClampNeg) :: st) h else none := pR_Lif rfl rfl
theorem rX1_twice_52 : pR 44 d 52 [a0, a1, a2, a3, a4] (.ref o :: st) h = if p1 a2 = true then pR 44 d 53 [a0, a1, .ref o, a3, a4] st h else none := r_sto (n := 1) (k := 2) (v := .ref o) (ls := [a0, a1, a2, a3, a4]) rfl rfl rfl
theorem rX1_twice_52n : pR 44 d 52 [a0, a1, a2, a3, a4] (.null :: st) h = if p1 a2 = true then pR 44 d 53 [a0, a1, .null, a3, a4] st h else none := r_sto (n := 1) (k := 2) (v := .null) (ls := [a0, a1, a2, a3, a4]) rfl rfl rfl
theorem rX1_twice_53 : pR 44 d 53 [.ref o, a1, a2, a3, a4] st h = pR 44 d 54 [.ref o, a1, a2, a3, a4] (.ref o :: st) h := pR_L rfl rfl
theorem rX1_twice_54 : pR 44 d 54 [a0, a1, .ref o, a3, a4] st h = pR 44 d 55 [a0, a1, .ref o, a3, a4] (.ref o :: st) h := pR_L rfl rfl
theorem rX1_twice_54n : pR 44 d 54 [a0, a1, .null, a3, a4] st h = pR 44 d 55 [a0, a1, .null, a3, a4] (.null :: st) h := pR_L rfl rfl
theorem rX1_twice_55 : pR 44 (d + 1) 55 ls (b1 :: .ref o :: st) h = if (pok 1 (pcl h o) && pw st) = true then pK 44 (d + 1) 55 3 ls st (pCa 35 d [.ref o, b1] h) else none := r_callV rfl rfl rfl
theorem rX1_twice_58 : pR 44 d 58 ls st h = pR 44 d 59 ls (.int 0 :: st) h := pR_L rfl rfl
theorem rX1_twice_59 : pR 44 d 59 [a0, a1, a2, a3, a4] (.int x :: st) h = if p1 a3 = true then pR 44 d 60 [a0, a1, a2, .int x, a4] st h else none := r_sto (n := 1) (k := 3) (v := .int x) (ls := [a0, a1, a2, a3, a4]) rfl rfl rfl
theorem rX1_twice_60 : pR 44 d 60 ls st h = pR 44 d 61 ls (.int 0 :: st) h := pR_L rfl rfl
theorem rX1_twice_61 : pR 44 d 61 [a0, a1, a2, a3, a4] (.int x :: st) h = if p1 a4 = true then pR 44 d 63 [a0, a1, a2, a3, .int x] st h else none := r_sto (n := 2) (k := 4) (v := .int x) (ls := [a0, a1, a2, a3, a4]) rfl rfl rfl
theorem rX1_twice_63 : pR 44 d 63 [a0, a1, a2, a3, .int x] st h = pR 44 d 65 [a0, a1, a2, a3, .int x] (.int x :: st) h := pR_L rfl rfl
theorem rX1_twice_65 : pR 44 d 65 [a0, a1, .ref o, a3, a4] st h = pR 44 d 66 [a0, a1, .ref o, a3, a4] (.ref o :: st) h := pR_L rfl rfl
theorem rX1_twice_65n : pR 44 d 65 [a0, a1, .null, a3, a4] st h = pR 44 d 66 [a0, a1, .null, a3, a4] (.null :: st) h := pR_L rfl rfl
theorem rX1_twice_66 : pR 44 d 66 ls (.ref o :: st) h = if pis (pfl h 24 o 8) = true then pR 44 d 69 ls (pfl h 24 o 8 :: st) h else none := r_get rfl
theorem rX1_twice_69 : pR 44 d 69 ls (.int y :: .int x :: st) h = if x < y then pR 44 d 72 ls st h else pR 44 d 104 ls st h := r_cge rfl rfl
theorem rX1_twice_72 : pR 44 d 72 [a0, a1, .ref o, a3, a4] st h = pR 44 d 73 [a0, a1, .ref o, a3, a4] (.ref o :: st) h := pR_L rfl rfl
theorem rX1_twice_72n : pR 44 d 72 [a0, a1, .null, a3, a4] st h = pR 44 d 73 [a0, a1, .null, a3, a4] (.null :: st) h := pR_L rfl rfl
theorem rX1_twice_73 : pR 44 d 73 ls (.ref o :: st) h = if pis (pfl h 24 o 5) = true then pR 44 d 76 ls (pfl h 24 o 5 :: st) h else none := r_get rfl
theorem rX1_twice_76 : pR 44 d 76 [a0, a1, a2, a3, .int x] st h = pR 44 d 78 [a0, a1, a2, a3, .int x] (.int x :: st) h := pR_L rfl rfl
theorem rX1_twice_78 : pR 44 d 78 ls (.int x :: .ref o :: st) h = if (pin x (pln h 0 o) || pin x (pln h 9 o)) = true then pR 44 d 79 ls (.int (pct h o x.toNatClampNeg) :: st) h else none := pR_Lif rfl rfl
theorem rX1_twice_79 : pR 44 d 79 ls st h = pR 44 d 80 ls (.int 2 :: st) h := pR_L rfl rfl
theorem rX1_twice_80 : pR 44 d 80 ls (.int y :: .int x :: st) h = if y = 0 then none else pR 44 d 81 ls (.int (x - x / y * y) :: st) h := r_rem rfl
theorem rX1_twice_81 : pR 44 d 81 ls (.int x :: st) h = if x = 0 then pR 44 d 84 ls st h else pR 44 d 87 ls st h := r_ine rfl rfl
theorem rX1_twice_84 : pR 44 d 84 ls st h = pR 44 d 98 ls st h := pR_L rfl rfl
theorem rX1_twice_87 : pR 44 d 87 [.ref o, a1, a2, a3, a4] st h = pR 44 d 88 [.ref o, a1, a2, a3, a4] (.ref o :: st) h := pR_L rfl rfl
theorem rX1_twice_88 : pR 44 d 88 ls (.ref o :: st) h = if pis (pfl h 1 o 10) = true then pR 44 d 91 ls (pfl h 1 o 10 :: st) h else none := r_get rfl
theorem rX1_twice_91 : pR 44 d 91 [a0, a1, a2, .int x, a4] st h = pR 44 d 92 [a0, a1, a2, .int x, a4] (.int x :: st) h := pR_L rfl rfl
theorem rX1_twice_92 : pR 44 d 92 [a0, a1, a2, a3, .int x] st h = pR 44 d 94 [a0, a1, a2, a3, .int x] (.int x :: st) h := pR_L rfl rfl
theorem rX1_twice_94 : pR 44 d 94 ls (.int y :: .int x :: .ref o :: st) h = if pin x (pln h 0 o) = true then pR 44 d 95 ls st (pst h o x.toNatClampNeg y) else none := pR_Lif rfl rfl
theorem rX1_twice_95 : pR 44 d 95 [a0, a1, a2, .int x, a4] st h = pR 44 d 98 [a0, a1, a2, .int (x + 1), a4] st h := pR_L rfl rfl
theorem rX1_twice_98 : pR 44 d 98 [a0, a1, a2, a3, .int x] st h = pR 44 d 101 [a0, a1, a2, a3, .int (x + 1)] st h := pR_L rfl rfl
theorem rX1_twice_101 : pR 44 d 101 ls st h = pR 44 d 63 ls st h := pR_L rfl rfl
theorem rX1_twice_104 : pR 44 d 104 [.ref o, a1, a2, a3, a4] st h = pR 44 d 105 [.ref o, a1, a2, a3, a4] (.ref o :: st) h := pR_L rfl rfl
theorem rX1_twice_105 : pR 44 d 105 [a0, a1, a2, .int x, a4] st h = pR 44 d 106 [a0, a1, a2, .int x, a4] (.int x :: st) h := pR_L rfl rfl
theorem rX1_twice_106 : pR 44 d 106 ls st h = pR 44 d 107 ls (.int 0 :: st) h := pR_L rfl rfl
theorem rX1_twice_107 : pR 44 d 107 ls st h = pR 44 d 108 ls (.int 2 :: st) h := pR_L rfl rfl
theorem rX1_twice_108 : pR 44 d 108 [a0, a1, a2, .int x, a4] st h = pR 44 d 109 [a0, a1, a2, .int x, a4] (.int x :: st) h := pR_L rfl rfl
theorem rX1_twice_109 : pR 44 (d + 1) 109 ls (.int y :: .int x :: st) h = if pw st = true then pR 44 (d + 1) 112 ls (.int (if y < x then y else x) :: st) h else none := r_mn rfl
theorem rX1_twice_112 : pR 44 (d + 1) 112 ls (b3 :: b2 :: b1 :: .ref o :: st) h = if (pok 1 (pcl h o) && pw st) = true then pK 44 (d + 1) 112 3 ls st (pCa 45 d [.ref o, b1, b2, b3] h) else none := r_callV rfl rfl rfl
theorem rX1_twice_115 : pR 44 d 115 ls [.int x] h = some (.inl (some (.int x)), h) := pR_E rfl rfl
-- 45 BalloonStall paired (III)I
theorem eX1_paired : pCa 45 d [.ref o, .int x0, .int x1, .int x2] h = pR 45 d 0 [.ref o, .int x0, .int x1, .int x2, pU, pU, pU] [] h := rfl
theorem rX1_paired_0 : pR 45 d 0 ls st h = pR 45 d 1 ls (.int 0 :: st) h := pR_L rfl rfl
theorem rX1_paired_1 : pR 45 d 1 [a0, a1, a2, a3, a4, a5, a6] (.int x :: st) h = if p1 a4 = true then pR 45 d 3 [a0, a1, a2, a3, .int x, a5, a6] st h else none := r_sto (n := 2) (k := 4) (v := .int x) (ls := [a0, a1, a2, a3, a4, a5, a6]) rfl rfl rfl
theorem rX1_paired_3 : pR 45 d 3 [a0, a1, a2, a3, .int x, a5, a6] st h = pR 45 d 5 [a0, a1, a2, a3, .int x, a5, a6] (.int x :: st) h := pR_L rfl rfl
theorem rX1_paired_5 : pR 45 d 5 [a0, .int x, a2, a3, a4, a5, a6] st h = pR 45 d 6 [a0, .int x, a2, a3, a4, a5, a6] (.int x :: st) h := pR_L rfl rfl
theorem rX1_paired_6 : pR 45 d 6 ls (.int y :: .int x :: st) h = if x < y then pR 45 d 9 ls st h else pR 45 d 25 ls st h := r_cge rfl rfl
theorem rX1_paired_9 : pR 45 d 9 [a0, a1, .int x, a3, a4, a5, a6] st h = pR 45 d 10 [a0, a1, .int x, a3, a4, a5, a6] (.int x :: st) h := pR_L rfl rfl
theorem rX1_paired_10 : pR 45 d 10 [a0, a1, a2, a3, .int x, a5, a6] st h = pR 45 d 12 [a0, a1, a2, a3, .int x, a5, a6] (.int x :: st) h := pR_L rfl rfl
theorem rX1_paired_12 : pR 45 d 12 ls (.int y :: .int x :: st) h = pR 45 d 13 ls (.int (x >>> (y &&& 31)) :: st) h := pR_L rfl rfl
theorem rX1_paired_13 : pR 45 d 13 ls st h = pR 45 d 14 ls (.int 1 :: st) h := pR_L rfl rfl
theorem rX1_paired_14 : pR 45 d 14 ls (.int y :: .int x :: st) h = pR 45 d 15 ls (.int (x &&& y) :: st) h := pR_L rfl rfl
theorem rX1_paired_15 : pR 45 d 15 ls st h = pR 45 d 16 ls (.int 1 :: st) h := pR_L rfl rfl
theorem rX1_paired_16 : pR 45 d 16 ls (.int y :: .int x :: st) h = if x = y then pR 45 d 19 ls st h else pR 45 d 25 ls st h := r_cne rfl rfl
theorem rX1_paired_19 : pR 45 d 19 [a0, a1, a2, a3, .int x, a5, a6] st h = pR 45 d 22 [a0, a1, a2, a3, .int (x + 1), a5, a6] st h := pR_L rfl rfl
theorem rX1_paired_22 : pR 45 d 22 ls st h = pR 45 d 3 ls st h := pR_L rfl rfl
theorem rX1_paired_25 : pR 45 d 25 [a0, a1, a2, a3, .int x, a5, a6] st h = pR 45 d 27 [a0, a1, a2, a3, .int x, a5, a6] (.int x :: st) h := pR_L rfl rfl
theorem rX1_paired_27 : pR 45 d 27 [a0, .int x, a2, a3, a4, a5, a6] st h = pR 45 d 28 [a0, .int x, a2, a3, a4, a5, a6] (.int x :: st) h := pR_L rfl rfl
theorem rX1_paired_28 : pR 45 d 28 ls (.int y :: .int x :: st) h = if x = y then pR 45 d 31 ls st h else pR 45 d 33 ls st h := r_cne rfl rfl
theorem rX1_paired_31 : pR 45 d 31 ls st h = pR 45 d 32 ls (.int 0 :: st) h := pR_L rfl rfl
theorem rX1_paired_32 : pR 45 d 32 ls [.int x] h = some (.inl (some (.int x)), h) := pR_E rfl rfl
theorem rX1_paired_33 : pR 45 d 33 [a0, a1, a2, .int x, a4, a5, a6] st h = pR 45 d 34 [a0, a1, a2, .int x, a4, a5, a6] (.int x :: st) h := pR_L rfl rfl
theorem rX1_paired_34 : pR 45 d 34 ls (.int x :: st) h = if 0 < x then pR 45 d 37 ls st h else pR 45 d 54 ls st h := r_ile rfl rfl
theorem rX1_paired_37 : pR 45 d 37 [.ref o, a1, a2, a3, a4, a5, a6] st h = pR 45 d 38 [.ref o, a1, a2, a3, a4, a5, a6] (.ref o :: st) h := pR_L rfl rfl
theorem rX1_paired_38 : pR 45 d 38 [a0, .int x, a2, a3, a4, a5, a6] st h = pR 45 d 39 [a0, .int x, a2, a3, a4, a5, a6] (.int x :: st) h := pR_L rfl rfl
theorem rX1_paired_39 : pR 45 d 39 [a0, a1, .int x, a3, a4, a5, a6] st h = pR 45 d 40 [a0, a1, .int x, a3, a4, a5, a6] (.int x :: st) h := pR_L rfl rfl
theorem rX1_paired_40 : pR 45 d 40 ls st h = pR 45 d 41 ls (.int 1 :: st) h := pR_L rfl rfl
theorem rX1_paired_41 : pR 45 d 41 [a0, a1, a2, a3, .int x, a5, a6] st h = pR 45 d 43 [a0, a1, a2, a3, .int x, a5, a6] (.int x :: st) h := pR_L rfl rfl
theorem rX1_paired_43 : pR 45 d 43 ls (.int y :: .int x :: st) h = pR 45 d 44 ls (.int (x <<< (y &&& 31)) :: st) h := pR_L rfl rfl
theorem rX1_paired_44 : pR 45 d 44 ls (.int y :: .int x :: st) h = pR 45 d 45 ls (.int (x ||| y) :: st) h := pR_L rfl rfl
theorem rX1_paired_45 : pR 45 d 45 [a0, a1, a2, .int x, a4, a5, a6] st h = pR 45 d 46 [a0, a1, a2, .int x, a4, a5, a6] (.int x :: st) h := pR_L rfl rfl
theorem rX1_paired_46 : pR 45 d 46 ls st h = pR 45 d 47 ls (.int 1 :: st) h := pR_L rfl rfl
theorem rX1_paired_47 : pR 45 d 47 ls (.int y :: .int x :: st) h = pR 45 d 48 ls (.int (x - y) :: st) h := pR_L rfl rfl
theorem rX1_paired_48 : pR 45 (d + 1) 48 ls (b3 :: b2 :: b1 :: .ref o :: st) h = if (pok 1 (pcl h o) && pw st) = true then pK 45 (d + 1) 48 3 ls st (pCa 45 d [.ref o, b1, b2, b3] h) else none := r_callV rfl rfl rfl
theorem rX1_paired_51 : pR 45 d 51 ls st h = pR 45 d 57 ls st h := pR_L rfl rfl
theorem rX1_paired_54 : pR 45 d 54 ls st h = pR 45 d 57 ls (.int 1000000 :: st) h := pR_X rfl rfl
theorem rX1_paired_57 : pR 45 d 57 [a0, a1, a2, a3, a4, a5, a6] (.int x :: st) h = if p1 a5 = true then pR 45 d 59 [a0, a1, a2, a3, a4, .int x, a6] st h else none := r_sto (n := 2) (k := 5) (v := .int x) (ls := [a0, a1, a2, a3, a4, a5, a6]) rfl rfl rfl
theorem rX1_paired_59 : pR 45 d 59 [a0, a1, a2, a3, .int x, a5, a6] st h = pR 45 d 61 [a0, a1, a2, a3, .int x, a5, a6] (.int x :: st) h := pR_L rfl rfl
theorem rX1_paired_61 : pR 45 d 61 ls st h = pR 45 d 62 ls (.int 1 :: st) h := pR_L rfl rfl
theorem rX1_paired_62 : pR 45 d 62 ls (.int y :: .int x :: st) h = pR 45 d 63 ls (.int (x + y) :: st) h := pR_L rfl rfl
theorem rX1_paired_63 : pR 45 d 63 [a0, a1, a2, a3, a4, a5, a6] (.int x :: st) h = if p1 a6 = true then pR 45 d 65 [a0, a1, a2, a3, a4, a5, .int x] st h else none := r_sto (n := 2) (k := 6) (v := .int x) (ls := [a0, a1, a2, a3, a4, a5, a6]) rfl rfl rfl
theorem rX1_paired_65 : pR 45 d 65 [a0, a1, a2, a3, a4, a5, .int x] st h = pR 45 d 67 [a0, a1, a2, a3, a4, a5, .int x] (.int x :: st) h := pR_L rfl rfl
theorem rX1_paired_67 : pR 45 d 67 [a0, .int x, a2, a3, a4, a5, a6] st h = pR 45 d 68 [a0, .int x, a2, a3, a4, a5, a6] (.int x :: st) h := pR_L rfl rfl
theorem rX1_paired_68 : pR 45 d 68 ls (.int y :: .int x :: st) h = if x < y then pR 45 d 71 ls st h else pR 45 d 134 ls st h := r_cge rfl rfl
theorem rX1_paired_71 : pR 45 d 71 [a0, a1, .int x, a3, a4, a5, a6] st h = pR 45 d 72 [a0, a1, .int x, a3, a4, a5, a6] (.int x :: st) h := pR_L rfl rfl
theorem rX1_paired_72 : pR 45 d 72 [a0, a1, a2, a3, a4, a5, .int x] st h = pR 45 d 74 [a0, a1, a2, a3, a4, a5, .int x] (.int x :: st) h := pR_L rfl rfl
theorem rX1_paired_74 : pR 45 d 74 ls (.int y :: .int x :: st) h = pR 45 d 75 ls (.int (x >>> (y &&& 31)) :: st) h := pR_L rfl rfl
theorem rX1_paired_75 : pR 45 d 75 ls st h = pR 45 d 76 ls (.int 1 :: st) h := pR_L rfl rfl
theorem rX1_paired_76 : pR 45 d 76 ls (.int y :: .int x :: st) h = pR 45 d 77 ls (.int (x &&& y) :: st) h := pR_L rfl rfl
theorem rX1_paired_77 : pR 45 d 77 ls (.int x :: st) h = if x = 0 then pR 45 d 80 ls st h else pR 45 d 128 ls st h := r_ine rfl rfl
theorem rX1_paired_80 : pR 45 d 80 [a0, a1, a2, a3, a4, .int x, a6] st h = pR 45 d 82 [a0, a1, a2, a3, a4, .int x, a6] (.int x :: st) h := pR_L rfl rfl
theorem rX1_paired_82 : pR 45 d 82 [.ref o, a1, a2, a3, a4, a5, a6] st h = pR 45 d 83 [.ref o, a1, a2, a3, a4, a5, a6] (.ref o :: st) h := pR_L rfl rfl
theorem rX1_paired_83 : pR 45 d 83 ls (.ref o :: st) h = if pis (pfl h 1 o 7) = true then pR 45 d 86 ls (pfl h 1 o 7 :: st) h else none := r_get rfl
theorem rX1_paired_86 : pR 45 d 86 ls st h = pR 45 d 88 ls (.int 32 :: st) h := pR_L rfl rfl
theorem rX1_paired_88 : pR 45 d 88 [.ref o, a1, a2, a3, a4, a5, a6] st h = pR 45 d 89 [.ref o, a1, a2, a3, a4, a5, a6] (.ref o :: st) h := pR_L rfl rfl
theorem rX1_paired_89 : pR 45 d 89 ls (.ref o :: st) h = if pis (pfl h 1 o 10) = true then pR 45 d 92 ls (pfl h 1 o 10 :: st) h else none := r_get rfl
theorem rX1_paired_92 : pR 45 d 92 [a0, a1, a2, a3, .int x, a5, a6] st h = pR 45 d 94 [a0, a1, a2, a3, .int x, a5, a6] (.int x :: st) h := pR_L rfl rfl
theorem rX1_paired_94 : pR 45 d 94 ls (.int x :: .ref o :: st) h = if (pin x (pln h 0 o) || pin x (pln h 9 o)) = true then pR 45 d 95 ls (.int (pct h o x.toNatClampNeg) :: st) h else none := pR_Lif rfl rfl
theorem rX1_paired_95 : pR 45 d 95 ls (.int y :: .int x :: st) h = pR 45 d 96 ls (.int (x * y) :: st) h := pR_L rfl rfl
theorem rX1_paired_96 : pR 45 d 96 [.ref o, a1, a2, a3, a4, a5, a6] st h = pR 45 d 97 [.ref o, a1, a2, a3, a4, a5, a6] (.ref o :: st) h := pR_L rfl rfl
theorem rX1_paired_97 : pR 45 d 97 ls (.ref o :: st) h = if pis (pfl h 1 o 10) = true then pR 45 d 100 ls (pfl h 1 o 10 :: st) h else none := r_get rfl
theorem rX1_paired_100 : pR 45 d 100 [a0, a1, a2, a3, a4, a5, .int x] st h = pR 45 d 102 [a0, a1, a2, a3, a4, a5, .int x] (.int x :: st) h := pR_L rfl rfl
theorem rX1_paired_102 : pR 45 d 102 ls (.int x :: .ref o :: st) h = if (pin x (pln h 0 o) || pin x (pln h 9 o)) = true then pR 45 d 103 ls (.int (pct h o x.toNatClampNeg) :: st) h else none := pR_Lif rfl rfl
theorem rX1_paired_103 : pR 45 d 103 ls (.int y :: .int x :: st) h = pR 45 d 104 ls (.int (x + y) :: st) h := pR_L rfl rfl
theorem rX1_paired_104 : pR 45 d 104 ls (.int x :: .ref o :: st) h = if (pin x (pln h 0 o) || pin x (pln h 9 o)) = true then pR 45 d 105 ls (.int (pct h o x.toNatClampNeg) :: st) h else none := pR_Lif rfl rfl
theorem rX1_paired_105 : pR 45 d 105 [.ref o, a1, a2, a3, a4, a5, a6] st h = pR 45 d 106 [.ref o, a1, a2, a3, a4, a5, a6] (.ref o :: st) h := pR_L rfl rfl
theorem rX1_paired_106 : pR 45 d 106 [a0, .int x, a2, a3, a4, a5, a6] st h = pR 45 d 107 [a0, .int x, a2, a3, a4, a5, a6] (.int x :: st) h := pR_L rfl rfl
theorem rX1_paired_107 : pR 45 d 107 [a0, a1, .int x, a3, a4, a5, a6] st h = pR 45 d 108 [a0, a1, .int x, a3, a4, a5, a6] (.int x :: st) h := pR_L rfl rfl
theorem rX1_paired_108 : pR 45 d 108 ls st h = pR 45 d 109 ls (.int 1 :: st) h := pR_L rfl rfl
theorem rX1_paired_109 : pR 45 d 109 [a0, a1, a2, a3, .int x, a5, a6] st h = pR 45 d 111 [a0, a1, a2, a3, .int x, a5, a6] (.int x :: st) h := pR_L rfl rfl
theorem rX1_paired_111 : pR 45 d 111 ls (.int y :: .int x :: st) h = pR 45 d 112 ls (.int (x <<< (y &&& 31)) :: st) h := pR_L rfl rfl
theorem rX1_paired_112 : pR 45 d 112 ls (.int y :: .int x :: st) h = pR 45 d 113 ls (.int (x ||| y) :: st) h := pR_L rfl rfl
theorem rX1_paired_113 : pR 45 d 113 ls st h = pR 45 d 114 ls (.int 1 :: st) h := pR_L rfl rfl
theorem rX1_paired_114 : pR 45 d 114 [a0, a1, a2, a3, a4, a5, .int x] st h = pR 45 d 116 [a0, a1, a2, a3, a4, a5, .int x] (.int x :: st) h := pR_L rfl rfl
theorem rX1_paired_116 : pR 45 d 116 ls (.int y :: .int x :: st) h = pR 45 d 117 ls (.int (x <<< (y &&& 31)) :: st) h := pR_L rfl rfl
theorem rX1_paired_117 : pR 45 d 117 ls (.int y :: .int x :: st) h = pR 45 d 118 ls (.int (x ||| y) :: st) h := pR_L rfl rfl
theorem rX1_paired_118 : pR 45 d 118 [a0, a1, a2, .int x, a4, a5, a6] st h = pR 45 d 119 [a0, a1, a2, .int x, a4, a5, a6] (.int x :: st) h := pR_L rfl rfl
theorem rX1_paired_119 : pR 45 (d + 1) 119 ls (b3 :: b2 :: b1 :: .ref o :: st) h = if (pok 1 (pcl h o) && pw st) = true then pK 45 (d + 1) 119 3 ls st (pCa 45 d [.ref o, b1, b2, b3] h) else none := r_callV rfl rfl rfl
theorem rX1_paired_122 : pR 45 d 122 ls (.int y :: .int x :: st) h = pR 45 d 123 ls (.int (x + y) :: st) h := pR_L rfl rfl
theorem rX1_paired_123 : pR 45 (d + 1) 123 ls (.int y :: .int x :: st) h = if pw st = true then pR 45 (d + 1) 126 ls (.int (if y < x then y else x) :: st) h else none := r_mn rfl
theorem rX1_paired_126 : pR 45 d 126 [a0, a1, a2, a3, a4, a5, a6] (.int x :: st) h = if p1 a5 = true then pR 45 d 128 [a0, a1, a2, a3, a4, .int x, a6] st h else none := r_sto (n := 2) (k := 5) (v := .int x) (ls := [a0, a1, a2, a3, a4, a5, a6]) rfl rfl rfl
theorem rX1_paired_128 : pR 45 d 128 [a0, a1, a2, a3, a4, a5, .int x] st h = pR 45 d 131 [a0, a1, a2, a3, a4, a5, .int (x + 1)] st h := pR_L rfl rfl
theorem rX1_paired_131 : pR 45 d 131 ls st h = pR 45 d 65 ls st h := pR_L rfl rfl
theorem rX1_paired_134 : pR 45 d 134 [a0, a1, a2, a3, a4, .int x, a6] st h = pR 45 d 136 [a0, a1, a2, a3, a4, .int x, a6] (.int x :: st) h := pR_L rfl rfl
theorem rX1_paired_136 : pR 45 d 136 ls [.int x] h = some (.inl (some (.int x)), h) := pR_E rfl rfl
-- 46 BalloonStall stock (II)Z
theorem eX1_stock : pCa 46 d [.ref o, .int x0, .int x1] h = pR 46 d 0 [.ref o, .int x0, .int x1] [] h := rfl
theorem rX1_stock_0 : pR 46 d 0 [.ref o, a1, a2] st h = pR 46 d 1 [.ref o, a1, a2] (.ref o :: st) h := pR_L rfl rfl
theorem rX1_stock_1 : pR 46 d 1 [a0, .int x, a2] st h = pR 46 d 2 [a0, .int x, a2] (.int x :: st) h := pR_L rfl rfl
theorem rX1_stock_2 : pR 46 (d + 1) 2 ls (b1 :: .ref o :: st) h = if (pok 1 (pcl h o) && pw st) = true then pK 46 (d + 1) 2 3 ls st (pCa 40 d [.ref o, b1] h) else none := r_callV rfl rfl rfl
theorem rX1_stock_5 : pR 46 d 5 ls (.int x :: st) h = if x = 0 then pR 46 d 20 ls st h else pR 46 d 8 ls st h := r_ieq rfl rfl
theorem rX1_stock_8 : pR 46 d 8 [a0, a1, .int x] st h = pR 46 d 9 [a0, a1, .int x] (.int x :: st) h := pR_L rfl rfl
theorem rX1_stock_9 : pR 46 d 9 ls (.int x :: st) h = pR 46 d 10 ls (.long x.toInt64 :: st) h := pR_L rfl rfl
theorem rX1_stock_10 : pR 46 d 10 ls st h = pR 46 d 11 ls (.long 0 :: st) h := pR_L rfl rfl
theorem rX1_stock_11 : pR 46 d 11 ls st h = pR 46 d 14 ls (.long 99 :: st) h := pR_X rfl rfl
theorem rX1_stock_14 : pR 46 (d + 1) 14 ls (b2 :: b1 :: b0 :: st) h = if pw st = true then pK 46 (d + 1) 14 3 ls st (pCa 6 d [b0, b1, b2] h) else none := r_callS rfl rfl rfl
theorem rX1_stock_17 : pR 46 d 17 ls (.int x :: st) h = if x = 0 then pR 46 d 20 ls st h else pR 46 d 22 ls st h := r_ine rfl rfl
theorem rX1_stock_20 : pR 46 d 20 ls st h = pR 46 d 21 ls (.int 0 :: st) h := pR_L rfl rfl
theorem rX1_stock_210 : pR 46 d 21 ls [.int 0] h = some (.inl (some (.int 0)), h) := pR_E rfl rfl
theorem rX1_stock_211 : pR 46 d 21 ls [.int 1] h = some (.inl (some (.int 1)), h) := pR_E rfl rfl
theorem rX1_stock_22 : pR 46 d 22 [.ref o, a1, a2] st h = pR 46 d 23 [.ref o, a1, a2] (.ref o :: st) h := pR_L rfl rfl
theorem rX1_stock_23 : pR 46 d 23 ls (.ref o :: st) h = if pis (pfl h 1 o 0) = true then pR 46 d 26 ls (pfl h 1 o 0 :: st) h else none := r_get rfl
theorem rX1_stock_26 : pR 46 d 26 [a0, .int x, a2] st h = pR 46 d 27 [a0, .int x, a2] (.int x :: st) h := pR_L rfl rfl
theorem rX1_stock_27 : pR 46 d 27 ls (.int x :: .ref o :: st) h = if pin x (plnQ h o) = true then pR 46 d 28 ls (va_rf (pctQ h o x.toNatClampNeg) :: st) h else none := pR_Lif rfl rfl
theorem rX1_stock_28 : pR 46 d 28 [a0, a1, .int x] st h = pR 46 d 29 [a0, a1, .int x] (.int x :: st) h := pR_L rfl rfl
theorem rX1_stock_29 : pR 46 d 29 ls (.int x :: .ref o :: st) h = if pis (pfl h 4 o 3) = true then pR 46 d 32 ls st (psf h o 3 (.int x)) else none := r_put rfl rfl
theorem rX1_stock_32 : pR 46 d 32 ls st h = pR 46 d 33 ls (.int 1 :: st) h := pR_L rfl rfl
theorem rX1_stock_330 : pR 46 d 33 ls [.int 0] h = some (.inl (some (.int 0)), h) := pR_E rfl rfl
theorem rX1_stock_331 : pR 46 d 33 ls [.int 1] h = some (.inl (some (.int 1)), h) := pR_E rfl rfl
-- 47 BalloonStall pace (II)Z
theorem eX1_pace : pCa 47 d [.ref o, .int x0, .int x1] h = pR 47 d 0 [.ref o, .int x0, .int x1] [] h := rfl
theorem rX1_pace_0 : pR 47 d 0 [a0, .int x, a2] st h = pR 47 d 1 [a0, .int x, a2] (.int x :: st) h := pR_L rfl rfl
theorem rX1_pace_1 : pR 47 d 1 ls (.int x :: st) h = pR 47 d 2 ls (.long x.toInt64 :: st) h := pR_L rfl rfl
theorem rX1_pace_2 : pR 47 d 2 ls st h = pR 47 d 3 ls (.long 1 :: st) h := pR_L rfl rfl
theorem rX1_pace_3 : pR 47 d 3 ls st h = pR 47 d 6 ls (.long 9 :: st) h := pR_X rfl rfl
theorem rX1_pace_6 : pR 47 (d + 1) 6 ls (b2 :: b1 :: b0 :: st) h = if pw st = true then pK 47 (d + 1) 6 3 ls st (pCa 6 d [b0, b1, b2] h) else none := r_callS rfl rfl rfl
theorem rX1_pace_9 : pR 47 d 9 ls (.int x :: st) h = if x = 0 then pR 47 d 24 ls st h else pR 47 d 12 ls st h := r_ieq rfl rfl
theorem rX1_pace_12 : pR 47 d 12 [a0, a1, .int x] st h = pR 47 d 13 [a0, a1, .int x] (.int x :: st) h := pR_L rfl rfl
theorem rX1_pace_13 : pR 47 d 13 ls (.int x :: st) h = pR 47 d 14 ls (.long x.toInt64 :: st) h := pR_L rfl rfl
theorem rX1_pace_14 : pR 47 d 14 ls st h = pR 47 d 15 ls (.long 0 :: st) h := pR_L rfl rfl
theorem rX1_pace_15 : pR 47 d 15 ls st h = pR 47 d 18 ls (.long 9 :: st) h := pR_X rfl rfl
theorem rX1_pace_18 : pR 47 (d + 1) 18 ls (b2 :: b1 :: b0 :: st) h = if pw st = true then pK 47 (d + 1) 18 3 ls st (pCa 6 d [b0, b1, b2] h) else none := r_callS rfl rfl rfl
theorem rX1_pace_21 : pR 47 d 21 ls (.int x :: st) h = if x = 0 then pR 47 d 24 ls st h else pR 47 d 26 ls st h := r_ine rfl rfl
theorem rX1_pace_24 : pR 47 d 24 ls st h = pR 47 d 25 ls (.int 0 :: st) h := pR_L rfl rfl
theorem rX1_pace_250 : pR 47 d 25 ls [.int 0] h = some (.inl (some (.int 0)), h) := pR_E rfl rfl
theorem rX1_pace_251 : pR 47 d 25 ls [.int 1] h = some (.inl (some (.int 1)), h) := pR_E rfl rfl
theorem rX1_pace_26 : pR 47 d 26 [.ref o, a1, a2] st h = pR 47 d 27 [.ref o, a1, a2] (.ref o :: st) h := pR_L rfl rfl
theorem rX1_pace_27 : pR 47 d 27 [a0, .int x, a2] st h = pR 47 d 28 [a0, .int x, a2] (.int x :: st) h := pR_L rfl rfl
theorem rX1_pace_28 : pR 47 d 28 ls (.int x :: .ref o :: st) h = if pis (pfl h 1 o 14) = true then pR 47 d 31 ls st (psf h o 14 (.int x)) else none := r_put rfl rfl
theorem rX1_pace_31 : pR 47 d 31 [.ref o, a1, a2] st h = pR 47 d 32 [.ref o, a1, a2] (.ref o :: st) h := pR_L rfl rfl
theorem rX1_pace_32 : pR 47 d 32 [a0, a1, .int x] st h = pR 47 d 33 [a0, a1, .int x] (.int x :: st) h := pR_L rfl rfl
theorem rX1_pace_33 : pR 47 d 33 ls (.int x :: .ref o :: st) h = if pis (pfl h 1 o 15) = true then pR 47 d 36 ls st (psf h o 15 (.int x)) else none := r_put rfl rfl
theorem rX1_pace_36 : pR 47 d 36 ls st h = pR 47 d 37 ls (.int 1 :: st) h := pR_L rfl rfl
theorem rX1_pace_370 : pR 47 d 37 ls [.int 0] h = some (.inl (some (.int 0)), h) := pR_E rfl rfl
theorem rX1_pace_371 : pR 47 d 37 ls [.int 1] h = some (.inl (some (.int 1)), h) := pR_E rfl rfl
-- 48 BalloonStall comes (III)I
theorem eX1_comes : pCa 48 d [.ref o, .int x0, .int x1, .int x2] h = pR 48 d 0 [.ref o, .int x0, .int x1, .int x2] [] h := rfl
theorem rX1_comes_0 : pR 48 d 0 [.ref o, a1, a2, a3] st h = pR 48 d 1 [.ref o, a1, a2, a3] (.ref o :: st) h := pR_L rfl rfl
theorem rX1_comes_1 : pR 48 d 1 ls (.ref o :: st) h = if pis (pfl h 1 o 12) = true then pR 48 d 4 ls (pfl h 1 o 12 :: st) h else none := r_get rfl
theorem rX1_comes_4 : pR 48 d 4 ls st h = pR 48 d 6 ls (.int 30 :: st) h := pR_L rfl rfl
theorem rX1_comes_6 : pR 48 d 6 ls (.int y :: .int x :: st) h = if x = y then pR 48 d 45 ls st h else pR 48 d 9 ls st h := r_ceq rfl rfl
theorem rX1_comes_9 : pR 48 d 9 [.ref o, a1, a2, a3] st h = pR 48 d 10 [.ref o, a1, a2, a3] (.ref o :: st) h := pR_L rfl rfl
theorem rX1_comes_10 : pR 48 d 10 [a0, a1, .int x, a3] st h = pR 48 d 11 [a0, a1, .int x, a3] (.int x :: st) h := pR_L rfl rfl
theorem rX1_comes_11 : pR 48 (d + 1) 11 ls (b1 :: .ref o :: st) h = if (pok 1 (pcl h o) && pw st) = true then pK 48 (d + 1) 11 3 ls st (pCa 15 d [.ref o, b1] h) else none := r_callV rfl rfl rfl
theorem rX1_comes_14 : pR 48 d 14 ls (.int x :: st) h = if x = 0 then pR 48 d 45 ls st h else pR 48 d 17 ls st h := r_ieq rfl rfl
theorem rX1_comes_17 : pR 48 d 17 [a0, .int x, a2, a3] st h = pR 48 d 18 [a0, .int x, a2, a3] (.int x :: st) h := pR_L rfl rfl
theorem rX1_comes_18 : pR 48 d 18 ls (.int x :: st) h = pR 48 d 19 ls (.long x.toInt64 :: st) h := pR_L rfl rfl
theorem rX1_comes_19 : pR 48 d 19 [.ref o, a1, a2, a3] st h = pR 48 d 20 [.ref o, a1, a2, a3] (.ref o :: st) h := pR_L rfl rfl
theorem rX1_comes_20 : pR 48 d 20 ls (.ref o :: st) h = if pis (pfl h 1 o 16) = true then pR 48 d 23 ls (pfl h 1 o 16 :: st) h else none := r_get rfl
theorem rX1_comes_23 : pR 48 d 23 ls (.int x :: st) h = pR 48 d 24 ls (.long x.toInt64 :: st) h := pR_L rfl rfl
theorem rX1_comes_24 : pR 48 d 24 ls st h = pR 48 d 27 ls (.long 9999 :: st) h := pR_X rfl rfl
theorem rX1_comes_27 : pR 48 (d + 1) 27 ls (b2 :: b1 :: b0 :: st) h = if pw st = true then pK 48 (d + 1) 27 3 ls st (pCa 6 d [b0, b1, b2] h) else none := r_callS rfl rfl rfl
theorem rX1_comes_30 : pR 48 d 30 ls (.int x :: st) h = if x = 0 then pR 48 d 45 ls st h else pR 48 d 33 ls st h := r_ieq rfl rfl
theorem rX1_comes_33 : pR 48 d 33 [a0, a1, a2, .int x] st h = pR 48 d 34 [a0, a1, a2, .int x] (.int x :: st) h := pR_L rfl rfl
theorem rX1_comes_34 : pR 48 d 34 ls (.int x :: st) h = pR 48 d 35 ls (.long x.toInt64 :: st) h := pR_L rfl rfl
theorem rX1_comes_35 : pR 48 d 35 ls st h = pR 48 d 36 ls (.long 0 :: st) h := pR_L rfl rfl
theorem rX1_comes_36 : pR 48 d 36 ls st h = pR 48 d 39 ls (.long 999 :: st) h := pR_X rfl rfl
theorem rX1_comes_39 : pR 48 (d + 1) 39 ls (b2 :: b1 :: b0 :: st) h = if pw st = true then pK 48 (d + 1) 39 3 ls st (pCa 6 d [b0, b1, b2] h) else none := r_callS rfl rfl rfl
theorem rX1_comes_42 : pR 48 d 42 ls (.int x :: st) h = if x = 0 then pR 48 d 45 ls st h else pR 48 d 47 ls st h := r_ine rfl rfl
theorem rX1_comes_45 : pR 48 d 45 ls st h = pR 48 d 46 ls (.int (-1) :: st) h := pR_L rfl rfl
theorem rX1_comes_46 : pR 48 d 46 ls [.int x] h = some (.inl (some (.int x)), h) := pR_E rfl rfl
theorem rX1_comes_47 : pR 48 d 47 [.ref o, a1, a2, a3] st h = pR 48 d 48 [.ref o, a1, a2, a3] (.ref o :: st) h := pR_L rfl rfl
theorem rX1_comes_48 : pR 48 d 48 ls (.ref o :: st) h = if pis (pfl h 1 o 11) = true then pR 48 d 51 ls (pfl h 1 o 11 :: st) h else none := r_get rfl
theorem rX1_comes_51 : pR 48 d 51 [.ref o, a1, a2, a3] st h = pR 48 d 52 [.ref o, a1, a2, a3] (.ref o :: st) h := pR_L rfl rfl
theorem rX1_comes_52 : pR 48 d 52 ls (.ref o :: st) h = if pis (pfl h 1 o 12) = true then pR 48 d 55 ls (pfl h 1 o 12 :: st) h else none := r_get rfl
theorem rX1_comes_55 : pR 48 d 55 ls st h = pR 48 d 58 ls (.ref h.2.1 :: st) (pnw h (.inr (25, [.null, .int 0, .int 0, .int 0, .int 0, .int 0, .int 0])) 7) := pR_X rfl rfl
theorem rX1_comes_58 : pR 48 d 58 ls (.ref o :: st) h = pR 48 d 59 ls (.ref o :: .ref o :: st) h := pR_L rfl rfl
theorem rX1_comes_58i : pR 48 d 58 ls (.int x :: st) h = pR 48 d 59 ls (.int x :: .int x :: st) h := pR_L rfl rfl
theorem rX1_comes_59 : pR 48 d 59 [.ref o, a1, a2, a3] st h = pR 48 d 60 [.ref o, a1, a2, a3] (.ref o :: st) h := pR_L rfl rfl
theorem rX1_comes_60 : pR 48 d 60 ls (.ref o :: st) h = if pis (pfl h 1 o 4) = true then pR 48 d 63 ls (pfl h 1 o 4 :: st) h else none := r_get rfl
theorem rX1_comes_63 : pR 48 d 63 [a0, a1, .int x, a3] st h = pR 48 d 64 [a0, a1, .int x, a3] (.int x :: st) h := pR_L rfl rfl
theorem rX1_comes_64 : pR 48 d 64 ls (.int x :: .ref o :: st) h = if pin x (plnQ h o) = true then pR 48 d 65 ls (va_rf (pctQ h o x.toNatClampNeg) :: st) h else none := pR_Lif rfl rfl
theorem rX1_comes_65 : pR 48 d 65 [a0, .int x, a2, a3] st h = pR 48 d 66 [a0, .int x, a2, a3] (.int x :: st) h := pR_L rfl rfl
theorem rX1_comes_66 : pR 48 d 66 [a0, a1, a2, .int x] st h = pR 48 d 67 [a0, a1, a2, .int x] (.int x :: st) h := pR_L rfl rfl
theorem rX1_comes_67 : pR 48 (d + 1) 67 ls (b3 :: b2 :: b1 :: .ref o :: st) h = if (pok 25 (pcl h o) && pw st) = true then pK 48 (d + 1) 67 3 ls st (pCa 249 d [.ref o, b1, b2, b3] h) else none := r_callV rfl rfl rfl
theorem rX1_comes_70 : pR 48 d 70 ls (.ref o2 :: .int x :: .ref o :: st) h = if (pin x (plnQ h o) && pcl h o2 == pel (pkdQ h o)) = true then pR 48 d 71 ls st (pstQ h o x.toNatClampNeg (some o2)) else none := pR_Lif rfl rfl
theorem rX1_comes_71 : pR 48 d 71 [.ref o, a1, a2, a3] st h = pR 48 d 72 [.ref o, a1, a2, a3] (.ref o :: st) h := pR_L rfl rfl
theorem rX1_comes_72 : pR 48 d 72 [a0, .int x, a2, a3] st h = pR 48 d 73 [a0, .int x, a2, a3] (.int x :: st) h := pR_L rfl rfl
theorem rX1_comes_73 : pR 48 d 73 ls (.int x :: .ref o :: st) h = if pis (pfl h 1 o 16) = true then pR 48 d 76 ls st (psf h o 16 (.int x)) else none := r_put rfl rfl
theorem rX1_comes_76 : pR 48 d 76 [.ref o, a1, a2, a3] st h = pR 48 d 77 [.ref o, a1, a2, a3] (.ref o :: st) h := pR_L rfl rfl
theorem rX1_comes_77 : pR 48 d 77 ls (.ref o :: st) h = pR 48 d 78 ls (.ref o :: .ref o :: st) h := pR_L rfl rfl
theorem rX1_comes_77i : pR 48 d 77 ls (.int x :: st) h = pR 48 d 78 ls (.int x :: .int x :: st) h := pR_L rfl rfl
theorem rX1_comes_78 : pR 48 d 78 ls (.ref o :: st) h = if pis (pfl h 1 o 12) = true then pR 48 d 81 ls (pfl h 1 o 12 :: st) h else none := r_get rfl
theorem rX1_comes_81 : pR 48 d 81 ls st h = pR 48 d 82 ls (.int 1 :: st) h := pR_L rfl rfl
theorem rX1_comes_82 : pR 48 d 82 ls (.int y :: .int x :: st) h = pR 48 d 83 ls (.int (x + y) :: st) h := pR_L rfl rfl
theorem rX1_comes_83 : pR 48 d 83 ls (.int x :: .ref o :: st) h = if pis (pfl h 1 o 12) = true then pR 48 d 86 ls st (psf h o 12 (.int x)) else none := r_put rfl rfl
theorem rX1_comes_86 : pR 48 d 86 [.ref o, a1, a2, a3] st h = pR 48 d 87 [.ref o, a1, a2, a3] (.ref o :: st) h := pR_L rfl rfl
theorem rX1_comes_87 : pR 48 d 87 ls (.ref o :: st) h = if pis (pfl h 1 o 12) = true then pR 48 d 90 ls (pfl h 1 o 12 :: st) h else none := r_get rfl
theorem rX1_comes_90 : pR 48 d 90 ls st h = pR 48 d 91 ls (.int 1 :: st) h := pR_L rfl rfl
theorem rX1_comes_91 : pR 48 d 91 ls (.int y :: .int x :: st) h = pR 48 d 92 ls (.int (x - y) :: st) h := pR_L rfl rfl
theorem rX1_comes_92 : pR 48 d 92 ls [.int x] h = some (.inl (some (.int x)), h) := pR_E rfl rfl
-- 49 BalloonStall close ()I
theorem eX1_close : pCa 49 d [.ref o] h = pR 49 d 0 [.ref o, pU] [] h := rfl
theorem rX1_close_0 : pR 49 d 0 [.ref o, a1] st h = pR 49 d 1 [.ref o, a1] (.ref o :: st) h := pR_L rfl rfl
theorem rX1_close_1 : pR 49 d 1 ls (.ref o :: st) h = if pis (pfl h 1 o 12) = true then pR 49 d 4 ls (pfl h 1 o 12 :: st) h else none := r_get rfl
theorem rX1_close_4 : pR 49 d 4 [a0, a1] (.int x :: st) h = if p1 a1 = true then pR 49 d 5 [a0, .int x] st h else none := r_sto (n := 1) (k := 1) (v := .int x) (ls := [a0, a1]) rfl rfl rfl
theorem rX1_close_5 : pR 49 d 5 [.ref o, a1] st h = pR 49 d 6 [.ref o, a1] (.ref o :: st) h := pR_L rfl rfl
theorem rX1_close_6 : pR 49 d 6 ls st h = pR 49 d 7 ls (.int 0 :: st) h := pR_L rfl rfl
theorem rX1_close_7 : pR 49 d 7 ls (.int x :: .ref o :: st) h = if pis (pfl h 1 o 12) = true then pR 49 d 10 ls st (psf h o 12 (.int x)) else none := r_put rfl rfl
theorem rX1_close_10 : pR 49 d 10 [.ref o, a1] st h = pR 49 d 11 [.ref o, a1] (.ref o :: st) h := pR_L rfl rfl
theorem rX1_close_11 : pR 49 d 11 ls st h = pR 49 d 12 ls (.int 0 :: st) h := pR_L rfl rfl
theorem rX1_close_12 : pR 49 d 12 ls (.int x :: .ref o :: st) h = if pis (pfl h 1 o 13) = true then pR 49 d 15 ls st (psf h o 13 (.int x)) else none := r_put rfl rfl
theorem rX1_close_15 : pR 49 d 15 [.ref o, a1] st h = pR 49 d 16 [.ref o, a1] (.ref o :: st) h := pR_L rfl rfl
theorem rX1_close_16 : pR 49 d 16 ls st h = pR 49 d 17 ls (.int 0 :: st) h := pR_L rfl rfl
theorem rX1_close_17 : pR 49 d 17 ls (.int x :: .ref o :: st) h = if pis (pfl h 1 o 16) = true then pR 49 d 20 ls st (psf h o 16 (.int x)) else none := r_put rfl rfl
theorem rX1_close_20 : pR 49 d 20 [a0, .int x] st h = pR 49 d 21 [a0, .int x] (.int x :: st) h := pR_L rfl rfl
theorem rX1_close_21 : pR 49 d 21 ls [.int x] h = some (.inl (some (.int x)), h) := pR_E rfl rfl
-- 50 BalloonStall run (J)I
theorem eX1_run : pCa 50 d [.ref o, .long l0] h = pR 50 d 0 [.ref o, .long l0, pV, pU, pU, pU] [] h := rfl
theorem rX1_run_0 : pR 50 d 0 [.ref o, a1, a2, a3, a4, a5] st h = pR 50 d 1 [.ref o, a1, a2, a3, a4, a5] (.ref o :: st) h := pR_L rfl rfl
theorem rX1_run_1 : pR 50 d 1 [a0, .long lx, a2, a3, a4, a5] st h = pR 50 d 2 [a0, .long lx, a2, a3, a4, a5] (.long lx :: st) h := pR_L rfl rfl
theorem rX1_run_2 : pR 50 d 2 ls (.long lx :: .ref o :: st) h = if pis (pfl h 1 o 17) = true then pR 50 d 5 ls st (psf h o 17 (.long lx)) else none := r_put rfl rfl
theorem rX1_run_5 : pR 50 d 5 ls st h = pR 50 d 6 ls (.int 0 :: st) h := pR_L rfl rfl
theorem rX1_run_6 : pR 50 d 6 [a0, a1, a2, a3, a4, a5] (.int x :: st) h = if p1 a3 = true then pR 50 d 7 [a0, a1, a2, .int x, a4, a5] st h else none := r_sto (n := 1) (k := 3) (v := .int x) (ls := [a0, a1, a2, a3, a4, a5]) rfl rfl rfl
theorem rX1_run_7 : pR 50 d 7 [a0, a1, a2, .int x, a4, a5] st h = pR 50 d 8 [a0, a1, a2, .int x, a4, a5] (.int x :: st) h := pR_L rfl rfl
theorem rX1_run_8 : pR 50 d 8 [.ref o, a1, a2, a3, a4, a5] st h = pR 50 d 9 [.ref o, a1, a2, a3, a4, a5] (.ref o :: st) h := pR_L rfl rfl
theorem rX1_run_9 : pR 50 d 9 ls (.ref o :: st) h = if pis (pfl h 1 o 1) = true then pR 50 d 12 ls (pfl h 1 o 1 :: st) h else none := r_get rfl
theorem rX1_run_12 : pR 50 d 12 ls (.int y :: .int x :: st) h = if x < y then pR 50 d 15 ls st h else pR 50 d 39 ls st h := r_cge rfl rfl
theorem rX1_run_15 : pR 50 d 15 [.ref o, a1, a2, a3, a4, a5] st h = pR 50 d 16 [.ref o, a1, a2, a3, a4, a5] (.ref o :: st) h := pR_L rfl rfl
theorem rX1_run_16 : pR 50 d 16 ls (.ref o :: st) h = if pis (pfl h 1 o 0) = true then pR 50 d 19 ls (pfl h 1 o 0 :: st) h else none := r_get rfl
theorem rX1_run_19 : pR 50 d 19 [a0, a1, a2, .int x, a4, a5] st h = pR 50 d 20 [a0, a1, a2, .int x, a4, a5] (.int x :: st) h := pR_L rfl rfl
theorem rX1_run_20 : pR 50 d 20 ls (.int x :: .ref o :: st) h = if pin x (plnQ h o) = true then pR 50 d 21 ls (va_rf (pctQ h o x.toNatClampNeg) :: st) h else none := pR_Lif rfl rfl
theorem rX1_run_21 : pR 50 d 21 [.ref o, a1, a2, a3, a4, a5] st h = pR 50 d 22 [.ref o, a1, a2, a3, a4, a5] (.ref o :: st) h := pR_L rfl rfl
theorem rX1_run_22 : pR 50 d 22 ls (.ref o :: st) h = if pis (pfl h 1 o 0) = true then pR 50 d 25 ls (pfl h 1 o 0 :: st) h else none := r_get rfl
theorem rX1_run_25 : pR 50 d 25 [a0, a1, a2, .int x, a4, a5] st h = pR 50 d 26 [a0, a1, a2, .int x, a4, a5] (.int x :: st) h := pR_L rfl rfl
theorem rX1_run_26 : pR 50 d 26 ls (.int x :: .ref o :: st) h = if pin x (plnQ h o) = true then pR 50 d 27 ls (va_rf (pctQ h o x.toNatClampNeg) :: st) h else none := pR_Lif rfl rfl
theorem rX1_run_27 : pR 50 d 27 ls (.ref o :: st) h = if pis (pfl h 4 o 3) = true then pR 50 d 30 ls (pfl h 4 o 3 :: st) h else none := r_get rfl
theorem rX1_run_30 : pR 50 d 30 ls (.int x :: .ref o :: st) h = if pis (pfl h 4 o 4) = true then pR 50 d 33 ls st (psf h o 4 (.int x)) else none := r_put rfl rfl
theorem rX1_run_33 : pR 50 d 33 [a0, a1, a2, .int x, a4, a5] st h = pR 50 d 36 [a0, a1, a2, .int (x + 1), a4, a5] st h := pR_L rfl rfl
theorem rX1_run_36 : pR 50 d 36 ls st h = pR 50 d 7 ls st h := pR_L rfl rfl
theorem rX1_run_39 : pR 50 d 39 ls st h = pR 50 d 40 ls (.int 0 :: st) h := pR_L rfl rfl
theorem rX1_run_40 : pR 50 d 40 [a0, a1, a2, a3, a4, a5] (.int x :: st) h = if p1 a3 = true then pR 50 d 41 [a0, a1, a2, .int x, a4, a5] st h else none := r_sto (n := 1) (k := 3) (v := .int x) (ls := [a0, a1, a2, a3, a4, a5]) rfl rfl rfl
theorem rX1_run_41 : pR 50 d 41 ls st h = pR 50 d 42 ls (.int 0 :: st) h := pR_L rfl rfl
theorem rX1_run_42 : pR 50 d 42 [a0, a1, a2, a3, a4, a5] (.int x :: st) h = if p1 a4 = true then pR 50 d 44 [a0, a1, a2, a3, .int x, a5] st h else none := r_sto (n := 2) (k := 4) (v := .int x) (ls := [a0, a1, a2, a3, a4, a5]) rfl rfl rfl
theorem rX1_run_44 : pR 50 d 44 ls st h = pR 50 d 45 ls (.int 0 :: st) h := pR_L rfl rfl
theorem rX1_run_45 : pR 50 d 45 [a0, a1, a2, a3, a4, a5] (.int x :: st) h = if p1 a5 = true then pR 50 d 47 [a0, a1, a2, a3, a4, .int x] st h else none := r_sto (n := 2) (k := 5) (v := .int x) (ls := [a0, a1, a2, a3, a4, a5]) rfl rfl rfl
theorem rX1_run_47 : pR 50 d 47 [a0, a1, a2, a3, a4, .int x] st h = pR 50 d 49 [a0, a1, a2, a3, a4, .int x] (.int x :: st) h := pR_L rfl rfl
theorem rX1_run_49 : pR 50 d 49 [.ref o, a1, a2, a3, a4, a5] st h = pR 50 d 50 [.ref o, a1, a2, a3, a4, a5] (.ref o :: st) h := pR_L rfl rfl
theorem rX1_run_50 : pR 50 d 50 ls (.ref o :: st) h = if pis (pfl h 1 o 12) = true then pR 50 d 53 ls (pfl h 1 o 12 :: st) h else none := r_get rfl
theorem rX1_run_53 : pR 50 d 53 ls (.int y :: .int x :: st) h = if x < y then pR 50 d 56 ls st h else pR 50 d 108 ls st h := r_cge rfl rfl
theorem rX1_run_56 : pR 50 d 56 [.ref o, a1, a2, a3, a4, a5] st h = pR 50 d 57 [.ref o, a1, a2, a3, a4, a5] (.ref o :: st) h := pR_L rfl rfl
theorem rX1_run_57 : pR 50 d 57 [.ref o, a1, a2, a3, a4, a5] st h = pR 50 d 58 [.ref o, a1, a2, a3, a4, a5] (.ref o :: st) h := pR_L rfl rfl
theorem rX1_run_58 : pR 50 d 58 ls (.ref o :: st) h = if pis (pfl h 1 o 11) = true then pR 50 d 61 ls (pfl h 1 o 11 :: st) h else none := r_get rfl
theorem rX1_run_61 : pR 50 d 61 [a0, a1, a2, a3, a4, .int x] st h = pR 50 d 63 [a0, a1, a2, a3, a4, .int x] (.int x :: st) h := pR_L rfl rfl
theorem rX1_run_63 : pR 50 d 63 ls (.int x :: .ref o :: st) h = if pin x (plnQ h o) = true then pR 50 d 64 ls (va_rf (pctQ h o x.toNatClampNeg) :: st) h else none := pR_Lif rfl rfl
theorem rX1_run_64 : pR 50 d 64 [a0, a1, a2, .int x, a4, a5] st h = pR 50 d 65 [a0, a1, a2, .int x, a4, a5] (.int x :: st) h := pR_L rfl rfl
theorem rX1_run_65 : pR 50 (d + 1) 65 ls (b2 :: b1 :: .ref o :: st) h = if (pok 1 (pcl h o) && pw st) = true then pK 50 (d + 1) 65 3 ls st (pCa 51 d [.ref o, b1, b2] h) else none := r_callV rfl rfl rfl
theorem rX1_run_68 : pR 50 d 68 [.ref o, a1, a2, a3, a4, a5] st h = pR 50 d 69 [.ref o, a1, a2, a3, a4, a5] (.ref o :: st) h := pR_L rfl rfl
theorem rX1_run_69 : pR 50 d 69 ls (.ref o :: st) h = if pis (pfl h 1 o 11) = true then pR 50 d 72 ls (pfl h 1 o 11 :: st) h else none := r_get rfl
theorem rX1_run_72 : pR 50 d 72 [a0, a1, a2, a3, a4, .int x] st h = pR 50 d 74 [a0, a1, a2, a3, a4, .int x] (.int x :: st) h := pR_L rfl rfl
theorem rX1_run_74 : pR 50 d 74 ls (.int x :: .ref o :: st) h = if pin x (plnQ h o) = true then pR 50 d 75 ls (va_rf (pctQ h o x.toNatClampNeg) :: st) h else none := pR_Lif rfl rfl
theorem rX1_run_75 : pR 50 d 75 ls (.ref o :: st) h = if pis (pfl h 25 o 5) = true then pR 50 d 78 ls (pfl h 25 o 5 :: st) h else none := r_get rfl
theorem rX1_run_78 : pR 50 d 78 [a0, a1, a2, a3, a4, a5] (.int x :: st) h = if p1 a3 = true then pR 50 d 79 [a0, a1, a2, .int x, a4, a5] st h else none := r_sto (n := 1) (k := 3) (v := .int x) (ls := [a0, a1, a2, a3, a4, a5]) rfl rfl rfl
theorem rX1_run_79 : pR 50 d 79 [a0, a1, a2, a3, .int x, a5] st h = pR 50 d 81 [a0, a1, a2, a3, .int x, a5] (.int x :: st) h := pR_L rfl rfl
theorem rX1_run_81 : pR 50 d 81 [.ref o, a1, a2, a3, a4, a5] st h = pR 50 d 82 [.ref o, a1, a2, a3, a4, a5] (.ref o :: st) h := pR_L rfl rfl
theorem rX1_run_82 : pR 50 d 82 ls (.ref o :: st) h = if pis (pfl h 1 o 11) = true then pR 50 d 85 ls (pfl h 1 o 11 :: st) h else none := r_get rfl
theorem rX1_run_85 : pR 50 d 85 [a0, a1, a2, a3, a4, .int x] st h = pR 50 d 87 [a0, a1, a2, a3, a4, .int x] (.int x :: st) h := pR_L rfl rfl
theorem rX1_run_87 : pR 50 d 87 ls (.int x :: .ref o :: st) h = if pin x (plnQ h o) = true then pR 50 d 88 ls (va_rf (pctQ h o x.toNatClampNeg) :: st) h else none := pR_Lif rfl rfl
theorem rX1_run_88 : pR 50 d 88 ls (.ref o :: st) h = if pis (pfl h 25 o 3) = true then pR 50 d 91 ls (pfl h 25 o 3 :: st) h else none := r_get rfl
theorem rX1_run_91 : pR 50 d 91 ls (.int x :: st) h = if x = 0 then pR 50 d 94 ls st h else pR 50 d 98 ls st h := r_ine rfl rfl
theorem rX1_run_94 : pR 50 d 94 ls st h = pR 50 d 95 ls (.int 1 :: st) h := pR_L rfl rfl
theorem rX1_run_95 : pR 50 d 95 ls st h = pR 50 d 99 ls st h := pR_L rfl rfl
theorem rX1_run_98 : pR 50 d 98 ls st h = pR 50 d 99 ls (.int 0 :: st) h := pR_L rfl rfl
theorem rX1_run_99 : pR 50 d 99 ls (.int y :: .int x :: st) h = pR 50 d 100 ls (.int (x + y) :: st) h := pR_L rfl rfl
theorem rX1_run_100 : pR 50 d 100 [a0, a1, a2, a3, a4, a5] (.int x :: st) h = if p1 a4 = true then pR 50 d 102 [a0, a1, a2, a3, .int x, a5] st h else none := r_sto (n := 2) (k := 4) (v := .int x) (ls := [a0, a1, a2, a3, a4, a5]) rfl rfl rfl
theorem rX1_run_102 : pR 50 d 102 [a0, a1, a2, a3, a4, .int x] st h = pR 50 d 105 [a0, a1, a2, a3, a4, .int (x + 1)] st h := pR_L rfl rfl
theorem rX1_run_105 : pR 50 d 105 ls st h = pR 50 d 47 ls st h := pR_L rfl rfl
theorem rX1_run_108 : pR 50 d 108 [.ref o, a1, a2, a3, a4, a5] st h = pR 50 d 109 [.ref o, a1, a2, a3, a4, a5] (.ref o :: st) h := pR_L rfl rfl
theorem rX1_run_109 : pR 50 d 109 [.ref o, a1, a2, a3, a4, a5] st h = pR 50 d 110 [.ref o, a1, a2, a3, a4, a5] (.ref o :: st) h := pR_L rfl rfl
theorem rX1_run_110 : pR 50 d 110 ls (.ref o :: st) h = if pis (pfl h 1 o 12) = true then pR 50 d 113 ls (pfl h 1 o 12 :: st) h else none := r_get rfl
theorem rX1_run_113 : pR 50 d 113 ls (.int x :: .ref o :: st) h = if pis (pfl h 1 o 13) = true then pR 50 d 116 ls st (psf h o 13 (.int x)) else none := r_put rfl rfl
theorem rX1_run_116 : pR 50 d 116 [a0, a1, a2, a3, .int x, a5] st h = pR 50 d 118 [a0, a1, a2, a3, .int x, a5] (.int x :: st) h := pR_L rfl rfl
theorem rX1_run_118 : pR 50 d 118 ls [.int x] h = some (.inl (some (.int x)), h) := pR_E rfl rfl
-- 51 BalloonStall serves (LBalloonStall$Guest;I)V
theorem eX1_serves : pCa 51 d [.ref o, .ref r0, .int x1] h = pR 51 d 0 [.ref o, .ref r0, .int x1, pU] [] h := rfl
theorem rX1_serves_0 : pR 51 d 0 [a0, .ref o, a2, a3] st h = pR 51 d 1 [a0, .ref o, a2, a3] (.ref o :: st) h := pR_L rfl rfl
theorem rX1_serves_0n : pR 51 d 0 [a0, .null, a2, a3] st h = pR 51 d 1 [a0, .null, a2, a3] (.null :: st) h := pR_L rfl rfl
theorem rX1_serves_1 : pR 51 d 1 [a0, a1, .int x, a3] st h = pR 51 d 2 [a0, a1, .int x, a3] (.int x :: st) h := pR_L rfl rfl
theorem rX1_serves_2 : pR 51 d 2 [a0, .ref o, a2, a3] st h = pR 51 d 3 [a0, .ref o, a2, a3] (.ref o :: st) h := pR_L rfl rfl
theorem rX1_serves_2n : pR 51 d 2 [a0, .null, a2, a3] st h = pR 51 d 3 [a0, .null, a2, a3] (.null :: st) h := pR_L rfl rfl
theorem rX1_serves_3 : pR 51 d 3 ls (.ref o :: st) h = if pis (pfl h 25 o 1) = true then pR 51 d 6 ls (pfl h 25 o 1 :: st) h else none := r_get rfl
theorem rX1_serves_6 : pR 51 (d + 1) 6 ls (.int y :: .int x :: st) h = if pw st = true then pR 51 (d + 1) 9 ls (.int (if x < y then y else x) :: st) h else none := r_mx rfl
theorem rX1_serves_9 : pR 51 d 9 ls (.int x :: .ref o :: st) h = if pis (pfl h 25 o 4) = true then pR 51 d 12 ls st (psf h o 4 (.int x)) else none := r_put rfl rfl
theorem rX1_serves_12 : pR 51 d 12 [a0, .ref o, a2, a3] st h = pR 51 d 13 [a0, .ref o, a2, a3] (.ref o :: st) h := pR_L rfl rfl
theorem rX1_serves_12n : pR 51 d 12 [a0, .null, a2, a3] st h = pR 51 d 13 [a0, .null, a2, a3] (.null :: st) h := pR_L rfl rfl
theorem rX1_serves_13 : pR 51 d 13 [a0, .ref o, a2, a3] st h = pR 51 d 14 [a0, .ref o, a2, a3] (.ref o :: st) h := pR_L rfl rfl
theorem rX1_serves_13n : pR 51 d 13 [a0, .null, a2, a3] st h = pR 51 d 14 [a0, .null, a2, a3] (.null :: st) h := pR_L rfl rfl
theorem rX1_serves_14 : pR 51 d 14 ls (.ref o :: st) h = if pis (pfl h 25 o 4) = true then pR 51 d 17 ls (pfl h 25 o 4 :: st) h else none := r_get rfl
theorem rX1_serves_17 : pR 51 d 17 ls (.int x :: .ref o :: st) h = if pis (pfl h 25 o 5) = true then pR 51 d 20 ls st (psf h o 5 (.int x)) else none := r_put rfl rfl
theorem rX1_serves_20 : pR 51 d 20 [a0, .ref o, a2, a3] st h = pR 51 d 21 [a0, .ref o, a2, a3] (.ref o :: st) h := pR_L rfl rfl
theorem rX1_serves_20n : pR 51 d 20 [a0, .null, a2, a3] st h = pR 51 d 21 [a0, .null, a2, a3] (.null :: st) h := pR_L rfl rfl
theorem rX1_serves_21 : pR 51 d 21 ls st h = pR 51 d 22 ls (.int 0 :: st) h := pR_L rfl rfl
theorem rX1_serves_22 : pR 51 d 22 ls (.int x :: .ref o :: st) h = if pis (pfl h 25 o 6) = true then pR 51 d 25 ls st (psf h o 6 (.int x)) else none := r_put rfl rfl
theorem rX1_serves_25 : pR 51 d 25 [a0, .ref o, a2, a3] st h = pR 51 d 26 [a0, .ref o, a2, a3] (.ref o :: st) h := pR_L rfl rfl
theorem rX1_serves_25n : pR 51 d 25 [a0, .null, a2, a3] st h = pR 51 d 26 [a0, .null, a2, a3] (.null :: st) h := pR_L rfl rfl
theorem rX1_serves_26 : pR 51 d 26 [a0, .ref o, a2, a3] st h = pR 51 d 27 [a0, .ref o, a2, a3] (.ref o :: st) h := pR_L rfl rfl
theorem rX1_serves_26n : pR 51 d 26 [a0, .null, a2, a3] st h = pR 51 d 27 [a0, .null, a2, a3] (.null :: st) h := pR_L rfl rfl
theorem rX1_serves_27 : pR 51 d 27 ls (.ref o :: st) h = if pis (pfl h 25 o 4) = true then pR 51 d 30 ls (pfl h 25 o 4 :: st) h else none := r_get rfl
theorem rX1_serves_30 : pR 51 d 30 [a0, .ref o, a2, a3] st h = pR 51 d 31 [a0, .ref o, a2, a3] (.ref o :: st) h := pR_L rfl rfl
theorem rX1_serves_30n : pR 51 d 30 [a0, .null, a2, a3] st h = pR 51 d 31 [a0, .null, a2, a3] (.null :: st) h := pR_L rfl rfl
theorem rX1_serves_31 : pR 51 d 31 ls (.ref o :: st) h = if pis (pfl h 25 o 1) = true then pR 51 d 34 ls (pfl h 25 o 1 :: st) h else none := r_get rfl
theorem rX1_serves_34 : pR 51 d 34 ls (.int y :: .int x :: st) h = pR 51 d 35 ls (.int (x - y) :: st) h := pR_L rfl rfl
theorem rX1_serves_35 : pR 51 d 35 [a0, .ref o, a2, a3] st h = pR 51 d 36 [a0, .ref o, a2, a3] (.ref o :: st) h := pR_L rfl rfl
theorem rX1_serves_35n : pR 51 d 35 [a0, .null, a2, a3] st h = pR 51 d 36 [a0, .null, a2, a3] (.null :: st) h := pR_L rfl rfl
theorem rX1_serves_36 : pR 51 d 36 ls (.ref o :: st) h = if pis (pfl h 25 o 2) = true then pR 51 d 39 ls (pfl h 25 o 2 :: st) h else none := r_get rfl
theorem rX1_serves_39 : pR 51 d 39 ls (.int y :: .int x :: st) h = if y < x then pR 51 d 42 ls st h else pR 51 d 46 ls st h := r_cle rfl rfl
theorem rX1_serves_42 : pR 51 d 42 ls st h = pR 51 d 43 ls (.int 1 :: st) h := pR_L rfl rfl
theorem rX1_serves_43 : pR 51 d 43 ls st h = pR 51 d 62 ls st h := pR_L rfl rfl
theorem rX1_serves_46 : pR 51 d 46 [.ref o, a1, a2, a3] st h = pR 51 d 47 [.ref o, a1, a2, a3] (.ref o :: st) h := pR_L rfl rfl
theorem rX1_serves_47 : pR 51 d 47 [a0, .ref o, a2, a3] st h = pR 51 d 48 [a0, .ref o, a2, a3] (.ref o :: st) h := pR_L rfl rfl
theorem rX1_serves_47n : pR 51 d 47 [a0, .null, a2, a3] st h = pR 51 d 48 [a0, .null, a2, a3] (.null :: st) h := pR_L rfl rfl
theorem rX1_serves_48 : pR 51 d 48 ls (.ref o :: st) h = if pis (pfl h 25 o 0) = true then pR 51 d 51 ls (pfl h 25 o 0 :: st) h else none := r_get rfl
theorem rX1_serves_51 : pR 51 (d + 1) 51 ls (b1 :: .ref o :: st) h = if (pok 1 (pcl h o) && pw st) = true then pK 51 (d + 1) 51 3 ls st (pCa 52 d [.ref o, b1] h) else none := r_callV rfl rfl rfl
theorem rX1_serves_54 : pR 51 d 54 ls (.int x :: st) h = if x = 0 then pR 51 d 57 ls st h else pR 51 d 61 ls st h := r_ine rfl rfl
theorem rX1_serves_57 : pR 51 d 57 ls st h = pR 51 d 58 ls (.int 2 :: st) h := pR_L rfl rfl
theorem rX1_serves_58 : pR 51 d 58 ls st h = pR 51 d 62 ls st h := pR_L rfl rfl
theorem rX1_serves_61 : pR 51 d 61 ls st h = pR 51 d 62 ls (.int 0 :: st) h := pR_L rfl rfl
theorem rX1_serves_62 : pR 51 d 62 ls (.int x :: .ref o :: st) h = if pis (pfl h 25 o 3) = true then pR 51 d 65 ls st (psf h o 3 (.int x)) else none := r_put rfl rfl
theorem rX1_serves_65 : pR 51 d 65 ls st h = pR 51 d 66 ls (.int 0 :: st) h := pR_L rfl rfl
theorem rX1_serves_66 : pR 51 d 66 [a0, a1, a2, a3] (.int x :: st) h = if p1 a3 = true then pR 51 d 67 [a0, a1, a2, .int x] st h else none := r_sto (n := 1) (k := 3) (v := .int x) (ls := [a0, a1, a2, a3]) rfl rfl rfl
theorem rX1_serves_67 : pR 51 d 67 [a0, a1, a2, .int x] st h = pR 51 d 68 [a0, a1, a2, .int x] (.int x :: st) h := pR_L rfl rfl
theorem rX1_serves_68 : pR 51 d 68 [a0, .ref o, a2, a3] st h = pR 51 d 69 [a0, .ref o, a2, a3] (.ref o :: st) h := pR_L rfl rfl
theorem rX1_serves_68n : pR 51 d 68 [a0, .null, a2, a3] st h = pR 51 d 69 [a0, .null, a2, a3] (.null :: st) h := pR_L rfl rfl
theorem rX1_serves_69 : pR 51 d 69 ls (.ref o :: st) h = if pis (pfl h 25 o 0) = true then pR 51 d 72 ls (pfl h 25 o 0 :: st) h else none := r_get rfl
theorem rX1_serves_72 : pR 51 d 72 ls (.ref o :: st) h = if pis (pfl h 24 o 7) = true then pR 51 d 75 ls (pfl h 24 o 7 :: st) h else none := r_get rfl
theorem rX1_serves_75 : pR 51 d 75 ls (.int y :: .int x :: st) h = if x < y then pR 51 d 78 ls st h else pR 51 d 105 ls st h := r_cge rfl rfl
theorem rX1_serves_78 : pR 51 d 78 [a0, .ref o, a2, a3] st h = pR 51 d 79 [a0, .ref o, a2, a3] (.ref o :: st) h := pR_L rfl rfl
theorem rX1_serves_78n : pR 51 d 78 [a0, .null, a2, a3] st h = pR 51 d 79 [a0, .null, a2, a3] (.null :: st) h := pR_L rfl rfl
theorem rX1_serves_79 : pR 51 d 79 ls (.ref o :: st) h = if pis (pfl h 25 o 3) = true then pR 51 d 82 ls (pfl h 25 o 3 :: st) h else none := r_get rfl
theorem rX1_serves_82 : pR 51 d 82 ls (.int x :: st) h = if x = 0 then pR 51 d 85 ls st h else pR 51 d 105 ls st h := r_ine rfl rfl
theorem rX1_serves_85 : pR 51 d 85 [.ref o, a1, a2, a3] st h = pR 51 d 86 [.ref o, a1, a2, a3] (.ref o :: st) h := pR_L rfl rfl
theorem rX1_serves_86 : pR 51 d 86 [a0, .ref o, a2, a3] st h = pR 51 d 87 [a0, .ref o, a2, a3] (.ref o :: st) h := pR_L rfl rfl
theorem rX1_serves_86n : pR 51 d 86 [a0, .null, a2, a3] st h = pR 51 d 87 [a0, .null, a2, a3] (.null :: st) h := pR_L rfl rfl
theorem rX1_serves_87 : pR 51 d 87 [a0, a1, a2, .int x] st h = pR 51 d 88 [a0, a1, a2, .int x] (.int x :: st) h := pR_L rfl rfl
theorem rX1_serves_88 : pR 51 (d + 1) 88 ls (b2 :: b1 :: .ref o :: st) h = if (pok 1 (pcl h o) && pw st) = true then pK 51 (d + 1) 88 3 ls st (pCa 53 d [.ref o, b1, b2] h) else none := r_callV rfl rfl rfl
theorem rX1_serves_91 : pR 51 d 91 ls (.int x :: st) h = if x = 0 then pR 51 d 94 ls st h else pR 51 d 99 ls st h := r_ine rfl rfl
theorem rX1_serves_94 : pR 51 d 94 [a0, .ref o, a2, a3] st h = pR 51 d 95 [a0, .ref o, a2, a3] (.ref o :: st) h := pR_L rfl rfl
theorem rX1_serves_94n : pR 51 d 94 [a0, .null, a2, a3] st h = pR 51 d 95 [a0, .null, a2, a3] (.null :: st) h := pR_L rfl rfl
theorem rX1_serves_95 : pR 51 d 95 ls st h = pR 51 d 96 ls (.int 3 :: st) h := pR_L rfl rfl
theorem rX1_serves_96 : pR 51 d 96 ls (.int x :: .ref o :: st) h = if pis (pfl h 25 o 3) = true then pR 51 d 99 ls st (psf h o 3 (.int x)) else none := r_put rfl rfl
theorem rX1_serves_99 : pR 51 d 99 [a0, a1, a2, .int x] st h = pR 51 d 102 [a0, a1, a2, .int (x + 1)] st h := pR_L rfl rfl
theorem rX1_serves_102 : pR 51 d 102 ls st h = pR 51 d 67 ls st h := pR_L rfl rfl
theorem rX1_serves_105 : pR 51 d 105 ls [] h = some (.inl none, h) := pR_E rfl rfl
-- 52 BalloonStall hasFor (LBalloonStall$Figure;)Z
theorem eX1_hasFor : pCa 52 d [.ref o, .ref r0] h = pR 52 d 0 [.ref o, .ref r0, pU] [] h := rfl
theorem rX1_hasFor_0 : pR 52 d 0 ls st h = pR 52 d 1 ls (.int 0 :: st) h := pR_L rfl rfl
theorem rX1_hasFor_1 : pR 52 d 1 [a0, a1, a2] (.int x :: st) h = if p1 a2 = true then pR 52 d 2 [a0, a1, .int x] st h else none := r_sto (n := 1) (k := 2) (v := .int x) (ls := [a0, a1, a2]) rfl rfl rfl
theorem rX1_hasFor_2 : pR 52 d 2 [a0, a1, .int x] st h = pR 52 d 3 [a0, a1, .int x] (.int x :: st) h := pR_L rfl rfl
theorem rX1_hasFor_3 : pR 52 d 3 [.ref o, a1, a2] st h = pR 52 d 4 [.ref o, a1, a2] (.ref o :: st) h := pR_L rfl rfl
theorem rX1_hasFor_4 : pR 52 d 4 ls (.ref o :: st) h = if pis (pfl h 1 o 1) = true then pR 52 d 7 ls (pfl h 1 o 1 :: st) h else none := r_get rfl
theorem rX1_hasFor_7 : pR 52 d 7 ls (.int y :: .int x :: st) h = if x < y then pR 52 d 10 ls st h else pR 52 d 26 ls st h := r_cge rfl rfl
theorem rX1_hasFor_10 : pR 52 d 10 [.ref o, a1, a2] st h = pR 52 d 11 [.ref o, a1, a2] (.ref o :: st) h := pR_L rfl rfl
theorem rX1_hasFor_11 : pR 52 d 11 ls (.ref o :: st) h = if pis (pfl h 1 o 0) = true then pR 52 d 14 ls (pfl h 1 o 0 :: st) h else none := r_get rfl
theorem rX1_hasFor_14 : pR 52 d 14 [a0, a1, .int x] st h = pR 52 d 15 [a0, a1, .int x] (.int x :: st) h := pR_L rfl rfl
theorem rX1_hasFor_15 : pR 52 d 15 ls (.int x :: .ref o :: st) h = if pin x (plnQ h o) = true then pR 52 d 16 ls (va_rf (pctQ h o x.toNatClampNeg) :: st) h else none := pR_Lif rfl rfl
theorem rX1_hasFor_16 : pR 52 d 16 ls st h = pR 52 d 17 ls (.int 0 :: st) h := pR_L rfl rfl
theorem rX1_hasFor_17 : pR 52 d 17 ls (.int x :: .ref o :: st) h = if pis (pfl h 4 o 5) = true then pR 52 d 20 ls st (psf h o 5 (.int x)) else none := r_put rfl rfl
theorem rX1_hasFor_20 : pR 52 d 20 [a0, a1, .int x] st h = pR 52 d 23 [a0, a1, .int (x + 1)] st h := pR_L rfl rfl
theorem rX1_hasFor_23 : pR 52 d 23 ls st h = pR 52 d 2 ls st h := pR_L rfl rfl
theorem rX1_hasFor_26 : pR 52 d 26 ls st h = pR 52 d 27 ls (.int 0 :: st) h := pR_L rfl rfl
theorem rX1_hasFor_27 : pR 52 d 27 [a0, a1, a2] (.int x :: st) h = if p1 a2 = true then pR 52 d 28 [a0, a1, .int x] st h else none := r_sto (n := 1) (k := 2) (v := .int x) (ls := [a0, a1, a2]) rfl rfl rfl
theorem rX1_hasFor_28 : pR 52 d 28 [a0, a1, .int x] st h = pR 52 d 29 [a0, a1, .int x] (.int x :: st) h := pR_L rfl rfl
theorem rX1_hasFor_29 : pR 52 d 29 [a0, .ref o, a2] st h = pR 52 d 30 [a0, .ref o, a2] (.ref o :: st) h := pR_L rfl rfl
theorem rX1_hasFor_29n : pR 52 d 29 [a0, .null, a2] st h = pR 52 d 30 [a0, .null, a2] (.null :: st) h := pR_L rfl rfl
theorem rX1_hasFor_30 : pR 52 d 30 ls (.ref o :: st) h = if pis (pfl h 24 o 7) = true then pR 52 d 33 ls (pfl h 24 o 7 :: st) h else none := r_get rfl
theorem rX1_hasFor_33 : pR 52 d 33 ls (.int y :: .int x :: st) h = if x < y then pR 52 d 36 ls st h else pR 52 d 62 ls st h := r_cge rfl rfl
theorem rX1_hasFor_36 : pR 52 d 36 [.ref o, a1, a2] st h = pR 52 d 37 [.ref o, a1, a2] (.ref o :: st) h := pR_L rfl rfl
theorem rX1_hasFor_37 : pR 52 d 37 ls (.ref o :: st) h = if pis (pfl h 1 o 0) = true then pR 52 d 40 ls (pfl h 1 o 0 :: st) h else none := r_get rfl
theorem rX1_hasFor_40 : pR 52 d 40 [a0, .ref o, a2] st h = pR 52 d 41 [a0, .ref o, a2] (.ref o :: st) h := pR_L rfl rfl
theorem rX1_hasFor_40n : pR 52 d 40 [a0, .null, a2] st h = pR 52 d 41 [a0, .null, a2] (.null :: st) h := pR_L rfl rfl
theorem rX1_hasFor_41 : pR 52 d 41 ls (.ref o :: st) h = if pis (pfl h 24 o 4) = true then pR 52 d 44 ls (pfl h 24 o 4 :: st) h else none := r_get rfl
theorem rX1_hasFor_44 : pR 52 d 44 [a0, a1, .int x] st h = pR 52 d 45 [a0, a1, .int x] (.int x :: st) h := pR_L rfl rfl
theorem rX1_hasFor_45 : pR 52 d 45 ls (.int x :: .ref o :: st) h = if (pin x (pln h 0 o) || pin x (pln h 9 o)) = true then pR 52 d 46 ls (.int (pct h o x.toNatClampNeg) :: st) h else none := pR_Lif rfl rfl
theorem rX1_hasFor_46 : pR 52 d 46 ls (.int x :: .ref o :: st) h = if pin x (plnQ h o) = true then pR 52 d 47 ls (va_rf (pctQ h o x.toNatClampNeg) :: st) h else none := pR_Lif rfl rfl
theorem rX1_hasFor_47 : pR 52 d 47 ls (.ref o :: st) h = pR 52 d 48 ls (.ref o :: .ref o :: st) h := pR_L rfl rfl
theorem rX1_hasFor_47i : pR 52 d 47 ls (.int x :: st) h = pR 52 d 48 ls (.int x :: .int x :: st) h := pR_L rfl rfl
theorem rX1_hasFor_48 : pR 52 d 48 ls (.ref o :: st) h = if pis (pfl h 4 o 5) = true then pR 52 d 51 ls (pfl h 4 o 5 :: st) h else none := r_get rfl
theorem rX1_hasFor_51 : pR 52 d 51 ls st h = pR 52 d 52 ls (.int 1 :: st) h := pR_L rfl rfl
theorem rX1_hasFor_52 : pR 52 d 52 ls (.int y :: .int x :: st) h = pR 52 d 53 ls (.int (x + y) :: st) h := pR_L rfl rfl
theorem rX1_hasFor_53 : pR 52 d 53 ls (.int x :: .ref o :: st) h = if pis (pfl h 4 o 5) = true then pR 52 d 56 ls st (psf h o 5 (.int x)) else none := r_put rfl rfl
theorem rX1_hasFor_56 : pR 52 d 56 [a0, a1, .int x] st h = pR 52 d 59 [a0, a1, .int (x + 1)] st h := pR_L rfl rfl
theorem rX1_hasFor_59 : pR 52 d 59 ls st h = pR 52 d 28 ls st h := pR_L rfl rfl
theorem rX1_hasFor_62 : pR 52 d 62 ls st h = pR 52 d 63 ls (.int 0 :: st) h := pR_L rfl rfl
theorem rX1_hasFor_63 : pR 52 d 63 [a0, a1, a2] (.int x :: st) h = if p1 a2 = true then pR 52 d 64 [a0, a1, .int x] st h else none := r_sto (n := 1) (k := 2) (v := .int x) (ls := [a0, a1, a2]) rfl rfl rfl
theorem rX1_hasFor_64 : pR 52 d 64 [a0, a1, .int x] st h = pR 52 d 65 [a0, a1, .int x] (.int x :: st) h := pR_L rfl rfl
theorem rX1_hasFor_65 : pR 52 d 65 [.ref o, a1, a2] st h = pR 52 d 66 [.ref o, a1, a2] (.ref o :: st) h := pR_L rfl rfl
theorem rX1_hasFor_66 : pR 52 d 66 ls (.ref o :: st) h = if pis (pfl h 1 o 1) = true then pR 52 d 69 ls (pfl h 1 o 1 :: st) h else none := r_get rfl
theorem rX1_hasFor_69 : pR 52 d 69 ls (.int y :: .int x :: st) h = if x < y then pR 52 d 72 ls st h else pR 52 d 101 ls st h := r_cge rfl rfl
theorem rX1_hasFor_72 : pR 52 d 72 [.ref o, a1, a2] st h = pR 52 d 73 [.ref o, a1, a2] (.ref o :: st) h := pR_L rfl rfl
theorem rX1_hasFor_73 : pR 52 d 73 ls (.ref o :: st) h = if pis (pfl h 1 o 0) = true then pR 52 d 76 ls (pfl h 1 o 0 :: st) h else none := r_get rfl
theorem rX1_hasFor_76 : pR 52 d 76 [a0, a1, .int x] st h = pR 52 d 77 [a0, a1, .int x] (.int x :: st) h := pR_L rfl rfl
theorem rX1_hasFor_77 : pR 52 d 77 ls (.int x :: .ref o :: st) h = if pin x (plnQ h o) = true then pR 52 d 78 ls (va_rf (pctQ h o x.toNatClampNeg) :: st) h else none := pR_Lif rfl rfl
theorem rX1_hasFor_78 : pR 52 d 78 ls (.ref o :: st) h = if pis (pfl h 4 o 4) = true then pR 52 d 81 ls (pfl h 4 o 4 :: st) h else none := r_get rfl
theorem rX1_hasFor_81 : pR 52 d 81 [.ref o, a1, a2] st h = pR 52 d 82 [.ref o, a1, a2] (.ref o :: st) h := pR_L rfl rfl
theorem rX1_hasFor_82 : pR 52 d 82 ls (.ref o :: st) h = if pis (pfl h 1 o 0) = true then pR 52 d 85 ls (pfl h 1 o 0 :: st) h else none := r_get rfl
theorem rX1_hasFor_85 : pR 52 d 85 [a0, a1, .int x] st h = pR 52 d 86 [a0, a1, .int x] (.int x :: st) h := pR_L rfl rfl
theorem rX1_hasFor_86 : pR 52 d 86 ls (.int x :: .ref o :: st) h = if pin x (plnQ h o) = true then pR 52 d 87 ls (va_rf (pctQ h o x.toNatClampNeg) :: st) h else none := pR_Lif rfl rfl
theorem rX1_hasFor_87 : pR 52 d 87 ls (.ref o :: st) h = if pis (pfl h 4 o 5) = true then pR 52 d 90 ls (pfl h 4 o 5 :: st) h else none := r_get rfl
theorem rX1_hasFor_90 : pR 52 d 90 ls (.int y :: .int x :: st) h = if x < y then pR 52 d 93 ls st h else pR 52 d 95 ls st h := r_cge rfl rfl
theorem rX1_hasFor_93 : pR 52 d 93 ls st h = pR 52 d 94 ls (.int 0 :: st) h := pR_L rfl rfl
theorem rX1_hasFor_940 : pR 52 d 94 ls [.int 0] h = some (.inl (some (.int 0)), h) := pR_E rfl rfl
theorem rX1_hasFor_941 : pR 52 d 94 ls [.int 1] h = some (.inl (some (.int 1)), h) := pR_E rfl rfl
theorem rX1_hasFor_95 : pR 52 d 95 [a0, a1, .int x] st h = pR 52 d 98 [a0, a1, .int (x + 1)] st h := pR_L rfl rfl
theorem rX1_hasFor_98 : pR 52 d 98 ls st h = pR 52 d 64 ls st h := pR_L rfl rfl
theorem rX1_hasFor_101 : pR 52 d 101 ls st h = pR 52 d 102 ls (.int 1 :: st) h := pR_L rfl rfl
theorem rX1_hasFor_1020 : pR 52 d 102 ls [.int 0] h = some (.inl (some (.int 0)), h) := pR_E rfl rfl
theorem rX1_hasFor_1021 : pR 52 d 102 ls [.int 1] h = some (.inl (some (.int 1)), h) := pR_E rfl rfl
-- 53 BalloonStall makes (LBalloonStall$Guest;I)Z
theorem eX1_makes : pCa 53 d [.ref o, .ref r0, .int x1] h = pR 53 d 0 [.ref o, .ref r0, .int x1, pU, pU] [] h := rfl
theorem rX1_makes_0 : pR 53 d 0 [.ref o, a1, a2, a3, a4] st h = pR 53 d 1 [.ref o, a1, a2, a3, a4] (.ref o :: st) h := pR_L rfl rfl
theorem rX1_makes_1 : pR 53 d 1 ls (.ref o :: st) h = if pis (pfl h 1 o 0) = true then pR 53 d 4 ls (pfl h 1 o 0 :: st) h else none := r_get rfl
theorem rX1_makes_4 : pR 53 d 4 [a0, .ref o, a2, a3, a4] st h = pR 53 d 5 [a0, .ref o, a2, a3, a4] (.ref o :: st) h := pR_L rfl rfl
theorem rX1_makes_4n : pR 53 d 4 [a0, .null, a2, a3, a4] st h = pR 53 d 5 [a0, .null, a2, a3, a4] (.null :: st) h := pR_L rfl rfl
theorem rX1_makes_5 : pR 53 d 5 ls (.ref o :: st) h = if pis (pfl h 25 o 0) = true then pR 53 d 8 ls (pfl h 25 o 0 :: st) h else none := r_get rfl
theorem rX1_makes_8 : pR 53 d 8 ls (.ref o :: st) h = if pis (pfl h 24 o 4) = true then pR 53 d 11 ls (pfl h 24 o 4 :: st) h else none := r_get rfl
theorem rX1_makes_11 : pR 53 d 11 [a0, a1, .int x, a3, a4] st h = pR 53 d 12 [a0, a1, .int x, a3, a4] (.int x :: st) h := pR_L rfl rfl
theorem rX1_makes_12 : pR 53 d 12 ls (.int x :: .ref o :: st) h = if (pin x (pln h 0 o) || pin x (pln h 9 o)) = true then pR 53 d 13 ls (.int (pct h o x.toNatClampNeg) :: st) h else none := pR_Lif rfl rfl
theorem rX1_makes_13 : pR 53 d 13 ls (.int x :: .ref o :: st) h = if pin x (plnQ h o) = true then pR 53 d 14 ls (va_rf (pctQ h o x.toNatClampNeg) :: st) h else none := pR_Lif rfl rfl
theorem rX1_makes_14 : pR 53 d 14 [a0, a1, a2, a3, a4] (.ref o :: st) h = if p1 a3 = true then pR 53 d 15 [a0, a1, a2, .ref o, a4] st h else none := r_sto (n := 1) (k := 3) (v := .ref o) (ls := [a0, a1, a2, a3, a4]) rfl rfl rfl
theorem rX1_makes_14n : pR 53 d 14 [a0, a1, a2, a3, a4] (.null :: st) h = if p1 a3 = true then pR 53 d 15 [a0, a1, a2, .null, a4] st h else none := r_sto (n := 1) (k := 3) (v := .null) (ls := [a0, a1, a2, a3, a4]) rfl rfl rfl
theorem rX1_makes_15 : pR 53 d 15 ls st h = pR 53 d 16 ls (.int 1 :: st) h := pR_L rfl rfl
theorem rX1_makes_16 : pR 53 d 16 [a0, a1, a2, a3, a4] (.int x :: st) h = if p1 a4 = true then pR 53 d 18 [a0, a1, a2, a3, .int x] st h else none := r_sto (n := 2) (k := 4) (v := .int x) (ls := [a0, a1, a2, a3, a4]) rfl rfl rfl
theorem rX1_makes_18 : pR 53 d 18 [a0, a1, a2, a3, .int x] st h = pR 53 d 20 [a0, a1, a2, a3, .int x] (.int x :: st) h := pR_L rfl rfl
theorem rX1_makes_20 : pR 53 d 20 ls (.int x :: st) h = if x = 0 then pR 53 d 125 ls st h else pR 53 d 23 ls st h := r_ieq rfl rfl
theorem rX1_makes_23 : pR 53 d 23 [a0, a1, a2, .ref o, a4] st h = pR 53 d 24 [a0, a1, a2, .ref o, a4] (.ref o :: st) h := pR_L rfl rfl
theorem rX1_makes_23n : pR 53 d 23 [a0, a1, a2, .null, a4] st h = pR 53 d 24 [a0, a1, a2, .null, a4] (.null :: st) h := pR_L rfl rfl
theorem rX1_makes_24 : pR 53 d 24 ls (.ref o :: st) h = if pis (pfl h 4 o 4) = true then pR 53 d 27 ls (pfl h 4 o 4 :: st) h else none := r_get rfl
theorem rX1_makes_27 : pR 53 d 27 ls (.int x :: st) h = if x = 0 then pR 53 d 30 ls st h else pR 53 d 32 ls st h := r_ine rfl rfl
theorem rX1_makes_30 : pR 53 d 30 ls st h = pR 53 d 31 ls (.int 0 :: st) h := pR_L rfl rfl
theorem rX1_makes_310 : pR 53 d 31 ls [.int 0] h = some (.inl (some (.int 0)), h) := pR_E rfl rfl
theorem rX1_makes_311 : pR 53 d 31 ls [.int 1] h = some (.inl (some (.int 1)), h) := pR_E rfl rfl
theorem rX1_makes_32 : pR 53 d 32 [a0, a1, a2, .ref o, a4] st h = pR 53 d 33 [a0, a1, a2, .ref o, a4] (.ref o :: st) h := pR_L rfl rfl
theorem rX1_makes_32n : pR 53 d 32 [a0, a1, a2, .null, a4] st h = pR 53 d 33 [a0, a1, a2, .null, a4] (.null :: st) h := pR_L rfl rfl
theorem rX1_makes_33 : pR 53 d 33 ls (.ref o :: st) h = pR 53 d 34 ls (.ref o :: .ref o :: st) h := pR_L rfl rfl
theorem rX1_makes_33i : pR 53 d 33 ls (.int x :: st) h = pR 53 d 34 ls (.int x :: .int x :: st) h := pR_L rfl rfl
theorem rX1_makes_34 : pR 53 d 34 ls (.ref o :: st) h = if pis (pfl h 4 o 4) = true then pR 53 d 37 ls (pfl h 4 o 4 :: st) h else none := r_get rfl
theorem rX1_makes_37 : pR 53 d 37 ls st h = pR 53 d 38 ls (.int 1 :: st) h := pR_L rfl rfl
theorem rX1_makes_38 : pR 53 d 38 ls (.int y :: .int x :: st) h = pR 53 d 39 ls (.int (x - y) :: st) h := pR_L rfl rfl
theorem rX1_makes_39 : pR 53 d 39 ls (.int x :: .ref o :: st) h = if pis (pfl h 4 o 4) = true then pR 53 d 42 ls st (psf h o 4 (.int x)) else none := r_put rfl rfl
theorem rX1_makes_42 : pR 53 d 42 [a0, .ref o, a2, a3, a4] st h = pR 53 d 43 [a0, .ref o, a2, a3, a4] (.ref o :: st) h := pR_L rfl rfl
theorem rX1_makes_42n : pR 53 d 42 [a0, .null, a2, a3, a4] st h = pR 53 d 43 [a0, .null, a2, a3, a4] (.null :: st) h := pR_L rfl rfl
theorem rX1_makes_43 : pR 53 d 43 ls (.ref o :: st) h = pR 53 d 44 ls (.ref o :: .ref o :: st) h := pR_L rfl rfl
theorem rX1_makes_43i : pR 53 d 43 ls (.int x :: st) h = pR 53 d 44 ls (.int x :: .int x :: st) h := pR_L rfl rfl
theorem rX1_makes_44 : pR 53 d 44 ls (.ref o :: st) h = if pis (pfl h 25 o 6) = true then pR 53 d 47 ls (pfl h 25 o 6 :: st) h else none := r_get rfl
theorem rX1_makes_47 : pR 53 d 47 ls st h = pR 53 d 48 ls (.int 1 :: st) h := pR_L rfl rfl
theorem rX1_makes_48 : pR 53 d 48 ls (.int y :: .int x :: st) h = pR 53 d 49 ls (.int (x + y) :: st) h := pR_L rfl rfl
theorem rX1_makes_49 : pR 53 d 49 ls (.int x :: .ref o :: st) h = if pis (pfl h 25 o 6) = true then pR 53 d 52 ls st (psf h o 6 (.int x)) else none := r_put rfl rfl
theorem rX1_makes_52 : pR 53 d 52 [a0, .ref o, a2, a3, a4] st h = pR 53 d 53 [a0, .ref o, a2, a3, a4] (.ref o :: st) h := pR_L rfl rfl
theorem rX1_makes_52n : pR 53 d 52 [a0, .null, a2, a3, a4] st h = pR 53 d 53 [a0, .null, a2, a3, a4] (.null :: st) h := pR_L rfl rfl
theorem rX1_makes_53 : pR 53 d 53 ls (.ref o :: st) h = pR 53 d 54 ls (.ref o :: .ref o :: st) h := pR_L rfl rfl
theorem rX1_makes_53i : pR 53 d 53 ls (.int x :: st) h = pR 53 d 54 ls (.int x :: .int x :: st) h := pR_L rfl rfl
theorem rX1_makes_54 : pR 53 d 54 ls (.ref o :: st) h = if pis (pfl h 25 o 5) = true then pR 53 d 57 ls (pfl h 25 o 5 :: st) h else none := r_get rfl
theorem rX1_makes_57 : pR 53 d 57 [.ref o, a1, a2, a3, a4] st h = pR 53 d 58 [.ref o, a1, a2, a3, a4] (.ref o :: st) h := pR_L rfl rfl
theorem rX1_makes_58 : pR 53 d 58 ls (.ref o :: st) h = if pis (pfl h 1 o 15) = true then pR 53 d 61 ls (pfl h 1 o 15 :: st) h else none := r_get rfl
theorem rX1_makes_61 : pR 53 d 61 [.ref o, a1, a2, a3, a4] st h = pR 53 d 62 [.ref o, a1, a2, a3, a4] (.ref o :: st) h := pR_L rfl rfl
theorem rX1_makes_62 : pR 53 d 62 ls (.ref o :: st) h = if pis (pfl h 1 o 14) = true then pR 53 d 65 ls (pfl h 1 o 14 :: st) h else none := r_get rfl
theorem rX1_makes_65 : pR 53 d 65 [a0, .ref o, a2, a3, a4] st h = pR 53 d 66 [a0, .ref o, a2, a3, a4] (.ref o :: st) h := pR_L rfl rfl
theorem rX1_makes_65n : pR 53 d 65 [a0, .null, a2, a3, a4] st h = pR 53 d 66 [a0, .null, a2, a3, a4] (.null :: st) h := pR_L rfl rfl
theorem rX1_makes_66 : pR 53 d 66 ls (.ref o :: st) h = if pis (pfl h 25 o 0) = true then pR 53 d 69 ls (pfl h 25 o 0 :: st) h else none := r_get rfl
theorem rX1_makes_69 : pR 53 d 69 [a0, a1, .int x, a3, a4] st h = pR 53 d 70 [a0, a1, .int x, a3, a4] (.int x :: st) h := pR_L rfl rfl
theorem rX1_makes_70 : pR 53 (d + 1) 70 ls (b1 :: .ref o :: st) h = if (pok 24 (pcl h o) && pw st) = true then pK 53 (d + 1) 70 3 ls st (pCa 248 d [.ref o, b1] h) else none := r_callV rfl rfl rfl
theorem rX1_makes_73 : pR 53 d 73 ls (.int y :: .int x :: st) h = pR 53 d 74 ls (.int (x * y) :: st) h := pR_L rfl rfl
theorem rX1_makes_74 : pR 53 d 74 ls (.int y :: .int x :: st) h = pR 53 d 75 ls (.int (x + y) :: st) h := pR_L rfl rfl
theorem rX1_makes_75 : pR 53 d 75 ls (.int y :: .int x :: st) h = pR 53 d 76 ls (.int (x + y) :: st) h := pR_L rfl rfl
theorem rX1_makes_76 : pR 53 d 76 ls (.int x :: .ref o :: st) h = if pis (pfl h 25 o 5) = true then pR 53 d 79 ls st (psf h o 5 (.int x)) else none := r_put rfl rfl
theorem rX1_makes_79 : pR 53 d 79 [.ref o, a1, a2, a3, a4] st h = pR 53 d 80 [.ref o, a1, a2, a3, a4] (.ref o :: st) h := pR_L rfl rfl
theorem rX1_makes_80 : pR 53 d 80 [.ref o, a1, a2, a3, a4] st h = pR 53 d 81 [.ref o, a1, a2, a3, a4] (.ref o :: st) h := pR_L rfl rfl
theorem rX1_makes_81 : pR 53 d 81 ls (.ref o :: st) h = if pis (pfl h 1 o 17) = true then pR 53 d 84 ls (pfl h 1 o 17 :: st) h else none := r_get rfl
theorem rX1_makes_84 : pR 53 d 84 ls st h = pR 53 d 87 ls (.long 6364136223846793005 :: st) h := pR_X rfl rfl
theorem rX1_makes_87 : pR 53 d 87 ls (.long ly :: .long lx :: st) h = pR 53 d 88 ls (.long (lx * ly) :: st) h := pR_L rfl rfl
theorem rX1_makes_88 : pR 53 d 88 ls st h = pR 53 d 91 ls (.long 1442695040888963407 :: st) h := pR_X rfl rfl
theorem rX1_makes_91 : pR 53 d 91 ls (.long ly :: .long lx :: st) h = pR 53 d 92 ls (.long (lx + ly) :: st) h := pR_L rfl rfl
theorem rX1_makes_92 : pR 53 d 92 ls (.long lx :: .ref o :: st) h = if pis (pfl h 1 o 17) = true then pR 53 d 95 ls st (psf h o 17 (.long lx)) else none := r_put rfl rfl
theorem rX1_makes_95 : pR 53 d 95 [.ref o, a1, a2, a3, a4] st h = pR 53 d 96 [.ref o, a1, a2, a3, a4] (.ref o :: st) h := pR_L rfl rfl
theorem rX1_makes_96 : pR 53 d 96 ls (.ref o :: st) h = if pis (pfl h 1 o 17) = true then pR 53 d 99 ls (pfl h 1 o 17 :: st) h else none := r_get rfl
theorem rX1_makes_99 : pR 53 d 99 ls st h = pR 53 d 101 ls (.int 33 :: st) h := pR_L rfl rfl
theorem rX1_makes_101 : pR 53 d 101 ls (.int y :: .long lx :: st) h = pR 53 d 102 ls (.long (lx.toUInt64 >>> (y.toInt64.toUInt64 &&& Int64.toUInt64 63)).toInt64 :: st) h := pR_L rfl rfl
theorem rX1_makes_102 : pR 53 d 102 ls st h = pR 53 d 105 ls (.long 100 :: st) h := pR_X rfl rfl
theorem rX1_makes_105 : pR 53 d 105 ls (.long ly :: .long lx :: st) h = if ly = 0 then none else pR 53 d 106 ls (.long (lx - lx / ly * ly) :: st) h := r_lrem rfl
theorem rX1_makes_106 : pR 53 d 106 [a0, a1, a2, .ref o, a4] st h = pR 53 d 107 [a0, a1, a2, .ref o, a4] (.ref o :: st) h := pR_L rfl rfl
theorem rX1_makes_106n : pR 53 d 106 [a0, a1, a2, .null, a4] st h = pR 53 d 107 [a0, a1, a2, .null, a4] (.null :: st) h := pR_L rfl rfl
theorem rX1_makes_107 : pR 53 d 107 ls (.ref o :: st) h = if pis (pfl h 4 o 2) = true then pR 53 d 110 ls (pfl h 4 o 2 :: st) h else none := r_get rfl
theorem rX1_makes_110 : pR 53 d 110 ls (.int x :: st) h = pR 53 d 111 ls (.long x.toInt64 :: st) h := pR_L rfl rfl
theorem rX1_makes_111 : pR 53 d 111 ls (.long ly :: .long lx :: st) h = pR 53 d 112 ls (.int (lg_cmp lx ly) :: st) h := pR_L rfl rfl
theorem rX1_makes_112 : pR 53 d 112 ls (.int x :: st) h = if x < 0 then pR 53 d 115 ls st h else pR 53 d 119 ls st h := r_ige rfl rfl
theorem rX1_makes_115 : pR 53 d 115 ls st h = pR 53 d 116 ls (.int 1 :: st) h := pR_L rfl rfl
theorem rX1_makes_116 : pR 53 d 116 ls st h = pR 53 d 120 ls st h := pR_L rfl rfl
theorem rX1_makes_119 : pR 53 d 119 ls st h = pR 53 d 120 ls (.int 0 :: st) h := pR_L rfl rfl
theorem rX1_makes_120 : pR 53 d 120 [a0, a1, a2, a3, a4] (.int x :: st) h = if p1 a4 = true then pR 53 d 122 [a0, a1, a2, a3, .int x] st h else none := r_sto (n := 2) (k := 4) (v := .int x) (ls := [a0, a1, a2, a3, a4]) rfl rfl rfl
theorem rX1_makes_122 : pR 53 d 122 ls st h = pR 53 d 18 ls st h := pR_L rfl rfl
theorem rX1_makes_125 : pR 53 d 125 ls st h = pR 53 d 126 ls (.int 1 :: st) h := pR_L rfl rfl
theorem rX1_makes_1260 : pR 53 d 126 ls [.int 0] h = some (.inl (some (.int 0)), h) := pR_E rfl rfl
theorem rX1_makes_1261 : pR 53 d 126 ls [.int 1] h = some (.inl (some (.int 1)), h) := pR_E rfl rfl
-- 54 BalloonStall rule ()I
theorem eX1_rule : pCa 54 d [.ref o] h = pR 54 d 0 [.ref o, pU] [] h := rfl
theorem rX1_rule_0 : pR 54 d 0 [.ref o, a1] st h = pR 54 d 1 [.ref o, a1] (.ref o :: st) h := pR_L rfl rfl
theorem rX1_rule_1 : pR 54 d 1 ls (.ref o :: st) h = if pis (pfl h 1 o 20) = true then pR 54 d 4 ls (pfl h 1 o 20 :: st) h else none := r_get rfl
theorem rX1_rule_4 : pR 54 d 4 ls st h = pR 54 d 6 ls (.int 6 :: st) h := pR_L rfl rfl
theorem rX1_rule_6 : pR 54 d 6 ls (.int y :: .int x :: st) h = if x = y then pR 54 d 9 ls st h else pR 54 d 11 ls st h := r_cne rfl rfl
theorem rX1_rule_9 : pR 54 d 9 ls st h = pR 54 d 10 ls (.int (-1) :: st) h := pR_L rfl rfl
theorem rX1_rule_10 : pR 54 d 10 ls [.int x] h = some (.inl (some (.int x)), h) := pR_E rfl rfl
theorem rX1_rule_11 : pR 54 d 11 [.ref o, a1] st h = pR 54 d 12 [.ref o, a1] (.ref o :: st) h := pR_L rfl rfl
theorem rX1_rule_12 : pR 54 d 12 ls (.ref o :: st) h = if pis (pfl h 1 o 18) = true then pR 54 d 15 ls (pfl h 1 o 18 :: st) h else none := r_get rfl
theorem rX1_rule_15 : pR 54 d 15 [.ref o, a1] st h = pR 54 d 16 [.ref o, a1] (.ref o :: st) h := pR_L rfl rfl
theorem rX1_rule_16 : pR 54 d 16 ls (.ref o :: st) h = if pis (pfl h 1 o 20) = true then pR 54 d 19 ls (pfl h 1 o 20 :: st) h else none := r_get rfl
theorem rX1_rule_19 : pR 54 d 19 ls st h = pR 54 d 22 ls (.ref h.2.1 :: st) (pnw h (.inr (13, [.int 0, .int 0, .null, .null])) 4) := pR_X rfl rfl
theorem rX1_rule_22 : pR 54 d 22 ls (.ref o :: st) h = pR 54 d 23 ls (.ref o :: .ref o :: st) h := pR_L rfl rfl
theorem rX1_rule_22i : pR 54 d 22 ls (.int x :: st) h = pR 54 d 23 ls (.int x :: .int x :: st) h := pR_L rfl rfl
theorem rX1_rule_23 : pR 54 d 23 [.ref o, a1] st h = pR 54 d 24 [.ref o, a1] (.ref o :: st) h := pR_L rfl rfl
theorem rX1_rule_24 : pR 54 (d + 11) 24 ls (.ref o2 :: .ref o :: st) h = if (pcl h o == 13 && pw st) = true then pR 54 (d + 11) 27 ls st (psf (psf h o 3 (.ref o2)) o 2 (.ref o2)) else none := r_rd13 rfl
theorem rX1_rule_27 : pR 54 (d + 1) 27 ls (.ref o :: st) h = if (pok 13 (pcl h o) && pw st) = true then pK 54 (d + 1) 27 3 ls st (pCa 193 d [.ref o] h) else none := r_callV rfl rfl rfl
theorem rX1_rule_30 : pR 54 d 30 ls (.ref o2 :: .int x :: .ref o :: st) h = if (pin x (plnQ h o) && pcl h o2 == pel (pkdQ h o)) = true then pR 54 d 31 ls st (pstQ h o x.toNatClampNeg (some o2)) else none := pR_Lif rfl rfl
theorem rX1_rule_31 : pR 54 d 31 ls st h = pR 54 d 37 ls st h := pR_L rfl rfl
theorem rX1_rule_34 : pR 54 d 34 [a0, a1] (.ref o :: st) h = if p1 a1 = true then pR 54 d 35 [a0, .ref o] st h else none := r_sto (n := 1) (k := 1) (v := .ref o) (ls := [a0, a1]) rfl rfl rfl
theorem rX1_rule_34n : pR 54 d 34 [a0, a1] (.null :: st) h = if p1 a1 = true then pR 54 d 35 [a0, .null] st h else none := r_sto (n := 1) (k := 1) (v := .null) (ls := [a0, a1]) rfl rfl rfl
theorem rX1_rule_35 : pR 54 d 35 ls st h = pR 54 d 36 ls (.int (-1) :: st) h := pR_L rfl rfl
theorem rX1_rule_36 : pR 54 d 36 ls [.int x] h = some (.inl (some (.int x)), h) := pR_E rfl rfl
theorem rX1_rule_37 : pR 54 d 37 [.ref o, a1] st h = pR 54 d 38 [.ref o, a1] (.ref o :: st) h := pR_L rfl rfl
theorem rX1_rule_38 : pR 54 d 38 ls st h = pR 54 d 39 ls (.int 0 :: st) h := pR_L rfl rfl
theorem rX1_rule_39 : pR 54 d 39 ls (.int x :: .ref o :: st) h = if pis (pfl h 1 o 3) = true then pR 54 d 42 ls st (psf h o 3 (.int x)) else none := r_put rfl rfl
theorem rX1_rule_42 : pR 54 d 42 [.ref o, a1] st h = pR 54 d 43 [.ref o, a1] (.ref o :: st) h := pR_L rfl rfl
theorem rX1_rule_43 : pR 54 d 43 ls (.ref o :: st) h = pR 54 d 44 ls (.ref o :: .ref o :: st) h := pR_L rfl rfl
theorem rX1_rule_43i : pR 54 d 43 ls (.int x :: st) h = pR 54 d 44 ls (.int x :: .int x :: st) h := pR_L rfl rfl
theorem rX1_rule_44 : pR 54 d 44 ls (.ref o :: st) h = if pis (pfl h 1 o 20) = true then pR 54 d 47 ls (pfl h 1 o 20 :: st) h else none := r_get rfl
theorem rX1_rule_47 : pR 54 d 47 ls st h = pR 54 d 48 ls (.int 1 :: st) h := pR_L rfl rfl
theorem rX1_rule_48 : pR 54 d 48 ls (.int y :: .int x :: st) h = pR 54 d 49 ls (.int (x + y) :: st) h := pR_L rfl rfl
theorem rX1_rule_49 : pR 54 d 49 ls (.int x :: .ref o :: st) h = if pis (pfl h 1 o 20) = true then pR 54 d 52 ls st (psf h o 20 (.int x)) else none := r_put rfl rfl
theorem rX1_rule_52 : pR 54 d 52 [.ref o, a1] st h = pR 54 d 53 [.ref o, a1] (.ref o :: st) h := pR_L rfl rfl
theorem rX1_rule_53 : pR 54 d 53 ls (.ref o :: st) h = if pis (pfl h 1 o 20) = true then pR 54 d 56 ls (pfl h 1 o 20 :: st) h else none := r_get rfl
theorem rX1_rule_56 : pR 54 d 56 ls st h = pR 54 d 57 ls (.int 1 :: st) h := pR_L rfl rfl
theorem rX1_rule_57 : pR 54 d 57 ls (.int y :: .int x :: st) h = pR 54 d 58 ls (.int (x - y) :: st) h := pR_L rfl rfl
theorem rX1_rule_58 : pR 54 d 58 ls [.int x] h = some (.inl (some (.int x)), h) := pR_E rfl rfl
-- 55 BalloonStall aged (IIII)I
theorem eX1_aged : pCa 55 d [.ref o, .int x0, .int x1, .int x2, .int x3] h = pR 55 d 0 [.ref o, .int x0, .int x1, .int x2, .int x3, pU, pU] [] h := rfl
theorem rX1_aged_0 : pR 55 d 0 [.ref o, a1, a2, a3, a4, a5, a6] st h = pR 55 d 1 [.ref o, a1, a2, a3, a4, a5, a6] (.ref o :: st) h := pR_L rfl rfl
theorem rX1_aged_1 : pR 55 d 1 [a0, .int x, a2, a3, a4, a5, a6] st h = pR 55 d 2 [a0, .int x, a2, a3, a4, a5, a6] (.int x :: st) h := pR_L rfl rfl
theorem rX1_aged_2 : pR 55 d 2 [a0, a1, a2, a3, .int x, a5, a6] st h = pR 55 d 4 [a0, a1, a2, a3, .int x, a5, a6] (.int x :: st) h := pR_L rfl rfl
theorem rX1_aged_4 : pR 55 (d + 1) 4 ls (b2 :: b1 :: .ref o :: st) h = if (pok 1 (pcl h o) && pw st) = true then pK 55 (d + 1) 4 3 ls st (pCa 23 d [.ref o, b1, b2] h) else none := r_callV rfl rfl rfl
theorem rX1_aged_7 : pR 55 d 7 ls (.int x :: st) h = if x = 0 then pR 55 d 30 ls st h else pR 55 d 10 ls st h := r_ieq rfl rfl
theorem rX1_aged_10 : pR 55 d 10 [.ref o, a1, a2, a3, a4, a5, a6] st h = pR 55 d 11 [.ref o, a1, a2, a3, a4, a5, a6] (.ref o :: st) h := pR_L rfl rfl
theorem rX1_aged_11 : pR 55 d 11 [a0, a1, .int x, a3, a4, a5, a6] st h = pR 55 d 12 [a0, a1, .int x, a3, a4, a5, a6] (.int x :: st) h := pR_L rfl rfl
theorem rX1_aged_12 : pR 55 (d + 1) 12 ls (b1 :: .ref o :: st) h = if (pok 1 (pcl h o) && pw st) = true then pK 55 (d + 1) 12 3 ls st (pCa 56 d [.ref o, b1] h) else none := r_callV rfl rfl rfl
theorem rX1_aged_15 : pR 55 d 15 ls (.int x :: st) h = if x = 0 then pR 55 d 30 ls st h else pR 55 d 18 ls st h := r_ieq rfl rfl
theorem rX1_aged_18 : pR 55 d 18 [a0, a1, a2, .int x, a4, a5, a6] st h = pR 55 d 19 [a0, a1, a2, .int x, a4, a5, a6] (.int x :: st) h := pR_L rfl rfl
theorem rX1_aged_19 : pR 55 d 19 ls (.int x :: st) h = pR 55 d 20 ls (.long x.toInt64 :: st) h := pR_L rfl rfl
theorem rX1_aged_20 : pR 55 d 20 ls st h = pR 55 d 21 ls (.long 0 :: st) h := pR_L rfl rfl
theorem rX1_aged_21 : pR 55 d 21 ls st h = pR 55 d 24 ls (.long 60 :: st) h := pR_X rfl rfl
theorem rX1_aged_24 : pR 55 (d + 1) 24 ls (b2 :: b1 :: b0 :: st) h = if pw st = true then pK 55 (d + 1) 24 3 ls st (pCa 6 d [b0, b1, b2] h) else none := r_callS rfl rfl rfl
theorem rX1_aged_27 : pR 55 d 27 ls (.int x :: st) h = if x = 0 then pR 55 d 30 ls st h else pR 55 d 32 ls st h := r_ine rfl rfl
theorem rX1_aged_30 : pR 55 d 30 ls st h = pR 55 d 31 ls (.int (-1) :: st) h := pR_L rfl rfl
theorem rX1_aged_31 : pR 55 d 31 ls [.int x] h = some (.inl (some (.int x)), h) := pR_E rfl rfl
theorem rX1_aged_32 : pR 55 d 32 [.ref o, a1, a2, a3, a4, a5, a6] st h = pR 55 d 33 [.ref o, a1, a2, a3, a4, a5, a6] (.ref o :: st) h := pR_L rfl rfl
theorem rX1_aged_33 : pR 55 d 33 ls (.ref o :: st) h = if pis (pfl h 1 o 4) = true then pR 55 d 36 ls (pfl h 1 o 4 :: st) h else none := r_get rfl
theorem rX1_aged_36 : pR 55 d 36 [a0, .int x, a2, a3, a4, a5, a6] st h = pR 55 d 37 [a0, .int x, a2, a3, a4, a5, a6] (.int x :: st) h := pR_L rfl rfl
theorem rX1_aged_37 : pR 55 d 37 ls (.int x :: .ref o :: st) h = if pin x (plnQ h o) = true then pR 55 d 38 ls (va_rf (pctQ h o x.toNatClampNeg) :: st) h else none := pR_Lif rfl rfl
theorem rX1_aged_38 : pR 55 d 38 [a0, a1, a2, a3, a4, a5, a6] (.ref o :: st) h = if p1 a5 = true then pR 55 d 40 [a0, a1, a2, a3, a4, .ref o, a6] st h else none := r_sto (n := 2) (k := 5) (v := .ref o) (ls := [a0, a1, a2, a3, a4, a5, a6]) rfl rfl rfl
theorem rX1_aged_38n : pR 55 d 38 [a0, a1, a2, a3, a4, a5, a6] (.null :: st) h = if p1 a5 = true then pR 55 d 40 [a0, a1, a2, a3, a4, .null, a6] st h else none := r_sto (n := 2) (k := 5) (v := .null) (ls := [a0, a1, a2, a3, a4, a5, a6]) rfl rfl rfl
theorem rX1_aged_40 : pR 55 d 40 [.ref o, a1, a2, a3, a4, a5, a6] st h = pR 55 d 41 [.ref o, a1, a2, a3, a4, a5, a6] (.ref o :: st) h := pR_L rfl rfl
theorem rX1_aged_41 : pR 55 d 41 [a0, a1, a2, a3, a4, .ref o, a6] st h = pR 55 d 43 [a0, a1, a2, a3, a4, .ref o, a6] (.ref o :: st) h := pR_L rfl rfl
theorem rX1_aged_41n : pR 55 d 41 [a0, a1, a2, a3, a4, .null, a6] st h = pR 55 d 43 [a0, a1, a2, a3, a4, .null, a6] (.null :: st) h := pR_L rfl rfl
theorem rX1_aged_43 : pR 55 (d + 1) 43 ls (b1 :: .ref o :: st) h = if (pok 1 (pcl h o) && pw st) = true then pK 55 (d + 1) 43 3 ls st (pCa 57 d [.ref o, b1] h) else none := r_callV rfl rfl rfl
theorem rX1_aged_46 : pR 55 d 46 ls st h = pR 55 d 47 ls (.int 1 :: st) h := pR_L rfl rfl
theorem rX1_aged_47 : pR 55 d 47 [a0, a1, a2, a3, a4, a5, a6] (.int x :: st) h = if p1 a6 = true then pR 55 d 49 [a0, a1, a2, a3, a4, a5, .int x] st h else none := r_sto (n := 2) (k := 6) (v := .int x) (ls := [a0, a1, a2, a3, a4, a5, a6]) rfl rfl rfl
theorem rX1_aged_49 : pR 55 d 49 [a0, a1, a2, a3, a4, a5, .int x] st h = pR 55 d 51 [a0, a1, a2, a3, a4, a5, .int x] (.int x :: st) h := pR_L rfl rfl
theorem rX1_aged_51 : pR 55 d 51 [a0, a1, a2, .int x, a4, a5, a6] st h = pR 55 d 52 [a0, a1, a2, .int x, a4, a5, a6] (.int x :: st) h := pR_L rfl rfl
theorem rX1_aged_52 : pR 55 d 52 ls (.int y :: .int x :: st) h = if y < x then pR 55 d 75 ls st h else pR 55 d 55 ls st h := r_cgt rfl rfl
theorem rX1_aged_55 : pR 55 d 55 [.ref o, a1, a2, a3, a4, a5, a6] st h = pR 55 d 56 [.ref o, a1, a2, a3, a4, a5, a6] (.ref o :: st) h := pR_L rfl rfl
theorem rX1_aged_56 : pR 55 d 56 [a0, a1, a2, a3, a4, .ref o, a6] st h = pR 55 d 58 [a0, a1, a2, a3, a4, .ref o, a6] (.ref o :: st) h := pR_L rfl rfl
theorem rX1_aged_56n : pR 55 d 56 [a0, a1, a2, a3, a4, .null, a6] st h = pR 55 d 58 [a0, a1, a2, a3, a4, .null, a6] (.null :: st) h := pR_L rfl rfl
theorem rX1_aged_58 : pR 55 d 58 [.ref o, a1, a2, a3, a4, a5, a6] st h = pR 55 d 59 [.ref o, a1, a2, a3, a4, a5, a6] (.ref o :: st) h := pR_L rfl rfl
theorem rX1_aged_59 : pR 55 d 59 ls (.ref o :: st) h = if pis (pfl h 1 o 18) = true then pR 55 d 62 ls (pfl h 1 o 18 :: st) h else none := r_get rfl
theorem rX1_aged_62 : pR 55 d 62 [a0, a1, .int x, a3, a4, a5, a6] st h = pR 55 d 63 [a0, a1, .int x, a3, a4, a5, a6] (.int x :: st) h := pR_L rfl rfl
theorem rX1_aged_63 : pR 55 d 63 ls (.int x :: .ref o :: st) h = if pin x (plnQ h o) = true then pR 55 d 64 ls (va_rf (pctQ h o x.toNatClampNeg) :: st) h else none := pR_Lif rfl rfl
theorem rX1_aged_64 : pR 55 d 64 [a0, a1, a2, a3, a4, a5, .int x] st h = pR 55 d 66 [a0, a1, a2, a3, a4, a5, .int x] (.int x :: st) h := pR_L rfl rfl
theorem rX1_aged_66 : pR 55 (d + 1) 66 ls (b3 :: b2 :: b1 :: .ref o :: st) h = if (pok 1 (pcl h o) && pw st) = true then pK 55 (d + 1) 66 3 ls st (pCa 58 d [.ref o, b1, b2, b3] h) else none := r_callV rfl rfl rfl
theorem rX1_aged_69 : pR 55 d 69 [a0, a1, a2, a3, a4, a5, .int x] st h = pR 55 d 72 [a0, a1, a2, a3, a4, a5, .int (x + 1)] st h := pR_L rfl rfl
theorem rX1_aged_72 : pR 55 d 72 ls st h = pR 55 d 49 ls st h := pR_L rfl rfl
theorem rX1_aged_75 : pR 55 d 75 [.ref o, a1, a2, a3, a4, a5, a6] st h = pR 55 d 76 [.ref o, a1, a2, a3, a4, a5, a6] (.ref o :: st) h := pR_L rfl rfl
theorem rX1_aged_76 : pR 55 d 76 ls (.ref o :: st) h = if pis (pfl h 1 o 22) = true then pR 55 d 79 ls (pfl h 1 o 22 :: st) h else none := r_get rfl
theorem rX1_aged_79 : pR 55 d 79 [a0, a1, a2, a3, .int x, a5, a6] st h = pR 55 d 81 [a0, a1, a2, a3, .int x, a5, a6] (.int x :: st) h := pR_L rfl rfl
theorem rX1_aged_81 : pR 55 d 81 ls (.int y :: .int x :: st) h = pR 55 d 82 ls (.int (x >>> (y &&& 31)) :: st) h := pR_L rfl rfl
theorem rX1_aged_82 : pR 55 d 82 ls st h = pR 55 d 83 ls (.int 1 :: st) h := pR_L rfl rfl
theorem rX1_aged_83 : pR 55 d 83 ls (.int y :: .int x :: st) h = pR 55 d 84 ls (.int (x &&& y) :: st) h := pR_L rfl rfl
theorem rX1_aged_84 : pR 55 d 84 ls st h = pR 55 d 85 ls (.int 1 :: st) h := pR_L rfl rfl
theorem rX1_aged_85 : pR 55 d 85 ls (.int y :: .int x :: st) h = if x = y then pR 55 d 88 ls st h else pR 55 d 92 ls st h := r_cne rfl rfl
theorem rX1_aged_88 : pR 55 d 88 ls st h = pR 55 d 89 ls (.int 0 :: st) h := pR_L rfl rfl
theorem rX1_aged_89 : pR 55 d 89 ls st h = pR 55 d 99 ls st h := pR_L rfl rfl
theorem rX1_aged_92 : pR 55 d 92 [.ref o, a1, a2, a3, a4, a5, a6] st h = pR 55 d 93 [.ref o, a1, a2, a3, a4, a5, a6] (.ref o :: st) h := pR_L rfl rfl
theorem rX1_aged_93 : pR 55 d 93 ls (.ref o :: st) h = if pis (pfl h 1 o 21) = true then pR 55 d 96 ls (pfl h 1 o 21 :: st) h else none := r_get rfl
theorem rX1_aged_96 : pR 55 d 96 [a0, a1, a2, a3, .int x, a5, a6] st h = pR 55 d 98 [a0, a1, a2, a3, .int x, a5, a6] (.int x :: st) h := pR_L rfl rfl
theorem rX1_aged_98 : pR 55 d 98 ls (.int x :: .ref o :: st) h = if (pin x (pln h 0 o) || pin x (pln h 9 o)) = true then pR 55 d 99 ls (.int (pct h o x.toNatClampNeg) :: st) h else none := pR_Lif rfl rfl
theorem rX1_aged_99 : pR 55 d 99 ls [.int x] h = some (.inl (some (.int x)), h) := pR_E rfl rfl
-- 56 BalloonStall isRule (I)Z
theorem eX1_isRule : pCa 56 d [.ref o, .int x0] h = pR 56 d 0 [.ref o, .int x0] [] h := rfl
theorem rX1_isRule_0 : pR 56 d 0 [a0, .int x] st h = pR 56 d 1 [a0, .int x] (.int x :: st) h := pR_L rfl rfl
theorem rX1_isRule_1 : pR 56 d 1 ls (.int x :: st) h = if x < 0 then pR 56 d 16 ls st h else pR 56 d 4 ls st h := r_ilt rfl rfl
theorem rX1_isRule_4 : pR 56 d 4 [a0, .int x] st h = pR 56 d 5 [a0, .int x] (.int x :: st) h := pR_L rfl rfl
theorem rX1_isRule_5 : pR 56 d 5 [.ref o, a1] st h = pR 56 d 6 [.ref o, a1] (.ref o :: st) h := pR_L rfl rfl
theorem rX1_isRule_6 : pR 56 d 6 ls (.ref o :: st) h = if pis (pfl h 1 o 20) = true then pR 56 d 9 ls (pfl h 1 o 20 :: st) h else none := r_get rfl
theorem rX1_isRule_9 : pR 56 d 9 ls (.int y :: .int x :: st) h = if x < y then pR 56 d 12 ls st h else pR 56 d 16 ls st h := r_cge rfl rfl
theorem rX1_isRule_12 : pR 56 d 12 ls st h = pR 56 d 13 ls (.int 1 :: st) h := pR_L rfl rfl
theorem rX1_isRule_13 : pR 56 d 13 ls st h = pR 56 d 17 ls st h := pR_L rfl rfl
theorem rX1_isRule_16 : pR 56 d 16 ls st h = pR 56 d 17 ls (.int 0 :: st) h := pR_L rfl rfl
theorem rX1_isRule_170 : pR 56 d 17 ls [.int 0] h = some (.inl (some (.int 0)), h) := pR_E rfl rfl
theorem rX1_isRule_171 : pR 56 d 17 ls [.int 1] h = some (.inl (some (.int 1)), h) := pR_E rfl rfl
-- 57 BalloonStall fresh (LBalloonStall$Figure;)V
theorem eX1_fresh : pCa 57 d [.ref o, .ref r0] h = pR 57 d 0 [.ref o, .ref r0] [] h := rfl
theorem rX1_fresh_0 : pR 57 d 0 [a0, .ref o] st h = pR 57 d 1 [a0, .ref o] (.ref o :: st) h := pR_L rfl rfl
theorem rX1_fresh_0n : pR 57 d 0 [a0, .null] st h = pR 57 d 1 [a0, .null] (.null :: st) h := pR_L rfl rfl
theorem rX1_fresh_1 : pR 57 d 1 ls (.ref o :: st) h = if pis (pfl h 24 o 2) = true then pR 57 d 4 ls (pfl h 24 o 2 :: st) h else none := r_get rfl
theorem rX1_fresh_4 : pR 57 d 4 ls st h = pR 57 d 5 ls (.int 0 :: st) h := pR_L rfl rfl
theorem rX1_fresh_5 : pR 57 d 5 [.ref o, a1] st h = pR 57 d 6 [.ref o, a1] (.ref o :: st) h := pR_L rfl rfl
theorem rX1_fresh_6 : pR 57 d 6 ls (.ref o :: st) h = if pis (pfl h 1 o 21) = true then pR 57 d 9 ls (pfl h 1 o 21 :: st) h else none := r_get rfl
theorem rX1_fresh_9 : pR 57 d 9 ls st h = pR 57 d 10 ls (.int 0 :: st) h := pR_L rfl rfl
theorem rX1_fresh_10 : pR 57 d 10 [a0, .ref o] st h = pR 57 d 11 [a0, .ref o] (.ref o :: st) h := pR_L rfl rfl
theorem rX1_fresh_10n : pR 57 d 10 [a0, .null] st h = pR 57 d 11 [a0, .null] (.null :: st) h := pR_L rfl rfl
theorem rX1_fresh_11 : pR 57 d 11 ls (.ref o :: st) h = if pis (pfl h 24 o 6) = true then pR 57 d 14 ls (pfl h 24 o 6 :: st) h else none := r_get rfl
theorem rX1_fresh_14 : pR 57 (d + 1) 14 ls (.int x3 :: .int y :: .ref o2 :: .int x :: .ref o :: st) h = if (decide (0 < pln h 0 o) && decide (0 < pln h 0 o2) && decide (0 ≤ x) && decide (0 ≤ y) && decide (0 ≤ x3) && decide (x.toNatClampNeg + x3.toNatClampNeg ≤ pln h 0 o) && decide (y.toNatClampNeg + x3.toNatClampNeg ≤ pln h 0 o2) && !(o == o2) && pw st) = true then pR 57 (d + 1) 17 ls st (pcp h o x.toNatClampNeg o2 y.toNatClampNeg x3.toNatClampNeg) else none := r_cpy rfl
theorem rX1_fresh_17 : pR 57 d 17 [.ref o, a1] st h = pR 57 d 18 [.ref o, a1] (.ref o :: st) h := pR_L rfl rfl
theorem rX1_fresh_18 : pR 57 d 18 ls st h = pR 57 d 19 ls (.int 0 :: st) h := pR_L rfl rfl
theorem rX1_fresh_19 : pR 57 d 19 ls (.int x :: .ref o :: st) h = if pis (pfl h 1 o 22) = true then pR 57 d 22 ls st (psf h o 22 (.int x)) else none := r_put rfl rfl
theorem rX1_fresh_22 : pR 57 d 22 ls [] h = some (.inl none, h) := pR_E rfl rfl
-- 58 BalloonStall hour (LBalloonStall$Figure;LBalloonStall$Clause;I)V
theorem eX1_hour : pCa 58 d [.ref o, .ref r0, .ref r1, .int x2] h = pR 58 d 0 [.ref o, .ref r0, .ref r1, .int x2, pU, pU, pU, pU] [] h := rfl
theorem rX1_hour_0 : pR 58 d 0 [.ref o, a1, a2, a3, a4, a5, a6, a7] st h = pR 58 d 1 [.ref o, a1, a2, a3, a4, a5, a6, a7] (.ref o :: st) h := pR_L rfl rfl
theorem rX1_hour_1 : pR 58 d 1 ls (.ref o :: st) h = if pis (pfl h 1 o 22) = true then pR 58 d 4 ls (pfl h 1 o 22 :: st) h else none := r_get rfl
theorem rX1_hour_4 : pR 58 d 4 [a0, a1, a2, a3, a4, a5, a6, a7] (.int x :: st) h = if p1 a4 = true then pR 58 d 6 [a0, a1, a2, a3, .int x, a5, a6, a7] st h else none := r_sto (n := 2) (k := 4) (v := .int x) (ls := [a0, a1, a2, a3, a4, a5, a6, a7]) rfl rfl rfl
theorem rX1_hour_6 : pR 58 d 6 ls st h = pR 58 d 7 ls (.int 0 :: st) h := pR_L rfl rfl
theorem rX1_hour_7 : pR 58 d 7 [a0, a1, a2, a3, a4, a5, a6, a7] (.int x :: st) h = if p1 a5 = true then pR 58 d 9 [a0, a1, a2, a3, a4, .int x, a6, a7] st h else none := r_sto (n := 2) (k := 5) (v := .int x) (ls := [a0, a1, a2, a3, a4, a5, a6, a7]) rfl rfl rfl
theorem rX1_hour_9 : pR 58 d 9 [a0, a1, a2, a3, a4, .int x, a6, a7] st h = pR 58 d 11 [a0, a1, a2, a3, a4, .int x, a6, a7] (.int x :: st) h := pR_L rfl rfl
theorem rX1_hour_11 : pR 58 d 11 [a0, .ref o, a2, a3, a4, a5, a6, a7] st h = pR 58 d 12 [a0, .ref o, a2, a3, a4, a5, a6, a7] (.ref o :: st) h := pR_L rfl rfl
theorem rX1_hour_11n : pR 58 d 11 [a0, .null, a2, a3, a4, a5, a6, a7] st h = pR 58 d 12 [a0, .null, a2, a3, a4, a5, a6, a7] (.null :: st) h := pR_L rfl rfl
theorem rX1_hour_12 : pR 58 d 12 ls (.ref o :: st) h = if pis (pfl h 24 o 6) = true then pR 58 d 15 ls (pfl h 24 o 6 :: st) h else none := r_get rfl
theorem rX1_hour_15 : pR 58 d 15 ls (.int y :: .int x :: st) h = if x < y then pR 58 d 18 ls st h else pR 58 d 158 ls st h := r_cge rfl rfl
theorem rX1_hour_18 : pR 58 d 18 [a0, a1, a2, a3, .int x, a5, a6, a7] st h = pR 58 d 20 [a0, a1, a2, a3, .int x, a5, a6, a7] (.int x :: st) h := pR_L rfl rfl
theorem rX1_hour_20 : pR 58 d 20 [a0, a1, a2, a3, a4, .int x, a6, a7] st h = pR 58 d 22 [a0, a1, a2, a3, a4, .int x, a6, a7] (.int x :: st) h := pR_L rfl rfl
theorem rX1_hour_22 : pR 58 d 22 ls (.int y :: .int x :: st) h = pR 58 d 23 ls (.int (x >>> (y &&& 31)) :: st) h := pR_L rfl rfl
theorem rX1_hour_23 : pR 58 d 23 ls st h = pR 58 d 24 ls (.int 1 :: st) h := pR_L rfl rfl
theorem rX1_hour_24 : pR 58 d 24 ls (.int y :: .int x :: st) h = pR 58 d 25 ls (.int (x &&& y) :: st) h := pR_L rfl rfl
theorem rX1_hour_25 : pR 58 d 25 ls st h = pR 58 d 26 ls (.int 1 :: st) h := pR_L rfl rfl
theorem rX1_hour_26 : pR 58 d 26 ls (.int y :: .int x :: st) h = if x = y then pR 58 d 29 ls st h else pR 58 d 32 ls st h := r_cne rfl rfl
theorem rX1_hour_29 : pR 58 d 29 ls st h = pR 58 d 152 ls st h := pR_L rfl rfl
theorem rX1_hour_32 : pR 58 d 32 [.ref o, a1, a2, a3, a4, a5, a6, a7] st h = pR 58 d 33 [.ref o, a1, a2, a3, a4, a5, a6, a7] (.ref o :: st) h := pR_L rfl rfl
theorem rX1_hour_33 : pR 58 d 33 ls (.ref o :: st) h = if pis (pfl h 1 o 0) = true then pR 58 d 36 ls (pfl h 1 o 0 :: st) h else none := r_get rfl
theorem rX1_hour_36 : pR 58 d 36 [a0, .ref o, a2, a3, a4, a5, a6, a7] st h = pR 58 d 37 [a0, .ref o, a2, a3, a4, a5, a6, a7] (.ref o :: st) h := pR_L rfl rfl
theorem rX1_hour_36n : pR 58 d 36 [a0, .null, a2, a3, a4, a5, a6, a7] st h = pR 58 d 37 [a0, .null, a2, a3, a4, a5, a6, a7] (.null :: st) h := pR_L rfl rfl
theorem rX1_hour_37 : pR 58 d 37 ls (.ref o :: st) h = if pis (pfl h 24 o 4) = true then pR 58 d 40 ls (pfl h 24 o 4 :: st) h else none := r_get rfl
theorem rX1_hour_40 : pR 58 d 40 [a0, .ref o, a2, a3, a4, a5, a6, a7] st h = pR 58 d 41 [a0, .ref o, a2, a3, a4, a5, a6, a7] (.ref o :: st) h := pR_L rfl rfl
theorem rX1_hour_40n : pR 58 d 40 [a0, .null, a2, a3, a4, a5, a6, a7] st h = pR 58 d 41 [a0, .null, a2, a3, a4, a5, a6, a7] (.null :: st) h := pR_L rfl rfl
theorem rX1_hour_41 : pR 58 d 41 ls (.ref o :: st) h = if pis (pfl h 24 o 3) = true then pR 58 d 44 ls (pfl h 24 o 3 :: st) h else none := r_get rfl
theorem rX1_hour_44 : pR 58 d 44 [a0, a1, a2, a3, a4, .int x, a6, a7] st h = pR 58 d 46 [a0, a1, a2, a3, a4, .int x, a6, a7] (.int x :: st) h := pR_L rfl rfl
theorem rX1_hour_46 : pR 58 d 46 ls (.int x :: .ref o :: st) h = if (pin x (pln h 0 o) || pin x (pln h 9 o)) = true then pR 58 d 47 ls (.int (pct h o x.toNatClampNeg) :: st) h else none := pR_Lif rfl rfl
theorem rX1_hour_47 : pR 58 d 47 ls (.int x :: .ref o :: st) h = if (pin x (pln h 0 o) || pin x (pln h 9 o)) = true then pR 58 d 48 ls (.int (pct h o x.toNatClampNeg) :: st) h else none := pR_Lif rfl rfl
theorem rX1_hour_48 : pR 58 d 48 ls (.int x :: .ref o :: st) h = if pin x (plnQ h o) = true then pR 58 d 49 ls (va_rf (pctQ h o x.toNatClampNeg) :: st) h else none := pR_Lif rfl rfl
theorem rX1_hour_49 : pR 58 d 49 [a0, a1, a2, a3, a4, a5, a6, a7] (.ref o :: st) h = if p1 a6 = true then pR 58 d 51 [a0, a1, a2, a3, a4, a5, .ref o, a7] st h else none := r_sto (n := 2) (k := 6) (v := .ref o) (ls := [a0, a1, a2, a3, a4, a5, a6, a7]) rfl rfl rfl
theorem rX1_hour_49n : pR 58 d 49 [a0, a1, a2, a3, a4, a5, a6, a7] (.null :: st) h = if p1 a6 = true then pR 58 d 51 [a0, a1, a2, a3, a4, a5, .null, a7] st h else none := r_sto (n := 2) (k := 6) (v := .null) (ls := [a0, a1, a2, a3, a4, a5, a6, a7]) rfl rfl rfl
theorem rX1_hour_51 : pR 58 d 51 [.ref o, a1, a2, a3, a4, a5, a6, a7] st h = pR 58 d 52 [.ref o, a1, a2, a3, a4, a5, a6, a7] (.ref o :: st) h := pR_L rfl rfl
theorem rX1_hour_52 : pR 58 d 52 [a0, a1, .ref o, a3, a4, a5, a6, a7] st h = pR 58 d 53 [a0, a1, .ref o, a3, a4, a5, a6, a7] (.ref o :: st) h := pR_L rfl rfl
theorem rX1_hour_52n : pR 58 d 52 [a0, a1, .null, a3, a4, a5, a6, a7] st h = pR 58 d 53 [a0, a1, .null, a3, a4, a5, a6, a7] (.null :: st) h := pR_L rfl rfl
theorem rX1_hour_53 : pR 58 d 53 [.ref o, a1, a2, a3, a4, a5, a6, a7] st h = pR 58 d 54 [.ref o, a1, a2, a3, a4, a5, a6, a7] (.ref o :: st) h := pR_L rfl rfl
theorem rX1_hour_54 : pR 58 d 54 ls (.ref o :: st) h = if pis (pfl h 1 o 21) = true then pR 58 d 57 ls (pfl h 1 o 21 :: st) h else none := r_get rfl
theorem rX1_hour_57 : pR 58 d 57 [a0, a1, a2, a3, a4, .int x, a6, a7] st h = pR 58 d 59 [a0, a1, a2, a3, a4, .int x, a6, a7] (.int x :: st) h := pR_L rfl rfl
theorem rX1_hour_59 : pR 58 d 59 ls (.int x :: .ref o :: st) h = if (pin x (pln h 0 o) || pin x (pln h 9 o)) = true then pR 58 d 60 ls (.int (pct h o x.toNatClampNeg) :: st) h else none := pR_Lif rfl rfl
theorem rX1_hour_60 : pR 58 d 60 [a0, a1, a2, .int x, a4, a5, a6, a7] st h = pR 58 d 61 [a0, a1, a2, .int x, a4, a5, a6, a7] (.int x :: st) h := pR_L rfl rfl
theorem rX1_hour_61 : pR 58 d 61 [a0, .ref o, a2, a3, a4, a5, a6, a7] st h = pR 58 d 62 [a0, .ref o, a2, a3, a4, a5, a6, a7] (.ref o :: st) h := pR_L rfl rfl
theorem rX1_hour_61n : pR 58 d 61 [a0, .null, a2, a3, a4, a5, a6, a7] st h = pR 58 d 62 [a0, .null, a2, a3, a4, a5, a6, a7] (.null :: st) h := pR_L rfl rfl
theorem rX1_hour_62 : pR 58 d 62 [a0, a1, a2, a3, .int x, a5, a6, a7] st h = pR 58 d 64 [a0, a1, a2, a3, .int x, a5, a6, a7] (.int x :: st) h := pR_L rfl rfl
theorem rX1_hour_64 : pR 58 d 64 [a0, .ref o, a2, a3, a4, a5, a6, a7] st h = pR 58 d 65 [a0, .ref o, a2, a3, a4, a5, a6, a7] (.ref o :: st) h := pR_L rfl rfl
theorem rX1_hour_64n : pR 58 d 64 [a0, .null, a2, a3, a4, a5, a6, a7] st h = pR 58 d 65 [a0, .null, a2, a3, a4, a5, a6, a7] (.null :: st) h := pR_L rfl rfl
theorem rX1_hour_65 : pR 58 d 65 ls (.ref o :: st) h = if pis (pfl h 24 o 0) = true then pR 58 d 68 ls (pfl h 24 o 0 :: st) h else none := r_get rfl
theorem rX1_hour_68 : pR 58 d 68 [a0, a1, a2, a3, a4, .int x, a6, a7] st h = pR 58 d 70 [a0, a1, a2, a3, a4, .int x, a6, a7] (.int x :: st) h := pR_L rfl rfl
theorem rX1_hour_70 : pR 58 d 70 ls (.int x :: .ref o :: st) h = if (pin x (pln h 0 o) || pin x (pln h 9 o)) = true then pR 58 d 71 ls (.int (pct h o x.toNatClampNeg) :: st) h else none := pR_Lif rfl rfl
theorem rX1_hour_71 : pR 58 (d + 1) 71 ls (b2 :: b1 :: .ref o :: st) h = if (pok 24 (pcl h o) && pw st) = true then pK 58 (d + 1) 71 3 ls st (pCa 238 d [.ref o, b1, b2] h) else none := r_callV rfl rfl rfl
theorem rX1_hour_74 : pR 58 d 74 [a0, .ref o, a2, a3, a4, a5, a6, a7] st h = pR 58 d 75 [a0, .ref o, a2, a3, a4, a5, a6, a7] (.ref o :: st) h := pR_L rfl rfl
theorem rX1_hour_74n : pR 58 d 74 [a0, .null, a2, a3, a4, a5, a6, a7] st h = pR 58 d 75 [a0, .null, a2, a3, a4, a5, a6, a7] (.null :: st) h := pR_L rfl rfl
theorem rX1_hour_75 : pR 58 d 75 [a0, a1, a2, a3, .int x, a5, a6, a7] st h = pR 58 d 77 [a0, a1, a2, a3, .int x, a5, a6, a7] (.int x :: st) h := pR_L rfl rfl
theorem rX1_hour_77 : pR 58 d 77 [a0, .ref o, a2, a3, a4, a5, a6, a7] st h = pR 58 d 78 [a0, .ref o, a2, a3, a4, a5, a6, a7] (.ref o :: st) h := pR_L rfl rfl
theorem rX1_hour_77n : pR 58 d 77 [a0, .null, a2, a3, a4, a5, a6, a7] st h = pR 58 d 78 [a0, .null, a2, a3, a4, a5, a6, a7] (.null :: st) h := pR_L rfl rfl
theorem rX1_hour_78 : pR 58 d 78 ls (.ref o :: st) h = if pis (pfl h 24 o 1) = true then pR 58 d 81 ls (pfl h 24 o 1 :: st) h else none := r_get rfl
theorem rX1_hour_81 : pR 58 d 81 [a0, a1, a2, a3, a4, .int x, a6, a7] st h = pR 58 d 83 [a0, a1, a2, a3, a4, .int x, a6, a7] (.int x :: st) h := pR_L rfl rfl
theorem rX1_hour_83 : pR 58 d 83 ls (.int x :: .ref o :: st) h = if (pin x (pln h 0 o) || pin x (pln h 9 o)) = true then pR 58 d 84 ls (.int (pct h o x.toNatClampNeg) :: st) h else none := pR_Lif rfl rfl
theorem rX1_hour_84 : pR 58 (d + 1) 84 ls (b2 :: b1 :: .ref o :: st) h = if (pok 24 (pcl h o) && pw st) = true then pK 58 (d + 1) 84 3 ls st (pCa 238 d [.ref o, b1, b2] h) else none := r_callV rfl rfl rfl
theorem rX1_hour_87 : pR 58 d 87 ls (.int y :: .int x :: st) h = pR 58 d 88 ls (.int (x + y) :: st) h := pR_L rfl rfl
theorem rX1_hour_88 : pR 58 d 88 [a0, a1, a2, a3, a4, a5, .ref o, a7] st h = pR 58 d 90 [a0, a1, a2, a3, a4, a5, .ref o, a7] (.ref o :: st) h := pR_L rfl rfl
theorem rX1_hour_88n : pR 58 d 88 [a0, a1, a2, a3, a4, a5, .null, a7] st h = pR 58 d 90 [a0, a1, a2, a3, a4, a5, .null, a7] (.null :: st) h := pR_L rfl rfl
theorem rX1_hour_90 : pR 58 d 90 ls (.ref o :: st) h = if pis (pfl h 4 o 1) = true then pR 58 d 93 ls (pfl h 4 o 1 :: st) h else none := r_get rfl
theorem rX1_hour_93 : pR 58 d 93 [a0, a1, a2, a3, a4, a5, .ref o, a7] st h = pR 58 d 95 [a0, a1, a2, a3, a4, a5, .ref o, a7] (.ref o :: st) h := pR_L rfl rfl
theorem rX1_hour_93n : pR 58 d 93 [a0, a1, a2, a3, a4, a5, .null, a7] st h = pR 58 d 95 [a0, a1, a2, a3, a4, a5, .null, a7] (.null :: st) h := pR_L rfl rfl
theorem rX1_hour_95 : pR 58 d 95 ls (.ref o :: st) h = if pis (pfl h 4 o 0) = true then pR 58 d 98 ls (pfl h 4 o 0 :: st) h else none := r_get rfl
theorem rX1_hour_98 : pR 58 (d + 1) 98 ls (b6 :: b5 :: b4 :: b3 :: b2 :: b1 :: .ref o :: st) h = if (pok 1 (pcl h o) && pw st) = true then pK 58 (d + 1) 98 3 ls st (pCa 59 d [.ref o, b1, b2, b3, b4, b5, b6] h) else none := r_callV rfl rfl rfl
theorem rX1_hour_101 : pR 58 d 101 [a0, a1, a2, a3, a4, a5, a6, a7] (.int x :: st) h = if p1 a7 = true then pR 58 d 103 [a0, a1, a2, a3, a4, a5, a6, .int x] st h else none := r_sto (n := 2) (k := 7) (v := .int x) (ls := [a0, a1, a2, a3, a4, a5, a6, a7]) rfl rfl rfl
theorem rX1_hour_103 : pR 58 d 103 [.ref o, a1, a2, a3, a4, a5, a6, a7] st h = pR 58 d 104 [.ref o, a1, a2, a3, a4, a5, a6, a7] (.ref o :: st) h := pR_L rfl rfl
theorem rX1_hour_104 : pR 58 d 104 ls (.ref o :: st) h = if pis (pfl h 1 o 21) = true then pR 58 d 107 ls (pfl h 1 o 21 :: st) h else none := r_get rfl
theorem rX1_hour_107 : pR 58 d 107 [a0, a1, a2, a3, a4, .int x, a6, a7] st h = pR 58 d 109 [a0, a1, a2, a3, a4, .int x, a6, a7] (.int x :: st) h := pR_L rfl rfl
theorem rX1_hour_109 : pR 58 d 109 ls (.int x :: .ref o :: st) h = pR 58 d 110 ls (.int x :: .ref o :: .int x :: .ref o :: st) h := pR_L rfl rfl
theorem rX1_hour_110 : pR 58 d 110 ls (.int x :: .ref o :: st) h = if (pin x (pln h 0 o) || pin x (pln h 9 o)) = true then pR 58 d 111 ls (.int (pct h o x.toNatClampNeg) :: st) h else none := pR_Lif rfl rfl
theorem rX1_hour_111 : pR 58 d 111 ls st h = pR 58 d 112 ls (.int 0 :: st) h := pR_L rfl rfl
theorem rX1_hour_112 : pR 58 d 112 [.ref o, a1, a2, a3, a4, a5, a6, a7] st h = pR 58 d 113 [.ref o, a1, a2, a3, a4, a5, a6, a7] (.ref o :: st) h := pR_L rfl rfl
theorem rX1_hour_113 : pR 58 d 113 ls (.ref o :: st) h = if pis (pfl h 1 o 21) = true then pR 58 d 116 ls (pfl h 1 o 21 :: st) h else none := r_get rfl
theorem rX1_hour_116 : pR 58 d 116 [a0, a1, a2, a3, a4, .int x, a6, a7] st h = pR 58 d 118 [a0, a1, a2, a3, a4, .int x, a6, a7] (.int x :: st) h := pR_L rfl rfl
theorem rX1_hour_118 : pR 58 d 118 ls (.int x :: .ref o :: st) h = if (pin x (pln h 0 o) || pin x (pln h 9 o)) = true then pR 58 d 119 ls (.int (pct h o x.toNatClampNeg) :: st) h else none := pR_Lif rfl rfl
theorem rX1_hour_119 : pR 58 d 119 [a0, a1, a2, a3, a4, a5, a6, .int x] st h = pR 58 d 121 [a0, a1, a2, a3, a4, a5, a6, .int x] (.int x :: st) h := pR_L rfl rfl
theorem rX1_hour_121 : pR 58 (d + 1) 121 ls (.int y :: .int x :: st) h = if pw st = true then pR 58 (d + 1) 124 ls (.int (if y < x then y else x) :: st) h else none := r_mn rfl
theorem rX1_hour_124 : pR 58 (d + 1) 124 ls (.int y :: .int x :: st) h = if pw st = true then pR 58 (d + 1) 127 ls (.int (if x < y then y else x) :: st) h else none := r_mx rfl
theorem rX1_hour_127 : pR 58 d 127 ls (.int y :: .int x :: st) h = pR 58 d 128 ls (.int (x - y) :: st) h := pR_L rfl rfl
theorem rX1_hour_128 : pR 58 d 128 ls (.int y :: .int x :: .ref o :: st) h = if pin x (pln h 0 o) = true then pR 58 d 129 ls st (pst h o x.toNatClampNeg y) else none := pR_Lif rfl rfl
theorem rX1_hour_129 : pR 58 d 129 [.ref o, a1, a2, a3, a4, a5, a6, a7] st h = pR 58 d 130 [.ref o, a1, a2, a3, a4, a5, a6, a7] (.ref o :: st) h := pR_L rfl rfl
theorem rX1_hour_130 : pR 58 d 130 ls (.ref o :: st) h = if pis (pfl h 1 o 21) = true then pR 58 d 133 ls (pfl h 1 o 21 :: st) h else none := r_get rfl
theorem rX1_hour_133 : pR 58 d 133 [a0, a1, a2, a3, a4, .int x, a6, a7] st h = pR 58 d 135 [a0, a1, a2, a3, a4, .int x, a6, a7] (.int x :: st) h := pR_L rfl rfl
theorem rX1_hour_135 : pR 58 d 135 ls (.int x :: .ref o :: st) h = if (pin x (pln h 0 o) || pin x (pln h 9 o)) = true then pR 58 d 136 ls (.int (pct h o x.toNatClampNeg) :: st) h else none := pR_Lif rfl rfl
theorem rX1_hour_136 : pR 58 d 136 ls (.int x :: st) h = if x = 0 then pR 58 d 139 ls st h else pR 58 d 152 ls st h := r_ine rfl rfl
theorem rX1_hour_139 : pR 58 d 139 [.ref o, a1, a2, a3, a4, a5, a6, a7] st h = pR 58 d 140 [.ref o, a1, a2, a3, a4, a5, a6, a7] (.ref o :: st) h := pR_L rfl rfl
theorem rX1_hour_140 : pR 58 d 140 ls (.ref o :: st) h = pR 58 d 141 ls (.ref o :: .ref o :: st) h := pR_L rfl rfl
theorem rX1_hour_140i : pR 58 d 140 ls (.int x :: st) h = pR 58 d 141 ls (.int x :: .int x :: st) h := pR_L rfl rfl
theorem rX1_hour_141 : pR 58 d 141 ls (.ref o :: st) h = if pis (pfl h 1 o 22) = true then pR 58 d 144 ls (pfl h 1 o 22 :: st) h else none := r_get rfl
theorem rX1_hour_144 : pR 58 d 144 ls st h = pR 58 d 145 ls (.int 1 :: st) h := pR_L rfl rfl
theorem rX1_hour_145 : pR 58 d 145 [a0, a1, a2, a3, a4, .int x, a6, a7] st h = pR 58 d 147 [a0, a1, a2, a3, a4, .int x, a6, a7] (.int x :: st) h := pR_L rfl rfl
theorem rX1_hour_147 : pR 58 d 147 ls (.int y :: .int x :: st) h = pR 58 d 148 ls (.int (x <<< (y &&& 31)) :: st) h := pR_L rfl rfl
theorem rX1_hour_148 : pR 58 d 148 ls (.int y :: .int x :: st) h = pR 58 d 149 ls (.int (x ||| y) :: st) h := pR_L rfl rfl
theorem rX1_hour_149 : pR 58 d 149 ls (.int x :: .ref o :: st) h = if pis (pfl h 1 o 22) = true then pR 58 d 152 ls st (psf h o 22 (.int x)) else none := r_put rfl rfl
theorem rX1_hour_152 : pR 58 d 152 [a0, a1, a2, a3, a4, .int x, a6, a7] st h = pR 58 d 155 [a0, a1, a2, a3, a4, .int (x + 1), a6, a7] st h := pR_L rfl rfl
theorem rX1_hour_155 : pR 58 d 155 ls st h = pR 58 d 9 ls st h := pR_L rfl rfl
theorem rX1_hour_158 : pR 58 d 158 [.ref o, a1, a2, a3, a4, a5, a6, a7] st h = pR 58 d 159 [.ref o, a1, a2, a3, a4, a5, a6, a7] (.ref o :: st) h := pR_L rfl rfl
theorem rX1_hour_159 : pR 58 d 159 [a0, .ref o, a2, a3, a4, a5, a6, a7] st h = pR 58 d 160 [a0, .ref o, a2, a3, a4, a5, a6, a7] (.ref o :: st) h := pR_L rfl rfl
theorem rX1_hour_159n : pR 58 d 159 [a0, .null, a2, a3, a4, a5, a6, a7] st h = pR 58 d 160 [a0, .null, a2, a3, a4, a5, a6, a7] (.null :: st) h := pR_L rfl rfl
theorem rX1_hour_160 : pR 58 d 160 [.ref o, a1, a2, a3, a4, a5, a6, a7] st h = pR 58 d 161 [.ref o, a1, a2, a3, a4, a5, a6, a7] (.ref o :: st) h := pR_L rfl rfl
theorem rX1_hour_161 : pR 58 d 161 ls (.ref o :: st) h = if pis (pfl h 1 o 22) = true then pR 58 d 164 ls (pfl h 1 o 22 :: st) h else none := r_get rfl
theorem rX1_hour_164 : pR 58 (d + 1) 164 ls (b1 :: .ref o :: st) h = if (pok 24 (pcl h o) && pw st) = true then pK 58 (d + 1) 164 3 ls st (pCa 237 d [.ref o, b1] h) else none := r_callV rfl rfl rfl
theorem rX1_hour_167 : pR 58 d 167 ls (.int x :: .ref o :: st) h = if pis (pfl h 1 o 22) = true then pR 58 d 170 ls st (psf h o 22 (.int x)) else none := r_put rfl rfl
theorem rX1_hour_170 : pR 58 d 170 ls [] h = some (.inl none, h) := pR_E rfl rfl
-- 59 BalloonStall worthOf (LBalloonStall$Clause;IIIII)I
theorem eX1_worthOf : pCa 59 d [.ref o, .ref r0, .int x1, .int x2, .int x3, .int x4, .int x5] h = pR 59 d 0 [.ref o, .ref r0, .int x1, .int x2, .int x3, .int x4, .int x5, pU] [] h := rfl
theorem rX1_worthOf_0 : pR 59 d 0 [.ref o, a1, a2, a3, a4, a5, a6, a7] st h = pR 59 d 1 [.ref o, a1, a2, a3, a4, a5, a6, a7] (.ref o :: st) h := pR_L rfl rfl
theorem rX1_worthOf_1 : pR 59 d 1 ls (.ref o :: st) h = if pis (pfl h 1 o 19) = true then pR 59 d 4 ls (pfl h 1 o 19 :: st) h else none := r_get rfl
theorem rX1_worthOf_4 : pR 59 d 4 ls (.ref o :: st) h = if pis (pfl h 2 o 0) = true then pR 59 d 7 ls (pfl h 2 o 0 :: st) h else none := r_get rfl
theorem rX1_worthOf_7 : pR 59 d 7 ls st h = pR 59 d 9 ls (.int 108 :: st) h := pR_L rfl rfl
theorem rX1_worthOf_9 : pR 59 d 9 [a0, a1, .int x, a3, a4, a5, a6, a7] st h = pR 59 d 10 [a0, a1, .int x, a3, a4, a5, a6, a7] (.int x :: st) h := pR_L rfl rfl
theorem rX1_worthOf_10 : pR 59 d 10 ls (.int y :: .int x :: .ref o :: st) h = if pin x (pln h 0 o) = true then pR 59 d 11 ls st (pst h o x.toNatClampNeg y) else none := pR_Lif rfl rfl
theorem rX1_worthOf_11 : pR 59 d 11 [.ref o, a1, a2, a3, a4, a5, a6, a7] st h = pR 59 d 12 [.ref o, a1, a2, a3, a4, a5, a6, a7] (.ref o :: st) h := pR_L rfl rfl
theorem rX1_worthOf_12 : pR 59 d 12 ls (.ref o :: st) h = if pis (pfl h 1 o 19) = true then pR 59 d 15 ls (pfl h 1 o 19 :: st) h else none := r_get rfl
theorem rX1_worthOf_15 : pR 59 d 15 ls (.ref o :: st) h = if pis (pfl h 2 o 0) = true then pR 59 d 18 ls (pfl h 2 o 0 :: st) h else none := r_get rfl
theorem rX1_worthOf_18 : pR 59 d 18 ls st h = pR 59 d 20 ls (.int 104 :: st) h := pR_L rfl rfl
theorem rX1_worthOf_20 : pR 59 d 20 [a0, a1, a2, .int x, a4, a5, a6, a7] st h = pR 59 d 21 [a0, a1, a2, .int x, a4, a5, a6, a7] (.int x :: st) h := pR_L rfl rfl
theorem rX1_worthOf_21 : pR 59 d 21 ls (.int y :: .int x :: .ref o :: st) h = if pin x (pln h 0 o) = true then pR 59 d 22 ls st (pst h o x.toNatClampNeg y) else none := pR_Lif rfl rfl
theorem rX1_worthOf_22 : pR 59 d 22 [.ref o, a1, a2, a3, a4, a5, a6, a7] st h = pR 59 d 23 [.ref o, a1, a2, a3, a4, a5, a6, a7] (.ref o :: st) h := pR_L rfl rfl
theorem rX1_worthOf_23 : pR 59 d 23 ls (.ref o :: st) h = if pis (pfl h 1 o 19) = true then pR 59 d 26 ls (pfl h 1 o 19 :: st) h else none := r_get rfl
theorem rX1_worthOf_26 : pR 59 d 26 ls (.ref o :: st) h = if pis (pfl h 2 o 0) = true then pR 59 d 29 ls (pfl h 2 o 0 :: st) h else none := r_get rfl
theorem rX1_worthOf_29 : pR 59 d 29 ls st h = pR 59 d 31 ls (.int 107 :: st) h := pR_L rfl rfl
theorem rX1_worthOf_31 : pR 59 d 31 [a0, a1, a2, a3, .int x, a5, a6, a7] st h = pR 59 d 33 [a0, a1, a2, a3, .int x, a5, a6, a7] (.int x :: st) h := pR_L rfl rfl
theorem rX1_worthOf_33 : pR 59 d 33 ls (.int y :: .int x :: .ref o :: st) h = if pin x (pln h 0 o) = true then pR 59 d 34 ls st (pst h o x.toNatClampNeg y) else none := pR_Lif rfl rfl
theorem rX1_worthOf_34 : pR 59 d 34 [.ref o, a1, a2, a3, a4, a5, a6, a7] st h = pR 59 d 35 [.ref o, a1, a2, a3, a4, a5, a6, a7] (.ref o :: st) h := pR_L rfl rfl
theorem rX1_worthOf_35 : pR 59 d 35 ls (.ref o :: st) h = if pis (pfl h 1 o 19) = true then pR 59 d 38 ls (pfl h 1 o 19 :: st) h else none := r_get rfl
theorem rX1_worthOf_38 : pR 59 d 38 ls (.ref o :: st) h = if pis (pfl h 2 o 0) = true then pR 59 d 41 ls (pfl h 2 o 0 :: st) h else none := r_get rfl
theorem rX1_worthOf_41 : pR 59 d 41 ls st h = pR 59 d 43 ls (.int 115 :: st) h := pR_L rfl rfl
theorem rX1_worthOf_43 : pR 59 d 43 [a0, a1, a2, a3, a4, .int x, a6, a7] st h = pR 59 d 45 [a0, a1, a2, a3, a4, .int x, a6, a7] (.int x :: st) h := pR_L rfl rfl
theorem rX1_worthOf_45 : pR 59 d 45 ls (.int y :: .int x :: .ref o :: st) h = if pin x (pln h 0 o) = true then pR 59 d 46 ls st (pst h o x.toNatClampNeg y) else none := pR_Lif rfl rfl
theorem rX1_worthOf_46 : pR 59 d 46 [.ref o, a1, a2, a3, a4, a5, a6, a7] st h = pR 59 d 47 [.ref o, a1, a2, a3, a4, a5, a6, a7] (.ref o :: st) h := pR_L rfl rfl
theorem rX1_worthOf_47 : pR 59 d 47 ls (.ref o :: st) h = if pis (pfl h 1 o 19) = true then pR 59 d 50 ls (pfl h 1 o 19 :: st) h else none := r_get rfl
theorem rX1_worthOf_50 : pR 59 d 50 ls (.ref o :: st) h = if pis (pfl h 2 o 0) = true then pR 59 d 53 ls (pfl h 2 o 0 :: st) h else none := r_get rfl
theorem rX1_worthOf_53 : pR 59 d 53 ls st h = pR 59 d 55 ls (.int 97 :: st) h := pR_L rfl rfl
theorem rX1_worthOf_55 : pR 59 d 55 [a0, a1, a2, a3, a4, a5, .int x, a7] st h = pR 59 d 57 [a0, a1, a2, a3, a4, a5, .int x, a7] (.int x :: st) h := pR_L rfl rfl
theorem rX1_worthOf_57 : pR 59 d 57 ls (.int y :: .int x :: .ref o :: st) h = if pin x (pln h 0 o) = true then pR 59 d 58 ls st (pst h o x.toNatClampNeg y) else none := pR_Lif rfl rfl
theorem rX1_worthOf_58 : pR 59 d 58 [a0, .ref o, a2, a3, a4, a5, a6, a7] st h = pR 59 d 59 [a0, .ref o, a2, a3, a4, a5, a6, a7] (.ref o :: st) h := pR_L rfl rfl
theorem rX1_worthOf_58n : pR 59 d 58 [a0, .null, a2, a3, a4, a5, a6, a7] st h = pR 59 d 59 [a0, .null, a2, a3, a4, a5, a6, a7] (.null :: st) h := pR_L rfl rfl
theorem rX1_worthOf_59 : pR 59 d 59 [a0, a1, a2, a3, a4, a5, a6, a7] (.ref o :: st) h = if p1 a7 = true then pR 59 d 61 [a0, a1, a2, a3, a4, a5, a6, .ref o] st h else none := r_sto (n := 2) (k := 7) (v := .ref o) (ls := [a0, a1, a2, a3, a4, a5, a6, a7]) rfl rfl rfl
theorem rX1_worthOf_59n : pR 59 d 59 [a0, a1, a2, a3, a4, a5, a6, a7] (.null :: st) h = if p1 a7 = true then pR 59 d 61 [a0, a1, a2, a3, a4, a5, a6, .null] st h else none := r_sto (n := 2) (k := 7) (v := .null) (ls := [a0, a1, a2, a3, a4, a5, a6, a7]) rfl rfl rfl
theorem rX1_worthOf_61 : pR 59 d 61 [a0, a1, a2, a3, a4, a5, a6, .ref o] st h = pR 59 d 63 [a0, a1, a2, a3, a4, a5, a6, .ref o] (.ref o :: st) h := pR_L rfl rfl
theorem rX1_worthOf_61n : pR 59 d 61 [a0, a1, a2, a3, a4, a5, a6, .null] st h = pR 59 d 63 [a0, a1, a2, a3, a4, a5, a6, .null] (.null :: st) h := pR_L rfl rfl
theorem rX1_worthOf_63n : pR 59 d 63 ls (.null :: st) h = pR 59 d 101 ls st h := pR_L rfl rfl
theorem rX1_worthOf_63 : pR 59 d 63 ls (.ref o :: st) h = pR 59 d 66 ls st h := pR_L rfl rfl
theorem rX1_worthOf_66 : pR 59 d 66 [a0, a1, a2, a3, a4, a5, a6, .ref o] st h = pR 59 d 68 [a0, a1, a2, a3, a4, a5, a6, .ref o] (.ref o :: st) h := pR_L rfl rfl
theorem rX1_worthOf_66n : pR 59 d 66 [a0, a1, a2, a3, a4, a5, a6, .null] st h = pR 59 d 68 [a0, a1, a2, a3, a4, a5, a6, .null] (.null :: st) h := pR_L rfl rfl
theorem rX1_worthOf_68 : pR 59 d 68 [.ref o, a1, a2, a3, a4, a5, a6, a7] st h = pR 59 d 69 [.ref o, a1, a2, a3, a4, a5, a6, a7] (.ref o :: st) h := pR_L rfl rfl
theorem rX1_worthOf_69 : pR 59 d 69 ls (.ref o :: st) h = if pis (pfl h 1 o 19) = true then pR 59 d 72 ls (pfl h 1 o 19 :: st) h else none := r_get rfl
theorem rX1_worthOf_72 : pR 59 (d + 1) 72 ls (b1 :: .ref o :: st) h = if (pok 22 (pcl h o) && pw st) = true then pK 59 (d + 1) 72 3 ls st (pCa 218 d [.ref o, b1] h) else none := r_callV rfl rfl rfl
theorem rX1_worthOf_75 : pR 59 d 75 ls (.int x :: st) h = if x = 0 then pR 59 d 91 ls st h else pR 59 d 78 ls st h := r_ieq rfl rfl
theorem rX1_worthOf_78 : pR 59 d 78 [a0, a1, a2, a3, a4, a5, a6, .ref o] st h = pR 59 d 80 [a0, a1, a2, a3, a4, a5, a6, .ref o] (.ref o :: st) h := pR_L rfl rfl
theorem rX1_worthOf_78n : pR 59 d 78 [a0, a1, a2, a3, a4, a5, a6, .null] st h = pR 59 d 80 [a0, a1, a2, a3, a4, a5, a6, .null] (.null :: st) h := pR_L rfl rfl
theorem rX1_worthOf_80 : pR 59 d 80 ls (.ref o :: st) h = if pis (pfl h 22 o 1) = true then pR 59 d 83 ls (pfl h 22 o 1 :: st) h else none := r_get rfl
theorem rX1_worthOf_83 : pR 59 d 83 [.ref o, a1, a2, a3, a4, a5, a6, a7] st h = pR 59 d 84 [.ref o, a1, a2, a3, a4, a5, a6, a7] (.ref o :: st) h := pR_L rfl rfl
theorem rX1_worthOf_84 : pR 59 d 84 ls (.ref o :: st) h = if pis (pfl h 1 o 19) = true then pR 59 d 87 ls (pfl h 1 o 19 :: st) h else none := r_get rfl
theorem rX1_worthOf_87c17 (hc : pcl h o = 17) : pR 59 (d + 1) 87 ls (b1 :: .ref o :: st) h = if pw st = true then pK 59 (d + 1) 87 3 ls st (pCa 208 d [.ref o, b1] h) else none := r_callA rfl rfl rfl (by rw [hc]; rfl)
theorem rX1_worthOf_87c18 (hc : pcl h o = 18) : pR 59 (d + 1) 87 ls (b1 :: .ref o :: st) h = if pw st = true then pK 59 (d + 1) 87 3 ls st (pCa 210 d [.ref o, b1] h) else none := r_callA rfl rfl rfl (by rw [hc]; rfl)
theorem rX1_worthOf_87c19 (hc : pcl h o = 19) : pR 59 (d + 1) 87 ls (b1 :: .ref o :: st) h = if pw st = true then pK 59 (d + 1) 87 3 ls st (pCa 212 d [.ref o, b1] h) else none := r_callA rfl rfl rfl (by rw [hc]; rfl)
theorem rX1_worthOf_90 : pR 59 d 90 ls [.int x] h = some (.inl (some (.int x)), h) := pR_E rfl rfl
theorem rX1_worthOf_91 : pR 59 d 91 [a0, a1, a2, a3, a4, a5, a6, .ref o] st h = pR 59 d 93 [a0, a1, a2, a3, a4, a5, a6, .ref o] (.ref o :: st) h := pR_L rfl rfl
theorem rX1_worthOf_91n : pR 59 d 91 [a0, a1, a2, a3, a4, a5, a6, .null] st h = pR 59 d 93 [a0, a1, a2, a3, a4, a5, a6, .null] (.null :: st) h := pR_L rfl rfl
theorem rX1_worthOf_93 : pR 59 d 93 ls (.ref o :: st) h = if pis (pfl h 22 o 2) = true then pR 59 d 96 ls (pfl h 22 o 2 :: st) h else none := r_get rfl
theorem rX1_worthOf_96 : pR 59 d 96 [a0, a1, a2, a3, a4, a5, a6, a7] (.ref o :: st) h = if p1 a7 = true then pR 59 d 98 [a0, a1, a2, a3, a4, a5, a6, .ref o] st h else none := r_sto (n := 2) (k := 7) (v := .ref o) (ls := [a0, a1, a2, a3, a4, a5, a6, a7]) rfl rfl rfl
theorem rX1_worthOf_96n : pR 59 d 96 [a0, a1, a2, a3, a4, a5, a6, a7] (.null :: st) h = if p1 a7 = true then pR 59 d 98 [a0, a1, a2, a3, a4, a5, a6, .null] st h else none := r_sto (n := 2) (k := 7) (v := .null) (ls := [a0, a1, a2, a3, a4, a5, a6, a7]) rfl rfl rfl
theorem rX1_worthOf_98 : pR 59 d 98 ls st h = pR 59 d 61 ls st h := pR_L rfl rfl
theorem rX1_worthOf_101 : pR 59 d 101 ls st h = pR 59 d 102 ls (.int 0 :: st) h := pR_L rfl rfl
theorem rX1_worthOf_102 : pR 59 d 102 ls [.int x] h = some (.inl (some (.int x)), h) := pR_E rfl rfl
-- 60 BalloonStall falls (III)I
theorem eX1_falls : pCa 60 d [.ref o, .int x0, .int x1, .int x2] h = pR 60 d 0 [.ref o, .int x0, .int x1, .int x2, pU, pU, pU] [] h := rfl
theorem rX1_falls_0 : pR 60 d 0 [.ref o, a1, a2, a3, a4, a5, a6] st h = pR 60 d 1 [.ref o, a1, a2, a3, a4, a5, a6] (.ref o :: st) h := pR_L rfl rfl
theorem rX1_falls_1 : pR 60 d 1 [a0, .int x, a2, a3, a4, a5, a6] st h = pR 60 d 2 [a0, .int x, a2, a3, a4, a5, a6] (.int x :: st) h := pR_L rfl rfl
theorem rX1_falls_2 : pR 60 (d + 1) 2 ls (b1 :: .ref o :: st) h = if (pok 1 (pcl h o) && pw st) = true then pK 60 (d + 1) 2 3 ls st (pCa 15 d [.ref o, b1] h) else none := r_callV rfl rfl rfl
theorem rX1_falls_5 : pR 60 d 5 ls (.int x :: st) h = if x = 0 then pR 60 d 40 ls st h else pR 60 d 8 ls st h := r_ieq rfl rfl
theorem rX1_falls_8 : pR 60 d 8 [.ref o, a1, a2, a3, a4, a5, a6] st h = pR 60 d 9 [.ref o, a1, a2, a3, a4, a5, a6] (.ref o :: st) h := pR_L rfl rfl
theorem rX1_falls_9 : pR 60 d 9 [a0, a1, .int x, a3, a4, a5, a6] st h = pR 60 d 10 [a0, a1, .int x, a3, a4, a5, a6] (.int x :: st) h := pR_L rfl rfl
theorem rX1_falls_10 : pR 60 (d + 1) 10 ls (b1 :: .ref o :: st) h = if (pok 1 (pcl h o) && pw st) = true then pK 60 (d + 1) 10 3 ls st (pCa 56 d [.ref o, b1] h) else none := r_callV rfl rfl rfl
theorem rX1_falls_13 : pR 60 d 13 ls (.int x :: st) h = if x = 0 then pR 60 d 40 ls st h else pR 60 d 16 ls st h := r_ieq rfl rfl
theorem rX1_falls_16 : pR 60 d 16 [a0, a1, a2, .int x, a4, a5, a6] st h = pR 60 d 17 [a0, a1, a2, .int x, a4, a5, a6] (.int x :: st) h := pR_L rfl rfl
theorem rX1_falls_17 : pR 60 d 17 ls (.int x :: st) h = pR 60 d 18 ls (.long x.toInt64 :: st) h := pR_L rfl rfl
theorem rX1_falls_18 : pR 60 d 18 ls st h = pR 60 d 19 ls (.long 0 :: st) h := pR_L rfl rfl
theorem rX1_falls_19 : pR 60 d 19 ls st h = pR 60 d 22 ls (.long 2 :: st) h := pR_X rfl rfl
theorem rX1_falls_22 : pR 60 (d + 1) 22 ls (b2 :: b1 :: b0 :: st) h = if pw st = true then pK 60 (d + 1) 22 3 ls st (pCa 6 d [b0, b1, b2] h) else none := r_callS rfl rfl rfl
theorem rX1_falls_25 : pR 60 d 25 ls (.int x :: st) h = if x = 0 then pR 60 d 40 ls st h else pR 60 d 28 ls st h := r_ieq rfl rfl
theorem rX1_falls_28 : pR 60 d 28 [.ref o, a1, a2, a3, a4, a5, a6] st h = pR 60 d 29 [.ref o, a1, a2, a3, a4, a5, a6] (.ref o :: st) h := pR_L rfl rfl
theorem rX1_falls_29 : pR 60 d 29 ls (.ref o :: st) h = if pis (pfl h 1 o 4) = true then pR 60 d 32 ls (pfl h 1 o 4 :: st) h else none := r_get rfl
theorem rX1_falls_32 : pR 60 d 32 [a0, .int x, a2, a3, a4, a5, a6] st h = pR 60 d 33 [a0, .int x, a2, a3, a4, a5, a6] (.int x :: st) h := pR_L rfl rfl
theorem rX1_falls_33 : pR 60 d 33 ls (.int x :: .ref o :: st) h = if pin x (plnQ h o) = true then pR 60 d 34 ls (va_rf (pctQ h o x.toNatClampNeg) :: st) h else none := pR_Lif rfl rfl
theorem rX1_falls_34 : pR 60 d 34 ls (.ref o :: st) h = if pis (pfl h 24 o 6) = true then pR 60 d 37 ls (pfl h 24 o 6 :: st) h else none := r_get rfl
theorem rX1_falls_37 : pR 60 d 37 ls (.int x :: st) h = if x = 0 then pR 60 d 40 ls st h else pR 60 d 42 ls st h := r_ine rfl rfl
theorem rX1_falls_40 : pR 60 d 40 ls st h = pR 60 d 41 ls (.int (-1) :: st) h := pR_L rfl rfl
theorem rX1_falls_41 : pR 60 d 41 ls [.int x] h = some (.inl (some (.int x)), h) := pR_E rfl rfl
theorem rX1_falls_42 : pR 60 d 42 [.ref o, a1, a2, a3, a4, a5, a6] st h = pR 60 d 43 [.ref o, a1, a2, a3, a4, a5, a6] (.ref o :: st) h := pR_L rfl rfl
theorem rX1_falls_43 : pR 60 d 43 ls (.ref o :: st) h = if pis (pfl h 1 o 4) = true then pR 60 d 46 ls (pfl h 1 o 4 :: st) h else none := r_get rfl
theorem rX1_falls_46 : pR 60 d 46 [a0, .int x, a2, a3, a4, a5, a6] st h = pR 60 d 47 [a0, .int x, a2, a3, a4, a5, a6] (.int x :: st) h := pR_L rfl rfl
theorem rX1_falls_47 : pR 60 d 47 ls (.int x :: .ref o :: st) h = if pin x (plnQ h o) = true then pR 60 d 48 ls (va_rf (pctQ h o x.toNatClampNeg) :: st) h else none := pR_Lif rfl rfl
theorem rX1_falls_48 : pR 60 d 48 [a0, a1, a2, a3, a4, a5, a6] (.ref o :: st) h = if p1 a4 = true then pR 60 d 50 [a0, a1, a2, a3, .ref o, a5, a6] st h else none := r_sto (n := 2) (k := 4) (v := .ref o) (ls := [a0, a1, a2, a3, a4, a5, a6]) rfl rfl rfl
theorem rX1_falls_48n : pR 60 d 48 [a0, a1, a2, a3, a4, a5, a6] (.null :: st) h = if p1 a4 = true then pR 60 d 50 [a0, a1, a2, a3, .null, a5, a6] st h else none := r_sto (n := 2) (k := 4) (v := .null) (ls := [a0, a1, a2, a3, a4, a5, a6]) rfl rfl rfl
theorem rX1_falls_50 : pR 60 d 50 [.ref o, a1, a2, a3, a4, a5, a6] st h = pR 60 d 51 [.ref o, a1, a2, a3, a4, a5, a6] (.ref o :: st) h := pR_L rfl rfl
theorem rX1_falls_51 : pR 60 d 51 [a0, a1, a2, a3, .ref o, a5, a6] st h = pR 60 d 53 [a0, a1, a2, a3, .ref o, a5, a6] (.ref o :: st) h := pR_L rfl rfl
theorem rX1_falls_51n : pR 60 d 51 [a0, a1, a2, a3, .null, a5, a6] st h = pR 60 d 53 [a0, a1, a2, a3, .null, a5, a6] (.null :: st) h := pR_L rfl rfl
theorem rX1_falls_53 : pR 60 (d + 1) 53 ls (b1 :: .ref o :: st) h = if (pok 1 (pcl h o) && pw st) = true then pK 60 (d + 1) 53 3 ls st (pCa 57 d [.ref o, b1] h) else none := r_callV rfl rfl rfl
theorem rX1_falls_56 : pR 60 d 56 ls st h = pR 60 d 57 ls (.int 1 :: st) h := pR_L rfl rfl
theorem rX1_falls_57 : pR 60 d 57 [a0, a1, a2, a3, a4, a5, a6] (.int x :: st) h = if p1 a5 = true then pR 60 d 59 [a0, a1, a2, a3, a4, .int x, a6] st h else none := r_sto (n := 2) (k := 5) (v := .int x) (ls := [a0, a1, a2, a3, a4, a5, a6]) rfl rfl rfl
theorem rX1_falls_59 : pR 60 d 59 [a0, a1, a2, a3, a4, .int x, a6] st h = pR 60 d 61 [a0, a1, a2, a3, a4, .int x, a6] (.int x :: st) h := pR_L rfl rfl
theorem rX1_falls_61 : pR 60 d 61 ls st h = pR 60 d 63 ls (.int 60 :: st) h := pR_L rfl rfl
theorem rX1_falls_63 : pR 60 d 63 ls (.int y :: .int x :: st) h = if y < x then pR 60 d 166 ls st h else pR 60 d 66 ls st h := r_cgt rfl rfl
theorem rX1_falls_66 : pR 60 d 66 [.ref o, a1, a2, a3, a4, a5, a6] st h = pR 60 d 67 [.ref o, a1, a2, a3, a4, a5, a6] (.ref o :: st) h := pR_L rfl rfl
theorem rX1_falls_67 : pR 60 d 67 [a0, a1, a2, a3, .ref o, a5, a6] st h = pR 60 d 69 [a0, a1, a2, a3, .ref o, a5, a6] (.ref o :: st) h := pR_L rfl rfl
theorem rX1_falls_67n : pR 60 d 67 [a0, a1, a2, a3, .null, a5, a6] st h = pR 60 d 69 [a0, a1, a2, a3, .null, a5, a6] (.null :: st) h := pR_L rfl rfl
theorem rX1_falls_69 : pR 60 d 69 [.ref o, a1, a2, a3, a4, a5, a6] st h = pR 60 d 70 [.ref o, a1, a2, a3, a4, a5, a6] (.ref o :: st) h := pR_L rfl rfl
theorem rX1_falls_70 : pR 60 d 70 ls (.ref o :: st) h = if pis (pfl h 1 o 18) = true then pR 60 d 73 ls (pfl h 1 o 18 :: st) h else none := r_get rfl
theorem rX1_falls_73 : pR 60 d 73 [a0, a1, .int x, a3, a4, a5, a6] st h = pR 60 d 74 [a0, a1, .int x, a3, a4, a5, a6] (.int x :: st) h := pR_L rfl rfl
theorem rX1_falls_74 : pR 60 d 74 ls (.int x :: .ref o :: st) h = if pin x (plnQ h o) = true then pR 60 d 75 ls (va_rf (pctQ h o x.toNatClampNeg) :: st) h else none := pR_Lif rfl rfl
theorem rX1_falls_75 : pR 60 d 75 [a0, a1, a2, a3, a4, .int x, a6] st h = pR 60 d 77 [a0, a1, a2, a3, a4, .int x, a6] (.int x :: st) h := pR_L rfl rfl
theorem rX1_falls_77 : pR 60 (d + 1) 77 ls (b3 :: b2 :: b1 :: .ref o :: st) h = if (pok 1 (pcl h o) && pw st) = true then pK 60 (d + 1) 77 3 ls st (pCa 58 d [.ref o, b1, b2, b3] h) else none := r_callV rfl rfl rfl
theorem rX1_falls_80 : pR 60 d 80 [a0, a1, a2, .int x, a4, a5, a6] st h = pR 60 d 81 [a0, a1, a2, .int x, a4, a5, a6] (.int x :: st) h := pR_L rfl rfl
theorem rX1_falls_81 : pR 60 d 81 ls (.int x :: st) h = if x = 0 then pR 60 d 84 ls st h else pR 60 d 99 ls st h := r_ine rfl rfl
theorem rX1_falls_84 : pR 60 d 84 [.ref o, a1, a2, a3, a4, a5, a6] st h = pR 60 d 85 [.ref o, a1, a2, a3, a4, a5, a6] (.ref o :: st) h := pR_L rfl rfl
theorem rX1_falls_85 : pR 60 d 85 ls (.ref o :: st) h = if pis (pfl h 1 o 22) = true then pR 60 d 88 ls (pfl h 1 o 22 :: st) h else none := r_get rfl
theorem rX1_falls_88 : pR 60 d 88 ls (.int x :: st) h = if x = 0 then pR 60 d 95 ls st h else pR 60 d 91 ls st h := r_ieq rfl rfl
theorem rX1_falls_91 : pR 60 d 91 ls st h = pR 60 d 92 ls (.int 1 :: st) h := pR_L rfl rfl
theorem rX1_falls_92 : pR 60 d 92 ls st h = pR 60 d 150 ls st h := pR_L rfl rfl
theorem rX1_falls_95 : pR 60 d 95 ls st h = pR 60 d 96 ls (.int 0 :: st) h := pR_L rfl rfl
theorem rX1_falls_96 : pR 60 d 96 ls st h = pR 60 d 150 ls st h := pR_L rfl rfl
theorem rX1_falls_99 : pR 60 d 99 [a0, a1, a2, .int x, a4, a5, a6] st h = pR 60 d 100 [a0, a1, a2, .int x, a4, a5, a6] (.int x :: st) h := pR_L rfl rfl
theorem rX1_falls_100 : pR 60 d 100 ls st h = pR 60 d 101 ls (.int 1 :: st) h := pR_L rfl rfl
theorem rX1_falls_101 : pR 60 d 101 ls (.int y :: .int x :: st) h = if x = y then pR 60 d 104 ls st h else pR 60 d 133 ls st h := r_cne rfl rfl
theorem rX1_falls_104 : pR 60 d 104 [a0, a1, a2, a3, .ref o, a5, a6] st h = pR 60 d 106 [a0, a1, a2, a3, .ref o, a5, a6] (.ref o :: st) h := pR_L rfl rfl
theorem rX1_falls_104n : pR 60 d 104 [a0, a1, a2, a3, .null, a5, a6] st h = pR 60 d 106 [a0, a1, a2, a3, .null, a5, a6] (.null :: st) h := pR_L rfl rfl
theorem rX1_falls_106 : pR 60 d 106 [a0, a1, a2, a3, .ref o, a5, a6] st h = pR 60 d 108 [a0, a1, a2, a3, .ref o, a5, a6] (.ref o :: st) h := pR_L rfl rfl
theorem rX1_falls_106n : pR 60 d 106 [a0, a1, a2, a3, .null, a5, a6] st h = pR 60 d 108 [a0, a1, a2, a3, .null, a5, a6] (.null :: st) h := pR_L rfl rfl
theorem rX1_falls_108 : pR 60 (d + 1) 108 ls (.ref o :: st) h = if (pok 24 (pcl h o) && pw st) = true then pK 60 (d + 1) 108 3 ls st (pCa 239 d [.ref o] h) else none := r_callV rfl rfl rfl
theorem rX1_falls_111 : pR 60 d 111 [.ref o, a1, a2, a3, a4, a5, a6] st h = pR 60 d 112 [.ref o, a1, a2, a3, a4, a5, a6] (.ref o :: st) h := pR_L rfl rfl
theorem rX1_falls_112 : pR 60 d 112 ls (.ref o :: st) h = if pis (pfl h 1 o 22) = true then pR 60 d 115 ls (pfl h 1 o 22 :: st) h else none := r_get rfl
theorem rX1_falls_115 : pR 60 d 115 ls st h = pR 60 d 116 ls (.int (-1) :: st) h := pR_L rfl rfl
theorem rX1_falls_116 : pR 60 d 116 ls (.int y :: .int x :: st) h = pR 60 d 117 ls (.int (x ^^^ y) :: st) h := pR_L rfl rfl
theorem rX1_falls_117 : pR 60 d 117 ls (.int y :: .int x :: st) h = pR 60 d 118 ls (.int (x &&& y) :: st) h := pR_L rfl rfl
theorem rX1_falls_118 : pR 60 (d + 1) 118 ls (b1 :: .ref o :: st) h = if (pok 24 (pcl h o) && pw st) = true then pK 60 (d + 1) 118 3 ls st (pCa 240 d [.ref o, b1] h) else none := r_callV rfl rfl rfl
theorem rX1_falls_121 : pR 60 d 121 ls st h = pR 60 d 122 ls (.int 1 :: st) h := pR_L rfl rfl
theorem rX1_falls_122 : pR 60 d 122 ls (.int y :: .int x :: st) h = if y < x then pR 60 d 125 ls st h else pR 60 d 129 ls st h := r_cle rfl rfl
theorem rX1_falls_125 : pR 60 d 125 ls st h = pR 60 d 126 ls (.int 1 :: st) h := pR_L rfl rfl
theorem rX1_falls_126 : pR 60 d 126 ls st h = pR 60 d 150 ls st h := pR_L rfl rfl
theorem rX1_falls_129 : pR 60 d 129 ls st h = pR 60 d 130 ls (.int 0 :: st) h := pR_L rfl rfl
theorem rX1_falls_130 : pR 60 d 130 ls st h = pR 60 d 150 ls st h := pR_L rfl rfl
theorem rX1_falls_133 : pR 60 d 133 [.ref o, a1, a2, a3, a4, a5, a6] st h = pR 60 d 134 [.ref o, a1, a2, a3, a4, a5, a6] (.ref o :: st) h := pR_L rfl rfl
theorem rX1_falls_134 : pR 60 d 134 ls (.ref o :: st) h = if pis (pfl h 1 o 22) = true then pR 60 d 137 ls (pfl h 1 o 22 :: st) h else none := r_get rfl
theorem rX1_falls_137 : pR 60 d 137 [a0, a1, a2, a3, .ref o, a5, a6] st h = pR 60 d 139 [a0, a1, a2, a3, .ref o, a5, a6] (.ref o :: st) h := pR_L rfl rfl
theorem rX1_falls_137n : pR 60 d 137 [a0, a1, a2, a3, .null, a5, a6] st h = pR 60 d 139 [a0, a1, a2, a3, .null, a5, a6] (.null :: st) h := pR_L rfl rfl
theorem rX1_falls_139 : pR 60 (d + 1) 139 ls (.ref o :: st) h = if (pok 24 (pcl h o) && pw st) = true then pK 60 (d + 1) 139 3 ls st (pCa 239 d [.ref o] h) else none := r_callV rfl rfl rfl
theorem rX1_falls_142 : pR 60 d 142 ls (.int y :: .int x :: st) h = if x = y then pR 60 d 145 ls st h else pR 60 d 149 ls st h := r_cne rfl rfl
theorem rX1_falls_145 : pR 60 d 145 ls st h = pR 60 d 146 ls (.int 1 :: st) h := pR_L rfl rfl
theorem rX1_falls_146 : pR 60 d 146 ls st h = pR 60 d 150 ls st h := pR_L rfl rfl
theorem rX1_falls_149 : pR 60 d 149 ls st h = pR 60 d 150 ls (.int 0 :: st) h := pR_L rfl rfl
theorem rX1_falls_150 : pR 60 d 150 [a0, a1, a2, a3, a4, a5, a6] (.int x :: st) h = if p1 a6 = true then pR 60 d 152 [a0, a1, a2, a3, a4, a5, .int x] st h else none := r_sto (n := 2) (k := 6) (v := .int x) (ls := [a0, a1, a2, a3, a4, a5, a6]) rfl rfl rfl
theorem rX1_falls_152 : pR 60 d 152 [a0, a1, a2, a3, a4, a5, .int x] st h = pR 60 d 154 [a0, a1, a2, a3, a4, a5, .int x] (.int x :: st) h := pR_L rfl rfl
theorem rX1_falls_154 : pR 60 d 154 ls (.int x :: st) h = if x = 0 then pR 60 d 160 ls st h else pR 60 d 157 ls st h := r_ieq rfl rfl
theorem rX1_falls_157 : pR 60 d 157 [a0, a1, a2, a3, a4, .int x, a6] st h = pR 60 d 159 [a0, a1, a2, a3, a4, .int x, a6] (.int x :: st) h := pR_L rfl rfl
theorem rX1_falls_159 : pR 60 d 159 ls [.int x] h = some (.inl (some (.int x)), h) := pR_E rfl rfl
theorem rX1_falls_160 : pR 60 d 160 [a0, a1, a2, a3, a4, .int x, a6] st h = pR 60 d 163 [a0, a1, a2, a3, a4, .int (x + 1), a6] st h := pR_L rfl rfl
theorem rX1_falls_163 : pR 60 d 163 ls st h = pR 60 d 59 ls st h := pR_L rfl rfl
theorem rX1_falls_166 : pR 60 d 166 ls st h = pR 60 d 167 ls (.int (-1) :: st) h := pR_L rfl rfl
theorem rX1_falls_167 : pR 60 d 167 ls [.int x] h = some (.inl (some (.int x)), h) := pR_E rfl rfl
-- 61 BalloonStall count (I)I
theorem eX1_count : pCa 61 d [.ref o, .int x0] h = pR 61 d 0 [.ref o, .int x0] [] h := rfl
theorem rX1_count_0 : pR 61 d 0 [a0, .int x] st h = pR 61 d 1 [a0, .int x] (.int x :: st) h := pR_L rfl rfl
theorem rX1_count_1k0 : pR 61 d 1 ls (.int 0 :: st) h = pR 61 d 36 ls st h := pR_L rfl rfl
theorem rX1_count_1k1 : pR 61 d 1 ls (.int 1 :: st) h = pR 61 d 41 ls st h := pR_L rfl rfl
theorem rX1_count_1k2 : pR 61 d 1 ls (.int 2 :: st) h = pR 61 d 46 ls st h := pR_L rfl rfl
theorem rX1_count_1k3 : pR 61 d 1 ls (.int 3 :: st) h = pR 61 d 51 ls st h := pR_L rfl rfl
theorem rX1_count_1k4 : pR 61 d 1 ls (.int 4 :: st) h = pR 61 d 56 ls st h := pR_L rfl rfl
theorem rX1_count_1d (hx : x.toInt < 0 ∨ 4 < x.toInt) : pR 61 d 1 ls (.int x :: st) h = pR 61 d 61 ls st h := r_sw rfl rfl hx
theorem rX1_count_36 : pR 61 d 36 [.ref o, a1] st h = pR 61 d 37 [.ref o, a1] (.ref o :: st) h := pR_L rfl rfl
theorem rX1_count_37 : pR 61 d 37 ls (.ref o :: st) h = if pis (pfl h 1 o 1) = true then pR 61 d 40 ls (pfl h 1 o 1 :: st) h else none := r_get rfl
theorem rX1_count_40 : pR 61 d 40 ls [.int x] h = some (.inl (some (.int x)), h) := pR_E rfl rfl
theorem rX1_count_41 : pR 61 d 41 [.ref o, a1] st h = pR 61 d 42 [.ref o, a1] (.ref o :: st) h := pR_L rfl rfl
theorem rX1_count_42 : pR 61 d 42 ls (.ref o :: st) h = if pis (pfl h 1 o 5) = true then pR 61 d 45 ls (pfl h 1 o 5 :: st) h else none := r_get rfl
theorem rX1_count_45 : pR 61 d 45 ls [.int x] h = some (.inl (some (.int x)), h) := pR_E rfl rfl
theorem rX1_count_46 : pR 61 d 46 [.ref o, a1] st h = pR 61 d 47 [.ref o, a1] (.ref o :: st) h := pR_L rfl rfl
theorem rX1_count_47 : pR 61 d 47 ls (.ref o :: st) h = if pis (pfl h 1 o 12) = true then pR 61 d 50 ls (pfl h 1 o 12 :: st) h else none := r_get rfl
theorem rX1_count_50 : pR 61 d 50 ls [.int x] h = some (.inl (some (.int x)), h) := pR_E rfl rfl
theorem rX1_count_51 : pR 61 d 51 [.ref o, a1] st h = pR 61 d 52 [.ref o, a1] (.ref o :: st) h := pR_L rfl rfl
theorem rX1_count_52 : pR 61 d 52 ls (.ref o :: st) h = if pis (pfl h 1 o 3) = true then pR 61 d 55 ls (pfl h 1 o 3 :: st) h else none := r_get rfl
theorem rX1_count_55 : pR 61 d 55 ls [.int x] h = some (.inl (some (.int x)), h) := pR_E rfl rfl
theorem rX1_count_56 : pR 61 d 56 [.ref o, a1] st h = pR 61 d 57 [.ref o, a1] (.ref o :: st) h := pR_L rfl rfl
theorem rX1_count_57 : pR 61 d 57 ls (.ref o :: st) h = if pis (pfl h 1 o 20) = true then pR 61 d 60 ls (pfl h 1 o 20 :: st) h else none := r_get rfl
theorem rX1_count_60 : pR 61 d 60 ls [.int x] h = some (.inl (some (.int x)), h) := pR_E rfl rfl
theorem rX1_count_61 : pR 61 d 61 ls st h = pR 61 d 62 ls (.int (-1) :: st) h := pR_L rfl rfl
theorem rX1_count_62 : pR 61 d 62 ls [.int x] h = some (.inl (some (.int x)), h) := pR_E rfl rfl
-- 62 BalloonStall bubble (III)I
theorem eX1_bubble : pCa 62 d [.ref o, .int x0, .int x1, .int x2] h = pR 62 d 0 [.ref o, .int x0, .int x1, .int x2, pU] [] h := rfl
theorem rX1_bubble_0 : pR 62 d 0 [.ref o, a1, a2, a3, a4] st h = pR 62 d 1 [.ref o, a1, a2, a3, a4] (.ref o :: st) h := pR_L rfl rfl
theorem rX1_bubble_1 : pR 62 d 1 [a0, .int x, a2, a3, a4] st h = pR 62 d 2 [a0, .int x, a2, a3, a4] (.int x :: st) h := pR_L rfl rfl
theorem rX1_bubble_2 : pR 62 d 2 [a0, a1, .int x, a3, a4] st h = pR 62 d 3 [a0, a1, .int x, a3, a4] (.int x :: st) h := pR_L rfl rfl
theorem rX1_bubble_3 : pR 62 (d + 1) 3 ls (b2 :: b1 :: .ref o :: st) h = if (pok 1 (pcl h o) && pw st) = true then pK 62 (d + 1) 3 3 ls st (pCa 23 d [.ref o, b1, b2] h) else none := r_callV rfl rfl rfl
theorem rX1_bubble_6 : pR 62 d 6 ls (.int x :: st) h = if x = 0 then pR 62 d 21 ls st h else pR 62 d 9 ls st h := r_ieq rfl rfl
theorem rX1_bubble_9 : pR 62 d 9 [a0, a1, a2, .int x, a4] st h = pR 62 d 10 [a0, a1, a2, .int x, a4] (.int x :: st) h := pR_L rfl rfl
theorem rX1_bubble_10 : pR 62 d 10 ls (.int x :: st) h = pR 62 d 11 ls (.long x.toInt64 :: st) h := pR_L rfl rfl
theorem rX1_bubble_11 : pR 62 d 11 ls st h = pR 62 d 12 ls (.long 0 :: st) h := pR_L rfl rfl
theorem rX1_bubble_12 : pR 62 d 12 ls st h = pR 62 d 15 ls (.long 4 :: st) h := pR_X rfl rfl
theorem rX1_bubble_15 : pR 62 (d + 1) 15 ls (b2 :: b1 :: b0 :: st) h = if pw st = true then pK 62 (d + 1) 15 3 ls st (pCa 6 d [b0, b1, b2] h) else none := r_callS rfl rfl rfl
theorem rX1_bubble_18 : pR 62 d 18 ls (.int x :: st) h = if x = 0 then pR 62 d 21 ls st h else pR 62 d 29 ls st h := r_ine rfl rfl
theorem rX1_bubble_21 : pR 62 (d + 11) 21 ls st h = if pw st = true then some (.inr h.2.1, pnw h (.inr (26, [])) 6) else none := r_ns rfl rfl
theorem rX1_bubble_29 : pR 62 d 29 [.ref o, a1, a2, a3, a4] st h = pR 62 d 30 [.ref o, a1, a2, a3, a4] (.ref o :: st) h := pR_L rfl rfl
theorem rX1_bubble_30 : pR 62 d 30 ls (.ref o :: st) h = if pis (pfl h 1 o 4) = true then pR 62 d 33 ls (pfl h 1 o 4 :: st) h else none := r_get rfl
theorem rX1_bubble_33 : pR 62 d 33 [a0, .int x, a2, a3, a4] st h = pR 62 d 34 [a0, .int x, a2, a3, a4] (.int x :: st) h := pR_L rfl rfl
theorem rX1_bubble_34 : pR 62 d 34 ls (.int x :: .ref o :: st) h = if pin x (plnQ h o) = true then pR 62 d 35 ls (va_rf (pctQ h o x.toNatClampNeg) :: st) h else none := pR_Lif rfl rfl
theorem rX1_bubble_35 : pR 62 d 35 [a0, a1, a2, a3, a4] (.ref o :: st) h = if p1 a4 = true then pR 62 d 37 [a0, a1, a2, a3, .ref o] st h else none := r_sto (n := 2) (k := 4) (v := .ref o) (ls := [a0, a1, a2, a3, a4]) rfl rfl rfl
theorem rX1_bubble_35n : pR 62 d 35 [a0, a1, a2, a3, a4] (.null :: st) h = if p1 a4 = true then pR 62 d 37 [a0, a1, a2, a3, .null] st h else none := r_sto (n := 2) (k := 4) (v := .null) (ls := [a0, a1, a2, a3, a4]) rfl rfl rfl
theorem rX1_bubble_37 : pR 62 d 37 [a0, a1, a2, .int x, a4] st h = pR 62 d 38 [a0, a1, a2, .int x, a4] (.int x :: st) h := pR_L rfl rfl
theorem rX1_bubble_38k0 : pR 62 d 38 ls (.int 0 :: st) h = pR 62 d 68 ls st h := pR_L rfl rfl
theorem rX1_bubble_38k1 : pR 62 d 38 ls (.int 1 :: st) h = pR 62 d 76 ls st h := pR_L rfl rfl
theorem rX1_bubble_38k2 : pR 62 d 38 ls (.int 2 :: st) h = pR 62 d 84 ls st h := pR_L rfl rfl
theorem rX1_bubble_38k3 : pR 62 d 38 ls (.int 3 :: st) h = pR 62 d 92 ls st h := pR_L rfl rfl
theorem rX1_bubble_38d (hx : x.toInt < 0 ∨ 3 < x.toInt) : pR 62 d 38 ls (.int x :: st) h = pR 62 d 100 ls st h := r_sw rfl rfl hx
theorem rX1_bubble_68 : pR 62 d 68 [a0, a1, a2, a3, .ref o] st h = pR 62 d 70 [a0, a1, a2, a3, .ref o] (.ref o :: st) h := pR_L rfl rfl
theorem rX1_bubble_68n : pR 62 d 68 [a0, a1, a2, a3, .null] st h = pR 62 d 70 [a0, a1, a2, a3, .null] (.null :: st) h := pR_L rfl rfl
theorem rX1_bubble_70 : pR 62 d 70 ls (.ref o :: st) h = if pis (pfl h 24 o 2) = true then pR 62 d 73 ls (pfl h 24 o 2 :: st) h else none := r_get rfl
theorem rX1_bubble_73 : pR 62 d 73 [a0, a1, .int x, a3, a4] st h = pR 62 d 74 [a0, a1, .int x, a3, a4] (.int x :: st) h := pR_L rfl rfl
theorem rX1_bubble_74 : pR 62 d 74 ls (.int x :: .ref o :: st) h = if (pin x (pln h 0 o) || pin x (pln h 9 o)) = true then pR 62 d 75 ls (.int (pct h o x.toNatClampNeg) :: st) h else none := pR_Lif rfl rfl
theorem rX1_bubble_75 : pR 62 d 75 ls [.int x] h = some (.inl (some (.int x)), h) := pR_E rfl rfl
theorem rX1_bubble_76 : pR 62 d 76 [a0, a1, a2, a3, .ref o] st h = pR 62 d 78 [a0, a1, a2, a3, .ref o] (.ref o :: st) h := pR_L rfl rfl
theorem rX1_bubble_76n : pR 62 d 76 [a0, a1, a2, a3, .null] st h = pR 62 d 78 [a0, a1, a2, a3, .null] (.null :: st) h := pR_L rfl rfl
theorem rX1_bubble_78 : pR 62 d 78 ls (.ref o :: st) h = if pis (pfl h 24 o 0) = true then pR 62 d 81 ls (pfl h 24 o 0 :: st) h else none := r_get rfl
theorem rX1_bubble_81 : pR 62 d 81 [a0, a1, .int x, a3, a4] st h = pR 62 d 82 [a0, a1, .int x, a3, a4] (.int x :: st) h := pR_L rfl rfl
theorem rX1_bubble_82 : pR 62 d 82 ls (.int x :: .ref o :: st) h = if (pin x (pln h 0 o) || pin x (pln h 9 o)) = true then pR 62 d 83 ls (.int (pct h o x.toNatClampNeg) :: st) h else none := pR_Lif rfl rfl
theorem rX1_bubble_83 : pR 62 d 83 ls [.int x] h = some (.inl (some (.int x)), h) := pR_E rfl rfl
theorem rX1_bubble_84 : pR 62 d 84 [a0, a1, a2, a3, .ref o] st h = pR 62 d 86 [a0, a1, a2, a3, .ref o] (.ref o :: st) h := pR_L rfl rfl
theorem rX1_bubble_84n : pR 62 d 84 [a0, a1, a2, a3, .null] st h = pR 62 d 86 [a0, a1, a2, a3, .null] (.null :: st) h := pR_L rfl rfl
theorem rX1_bubble_86 : pR 62 d 86 ls (.ref o :: st) h = if pis (pfl h 24 o 1) = true then pR 62 d 89 ls (pfl h 24 o 1 :: st) h else none := r_get rfl
theorem rX1_bubble_89 : pR 62 d 89 [a0, a1, .int x, a3, a4] st h = pR 62 d 90 [a0, a1, .int x, a3, a4] (.int x :: st) h := pR_L rfl rfl
theorem rX1_bubble_90 : pR 62 d 90 ls (.int x :: .ref o :: st) h = if (pin x (pln h 0 o) || pin x (pln h 9 o)) = true then pR 62 d 91 ls (.int (pct h o x.toNatClampNeg) :: st) h else none := pR_Lif rfl rfl
theorem rX1_bubble_91 : pR 62 d 91 ls [.int x] h = some (.inl (some (.int x)), h) := pR_E rfl rfl
theorem rX1_bubble_92 : pR 62 d 92 [a0, a1, a2, a3, .ref o] st h = pR 62 d 94 [a0, a1, a2, a3, .ref o] (.ref o :: st) h := pR_L rfl rfl
theorem rX1_bubble_92n : pR 62 d 92 [a0, a1, a2, a3, .null] st h = pR 62 d 94 [a0, a1, a2, a3, .null] (.null :: st) h := pR_L rfl rfl
theorem rX1_bubble_94 : pR 62 d 94 ls (.ref o :: st) h = if pis (pfl h 24 o 3) = true then pR 62 d 97 ls (pfl h 24 o 3 :: st) h else none := r_get rfl
theorem rX1_bubble_97 : pR 62 d 97 [a0, a1, .int x, a3, a4] st h = pR 62 d 98 [a0, a1, .int x, a3, a4] (.int x :: st) h := pR_L rfl rfl
theorem rX1_bubble_98 : pR 62 d 98 ls (.int x :: .ref o :: st) h = if (pin x (pln h 0 o) || pin x (pln h 9 o)) = true then pR 62 d 99 ls (.int (pct h o x.toNatClampNeg) :: st) h else none := pR_Lif rfl rfl
theorem rX1_bubble_99 : pR 62 d 99 ls [.int x] h = some (.inl (some (.int x)), h) := pR_E rfl rfl
theorem rX1_bubble_100 : pR 62 d 100 [a0, a1, a2, a3, .ref o] st h = pR 62 d 102 [a0, a1, a2, a3, .ref o] (.ref o :: st) h := pR_L rfl rfl
theorem rX1_bubble_100n : pR 62 d 100 [a0, a1, a2, a3, .null] st h = pR 62 d 102 [a0, a1, a2, a3, .null] (.null :: st) h := pR_L rfl rfl
theorem rX1_bubble_102 : pR 62 d 102 ls (.ref o :: st) h = if pis (pfl h 24 o 4) = true then pR 62 d 105 ls (pfl h 24 o 4 :: st) h else none := r_get rfl
theorem rX1_bubble_105 : pR 62 d 105 [a0, a1, a2, a3, .ref o] st h = pR 62 d 107 [a0, a1, a2, a3, .ref o] (.ref o :: st) h := pR_L rfl rfl
theorem rX1_bubble_105n : pR 62 d 105 [a0, a1, a2, a3, .null] st h = pR 62 d 107 [a0, a1, a2, a3, .null] (.null :: st) h := pR_L rfl rfl
theorem rX1_bubble_107 : pR 62 d 107 ls (.ref o :: st) h = if pis (pfl h 24 o 3) = true then pR 62 d 110 ls (pfl h 24 o 3 :: st) h else none := r_get rfl
theorem rX1_bubble_110 : pR 62 d 110 [a0, a1, .int x, a3, a4] st h = pR 62 d 111 [a0, a1, .int x, a3, a4] (.int x :: st) h := pR_L rfl rfl
theorem rX1_bubble_111 : pR 62 d 111 ls (.int x :: .ref o :: st) h = if (pin x (pln h 0 o) || pin x (pln h 9 o)) = true then pR 62 d 112 ls (.int (pct h o x.toNatClampNeg) :: st) h else none := pR_Lif rfl rfl
theorem rX1_bubble_112 : pR 62 d 112 ls (.int x :: .ref o :: st) h = if (pin x (pln h 0 o) || pin x (pln h 9 o)) = true then pR 62 d 113 ls (.int (pct h o x.toNatClampNeg) :: st) h else none := pR_Lif rfl rfl
theorem rX1_bubble_113 : pR 62 d 113 ls [.int x] h = some (.inl (some (.int x)), h) := pR_E rfl rfl
-- 63 BalloonStall guest (II)I
theorem eX1_guest : pCa 63 d [.ref o, .int x0, .int x1] h = pR 63 d 0 [.ref o, .int x0, .int x1, pU] [] h := rfl
theorem rX1_guest_0 : pR 63 d 0 [a0, .int x, a2, a3] st h = pR 63 d 1 [a0, .int x, a2, a3] (.int x :: st) h := pR_L rfl rfl
theorem rX1_guest_1 : pR 63 d 1 ls (.int x :: st) h = pR 63 d 2 ls (.long x.toInt64 :: st) h := pR_L rfl rfl
theorem rX1_guest_2 : pR 63 d 2 ls st h = pR 63 d 3 ls (.long 0 :: st) h := pR_L rfl rfl
theorem rX1_guest_3 : pR 63 d 3 [.ref o, a1, a2, a3] st h = pR 63 d 4 [.ref o, a1, a2, a3] (.ref o :: st) h := pR_L rfl rfl
theorem rX1_guest_4 : pR 63 d 4 ls (.ref o :: st) h = if pis (pfl h 1 o 13) = true then pR 63 d 7 ls (pfl h 1 o 13 :: st) h else none := r_get rfl
theorem rX1_guest_7 : pR 63 d 7 ls st h = pR 63 d 8 ls (.int 1 :: st) h := pR_L rfl rfl
theorem rX1_guest_8 : pR 63 d 8 ls (.int y :: .int x :: st) h = pR 63 d 9 ls (.int (x - y) :: st) h := pR_L rfl rfl
theorem rX1_guest_9 : pR 63 d 9 ls (.int x :: st) h = pR 63 d 10 ls (.long x.toInt64 :: st) h := pR_L rfl rfl
theorem rX1_guest_10 : pR 63 (d + 1) 10 ls (b2 :: b1 :: b0 :: st) h = if pw st = true then pK 63 (d + 1) 10 3 ls st (pCa 6 d [b0, b1, b2] h) else none := r_callS rfl rfl rfl
theorem rX1_guest_13 : pR 63 d 13 ls (.int x :: st) h = if x = 0 then pR 63 d 28 ls st h else pR 63 d 16 ls st h := r_ieq rfl rfl
theorem rX1_guest_16 : pR 63 d 16 [a0, a1, .int x, a3] st h = pR 63 d 17 [a0, a1, .int x, a3] (.int x :: st) h := pR_L rfl rfl
theorem rX1_guest_17 : pR 63 d 17 ls (.int x :: st) h = pR 63 d 18 ls (.long x.toInt64 :: st) h := pR_L rfl rfl
theorem rX1_guest_18 : pR 63 d 18 ls st h = pR 63 d 19 ls (.long 0 :: st) h := pR_L rfl rfl
theorem rX1_guest_19 : pR 63 d 19 ls st h = pR 63 d 22 ls (.long 3 :: st) h := pR_X rfl rfl
theorem rX1_guest_22 : pR 63 (d + 1) 22 ls (b2 :: b1 :: b0 :: st) h = if pw st = true then pK 63 (d + 1) 22 3 ls st (pCa 6 d [b0, b1, b2] h) else none := r_callS rfl rfl rfl
theorem rX1_guest_25 : pR 63 d 25 ls (.int x :: st) h = if x = 0 then pR 63 d 28 ls st h else pR 63 d 36 ls st h := r_ine rfl rfl
theorem rX1_guest_28 : pR 63 (d + 11) 28 ls st h = if pw st = true then some (.inr h.2.1, pnw h (.inr (26, [])) 6) else none := r_ns rfl rfl
theorem rX1_guest_36 : pR 63 d 36 [.ref o, a1, a2, a3] st h = pR 63 d 37 [.ref o, a1, a2, a3] (.ref o :: st) h := pR_L rfl rfl
theorem rX1_guest_37 : pR 63 d 37 ls (.ref o :: st) h = if pis (pfl h 1 o 11) = true then pR 63 d 40 ls (pfl h 1 o 11 :: st) h else none := r_get rfl
theorem rX1_guest_40 : pR 63 d 40 [a0, .int x, a2, a3] st h = pR 63 d 41 [a0, .int x, a2, a3] (.int x :: st) h := pR_L rfl rfl
theorem rX1_guest_41 : pR 63 d 41 ls (.int x :: .ref o :: st) h = if pin x (plnQ h o) = true then pR 63 d 42 ls (va_rf (pctQ h o x.toNatClampNeg) :: st) h else none := pR_Lif rfl rfl
theorem rX1_guest_42 : pR 63 d 42 [a0, a1, a2, a3] (.ref o :: st) h = if p1 a3 = true then pR 63 d 43 [a0, a1, a2, .ref o] st h else none := r_sto (n := 1) (k := 3) (v := .ref o) (ls := [a0, a1, a2, a3]) rfl rfl rfl
theorem rX1_guest_42n : pR 63 d 42 [a0, a1, a2, a3] (.null :: st) h = if p1 a3 = true then pR 63 d 43 [a0, a1, a2, .null] st h else none := r_sto (n := 1) (k := 3) (v := .null) (ls := [a0, a1, a2, a3]) rfl rfl rfl
theorem rX1_guest_43 : pR 63 d 43 [a0, a1, .int x, a3] st h = pR 63 d 44 [a0, a1, .int x, a3] (.int x :: st) h := pR_L rfl rfl
theorem rX1_guest_44 : pR 63 d 44 ls (.int x :: st) h = if x = 0 then pR 63 d 47 ls st h else pR 63 d 54 ls st h := r_ine rfl rfl
theorem rX1_guest_47 : pR 63 d 47 [a0, a1, a2, .ref o] st h = pR 63 d 48 [a0, a1, a2, .ref o] (.ref o :: st) h := pR_L rfl rfl
theorem rX1_guest_47n : pR 63 d 47 [a0, a1, a2, .null] st h = pR 63 d 48 [a0, a1, a2, .null] (.null :: st) h := pR_L rfl rfl
theorem rX1_guest_48 : pR 63 d 48 ls (.ref o :: st) h = if pis (pfl h 25 o 3) = true then pR 63 d 51 ls (pfl h 25 o 3 :: st) h else none := r_get rfl
theorem rX1_guest_51 : pR 63 d 51 ls st h = pR 63 d 82 ls st h := pR_L rfl rfl
theorem rX1_guest_54 : pR 63 d 54 [a0, a1, .int x, a3] st h = pR 63 d 55 [a0, a1, .int x, a3] (.int x :: st) h := pR_L rfl rfl
theorem rX1_guest_55 : pR 63 d 55 ls st h = pR 63 d 56 ls (.int 1 :: st) h := pR_L rfl rfl
theorem rX1_guest_56 : pR 63 d 56 ls (.int y :: .int x :: st) h = if x = y then pR 63 d 59 ls st h else pR 63 d 66 ls st h := r_cne rfl rfl
theorem rX1_guest_59 : pR 63 d 59 [a0, a1, a2, .ref o] st h = pR 63 d 60 [a0, a1, a2, .ref o] (.ref o :: st) h := pR_L rfl rfl
theorem rX1_guest_59n : pR 63 d 59 [a0, a1, a2, .null] st h = pR 63 d 60 [a0, a1, a2, .null] (.null :: st) h := pR_L rfl rfl
theorem rX1_guest_60 : pR 63 d 60 ls (.ref o :: st) h = if pis (pfl h 25 o 4) = true then pR 63 d 63 ls (pfl h 25 o 4 :: st) h else none := r_get rfl
theorem rX1_guest_63 : pR 63 d 63 ls st h = pR 63 d 82 ls st h := pR_L rfl rfl
theorem rX1_guest_66 : pR 63 d 66 [a0, a1, .int x, a3] st h = pR 63 d 67 [a0, a1, .int x, a3] (.int x :: st) h := pR_L rfl rfl
theorem rX1_guest_67 : pR 63 d 67 ls st h = pR 63 d 68 ls (.int 2 :: st) h := pR_L rfl rfl
theorem rX1_guest_68 : pR 63 d 68 ls (.int y :: .int x :: st) h = if x = y then pR 63 d 71 ls st h else pR 63 d 78 ls st h := r_cne rfl rfl
theorem rX1_guest_71 : pR 63 d 71 [a0, a1, a2, .ref o] st h = pR 63 d 72 [a0, a1, a2, .ref o] (.ref o :: st) h := pR_L rfl rfl
theorem rX1_guest_71n : pR 63 d 71 [a0, a1, a2, .null] st h = pR 63 d 72 [a0, a1, a2, .null] (.null :: st) h := pR_L rfl rfl
theorem rX1_guest_72 : pR 63 d 72 ls (.ref o :: st) h = if pis (pfl h 25 o 5) = true then pR 63 d 75 ls (pfl h 25 o 5 :: st) h else none := r_get rfl
theorem rX1_guest_75 : pR 63 d 75 ls st h = pR 63 d 82 ls st h := pR_L rfl rfl
theorem rX1_guest_78 : pR 63 d 78 [a0, a1, a2, .ref o] st h = pR 63 d 79 [a0, a1, a2, .ref o] (.ref o :: st) h := pR_L rfl rfl
theorem rX1_guest_78n : pR 63 d 78 [a0, a1, a2, .null] st h = pR 63 d 79 [a0, a1, a2, .null] (.null :: st) h := pR_L rfl rfl
theorem rX1_guest_79 : pR 63 d 79 ls (.ref o :: st) h = if pis (pfl h 25 o 6) = true then pR 63 d 82 ls (pfl h 25 o 6 :: st) h else none := r_get rfl
theorem rX1_guest_82 : pR 63 d 82 ls [.int x] h = some (.inl (some (.int x)), h) := pR_E rfl rfl
-- 64 BalloonStall worth (IIIIII)I
theorem eX1_worth : pCa 64 d [.ref o, .int x0, .int x1, .int x2, .int x3, .int x4, .int x5] h = pR 64 d 0 [.ref o, .int x0, .int x1, .int x2, .int x3, .int x4, .int x5] [] h := rfl
theorem rX1_worth_0 : pR 64 d 0 [.ref o, a1, a2, a3, a4, a5, a6] st h = pR 64 d 1 [.ref o, a1, a2, a3, a4, a5, a6] (.ref o :: st) h := pR_L rfl rfl
theorem rX1_worth_1 : pR 64 d 1 [a0, .int x, a2, a3, a4, a5, a6] st h = pR 64 d 2 [a0, .int x, a2, a3, a4, a5, a6] (.int x :: st) h := pR_L rfl rfl
theorem rX1_worth_2 : pR 64 (d + 1) 2 ls (b1 :: .ref o :: st) h = if (pok 1 (pcl h o) && pw st) = true then pK 64 (d + 1) 2 3 ls st (pCa 56 d [.ref o, b1] h) else none := r_callV rfl rfl rfl
theorem rX1_worth_5 : pR 64 d 5 ls (.int x :: st) h = if x = 0 then pR 64 d 8 ls st h else pR 64 d 16 ls st h := r_ine rfl rfl
theorem rX1_worth_8 : pR 64 (d + 11) 8 ls st h = if pw st = true then some (.inr h.2.1, pnw h (.inr (26, [])) 6) else none := r_ns rfl rfl
theorem rX1_worth_16 : pR 64 d 16 [.ref o, a1, a2, a3, a4, a5, a6] st h = pR 64 d 17 [.ref o, a1, a2, a3, a4, a5, a6] (.ref o :: st) h := pR_L rfl rfl
theorem rX1_worth_17 : pR 64 d 17 [.ref o, a1, a2, a3, a4, a5, a6] st h = pR 64 d 18 [.ref o, a1, a2, a3, a4, a5, a6] (.ref o :: st) h := pR_L rfl rfl
theorem rX1_worth_18 : pR 64 d 18 ls (.ref o :: st) h = if pis (pfl h 1 o 18) = true then pR 64 d 21 ls (pfl h 1 o 18 :: st) h else none := r_get rfl
theorem rX1_worth_21 : pR 64 d 21 [a0, .int x, a2, a3, a4, a5, a6] st h = pR 64 d 22 [a0, .int x, a2, a3, a4, a5, a6] (.int x :: st) h := pR_L rfl rfl
theorem rX1_worth_22 : pR 64 d 22 ls (.int x :: .ref o :: st) h = if pin x (plnQ h o) = true then pR 64 d 23 ls (va_rf (pctQ h o x.toNatClampNeg) :: st) h else none := pR_Lif rfl rfl
theorem rX1_worth_23 : pR 64 d 23 [a0, a1, .int x, a3, a4, a5, a6] st h = pR 64 d 24 [a0, a1, .int x, a3, a4, a5, a6] (.int x :: st) h := pR_L rfl rfl
theorem rX1_worth_24 : pR 64 d 24 [a0, a1, a2, .int x, a4, a5, a6] st h = pR 64 d 25 [a0, a1, a2, .int x, a4, a5, a6] (.int x :: st) h := pR_L rfl rfl
theorem rX1_worth_25 : pR 64 d 25 [a0, a1, a2, a3, .int x, a5, a6] st h = pR 64 d 27 [a0, a1, a2, a3, .int x, a5, a6] (.int x :: st) h := pR_L rfl rfl
theorem rX1_worth_27 : pR 64 d 27 [a0, a1, a2, a3, a4, .int x, a6] st h = pR 64 d 29 [a0, a1, a2, a3, a4, .int x, a6] (.int x :: st) h := pR_L rfl rfl
theorem rX1_worth_29 : pR 64 d 29 [a0, a1, a2, a3, a4, a5, .int x] st h = pR 64 d 31 [a0, a1, a2, a3, a4, a5, .int x] (.int x :: st) h := pR_L rfl rfl
theorem rX1_worth_31 : pR 64 (d + 1) 31 ls (b6 :: b5 :: b4 :: b3 :: b2 :: b1 :: .ref o :: st) h = if (pok 1 (pcl h o) && pw st) = true then pK 64 (d + 1) 31 3 ls st (pCa 59 d [.ref o, b1, b2, b3, b4, b5, b6] h) else none := r_callV rfl rfl rfl
theorem rX1_worth_34 : pR 64 d 34 ls [.int x] h = some (.inl (some (.int x)), h) := pR_E rfl rfl
end
