/-! rows: one equation an instruction, printed by gen.py -/
set_option maxRecDepth 100000
section
variable {d o o2 : Nat} {ls st : List Value} {h : pH} {x y x3 : Int32} {lx ly : Int64} {a0 a1 a2 a3 a4 a5 a6 a7 a8 a9 a10 a11 a12 a13 a14 : Value} {b0 b1 b2 b3 b4 b5 b6 b7 b8 : Value} {x0 x1 x2 x4 x5 x6 x7 x8 : Int32} {l0 l1 l2 l3 l4 l5 l6 l7 l8 : Int64} {r0 r1 r2 r3 r4 r5 r6 r7 r8 : Nat}
-- 66 BalloonStallModel <init> ()V
theorem eX3_init : pCa 66 d [.ref o] h = pR 66 d 0 [.ref o] [] h := rfl
theorem rX3_init_0 : pR 66 d 0 [.ref o] st h = pR 66 d 1 [.ref o] (.ref o :: st) h := pR_L rfl rfl
theorem rX3_init_1 : pR 66 (d + 1) 1 ls (.ref o :: st) h = if pw st = true then pR 66 (d + 1) 4 ls st h else none := r_obj rfl
theorem rX3_init_4 : pR 66 d 4 [.ref o] st h = pR 66 d 5 [.ref o] (.ref o :: st) h := pR_L rfl rfl
theorem rX3_init_5 : pR 66 d 5 ls st h = pR 66 d 7 ls (.int 6 :: st) h := pR_L rfl rfl
theorem rX3_init_7 : pR 66 d 7 ls (.int 6 :: st) h = pR 66 d 9 ls (.ref h.2.1 :: st) (pnw h (.inl (0, 6, .inl fun _ => 0)) 6) := pR_X rfl rfl
theorem rX3_init_9 : pR 66 d 9 ls (.ref o2 :: .ref o :: st) h = if pis (pfl h 3 o 1) = true then pR 66 d 12 ls st (psf h o 1 (.ref o2)) else none := r_put rfl rfl
theorem rX3_init_9n : pR 66 d 9 ls (.null :: .ref o :: st) h = if pis (pfl h 3 o 1) = true then pR 66 d 12 ls st (psf h o 1 .null) else none := r_put rfl rfl
theorem rX3_init_12 : pR 66 d 12 [.ref o] st h = pR 66 d 13 [.ref o] (.ref o :: st) h := pR_L rfl rfl
theorem rX3_init_13 : pR 66 d 13 ls st h = pR 66 d 15 ls (.int 6 :: st) h := pR_L rfl rfl
theorem rX3_init_15 : pR 66 d 15 ls (.int 6 :: st) h = pR 66 d 17 ls (.ref h.2.1 :: st) (pnw h (.inl (0, 6, .inl fun _ => 0)) 6) := pR_X rfl rfl
theorem rX3_init_17 : pR 66 d 17 ls (.ref o2 :: .ref o :: st) h = if pis (pfl h 3 o 2) = true then pR 66 d 20 ls st (psf h o 2 (.ref o2)) else none := r_put rfl rfl
theorem rX3_init_17n : pR 66 d 17 ls (.null :: .ref o :: st) h = if pis (pfl h 3 o 2) = true then pR 66 d 20 ls st (psf h o 2 .null) else none := r_put rfl rfl
theorem rX3_init_20 : pR 66 d 20 [.ref o] st h = pR 66 d 21 [.ref o] (.ref o :: st) h := pR_L rfl rfl
theorem rX3_init_21 : pR 66 d 21 ls st h = pR 66 d 23 ls (.int 6 :: st) h := pR_L rfl rfl
theorem rX3_init_23 : pR 66 d 23 ls (.int 6 :: st) h = pR 66 d 25 ls (.ref h.2.1 :: st) (pnw h (.inl (0, 6, .inl fun _ => 0)) 6) := pR_X rfl rfl
theorem rX3_init_25 : pR 66 d 25 ls (.ref o2 :: .ref o :: st) h = if pis (pfl h 3 o 3) = true then pR 66 d 28 ls st (psf h o 3 (.ref o2)) else none := r_put rfl rfl
theorem rX3_init_25n : pR 66 d 25 ls (.null :: .ref o :: st) h = if pis (pfl h 3 o 3) = true then pR 66 d 28 ls st (psf h o 3 .null) else none := r_put rfl rfl
theorem rX3_init_28 : pR 66 d 28 [.ref o] st h = pR 66 d 29 [.ref o] (.ref o :: st) h := pR_L rfl rfl
theorem rX3_init_29 : pR 66 d 29 ls st h = pR 66 d 31 ls (.int 6 :: st) h := pR_L rfl rfl
theorem rX3_init_31 : pR 66 d 31 ls (.int 6 :: st) h = pR 66 d 33 ls (.ref h.2.1 :: st) (pnw h (.inl (0, 6, .inl fun _ => 0)) 6) := pR_X rfl rfl
theorem rX3_init_33 : pR 66 d 33 ls (.ref o2 :: .ref o :: st) h = if pis (pfl h 3 o 4) = true then pR 66 d 36 ls st (psf h o 4 (.ref o2)) else none := r_put rfl rfl
theorem rX3_init_33n : pR 66 d 33 ls (.null :: .ref o :: st) h = if pis (pfl h 3 o 4) = true then pR 66 d 36 ls st (psf h o 4 .null) else none := r_put rfl rfl
theorem rX3_init_36 : pR 66 d 36 [.ref o] st h = pR 66 d 37 [.ref o] (.ref o :: st) h := pR_L rfl rfl
theorem rX3_init_37 : pR 66 d 37 ls st h = pR 66 d 40 ls (.int 200 :: st) h := pR_L rfl rfl
theorem rX3_init_40 : pR 66 d 40 ls (.int 200 :: st) h = pR 66 d 42 ls (.ref h.2.1 :: st) (pnw h (.inl (0, 200, .inl fun _ => 0)) 200) := pR_X rfl rfl
theorem rX3_init_42 : pR 66 d 42 ls (.ref o2 :: .ref o :: st) h = if pis (pfl h 3 o 6) = true then pR 66 d 45 ls st (psf h o 6 (.ref o2)) else none := r_put rfl rfl
theorem rX3_init_42n : pR 66 d 42 ls (.null :: .ref o :: st) h = if pis (pfl h 3 o 6) = true then pR 66 d 45 ls st (psf h o 6 .null) else none := r_put rfl rfl
theorem rX3_init_45 : pR 66 d 45 [.ref o] st h = pR 66 d 46 [.ref o] (.ref o :: st) h := pR_L rfl rfl
theorem rX3_init_46 : pR 66 d 46 ls st h = pR 66 d 48 ls (.int 13 :: st) h := pR_L rfl rfl
theorem rX3_init_48 : pR 66 d 48 ls (.int 13 :: st) h = pR 66 d 50 ls (.ref h.2.1 :: st) (pnw h (.inl (0, 13, .inl fun _ => 0)) 13) := pR_X rfl rfl
theorem rX3_init_50 : pR 66 d 50 ls (.ref o2 :: .ref o :: st) h = if pis (pfl h 3 o 11) = true then pR 66 d 53 ls st (psf h o 11 (.ref o2)) else none := r_put rfl rfl
theorem rX3_init_50n : pR 66 d 50 ls (.null :: .ref o :: st) h = if pis (pfl h 3 o 11) = true then pR 66 d 53 ls st (psf h o 11 .null) else none := r_put rfl rfl
theorem rX3_init_53 : pR 66 d 53 [.ref o] st h = pR 66 d 54 [.ref o] (.ref o :: st) h := pR_L rfl rfl
theorem rX3_init_54 : pR 66 d 54 ls st h = pR 66 d 56 ls (.int 78 :: st) h := pR_L rfl rfl
theorem rX3_init_56 : pR 66 d 56 ls (.int 78 :: st) h = pR 66 d 58 ls (.ref h.2.1 :: st) (pnw h (.inl (0, 78, .inl fun _ => 0)) 78) := pR_X rfl rfl
theorem rX3_init_58 : pR 66 d 58 ls (.ref o2 :: .ref o :: st) h = if pis (pfl h 3 o 12) = true then pR 66 d 61 ls st (psf h o 12 (.ref o2)) else none := r_put rfl rfl
theorem rX3_init_58n : pR 66 d 58 ls (.null :: .ref o :: st) h = if pis (pfl h 3 o 12) = true then pR 66 d 61 ls st (psf h o 12 .null) else none := r_put rfl rfl
theorem rX3_init_61 : pR 66 d 61 [.ref o] st h = pR 66 d 62 [.ref o] (.ref o :: st) h := pR_L rfl rfl
theorem rX3_init_62 : pR 66 d 62 ls st h = pR 66 d 64 ls (.int 13 :: st) h := pR_L rfl rfl
theorem rX3_init_64 : pR 66 d 64 ls (.int 13 :: st) h = pR 66 d 66 ls (.ref h.2.1 :: st) (pnw h (.inl (0, 13, .inl fun _ => 0)) 13) := pR_X rfl rfl
theorem rX3_init_66 : pR 66 d 66 ls (.ref o2 :: .ref o :: st) h = if pis (pfl h 3 o 13) = true then pR 66 d 69 ls st (psf h o 13 (.ref o2)) else none := r_put rfl rfl
theorem rX3_init_66n : pR 66 d 66 ls (.null :: .ref o :: st) h = if pis (pfl h 3 o 13) = true then pR 66 d 69 ls st (psf h o 13 .null) else none := r_put rfl rfl
theorem rX3_init_69 : pR 66 d 69 [.ref o] st h = pR 66 d 70 [.ref o] (.ref o :: st) h := pR_L rfl rfl
theorem rX3_init_70 : pR 66 d 70 ls st h = pR 66 d 72 ls (.int 13 :: st) h := pR_L rfl rfl
theorem rX3_init_72 : pR 66 d 72 ls (.int 13 :: st) h = pR 66 d 74 ls (.ref h.2.1 :: st) (pnw h (.inl (0, 13, .inl fun _ => 0)) 13) := pR_X rfl rfl
theorem rX3_init_74 : pR 66 d 74 ls (.ref o2 :: .ref o :: st) h = if pis (pfl h 3 o 14) = true then pR 66 d 77 ls st (psf h o 14 (.ref o2)) else none := r_put rfl rfl
theorem rX3_init_74n : pR 66 d 74 ls (.null :: .ref o :: st) h = if pis (pfl h 3 o 14) = true then pR 66 d 77 ls st (psf h o 14 .null) else none := r_put rfl rfl
theorem rX3_init_77 : pR 66 d 77 [.ref o] st h = pR 66 d 78 [.ref o] (.ref o :: st) h := pR_L rfl rfl
theorem rX3_init_78 : pR 66 d 78 ls st h = pR 66 d 81 ls (.int 312 :: st) h := pR_L rfl rfl
theorem rX3_init_81 : pR 66 d 81 ls (.int 312 :: st) h = pR 66 d 83 ls (.ref h.2.1 :: st) (pnw h (.inl (0, 312, .inl fun _ => 0)) 312) := pR_X rfl rfl
theorem rX3_init_83 : pR 66 d 83 ls (.ref o2 :: .ref o :: st) h = if pis (pfl h 3 o 15) = true then pR 66 d 86 ls st (psf h o 15 (.ref o2)) else none := r_put rfl rfl
theorem rX3_init_83n : pR 66 d 83 ls (.null :: .ref o :: st) h = if pis (pfl h 3 o 15) = true then pR 66 d 86 ls st (psf h o 15 .null) else none := r_put rfl rfl
theorem rX3_init_86 : pR 66 d 86 [.ref o] st h = pR 66 d 87 [.ref o] (.ref o :: st) h := pR_L rfl rfl
theorem rX3_init_87 : pR 66 d 87 ls st h = pR 66 d 90 ls (.int 312 :: st) h := pR_L rfl rfl
theorem rX3_init_90 : pR 66 d 90 ls (.int 312 :: st) h = pR 66 d 92 ls (.ref h.2.1 :: st) (pnw h (.inl (0, 312, .inl fun _ => 0)) 312) := pR_X rfl rfl
theorem rX3_init_92 : pR 66 d 92 ls (.ref o2 :: .ref o :: st) h = if pis (pfl h 3 o 16) = true then pR 66 d 95 ls st (psf h o 16 (.ref o2)) else none := r_put rfl rfl
theorem rX3_init_92n : pR 66 d 92 ls (.null :: .ref o :: st) h = if pis (pfl h 3 o 16) = true then pR 66 d 95 ls st (psf h o 16 .null) else none := r_put rfl rfl
theorem rX3_init_95 : pR 66 d 95 [.ref o] st h = pR 66 d 96 [.ref o] (.ref o :: st) h := pR_L rfl rfl
theorem rX3_init_96 : pR 66 d 96 ls st h = pR 66 d 99 ls (.int 312 :: st) h := pR_L rfl rfl
theorem rX3_init_99 : pR 66 d 99 ls (.int 312 :: st) h = pR 66 d 101 ls (.ref h.2.1 :: st) (pnw h (.inl (0, 312, .inl fun _ => 0)) 312) := pR_X rfl rfl
theorem rX3_init_101 : pR 66 d 101 ls (.ref o2 :: .ref o :: st) h = if pis (pfl h 3 o 17) = true then pR 66 d 104 ls st (psf h o 17 (.ref o2)) else none := r_put rfl rfl
theorem rX3_init_101n : pR 66 d 101 ls (.null :: .ref o :: st) h = if pis (pfl h 3 o 17) = true then pR 66 d 104 ls st (psf h o 17 .null) else none := r_put rfl rfl
theorem rX3_init_104 : pR 66 d 104 [.ref o] st h = pR 66 d 105 [.ref o] (.ref o :: st) h := pR_L rfl rfl
theorem rX3_init_105 : pR 66 d 105 ls st h = pR 66 d 108 ls (.int 312 :: st) h := pR_L rfl rfl
theorem rX3_init_108 : pR 66 d 108 ls (.int 312 :: st) h = pR 66 d 110 ls (.ref h.2.1 :: st) (pnw h (.inl (0, 312, .inl fun _ => 0)) 312) := pR_X rfl rfl
theorem rX3_init_110 : pR 66 d 110 ls (.ref o2 :: .ref o :: st) h = if pis (pfl h 3 o 18) = true then pR 66 d 113 ls st (psf h o 18 (.ref o2)) else none := r_put rfl rfl
theorem rX3_init_110n : pR 66 d 110 ls (.null :: .ref o :: st) h = if pis (pfl h 3 o 18) = true then pR 66 d 113 ls st (psf h o 18 .null) else none := r_put rfl rfl
theorem rX3_init_113 : pR 66 d 113 [.ref o] st h = pR 66 d 114 [.ref o] (.ref o :: st) h := pR_L rfl rfl
theorem rX3_init_114 : pR 66 d 114 ls st h = pR 66 d 116 ls (.int 13 :: st) h := pR_L rfl rfl
theorem rX3_init_116 : pR 66 d 116 ls (.int 13 :: st) h = pR 66 d 118 ls (.ref h.2.1 :: st) (pnw h (.inl (0, 13, .inl fun _ => 0)) 13) := pR_X rfl rfl
theorem rX3_init_118 : pR 66 d 118 ls (.ref o2 :: .ref o :: st) h = if pis (pfl h 3 o 19) = true then pR 66 d 121 ls st (psf h o 19 (.ref o2)) else none := r_put rfl rfl
theorem rX3_init_118n : pR 66 d 118 ls (.null :: .ref o :: st) h = if pis (pfl h 3 o 19) = true then pR 66 d 121 ls st (psf h o 19 .null) else none := r_put rfl rfl
theorem rX3_init_121 : pR 66 d 121 [.ref o] st h = pR 66 d 122 [.ref o] (.ref o :: st) h := pR_L rfl rfl
theorem rX3_init_122 : pR 66 d 122 ls st h = pR 66 d 124 ls (.int 60 :: st) h := pR_L rfl rfl
theorem rX3_init_124 : pR 66 d 124 ls (.int 60 :: st) h = pR 66 d 126 ls (.ref h.2.1 :: st) (pnw h (.inl (0, 60, .inl fun _ => 0)) 60) := pR_X rfl rfl
theorem rX3_init_126 : pR 66 d 126 ls (.ref o2 :: .ref o :: st) h = if pis (pfl h 3 o 21) = true then pR 66 d 129 ls st (psf h o 21 (.ref o2)) else none := r_put rfl rfl
theorem rX3_init_126n : pR 66 d 126 ls (.null :: .ref o :: st) h = if pis (pfl h 3 o 21) = true then pR 66 d 129 ls st (psf h o 21 .null) else none := r_put rfl rfl
theorem rX3_init_129 : pR 66 d 129 [.ref o] st h = pR 66 d 130 [.ref o] (.ref o :: st) h := pR_L rfl rfl
theorem rX3_init_130 : pR 66 d 130 ls st h = pR 66 d 132 ls (.int 8 :: st) h := pR_L rfl rfl
theorem rX3_init_132 : pR 66 d 132 ls (.int 8 :: st) h = pR 66 d 134 ls (.ref h.2.1 :: st) (pnw h (.inl (0, 8, .inl fun _ => 0)) 8) := pR_X rfl rfl
theorem rX3_init_134 : pR 66 d 134 ls (.ref o2 :: .ref o :: st) h = if pis (pfl h 3 o 22) = true then pR 66 d 137 ls st (psf h o 22 (.ref o2)) else none := r_put rfl rfl
theorem rX3_init_134n : pR 66 d 134 ls (.null :: .ref o :: st) h = if pis (pfl h 3 o 22) = true then pR 66 d 137 ls st (psf h o 22 .null) else none := r_put rfl rfl
theorem rX3_init_137 : pR 66 d 137 [.ref o] st h = pR 66 d 138 [.ref o] (.ref o :: st) h := pR_L rfl rfl
theorem rX3_init_138 : pR 66 d 138 ls st h = pR 66 d 140 ls (.int 60 :: st) h := pR_L rfl rfl
theorem rX3_init_140 : pR 66 d 140 ls (.int 60 :: st) h = pR 66 d 142 ls (.ref h.2.1 :: st) (pnw h (.inl (0, 60, .inl fun _ => 0)) 60) := pR_X rfl rfl
theorem rX3_init_142 : pR 66 d 142 ls (.ref o2 :: .ref o :: st) h = if pis (pfl h 3 o 26) = true then pR 66 d 145 ls st (psf h o 26 (.ref o2)) else none := r_put rfl rfl
theorem rX3_init_142n : pR 66 d 142 ls (.null :: .ref o :: st) h = if pis (pfl h 3 o 26) = true then pR 66 d 145 ls st (psf h o 26 .null) else none := r_put rfl rfl
theorem rX3_init_145 : pR 66 d 145 [.ref o] st h = pR 66 d 146 [.ref o] (.ref o :: st) h := pR_L rfl rfl
theorem rX3_init_146 : pR 66 d 146 ls st h = pR 66 d 149 ls (.int 2800 :: st) h := pR_L rfl rfl
theorem rX3_init_149 : pR 66 d 149 ls (.int 2800 :: st) h = pR 66 d 151 ls (.ref h.2.1 :: st) (pnw h (.inl (0, 2800, .inl fun _ => 0)) 2800) := pR_X rfl rfl
theorem rX3_init_151 : pR 66 d 151 ls (.ref o2 :: .ref o :: st) h = if pis (pfl h 3 o 27) = true then pR 66 d 154 ls st (psf h o 27 (.ref o2)) else none := r_put rfl rfl
theorem rX3_init_151n : pR 66 d 151 ls (.null :: .ref o :: st) h = if pis (pfl h 3 o 27) = true then pR 66 d 154 ls st (psf h o 27 .null) else none := r_put rfl rfl
theorem rX3_init_154 : pR 66 d 154 [.ref o] st h = pR 66 d 155 [.ref o] (.ref o :: st) h := pR_L rfl rfl
theorem rX3_init_155 : pR 66 d 155 ls st h = pR 66 d 157 ls (.int 7 :: st) h := pR_L rfl rfl
theorem rX3_init_157 : pR 66 d 157 ls (.int 7 :: st) h = pR 66 d 159 ls (.ref h.2.1 :: st) (pnw h (.inl (0, 7, .inl fun _ => 0)) 7) := pR_X rfl rfl
theorem rX3_init_159 : pR 66 d 159 ls (.ref o2 :: .ref o :: st) h = if pis (pfl h 3 o 28) = true then pR 66 d 162 ls st (psf h o 28 (.ref o2)) else none := r_put rfl rfl
theorem rX3_init_159n : pR 66 d 159 ls (.null :: .ref o :: st) h = if pis (pfl h 3 o 28) = true then pR 66 d 162 ls st (psf h o 28 .null) else none := r_put rfl rfl
theorem rX3_init_162 : pR 66 d 162 [.ref o] st h = pR 66 d 163 [.ref o] (.ref o :: st) h := pR_L rfl rfl
theorem rX3_init_163 : pR 66 d 163 ls st h = pR 66 d 166 ls (.int 448 :: st) h := pR_L rfl rfl
theorem rX3_init_166 : pR 66 d 166 ls (.int 448 :: st) h = pR 66 d 168 ls (.ref h.2.1 :: st) (pnw h (.inl (0, 448, .inl fun _ => 0)) 448) := pR_X rfl rfl
theorem rX3_init_168 : pR 66 d 168 ls (.ref o2 :: .ref o :: st) h = if pis (pfl h 3 o 29) = true then pR 66 d 171 ls st (psf h o 29 (.ref o2)) else none := r_put rfl rfl
theorem rX3_init_168n : pR 66 d 168 ls (.null :: .ref o :: st) h = if pis (pfl h 3 o 29) = true then pR 66 d 171 ls st (psf h o 29 .null) else none := r_put rfl rfl
theorem rX3_init_171 : pR 66 d 171 [.ref o] st h = pR 66 d 172 [.ref o] (.ref o :: st) h := pR_L rfl rfl
theorem rX3_init_172 : pR 66 d 172 ls st h = pR 66 d 175 ls (.int 448 :: st) h := pR_L rfl rfl
theorem rX3_init_175 : pR 66 d 175 ls (.int 448 :: st) h = pR 66 d 177 ls (.ref h.2.1 :: st) (pnw h (.inl (0, 448, .inl fun _ => 0)) 448) := pR_X rfl rfl
theorem rX3_init_177 : pR 66 d 177 ls (.ref o2 :: .ref o :: st) h = if pis (pfl h 3 o 30) = true then pR 66 d 180 ls st (psf h o 30 (.ref o2)) else none := r_put rfl rfl
theorem rX3_init_177n : pR 66 d 177 ls (.null :: .ref o :: st) h = if pis (pfl h 3 o 30) = true then pR 66 d 180 ls st (psf h o 30 .null) else none := r_put rfl rfl
theorem rX3_init_180 : pR 66 d 180 [.ref o] st h = pR 66 d 181 [.ref o] (.ref o :: st) h := pR_L rfl rfl
theorem rX3_init_181 : pR 66 d 181 ls st h = pR 66 d 184 ls (.int 400 :: st) h := pR_L rfl rfl
theorem rX3_init_184 : pR 66 d 184 ls (.int 400 :: st) h = pR 66 d 186 ls (.ref h.2.1 :: st) (pnw h (.inl (3, 400, .inr (.inl fun _ => 0))) 400) := pR_X rfl rfl
theorem rX3_init_186 : pR 66 d 186 ls (.ref o2 :: .ref o :: st) h = if pis (pfl h 3 o 34) = true then pR 66 d 189 ls st (psf h o 34 (.ref o2)) else none := r_put rfl rfl
theorem rX3_init_186n : pR 66 d 186 ls (.null :: .ref o :: st) h = if pis (pfl h 3 o 34) = true then pR 66 d 189 ls st (psf h o 34 .null) else none := r_put rfl rfl
theorem rX3_init_189 : pR 66 d 189 [.ref o] st h = pR 66 d 190 [.ref o] (.ref o :: st) h := pR_L rfl rfl
theorem rX3_init_190 : pR 66 d 190 ls st h = pR 66 d 192 ls (.int 8 :: st) h := pR_L rfl rfl
theorem rX3_init_192 : pR 66 d 192 ls (.int 8 :: st) h = pR 66 d 194 ls (.ref h.2.1 :: st) (pnw h (.inl (0, 8, .inl fun _ => 0)) 8) := pR_X rfl rfl
theorem rX3_init_194 : pR 66 d 194 ls (.ref o2 :: .ref o :: st) h = if pis (pfl h 3 o 35) = true then pR 66 d 197 ls st (psf h o 35 (.ref o2)) else none := r_put rfl rfl
theorem rX3_init_194n : pR 66 d 194 ls (.null :: .ref o :: st) h = if pis (pfl h 3 o 35) = true then pR 66 d 197 ls st (psf h o 35 .null) else none := r_put rfl rfl
theorem rX3_init_197 : pR 66 d 197 [.ref o] st h = pR 66 d 198 [.ref o] (.ref o :: st) h := pR_L rfl rfl
theorem rX3_init_198 : pR 66 d 198 ls st h = pR 66 d 201 ls (.int 3600 :: st) h := pR_L rfl rfl
theorem rX3_init_201 : pR 66 d 201 ls (.int 3600 :: st) h = pR 66 d 203 ls (.ref h.2.1 :: st) (pnw h (.inl (0, 3600, .inl fun _ => 0)) 3600) := pR_X rfl rfl
theorem rX3_init_203 : pR 66 d 203 ls (.ref o2 :: .ref o :: st) h = if pis (pfl h 3 o 36) = true then pR 66 d 206 ls st (psf h o 36 (.ref o2)) else none := r_put rfl rfl
theorem rX3_init_203n : pR 66 d 203 ls (.null :: .ref o :: st) h = if pis (pfl h 3 o 36) = true then pR 66 d 206 ls st (psf h o 36 .null) else none := r_put rfl rfl
theorem rX3_init_206 : pR 66 d 206 [.ref o] st h = pR 66 d 207 [.ref o] (.ref o :: st) h := pR_L rfl rfl
theorem rX3_init_207 : pR 66 d 207 ls st h = pR 66 d 210 ls (.int 1024 :: st) h := pR_L rfl rfl
theorem rX3_init_210 : pR 66 d 210 ls (.int 1024 :: st) h = pR 66 d 212 ls (.ref h.2.1 :: st) (pnw h (.inl (0, 1024, .inl fun _ => 0)) 1024) := pR_X rfl rfl
theorem rX3_init_212 : pR 66 d 212 ls (.ref o2 :: .ref o :: st) h = if pis (pfl h 3 o 37) = true then pR 66 d 215 ls st (psf h o 37 (.ref o2)) else none := r_put rfl rfl
theorem rX3_init_212n : pR 66 d 212 ls (.null :: .ref o :: st) h = if pis (pfl h 3 o 37) = true then pR 66 d 215 ls st (psf h o 37 .null) else none := r_put rfl rfl
theorem rX3_init_215 : pR 66 d 215 [.ref o] st h = pR 66 d 216 [.ref o] (.ref o :: st) h := pR_L rfl rfl
theorem rX3_init_216 : pR 66 d 216 ls st h = pR 66 d 219 ls (.int 1024 :: st) h := pR_L rfl rfl
theorem rX3_init_219 : pR 66 d 219 ls (.int 1024 :: st) h = pR 66 d 221 ls (.ref h.2.1 :: st) (pnw h (.inl (2, 1024, .inl fun _ => 0)) 1024) := pR_X rfl rfl
theorem rX3_init_221 : pR 66 d 221 ls (.ref o2 :: .ref o :: st) h = if pis (pfl h 3 o 38) = true then pR 66 d 224 ls st (psf h o 38 (.ref o2)) else none := r_put rfl rfl
theorem rX3_init_221n : pR 66 d 221 ls (.null :: .ref o :: st) h = if pis (pfl h 3 o 38) = true then pR 66 d 224 ls st (psf h o 38 .null) else none := r_put rfl rfl
theorem rX3_init_224 : pR 66 d 224 [.ref o] st h = pR 66 d 225 [.ref o] (.ref o :: st) h := pR_L rfl rfl
theorem rX3_init_225 : pR 66 d 225 ls st h = pR 66 d 227 ls (.int 24 :: st) h := pR_L rfl rfl
theorem rX3_init_227 : pR 66 d 227 ls (.int 24 :: st) h = pR 66 d 229 ls (.ref h.2.1 :: st) (pnw h (.inl (0, 24, .inl fun _ => 0)) 24) := pR_X rfl rfl
theorem rX3_init_229 : pR 66 d 229 ls (.ref o2 :: .ref o :: st) h = if pis (pfl h 3 o 39) = true then pR 66 d 232 ls st (psf h o 39 (.ref o2)) else none := r_put rfl rfl
theorem rX3_init_229n : pR 66 d 229 ls (.null :: .ref o :: st) h = if pis (pfl h 3 o 39) = true then pR 66 d 232 ls st (psf h o 39 .null) else none := r_put rfl rfl
theorem rX3_init_232 : pR 66 d 232 [.ref o] st h = pR 66 d 233 [.ref o] (.ref o :: st) h := pR_L rfl rfl
theorem rX3_init_233 : pR 66 d 233 ls st h = pR 66 d 235 ls (.int 30 :: st) h := pR_L rfl rfl
theorem rX3_init_235 : pR 66 d 235 ls (.int 30 :: st) h = pR 66 d 237 ls (.ref h.2.1 :: st) (pnw h (.inl (0, 30, .inl fun _ => 0)) 30) := pR_X rfl rfl
theorem rX3_init_237 : pR 66 d 237 ls (.ref o2 :: .ref o :: st) h = if pis (pfl h 3 o 40) = true then pR 66 d 240 ls st (psf h o 40 (.ref o2)) else none := r_put rfl rfl
theorem rX3_init_237n : pR 66 d 237 ls (.null :: .ref o :: st) h = if pis (pfl h 3 o 40) = true then pR 66 d 240 ls st (psf h o 40 .null) else none := r_put rfl rfl
theorem rX3_init_240 : pR 66 d 240 [.ref o] st h = pR 66 d 241 [.ref o] (.ref o :: st) h := pR_L rfl rfl
theorem rX3_init_241 : pR 66 d 241 ls st h = pR 66 d 243 ls (.int 30 :: st) h := pR_L rfl rfl
theorem rX3_init_243 : pR 66 d 243 ls (.int 30 :: st) h = pR 66 d 245 ls (.ref h.2.1 :: st) (pnw h (.inl (0, 30, .inl fun _ => 0)) 30) := pR_X rfl rfl
theorem rX3_init_245 : pR 66 d 245 ls (.ref o2 :: .ref o :: st) h = if pis (pfl h 3 o 41) = true then pR 66 d 248 ls st (psf h o 41 (.ref o2)) else none := r_put rfl rfl
theorem rX3_init_245n : pR 66 d 245 ls (.null :: .ref o :: st) h = if pis (pfl h 3 o 41) = true then pR 66 d 248 ls st (psf h o 41 .null) else none := r_put rfl rfl
theorem rX3_init_248 : pR 66 d 248 [.ref o] st h = pR 66 d 249 [.ref o] (.ref o :: st) h := pR_L rfl rfl
theorem rX3_init_249 : pR 66 d 249 ls st h = pR 66 d 251 ls (.int 30 :: st) h := pR_L rfl rfl
theorem rX3_init_251 : pR 66 d 251 ls (.int 30 :: st) h = pR 66 d 253 ls (.ref h.2.1 :: st) (pnw h (.inl (0, 30, .inl fun _ => 0)) 30) := pR_X rfl rfl
theorem rX3_init_253 : pR 66 d 253 ls (.ref o2 :: .ref o :: st) h = if pis (pfl h 3 o 42) = true then pR 66 d 256 ls st (psf h o 42 (.ref o2)) else none := r_put rfl rfl
theorem rX3_init_253n : pR 66 d 253 ls (.null :: .ref o :: st) h = if pis (pfl h 3 o 42) = true then pR 66 d 256 ls st (psf h o 42 .null) else none := r_put rfl rfl
theorem rX3_init_256 : pR 66 d 256 [.ref o] st h = pR 66 d 257 [.ref o] (.ref o :: st) h := pR_L rfl rfl
theorem rX3_init_257 : pR 66 d 257 ls st h = pR 66 d 259 ls (.int 120 :: st) h := pR_L rfl rfl
theorem rX3_init_259 : pR 66 d 259 ls (.int 120 :: st) h = pR 66 d 261 ls (.ref h.2.1 :: st) (pnw h (.inl (0, 120, .inl fun _ => 0)) 120) := pR_X rfl rfl
theorem rX3_init_261 : pR 66 d 261 ls (.ref o2 :: .ref o :: st) h = if pis (pfl h 3 o 43) = true then pR 66 d 264 ls st (psf h o 43 (.ref o2)) else none := r_put rfl rfl
theorem rX3_init_261n : pR 66 d 261 ls (.null :: .ref o :: st) h = if pis (pfl h 3 o 43) = true then pR 66 d 264 ls st (psf h o 43 .null) else none := r_put rfl rfl
theorem rX3_init_264 : pR 66 d 264 [.ref o] st h = pR 66 d 265 [.ref o] (.ref o :: st) h := pR_L rfl rfl
theorem rX3_init_265 : pR 66 d 265 ls st h = pR 66 d 267 ls (.int 6 :: st) h := pR_L rfl rfl
theorem rX3_init_267 : pR 66 d 267 ls (.int 6 :: st) h = pR 66 d 269 ls (.ref h.2.1 :: st) (pnw h (.inl (0, 6, .inl fun _ => 0)) 6) := pR_X rfl rfl
theorem rX3_init_269 : pR 66 d 269 ls (.ref o2 :: .ref o :: st) h = if pis (pfl h 3 o 44) = true then pR 66 d 272 ls st (psf h o 44 (.ref o2)) else none := r_put rfl rfl
theorem rX3_init_269n : pR 66 d 269 ls (.null :: .ref o :: st) h = if pis (pfl h 3 o 44) = true then pR 66 d 272 ls st (psf h o 44 .null) else none := r_put rfl rfl
theorem rX3_init_272 : pR 66 d 272 [.ref o] st h = pR 66 d 273 [.ref o] (.ref o :: st) h := pR_L rfl rfl
theorem rX3_init_273 : pR 66 d 273 ls st h = pR 66 d 274 ls (.int 1 :: st) h := pR_L rfl rfl
theorem rX3_init_274 : pR 66 d 274 ls (.int x :: .ref o :: st) h = if pis (pfl h 3 o 47) = true then pR 66 d 277 ls st (psf h o 47 (.int x)) else none := r_put rfl rfl
theorem rX3_init_277 : pR 66 d 277 [.ref o] st h = pR 66 d 278 [.ref o] (.ref o :: st) h := pR_L rfl rfl
theorem rX3_init_278 : pR 66 d 278 ls st h = pR 66 d 280 ls (.int 24 :: st) h := pR_L rfl rfl
theorem rX3_init_280 : pR 66 d 280 ls (.int 24 :: st) h = pR 66 d 282 ls (.ref h.2.1 :: st) (pnw h (.inl (0, 24, .inl fun _ => 0)) 24) := pR_X rfl rfl
theorem rX3_init_282 : pR 66 d 282 ls (.ref o2 :: .ref o :: st) h = if pis (pfl h 3 o 49) = true then pR 66 d 285 ls st (psf h o 49 (.ref o2)) else none := r_put rfl rfl
theorem rX3_init_282n : pR 66 d 282 ls (.null :: .ref o :: st) h = if pis (pfl h 3 o 49) = true then pR 66 d 285 ls st (psf h o 49 .null) else none := r_put rfl rfl
theorem rX3_init_285 : pR 66 d 285 [.ref o] st h = pR 66 d 286 [.ref o] (.ref o :: st) h := pR_L rfl rfl
theorem rX3_init_286 : pR 66 d 286 ls st h = pR 66 d 288 ls (.int 24 :: st) h := pR_L rfl rfl
theorem rX3_init_288 : pR 66 d 288 ls (.int 24 :: st) h = pR 66 d 290 ls (.ref h.2.1 :: st) (pnw h (.inl (0, 24, .inl fun _ => 0)) 24) := pR_X rfl rfl
theorem rX3_init_290 : pR 66 d 290 ls (.ref o2 :: .ref o :: st) h = if pis (pfl h 3 o 50) = true then pR 66 d 293 ls st (psf h o 50 (.ref o2)) else none := r_put rfl rfl
theorem rX3_init_290n : pR 66 d 290 ls (.null :: .ref o :: st) h = if pis (pfl h 3 o 50) = true then pR 66 d 293 ls st (psf h o 50 .null) else none := r_put rfl rfl
theorem rX3_init_293 : pR 66 d 293 ls [] h = some (.inl none, h) := pR_E rfl rfl
-- 67 BalloonStallModel thrown ()I
theorem eX3_thrown : pCa 67 d [.ref o] h = pR 67 d 0 [.ref o] [] h := rfl
theorem rX3_thrown_0 : pR 67 d 0 [.ref o] st h = pR 67 d 1 [.ref o] (.ref o :: st) h := pR_L rfl rfl
theorem rX3_thrown_1 : pR 67 d 1 ls (.ref o :: st) h = if pis (pfl h 3 o 0) = true then pR 67 d 4 ls (pfl h 3 o 0 :: st) h else none := r_get rfl
theorem rX3_thrown_4 : pR 67 d 4 ls [.int x] h = some (.inl (some (.int x)), h) := pR_E rfl rfl
-- 68 BalloonStallModel sort (III)I
theorem eX3_sort : pCa 68 d [.ref o, .int x0, .int x1, .int x2] h = pR 68 d 0 [.ref o, .int x0, .int x1, .int x2] [] h := rfl
theorem rX3_sort_0 : pR 68 d 0 [a0, .int x, a2, a3] st h = pR 68 d 1 [a0, .int x, a2, a3] (.int x :: st) h := pR_L rfl rfl
theorem rX3_sort_1 : pR 68 d 1 ls st h = pR 68 d 2 ls (.int 5 :: st) h := pR_L rfl rfl
theorem rX3_sort_2 : pR 68 d 2 ls st h = pR 68 d 5 ls (.int 200 :: st) h := pR_L rfl rfl
theorem rX3_sort_5 : pR 68 (d + 1) 5 ls (b2 :: b1 :: b0 :: st) h = if pw st = true then pK 68 (d + 1) 5 3 ls st (pCa 69 d [b0, b1, b2] h) else none := r_callS rfl rfl rfl
theorem rX3_sort_8 : pR 68 d 8 ls (.int x :: st) h = if x = 0 then pR 68 d 40 ls st h else pR 68 d 11 ls st h := r_ieq rfl rfl
theorem rX3_sort_11 : pR 68 d 11 [a0, a1, .int x, a3] st h = pR 68 d 12 [a0, a1, .int x, a3] (.int x :: st) h := pR_L rfl rfl
theorem rX3_sort_12 : pR 68 d 12 ls st h = pR 68 d 13 ls (.int 0 :: st) h := pR_L rfl rfl
theorem rX3_sort_13 : pR 68 d 13 ls st h = pR 68 d 15 ls (.int 9 :: st) h := pR_L rfl rfl
theorem rX3_sort_15 : pR 68 (d + 1) 15 ls (b2 :: b1 :: b0 :: st) h = if pw st = true then pK 68 (d + 1) 15 3 ls st (pCa 69 d [b0, b1, b2] h) else none := r_callS rfl rfl rfl
theorem rX3_sort_18 : pR 68 d 18 ls (.int x :: st) h = if x = 0 then pR 68 d 40 ls st h else pR 68 d 21 ls st h := r_ieq rfl rfl
theorem rX3_sort_21 : pR 68 d 21 [a0, a1, a2, .int x] st h = pR 68 d 22 [a0, a1, a2, .int x] (.int x :: st) h := pR_L rfl rfl
theorem rX3_sort_22 : pR 68 d 22 ls st h = pR 68 d 23 ls (.int 0 :: st) h := pR_L rfl rfl
theorem rX3_sort_23 : pR 68 d 23 ls st h = pR 68 d 25 ls (.int 99 :: st) h := pR_L rfl rfl
theorem rX3_sort_25 : pR 68 (d + 1) 25 ls (b2 :: b1 :: b0 :: st) h = if pw st = true then pK 68 (d + 1) 25 3 ls st (pCa 69 d [b0, b1, b2] h) else none := r_callS rfl rfl rfl
theorem rX3_sort_28 : pR 68 d 28 ls (.int x :: st) h = if x = 0 then pR 68 d 40 ls st h else pR 68 d 31 ls st h := r_ieq rfl rfl
theorem rX3_sort_31 : pR 68 d 31 [.ref o, a1, a2, a3] st h = pR 68 d 32 [.ref o, a1, a2, a3] (.ref o :: st) h := pR_L rfl rfl
theorem rX3_sort_32 : pR 68 d 32 ls (.ref o :: st) h = if pis (pfl h 3 o 5) = true then pR 68 d 35 ls (pfl h 3 o 5 :: st) h else none := r_get rfl
theorem rX3_sort_35 : pR 68 d 35 ls st h = pR 68 d 37 ls (.int 6 :: st) h := pR_L rfl rfl
theorem rX3_sort_37 : pR 68 d 37 ls (.int y :: .int x :: st) h = if x = y then pR 68 d 40 ls st h else pR 68 d 42 ls st h := r_cne rfl rfl
theorem rX3_sort_40 : pR 68 d 40 ls st h = pR 68 d 41 ls (.int (-1) :: st) h := pR_L rfl rfl
theorem rX3_sort_41 : pR 68 d 41 ls [.int x] h = some (.inl (some (.int x)), h) := pR_E rfl rfl
theorem rX3_sort_42 : pR 68 d 42 [.ref o, a1, a2, a3] st h = pR 68 d 43 [.ref o, a1, a2, a3] (.ref o :: st) h := pR_L rfl rfl
theorem rX3_sort_43 : pR 68 d 43 ls (.ref o :: st) h = if pis (pfl h 3 o 1) = true then pR 68 d 46 ls (pfl h 3 o 1 :: st) h else none := r_get rfl
theorem rX3_sort_46 : pR 68 d 46 [.ref o, a1, a2, a3] st h = pR 68 d 47 [.ref o, a1, a2, a3] (.ref o :: st) h := pR_L rfl rfl
theorem rX3_sort_47 : pR 68 d 47 ls (.ref o :: st) h = if pis (pfl h 3 o 5) = true then pR 68 d 50 ls (pfl h 3 o 5 :: st) h else none := r_get rfl
theorem rX3_sort_50 : pR 68 d 50 [a0, .int x, a2, a3] st h = pR 68 d 51 [a0, .int x, a2, a3] (.int x :: st) h := pR_L rfl rfl
theorem rX3_sort_51 : pR 68 d 51 ls (.int y :: .int x :: .ref o :: st) h = if pin x (pln h 0 o) = true then pR 68 d 52 ls st (pst h o x.toNatClampNeg y) else none := pR_Lif rfl rfl
theorem rX3_sort_52 : pR 68 d 52 [.ref o, a1, a2, a3] st h = pR 68 d 53 [.ref o, a1, a2, a3] (.ref o :: st) h := pR_L rfl rfl
theorem rX3_sort_53 : pR 68 d 53 ls (.ref o :: st) h = if pis (pfl h 3 o 2) = true then pR 68 d 56 ls (pfl h 3 o 2 :: st) h else none := r_get rfl
theorem rX3_sort_56 : pR 68 d 56 [.ref o, a1, a2, a3] st h = pR 68 d 57 [.ref o, a1, a2, a3] (.ref o :: st) h := pR_L rfl rfl
theorem rX3_sort_57 : pR 68 d 57 ls (.ref o :: st) h = if pis (pfl h 3 o 5) = true then pR 68 d 60 ls (pfl h 3 o 5 :: st) h else none := r_get rfl
theorem rX3_sort_60 : pR 68 d 60 [a0, a1, .int x, a3] st h = pR 68 d 61 [a0, a1, .int x, a3] (.int x :: st) h := pR_L rfl rfl
theorem rX3_sort_61 : pR 68 d 61 ls (.int y :: .int x :: .ref o :: st) h = if pin x (pln h 0 o) = true then pR 68 d 62 ls st (pst h o x.toNatClampNeg y) else none := pR_Lif rfl rfl
theorem rX3_sort_62 : pR 68 d 62 [.ref o, a1, a2, a3] st h = pR 68 d 63 [.ref o, a1, a2, a3] (.ref o :: st) h := pR_L rfl rfl
theorem rX3_sort_63 : pR 68 d 63 ls (.ref o :: st) h = if pis (pfl h 3 o 3) = true then pR 68 d 66 ls (pfl h 3 o 3 :: st) h else none := r_get rfl
theorem rX3_sort_66 : pR 68 d 66 [.ref o, a1, a2, a3] st h = pR 68 d 67 [.ref o, a1, a2, a3] (.ref o :: st) h := pR_L rfl rfl
theorem rX3_sort_67 : pR 68 d 67 ls (.ref o :: st) h = if pis (pfl h 3 o 5) = true then pR 68 d 70 ls (pfl h 3 o 5 :: st) h else none := r_get rfl
theorem rX3_sort_70 : pR 68 d 70 [a0, a1, a2, .int x] st h = pR 68 d 71 [a0, a1, a2, .int x] (.int x :: st) h := pR_L rfl rfl
theorem rX3_sort_71 : pR 68 d 71 ls (.int y :: .int x :: .ref o :: st) h = if pin x (pln h 0 o) = true then pR 68 d 72 ls st (pst h o x.toNatClampNeg y) else none := pR_Lif rfl rfl
theorem rX3_sort_72 : pR 68 d 72 [.ref o, a1, a2, a3] st h = pR 68 d 73 [.ref o, a1, a2, a3] (.ref o :: st) h := pR_L rfl rfl
theorem rX3_sort_73 : pR 68 d 73 ls (.ref o :: st) h = pR 68 d 74 ls (.ref o :: .ref o :: st) h := pR_L rfl rfl
theorem rX3_sort_73i : pR 68 d 73 ls (.int x :: st) h = pR 68 d 74 ls (.int x :: .int x :: st) h := pR_L rfl rfl
theorem rX3_sort_74 : pR 68 d 74 ls (.ref o :: st) h = if pis (pfl h 3 o 5) = true then pR 68 d 77 ls (pfl h 3 o 5 :: st) h else none := r_get rfl
theorem rX3_sort_77 : pR 68 d 77 ls st h = pR 68 d 78 ls (.int 1 :: st) h := pR_L rfl rfl
theorem rX3_sort_78 : pR 68 d 78 ls (.int y :: .int x :: st) h = pR 68 d 79 ls (.int (x + y) :: st) h := pR_L rfl rfl
theorem rX3_sort_79 : pR 68 d 79 ls (.int x :: .ref o :: st) h = if pis (pfl h 3 o 5) = true then pR 68 d 82 ls st (psf h o 5 (.int x)) else none := r_put rfl rfl
theorem rX3_sort_82 : pR 68 d 82 [.ref o, a1, a2, a3] st h = pR 68 d 83 [.ref o, a1, a2, a3] (.ref o :: st) h := pR_L rfl rfl
theorem rX3_sort_83 : pR 68 d 83 ls (.ref o :: st) h = if pis (pfl h 3 o 5) = true then pR 68 d 86 ls (pfl h 3 o 5 :: st) h else none := r_get rfl
theorem rX3_sort_86 : pR 68 d 86 ls st h = pR 68 d 87 ls (.int 1 :: st) h := pR_L rfl rfl
theorem rX3_sort_87 : pR 68 d 87 ls (.int y :: .int x :: st) h = pR 68 d 88 ls (.int (x - y) :: st) h := pR_L rfl rfl
theorem rX3_sort_88 : pR 68 d 88 ls [.int x] h = some (.inl (some (.int x)), h) := pR_E rfl rfl
-- 69 BalloonStallModel in (III)Z
theorem eX3_in : pCa 69 d [.int x0, .int x1, .int x2] h = pR 69 d 0 [.int x0, .int x1, .int x2] [] h := rfl
theorem rX3_in_0 : pR 69 d 0 [.int x, a1, a2] st h = pR 69 d 1 [.int x, a1, a2] (.int x :: st) h := pR_L rfl rfl
theorem rX3_in_1 : pR 69 d 1 [a0, .int x, a2] st h = pR 69 d 2 [a0, .int x, a2] (.int x :: st) h := pR_L rfl rfl
theorem rX3_in_2 : pR 69 d 2 ls (.int y :: .int x :: st) h = if x < y then pR 69 d 14 ls st h else pR 69 d 5 ls st h := r_clt rfl rfl
theorem rX3_in_5 : pR 69 d 5 [.int x, a1, a2] st h = pR 69 d 6 [.int x, a1, a2] (.int x :: st) h := pR_L rfl rfl
theorem rX3_in_6 : pR 69 d 6 [a0, a1, .int x] st h = pR 69 d 7 [a0, a1, .int x] (.int x :: st) h := pR_L rfl rfl
theorem rX3_in_7 : pR 69 d 7 ls (.int y :: .int x :: st) h = if y < x then pR 69 d 14 ls st h else pR 69 d 10 ls st h := r_cgt rfl rfl
theorem rX3_in_10 : pR 69 d 10 ls st h = pR 69 d 11 ls (.int 1 :: st) h := pR_L rfl rfl
theorem rX3_in_11 : pR 69 d 11 ls st h = pR 69 d 15 ls st h := pR_L rfl rfl
theorem rX3_in_14 : pR 69 d 14 ls st h = pR 69 d 15 ls (.int 0 :: st) h := pR_L rfl rfl
theorem rX3_in_150 : pR 69 d 15 ls [.int 0] h = some (.inl (some (.int 0)), h) := pR_E rfl rfl
theorem rX3_in_151 : pR 69 d 15 ls [.int 1] h = some (.inl (some (.int 1)), h) := pR_E rfl rfl
-- 70 BalloonStallModel feed (IIIII)I
theorem eX3_feed : pCa 70 d [.ref o, .int x0, .int x1, .int x2, .int x3, .int x4] h = pR 70 d 0 [.ref o, .int x0, .int x1, .int x2, .int x3, .int x4, pU, pU, pU] [] h := rfl
theorem rX3_feed_0 : pR 70 d 0 ls st h = pR 70 d 1 ls (.int 0 :: st) h := pR_L rfl rfl
theorem rX3_feed_1 : pR 70 d 1 [a0, a1, a2, a3, a4, a5, a6, a7, a8] (.int x :: st) h = if p1 a6 = true then pR 70 d 3 [a0, a1, a2, a3, a4, a5, .int x, a7, a8] st h else none := r_sto (n := 2) (k := 6) (v := .int x) (ls := [a0, a1, a2, a3, a4, a5, a6, a7, a8]) rfl rfl rfl
theorem rX3_feed_3 : pR 70 d 3 ls st h = pR 70 d 4 ls (.int 0 :: st) h := pR_L rfl rfl
theorem rX3_feed_4 : pR 70 d 4 [a0, a1, a2, a3, a4, a5, a6, a7, a8] (.int x :: st) h = if p1 a7 = true then pR 70 d 6 [a0, a1, a2, a3, a4, a5, a6, .int x, a8] st h else none := r_sto (n := 2) (k := 7) (v := .int x) (ls := [a0, a1, a2, a3, a4, a5, a6, a7, a8]) rfl rfl rfl
theorem rX3_feed_6 : pR 70 d 6 [a0, a1, a2, a3, a4, a5, a6, .int x, a8] st h = pR 70 d 8 [a0, a1, a2, a3, a4, a5, a6, .int x, a8] (.int x :: st) h := pR_L rfl rfl
theorem rX3_feed_8 : pR 70 d 8 ls st h = pR 70 d 10 ls (.int 20 :: st) h := pR_L rfl rfl
theorem rX3_feed_10 : pR 70 d 10 ls (.int y :: .int x :: st) h = if x < y then pR 70 d 13 ls st h else pR 70 d 44 ls st h := r_cge rfl rfl
theorem rX3_feed_13 : pR 70 d 13 [a0, a1, a2, a3, a4, a5, .int x, a7, a8] st h = pR 70 d 15 [a0, a1, a2, a3, a4, a5, .int x, a7, a8] (.int x :: st) h := pR_L rfl rfl
theorem rX3_feed_15 : pR 70 d 15 [a0, .int x, a2, a3, a4, a5, a6, a7, a8] st h = pR 70 d 16 [a0, .int x, a2, a3, a4, a5, a6, a7, a8] (.int x :: st) h := pR_L rfl rfl
theorem rX3_feed_16 : pR 70 d 16 [a0, a1, .int x, a3, a4, a5, a6, a7, a8] st h = pR 70 d 17 [a0, a1, .int x, a3, a4, a5, a6, a7, a8] (.int x :: st) h := pR_L rfl rfl
theorem rX3_feed_17 : pR 70 d 17 [a0, a1, a2, .int x, a4, a5, a6, a7, a8] st h = pR 70 d 18 [a0, a1, a2, .int x, a4, a5, a6, a7, a8] (.int x :: st) h := pR_L rfl rfl
theorem rX3_feed_18 : pR 70 d 18 [a0, a1, a2, a3, .int x, a5, a6, a7, a8] st h = pR 70 d 20 [a0, a1, a2, a3, .int x, a5, a6, a7, a8] (.int x :: st) h := pR_L rfl rfl
theorem rX3_feed_20 : pR 70 d 20 [a0, a1, a2, a3, a4, .int x, a6, a7, a8] st h = pR 70 d 22 [a0, a1, a2, a3, a4, .int x, a6, a7, a8] (.int x :: st) h := pR_L rfl rfl
theorem rX3_feed_22 : pR 70 d 22 [a0, a1, a2, a3, a4, a5, a6, .int x, a8] st h = pR 70 d 24 [a0, a1, a2, a3, a4, a5, a6, .int x, a8] (.int x :: st) h := pR_L rfl rfl
theorem rX3_feed_24 : pR 70 (d + 1) 24 ls (b5 :: b4 :: b3 :: b2 :: b1 :: b0 :: st) h = if pw st = true then pK 70 (d + 1) 24 3 ls st (pCa 71 d [b0, b1, b2, b3, b4, b5] h) else none := r_callS rfl rfl rfl
theorem rX3_feed_27 : pR 70 d 27 ls (.int x :: st) h = if x = 0 then pR 70 d 34 ls st h else pR 70 d 30 ls st h := r_ieq rfl rfl
theorem rX3_feed_30 : pR 70 d 30 ls st h = pR 70 d 31 ls (.int 1 :: st) h := pR_L rfl rfl
theorem rX3_feed_31 : pR 70 d 31 ls st h = pR 70 d 35 ls st h := pR_L rfl rfl
theorem rX3_feed_34 : pR 70 d 34 ls st h = pR 70 d 35 ls (.int 0 :: st) h := pR_L rfl rfl
theorem rX3_feed_35 : pR 70 d 35 ls (.int y :: .int x :: st) h = pR 70 d 36 ls (.int (x + y) :: st) h := pR_L rfl rfl
theorem rX3_feed_36 : pR 70 d 36 [a0, a1, a2, a3, a4, a5, a6, a7, a8] (.int x :: st) h = if p1 a6 = true then pR 70 d 38 [a0, a1, a2, a3, a4, a5, .int x, a7, a8] st h else none := r_sto (n := 2) (k := 6) (v := .int x) (ls := [a0, a1, a2, a3, a4, a5, a6, a7, a8]) rfl rfl rfl
theorem rX3_feed_38 : pR 70 d 38 [a0, a1, a2, a3, a4, a5, a6, .int x, a8] st h = pR 70 d 41 [a0, a1, a2, a3, a4, a5, a6, .int (x + 1), a8] st h := pR_L rfl rfl
theorem rX3_feed_41 : pR 70 d 41 ls st h = pR 70 d 6 ls st h := pR_L rfl rfl
theorem rX3_feed_44 : pR 70 d 44 [.ref o, a1, a2, a3, a4, a5, a6, a7, a8] st h = pR 70 d 45 [.ref o, a1, a2, a3, a4, a5, a6, a7, a8] (.ref o :: st) h := pR_L rfl rfl
theorem rX3_feed_45 : pR 70 d 45 ls (.ref o :: st) h = if pis (pfl h 3 o 7) = true then pR 70 d 48 ls (pfl h 3 o 7 :: st) h else none := r_get rfl
theorem rX3_feed_48 : pR 70 d 48 [a0, a1, a2, a3, a4, a5, .int x, a7, a8] st h = pR 70 d 50 [a0, a1, a2, a3, a4, a5, .int x, a7, a8] (.int x :: st) h := pR_L rfl rfl
theorem rX3_feed_50 : pR 70 d 50 ls (.int y :: .int x :: st) h = pR 70 d 51 ls (.int (x + y) :: st) h := pR_L rfl rfl
theorem rX3_feed_51 : pR 70 d 51 ls st h = pR 70 d 54 ls (.int 200 :: st) h := pR_L rfl rfl
theorem rX3_feed_54 : pR 70 d 54 ls (.int y :: .int x :: st) h = if y < x then pR 70 d 57 ls st h else pR 70 d 59 ls st h := r_cle rfl rfl
theorem rX3_feed_57 : pR 70 d 57 ls st h = pR 70 d 58 ls (.int (-1) :: st) h := pR_L rfl rfl
theorem rX3_feed_58 : pR 70 d 58 ls [.int x] h = some (.inl (some (.int x)), h) := pR_E rfl rfl
theorem rX3_feed_59 : pR 70 d 59 ls st h = pR 70 d 60 ls (.int 0 :: st) h := pR_L rfl rfl
theorem rX3_feed_60 : pR 70 d 60 [a0, a1, a2, a3, a4, a5, a6, a7, a8] (.int x :: st) h = if p1 a7 = true then pR 70 d 62 [a0, a1, a2, a3, a4, a5, a6, .int x, a8] st h else none := r_sto (n := 2) (k := 7) (v := .int x) (ls := [a0, a1, a2, a3, a4, a5, a6, a7, a8]) rfl rfl rfl
theorem rX3_feed_62 : pR 70 d 62 [a0, a1, a2, a3, a4, a5, a6, .int x, a8] st h = pR 70 d 64 [a0, a1, a2, a3, a4, a5, a6, .int x, a8] (.int x :: st) h := pR_L rfl rfl
theorem rX3_feed_64 : pR 70 d 64 ls st h = pR 70 d 66 ls (.int 20 :: st) h := pR_L rfl rfl
theorem rX3_feed_66 : pR 70 d 66 ls (.int y :: .int x :: st) h = if x < y then pR 70 d 69 ls st h else pR 70 d 115 ls st h := r_cge rfl rfl
theorem rX3_feed_69 : pR 70 d 69 [a0, .int x, a2, a3, a4, a5, a6, a7, a8] st h = pR 70 d 70 [a0, .int x, a2, a3, a4, a5, a6, a7, a8] (.int x :: st) h := pR_L rfl rfl
theorem rX3_feed_70 : pR 70 d 70 [a0, a1, .int x, a3, a4, a5, a6, a7, a8] st h = pR 70 d 71 [a0, a1, .int x, a3, a4, a5, a6, a7, a8] (.int x :: st) h := pR_L rfl rfl
theorem rX3_feed_71 : pR 70 d 71 [a0, a1, a2, .int x, a4, a5, a6, a7, a8] st h = pR 70 d 72 [a0, a1, a2, .int x, a4, a5, a6, a7, a8] (.int x :: st) h := pR_L rfl rfl
theorem rX3_feed_72 : pR 70 d 72 [a0, a1, a2, a3, .int x, a5, a6, a7, a8] st h = pR 70 d 74 [a0, a1, a2, a3, .int x, a5, a6, a7, a8] (.int x :: st) h := pR_L rfl rfl
theorem rX3_feed_74 : pR 70 d 74 [a0, a1, a2, a3, a4, .int x, a6, a7, a8] st h = pR 70 d 76 [a0, a1, a2, a3, a4, .int x, a6, a7, a8] (.int x :: st) h := pR_L rfl rfl
theorem rX3_feed_76 : pR 70 d 76 [a0, a1, a2, a3, a4, a5, a6, .int x, a8] st h = pR 70 d 78 [a0, a1, a2, a3, a4, a5, a6, .int x, a8] (.int x :: st) h := pR_L rfl rfl
theorem rX3_feed_78 : pR 70 (d + 1) 78 ls (b5 :: b4 :: b3 :: b2 :: b1 :: b0 :: st) h = if pw st = true then pK 70 (d + 1) 78 3 ls st (pCa 71 d [b0, b1, b2, b3, b4, b5] h) else none := r_callS rfl rfl rfl
theorem rX3_feed_81 : pR 70 d 81 [a0, a1, a2, a3, a4, a5, a6, a7, a8] (.int x :: st) h = if p1 a8 = true then pR 70 d 83 [a0, a1, a2, a3, a4, a5, a6, a7, .int x] st h else none := r_sto (n := 2) (k := 8) (v := .int x) (ls := [a0, a1, a2, a3, a4, a5, a6, a7, a8]) rfl rfl rfl
theorem rX3_feed_83 : pR 70 d 83 [a0, a1, a2, a3, a4, a5, a6, a7, .int x] st h = pR 70 d 85 [a0, a1, a2, a3, a4, a5, a6, a7, .int x] (.int x :: st) h := pR_L rfl rfl
theorem rX3_feed_85 : pR 70 d 85 ls (.int x :: st) h = if x = 0 then pR 70 d 109 ls st h else pR 70 d 88 ls st h := r_ieq rfl rfl
theorem rX3_feed_88 : pR 70 d 88 [.ref o, a1, a2, a3, a4, a5, a6, a7, a8] st h = pR 70 d 89 [.ref o, a1, a2, a3, a4, a5, a6, a7, a8] (.ref o :: st) h := pR_L rfl rfl
theorem rX3_feed_89 : pR 70 d 89 ls (.ref o :: st) h = if pis (pfl h 3 o 6) = true then pR 70 d 92 ls (pfl h 3 o 6 :: st) h else none := r_get rfl
theorem rX3_feed_92 : pR 70 d 92 [.ref o, a1, a2, a3, a4, a5, a6, a7, a8] st h = pR 70 d 93 [.ref o, a1, a2, a3, a4, a5, a6, a7, a8] (.ref o :: st) h := pR_L rfl rfl
theorem rX3_feed_93 : pR 70 d 93 ls (.ref o :: st) h = if pis (pfl h 3 o 7) = true then pR 70 d 96 ls (pfl h 3 o 7 :: st) h else none := r_get rfl
theorem rX3_feed_96 : pR 70 d 96 [a0, a1, a2, a3, a4, a5, a6, a7, .int x] st h = pR 70 d 98 [a0, a1, a2, a3, a4, a5, a6, a7, .int x] (.int x :: st) h := pR_L rfl rfl
theorem rX3_feed_98 : pR 70 d 98 ls (.int y :: .int x :: .ref o :: st) h = if pin x (pln h 0 o) = true then pR 70 d 99 ls st (pst h o x.toNatClampNeg y) else none := pR_Lif rfl rfl
theorem rX3_feed_99 : pR 70 d 99 [.ref o, a1, a2, a3, a4, a5, a6, a7, a8] st h = pR 70 d 100 [.ref o, a1, a2, a3, a4, a5, a6, a7, a8] (.ref o :: st) h := pR_L rfl rfl
theorem rX3_feed_100 : pR 70 d 100 ls (.ref o :: st) h = pR 70 d 101 ls (.ref o :: .ref o :: st) h := pR_L rfl rfl
theorem rX3_feed_100i : pR 70 d 100 ls (.int x :: st) h = pR 70 d 101 ls (.int x :: .int x :: st) h := pR_L rfl rfl
theorem rX3_feed_101 : pR 70 d 101 ls (.ref o :: st) h = if pis (pfl h 3 o 7) = true then pR 70 d 104 ls (pfl h 3 o 7 :: st) h else none := r_get rfl
theorem rX3_feed_104 : pR 70 d 104 ls st h = pR 70 d 105 ls (.int 1 :: st) h := pR_L rfl rfl
theorem rX3_feed_105 : pR 70 d 105 ls (.int y :: .int x :: st) h = pR 70 d 106 ls (.int (x + y) :: st) h := pR_L rfl rfl
theorem rX3_feed_106 : pR 70 d 106 ls (.int x :: .ref o :: st) h = if pis (pfl h 3 o 7) = true then pR 70 d 109 ls st (psf h o 7 (.int x)) else none := r_put rfl rfl
theorem rX3_feed_109 : pR 70 d 109 [a0, a1, a2, a3, a4, a5, a6, .int x, a8] st h = pR 70 d 112 [a0, a1, a2, a3, a4, a5, a6, .int (x + 1), a8] st h := pR_L rfl rfl
theorem rX3_feed_112 : pR 70 d 112 ls st h = pR 70 d 62 ls st h := pR_L rfl rfl
theorem rX3_feed_115 : pR 70 d 115 [.ref o, a1, a2, a3, a4, a5, a6, a7, a8] st h = pR 70 d 116 [.ref o, a1, a2, a3, a4, a5, a6, a7, a8] (.ref o :: st) h := pR_L rfl rfl
theorem rX3_feed_116 : pR 70 d 116 ls (.ref o :: st) h = if pis (pfl h 3 o 7) = true then pR 70 d 119 ls (pfl h 3 o 7 :: st) h else none := r_get rfl
theorem rX3_feed_119 : pR 70 d 119 ls [.int x] h = some (.inl (some (.int x)), h) := pR_E rfl rfl
-- 71 BalloonStallModel byteOf (IIIIII)I
theorem eX3_byteOf : pCa 71 d [.int x0, .int x1, .int x2, .int x3, .int x4, .int x5] h = pR 71 d 0 [.int x0, .int x1, .int x2, .int x3, .int x4, .int x5, pU] [] h := rfl
theorem rX3_byteOf_0 : pR 71 d 0 [a0, a1, a2, a3, a4, .int x, a6] st h = pR 71 d 2 [a0, a1, a2, a3, a4, .int x, a6] (.int x :: st) h := pR_L rfl rfl
theorem rX3_byteOf_2 : pR 71 d 2 ls st h = pR 71 d 3 ls (.int 4 :: st) h := pR_L rfl rfl
theorem rX3_byteOf_3 : pR 71 d 3 ls (.int y :: .int x :: st) h = if x < y then pR 71 d 6 ls st h else pR 71 d 10 ls st h := r_cge rfl rfl
theorem rX3_byteOf_6 : pR 71 d 6 [.int x, a1, a2, a3, a4, a5, a6] st h = pR 71 d 7 [.int x, a1, a2, a3, a4, a5, a6] (.int x :: st) h := pR_L rfl rfl
theorem rX3_byteOf_7 : pR 71 d 7 ls st h = pR 71 d 45 ls st h := pR_L rfl rfl
theorem rX3_byteOf_10 : pR 71 d 10 [a0, a1, a2, a3, a4, .int x, a6] st h = pR 71 d 12 [a0, a1, a2, a3, a4, .int x, a6] (.int x :: st) h := pR_L rfl rfl
theorem rX3_byteOf_12 : pR 71 d 12 ls st h = pR 71 d 14 ls (.int 8 :: st) h := pR_L rfl rfl
theorem rX3_byteOf_14 : pR 71 d 14 ls (.int y :: .int x :: st) h = if x < y then pR 71 d 17 ls st h else pR 71 d 21 ls st h := r_cge rfl rfl
theorem rX3_byteOf_17 : pR 71 d 17 [a0, .int x, a2, a3, a4, a5, a6] st h = pR 71 d 18 [a0, .int x, a2, a3, a4, a5, a6] (.int x :: st) h := pR_L rfl rfl
theorem rX3_byteOf_18 : pR 71 d 18 ls st h = pR 71 d 45 ls st h := pR_L rfl rfl
theorem rX3_byteOf_21 : pR 71 d 21 [a0, a1, a2, a3, a4, .int x, a6] st h = pR 71 d 23 [a0, a1, a2, a3, a4, .int x, a6] (.int x :: st) h := pR_L rfl rfl
theorem rX3_byteOf_23 : pR 71 d 23 ls st h = pR 71 d 25 ls (.int 12 :: st) h := pR_L rfl rfl
theorem rX3_byteOf_25 : pR 71 d 25 ls (.int y :: .int x :: st) h = if x < y then pR 71 d 28 ls st h else pR 71 d 32 ls st h := r_cge rfl rfl
theorem rX3_byteOf_28 : pR 71 d 28 [a0, a1, .int x, a3, a4, a5, a6] st h = pR 71 d 29 [a0, a1, .int x, a3, a4, a5, a6] (.int x :: st) h := pR_L rfl rfl
theorem rX3_byteOf_29 : pR 71 d 29 ls st h = pR 71 d 45 ls st h := pR_L rfl rfl
theorem rX3_byteOf_32 : pR 71 d 32 [a0, a1, a2, a3, a4, .int x, a6] st h = pR 71 d 34 [a0, a1, a2, a3, a4, .int x, a6] (.int x :: st) h := pR_L rfl rfl
theorem rX3_byteOf_34 : pR 71 d 34 ls st h = pR 71 d 36 ls (.int 16 :: st) h := pR_L rfl rfl
theorem rX3_byteOf_36 : pR 71 d 36 ls (.int y :: .int x :: st) h = if x < y then pR 71 d 39 ls st h else pR 71 d 43 ls st h := r_cge rfl rfl
theorem rX3_byteOf_39 : pR 71 d 39 [a0, a1, a2, .int x, a4, a5, a6] st h = pR 71 d 40 [a0, a1, a2, .int x, a4, a5, a6] (.int x :: st) h := pR_L rfl rfl
theorem rX3_byteOf_40 : pR 71 d 40 ls st h = pR 71 d 45 ls st h := pR_L rfl rfl
theorem rX3_byteOf_43 : pR 71 d 43 [a0, a1, a2, a3, .int x, a5, a6] st h = pR 71 d 45 [a0, a1, a2, a3, .int x, a5, a6] (.int x :: st) h := pR_L rfl rfl
theorem rX3_byteOf_45 : pR 71 d 45 [a0, a1, a2, a3, a4, a5, a6] (.int x :: st) h = if p1 a6 = true then pR 71 d 47 [a0, a1, a2, a3, a4, a5, .int x] st h else none := r_sto (n := 2) (k := 6) (v := .int x) (ls := [a0, a1, a2, a3, a4, a5, a6]) rfl rfl rfl
theorem rX3_byteOf_47 : pR 71 d 47 [a0, a1, a2, a3, a4, a5, .int x] st h = pR 71 d 49 [a0, a1, a2, a3, a4, a5, .int x] (.int x :: st) h := pR_L rfl rfl
theorem rX3_byteOf_49 : pR 71 d 49 ls st h = pR 71 d 51 ls (.int 24 :: st) h := pR_L rfl rfl
theorem rX3_byteOf_51 : pR 71 d 51 ls st h = pR 71 d 53 ls (.int 8 :: st) h := pR_L rfl rfl
theorem rX3_byteOf_53 : pR 71 d 53 [a0, a1, a2, a3, a4, .int x, a6] st h = pR 71 d 55 [a0, a1, a2, a3, a4, .int x, a6] (.int x :: st) h := pR_L rfl rfl
theorem rX3_byteOf_55 : pR 71 d 55 ls st h = pR 71 d 56 ls (.int 4 :: st) h := pR_L rfl rfl
theorem rX3_byteOf_56 : pR 71 d 56 ls (.int y :: .int x :: st) h = if y = 0 then none else pR 71 d 57 ls (.int (x - x / y * y) :: st) h := r_rem rfl
theorem rX3_byteOf_57 : pR 71 d 57 ls (.int y :: .int x :: st) h = pR 71 d 58 ls (.int (x * y) :: st) h := pR_L rfl rfl
theorem rX3_byteOf_58 : pR 71 d 58 ls (.int y :: .int x :: st) h = pR 71 d 59 ls (.int (x - y) :: st) h := pR_L rfl rfl
theorem rX3_byteOf_59 : pR 71 d 59 ls (.int y :: .int x :: st) h = pR 71 d 60 ls (.int (x >>> (y &&& 31)) :: st) h := pR_L rfl rfl
theorem rX3_byteOf_60 : pR 71 d 60 ls st h = pR 71 d 63 ls (.int 255 :: st) h := pR_L rfl rfl
theorem rX3_byteOf_63 : pR 71 d 63 ls (.int y :: .int x :: st) h = pR 71 d 64 ls (.int (x &&& y) :: st) h := pR_L rfl rfl
theorem rX3_byteOf_64 : pR 71 d 64 ls [.int x] h = some (.inl (some (.int x)), h) := pR_E rfl rfl
-- 72 BalloonStallModel end (I)Z
theorem eX3_end : pCa 72 d [.ref o, .int x0] h = pR 72 d 0 [.ref o, .int x0] [] h := rfl
theorem rX3_end_0 : pR 72 d 0 [a0, .int x] st h = pR 72 d 1 [a0, .int x] (.int x :: st) h := pR_L rfl rfl
theorem rX3_end_1 : pR 72 d 1 ls (.int x :: st) h = if x < 0 then pR 72 d 12 ls st h else pR 72 d 4 ls st h := r_ilt rfl rfl
theorem rX3_end_4 : pR 72 d 4 [a0, .int x] st h = pR 72 d 5 [a0, .int x] (.int x :: st) h := pR_L rfl rfl
theorem rX3_end_5 : pR 72 d 5 [.ref o, a1] st h = pR 72 d 6 [.ref o, a1] (.ref o :: st) h := pR_L rfl rfl
theorem rX3_end_6 : pR 72 d 6 ls (.ref o :: st) h = if pis (pfl h 3 o 7) = true then pR 72 d 9 ls (pfl h 3 o 7 :: st) h else none := r_get rfl
theorem rX3_end_9 : pR 72 d 9 ls (.int y :: .int x :: st) h = if y < x then pR 72 d 12 ls st h else pR 72 d 14 ls st h := r_cle rfl rfl
theorem rX3_end_12 : pR 72 d 12 ls st h = pR 72 d 13 ls (.int 0 :: st) h := pR_L rfl rfl
theorem rX3_end_130 : pR 72 d 13 ls [.int 0] h = some (.inl (some (.int 0)), h) := pR_E rfl rfl
theorem rX3_end_131 : pR 72 d 13 ls [.int 1] h = some (.inl (some (.int 1)), h) := pR_E rfl rfl
theorem rX3_end_14 : pR 72 d 14 [.ref o, a1] st h = pR 72 d 15 [.ref o, a1] (.ref o :: st) h := pR_L rfl rfl
theorem rX3_end_15 : pR 72 d 15 [a0, .int x] st h = pR 72 d 16 [a0, .int x] (.int x :: st) h := pR_L rfl rfl
theorem rX3_end_16 : pR 72 d 16 ls (.int x :: .ref o :: st) h = if pis (pfl h 3 o 7) = true then pR 72 d 19 ls st (psf h o 7 (.int x)) else none := r_put rfl rfl
theorem rX3_end_19 : pR 72 d 19 ls st h = pR 72 d 20 ls (.int 1 :: st) h := pR_L rfl rfl
theorem rX3_end_200 : pR 72 d 20 ls [.int 0] h = some (.inl (some (.int 0)), h) := pR_E rfl rfl
theorem rX3_end_201 : pR 72 d 20 ls [.int 1] h = some (.inl (some (.int 1)), h) := pR_E rfl rfl
-- 73 BalloonStallModel fault (I)I
theorem eX3_fault : pCa 73 d [.ref o, .int x0] h = pR 73 d 0 [.ref o, .int x0] [] h := rfl
theorem rX3_fault_0 : pR 73 d 0 [a0, .int x] st h = pR 73 d 1 [a0, .int x] (.int x :: st) h := pR_L rfl rfl
theorem rX3_fault_1 : pR 73 d 1 ls (.int x :: st) h = if x = 0 then pR 73 d 4 ls st h else pR 73 d 13 ls st h := r_ine rfl rfl
theorem rX3_fault_4 : pR 73 d 4 [.ref o, a1] st h = pR 73 d 5 [.ref o, a1] (.ref o :: st) h := pR_L rfl rfl
theorem rX3_fault_5 : pR 73 d 5 ls st h = pR 73 d 7 ls (.int 12 :: st) h := pR_L rfl rfl
theorem rX3_fault_7 : pR 73 (d + 1) 7 ls (b1 :: .ref o :: st) h = if (pok 3 (pcl h o) && pw st) = true then pK 73 (d + 1) 7 3 ls st (pCa 74 d [.ref o, b1] h) else none := r_callV rfl rfl rfl
theorem rX3_fault_10 : pR 73 d 10 ls st h = pR 73 d 29 ls st h := pR_L rfl rfl
theorem rX3_fault_13 : pR 73 d 13 [a0, .int x] st h = pR 73 d 14 [a0, .int x] (.int x :: st) h := pR_L rfl rfl
theorem rX3_fault_14 : pR 73 d 14 ls st h = pR 73 d 15 ls (.int 1 :: st) h := pR_L rfl rfl
theorem rX3_fault_15 : pR 73 d 15 ls (.int y :: .int x :: st) h = if x = y then pR 73 d 18 ls st h else pR 73 d 27 ls st h := r_cne rfl rfl
theorem rX3_fault_18 : pR 73 d 18 [.ref o, a1] st h = pR 73 d 19 [.ref o, a1] (.ref o :: st) h := pR_L rfl rfl
theorem rX3_fault_19 : pR 73 d 19 ls st h = pR 73 d 21 ls (.int 6 :: st) h := pR_L rfl rfl
theorem rX3_fault_21 : pR 73 (d + 1) 21 ls (b1 :: .ref o :: st) h = if (pok 3 (pcl h o) && pw st) = true then pK 73 (d + 1) 21 3 ls st (pCa 88 d [.ref o, b1] h) else none := r_callV rfl rfl rfl
theorem rX3_fault_24 : pR 73 d 24 ls st h = pR 73 d 29 ls st h := pR_L rfl rfl
theorem rX3_fault_27 : pR 73 d 27 ls st h = pR 73 d 29 ls (.int (-2) :: st) h := pR_L rfl rfl
theorem rX3_fault_29 : pR 73 d 29 ls [.int x] h = some (.inl (some (.int x)), h) := pR_E rfl rfl
-- 74 BalloonStallModel readFigure (I)I
theorem eX3_readFigure : pCa 74 d [.ref o, .int x0] h = pR 74 d 0 [.ref o, .int x0, pU] [] h := rfl
theorem rX3_readFigure_0 : pR 74 d 0 [.ref o, a1, a2] st h = pR 74 d 1 [.ref o, a1, a2] (.ref o :: st) h := pR_L rfl rfl
theorem rX3_readFigure_1 : pR 74 d 1 [a0, .int x, a2] st h = pR 74 d 2 [a0, .int x, a2] (.int x :: st) h := pR_L rfl rfl
theorem rX3_readFigure_2 : pR 74 d 2 ls (.int x :: .ref o :: st) h = if pis (pfl h 3 o 25) = true then pR 74 d 5 ls st (psf h o 25 (.int x)) else none := r_put rfl rfl
theorem rX3_readFigure_5 : pR 74 d 5 [.ref o, a1, a2] st h = pR 74 d 6 [.ref o, a1, a2] (.ref o :: st) h := pR_L rfl rfl
theorem rX3_readFigure_6 : pR 74 d 6 ls st h = pR 74 d 7 ls (.int 0 :: st) h := pR_L rfl rfl
theorem rX3_readFigure_7 : pR 74 d 7 ls (.int x :: .ref o :: st) h = if pis (pfl h 3 o 8) = true then pR 74 d 10 ls st (psf h o 8 (.int x)) else none := r_put rfl rfl
theorem rX3_readFigure_10 : pR 74 d 10 [.ref o, a1, a2] st h = pR 74 d 11 [.ref o, a1, a2] (.ref o :: st) h := pR_L rfl rfl
theorem rX3_readFigure_11 : pR 74 d 11 ls st h = pR 74 d 12 ls (.int (-1) :: st) h := pR_L rfl rfl
theorem rX3_readFigure_12 : pR 74 d 12 ls (.int x :: .ref o :: st) h = if pis (pfl h 3 o 9) = true then pR 74 d 15 ls st (psf h o 9 (.int x)) else none := r_put rfl rfl
theorem rX3_readFigure_15 : pR 74 d 15 [.ref o, a1, a2] st h = pR 74 d 16 [.ref o, a1, a2] (.ref o :: st) h := pR_L rfl rfl
theorem rX3_readFigure_16 : pR 74 d 16 ls st h = pR 74 d 17 ls (.int 0 :: st) h := pR_L rfl rfl
theorem rX3_readFigure_17 : pR 74 d 17 ls (.int x :: .ref o :: st) h = if pis (pfl h 3 o 10) = true then pR 74 d 20 ls st (psf h o 10 (.int x)) else none := r_put rfl rfl
theorem rX3_readFigure_20 : pR 74 d 20 [.ref o, a1, a2] st h = pR 74 d 21 [.ref o, a1, a2] (.ref o :: st) h := pR_L rfl rfl
theorem rX3_readFigure_21 : pR 74 d 21 ls st h = pR 74 d 22 ls (.int 0 :: st) h := pR_L rfl rfl
theorem rX3_readFigure_22 : pR 74 d 22 ls (.int x :: .ref o :: st) h = if pis (pfl h 3 o 23) = true then pR 74 d 25 ls st (psf h o 23 (.int x)) else none := r_put rfl rfl
theorem rX3_readFigure_25 : pR 74 d 25 [.ref o, a1, a2] st h = pR 74 d 26 [.ref o, a1, a2] (.ref o :: st) h := pR_L rfl rfl
theorem rX3_readFigure_26 : pR 74 d 26 ls (.ref o :: st) h = if pis (pfl h 3 o 11) = true then pR 74 d 29 ls (pfl h 3 o 11 :: st) h else none := r_get rfl
theorem rX3_readFigure_29 : pR 74 d 29 [.ref o, a1, a2] st h = pR 74 d 30 [.ref o, a1, a2] (.ref o :: st) h := pR_L rfl rfl
theorem rX3_readFigure_30 : pR 74 d 30 ls (.ref o :: st) h = if pis (pfl h 3 o 25) = true then pR 74 d 33 ls (pfl h 3 o 25 :: st) h else none := r_get rfl
theorem rX3_readFigure_33 : pR 74 d 33 ls st h = pR 74 d 34 ls (.int 0 :: st) h := pR_L rfl rfl
theorem rX3_readFigure_34 : pR 74 d 34 ls (.int y :: .int x :: .ref o :: st) h = if pin x (pln h 0 o) = true then pR 74 d 35 ls st (pst h o x.toNatClampNeg y) else none := pR_Lif rfl rfl
theorem rX3_readFigure_35 : pR 74 d 35 [.ref o, a1, a2] st h = pR 74 d 36 [.ref o, a1, a2] (.ref o :: st) h := pR_L rfl rfl
theorem rX3_readFigure_36 : pR 74 d 36 ls (.ref o :: st) h = if pis (pfl h 3 o 13) = true then pR 74 d 39 ls (pfl h 3 o 13 :: st) h else none := r_get rfl
theorem rX3_readFigure_39 : pR 74 d 39 [.ref o, a1, a2] st h = pR 74 d 40 [.ref o, a1, a2] (.ref o :: st) h := pR_L rfl rfl
theorem rX3_readFigure_40 : pR 74 d 40 ls (.ref o :: st) h = if pis (pfl h 3 o 25) = true then pR 74 d 43 ls (pfl h 3 o 25 :: st) h else none := r_get rfl
theorem rX3_readFigure_43 : pR 74 d 43 ls st h = pR 74 d 44 ls (.int 0 :: st) h := pR_L rfl rfl
theorem rX3_readFigure_44 : pR 74 d 44 ls (.int y :: .int x :: .ref o :: st) h = if pin x (pln h 0 o) = true then pR 74 d 45 ls st (pst h o x.toNatClampNeg y) else none := pR_Lif rfl rfl
theorem rX3_readFigure_45 : pR 74 d 45 [.ref o, a1, a2] st h = pR 74 d 46 [.ref o, a1, a2] (.ref o :: st) h := pR_L rfl rfl
theorem rX3_readFigure_46 : pR 74 d 46 ls (.ref o :: st) h = if pis (pfl h 3 o 19) = true then pR 74 d 49 ls (pfl h 3 o 19 :: st) h else none := r_get rfl
theorem rX3_readFigure_49 : pR 74 d 49 [.ref o, a1, a2] st h = pR 74 d 50 [.ref o, a1, a2] (.ref o :: st) h := pR_L rfl rfl
theorem rX3_readFigure_50 : pR 74 d 50 ls (.ref o :: st) h = if pis (pfl h 3 o 25) = true then pR 74 d 53 ls (pfl h 3 o 25 :: st) h else none := r_get rfl
theorem rX3_readFigure_53 : pR 74 d 53 ls st h = pR 74 d 54 ls (.int 0 :: st) h := pR_L rfl rfl
theorem rX3_readFigure_54 : pR 74 d 54 ls (.int y :: .int x :: .ref o :: st) h = if pin x (pln h 0 o) = true then pR 74 d 55 ls st (pst h o x.toNatClampNeg y) else none := pR_Lif rfl rfl
theorem rX3_readFigure_55 : pR 74 d 55 ls st h = pR 74 d 56 ls (.int 0 :: st) h := pR_L rfl rfl
theorem rX3_readFigure_56 : pR 74 d 56 [a0, a1, a2] (.int x :: st) h = if p1 a2 = true then pR 74 d 57 [a0, a1, .int x] st h else none := r_sto (n := 1) (k := 2) (v := .int x) (ls := [a0, a1, a2]) rfl rfl rfl
theorem rX3_readFigure_57 : pR 74 d 57 [a0, a1, .int x] st h = pR 74 d 58 [a0, a1, .int x] (.int x :: st) h := pR_L rfl rfl
theorem rX3_readFigure_58 : pR 74 d 58 ls st h = pR 74 d 60 ls (.int 8 :: st) h := pR_L rfl rfl
theorem rX3_readFigure_60 : pR 74 d 60 ls (.int y :: .int x :: st) h = if x < y then pR 74 d 63 ls st h else pR 74 d 76 ls st h := r_cge rfl rfl
theorem rX3_readFigure_63 : pR 74 d 63 [.ref o, a1, a2] st h = pR 74 d 64 [.ref o, a1, a2] (.ref o :: st) h := pR_L rfl rfl
theorem rX3_readFigure_64 : pR 74 d 64 ls (.ref o :: st) h = if pis (pfl h 3 o 22) = true then pR 74 d 67 ls (pfl h 3 o 22 :: st) h else none := r_get rfl
theorem rX3_readFigure_67 : pR 74 d 67 [a0, a1, .int x] st h = pR 74 d 68 [a0, a1, .int x] (.int x :: st) h := pR_L rfl rfl
theorem rX3_readFigure_68 : pR 74 d 68 ls st h = pR 74 d 69 ls (.int (-1) :: st) h := pR_L rfl rfl
theorem rX3_readFigure_69 : pR 74 d 69 ls (.int y :: .int x :: .ref o :: st) h = if pin x (pln h 0 o) = true then pR 74 d 70 ls st (pst h o x.toNatClampNeg y) else none := pR_Lif rfl rfl
theorem rX3_readFigure_70 : pR 74 d 70 [a0, a1, .int x] st h = pR 74 d 73 [a0, a1, .int (x + 1)] st h := pR_L rfl rfl
theorem rX3_readFigure_73 : pR 74 d 73 ls st h = pR 74 d 57 ls st h := pR_L rfl rfl
theorem rX3_readFigure_76 : pR 74 d 76 [.ref o, a1, a2] st h = pR 74 d 77 [.ref o, a1, a2] (.ref o :: st) h := pR_L rfl rfl
theorem rX3_readFigure_77 : pR 74 (d + 1) 77 ls (.ref o :: st) h = if (pok 3 (pcl h o) && pw st) = true then pK 74 (d + 1) 77 3 ls st (pCa 75 d [.ref o] h) else none := r_callV rfl rfl rfl
theorem rX3_readFigure_80 : pR 74 d 80 [.ref o, a1, a2] st h = pR 74 d 81 [.ref o, a1, a2] (.ref o :: st) h := pR_L rfl rfl
theorem rX3_readFigure_81 : pR 74 d 81 ls (.ref o :: st) h = if pis (pfl h 3 o 9) = true then pR 74 d 84 ls (pfl h 3 o 9 :: st) h else none := r_get rfl
theorem rX3_readFigure_84 : pR 74 d 84 ls st h = pR 74 d 85 ls (.int (-1) :: st) h := pR_L rfl rfl
theorem rX3_readFigure_85 : pR 74 d 85 ls (.int y :: .int x :: st) h = if x = y then pR 74 d 88 ls st h else pR 74 d 128 ls st h := r_cne rfl rfl
theorem rX3_readFigure_88 : pR 74 d 88 [.ref o, a1, a2] st h = pR 74 d 89 [.ref o, a1, a2] (.ref o :: st) h := pR_L rfl rfl
theorem rX3_readFigure_89 : pR 74 (d + 1) 89 ls (.ref o :: st) h = if (pok 3 (pcl h o) && pw st) = true then pK 74 (d + 1) 89 3 ls st (pCa 76 d [.ref o] h) else none := r_callV rfl rfl rfl
theorem rX3_readFigure_92 : pR 74 d 92 ls st h = pR 74 d 94 ls (.int 47 :: st) h := pR_L rfl rfl
theorem rX3_readFigure_94 : pR 74 d 94 ls (.int y :: .int x :: st) h = if x = y then pR 74 d 97 ls st h else pR 74 d 128 ls st h := r_cne rfl rfl
theorem rX3_readFigure_97 : pR 74 d 97 [.ref o, a1, a2] st h = pR 74 d 98 [.ref o, a1, a2] (.ref o :: st) h := pR_L rfl rfl
theorem rX3_readFigure_98 : pR 74 d 98 ls (.ref o :: st) h = if pis (pfl h 3 o 11) = true then pR 74 d 101 ls (pfl h 3 o 11 :: st) h else none := r_get rfl
theorem rX3_readFigure_101 : pR 74 d 101 [.ref o, a1, a2] st h = pR 74 d 102 [.ref o, a1, a2] (.ref o :: st) h := pR_L rfl rfl
theorem rX3_readFigure_102 : pR 74 d 102 ls (.ref o :: st) h = if pis (pfl h 3 o 25) = true then pR 74 d 105 ls (pfl h 3 o 25 :: st) h else none := r_get rfl
theorem rX3_readFigure_105 : pR 74 d 105 ls (.int x :: .ref o :: st) h = if (pin x (pln h 0 o) || pin x (pln h 9 o)) = true then pR 74 d 106 ls (.int (pct h o x.toNatClampNeg) :: st) h else none := pR_Lif rfl rfl
theorem rX3_readFigure_106 : pR 74 d 106 ls st h = pR 74 d 108 ls (.int 6 :: st) h := pR_L rfl rfl
theorem rX3_readFigure_108 : pR 74 d 108 ls (.int y :: .int x :: st) h = if x < y then pR 74 d 111 ls st h else pR 74 d 128 ls st h := r_cge rfl rfl
theorem rX3_readFigure_111 : pR 74 d 111 [.ref o, a1, a2] st h = pR 74 d 112 [.ref o, a1, a2] (.ref o :: st) h := pR_L rfl rfl
theorem rX3_readFigure_112 : pR 74 d 112 ls (.ref o :: st) h = pR 74 d 113 ls (.ref o :: .ref o :: st) h := pR_L rfl rfl
theorem rX3_readFigure_112i : pR 74 d 112 ls (.int x :: st) h = pR 74 d 113 ls (.int x :: .int x :: st) h := pR_L rfl rfl
theorem rX3_readFigure_113 : pR 74 d 113 ls (.ref o :: st) h = if pis (pfl h 3 o 8) = true then pR 74 d 116 ls (pfl h 3 o 8 :: st) h else none := r_get rfl
theorem rX3_readFigure_116 : pR 74 d 116 ls st h = pR 74 d 117 ls (.int 1 :: st) h := pR_L rfl rfl
theorem rX3_readFigure_117 : pR 74 d 117 ls (.int y :: .int x :: st) h = pR 74 d 118 ls (.int (x + y) :: st) h := pR_L rfl rfl
theorem rX3_readFigure_118 : pR 74 d 118 ls (.int x :: .ref o :: st) h = if pis (pfl h 3 o 8) = true then pR 74 d 121 ls st (psf h o 8 (.int x)) else none := r_put rfl rfl
theorem rX3_readFigure_121 : pR 74 d 121 [.ref o, a1, a2] st h = pR 74 d 122 [.ref o, a1, a2] (.ref o :: st) h := pR_L rfl rfl
theorem rX3_readFigure_122 : pR 74 (d + 1) 122 ls (.ref o :: st) h = if (pok 3 (pcl h o) && pw st) = true then pK 74 (d + 1) 122 3 ls st (pCa 75 d [.ref o] h) else none := r_callV rfl rfl rfl
theorem rX3_readFigure_125 : pR 74 d 125 ls st h = pR 74 d 80 ls st h := pR_L rfl rfl
theorem rX3_readFigure_128 : pR 74 d 128 [.ref o, a1, a2] st h = pR 74 d 129 [.ref o, a1, a2] (.ref o :: st) h := pR_L rfl rfl
theorem rX3_readFigure_129 : pR 74 d 129 ls (.ref o :: st) h = if pis (pfl h 3 o 9) = true then pR 74 d 132 ls (pfl h 3 o 9 :: st) h else none := r_get rfl
theorem rX3_readFigure_132 : pR 74 d 132 ls st h = pR 74 d 133 ls (.int (-1) :: st) h := pR_L rfl rfl
theorem rX3_readFigure_133 : pR 74 d 133 ls (.int y :: .int x :: st) h = if x = y then pR 74 d 136 ls st h else pR 74 d 148 ls st h := r_cne rfl rfl
theorem rX3_readFigure_136 : pR 74 d 136 [.ref o, a1, a2] st h = pR 74 d 137 [.ref o, a1, a2] (.ref o :: st) h := pR_L rfl rfl
theorem rX3_readFigure_137 : pR 74 (d + 1) 137 ls (.ref o :: st) h = if (pok 3 (pcl h o) && pw st) = true then pK 74 (d + 1) 137 3 ls st (pCa 76 d [.ref o] h) else none := r_callV rfl rfl rfl
theorem rX3_readFigure_140 : pR 74 d 140 ls st h = pR 74 d 141 ls (.int (-1) :: st) h := pR_L rfl rfl
theorem rX3_readFigure_141 : pR 74 d 141 ls (.int y :: .int x :: st) h = if x = y then pR 74 d 148 ls st h else pR 74 d 144 ls st h := r_ceq rfl rfl
theorem rX3_readFigure_144 : pR 74 d 144 [.ref o, a1, a2] st h = pR 74 d 145 [.ref o, a1, a2] (.ref o :: st) h := pR_L rfl rfl
theorem rX3_readFigure_145 : pR 74 (d + 1) 145 ls (.ref o :: st) h = if (pok 3 (pcl h o) && pw st) = true then pK 74 (d + 1) 145 3 ls st (pCa 78 d [.ref o] h) else none := r_callV rfl rfl rfl
theorem rX3_readFigure_148 : pR 74 d 148 [.ref o, a1, a2] st h = pR 74 d 149 [.ref o, a1, a2] (.ref o :: st) h := pR_L rfl rfl
theorem rX3_readFigure_149 : pR 74 d 149 ls (.ref o :: st) h = if pis (pfl h 3 o 9) = true then pR 74 d 152 ls (pfl h 3 o 9 :: st) h else none := r_get rfl
theorem rX3_readFigure_152 : pR 74 d 152 ls st h = pR 74 d 153 ls (.int (-1) :: st) h := pR_L rfl rfl
theorem rX3_readFigure_153 : pR 74 d 153 ls (.int y :: .int x :: st) h = if x = y then pR 74 d 156 ls st h else pR 74 d 160 ls st h := r_cne rfl rfl
theorem rX3_readFigure_156 : pR 74 d 156 [.ref o, a1, a2] st h = pR 74 d 157 [.ref o, a1, a2] (.ref o :: st) h := pR_L rfl rfl
theorem rX3_readFigure_157 : pR 74 (d + 1) 157 ls (.ref o :: st) h = if (pok 3 (pcl h o) && pw st) = true then pK 74 (d + 1) 157 3 ls st (pCa 87 d [.ref o] h) else none := r_callV rfl rfl rfl
theorem rX3_readFigure_160 : pR 74 d 160 [.ref o, a1, a2] st h = pR 74 d 161 [.ref o, a1, a2] (.ref o :: st) h := pR_L rfl rfl
theorem rX3_readFigure_161 : pR 74 d 161 ls (.ref o :: st) h = if pis (pfl h 3 o 9) = true then pR 74 d 164 ls (pfl h 3 o 9 :: st) h else none := r_get rfl
theorem rX3_readFigure_164 : pR 74 d 164 ls [.int x] h = some (.inl (some (.int x)), h) := pR_E rfl rfl
-- 75 BalloonStallModel balloon ()V
theorem eX3_balloon : pCa 75 d [.ref o] h = pR 75 d 0 [.ref o, pU] [] h := rfl
theorem rX3_balloon_0 : pR 75 d 0 [.ref o, a1] st h = pR 75 d 1 [.ref o, a1] (.ref o :: st) h := pR_L rfl rfl
theorem rX3_balloon_1 : pR 75 (d + 1) 1 ls (.ref o :: st) h = if (pok 3 (pcl h o) && pw st) = true then pK 75 (d + 1) 1 3 ls st (pCa 76 d [.ref o] h) else none := r_callV rfl rfl rfl
theorem rX3_balloon_4 : pR 75 d 4 ls st h = pR 75 d 6 ls (.int 35 :: st) h := pR_L rfl rfl
theorem rX3_balloon_6 : pR 75 d 6 ls (.int y :: .int x :: st) h = if x = y then pR 75 d 14 ls st h else pR 75 d 9 ls st h := r_ceq rfl rfl
theorem rX3_balloon_9 : pR 75 d 9 [.ref o, a1] st h = pR 75 d 10 [.ref o, a1] (.ref o :: st) h := pR_L rfl rfl
theorem rX3_balloon_10 : pR 75 (d + 1) 10 ls (.ref o :: st) h = if (pok 3 (pcl h o) && pw st) = true then pK 75 (d + 1) 10 3 ls st (pCa 78 d [.ref o] h) else none := r_callV rfl rfl rfl
theorem rX3_balloon_13 : pR 75 d 13 ls [] h = some (.inl none, h) := pR_E rfl rfl
theorem rX3_balloon_14 : pR 75 d 14 [.ref o, a1] st h = pR 75 d 15 [.ref o, a1] (.ref o :: st) h := pR_L rfl rfl
theorem rX3_balloon_15 : pR 75 d 15 ls (.ref o :: st) h = pR 75 d 16 ls (.ref o :: .ref o :: st) h := pR_L rfl rfl
theorem rX3_balloon_15i : pR 75 d 15 ls (.int x :: st) h = pR 75 d 16 ls (.int x :: .int x :: st) h := pR_L rfl rfl
theorem rX3_balloon_16 : pR 75 d 16 ls (.ref o :: st) h = if pis (pfl h 3 o 8) = true then pR 75 d 19 ls (pfl h 3 o 8 :: st) h else none := r_get rfl
theorem rX3_balloon_19 : pR 75 d 19 ls st h = pR 75 d 20 ls (.int 1 :: st) h := pR_L rfl rfl
theorem rX3_balloon_20 : pR 75 d 20 ls (.int y :: .int x :: st) h = pR 75 d 21 ls (.int (x + y) :: st) h := pR_L rfl rfl
theorem rX3_balloon_21 : pR 75 d 21 ls (.int x :: .ref o :: st) h = if pis (pfl h 3 o 8) = true then pR 75 d 24 ls st (psf h o 8 (.int x)) else none := r_put rfl rfl
theorem rX3_balloon_24 : pR 75 d 24 [.ref o, a1] st h = pR 75 d 25 [.ref o, a1] (.ref o :: st) h := pR_L rfl rfl
theorem rX3_balloon_25 : pR 75 (d + 1) 25 ls (.ref o :: st) h = if (pok 3 (pcl h o) && pw st) = true then pK 75 (d + 1) 25 3 ls st (pCa 76 d [.ref o] h) else none := r_callV rfl rfl rfl
theorem rX3_balloon_28 : pR 75 d 28 [a0, a1] (.int x :: st) h = if p1 a1 = true then pR 75 d 29 [a0, .int x] st h else none := r_sto (n := 1) (k := 1) (v := .int x) (ls := [a0, a1]) rfl rfl rfl
theorem rX3_balloon_29 : pR 75 d 29 [a0, .int x] st h = pR 75 d 30 [a0, .int x] (.int x :: st) h := pR_L rfl rfl
theorem rX3_balloon_30 : pR 75 (d + 1) 30 ls (b0 :: st) h = if pw st = true then pK 75 (d + 1) 30 3 ls st (pCa 79 d [b0] h) else none := r_callS rfl rfl rfl
theorem rX3_balloon_33 : pR 75 d 33 ls (.int x :: st) h = if x = 0 then pR 75 d 47 ls st h else pR 75 d 36 ls st h := r_ieq rfl rfl
theorem rX3_balloon_36 : pR 75 d 36 [a0, .int x] st h = pR 75 d 37 [a0, .int x] (.int x :: st) h := pR_L rfl rfl
theorem rX3_balloon_37 : pR 75 d 37 ls st h = pR 75 d 39 ls (.int 48 :: st) h := pR_L rfl rfl
theorem rX3_balloon_39 : pR 75 d 39 ls (.int y :: .int x :: st) h = pR 75 d 40 ls (.int (x - y) :: st) h := pR_L rfl rfl
theorem rX3_balloon_40 : pR 75 d 40 [.ref o, a1] st h = pR 75 d 41 [.ref o, a1] (.ref o :: st) h := pR_L rfl rfl
theorem rX3_balloon_41 : pR 75 d 41 ls (.ref o :: st) h = if pis (pfl h 3 o 5) = true then pR 75 d 44 ls (pfl h 3 o 5 :: st) h else none := r_get rfl
theorem rX3_balloon_44 : pR 75 d 44 ls (.int y :: .int x :: st) h = if x < y then pR 75 d 52 ls st h else pR 75 d 47 ls st h := r_clt rfl rfl
theorem rX3_balloon_47 : pR 75 d 47 [.ref o, a1] st h = pR 75 d 48 [.ref o, a1] (.ref o :: st) h := pR_L rfl rfl
theorem rX3_balloon_48 : pR 75 (d + 1) 48 ls (.ref o :: st) h = if (pok 3 (pcl h o) && pw st) = true then pK 75 (d + 1) 48 3 ls st (pCa 78 d [.ref o] h) else none := r_callV rfl rfl rfl
theorem rX3_balloon_51 : pR 75 d 51 ls [] h = some (.inl none, h) := pR_E rfl rfl
theorem rX3_balloon_52 : pR 75 d 52 [.ref o, a1] st h = pR 75 d 53 [.ref o, a1] (.ref o :: st) h := pR_L rfl rfl
theorem rX3_balloon_53 : pR 75 d 53 ls (.ref o :: st) h = pR 75 d 54 ls (.ref o :: .ref o :: st) h := pR_L rfl rfl
theorem rX3_balloon_53i : pR 75 d 53 ls (.int x :: st) h = pR 75 d 54 ls (.int x :: .int x :: st) h := pR_L rfl rfl
theorem rX3_balloon_54 : pR 75 d 54 ls (.ref o :: st) h = if pis (pfl h 3 o 8) = true then pR 75 d 57 ls (pfl h 3 o 8 :: st) h else none := r_get rfl
theorem rX3_balloon_57 : pR 75 d 57 ls st h = pR 75 d 58 ls (.int 1 :: st) h := pR_L rfl rfl
theorem rX3_balloon_58 : pR 75 d 58 ls (.int y :: .int x :: st) h = pR 75 d 59 ls (.int (x + y) :: st) h := pR_L rfl rfl
theorem rX3_balloon_59 : pR 75 d 59 ls (.int x :: .ref o :: st) h = if pis (pfl h 3 o 8) = true then pR 75 d 62 ls st (psf h o 8 (.int x)) else none := r_put rfl rfl
theorem rX3_balloon_62 : pR 75 d 62 [.ref o, a1] st h = pR 75 d 63 [.ref o, a1] (.ref o :: st) h := pR_L rfl rfl
theorem rX3_balloon_63 : pR 75 d 63 ls (.ref o :: st) h = if pis (pfl h 3 o 12) = true then pR 75 d 66 ls (pfl h 3 o 12 :: st) h else none := r_get rfl
theorem rX3_balloon_66 : pR 75 d 66 ls st h = pR 75 d 68 ls (.int 6 :: st) h := pR_L rfl rfl
theorem rX3_balloon_68 : pR 75 d 68 [.ref o, a1] st h = pR 75 d 69 [.ref o, a1] (.ref o :: st) h := pR_L rfl rfl
theorem rX3_balloon_69 : pR 75 d 69 ls (.ref o :: st) h = if pis (pfl h 3 o 25) = true then pR 75 d 72 ls (pfl h 3 o 25 :: st) h else none := r_get rfl
theorem rX3_balloon_72 : pR 75 d 72 ls (.int y :: .int x :: st) h = pR 75 d 73 ls (.int (x * y) :: st) h := pR_L rfl rfl
theorem rX3_balloon_73 : pR 75 d 73 [.ref o, a1] st h = pR 75 d 74 [.ref o, a1] (.ref o :: st) h := pR_L rfl rfl
theorem rX3_balloon_74 : pR 75 d 74 ls (.ref o :: st) h = if pis (pfl h 3 o 11) = true then pR 75 d 77 ls (pfl h 3 o 11 :: st) h else none := r_get rfl
theorem rX3_balloon_77 : pR 75 d 77 [.ref o, a1] st h = pR 75 d 78 [.ref o, a1] (.ref o :: st) h := pR_L rfl rfl
theorem rX3_balloon_78 : pR 75 d 78 ls (.ref o :: st) h = if pis (pfl h 3 o 25) = true then pR 75 d 81 ls (pfl h 3 o 25 :: st) h else none := r_get rfl
theorem rX3_balloon_81 : pR 75 d 81 ls (.int x :: .ref o :: st) h = if (pin x (pln h 0 o) || pin x (pln h 9 o)) = true then pR 75 d 82 ls (.int (pct h o x.toNatClampNeg) :: st) h else none := pR_Lif rfl rfl
theorem rX3_balloon_82 : pR 75 d 82 ls (.int y :: .int x :: st) h = pR 75 d 83 ls (.int (x + y) :: st) h := pR_L rfl rfl
theorem rX3_balloon_83 : pR 75 d 83 [a0, .int x] st h = pR 75 d 84 [a0, .int x] (.int x :: st) h := pR_L rfl rfl
theorem rX3_balloon_84 : pR 75 d 84 ls st h = pR 75 d 86 ls (.int 48 :: st) h := pR_L rfl rfl
theorem rX3_balloon_86 : pR 75 d 86 ls (.int y :: .int x :: st) h = pR 75 d 87 ls (.int (x - y) :: st) h := pR_L rfl rfl
theorem rX3_balloon_87 : pR 75 d 87 ls (.int y :: .int x :: .ref o :: st) h = if pin x (pln h 0 o) = true then pR 75 d 88 ls st (pst h o x.toNatClampNeg y) else none := pR_Lif rfl rfl
theorem rX3_balloon_88 : pR 75 d 88 [.ref o, a1] st h = pR 75 d 89 [.ref o, a1] (.ref o :: st) h := pR_L rfl rfl
theorem rX3_balloon_89 : pR 75 d 89 ls (.ref o :: st) h = if pis (pfl h 3 o 11) = true then pR 75 d 92 ls (pfl h 3 o 11 :: st) h else none := r_get rfl
theorem rX3_balloon_92 : pR 75 d 92 [.ref o, a1] st h = pR 75 d 93 [.ref o, a1] (.ref o :: st) h := pR_L rfl rfl
theorem rX3_balloon_93 : pR 75 d 93 ls (.ref o :: st) h = if pis (pfl h 3 o 25) = true then pR 75 d 96 ls (pfl h 3 o 25 :: st) h else none := r_get rfl
theorem rX3_balloon_96 : pR 75 d 96 ls (.int x :: .ref o :: st) h = pR 75 d 97 ls (.int x :: .ref o :: .int x :: .ref o :: st) h := pR_L rfl rfl
theorem rX3_balloon_97 : pR 75 d 97 ls (.int x :: .ref o :: st) h = if (pin x (pln h 0 o) || pin x (pln h 9 o)) = true then pR 75 d 98 ls (.int (pct h o x.toNatClampNeg) :: st) h else none := pR_Lif rfl rfl
theorem rX3_balloon_98 : pR 75 d 98 ls st h = pR 75 d 99 ls (.int 1 :: st) h := pR_L rfl rfl
theorem rX3_balloon_99 : pR 75 d 99 ls (.int y :: .int x :: st) h = pR 75 d 100 ls (.int (x + y) :: st) h := pR_L rfl rfl
theorem rX3_balloon_100 : pR 75 d 100 ls (.int y :: .int x :: .ref o :: st) h = if pin x (pln h 0 o) = true then pR 75 d 101 ls st (pst h o x.toNatClampNeg y) else none := pR_Lif rfl rfl
theorem rX3_balloon_101 : pR 75 d 101 [.ref o, a1] st h = pR 75 d 102 [.ref o, a1] (.ref o :: st) h := pR_L rfl rfl
theorem rX3_balloon_102 : pR 75 d 102 [.ref o, a1] st h = pR 75 d 103 [.ref o, a1] (.ref o :: st) h := pR_L rfl rfl
theorem rX3_balloon_103 : pR 75 (d + 1) 103 ls (.ref o :: st) h = if (pok 3 (pcl h o) && pw st) = true then pK 75 (d + 1) 103 3 ls st (pCa 80 d [.ref o] h) else none := r_callV rfl rfl rfl
theorem rX3_balloon_106 : pR 75 d 106 ls (.int x :: .ref o :: st) h = if pis (pfl h 3 o 24) = true then pR 75 d 109 ls st (psf h o 24 (.int x)) else none := r_put rfl rfl
theorem rX3_balloon_109 : pR 75 d 109 [.ref o, a1] st h = pR 75 d 110 [.ref o, a1] (.ref o :: st) h := pR_L rfl rfl
theorem rX3_balloon_110 : pR 75 (d + 1) 110 ls (.ref o :: st) h = if (pok 3 (pcl h o) && pw st) = true then pK 75 (d + 1) 110 3 ls st (pCa 81 d [.ref o] h) else none := r_callV rfl rfl rfl
theorem rX3_balloon_113 : pR 75 d 113 ls [] h = some (.inl none, h) := pR_E rfl rfl
-- 76 BalloonStallModel look ()I
theorem eX3_look : pCa 76 d [.ref o] h = pR 76 d 0 [.ref o] [] h := rfl
theorem rX3_look_0 : pR 76 d 0 [.ref o] st h = pR 76 d 1 [.ref o] (.ref o :: st) h := pR_L rfl rfl
theorem rX3_look_1 : pR 76 (d + 1) 1 ls (.ref o :: st) h = if (pok 3 (pcl h o) && pw st) = true then pK 76 (d + 1) 1 3 ls st (pCa 77 d [.ref o] h) else none := r_callV rfl rfl rfl
theorem rX3_look_4 : pR 76 d 4 ls st h = pR 76 d 6 ls (.int 32 :: st) h := pR_L rfl rfl
theorem rX3_look_6 : pR 76 d 6 ls (.int y :: .int x :: st) h = if x = y then pR 76 d 9 ls st h else pR 76 d 22 ls st h := r_cne rfl rfl
theorem rX3_look_9 : pR 76 d 9 [.ref o] st h = pR 76 d 10 [.ref o] (.ref o :: st) h := pR_L rfl rfl
theorem rX3_look_10 : pR 76 d 10 ls (.ref o :: st) h = pR 76 d 11 ls (.ref o :: .ref o :: st) h := pR_L rfl rfl
theorem rX3_look_10i : pR 76 d 10 ls (.int x :: st) h = pR 76 d 11 ls (.int x :: .int x :: st) h := pR_L rfl rfl
theorem rX3_look_11 : pR 76 d 11 ls (.ref o :: st) h = if pis (pfl h 3 o 8) = true then pR 76 d 14 ls (pfl h 3 o 8 :: st) h else none := r_get rfl
theorem rX3_look_14 : pR 76 d 14 ls st h = pR 76 d 15 ls (.int 1 :: st) h := pR_L rfl rfl
theorem rX3_look_15 : pR 76 d 15 ls (.int y :: .int x :: st) h = pR 76 d 16 ls (.int (x + y) :: st) h := pR_L rfl rfl
theorem rX3_look_16 : pR 76 d 16 ls (.int x :: .ref o :: st) h = if pis (pfl h 3 o 8) = true then pR 76 d 19 ls st (psf h o 8 (.int x)) else none := r_put rfl rfl
theorem rX3_look_19 : pR 76 d 19 ls st h = pR 76 d 0 ls st h := pR_L rfl rfl
theorem rX3_look_22 : pR 76 d 22 [.ref o] st h = pR 76 d 23 [.ref o] (.ref o :: st) h := pR_L rfl rfl
theorem rX3_look_23 : pR 76 (d + 1) 23 ls (.ref o :: st) h = if (pok 3 (pcl h o) && pw st) = true then pK 76 (d + 1) 23 3 ls st (pCa 77 d [.ref o] h) else none := r_callV rfl rfl rfl
theorem rX3_look_26 : pR 76 d 26 ls [.int x] h = some (.inl (some (.int x)), h) := pR_E rfl rfl
-- 77 BalloonStallModel here ()I
theorem eX3_here : pCa 77 d [.ref o] h = pR 77 d 0 [.ref o] [] h := rfl
theorem rX3_here_0 : pR 77 d 0 [.ref o] st h = pR 77 d 1 [.ref o] (.ref o :: st) h := pR_L rfl rfl
theorem rX3_here_1 : pR 77 d 1 ls (.ref o :: st) h = if pis (pfl h 3 o 8) = true then pR 77 d 4 ls (pfl h 3 o 8 :: st) h else none := r_get rfl
theorem rX3_here_4 : pR 77 d 4 [.ref o] st h = pR 77 d 5 [.ref o] (.ref o :: st) h := pR_L rfl rfl
theorem rX3_here_5 : pR 77 d 5 ls (.ref o :: st) h = if pis (pfl h 3 o 7) = true then pR 77 d 8 ls (pfl h 3 o 7 :: st) h else none := r_get rfl
theorem rX3_here_8 : pR 77 d 8 ls (.int y :: .int x :: st) h = if x < y then pR 77 d 11 ls st h else pR 77 d 23 ls st h := r_cge rfl rfl
theorem rX3_here_11 : pR 77 d 11 [.ref o] st h = pR 77 d 12 [.ref o] (.ref o :: st) h := pR_L rfl rfl
theorem rX3_here_12 : pR 77 d 12 ls (.ref o :: st) h = if pis (pfl h 3 o 6) = true then pR 77 d 15 ls (pfl h 3 o 6 :: st) h else none := r_get rfl
theorem rX3_here_15 : pR 77 d 15 [.ref o] st h = pR 77 d 16 [.ref o] (.ref o :: st) h := pR_L rfl rfl
theorem rX3_here_16 : pR 77 d 16 ls (.ref o :: st) h = if pis (pfl h 3 o 8) = true then pR 77 d 19 ls (pfl h 3 o 8 :: st) h else none := r_get rfl
theorem rX3_here_19 : pR 77 d 19 ls (.int x :: .ref o :: st) h = if (pin x (pln h 0 o) || pin x (pln h 9 o)) = true then pR 77 d 20 ls (.int (pct h o x.toNatClampNeg) :: st) h else none := pR_Lif rfl rfl
theorem rX3_here_20 : pR 77 d 20 ls st h = pR 77 d 24 ls st h := pR_L rfl rfl
theorem rX3_here_23 : pR 77 d 23 ls st h = pR 77 d 24 ls (.int (-1) :: st) h := pR_L rfl rfl
theorem rX3_here_24 : pR 77 d 24 ls [.int x] h = some (.inl (some (.int x)), h) := pR_E rfl rfl
-- 78 BalloonStallModel bad ()V
theorem eX3_bad : pCa 78 d [.ref o] h = pR 78 d 0 [.ref o] [] h := rfl
theorem rX3_bad_0 : pR 78 d 0 [.ref o] st h = pR 78 d 1 [.ref o] (.ref o :: st) h := pR_L rfl rfl
theorem rX3_bad_1 : pR 78 d 1 [.ref o] st h = pR 78 d 2 [.ref o] (.ref o :: st) h := pR_L rfl rfl
theorem rX3_bad_2 : pR 78 d 2 ls (.ref o :: st) h = if pis (pfl h 3 o 9) = true then pR 78 d 5 ls (pfl h 3 o 9 :: st) h else none := r_get rfl
theorem rX3_bad_5 : pR 78 d 5 ls st h = pR 78 d 6 ls (.int (-1) :: st) h := pR_L rfl rfl
theorem rX3_bad_6 : pR 78 d 6 ls (.int y :: .int x :: st) h = if x = y then pR 78 d 9 ls st h else pR 78 d 16 ls st h := r_cne rfl rfl
theorem rX3_bad_9 : pR 78 d 9 [.ref o] st h = pR 78 d 10 [.ref o] (.ref o :: st) h := pR_L rfl rfl
theorem rX3_bad_10 : pR 78 d 10 ls (.ref o :: st) h = if pis (pfl h 3 o 8) = true then pR 78 d 13 ls (pfl h 3 o 8 :: st) h else none := r_get rfl
theorem rX3_bad_13 : pR 78 d 13 ls st h = pR 78 d 20 ls st h := pR_L rfl rfl
theorem rX3_bad_16 : pR 78 d 16 [.ref o] st h = pR 78 d 17 [.ref o] (.ref o :: st) h := pR_L rfl rfl
theorem rX3_bad_17 : pR 78 d 17 ls (.ref o :: st) h = if pis (pfl h 3 o 9) = true then pR 78 d 20 ls (pfl h 3 o 9 :: st) h else none := r_get rfl
theorem rX3_bad_20 : pR 78 d 20 ls (.int x :: .ref o :: st) h = if pis (pfl h 3 o 9) = true then pR 78 d 23 ls st (psf h o 9 (.int x)) else none := r_put rfl rfl
theorem rX3_bad_23 : pR 78 d 23 ls [] h = some (.inl none, h) := pR_E rfl rfl
-- 79 BalloonStallModel isDigit (I)Z
theorem eX3_isDigit : pCa 79 d [.int x0] h = pR 79 d 0 [.int x0] [] h := rfl
theorem rX3_isDigit_0 : pR 79 d 0 [.int x] st h = pR 79 d 1 [.int x] (.int x :: st) h := pR_L rfl rfl
theorem rX3_isDigit_1 : pR 79 d 1 ls st h = pR 79 d 3 ls (.int 48 :: st) h := pR_L rfl rfl
theorem rX3_isDigit_3 : pR 79 d 3 ls (.int y :: .int x :: st) h = if x < y then pR 79 d 16 ls st h else pR 79 d 6 ls st h := r_clt rfl rfl
theorem rX3_isDigit_6 : pR 79 d 6 [.int x] st h = pR 79 d 7 [.int x] (.int x :: st) h := pR_L rfl rfl
theorem rX3_isDigit_7 : pR 79 d 7 ls st h = pR 79 d 9 ls (.int 57 :: st) h := pR_L rfl rfl
theorem rX3_isDigit_9 : pR 79 d 9 ls (.int y :: .int x :: st) h = if y < x then pR 79 d 16 ls st h else pR 79 d 12 ls st h := r_cgt rfl rfl
theorem rX3_isDigit_12 : pR 79 d 12 ls st h = pR 79 d 13 ls (.int 1 :: st) h := pR_L rfl rfl
theorem rX3_isDigit_13 : pR 79 d 13 ls st h = pR 79 d 17 ls st h := pR_L rfl rfl
theorem rX3_isDigit_16 : pR 79 d 16 ls st h = pR 79 d 17 ls (.int 0 :: st) h := pR_L rfl rfl
theorem rX3_isDigit_170 : pR 79 d 17 ls [.int 0] h = some (.inl (some (.int 0)), h) := pR_E rfl rfl
theorem rX3_isDigit_171 : pR 79 d 17 ls [.int 1] h = some (.inl (some (.int 1)), h) := pR_E rfl rfl
-- 80 BalloonStallModel newPoint ()I
theorem eX3_newPoint : pCa 80 d [.ref o] h = pR 80 d 0 [.ref o] [] h := rfl
theorem rX3_newPoint_0 : pR 80 d 0 [.ref o] st h = pR 80 d 1 [.ref o] (.ref o :: st) h := pR_L rfl rfl
theorem rX3_newPoint_1 : pR 80 d 1 ls (.ref o :: st) h = if pis (pfl h 3 o 21) = true then pR 80 d 4 ls (pfl h 3 o 21 :: st) h else none := r_get rfl
theorem rX3_newPoint_4 : pR 80 d 4 [.ref o] st h = pR 80 d 5 [.ref o] (.ref o :: st) h := pR_L rfl rfl
theorem rX3_newPoint_5 : pR 80 d 5 ls (.ref o :: st) h = if pis (pfl h 3 o 23) = true then pR 80 d 8 ls (pfl h 3 o 23 :: st) h else none := r_get rfl
theorem rX3_newPoint_8 : pR 80 d 8 [.ref o] st h = pR 80 d 9 [.ref o] (.ref o :: st) h := pR_L rfl rfl
theorem rX3_newPoint_9 : pR 80 d 9 ls (.ref o :: st) h = if pis (pfl h 3 o 23) = true then pR 80 d 12 ls (pfl h 3 o 23 :: st) h else none := r_get rfl
theorem rX3_newPoint_12 : pR 80 d 12 ls (.int y :: .int x :: .ref o :: st) h = if pin x (pln h 0 o) = true then pR 80 d 13 ls st (pst h o x.toNatClampNeg y) else none := pR_Lif rfl rfl
theorem rX3_newPoint_13 : pR 80 d 13 [.ref o] st h = pR 80 d 14 [.ref o] (.ref o :: st) h := pR_L rfl rfl
theorem rX3_newPoint_14 : pR 80 d 14 ls (.ref o :: st) h = pR 80 d 15 ls (.ref o :: .ref o :: st) h := pR_L rfl rfl
theorem rX3_newPoint_14i : pR 80 d 14 ls (.int x :: st) h = pR 80 d 15 ls (.int x :: .int x :: st) h := pR_L rfl rfl
theorem rX3_newPoint_15 : pR 80 d 15 ls (.ref o :: st) h = if pis (pfl h 3 o 23) = true then pR 80 d 18 ls (pfl h 3 o 23 :: st) h else none := r_get rfl
theorem rX3_newPoint_18 : pR 80 d 18 ls st h = pR 80 d 19 ls (.int 1 :: st) h := pR_L rfl rfl
theorem rX3_newPoint_19 : pR 80 d 19 ls (.int y :: .int x :: st) h = pR 80 d 20 ls (.int (x + y) :: st) h := pR_L rfl rfl
theorem rX3_newPoint_20 : pR 80 d 20 ls (.int x :: .ref o :: st) h = if pis (pfl h 3 o 23) = true then pR 80 d 23 ls st (psf h o 23 (.int x)) else none := r_put rfl rfl
theorem rX3_newPoint_23 : pR 80 d 23 [.ref o] st h = pR 80 d 24 [.ref o] (.ref o :: st) h := pR_L rfl rfl
theorem rX3_newPoint_24 : pR 80 d 24 ls (.ref o :: st) h = if pis (pfl h 3 o 23) = true then pR 80 d 27 ls (pfl h 3 o 23 :: st) h else none := r_get rfl
theorem rX3_newPoint_27 : pR 80 d 27 ls st h = pR 80 d 28 ls (.int 1 :: st) h := pR_L rfl rfl
theorem rX3_newPoint_28 : pR 80 d 28 ls (.int y :: .int x :: st) h = pR 80 d 29 ls (.int (x - y) :: st) h := pR_L rfl rfl
theorem rX3_newPoint_29 : pR 80 d 29 ls [.int x] h = some (.inl (some (.int x)), h) := pR_E rfl rfl
-- 81 BalloonStallModel moves ()V
theorem eX3_moves : pCa 81 d [.ref o] h = pR 81 d 0 [.ref o, pU, pU, pU] [] h := rfl
theorem rX3_moves_0 : pR 81 d 0 ls st h = pR 81 d 1 ls (.int 0 :: st) h := pR_L rfl rfl
theorem rX3_moves_1 : pR 81 d 1 [a0, a1, a2, a3] (.int x :: st) h = if p1 a1 = true then pR 81 d 2 [a0, .int x, a2, a3] st h else none := r_sto (n := 1) (k := 1) (v := .int x) (ls := [a0, a1, a2, a3]) rfl rfl rfl
theorem rX3_moves_2 : pR 81 d 2 ls st h = pR 81 d 3 ls (.int 1 :: st) h := pR_L rfl rfl
theorem rX3_moves_3 : pR 81 d 3 [a0, a1, a2, a3] (.int x :: st) h = if p1 a2 = true then pR 81 d 4 [a0, a1, .int x, a3] st h else none := r_sto (n := 1) (k := 2) (v := .int x) (ls := [a0, a1, a2, a3]) rfl rfl rfl
theorem rX3_moves_4 : pR 81 d 4 [a0, a1, .int x, a3] st h = pR 81 d 5 [a0, a1, .int x, a3] (.int x :: st) h := pR_L rfl rfl
theorem rX3_moves_5 : pR 81 d 5 ls (.int x :: st) h = if x = 0 then pR 81 d 136 ls st h else pR 81 d 8 ls st h := r_ieq rfl rfl
theorem rX3_moves_8 : pR 81 d 8 [.ref o, a1, a2, a3] st h = pR 81 d 9 [.ref o, a1, a2, a3] (.ref o :: st) h := pR_L rfl rfl
theorem rX3_moves_9 : pR 81 d 9 ls (.ref o :: st) h = if pis (pfl h 3 o 9) = true then pR 81 d 12 ls (pfl h 3 o 9 :: st) h else none := r_get rfl
theorem rX3_moves_12 : pR 81 d 12 ls st h = pR 81 d 13 ls (.int (-1) :: st) h := pR_L rfl rfl
theorem rX3_moves_13 : pR 81 d 13 ls (.int y :: .int x :: st) h = if x = y then pR 81 d 16 ls st h else pR 81 d 136 ls st h := r_cne rfl rfl
theorem rX3_moves_16 : pR 81 d 16 [.ref o, a1, a2, a3] st h = pR 81 d 17 [.ref o, a1, a2, a3] (.ref o :: st) h := pR_L rfl rfl
theorem rX3_moves_17 : pR 81 (d + 1) 17 ls (.ref o :: st) h = if (pok 3 (pcl h o) && pw st) = true then pK 81 (d + 1) 17 3 ls st (pCa 76 d [.ref o] h) else none := r_callV rfl rfl rfl
theorem rX3_moves_20 : pR 81 d 20 [a0, a1, a2, a3] (.int x :: st) h = if p1 a3 = true then pR 81 d 21 [a0, a1, a2, .int x] st h else none := r_sto (n := 1) (k := 3) (v := .int x) (ls := [a0, a1, a2, a3]) rfl rfl rfl
theorem rX3_moves_21 : pR 81 d 21 [a0, a1, a2, .int x] st h = pR 81 d 22 [a0, a1, a2, .int x] (.int x :: st) h := pR_L rfl rfl
theorem rX3_moves_22 : pR 81 (d + 1) 22 ls (b0 :: st) h = if pw st = true then pK 81 (d + 1) 22 3 ls st (pCa 79 d [b0] h) else none := r_callS rfl rfl rfl
theorem rX3_moves_25 : pR 81 d 25 ls (.int x :: st) h = if x = 0 then pR 81 d 35 ls st h else pR 81 d 28 ls st h := r_ieq rfl rfl
theorem rX3_moves_28 : pR 81 d 28 [.ref o, a1, a2, a3] st h = pR 81 d 29 [.ref o, a1, a2, a3] (.ref o :: st) h := pR_L rfl rfl
theorem rX3_moves_29 : pR 81 (d + 1) 29 ls (.ref o :: st) h = if (pok 3 (pcl h o) && pw st) = true then pK 81 (d + 1) 29 3 ls st (pCa 82 d [.ref o] h) else none := r_callV rfl rfl rfl
theorem rX3_moves_32 : pR 81 d 32 ls st h = pR 81 d 121 ls st h := pR_L rfl rfl
theorem rX3_moves_35 : pR 81 d 35 [a0, a1, a2, .int x] st h = pR 81 d 36 [a0, a1, a2, .int x] (.int x :: st) h := pR_L rfl rfl
theorem rX3_moves_36 : pR 81 d 36 ls st h = pR 81 d 38 ls (.int 97 :: st) h := pR_L rfl rfl
theorem rX3_moves_38 : pR 81 d 38 ls (.int y :: .int x :: st) h = if x < y then pR 81 d 106 ls st h else pR 81 d 41 ls st h := r_clt rfl rfl
theorem rX3_moves_41 : pR 81 d 41 [a0, a1, a2, .int x] st h = pR 81 d 42 [a0, a1, a2, .int x] (.int x :: st) h := pR_L rfl rfl
theorem rX3_moves_42 : pR 81 d 42 ls st h = pR 81 d 44 ls (.int 104 :: st) h := pR_L rfl rfl
theorem rX3_moves_44 : pR 81 d 44 ls (.int y :: .int x :: st) h = if y < x then pR 81 d 106 ls st h else pR 81 d 47 ls st h := r_cgt rfl rfl
theorem rX3_moves_47 : pR 81 d 47 [.ref o, a1, a2, a3] st h = pR 81 d 48 [.ref o, a1, a2, a3] (.ref o :: st) h := pR_L rfl rfl
theorem rX3_moves_48 : pR 81 d 48 ls (.ref o :: st) h = pR 81 d 49 ls (.ref o :: .ref o :: st) h := pR_L rfl rfl
theorem rX3_moves_48i : pR 81 d 48 ls (.int x :: st) h = pR 81 d 49 ls (.int x :: .int x :: st) h := pR_L rfl rfl
theorem rX3_moves_49 : pR 81 d 49 ls (.ref o :: st) h = if pis (pfl h 3 o 8) = true then pR 81 d 52 ls (pfl h 3 o 8 :: st) h else none := r_get rfl
theorem rX3_moves_52 : pR 81 d 52 ls st h = pR 81 d 53 ls (.int 1 :: st) h := pR_L rfl rfl
theorem rX3_moves_53 : pR 81 d 53 ls (.int y :: .int x :: st) h = pR 81 d 54 ls (.int (x + y) :: st) h := pR_L rfl rfl
theorem rX3_moves_54 : pR 81 d 54 ls (.int x :: .ref o :: st) h = if pis (pfl h 3 o 8) = true then pR 81 d 57 ls st (psf h o 8 (.int x)) else none := r_put rfl rfl
theorem rX3_moves_57 : pR 81 d 57 [.ref o, a1, a2, a3] st h = pR 81 d 58 [.ref o, a1, a2, a3] (.ref o :: st) h := pR_L rfl rfl
theorem rX3_moves_58 : pR 81 d 58 ls (.ref o :: st) h = if pis (pfl h 3 o 22) = true then pR 81 d 61 ls (pfl h 3 o 22 :: st) h else none := r_get rfl
theorem rX3_moves_61 : pR 81 d 61 [a0, a1, a2, .int x] st h = pR 81 d 62 [a0, a1, a2, .int x] (.int x :: st) h := pR_L rfl rfl
theorem rX3_moves_62 : pR 81 d 62 ls st h = pR 81 d 64 ls (.int 97 :: st) h := pR_L rfl rfl
theorem rX3_moves_64 : pR 81 d 64 ls (.int y :: .int x :: st) h = pR 81 d 65 ls (.int (x - y) :: st) h := pR_L rfl rfl
theorem rX3_moves_65 : pR 81 d 65 ls (.int x :: .ref o :: st) h = if (pin x (pln h 0 o) || pin x (pln h 9 o)) = true then pR 81 d 66 ls (.int (pct h o x.toNatClampNeg) :: st) h else none := pR_Lif rfl rfl
theorem rX3_moves_66 : pR 81 d 66 ls st h = pR 81 d 67 ls (.int (-1) :: st) h := pR_L rfl rfl
theorem rX3_moves_67 : pR 81 d 67 ls (.int y :: .int x :: st) h = if x = y then pR 81 d 70 ls st h else pR 81 d 86 ls st h := r_cne rfl rfl
theorem rX3_moves_70 : pR 81 d 70 [.ref o, a1, a2, a3] st h = pR 81 d 71 [.ref o, a1, a2, a3] (.ref o :: st) h := pR_L rfl rfl
theorem rX3_moves_71 : pR 81 d 71 ls (.ref o :: st) h = if pis (pfl h 3 o 22) = true then pR 81 d 74 ls (pfl h 3 o 22 :: st) h else none := r_get rfl
theorem rX3_moves_74 : pR 81 d 74 [a0, a1, a2, .int x] st h = pR 81 d 75 [a0, a1, a2, .int x] (.int x :: st) h := pR_L rfl rfl
theorem rX3_moves_75 : pR 81 d 75 ls st h = pR 81 d 77 ls (.int 97 :: st) h := pR_L rfl rfl
theorem rX3_moves_77 : pR 81 d 77 ls (.int y :: .int x :: st) h = pR 81 d 78 ls (.int (x - y) :: st) h := pR_L rfl rfl
theorem rX3_moves_78 : pR 81 d 78 [.ref o, a1, a2, a3] st h = pR 81 d 79 [.ref o, a1, a2, a3] (.ref o :: st) h := pR_L rfl rfl
theorem rX3_moves_79 : pR 81 d 79 ls (.ref o :: st) h = if pis (pfl h 3 o 24) = true then pR 81 d 82 ls (pfl h 3 o 24 :: st) h else none := r_get rfl
theorem rX3_moves_82 : pR 81 d 82 ls (.int y :: .int x :: .ref o :: st) h = if pin x (pln h 0 o) = true then pR 81 d 83 ls st (pst h o x.toNatClampNeg y) else none := pR_Lif rfl rfl
theorem rX3_moves_83 : pR 81 d 83 ls st h = pR 81 d 121 ls st h := pR_L rfl rfl
theorem rX3_moves_86 : pR 81 d 86 [.ref o, a1, a2, a3] st h = pR 81 d 87 [.ref o, a1, a2, a3] (.ref o :: st) h := pR_L rfl rfl
theorem rX3_moves_87 : pR 81 d 87 [.ref o, a1, a2, a3] st h = pR 81 d 88 [.ref o, a1, a2, a3] (.ref o :: st) h := pR_L rfl rfl
theorem rX3_moves_88 : pR 81 d 88 ls (.ref o :: st) h = if pis (pfl h 3 o 22) = true then pR 81 d 91 ls (pfl h 3 o 22 :: st) h else none := r_get rfl
theorem rX3_moves_91 : pR 81 d 91 [a0, a1, a2, .int x] st h = pR 81 d 92 [a0, a1, a2, .int x] (.int x :: st) h := pR_L rfl rfl
theorem rX3_moves_92 : pR 81 d 92 ls st h = pR 81 d 94 ls (.int 97 :: st) h := pR_L rfl rfl
theorem rX3_moves_94 : pR 81 d 94 ls (.int y :: .int x :: st) h = pR 81 d 95 ls (.int (x - y) :: st) h := pR_L rfl rfl
theorem rX3_moves_95 : pR 81 d 95 ls (.int x :: .ref o :: st) h = if (pin x (pln h 0 o) || pin x (pln h 9 o)) = true then pR 81 d 96 ls (.int (pct h o x.toNatClampNeg) :: st) h else none := pR_Lif rfl rfl
theorem rX3_moves_96 : pR 81 d 96 [.ref o, a1, a2, a3] st h = pR 81 d 97 [.ref o, a1, a2, a3] (.ref o :: st) h := pR_L rfl rfl
theorem rX3_moves_97 : pR 81 d 97 ls (.ref o :: st) h = if pis (pfl h 3 o 24) = true then pR 81 d 100 ls (pfl h 3 o 24 :: st) h else none := r_get rfl
theorem rX3_moves_100 : pR 81 (d + 1) 100 ls (b2 :: b1 :: .ref o :: st) h = if (pok 3 (pcl h o) && pw st) = true then pK 81 (d + 1) 100 3 ls st (pCa 85 d [.ref o, b1, b2] h) else none := r_callV rfl rfl rfl
theorem rX3_moves_103 : pR 81 d 103 ls st h = pR 81 d 121 ls st h := pR_L rfl rfl
theorem rX3_moves_106 : pR 81 d 106 [a0, a1, a2, .int x] st h = pR 81 d 107 [a0, a1, a2, .int x] (.int x :: st) h := pR_L rfl rfl
theorem rX3_moves_107 : pR 81 d 107 ls st h = pR 81 d 109 ls (.int 40 :: st) h := pR_L rfl rfl
theorem rX3_moves_109 : pR 81 d 109 ls (.int y :: .int x :: st) h = if x = y then pR 81 d 112 ls st h else pR 81 d 119 ls st h := r_cne rfl rfl
theorem rX3_moves_112 : pR 81 d 112 [.ref o, a1, a2, a3] st h = pR 81 d 113 [.ref o, a1, a2, a3] (.ref o :: st) h := pR_L rfl rfl
theorem rX3_moves_113 : pR 81 (d + 1) 113 ls (.ref o :: st) h = if (pok 3 (pcl h o) && pw st) = true then pK 81 (d + 1) 113 3 ls st (pCa 86 d [.ref o] h) else none := r_callV rfl rfl rfl
theorem rX3_moves_116 : pR 81 d 116 ls st h = pR 81 d 121 ls st h := pR_L rfl rfl
theorem rX3_moves_119 : pR 81 d 119 ls st h = pR 81 d 120 ls (.int 0 :: st) h := pR_L rfl rfl
theorem rX3_moves_120 : pR 81 d 120 [a0, a1, a2, a3] (.int x :: st) h = if p1 a2 = true then pR 81 d 121 [a0, a1, .int x, a3] st h else none := r_sto (n := 1) (k := 2) (v := .int x) (ls := [a0, a1, a2, a3]) rfl rfl rfl
theorem rX3_moves_121 : pR 81 d 121 [a0, .int x, a2, a3] st h = pR 81 d 122 [a0, .int x, a2, a3] (.int x :: st) h := pR_L rfl rfl
theorem rX3_moves_122 : pR 81 d 122 [a0, a1, .int x, a3] st h = pR 81 d 123 [a0, a1, .int x, a3] (.int x :: st) h := pR_L rfl rfl
theorem rX3_moves_123 : pR 81 d 123 ls (.int x :: st) h = if x = 0 then pR 81 d 130 ls st h else pR 81 d 126 ls st h := r_ieq rfl rfl
theorem rX3_moves_126 : pR 81 d 126 ls st h = pR 81 d 127 ls (.int 1 :: st) h := pR_L rfl rfl
theorem rX3_moves_127 : pR 81 d 127 ls st h = pR 81 d 131 ls st h := pR_L rfl rfl
theorem rX3_moves_130 : pR 81 d 130 ls st h = pR 81 d 131 ls (.int 0 :: st) h := pR_L rfl rfl
theorem rX3_moves_131 : pR 81 d 131 ls (.int y :: .int x :: st) h = pR 81 d 132 ls (.int (x + y) :: st) h := pR_L rfl rfl
theorem rX3_moves_132 : pR 81 d 132 [a0, a1, a2, a3] (.int x :: st) h = if p1 a1 = true then pR 81 d 133 [a0, .int x, a2, a3] st h else none := r_sto (n := 1) (k := 1) (v := .int x) (ls := [a0, a1, a2, a3]) rfl rfl rfl
theorem rX3_moves_133 : pR 81 d 133 ls st h = pR 81 d 4 ls st h := pR_L rfl rfl
theorem rX3_moves_136 : pR 81 d 136 [a0, .int x, a2, a3] st h = pR 81 d 137 [a0, .int x, a2, a3] (.int x :: st) h := pR_L rfl rfl
theorem rX3_moves_137 : pR 81 d 137 ls (.int x :: st) h = if x = 0 then pR 81 d 140 ls st h else pR 81 d 144 ls st h := r_ine rfl rfl
theorem rX3_moves_140 : pR 81 d 140 [.ref o, a1, a2, a3] st h = pR 81 d 141 [.ref o, a1, a2, a3] (.ref o :: st) h := pR_L rfl rfl
theorem rX3_moves_141 : pR 81 (d + 1) 141 ls (.ref o :: st) h = if (pok 3 (pcl h o) && pw st) = true then pK 81 (d + 1) 141 3 ls st (pCa 78 d [.ref o] h) else none := r_callV rfl rfl rfl
theorem rX3_moves_144 : pR 81 d 144 ls [] h = some (.inl none, h) := pR_E rfl rfl
-- 82 BalloonStallModel bubble ()V
theorem eX3_bubble : pCa 82 d [.ref o] h = pR 82 d 0 [.ref o, pU, pU] [] h := rfl
theorem rX3_bubble_0 : pR 82 d 0 [.ref o, a1, a2] st h = pR 82 d 1 [.ref o, a1, a2] (.ref o :: st) h := pR_L rfl rfl
theorem rX3_bubble_1 : pR 82 d 1 ls (.ref o :: st) h = if pis (pfl h 3 o 13) = true then pR 82 d 4 ls (pfl h 3 o 13 :: st) h else none := r_get rfl
theorem rX3_bubble_4 : pR 82 d 4 [.ref o, a1, a2] st h = pR 82 d 5 [.ref o, a1, a2] (.ref o :: st) h := pR_L rfl rfl
theorem rX3_bubble_5 : pR 82 d 5 ls (.ref o :: st) h = if pis (pfl h 3 o 25) = true then pR 82 d 8 ls (pfl h 3 o 25 :: st) h else none := r_get rfl
theorem rX3_bubble_8 : pR 82 d 8 ls (.int x :: .ref o :: st) h = if (pin x (pln h 0 o) || pin x (pln h 9 o)) = true then pR 82 d 9 ls (.int (pct h o x.toNatClampNeg) :: st) h else none := pR_Lif rfl rfl
theorem rX3_bubble_9 : pR 82 d 9 ls st h = pR 82 d 11 ls (.int 24 :: st) h := pR_L rfl rfl
theorem rX3_bubble_11 : pR 82 d 11 ls (.int y :: .int x :: st) h = if x = y then pR 82 d 14 ls st h else pR 82 d 19 ls st h := r_cne rfl rfl
theorem rX3_bubble_14 : pR 82 d 14 [.ref o, a1, a2] st h = pR 82 d 15 [.ref o, a1, a2] (.ref o :: st) h := pR_L rfl rfl
theorem rX3_bubble_15 : pR 82 (d + 1) 15 ls (.ref o :: st) h = if (pok 3 (pcl h o) && pw st) = true then pK 82 (d + 1) 15 3 ls st (pCa 78 d [.ref o] h) else none := r_callV rfl rfl rfl
theorem rX3_bubble_18 : pR 82 d 18 ls [] h = some (.inl none, h) := pR_E rfl rfl
theorem rX3_bubble_19 : pR 82 d 19 [.ref o, a1, a2] st h = pR 82 d 20 [.ref o, a1, a2] (.ref o :: st) h := pR_L rfl rfl
theorem rX3_bubble_20 : pR 82 (d + 1) 20 ls (.ref o :: st) h = if (pok 3 (pcl h o) && pw st) = true then pK 82 (d + 1) 20 3 ls st (pCa 77 d [.ref o] h) else none := r_callV rfl rfl rfl
theorem rX3_bubble_23 : pR 82 d 23 ls st h = pR 82 d 25 ls (.int 48 :: st) h := pR_L rfl rfl
theorem rX3_bubble_25 : pR 82 d 25 ls (.int y :: .int x :: st) h = pR 82 d 26 ls (.int (x - y) :: st) h := pR_L rfl rfl
theorem rX3_bubble_26 : pR 82 d 26 [a0, a1, a2] (.int x :: st) h = if p1 a1 = true then pR 82 d 27 [a0, .int x, a2] st h else none := r_sto (n := 1) (k := 1) (v := .int x) (ls := [a0, a1, a2]) rfl rfl rfl
theorem rX3_bubble_27 : pR 82 d 27 [.ref o, a1, a2] st h = pR 82 d 28 [.ref o, a1, a2] (.ref o :: st) h := pR_L rfl rfl
theorem rX3_bubble_28 : pR 82 d 28 ls (.ref o :: st) h = pR 82 d 29 ls (.ref o :: .ref o :: st) h := pR_L rfl rfl
theorem rX3_bubble_28i : pR 82 d 28 ls (.int x :: st) h = pR 82 d 29 ls (.int x :: .int x :: st) h := pR_L rfl rfl
theorem rX3_bubble_29 : pR 82 d 29 ls (.ref o :: st) h = if pis (pfl h 3 o 8) = true then pR 82 d 32 ls (pfl h 3 o 8 :: st) h else none := r_get rfl
theorem rX3_bubble_32 : pR 82 d 32 ls st h = pR 82 d 33 ls (.int 1 :: st) h := pR_L rfl rfl
theorem rX3_bubble_33 : pR 82 d 33 ls (.int y :: .int x :: st) h = pR 82 d 34 ls (.int (x + y) :: st) h := pR_L rfl rfl
theorem rX3_bubble_34 : pR 82 d 34 ls (.int x :: .ref o :: st) h = if pis (pfl h 3 o 8) = true then pR 82 d 37 ls st (psf h o 8 (.int x)) else none := r_put rfl rfl
theorem rX3_bubble_37 : pR 82 d 37 [.ref o, a1, a2] st h = pR 82 d 38 [.ref o, a1, a2] (.ref o :: st) h := pR_L rfl rfl
theorem rX3_bubble_38 : pR 82 (d + 1) 38 ls (.ref o :: st) h = if (pok 3 (pcl h o) && pw st) = true then pK 82 (d + 1) 38 3 ls st (pCa 77 d [.ref o] h) else none := r_callV rfl rfl rfl
theorem rX3_bubble_41 : pR 82 (d + 1) 41 ls (b0 :: st) h = if pw st = true then pK 82 (d + 1) 41 3 ls st (pCa 79 d [b0] h) else none := r_callS rfl rfl rfl
theorem rX3_bubble_44 : pR 82 d 44 ls (.int x :: st) h = if x = 0 then pR 82 d 70 ls st h else pR 82 d 47 ls st h := r_ieq rfl rfl
theorem rX3_bubble_47 : pR 82 d 47 ls st h = pR 82 d 49 ls (.int 10 :: st) h := pR_L rfl rfl
theorem rX3_bubble_49 : pR 82 d 49 [a0, .int x, a2] st h = pR 82 d 50 [a0, .int x, a2] (.int x :: st) h := pR_L rfl rfl
theorem rX3_bubble_50 : pR 82 d 50 ls (.int y :: .int x :: st) h = pR 82 d 51 ls (.int (x * y) :: st) h := pR_L rfl rfl
theorem rX3_bubble_51 : pR 82 d 51 [.ref o, a1, a2] st h = pR 82 d 52 [.ref o, a1, a2] (.ref o :: st) h := pR_L rfl rfl
theorem rX3_bubble_52 : pR 82 (d + 1) 52 ls (.ref o :: st) h = if (pok 3 (pcl h o) && pw st) = true then pK 82 (d + 1) 52 3 ls st (pCa 77 d [.ref o] h) else none := r_callV rfl rfl rfl
theorem rX3_bubble_55 : pR 82 d 55 ls (.int y :: .int x :: st) h = pR 82 d 56 ls (.int (x + y) :: st) h := pR_L rfl rfl
theorem rX3_bubble_56 : pR 82 d 56 ls st h = pR 82 d 58 ls (.int 48 :: st) h := pR_L rfl rfl
theorem rX3_bubble_58 : pR 82 d 58 ls (.int y :: .int x :: st) h = pR 82 d 59 ls (.int (x - y) :: st) h := pR_L rfl rfl
theorem rX3_bubble_59 : pR 82 d 59 [a0, a1, a2] (.int x :: st) h = if p1 a1 = true then pR 82 d 60 [a0, .int x, a2] st h else none := r_sto (n := 1) (k := 1) (v := .int x) (ls := [a0, a1, a2]) rfl rfl rfl
theorem rX3_bubble_60 : pR 82 d 60 [.ref o, a1, a2] st h = pR 82 d 61 [.ref o, a1, a2] (.ref o :: st) h := pR_L rfl rfl
theorem rX3_bubble_61 : pR 82 d 61 ls (.ref o :: st) h = pR 82 d 62 ls (.ref o :: .ref o :: st) h := pR_L rfl rfl
theorem rX3_bubble_61i : pR 82 d 61 ls (.int x :: st) h = pR 82 d 62 ls (.int x :: .int x :: st) h := pR_L rfl rfl
theorem rX3_bubble_62 : pR 82 d 62 ls (.ref o :: st) h = if pis (pfl h 3 o 8) = true then pR 82 d 65 ls (pfl h 3 o 8 :: st) h else none := r_get rfl
theorem rX3_bubble_65 : pR 82 d 65 ls st h = pR 82 d 66 ls (.int 1 :: st) h := pR_L rfl rfl
theorem rX3_bubble_66 : pR 82 d 66 ls (.int y :: .int x :: st) h = pR 82 d 67 ls (.int (x + y) :: st) h := pR_L rfl rfl
theorem rX3_bubble_67 : pR 82 d 67 ls (.int x :: .ref o :: st) h = if pis (pfl h 3 o 8) = true then pR 82 d 70 ls st (psf h o 8 (.int x)) else none := r_put rfl rfl
theorem rX3_bubble_70 : pR 82 d 70 [a0, .int x, a2] st h = pR 82 d 71 [a0, .int x, a2] (.int x :: st) h := pR_L rfl rfl
theorem rX3_bubble_71 : pR 82 d 71 ls st h = pR 82 d 72 ls (.int 1 :: st) h := pR_L rfl rfl
theorem rX3_bubble_72 : pR 82 d 72 ls st h = pR 82 d 74 ls (.int 30 :: st) h := pR_L rfl rfl
theorem rX3_bubble_74 : pR 82 (d + 1) 74 ls (b2 :: b1 :: b0 :: st) h = if pw st = true then pK 82 (d + 1) 74 3 ls st (pCa 69 d [b0, b1, b2] h) else none := r_callS rfl rfl rfl
theorem rX3_bubble_77 : pR 82 d 77 ls (.int x :: st) h = if x = 0 then pR 82 d 80 ls st h else pR 82 d 95 ls st h := r_ine rfl rfl
theorem rX3_bubble_80 : pR 82 d 80 [.ref o, a1, a2] st h = pR 82 d 81 [.ref o, a1, a2] (.ref o :: st) h := pR_L rfl rfl
theorem rX3_bubble_81 : pR 82 d 81 ls (.ref o :: st) h = pR 82 d 82 ls (.ref o :: .ref o :: st) h := pR_L rfl rfl
theorem rX3_bubble_81i : pR 82 d 81 ls (.int x :: st) h = pR 82 d 82 ls (.int x :: .int x :: st) h := pR_L rfl rfl
theorem rX3_bubble_82 : pR 82 d 82 ls (.ref o :: st) h = if pis (pfl h 3 o 8) = true then pR 82 d 85 ls (pfl h 3 o 8 :: st) h else none := r_get rfl
theorem rX3_bubble_85 : pR 82 d 85 ls st h = pR 82 d 86 ls (.int 1 :: st) h := pR_L rfl rfl
theorem rX3_bubble_86 : pR 82 d 86 ls (.int y :: .int x :: st) h = pR 82 d 87 ls (.int (x - y) :: st) h := pR_L rfl rfl
theorem rX3_bubble_87 : pR 82 d 87 ls (.int x :: .ref o :: st) h = if pis (pfl h 3 o 8) = true then pR 82 d 90 ls st (psf h o 8 (.int x)) else none := r_put rfl rfl
theorem rX3_bubble_90 : pR 82 d 90 [.ref o, a1, a2] st h = pR 82 d 91 [.ref o, a1, a2] (.ref o :: st) h := pR_L rfl rfl
theorem rX3_bubble_91 : pR 82 (d + 1) 91 ls (.ref o :: st) h = if (pok 3 (pcl h o) && pw st) = true then pK 82 (d + 1) 91 3 ls st (pCa 78 d [.ref o] h) else none := r_callV rfl rfl rfl
theorem rX3_bubble_94 : pR 82 d 94 ls [] h = some (.inl none, h) := pR_E rfl rfl
theorem rX3_bubble_95 : pR 82 d 95 [.ref o, a1, a2] st h = pR 82 d 96 [.ref o, a1, a2] (.ref o :: st) h := pR_L rfl rfl
theorem rX3_bubble_96 : pR 82 (d + 1) 96 ls (.ref o :: st) h = if (pok 3 (pcl h o) && pw st) = true then pK 82 (d + 1) 96 3 ls st (pCa 77 d [.ref o] h) else none := r_callV rfl rfl rfl
theorem rX3_bubble_99 : pR 82 (d + 1) 99 ls (b0 :: st) h = if pw st = true then pK 82 (d + 1) 99 3 ls st (pCa 79 d [b0] h) else none := r_callS rfl rfl rfl
theorem rX3_bubble_102 : pR 82 d 102 ls (.int x :: st) h = if x = 0 then pR 82 d 110 ls st h else pR 82 d 105 ls st h := r_ieq rfl rfl
theorem rX3_bubble_105 : pR 82 d 105 [.ref o, a1, a2] st h = pR 82 d 106 [.ref o, a1, a2] (.ref o :: st) h := pR_L rfl rfl
theorem rX3_bubble_106 : pR 82 (d + 1) 106 ls (.ref o :: st) h = if (pok 3 (pcl h o) && pw st) = true then pK 82 (d + 1) 106 3 ls st (pCa 78 d [.ref o] h) else none := r_callV rfl rfl rfl
theorem rX3_bubble_109 : pR 82 d 109 ls [] h = some (.inl none, h) := pR_E rfl rfl
theorem rX3_bubble_110 : pR 82 d 110 ls st h = pR 82 d 112 ls (.int 24 :: st) h := pR_L rfl rfl
theorem rX3_bubble_112 : pR 82 d 112 [.ref o, a1, a2] st h = pR 82 d 113 [.ref o, a1, a2] (.ref o :: st) h := pR_L rfl rfl
theorem rX3_bubble_113 : pR 82 d 113 ls (.ref o :: st) h = if pis (pfl h 3 o 25) = true then pR 82 d 116 ls (pfl h 3 o 25 :: st) h else none := r_get rfl
theorem rX3_bubble_116 : pR 82 d 116 ls (.int y :: .int x :: st) h = pR 82 d 117 ls (.int (x * y) :: st) h := pR_L rfl rfl
theorem rX3_bubble_117 : pR 82 d 117 [.ref o, a1, a2] st h = pR 82 d 118 [.ref o, a1, a2] (.ref o :: st) h := pR_L rfl rfl
theorem rX3_bubble_118 : pR 82 d 118 ls (.ref o :: st) h = if pis (pfl h 3 o 13) = true then pR 82 d 121 ls (pfl h 3 o 13 :: st) h else none := r_get rfl
theorem rX3_bubble_121 : pR 82 d 121 [.ref o, a1, a2] st h = pR 82 d 122 [.ref o, a1, a2] (.ref o :: st) h := pR_L rfl rfl
theorem rX3_bubble_122 : pR 82 d 122 ls (.ref o :: st) h = if pis (pfl h 3 o 25) = true then pR 82 d 125 ls (pfl h 3 o 25 :: st) h else none := r_get rfl
theorem rX3_bubble_125 : pR 82 d 125 ls (.int x :: .ref o :: st) h = if (pin x (pln h 0 o) || pin x (pln h 9 o)) = true then pR 82 d 126 ls (.int (pct h o x.toNatClampNeg) :: st) h else none := pR_Lif rfl rfl
theorem rX3_bubble_126 : pR 82 d 126 ls (.int y :: .int x :: st) h = pR 82 d 127 ls (.int (x + y) :: st) h := pR_L rfl rfl
theorem rX3_bubble_127 : pR 82 d 127 [a0, a1, a2] (.int x :: st) h = if p1 a2 = true then pR 82 d 128 [a0, a1, .int x] st h else none := r_sto (n := 1) (k := 2) (v := .int x) (ls := [a0, a1, a2]) rfl rfl rfl
theorem rX3_bubble_128 : pR 82 d 128 [.ref o, a1, a2] st h = pR 82 d 129 [.ref o, a1, a2] (.ref o :: st) h := pR_L rfl rfl
theorem rX3_bubble_129 : pR 82 d 129 ls (.ref o :: st) h = if pis (pfl h 3 o 15) = true then pR 82 d 132 ls (pfl h 3 o 15 :: st) h else none := r_get rfl
theorem rX3_bubble_132 : pR 82 d 132 [a0, a1, .int x] st h = pR 82 d 133 [a0, a1, .int x] (.int x :: st) h := pR_L rfl rfl
theorem rX3_bubble_133 : pR 82 d 133 [a0, .int x, a2] st h = pR 82 d 134 [a0, .int x, a2] (.int x :: st) h := pR_L rfl rfl
theorem rX3_bubble_134 : pR 82 d 134 ls (.int y :: .int x :: .ref o :: st) h = if pin x (pln h 0 o) = true then pR 82 d 135 ls st (pst h o x.toNatClampNeg y) else none := pR_Lif rfl rfl
theorem rX3_bubble_135 : pR 82 d 135 [.ref o, a1, a2] st h = pR 82 d 136 [.ref o, a1, a2] (.ref o :: st) h := pR_L rfl rfl
theorem rX3_bubble_136 : pR 82 d 136 ls (.ref o :: st) h = if pis (pfl h 3 o 18) = true then pR 82 d 139 ls (pfl h 3 o 18 :: st) h else none := r_get rfl
theorem rX3_bubble_139 : pR 82 d 139 [a0, a1, .int x] st h = pR 82 d 140 [a0, a1, .int x] (.int x :: st) h := pR_L rfl rfl
theorem rX3_bubble_140 : pR 82 d 140 [.ref o, a1, a2] st h = pR 82 d 141 [.ref o, a1, a2] (.ref o :: st) h := pR_L rfl rfl
theorem rX3_bubble_141 : pR 82 d 141 ls (.ref o :: st) h = if pis (pfl h 3 o 11) = true then pR 82 d 144 ls (pfl h 3 o 11 :: st) h else none := r_get rfl
theorem rX3_bubble_144 : pR 82 d 144 [.ref o, a1, a2] st h = pR 82 d 145 [.ref o, a1, a2] (.ref o :: st) h := pR_L rfl rfl
theorem rX3_bubble_145 : pR 82 d 145 ls (.ref o :: st) h = if pis (pfl h 3 o 25) = true then pR 82 d 148 ls (pfl h 3 o 25 :: st) h else none := r_get rfl
theorem rX3_bubble_148 : pR 82 d 148 ls (.int x :: .ref o :: st) h = if (pin x (pln h 0 o) || pin x (pln h 9 o)) = true then pR 82 d 149 ls (.int (pct h o x.toNatClampNeg) :: st) h else none := pR_Lif rfl rfl
theorem rX3_bubble_149 : pR 82 d 149 ls st h = pR 82 d 150 ls (.int 1 :: st) h := pR_L rfl rfl
theorem rX3_bubble_150 : pR 82 d 150 ls (.int y :: .int x :: st) h = pR 82 d 151 ls (.int (x - y) :: st) h := pR_L rfl rfl
theorem rX3_bubble_151 : pR 82 d 151 ls (.int y :: .int x :: .ref o :: st) h = if pin x (pln h 0 o) = true then pR 82 d 152 ls st (pst h o x.toNatClampNeg y) else none := pR_Lif rfl rfl
theorem rX3_bubble_152 : pR 82 d 152 [.ref o, a1, a2] st h = pR 82 d 153 [.ref o, a1, a2] (.ref o :: st) h := pR_L rfl rfl
theorem rX3_bubble_153 : pR 82 d 153 ls (.ref o :: st) h = if pis (pfl h 3 o 16) = true then pR 82 d 156 ls (pfl h 3 o 16 :: st) h else none := r_get rfl
theorem rX3_bubble_156 : pR 82 d 156 [a0, a1, .int x] st h = pR 82 d 157 [a0, a1, .int x] (.int x :: st) h := pR_L rfl rfl
theorem rX3_bubble_157 : pR 82 d 157 [.ref o, a1, a2] st h = pR 82 d 158 [.ref o, a1, a2] (.ref o :: st) h := pR_L rfl rfl
theorem rX3_bubble_158 : pR 82 d 158 ls (.ref o :: st) h = if pis (pfl h 3 o 24) = true then pR 82 d 161 ls (pfl h 3 o 24 :: st) h else none := r_get rfl
theorem rX3_bubble_161 : pR 82 d 161 ls (.int y :: .int x :: .ref o :: st) h = if pin x (pln h 0 o) = true then pR 82 d 162 ls st (pst h o x.toNatClampNeg y) else none := pR_Lif rfl rfl
theorem rX3_bubble_162 : pR 82 d 162 [.ref o, a1, a2] st h = pR 82 d 163 [.ref o, a1, a2] (.ref o :: st) h := pR_L rfl rfl
theorem rX3_bubble_163 : pR 82 d 163 [.ref o, a1, a2] st h = pR 82 d 164 [.ref o, a1, a2] (.ref o :: st) h := pR_L rfl rfl
theorem rX3_bubble_164 : pR 82 (d + 1) 164 ls (.ref o :: st) h = if (pok 3 (pcl h o) && pw st) = true then pK 82 (d + 1) 164 3 ls st (pCa 80 d [.ref o] h) else none := r_callV rfl rfl rfl
theorem rX3_bubble_167 : pR 82 d 167 ls (.int x :: .ref o :: st) h = if pis (pfl h 3 o 24) = true then pR 82 d 170 ls st (psf h o 24 (.int x)) else none := r_put rfl rfl
theorem rX3_bubble_170 : pR 82 d 170 [.ref o, a1, a2] st h = pR 82 d 171 [.ref o, a1, a2] (.ref o :: st) h := pR_L rfl rfl
theorem rX3_bubble_171 : pR 82 d 171 ls (.ref o :: st) h = if pis (pfl h 3 o 17) = true then pR 82 d 174 ls (pfl h 3 o 17 :: st) h else none := r_get rfl
theorem rX3_bubble_174 : pR 82 d 174 [a0, a1, .int x] st h = pR 82 d 175 [a0, a1, .int x] (.int x :: st) h := pR_L rfl rfl
theorem rX3_bubble_175 : pR 82 d 175 [.ref o, a1, a2] st h = pR 82 d 176 [.ref o, a1, a2] (.ref o :: st) h := pR_L rfl rfl
theorem rX3_bubble_176 : pR 82 d 176 ls (.ref o :: st) h = if pis (pfl h 3 o 24) = true then pR 82 d 179 ls (pfl h 3 o 24 :: st) h else none := r_get rfl
theorem rX3_bubble_179 : pR 82 d 179 ls (.int y :: .int x :: .ref o :: st) h = if pin x (pln h 0 o) = true then pR 82 d 180 ls st (pst h o x.toNatClampNeg y) else none := pR_Lif rfl rfl
theorem rX3_bubble_180 : pR 82 d 180 [.ref o, a1, a2] st h = pR 82 d 181 [.ref o, a1, a2] (.ref o :: st) h := pR_L rfl rfl
theorem rX3_bubble_181 : pR 82 d 181 ls (.ref o :: st) h = if pis (pfl h 3 o 13) = true then pR 82 d 184 ls (pfl h 3 o 13 :: st) h else none := r_get rfl
theorem rX3_bubble_184 : pR 82 d 184 [.ref o, a1, a2] st h = pR 82 d 185 [.ref o, a1, a2] (.ref o :: st) h := pR_L rfl rfl
theorem rX3_bubble_185 : pR 82 d 185 ls (.ref o :: st) h = if pis (pfl h 3 o 25) = true then pR 82 d 188 ls (pfl h 3 o 25 :: st) h else none := r_get rfl
theorem rX3_bubble_188 : pR 82 d 188 ls (.int x :: .ref o :: st) h = pR 82 d 189 ls (.int x :: .ref o :: .int x :: .ref o :: st) h := pR_L rfl rfl
theorem rX3_bubble_189 : pR 82 d 189 ls (.int x :: .ref o :: st) h = if (pin x (pln h 0 o) || pin x (pln h 9 o)) = true then pR 82 d 190 ls (.int (pct h o x.toNatClampNeg) :: st) h else none := pR_Lif rfl rfl
theorem rX3_bubble_190 : pR 82 d 190 ls st h = pR 82 d 191 ls (.int 1 :: st) h := pR_L rfl rfl
theorem rX3_bubble_191 : pR 82 d 191 ls (.int y :: .int x :: st) h = pR 82 d 192 ls (.int (x + y) :: st) h := pR_L rfl rfl
theorem rX3_bubble_192 : pR 82 d 192 ls (.int y :: .int x :: .ref o :: st) h = if pin x (pln h 0 o) = true then pR 82 d 193 ls st (pst h o x.toNatClampNeg y) else none := pR_Lif rfl rfl
theorem rX3_bubble_193 : pR 82 d 193 [.ref o, a1, a2] st h = pR 82 d 194 [.ref o, a1, a2] (.ref o :: st) h := pR_L rfl rfl
theorem rX3_bubble_194 : pR 82 d 194 ls (.ref o :: st) h = if pis (pfl h 3 o 19) = true then pR 82 d 197 ls (pfl h 3 o 19 :: st) h else none := r_get rfl
theorem rX3_bubble_197 : pR 82 d 197 [.ref o, a1, a2] st h = pR 82 d 198 [.ref o, a1, a2] (.ref o :: st) h := pR_L rfl rfl
theorem rX3_bubble_198 : pR 82 d 198 ls (.ref o :: st) h = if pis (pfl h 3 o 25) = true then pR 82 d 201 ls (pfl h 3 o 25 :: st) h else none := r_get rfl
theorem rX3_bubble_201 : pR 82 d 201 [.ref o, a1, a2] st h = pR 82 d 202 [.ref o, a1, a2] (.ref o :: st) h := pR_L rfl rfl
theorem rX3_bubble_202 : pR 82 d 202 ls (.ref o :: st) h = if pis (pfl h 3 o 19) = true then pR 82 d 205 ls (pfl h 3 o 19 :: st) h else none := r_get rfl
theorem rX3_bubble_205 : pR 82 d 205 [.ref o, a1, a2] st h = pR 82 d 206 [.ref o, a1, a2] (.ref o :: st) h := pR_L rfl rfl
theorem rX3_bubble_206 : pR 82 d 206 ls (.ref o :: st) h = if pis (pfl h 3 o 25) = true then pR 82 d 209 ls (pfl h 3 o 25 :: st) h else none := r_get rfl
theorem rX3_bubble_209 : pR 82 d 209 ls (.int x :: .ref o :: st) h = if (pin x (pln h 0 o) || pin x (pln h 9 o)) = true then pR 82 d 210 ls (.int (pct h o x.toNatClampNeg) :: st) h else none := pR_Lif rfl rfl
theorem rX3_bubble_210 : pR 82 d 210 [.ref o, a1, a2] st h = pR 82 d 211 [.ref o, a1, a2] (.ref o :: st) h := pR_L rfl rfl
theorem rX3_bubble_211 : pR 82 (d + 1) 211 ls (.ref o :: st) h = if (pok 3 (pcl h o) && pw st) = true then pK 82 (d + 1) 211 3 ls st (pCa 83 d [.ref o] h) else none := r_callV rfl rfl rfl
theorem rX3_bubble_214 : pR 82 (d + 1) 214 ls (.int y :: .int x :: st) h = if pw st = true then pR 82 (d + 1) 217 ls (.int (if x < y then y else x) :: st) h else none := r_mx rfl
theorem rX3_bubble_217 : pR 82 d 217 ls (.int y :: .int x :: .ref o :: st) h = if pin x (pln h 0 o) = true then pR 82 d 218 ls st (pst h o x.toNatClampNeg y) else none := pR_Lif rfl rfl
theorem rX3_bubble_218 : pR 82 d 218 ls [] h = some (.inl none, h) := pR_E rfl rfl
-- 83 BalloonStallModel held ()I
theorem eX3_held : pCa 83 d [.ref o] h = pR 83 d 0 [.ref o, pU, pU, pU, pU, pU] [] h := rfl
theorem rX3_held_0 : pR 83 d 0 ls st h = pR 83 d 1 ls (.int 0 :: st) h := pR_L rfl rfl
theorem rX3_held_1 : pR 83 d 1 [a0, a1, a2, a3, a4, a5] (.int x :: st) h = if p1 a1 = true then pR 83 d 2 [a0, .int x, a2, a3, a4, a5] st h else none := r_sto (n := 1) (k := 1) (v := .int x) (ls := [a0, a1, a2, a3, a4, a5]) rfl rfl rfl
theorem rX3_held_2 : pR 83 d 2 ls st h = pR 83 d 3 ls (.int 0 :: st) h := pR_L rfl rfl
theorem rX3_held_3 : pR 83 d 3 [a0, a1, a2, a3, a4, a5] (.int x :: st) h = if p1 a2 = true then pR 83 d 4 [a0, a1, .int x, a3, a4, a5] st h else none := r_sto (n := 1) (k := 2) (v := .int x) (ls := [a0, a1, a2, a3, a4, a5]) rfl rfl rfl
theorem rX3_held_4 : pR 83 d 4 [a0, a1, .int x, a3, a4, a5] st h = pR 83 d 5 [a0, a1, .int x, a3, a4, a5] (.int x :: st) h := pR_L rfl rfl
theorem rX3_held_5 : pR 83 d 5 ls st h = pR 83 d 6 ls (.int 1 :: st) h := pR_L rfl rfl
theorem rX3_held_6 : pR 83 d 6 ls (.int y :: .int x :: st) h = pR 83 d 7 ls (.int (x + y) :: st) h := pR_L rfl rfl
theorem rX3_held_7 : pR 83 d 7 [.ref o, a1, a2, a3, a4, a5] st h = pR 83 d 8 [.ref o, a1, a2, a3, a4, a5] (.ref o :: st) h := pR_L rfl rfl
theorem rX3_held_8 : pR 83 d 8 ls (.ref o :: st) h = if pis (pfl h 3 o 13) = true then pR 83 d 11 ls (pfl h 3 o 13 :: st) h else none := r_get rfl
theorem rX3_held_11 : pR 83 d 11 [.ref o, a1, a2, a3, a4, a5] st h = pR 83 d 12 [.ref o, a1, a2, a3, a4, a5] (.ref o :: st) h := pR_L rfl rfl
theorem rX3_held_12 : pR 83 d 12 ls (.ref o :: st) h = if pis (pfl h 3 o 25) = true then pR 83 d 15 ls (pfl h 3 o 25 :: st) h else none := r_get rfl
theorem rX3_held_15 : pR 83 d 15 ls (.int x :: .ref o :: st) h = if (pin x (pln h 0 o) || pin x (pln h 9 o)) = true then pR 83 d 16 ls (.int (pct h o x.toNatClampNeg) :: st) h else none := pR_Lif rfl rfl
theorem rX3_held_16 : pR 83 d 16 ls (.int y :: .int x :: st) h = if x < y then pR 83 d 19 ls st h else pR 83 d 179 ls st h := r_cge rfl rfl
theorem rX3_held_19 : pR 83 d 19 ls st h = pR 83 d 21 ls (.int 24 :: st) h := pR_L rfl rfl
theorem rX3_held_21 : pR 83 d 21 [.ref o, a1, a2, a3, a4, a5] st h = pR 83 d 22 [.ref o, a1, a2, a3, a4, a5] (.ref o :: st) h := pR_L rfl rfl
theorem rX3_held_22 : pR 83 d 22 ls (.ref o :: st) h = if pis (pfl h 3 o 25) = true then pR 83 d 25 ls (pfl h 3 o 25 :: st) h else none := r_get rfl
theorem rX3_held_25 : pR 83 d 25 ls (.int y :: .int x :: st) h = pR 83 d 26 ls (.int (x * y) :: st) h := pR_L rfl rfl
theorem rX3_held_26 : pR 83 d 26 [a0, a1, .int x, a3, a4, a5] st h = pR 83 d 27 [a0, a1, .int x, a3, a4, a5] (.int x :: st) h := pR_L rfl rfl
theorem rX3_held_27 : pR 83 d 27 ls (.int y :: .int x :: st) h = pR 83 d 28 ls (.int (x + y) :: st) h := pR_L rfl rfl
theorem rX3_held_28 : pR 83 d 28 [a0, a1, a2, a3, a4, a5] (.int x :: st) h = if p1 a3 = true then pR 83 d 29 [a0, a1, a2, .int x, a4, a5] st h else none := r_sto (n := 1) (k := 3) (v := .int x) (ls := [a0, a1, a2, a3, a4, a5]) rfl rfl rfl
theorem rX3_held_29 : pR 83 d 29 [.ref o, a1, a2, a3, a4, a5] st h = pR 83 d 30 [.ref o, a1, a2, a3, a4, a5] (.ref o :: st) h := pR_L rfl rfl
theorem rX3_held_30 : pR 83 d 30 ls (.ref o :: st) h = if pis (pfl h 3 o 18) = true then pR 83 d 33 ls (pfl h 3 o 18 :: st) h else none := r_get rfl
theorem rX3_held_33 : pR 83 d 33 [a0, a1, a2, .int x, a4, a5] st h = pR 83 d 34 [a0, a1, a2, .int x, a4, a5] (.int x :: st) h := pR_L rfl rfl
theorem rX3_held_34 : pR 83 d 34 ls (.int x :: .ref o :: st) h = if (pin x (pln h 0 o) || pin x (pln h 9 o)) = true then pR 83 d 35 ls (.int (pct h o x.toNatClampNeg) :: st) h else none := pR_Lif rfl rfl
theorem rX3_held_35 : pR 83 d 35 [.ref o, a1, a2, a3, a4, a5] st h = pR 83 d 36 [.ref o, a1, a2, a3, a4, a5] (.ref o :: st) h := pR_L rfl rfl
theorem rX3_held_36 : pR 83 d 36 ls (.ref o :: st) h = if pis (pfl h 3 o 18) = true then pR 83 d 39 ls (pfl h 3 o 18 :: st) h else none := r_get rfl
theorem rX3_held_39 : pR 83 d 39 [a0, a1, a2, .int x, a4, a5] st h = pR 83 d 40 [a0, a1, a2, .int x, a4, a5] (.int x :: st) h := pR_L rfl rfl
theorem rX3_held_40 : pR 83 d 40 ls st h = pR 83 d 41 ls (.int 1 :: st) h := pR_L rfl rfl
theorem rX3_held_41 : pR 83 d 41 ls (.int y :: .int x :: st) h = pR 83 d 42 ls (.int (x + y) :: st) h := pR_L rfl rfl
theorem rX3_held_42 : pR 83 d 42 ls (.int x :: .ref o :: st) h = if (pin x (pln h 0 o) || pin x (pln h 9 o)) = true then pR 83 d 43 ls (.int (pct h o x.toNatClampNeg) :: st) h else none := pR_Lif rfl rfl
theorem rX3_held_43 : pR 83 d 43 ls (.int y :: .int x :: st) h = if x = y then pR 83 d 49 ls st h else pR 83 d 46 ls st h := r_ceq rfl rfl
theorem rX3_held_46 : pR 83 d 46 ls st h = pR 83 d 173 ls st h := pR_L rfl rfl
theorem rX3_held_49 : pR 83 d 49 ls st h = pR 83 d 50 ls (.int 0 :: st) h := pR_L rfl rfl
theorem rX3_held_50 : pR 83 d 50 [a0, a1, a2, a3, a4, a5] (.int x :: st) h = if p1 a4 = true then pR 83 d 52 [a0, a1, a2, a3, .int x, a5] st h else none := r_sto (n := 2) (k := 4) (v := .int x) (ls := [a0, a1, a2, a3, a4, a5]) rfl rfl rfl
theorem rX3_held_52 : pR 83 d 52 ls st h = pR 83 d 53 ls (.int 0 :: st) h := pR_L rfl rfl
theorem rX3_held_53 : pR 83 d 53 [a0, a1, a2, a3, a4, a5] (.int x :: st) h = if p1 a5 = true then pR 83 d 55 [a0, a1, a2, a3, a4, .int x] st h else none := r_sto (n := 2) (k := 5) (v := .int x) (ls := [a0, a1, a2, a3, a4, a5]) rfl rfl rfl
theorem rX3_held_55 : pR 83 d 55 [a0, a1, a2, a3, a4, .int x] st h = pR 83 d 57 [a0, a1, a2, a3, a4, .int x] (.int x :: st) h := pR_L rfl rfl
theorem rX3_held_57 : pR 83 d 57 [.ref o, a1, a2, a3, a4, a5] st h = pR 83 d 58 [.ref o, a1, a2, a3, a4, a5] (.ref o :: st) h := pR_L rfl rfl
theorem rX3_held_58 : pR 83 d 58 ls (.ref o :: st) h = if pis (pfl h 3 o 13) = true then pR 83 d 61 ls (pfl h 3 o 13 :: st) h else none := r_get rfl
theorem rX3_held_61 : pR 83 d 61 [.ref o, a1, a2, a3, a4, a5] st h = pR 83 d 62 [.ref o, a1, a2, a3, a4, a5] (.ref o :: st) h := pR_L rfl rfl
theorem rX3_held_62 : pR 83 d 62 ls (.ref o :: st) h = if pis (pfl h 3 o 25) = true then pR 83 d 65 ls (pfl h 3 o 25 :: st) h else none := r_get rfl
theorem rX3_held_65 : pR 83 d 65 ls (.int x :: .ref o :: st) h = if (pin x (pln h 0 o) || pin x (pln h 9 o)) = true then pR 83 d 66 ls (.int (pct h o x.toNatClampNeg) :: st) h else none := pR_Lif rfl rfl
theorem rX3_held_66 : pR 83 d 66 ls (.int y :: .int x :: st) h = if x < y then pR 83 d 69 ls st h else pR 83 d 159 ls st h := r_cge rfl rfl
theorem rX3_held_69 : pR 83 d 69 [a0, a1, a2, a3, .int x, a5] st h = pR 83 d 71 [a0, a1, a2, a3, .int x, a5] (.int x :: st) h := pR_L rfl rfl
theorem rX3_held_71 : pR 83 d 71 [.ref o, a1, a2, a3, a4, a5] st h = pR 83 d 72 [.ref o, a1, a2, a3, a4, a5] (.ref o :: st) h := pR_L rfl rfl
theorem rX3_held_72 : pR 83 d 72 [.ref o, a1, a2, a3, a4, a5] st h = pR 83 d 73 [.ref o, a1, a2, a3, a4, a5] (.ref o :: st) h := pR_L rfl rfl
theorem rX3_held_73 : pR 83 d 73 ls (.ref o :: st) h = if pis (pfl h 3 o 16) = true then pR 83 d 76 ls (pfl h 3 o 16 :: st) h else none := r_get rfl
theorem rX3_held_76 : pR 83 d 76 ls st h = pR 83 d 78 ls (.int 24 :: st) h := pR_L rfl rfl
theorem rX3_held_78 : pR 83 d 78 [.ref o, a1, a2, a3, a4, a5] st h = pR 83 d 79 [.ref o, a1, a2, a3, a4, a5] (.ref o :: st) h := pR_L rfl rfl
theorem rX3_held_79 : pR 83 d 79 ls (.ref o :: st) h = if pis (pfl h 3 o 25) = true then pR 83 d 82 ls (pfl h 3 o 25 :: st) h else none := r_get rfl
theorem rX3_held_82 : pR 83 d 82 ls (.int y :: .int x :: st) h = pR 83 d 83 ls (.int (x * y) :: st) h := pR_L rfl rfl
theorem rX3_held_83 : pR 83 d 83 [a0, a1, a2, a3, a4, .int x] st h = pR 83 d 85 [a0, a1, a2, a3, a4, .int x] (.int x :: st) h := pR_L rfl rfl
theorem rX3_held_85 : pR 83 d 85 ls (.int y :: .int x :: st) h = pR 83 d 86 ls (.int (x + y) :: st) h := pR_L rfl rfl
theorem rX3_held_86 : pR 83 d 86 ls (.int x :: .ref o :: st) h = if (pin x (pln h 0 o) || pin x (pln h 9 o)) = true then pR 83 d 87 ls (.int (pct h o x.toNatClampNeg) :: st) h else none := pR_Lif rfl rfl
theorem rX3_held_87 : pR 83 (d + 1) 87 ls (b1 :: .ref o :: st) h = if (pok 3 (pcl h o) && pw st) = true then pK 83 (d + 1) 87 3 ls st (pCa 84 d [.ref o, b1] h) else none := r_callV rfl rfl rfl
theorem rX3_held_90 : pR 83 d 90 [.ref o, a1, a2, a3, a4, a5] st h = pR 83 d 91 [.ref o, a1, a2, a3, a4, a5] (.ref o :: st) h := pR_L rfl rfl
theorem rX3_held_91 : pR 83 d 91 [.ref o, a1, a2, a3, a4, a5] st h = pR 83 d 92 [.ref o, a1, a2, a3, a4, a5] (.ref o :: st) h := pR_L rfl rfl
theorem rX3_held_92 : pR 83 d 92 ls (.ref o :: st) h = if pis (pfl h 3 o 17) = true then pR 83 d 95 ls (pfl h 3 o 17 :: st) h else none := r_get rfl
theorem rX3_held_95 : pR 83 d 95 [a0, a1, a2, .int x, a4, a5] st h = pR 83 d 96 [a0, a1, a2, .int x, a4, a5] (.int x :: st) h := pR_L rfl rfl
theorem rX3_held_96 : pR 83 d 96 ls (.int x :: .ref o :: st) h = if (pin x (pln h 0 o) || pin x (pln h 9 o)) = true then pR 83 d 97 ls (.int (pct h o x.toNatClampNeg) :: st) h else none := pR_Lif rfl rfl
theorem rX3_held_97 : pR 83 (d + 1) 97 ls (b1 :: .ref o :: st) h = if (pok 3 (pcl h o) && pw st) = true then pK 83 (d + 1) 97 3 ls st (pCa 84 d [.ref o, b1] h) else none := r_callV rfl rfl rfl
theorem rX3_held_100 : pR 83 d 100 ls (.int y :: .int x :: st) h = if x = y then pR 83 d 103 ls st h else pR 83 d 107 ls st h := r_cne rfl rfl
theorem rX3_held_103 : pR 83 d 103 ls st h = pR 83 d 104 ls (.int 1 :: st) h := pR_L rfl rfl
theorem rX3_held_104 : pR 83 d 104 ls st h = pR 83 d 108 ls st h := pR_L rfl rfl
theorem rX3_held_107 : pR 83 d 107 ls st h = pR 83 d 108 ls (.int 0 :: st) h := pR_L rfl rfl
theorem rX3_held_108 : pR 83 d 108 ls (.int y :: .int x :: st) h = pR 83 d 109 ls (.int (x + y) :: st) h := pR_L rfl rfl
theorem rX3_held_109 : pR 83 d 109 [a0, a1, a2, a3, a4, a5] (.int x :: st) h = if p1 a4 = true then pR 83 d 111 [a0, a1, a2, a3, .int x, a5] st h else none := r_sto (n := 2) (k := 4) (v := .int x) (ls := [a0, a1, a2, a3, a4, a5]) rfl rfl rfl
theorem rX3_held_111 : pR 83 d 111 [a0, a1, a2, a3, .int x, a5] st h = pR 83 d 113 [a0, a1, a2, a3, .int x, a5] (.int x :: st) h := pR_L rfl rfl
theorem rX3_held_113 : pR 83 d 113 [.ref o, a1, a2, a3, a4, a5] st h = pR 83 d 114 [.ref o, a1, a2, a3, a4, a5] (.ref o :: st) h := pR_L rfl rfl
theorem rX3_held_114 : pR 83 d 114 [.ref o, a1, a2, a3, a4, a5] st h = pR 83 d 115 [.ref o, a1, a2, a3, a4, a5] (.ref o :: st) h := pR_L rfl rfl
theorem rX3_held_115 : pR 83 d 115 ls (.ref o :: st) h = if pis (pfl h 3 o 17) = true then pR 83 d 118 ls (pfl h 3 o 17 :: st) h else none := r_get rfl
theorem rX3_held_118 : pR 83 d 118 ls st h = pR 83 d 120 ls (.int 24 :: st) h := pR_L rfl rfl
theorem rX3_held_120 : pR 83 d 120 [.ref o, a1, a2, a3, a4, a5] st h = pR 83 d 121 [.ref o, a1, a2, a3, a4, a5] (.ref o :: st) h := pR_L rfl rfl
theorem rX3_held_121 : pR 83 d 121 ls (.ref o :: st) h = if pis (pfl h 3 o 25) = true then pR 83 d 124 ls (pfl h 3 o 25 :: st) h else none := r_get rfl
theorem rX3_held_124 : pR 83 d 124 ls (.int y :: .int x :: st) h = pR 83 d 125 ls (.int (x * y) :: st) h := pR_L rfl rfl
theorem rX3_held_125 : pR 83 d 125 [a0, a1, a2, a3, a4, .int x] st h = pR 83 d 127 [a0, a1, a2, a3, a4, .int x] (.int x :: st) h := pR_L rfl rfl
theorem rX3_held_127 : pR 83 d 127 ls (.int y :: .int x :: st) h = pR 83 d 128 ls (.int (x + y) :: st) h := pR_L rfl rfl
theorem rX3_held_128 : pR 83 d 128 ls (.int x :: .ref o :: st) h = if (pin x (pln h 0 o) || pin x (pln h 9 o)) = true then pR 83 d 129 ls (.int (pct h o x.toNatClampNeg) :: st) h else none := pR_Lif rfl rfl
theorem rX3_held_129 : pR 83 (d + 1) 129 ls (b1 :: .ref o :: st) h = if (pok 3 (pcl h o) && pw st) = true then pK 83 (d + 1) 129 3 ls st (pCa 84 d [.ref o, b1] h) else none := r_callV rfl rfl rfl
theorem rX3_held_132 : pR 83 d 132 [.ref o, a1, a2, a3, a4, a5] st h = pR 83 d 133 [.ref o, a1, a2, a3, a4, a5] (.ref o :: st) h := pR_L rfl rfl
theorem rX3_held_133 : pR 83 d 133 [.ref o, a1, a2, a3, a4, a5] st h = pR 83 d 134 [.ref o, a1, a2, a3, a4, a5] (.ref o :: st) h := pR_L rfl rfl
theorem rX3_held_134 : pR 83 d 134 ls (.ref o :: st) h = if pis (pfl h 3 o 17) = true then pR 83 d 137 ls (pfl h 3 o 17 :: st) h else none := r_get rfl
theorem rX3_held_137 : pR 83 d 137 [a0, a1, a2, .int x, a4, a5] st h = pR 83 d 138 [a0, a1, a2, .int x, a4, a5] (.int x :: st) h := pR_L rfl rfl
theorem rX3_held_138 : pR 83 d 138 ls (.int x :: .ref o :: st) h = if (pin x (pln h 0 o) || pin x (pln h 9 o)) = true then pR 83 d 139 ls (.int (pct h o x.toNatClampNeg) :: st) h else none := pR_Lif rfl rfl
theorem rX3_held_139 : pR 83 (d + 1) 139 ls (b1 :: .ref o :: st) h = if (pok 3 (pcl h o) && pw st) = true then pK 83 (d + 1) 139 3 ls st (pCa 84 d [.ref o, b1] h) else none := r_callV rfl rfl rfl
theorem rX3_held_142 : pR 83 d 142 ls (.int y :: .int x :: st) h = if x = y then pR 83 d 145 ls st h else pR 83 d 149 ls st h := r_cne rfl rfl
theorem rX3_held_145 : pR 83 d 145 ls st h = pR 83 d 146 ls (.int 1 :: st) h := pR_L rfl rfl
theorem rX3_held_146 : pR 83 d 146 ls st h = pR 83 d 150 ls st h := pR_L rfl rfl
theorem rX3_held_149 : pR 83 d 149 ls st h = pR 83 d 150 ls (.int 0 :: st) h := pR_L rfl rfl
theorem rX3_held_150 : pR 83 d 150 ls (.int y :: .int x :: st) h = pR 83 d 151 ls (.int (x + y) :: st) h := pR_L rfl rfl
theorem rX3_held_151 : pR 83 d 151 [a0, a1, a2, a3, a4, a5] (.int x :: st) h = if p1 a4 = true then pR 83 d 153 [a0, a1, a2, a3, .int x, a5] st h else none := r_sto (n := 2) (k := 4) (v := .int x) (ls := [a0, a1, a2, a3, a4, a5]) rfl rfl rfl
theorem rX3_held_153 : pR 83 d 153 [a0, a1, a2, a3, a4, .int x] st h = pR 83 d 156 [a0, a1, a2, a3, a4, .int (x + 1)] st h := pR_L rfl rfl
theorem rX3_held_156 : pR 83 d 156 ls st h = pR 83 d 55 ls st h := pR_L rfl rfl
theorem rX3_held_159 : pR 83 d 159 [a0, .int x, a2, a3, a4, a5] st h = pR 83 d 160 [a0, .int x, a2, a3, a4, a5] (.int x :: st) h := pR_L rfl rfl
theorem rX3_held_160 : pR 83 d 160 [a0, a1, a2, a3, .int x, a5] st h = pR 83 d 162 [a0, a1, a2, a3, .int x, a5] (.int x :: st) h := pR_L rfl rfl
theorem rX3_held_162 : pR 83 d 162 ls st h = pR 83 d 163 ls (.int 3 :: st) h := pR_L rfl rfl
theorem rX3_held_163 : pR 83 d 163 ls (.int y :: .int x :: st) h = if x < y then pR 83 d 166 ls st h else pR 83 d 170 ls st h := r_cge rfl rfl
theorem rX3_held_166 : pR 83 d 166 ls st h = pR 83 d 167 ls (.int 1 :: st) h := pR_L rfl rfl
theorem rX3_held_167 : pR 83 d 167 ls st h = pR 83 d 171 ls st h := pR_L rfl rfl
theorem rX3_held_170 : pR 83 d 170 ls st h = pR 83 d 171 ls (.int 0 :: st) h := pR_L rfl rfl
theorem rX3_held_171 : pR 83 d 171 ls (.int y :: .int x :: st) h = pR 83 d 172 ls (.int (x + y) :: st) h := pR_L rfl rfl
theorem rX3_held_172 : pR 83 d 172 [a0, a1, a2, a3, a4, a5] (.int x :: st) h = if p1 a1 = true then pR 83 d 173 [a0, .int x, a2, a3, a4, a5] st h else none := r_sto (n := 1) (k := 1) (v := .int x) (ls := [a0, a1, a2, a3, a4, a5]) rfl rfl rfl
theorem rX3_held_173 : pR 83 d 173 [a0, a1, .int x, a3, a4, a5] st h = pR 83 d 176 [a0, a1, .int (x + 1), a3, a4, a5] st h := pR_L rfl rfl
theorem rX3_held_176 : pR 83 d 176 ls st h = pR 83 d 4 ls st h := pR_L rfl rfl
theorem rX3_held_179 : pR 83 d 179 [a0, .int x, a2, a3, a4, a5] st h = pR 83 d 180 [a0, .int x, a2, a3, a4, a5] (.int x :: st) h := pR_L rfl rfl
theorem rX3_held_180 : pR 83 d 180 ls [.int x] h = some (.inl (some (.int x)), h) := pR_E rfl rfl
-- 84 BalloonStallModel find (I)I
theorem eX3_find : pCa 84 d [.ref o, .int x0] h = pR 84 d 0 [.ref o, .int x0, pU] [] h := rfl
theorem rX3_find_0 : pR 84 d 0 [a0, .int x, a2] st h = pR 84 d 1 [a0, .int x, a2] (.int x :: st) h := pR_L rfl rfl
theorem rX3_find_1 : pR 84 d 1 [a0, a1, a2] (.int x :: st) h = if p1 a2 = true then pR 84 d 2 [a0, a1, .int x] st h else none := r_sto (n := 1) (k := 2) (v := .int x) (ls := [a0, a1, a2]) rfl rfl rfl
theorem rX3_find_2 : pR 84 d 2 [.ref o, a1, a2] st h = pR 84 d 3 [.ref o, a1, a2] (.ref o :: st) h := pR_L rfl rfl
theorem rX3_find_3 : pR 84 d 3 ls (.ref o :: st) h = if pis (pfl h 3 o 21) = true then pR 84 d 6 ls (pfl h 3 o 21 :: st) h else none := r_get rfl
theorem rX3_find_6 : pR 84 d 6 [a0, a1, .int x] st h = pR 84 d 7 [a0, a1, .int x] (.int x :: st) h := pR_L rfl rfl
theorem rX3_find_7 : pR 84 d 7 ls (.int x :: .ref o :: st) h = if (pin x (pln h 0 o) || pin x (pln h 9 o)) = true then pR 84 d 8 ls (.int (pct h o x.toNatClampNeg) :: st) h else none := pR_Lif rfl rfl
theorem rX3_find_8 : pR 84 d 8 [a0, a1, .int x] st h = pR 84 d 9 [a0, a1, .int x] (.int x :: st) h := pR_L rfl rfl
theorem rX3_find_9 : pR 84 d 9 ls (.int y :: .int x :: st) h = if x = y then pR 84 d 22 ls st h else pR 84 d 12 ls st h := r_ceq rfl rfl
theorem rX3_find_12 : pR 84 d 12 [.ref o, a1, a2] st h = pR 84 d 13 [.ref o, a1, a2] (.ref o :: st) h := pR_L rfl rfl
theorem rX3_find_13 : pR 84 d 13 ls (.ref o :: st) h = if pis (pfl h 3 o 21) = true then pR 84 d 16 ls (pfl h 3 o 21 :: st) h else none := r_get rfl
theorem rX3_find_16 : pR 84 d 16 [a0, a1, .int x] st h = pR 84 d 17 [a0, a1, .int x] (.int x :: st) h := pR_L rfl rfl
theorem rX3_find_17 : pR 84 d 17 ls (.int x :: .ref o :: st) h = if (pin x (pln h 0 o) || pin x (pln h 9 o)) = true then pR 84 d 18 ls (.int (pct h o x.toNatClampNeg) :: st) h else none := pR_Lif rfl rfl
theorem rX3_find_18 : pR 84 d 18 [a0, a1, a2] (.int x :: st) h = if p1 a2 = true then pR 84 d 19 [a0, a1, .int x] st h else none := r_sto (n := 1) (k := 2) (v := .int x) (ls := [a0, a1, a2]) rfl rfl rfl
theorem rX3_find_19 : pR 84 d 19 ls st h = pR 84 d 2 ls st h := pR_L rfl rfl
theorem rX3_find_22 : pR 84 d 22 [a0, a1, .int x] st h = pR 84 d 23 [a0, a1, .int x] (.int x :: st) h := pR_L rfl rfl
theorem rX3_find_23 : pR 84 d 23 ls [.int x] h = some (.inl (some (.int x)), h) := pR_E rfl rfl
-- 85 BalloonStallModel joinTo (II)V
theorem eX3_joinTo : pCa 85 d [.ref o, .int x0, .int x1] h = pR 85 d 0 [.ref o, .int x0, .int x1, pU, pU] [] h := rfl
theorem rX3_joinTo_0 : pR 85 d 0 [.ref o, a1, a2, a3, a4] st h = pR 85 d 1 [.ref o, a1, a2, a3, a4] (.ref o :: st) h := pR_L rfl rfl
theorem rX3_joinTo_1 : pR 85 d 1 [a0, .int x, a2, a3, a4] st h = pR 85 d 2 [a0, .int x, a2, a3, a4] (.int x :: st) h := pR_L rfl rfl
theorem rX3_joinTo_2 : pR 85 (d + 1) 2 ls (b1 :: .ref o :: st) h = if (pok 3 (pcl h o) && pw st) = true then pK 85 (d + 1) 2 3 ls st (pCa 84 d [.ref o, b1] h) else none := r_callV rfl rfl rfl
theorem rX3_joinTo_5 : pR 85 d 5 [a0, a1, a2, a3, a4] (.int x :: st) h = if p1 a3 = true then pR 85 d 6 [a0, a1, a2, .int x, a4] st h else none := r_sto (n := 1) (k := 3) (v := .int x) (ls := [a0, a1, a2, a3, a4]) rfl rfl rfl
theorem rX3_joinTo_6 : pR 85 d 6 [.ref o, a1, a2, a3, a4] st h = pR 85 d 7 [.ref o, a1, a2, a3, a4] (.ref o :: st) h := pR_L rfl rfl
theorem rX3_joinTo_7 : pR 85 d 7 [a0, a1, .int x, a3, a4] st h = pR 85 d 8 [a0, a1, .int x, a3, a4] (.int x :: st) h := pR_L rfl rfl
theorem rX3_joinTo_8 : pR 85 (d + 1) 8 ls (b1 :: .ref o :: st) h = if (pok 3 (pcl h o) && pw st) = true then pK 85 (d + 1) 8 3 ls st (pCa 84 d [.ref o, b1] h) else none := r_callV rfl rfl rfl
theorem rX3_joinTo_11 : pR 85 d 11 [a0, a1, a2, a3, a4] (.int x :: st) h = if p1 a4 = true then pR 85 d 13 [a0, a1, a2, a3, .int x] st h else none := r_sto (n := 2) (k := 4) (v := .int x) (ls := [a0, a1, a2, a3, a4]) rfl rfl rfl
theorem rX3_joinTo_13 : pR 85 d 13 [.ref o, a1, a2, a3, a4] st h = pR 85 d 14 [.ref o, a1, a2, a3, a4] (.ref o :: st) h := pR_L rfl rfl
theorem rX3_joinTo_14 : pR 85 d 14 ls (.ref o :: st) h = if pis (pfl h 3 o 21) = true then pR 85 d 17 ls (pfl h 3 o 21 :: st) h else none := r_get rfl
theorem rX3_joinTo_17 : pR 85 d 17 [a0, a1, a2, .int x, a4] st h = pR 85 d 18 [a0, a1, a2, .int x, a4] (.int x :: st) h := pR_L rfl rfl
theorem rX3_joinTo_18 : pR 85 d 18 [a0, a1, a2, a3, .int x] st h = pR 85 d 20 [a0, a1, a2, a3, .int x] (.int x :: st) h := pR_L rfl rfl
theorem rX3_joinTo_20 : pR 85 (d + 1) 20 ls (.int y :: .int x :: st) h = if pw st = true then pR 85 (d + 1) 23 ls (.int (if x < y then y else x) :: st) h else none := r_mx rfl
theorem rX3_joinTo_23 : pR 85 d 23 [a0, a1, a2, .int x, a4] st h = pR 85 d 24 [a0, a1, a2, .int x, a4] (.int x :: st) h := pR_L rfl rfl
theorem rX3_joinTo_24 : pR 85 d 24 [a0, a1, a2, a3, .int x] st h = pR 85 d 26 [a0, a1, a2, a3, .int x] (.int x :: st) h := pR_L rfl rfl
theorem rX3_joinTo_26 : pR 85 (d + 1) 26 ls (.int y :: .int x :: st) h = if pw st = true then pR 85 (d + 1) 29 ls (.int (if y < x then y else x) :: st) h else none := r_mn rfl
theorem rX3_joinTo_29 : pR 85 d 29 ls (.int y :: .int x :: .ref o :: st) h = if pin x (pln h 0 o) = true then pR 85 d 30 ls st (pst h o x.toNatClampNeg y) else none := pR_Lif rfl rfl
theorem rX3_joinTo_30 : pR 85 d 30 ls [] h = some (.inl none, h) := pR_E rfl rfl
-- 86 BalloonStallModel nested ()V
theorem eX3_nested : pCa 86 d [.ref o] h = pR 86 d 0 [.ref o, pU] [] h := rfl
theorem rX3_nested_0 : pR 86 d 0 [.ref o, a1] st h = pR 86 d 1 [.ref o, a1] (.ref o :: st) h := pR_L rfl rfl
theorem rX3_nested_1 : pR 86 d 1 ls (.ref o :: st) h = if pis (pfl h 3 o 10) = true then pR 86 d 4 ls (pfl h 3 o 10 :: st) h else none := r_get rfl
theorem rX3_nested_4 : pR 86 d 4 ls st h = pR 86 d 6 ls (.int 6 :: st) h := pR_L rfl rfl
theorem rX3_nested_6 : pR 86 d 6 ls (.int y :: .int x :: st) h = if x = y then pR 86 d 9 ls st h else pR 86 d 14 ls st h := r_cne rfl rfl
theorem rX3_nested_9 : pR 86 d 9 [.ref o, a1] st h = pR 86 d 10 [.ref o, a1] (.ref o :: st) h := pR_L rfl rfl
theorem rX3_nested_10 : pR 86 (d + 1) 10 ls (.ref o :: st) h = if (pok 3 (pcl h o) && pw st) = true then pK 86 (d + 1) 10 3 ls st (pCa 78 d [.ref o] h) else none := r_callV rfl rfl rfl
theorem rX3_nested_13 : pR 86 d 13 ls [] h = some (.inl none, h) := pR_E rfl rfl
theorem rX3_nested_14 : pR 86 d 14 [.ref o, a1] st h = pR 86 d 15 [.ref o, a1] (.ref o :: st) h := pR_L rfl rfl
theorem rX3_nested_15 : pR 86 d 15 ls (.ref o :: st) h = pR 86 d 16 ls (.ref o :: .ref o :: st) h := pR_L rfl rfl
theorem rX3_nested_15i : pR 86 d 15 ls (.int x :: st) h = pR 86 d 16 ls (.int x :: .int x :: st) h := pR_L rfl rfl
theorem rX3_nested_16 : pR 86 d 16 ls (.ref o :: st) h = if pis (pfl h 3 o 10) = true then pR 86 d 19 ls (pfl h 3 o 10 :: st) h else none := r_get rfl
theorem rX3_nested_19 : pR 86 d 19 ls st h = pR 86 d 20 ls (.int 1 :: st) h := pR_L rfl rfl
theorem rX3_nested_20 : pR 86 d 20 ls (.int y :: .int x :: st) h = pR 86 d 21 ls (.int (x + y) :: st) h := pR_L rfl rfl
theorem rX3_nested_21 : pR 86 d 21 ls (.int x :: .ref o :: st) h = if pis (pfl h 3 o 10) = true then pR 86 d 24 ls st (psf h o 10 (.int x)) else none := r_put rfl rfl
theorem rX3_nested_24 : pR 86 d 24 [.ref o, a1] st h = pR 86 d 25 [.ref o, a1] (.ref o :: st) h := pR_L rfl rfl
theorem rX3_nested_25 : pR 86 d 25 ls (.ref o :: st) h = pR 86 d 26 ls (.ref o :: .ref o :: st) h := pR_L rfl rfl
theorem rX3_nested_25i : pR 86 d 25 ls (.int x :: st) h = pR 86 d 26 ls (.int x :: .int x :: st) h := pR_L rfl rfl
theorem rX3_nested_26 : pR 86 d 26 ls (.ref o :: st) h = if pis (pfl h 3 o 8) = true then pR 86 d 29 ls (pfl h 3 o 8 :: st) h else none := r_get rfl
theorem rX3_nested_29 : pR 86 d 29 ls st h = pR 86 d 30 ls (.int 1 :: st) h := pR_L rfl rfl
theorem rX3_nested_30 : pR 86 d 30 ls (.int y :: .int x :: st) h = pR 86 d 31 ls (.int (x + y) :: st) h := pR_L rfl rfl
theorem rX3_nested_31 : pR 86 d 31 ls (.int x :: .ref o :: st) h = if pis (pfl h 3 o 8) = true then pR 86 d 34 ls st (psf h o 8 (.int x)) else none := r_put rfl rfl
theorem rX3_nested_34 : pR 86 d 34 [.ref o, a1] st h = pR 86 d 35 [.ref o, a1] (.ref o :: st) h := pR_L rfl rfl
theorem rX3_nested_35 : pR 86 d 35 ls (.ref o :: st) h = if pis (pfl h 3 o 24) = true then pR 86 d 38 ls (pfl h 3 o 24 :: st) h else none := r_get rfl
theorem rX3_nested_38 : pR 86 d 38 [a0, a1] (.int x :: st) h = if p1 a1 = true then pR 86 d 39 [a0, .int x] st h else none := r_sto (n := 1) (k := 1) (v := .int x) (ls := [a0, a1]) rfl rfl rfl
theorem rX3_nested_39 : pR 86 d 39 [.ref o, a1] st h = pR 86 d 40 [.ref o, a1] (.ref o :: st) h := pR_L rfl rfl
theorem rX3_nested_40 : pR 86 (d + 1) 40 ls (.ref o :: st) h = if (pok 3 (pcl h o) && pw st) = true then pK 86 (d + 1) 40 3 ls st (pCa 81 d [.ref o] h) else none := r_callV rfl rfl rfl
theorem rX3_nested_43 : pR 86 d 43 [.ref o, a1] st h = pR 86 d 44 [.ref o, a1] (.ref o :: st) h := pR_L rfl rfl
theorem rX3_nested_44 : pR 86 d 44 ls (.ref o :: st) h = if pis (pfl h 3 o 9) = true then pR 86 d 47 ls (pfl h 3 o 9 :: st) h else none := r_get rfl
theorem rX3_nested_47 : pR 86 d 47 ls st h = pR 86 d 48 ls (.int (-1) :: st) h := pR_L rfl rfl
theorem rX3_nested_48 : pR 86 d 48 ls (.int y :: .int x :: st) h = if x = y then pR 86 d 51 ls st h else pR 86 d 64 ls st h := r_cne rfl rfl
theorem rX3_nested_51 : pR 86 d 51 [.ref o, a1] st h = pR 86 d 52 [.ref o, a1] (.ref o :: st) h := pR_L rfl rfl
theorem rX3_nested_52 : pR 86 (d + 1) 52 ls (.ref o :: st) h = if (pok 3 (pcl h o) && pw st) = true then pK 86 (d + 1) 52 3 ls st (pCa 76 d [.ref o] h) else none := r_callV rfl rfl rfl
theorem rX3_nested_55 : pR 86 d 55 ls st h = pR 86 d 57 ls (.int 41 :: st) h := pR_L rfl rfl
theorem rX3_nested_57 : pR 86 d 57 ls (.int y :: .int x :: st) h = if x = y then pR 86 d 64 ls st h else pR 86 d 60 ls st h := r_ceq rfl rfl
theorem rX3_nested_60 : pR 86 d 60 [.ref o, a1] st h = pR 86 d 61 [.ref o, a1] (.ref o :: st) h := pR_L rfl rfl
theorem rX3_nested_61 : pR 86 (d + 1) 61 ls (.ref o :: st) h = if (pok 3 (pcl h o) && pw st) = true then pK 86 (d + 1) 61 3 ls st (pCa 78 d [.ref o] h) else none := r_callV rfl rfl rfl
theorem rX3_nested_64 : pR 86 d 64 [.ref o, a1] st h = pR 86 d 65 [.ref o, a1] (.ref o :: st) h := pR_L rfl rfl
theorem rX3_nested_65 : pR 86 d 65 ls (.ref o :: st) h = pR 86 d 66 ls (.ref o :: .ref o :: st) h := pR_L rfl rfl
theorem rX3_nested_65i : pR 86 d 65 ls (.int x :: st) h = pR 86 d 66 ls (.int x :: .int x :: st) h := pR_L rfl rfl
theorem rX3_nested_66 : pR 86 d 66 ls (.ref o :: st) h = if pis (pfl h 3 o 8) = true then pR 86 d 69 ls (pfl h 3 o 8 :: st) h else none := r_get rfl
theorem rX3_nested_69 : pR 86 d 69 ls st h = pR 86 d 70 ls (.int 1 :: st) h := pR_L rfl rfl
theorem rX3_nested_70 : pR 86 d 70 ls (.int y :: .int x :: st) h = pR 86 d 71 ls (.int (x + y) :: st) h := pR_L rfl rfl
theorem rX3_nested_71 : pR 86 d 71 ls (.int x :: .ref o :: st) h = if pis (pfl h 3 o 8) = true then pR 86 d 74 ls st (psf h o 8 (.int x)) else none := r_put rfl rfl
theorem rX3_nested_74 : pR 86 d 74 [.ref o, a1] st h = pR 86 d 75 [.ref o, a1] (.ref o :: st) h := pR_L rfl rfl
theorem rX3_nested_75 : pR 86 d 75 ls (.ref o :: st) h = pR 86 d 76 ls (.ref o :: .ref o :: st) h := pR_L rfl rfl
theorem rX3_nested_75i : pR 86 d 75 ls (.int x :: st) h = pR 86 d 76 ls (.int x :: .int x :: st) h := pR_L rfl rfl
theorem rX3_nested_76 : pR 86 d 76 ls (.ref o :: st) h = if pis (pfl h 3 o 10) = true then pR 86 d 79 ls (pfl h 3 o 10 :: st) h else none := r_get rfl
theorem rX3_nested_79 : pR 86 d 79 ls st h = pR 86 d 80 ls (.int 1 :: st) h := pR_L rfl rfl
theorem rX3_nested_80 : pR 86 d 80 ls (.int y :: .int x :: st) h = pR 86 d 81 ls (.int (x - y) :: st) h := pR_L rfl rfl
theorem rX3_nested_81 : pR 86 d 81 ls (.int x :: .ref o :: st) h = if pis (pfl h 3 o 10) = true then pR 86 d 84 ls st (psf h o 10 (.int x)) else none := r_put rfl rfl
theorem rX3_nested_84 : pR 86 d 84 [.ref o, a1] st h = pR 86 d 85 [.ref o, a1] (.ref o :: st) h := pR_L rfl rfl
theorem rX3_nested_85 : pR 86 d 85 ls (.ref o :: st) h = if pis (pfl h 3 o 9) = true then pR 86 d 88 ls (pfl h 3 o 9 :: st) h else none := r_get rfl
theorem rX3_nested_88 : pR 86 d 88 ls st h = pR 86 d 89 ls (.int (-1) :: st) h := pR_L rfl rfl
theorem rX3_nested_89 : pR 86 d 89 ls (.int y :: .int x :: st) h = if x = y then pR 86 d 92 ls st h else pR 86 d 101 ls st h := r_cne rfl rfl
theorem rX3_nested_92 : pR 86 d 92 [.ref o, a1] st h = pR 86 d 93 [.ref o, a1] (.ref o :: st) h := pR_L rfl rfl
theorem rX3_nested_93 : pR 86 d 93 [a0, .int x] st h = pR 86 d 94 [a0, .int x] (.int x :: st) h := pR_L rfl rfl
theorem rX3_nested_94 : pR 86 d 94 [.ref o, a1] st h = pR 86 d 95 [.ref o, a1] (.ref o :: st) h := pR_L rfl rfl
theorem rX3_nested_95 : pR 86 d 95 ls (.ref o :: st) h = if pis (pfl h 3 o 24) = true then pR 86 d 98 ls (pfl h 3 o 24 :: st) h else none := r_get rfl
theorem rX3_nested_98 : pR 86 (d + 1) 98 ls (b2 :: b1 :: .ref o :: st) h = if (pok 3 (pcl h o) && pw st) = true then pK 86 (d + 1) 98 3 ls st (pCa 85 d [.ref o, b1, b2] h) else none := r_callV rfl rfl rfl
theorem rX3_nested_101 : pR 86 d 101 ls [] h = some (.inl none, h) := pR_E rfl rfl
-- 87 BalloonStallModel numberPoints ()V
theorem eX3_numberPoints : pCa 87 d [.ref o] h = pR 87 d 0 [.ref o, pU, pU] [] h := rfl
theorem rX3_numberPoints_0 : pR 87 d 0 ls st h = pR 87 d 1 ls (.int 0 :: st) h := pR_L rfl rfl
theorem rX3_numberPoints_1 : pR 87 d 1 [a0, a1, a2] (.int x :: st) h = if p1 a1 = true then pR 87 d 2 [a0, .int x, a2] st h else none := r_sto (n := 1) (k := 1) (v := .int x) (ls := [a0, a1, a2]) rfl rfl rfl
theorem rX3_numberPoints_2 : pR 87 d 2 ls st h = pR 87 d 3 ls (.int 0 :: st) h := pR_L rfl rfl
theorem rX3_numberPoints_3 : pR 87 d 3 [a0, a1, a2] (.int x :: st) h = if p1 a2 = true then pR 87 d 4 [a0, a1, .int x] st h else none := r_sto (n := 1) (k := 2) (v := .int x) (ls := [a0, a1, a2]) rfl rfl rfl
theorem rX3_numberPoints_4 : pR 87 d 4 [a0, a1, .int x] st h = pR 87 d 5 [a0, a1, .int x] (.int x :: st) h := pR_L rfl rfl
theorem rX3_numberPoints_5 : pR 87 d 5 [.ref o, a1, a2] st h = pR 87 d 6 [.ref o, a1, a2] (.ref o :: st) h := pR_L rfl rfl
theorem rX3_numberPoints_6 : pR 87 d 6 ls (.ref o :: st) h = if pis (pfl h 3 o 23) = true then pR 87 d 9 ls (pfl h 3 o 23 :: st) h else none := r_get rfl
theorem rX3_numberPoints_9 : pR 87 d 9 ls (.int y :: .int x :: st) h = if x < y then pR 87 d 12 ls st h else pR 87 d 37 ls st h := r_cge rfl rfl
theorem rX3_numberPoints_12 : pR 87 d 12 [.ref o, a1, a2] st h = pR 87 d 13 [.ref o, a1, a2] (.ref o :: st) h := pR_L rfl rfl
theorem rX3_numberPoints_13 : pR 87 d 13 [a0, a1, .int x] st h = pR 87 d 14 [a0, a1, .int x] (.int x :: st) h := pR_L rfl rfl
theorem rX3_numberPoints_14 : pR 87 (d + 1) 14 ls (b1 :: .ref o :: st) h = if (pok 3 (pcl h o) && pw st) = true then pK 87 (d + 1) 14 3 ls st (pCa 84 d [.ref o, b1] h) else none := r_callV rfl rfl rfl
theorem rX3_numberPoints_17 : pR 87 d 17 [a0, a1, .int x] st h = pR 87 d 18 [a0, a1, .int x] (.int x :: st) h := pR_L rfl rfl
theorem rX3_numberPoints_18 : pR 87 d 18 ls (.int y :: .int x :: st) h = if x = y then pR 87 d 21 ls st h else pR 87 d 31 ls st h := r_cne rfl rfl
theorem rX3_numberPoints_21 : pR 87 d 21 [.ref o, a1, a2] st h = pR 87 d 22 [.ref o, a1, a2] (.ref o :: st) h := pR_L rfl rfl
theorem rX3_numberPoints_22 : pR 87 d 22 ls (.ref o :: st) h = if pis (pfl h 3 o 26) = true then pR 87 d 25 ls (pfl h 3 o 26 :: st) h else none := r_get rfl
theorem rX3_numberPoints_25 : pR 87 d 25 [a0, a1, .int x] st h = pR 87 d 26 [a0, a1, .int x] (.int x :: st) h := pR_L rfl rfl
theorem rX3_numberPoints_26 : pR 87 d 26 [a0, .int x, a2] st h = pR 87 d 27 [a0, .int x, a2] (.int x :: st) h := pR_L rfl rfl
theorem rX3_numberPoints_27 : pR 87 d 27 ls (.int y :: .int x :: .ref o :: st) h = if pin x (pln h 0 o) = true then pR 87 d 28 ls st (pst h o x.toNatClampNeg y) else none := pR_Lif rfl rfl
theorem rX3_numberPoints_28 : pR 87 d 28 [a0, .int x, a2] st h = pR 87 d 31 [a0, .int (x + 1), a2] st h := pR_L rfl rfl
theorem rX3_numberPoints_31 : pR 87 d 31 [a0, a1, .int x] st h = pR 87 d 34 [a0, a1, .int (x + 1)] st h := pR_L rfl rfl
theorem rX3_numberPoints_34 : pR 87 d 34 ls st h = pR 87 d 4 ls st h := pR_L rfl rfl
theorem rX3_numberPoints_37 : pR 87 d 37 [.ref o, a1, a2] st h = pR 87 d 38 [.ref o, a1, a2] (.ref o :: st) h := pR_L rfl rfl
theorem rX3_numberPoints_38 : pR 87 d 38 ls (.ref o :: st) h = if pis (pfl h 3 o 14) = true then pR 87 d 41 ls (pfl h 3 o 14 :: st) h else none := r_get rfl
theorem rX3_numberPoints_41 : pR 87 d 41 [.ref o, a1, a2] st h = pR 87 d 42 [.ref o, a1, a2] (.ref o :: st) h := pR_L rfl rfl
theorem rX3_numberPoints_42 : pR 87 d 42 ls (.ref o :: st) h = if pis (pfl h 3 o 25) = true then pR 87 d 45 ls (pfl h 3 o 25 :: st) h else none := r_get rfl
theorem rX3_numberPoints_45 : pR 87 d 45 [a0, .int x, a2] st h = pR 87 d 46 [a0, .int x, a2] (.int x :: st) h := pR_L rfl rfl
theorem rX3_numberPoints_46 : pR 87 d 46 ls (.int y :: .int x :: .ref o :: st) h = if pin x (pln h 0 o) = true then pR 87 d 47 ls st (pst h o x.toNatClampNeg y) else none := pR_Lif rfl rfl
theorem rX3_numberPoints_47 : pR 87 d 47 ls st h = pR 87 d 49 ls (.int 24 :: st) h := pR_L rfl rfl
theorem rX3_numberPoints_49 : pR 87 d 49 [.ref o, a1, a2] st h = pR 87 d 50 [.ref o, a1, a2] (.ref o :: st) h := pR_L rfl rfl
theorem rX3_numberPoints_50 : pR 87 d 50 ls (.ref o :: st) h = if pis (pfl h 3 o 25) = true then pR 87 d 53 ls (pfl h 3 o 25 :: st) h else none := r_get rfl
theorem rX3_numberPoints_53 : pR 87 d 53 ls (.int y :: .int x :: st) h = pR 87 d 54 ls (.int (x * y) :: st) h := pR_L rfl rfl
theorem rX3_numberPoints_54 : pR 87 d 54 [a0, a1, a2] (.int x :: st) h = if p1 a2 = true then pR 87 d 55 [a0, a1, .int x] st h else none := r_sto (n := 1) (k := 2) (v := .int x) (ls := [a0, a1, a2]) rfl rfl rfl
theorem rX3_numberPoints_55 : pR 87 d 55 [a0, a1, .int x] st h = pR 87 d 56 [a0, a1, .int x] (.int x :: st) h := pR_L rfl rfl
theorem rX3_numberPoints_56 : pR 87 d 56 ls st h = pR 87 d 58 ls (.int 24 :: st) h := pR_L rfl rfl
theorem rX3_numberPoints_58 : pR 87 d 58 [.ref o, a1, a2] st h = pR 87 d 59 [.ref o, a1, a2] (.ref o :: st) h := pR_L rfl rfl
theorem rX3_numberPoints_59 : pR 87 d 59 ls (.ref o :: st) h = if pis (pfl h 3 o 25) = true then pR 87 d 62 ls (pfl h 3 o 25 :: st) h else none := r_get rfl
theorem rX3_numberPoints_62 : pR 87 d 62 ls (.int y :: .int x :: st) h = pR 87 d 63 ls (.int (x * y) :: st) h := pR_L rfl rfl
theorem rX3_numberPoints_63 : pR 87 d 63 [.ref o, a1, a2] st h = pR 87 d 64 [.ref o, a1, a2] (.ref o :: st) h := pR_L rfl rfl
theorem rX3_numberPoints_64 : pR 87 d 64 ls (.ref o :: st) h = if pis (pfl h 3 o 13) = true then pR 87 d 67 ls (pfl h 3 o 13 :: st) h else none := r_get rfl
theorem rX3_numberPoints_67 : pR 87 d 67 [.ref o, a1, a2] st h = pR 87 d 68 [.ref o, a1, a2] (.ref o :: st) h := pR_L rfl rfl
theorem rX3_numberPoints_68 : pR 87 d 68 ls (.ref o :: st) h = if pis (pfl h 3 o 25) = true then pR 87 d 71 ls (pfl h 3 o 25 :: st) h else none := r_get rfl
theorem rX3_numberPoints_71 : pR 87 d 71 ls (.int x :: .ref o :: st) h = if (pin x (pln h 0 o) || pin x (pln h 9 o)) = true then pR 87 d 72 ls (.int (pct h o x.toNatClampNeg) :: st) h else none := pR_Lif rfl rfl
theorem rX3_numberPoints_72 : pR 87 d 72 ls (.int y :: .int x :: st) h = pR 87 d 73 ls (.int (x + y) :: st) h := pR_L rfl rfl
theorem rX3_numberPoints_73 : pR 87 d 73 ls (.int y :: .int x :: st) h = if x < y then pR 87 d 76 ls st h else pR 87 d 124 ls st h := r_cge rfl rfl
theorem rX3_numberPoints_76 : pR 87 d 76 [.ref o, a1, a2] st h = pR 87 d 77 [.ref o, a1, a2] (.ref o :: st) h := pR_L rfl rfl
theorem rX3_numberPoints_77 : pR 87 d 77 ls (.ref o :: st) h = if pis (pfl h 3 o 16) = true then pR 87 d 80 ls (pfl h 3 o 16 :: st) h else none := r_get rfl
theorem rX3_numberPoints_80 : pR 87 d 80 [a0, a1, .int x] st h = pR 87 d 81 [a0, a1, .int x] (.int x :: st) h := pR_L rfl rfl
theorem rX3_numberPoints_81 : pR 87 d 81 [.ref o, a1, a2] st h = pR 87 d 82 [.ref o, a1, a2] (.ref o :: st) h := pR_L rfl rfl
theorem rX3_numberPoints_82 : pR 87 d 82 ls (.ref o :: st) h = if pis (pfl h 3 o 26) = true then pR 87 d 85 ls (pfl h 3 o 26 :: st) h else none := r_get rfl
theorem rX3_numberPoints_85 : pR 87 d 85 [.ref o, a1, a2] st h = pR 87 d 86 [.ref o, a1, a2] (.ref o :: st) h := pR_L rfl rfl
theorem rX3_numberPoints_86 : pR 87 d 86 [.ref o, a1, a2] st h = pR 87 d 87 [.ref o, a1, a2] (.ref o :: st) h := pR_L rfl rfl
theorem rX3_numberPoints_87 : pR 87 d 87 ls (.ref o :: st) h = if pis (pfl h 3 o 16) = true then pR 87 d 90 ls (pfl h 3 o 16 :: st) h else none := r_get rfl
theorem rX3_numberPoints_90 : pR 87 d 90 [a0, a1, .int x] st h = pR 87 d 91 [a0, a1, .int x] (.int x :: st) h := pR_L rfl rfl
theorem rX3_numberPoints_91 : pR 87 d 91 ls (.int x :: .ref o :: st) h = if (pin x (pln h 0 o) || pin x (pln h 9 o)) = true then pR 87 d 92 ls (.int (pct h o x.toNatClampNeg) :: st) h else none := pR_Lif rfl rfl
theorem rX3_numberPoints_92 : pR 87 (d + 1) 92 ls (b1 :: .ref o :: st) h = if (pok 3 (pcl h o) && pw st) = true then pK 87 (d + 1) 92 3 ls st (pCa 84 d [.ref o, b1] h) else none := r_callV rfl rfl rfl
theorem rX3_numberPoints_95 : pR 87 d 95 ls (.int x :: .ref o :: st) h = if (pin x (pln h 0 o) || pin x (pln h 9 o)) = true then pR 87 d 96 ls (.int (pct h o x.toNatClampNeg) :: st) h else none := pR_Lif rfl rfl
theorem rX3_numberPoints_96 : pR 87 d 96 ls (.int y :: .int x :: .ref o :: st) h = if pin x (pln h 0 o) = true then pR 87 d 97 ls st (pst h o x.toNatClampNeg y) else none := pR_Lif rfl rfl
theorem rX3_numberPoints_97 : pR 87 d 97 [.ref o, a1, a2] st h = pR 87 d 98 [.ref o, a1, a2] (.ref o :: st) h := pR_L rfl rfl
theorem rX3_numberPoints_98 : pR 87 d 98 ls (.ref o :: st) h = if pis (pfl h 3 o 17) = true then pR 87 d 101 ls (pfl h 3 o 17 :: st) h else none := r_get rfl
theorem rX3_numberPoints_101 : pR 87 d 101 [a0, a1, .int x] st h = pR 87 d 102 [a0, a1, .int x] (.int x :: st) h := pR_L rfl rfl
theorem rX3_numberPoints_102 : pR 87 d 102 [.ref o, a1, a2] st h = pR 87 d 103 [.ref o, a1, a2] (.ref o :: st) h := pR_L rfl rfl
theorem rX3_numberPoints_103 : pR 87 d 103 ls (.ref o :: st) h = if pis (pfl h 3 o 26) = true then pR 87 d 106 ls (pfl h 3 o 26 :: st) h else none := r_get rfl
theorem rX3_numberPoints_106 : pR 87 d 106 [.ref o, a1, a2] st h = pR 87 d 107 [.ref o, a1, a2] (.ref o :: st) h := pR_L rfl rfl
theorem rX3_numberPoints_107 : pR 87 d 107 [.ref o, a1, a2] st h = pR 87 d 108 [.ref o, a1, a2] (.ref o :: st) h := pR_L rfl rfl
theorem rX3_numberPoints_108 : pR 87 d 108 ls (.ref o :: st) h = if pis (pfl h 3 o 17) = true then pR 87 d 111 ls (pfl h 3 o 17 :: st) h else none := r_get rfl
theorem rX3_numberPoints_111 : pR 87 d 111 [a0, a1, .int x] st h = pR 87 d 112 [a0, a1, .int x] (.int x :: st) h := pR_L rfl rfl
theorem rX3_numberPoints_112 : pR 87 d 112 ls (.int x :: .ref o :: st) h = if (pin x (pln h 0 o) || pin x (pln h 9 o)) = true then pR 87 d 113 ls (.int (pct h o x.toNatClampNeg) :: st) h else none := pR_Lif rfl rfl
theorem rX3_numberPoints_113 : pR 87 (d + 1) 113 ls (b1 :: .ref o :: st) h = if (pok 3 (pcl h o) && pw st) = true then pK 87 (d + 1) 113 3 ls st (pCa 84 d [.ref o, b1] h) else none := r_callV rfl rfl rfl
theorem rX3_numberPoints_116 : pR 87 d 116 ls (.int x :: .ref o :: st) h = if (pin x (pln h 0 o) || pin x (pln h 9 o)) = true then pR 87 d 117 ls (.int (pct h o x.toNatClampNeg) :: st) h else none := pR_Lif rfl rfl
theorem rX3_numberPoints_117 : pR 87 d 117 ls (.int y :: .int x :: .ref o :: st) h = if pin x (pln h 0 o) = true then pR 87 d 118 ls st (pst h o x.toNatClampNeg y) else none := pR_Lif rfl rfl
theorem rX3_numberPoints_118 : pR 87 d 118 [a0, a1, .int x] st h = pR 87 d 121 [a0, a1, .int (x + 1)] st h := pR_L rfl rfl
theorem rX3_numberPoints_121 : pR 87 d 121 ls st h = pR 87 d 55 ls st h := pR_L rfl rfl
theorem rX3_numberPoints_124 : pR 87 d 124 ls [] h = some (.inl none, h) := pR_E rfl rfl
-- 88 BalloonStallModel readRule (I)I
theorem eX3_readRule : pCa 88 d [.ref o, .int x0] h = pR 88 d 0 [.ref o, .int x0] [] h := rfl
theorem rX3_readRule_0 : pR 88 d 0 [.ref o, a1] st h = pR 88 d 1 [.ref o, a1] (.ref o :: st) h := pR_L rfl rfl
theorem rX3_readRule_1 : pR 88 d 1 [a0, .int x] st h = pR 88 d 2 [a0, .int x] (.int x :: st) h := pR_L rfl rfl
theorem rX3_readRule_2 : pR 88 d 2 ls (.int x :: .ref o :: st) h = if pis (pfl h 3 o 32) = true then pR 88 d 5 ls st (psf h o 32 (.int x)) else none := r_put rfl rfl
theorem rX3_readRule_5 : pR 88 d 5 [.ref o, a1] st h = pR 88 d 6 [.ref o, a1] (.ref o :: st) h := pR_L rfl rfl
theorem rX3_readRule_6 : pR 88 d 6 ls st h = pR 88 d 7 ls (.int 0 :: st) h := pR_L rfl rfl
theorem rX3_readRule_7 : pR 88 d 7 ls (.int x :: .ref o :: st) h = if pis (pfl h 3 o 8) = true then pR 88 d 10 ls st (psf h o 8 (.int x)) else none := r_put rfl rfl
theorem rX3_readRule_10 : pR 88 d 10 [.ref o, a1] st h = pR 88 d 11 [.ref o, a1] (.ref o :: st) h := pR_L rfl rfl
theorem rX3_readRule_11 : pR 88 d 11 ls st h = pR 88 d 12 ls (.int (-1) :: st) h := pR_L rfl rfl
theorem rX3_readRule_12 : pR 88 d 12 ls (.int x :: .ref o :: st) h = if pis (pfl h 3 o 9) = true then pR 88 d 15 ls st (psf h o 9 (.int x)) else none := r_put rfl rfl
theorem rX3_readRule_15 : pR 88 d 15 [.ref o, a1] st h = pR 88 d 16 [.ref o, a1] (.ref o :: st) h := pR_L rfl rfl
theorem rX3_readRule_16 : pR 88 d 16 ls st h = pR 88 d 17 ls (.int 0 :: st) h := pR_L rfl rfl
theorem rX3_readRule_17 : pR 88 d 17 ls (.int x :: .ref o :: st) h = if pis (pfl h 3 o 10) = true then pR 88 d 20 ls st (psf h o 10 (.int x)) else none := r_put rfl rfl
theorem rX3_readRule_20 : pR 88 d 20 [.ref o, a1] st h = pR 88 d 21 [.ref o, a1] (.ref o :: st) h := pR_L rfl rfl
theorem rX3_readRule_21 : pR 88 d 21 ls st h = pR 88 d 22 ls (.int 0 :: st) h := pR_L rfl rfl
theorem rX3_readRule_22 : pR 88 d 22 ls (.int x :: .ref o :: st) h = if pis (pfl h 3 o 33) = true then pR 88 d 25 ls st (psf h o 33 (.int x)) else none := r_put rfl rfl
theorem rX3_readRule_25 : pR 88 d 25 [.ref o, a1] st h = pR 88 d 26 [.ref o, a1] (.ref o :: st) h := pR_L rfl rfl
theorem rX3_readRule_26 : pR 88 d 26 ls (.ref o :: st) h = if pis (pfl h 3 o 28) = true then pR 88 d 29 ls (pfl h 3 o 28 :: st) h else none := r_get rfl
theorem rX3_readRule_29 : pR 88 d 29 [a0, .int x] st h = pR 88 d 30 [a0, .int x] (.int x :: st) h := pR_L rfl rfl
theorem rX3_readRule_30 : pR 88 d 30 ls st h = pR 88 d 31 ls (.int 0 :: st) h := pR_L rfl rfl
theorem rX3_readRule_31 : pR 88 d 31 ls (.int y :: .int x :: .ref o :: st) h = if pin x (pln h 0 o) = true then pR 88 d 32 ls st (pst h o x.toNatClampNeg y) else none := pR_Lif rfl rfl
theorem rX3_readRule_32 : pR 88 d 32 [.ref o, a1] st h = pR 88 d 33 [.ref o, a1] (.ref o :: st) h := pR_L rfl rfl
theorem rX3_readRule_33 : pR 88 (d + 1) 33 ls (.ref o :: st) h = if (pok 3 (pcl h o) && pw st) = true then pK 88 (d + 1) 33 3 ls st (pCa 89 d [.ref o] h) else none := r_callV rfl rfl rfl
theorem rX3_readRule_36 : pR 88 d 36 [.ref o, a1] st h = pR 88 d 37 [.ref o, a1] (.ref o :: st) h := pR_L rfl rfl
theorem rX3_readRule_37 : pR 88 d 37 ls (.ref o :: st) h = if pis (pfl h 3 o 9) = true then pR 88 d 40 ls (pfl h 3 o 9 :: st) h else none := r_get rfl
theorem rX3_readRule_40 : pR 88 d 40 ls st h = pR 88 d 41 ls (.int (-1) :: st) h := pR_L rfl rfl
theorem rX3_readRule_41 : pR 88 d 41 ls (.int y :: .int x :: st) h = if x = y then pR 88 d 44 ls st h else pR 88 d 70 ls st h := r_cne rfl rfl
theorem rX3_readRule_44 : pR 88 d 44 [.ref o, a1] st h = pR 88 d 45 [.ref o, a1] (.ref o :: st) h := pR_L rfl rfl
theorem rX3_readRule_45 : pR 88 (d + 1) 45 ls (.ref o :: st) h = if (pok 3 (pcl h o) && pw st) = true then pK 88 (d + 1) 45 3 ls st (pCa 76 d [.ref o] h) else none := r_callV rfl rfl rfl
theorem rX3_readRule_48 : pR 88 d 48 ls st h = pR 88 d 50 ls (.int 59 :: st) h := pR_L rfl rfl
theorem rX3_readRule_50 : pR 88 d 50 ls (.int y :: .int x :: st) h = if x = y then pR 88 d 53 ls st h else pR 88 d 70 ls st h := r_cne rfl rfl
theorem rX3_readRule_53 : pR 88 d 53 [.ref o, a1] st h = pR 88 d 54 [.ref o, a1] (.ref o :: st) h := pR_L rfl rfl
theorem rX3_readRule_54 : pR 88 d 54 ls (.ref o :: st) h = pR 88 d 55 ls (.ref o :: .ref o :: st) h := pR_L rfl rfl
theorem rX3_readRule_54i : pR 88 d 54 ls (.int x :: st) h = pR 88 d 55 ls (.int x :: .int x :: st) h := pR_L rfl rfl
theorem rX3_readRule_55 : pR 88 d 55 ls (.ref o :: st) h = if pis (pfl h 3 o 8) = true then pR 88 d 58 ls (pfl h 3 o 8 :: st) h else none := r_get rfl
theorem rX3_readRule_58 : pR 88 d 58 ls st h = pR 88 d 59 ls (.int 1 :: st) h := pR_L rfl rfl
theorem rX3_readRule_59 : pR 88 d 59 ls (.int y :: .int x :: st) h = pR 88 d 60 ls (.int (x + y) :: st) h := pR_L rfl rfl
theorem rX3_readRule_60 : pR 88 d 60 ls (.int x :: .ref o :: st) h = if pis (pfl h 3 o 8) = true then pR 88 d 63 ls st (psf h o 8 (.int x)) else none := r_put rfl rfl
theorem rX3_readRule_63 : pR 88 d 63 [.ref o, a1] st h = pR 88 d 64 [.ref o, a1] (.ref o :: st) h := pR_L rfl rfl
theorem rX3_readRule_64 : pR 88 (d + 1) 64 ls (.ref o :: st) h = if (pok 3 (pcl h o) && pw st) = true then pK 88 (d + 1) 64 3 ls st (pCa 89 d [.ref o] h) else none := r_callV rfl rfl rfl
theorem rX3_readRule_67 : pR 88 d 67 ls st h = pR 88 d 36 ls st h := pR_L rfl rfl
theorem rX3_readRule_70 : pR 88 d 70 [.ref o, a1] st h = pR 88 d 71 [.ref o, a1] (.ref o :: st) h := pR_L rfl rfl
theorem rX3_readRule_71 : pR 88 d 71 ls (.ref o :: st) h = if pis (pfl h 3 o 9) = true then pR 88 d 74 ls (pfl h 3 o 9 :: st) h else none := r_get rfl
theorem rX3_readRule_74 : pR 88 d 74 ls st h = pR 88 d 75 ls (.int (-1) :: st) h := pR_L rfl rfl
theorem rX3_readRule_75 : pR 88 d 75 ls (.int y :: .int x :: st) h = if x = y then pR 88 d 78 ls st h else pR 88 d 90 ls st h := r_cne rfl rfl
theorem rX3_readRule_78 : pR 88 d 78 [.ref o, a1] st h = pR 88 d 79 [.ref o, a1] (.ref o :: st) h := pR_L rfl rfl
theorem rX3_readRule_79 : pR 88 (d + 1) 79 ls (.ref o :: st) h = if (pok 3 (pcl h o) && pw st) = true then pK 88 (d + 1) 79 3 ls st (pCa 76 d [.ref o] h) else none := r_callV rfl rfl rfl
theorem rX3_readRule_82 : pR 88 d 82 ls st h = pR 88 d 83 ls (.int (-1) :: st) h := pR_L rfl rfl
theorem rX3_readRule_83 : pR 88 d 83 ls (.int y :: .int x :: st) h = if x = y then pR 88 d 90 ls st h else pR 88 d 86 ls st h := r_ceq rfl rfl
theorem rX3_readRule_86 : pR 88 d 86 [.ref o, a1] st h = pR 88 d 87 [.ref o, a1] (.ref o :: st) h := pR_L rfl rfl
theorem rX3_readRule_87 : pR 88 (d + 1) 87 ls (.ref o :: st) h = if (pok 3 (pcl h o) && pw st) = true then pK 88 (d + 1) 87 3 ls st (pCa 78 d [.ref o] h) else none := r_callV rfl rfl rfl
theorem rX3_readRule_90 : pR 88 d 90 [.ref o, a1] st h = pR 88 d 91 [.ref o, a1] (.ref o :: st) h := pR_L rfl rfl
theorem rX3_readRule_91 : pR 88 d 91 ls (.ref o :: st) h = if pis (pfl h 3 o 9) = true then pR 88 d 94 ls (pfl h 3 o 9 :: st) h else none := r_get rfl
theorem rX3_readRule_94 : pR 88 d 94 ls [.int x] h = some (.inl (some (.int x)), h) := pR_E rfl rfl
-- 89 BalloonStallModel clause ()V
theorem eX3_clause : pCa 89 d [.ref o] h = pR 89 d 0 [.ref o, pU, pU, pU] [] h := rfl
theorem rX3_clause_0 : pR 89 d 0 ls st h = pR 89 d 2 ls (.int 64 :: st) h := pR_L rfl rfl
theorem rX3_clause_2 : pR 89 d 2 [.ref o, a1, a2, a3] st h = pR 89 d 3 [.ref o, a1, a2, a3] (.ref o :: st) h := pR_L rfl rfl
theorem rX3_clause_3 : pR 89 d 3 ls (.ref o :: st) h = if pis (pfl h 3 o 32) = true then pR 89 d 6 ls (pfl h 3 o 32 :: st) h else none := r_get rfl
theorem rX3_clause_6 : pR 89 d 6 ls (.int y :: .int x :: st) h = pR 89 d 7 ls (.int (x * y) :: st) h := pR_L rfl rfl
theorem rX3_clause_7 : pR 89 d 7 [.ref o, a1, a2, a3] st h = pR 89 d 8 [.ref o, a1, a2, a3] (.ref o :: st) h := pR_L rfl rfl
theorem rX3_clause_8 : pR 89 d 8 ls (.ref o :: st) h = if pis (pfl h 3 o 28) = true then pR 89 d 11 ls (pfl h 3 o 28 :: st) h else none := r_get rfl
theorem rX3_clause_11 : pR 89 d 11 [.ref o, a1, a2, a3] st h = pR 89 d 12 [.ref o, a1, a2, a3] (.ref o :: st) h := pR_L rfl rfl
theorem rX3_clause_12 : pR 89 d 12 ls (.ref o :: st) h = if pis (pfl h 3 o 32) = true then pR 89 d 15 ls (pfl h 3 o 32 :: st) h else none := r_get rfl
theorem rX3_clause_15 : pR 89 d 15 ls (.int x :: .ref o :: st) h = if (pin x (pln h 0 o) || pin x (pln h 9 o)) = true then pR 89 d 16 ls (.int (pct h o x.toNatClampNeg) :: st) h else none := pR_Lif rfl rfl
theorem rX3_clause_16 : pR 89 d 16 ls (.int y :: .int x :: st) h = pR 89 d 17 ls (.int (x + y) :: st) h := pR_L rfl rfl
theorem rX3_clause_17 : pR 89 d 17 [a0, a1, a2, a3] (.int x :: st) h = if p1 a1 = true then pR 89 d 18 [a0, .int x, a2, a3] st h else none := r_sto (n := 1) (k := 1) (v := .int x) (ls := [a0, a1, a2, a3]) rfl rfl rfl
theorem rX3_clause_18 : pR 89 d 18 [.ref o, a1, a2, a3] st h = pR 89 d 19 [.ref o, a1, a2, a3] (.ref o :: st) h := pR_L rfl rfl
theorem rX3_clause_19 : pR 89 (d + 1) 19 ls (.ref o :: st) h = if (pok 3 (pcl h o) && pw st) = true then pK 89 (d + 1) 19 3 ls st (pCa 76 d [.ref o] h) else none := r_callV rfl rfl rfl
theorem rX3_clause_22 : pR 89 d 22 ls st h = pR 89 d 24 ls (.int 119 :: st) h := pR_L rfl rfl
theorem rX3_clause_24 : pR 89 d 24 ls (.int y :: .int x :: st) h = if x = y then pR 89 d 32 ls st h else pR 89 d 27 ls st h := r_ceq rfl rfl
theorem rX3_clause_27 : pR 89 d 27 [.ref o, a1, a2, a3] st h = pR 89 d 28 [.ref o, a1, a2, a3] (.ref o :: st) h := pR_L rfl rfl
theorem rX3_clause_28 : pR 89 (d + 1) 28 ls (.ref o :: st) h = if (pok 3 (pcl h o) && pw st) = true then pK 89 (d + 1) 28 3 ls st (pCa 78 d [.ref o] h) else none := r_callV rfl rfl rfl
theorem rX3_clause_31 : pR 89 d 31 ls [] h = some (.inl none, h) := pR_E rfl rfl
theorem rX3_clause_32 : pR 89 d 32 [.ref o, a1, a2, a3] st h = pR 89 d 33 [.ref o, a1, a2, a3] (.ref o :: st) h := pR_L rfl rfl
theorem rX3_clause_33 : pR 89 d 33 ls (.ref o :: st) h = pR 89 d 34 ls (.ref o :: .ref o :: st) h := pR_L rfl rfl
theorem rX3_clause_33i : pR 89 d 33 ls (.int x :: st) h = pR 89 d 34 ls (.int x :: .int x :: st) h := pR_L rfl rfl
theorem rX3_clause_34 : pR 89 d 34 ls (.ref o :: st) h = if pis (pfl h 3 o 8) = true then pR 89 d 37 ls (pfl h 3 o 8 :: st) h else none := r_get rfl
theorem rX3_clause_37 : pR 89 d 37 ls st h = pR 89 d 38 ls (.int 1 :: st) h := pR_L rfl rfl
theorem rX3_clause_38 : pR 89 d 38 ls (.int y :: .int x :: st) h = pR 89 d 39 ls (.int (x + y) :: st) h := pR_L rfl rfl
theorem rX3_clause_39 : pR 89 d 39 ls (.int x :: .ref o :: st) h = if pis (pfl h 3 o 8) = true then pR 89 d 42 ls st (psf h o 8 (.int x)) else none := r_put rfl rfl
theorem rX3_clause_42 : pR 89 d 42 [.ref o, a1, a2, a3] st h = pR 89 d 43 [.ref o, a1, a2, a3] (.ref o :: st) h := pR_L rfl rfl
theorem rX3_clause_43 : pR 89 (d + 1) 43 ls (.ref o :: st) h = if (pok 3 (pcl h o) && pw st) = true then pK 89 (d + 1) 43 3 ls st (pCa 76 d [.ref o] h) else none := r_callV rfl rfl rfl
theorem rX3_clause_46 : pR 89 d 46 ls st h = pR 89 d 48 ls (.int 58 :: st) h := pR_L rfl rfl
theorem rX3_clause_48 : pR 89 d 48 ls (.int y :: .int x :: st) h = if x = y then pR 89 d 56 ls st h else pR 89 d 51 ls st h := r_ceq rfl rfl
theorem rX3_clause_51 : pR 89 d 51 [.ref o, a1, a2, a3] st h = pR 89 d 52 [.ref o, a1, a2, a3] (.ref o :: st) h := pR_L rfl rfl
theorem rX3_clause_52 : pR 89 (d + 1) 52 ls (.ref o :: st) h = if (pok 3 (pcl h o) && pw st) = true then pK 89 (d + 1) 52 3 ls st (pCa 78 d [.ref o] h) else none := r_callV rfl rfl rfl
theorem rX3_clause_55 : pR 89 d 55 ls [] h = some (.inl none, h) := pR_E rfl rfl
theorem rX3_clause_56 : pR 89 d 56 [.ref o, a1, a2, a3] st h = pR 89 d 57 [.ref o, a1, a2, a3] (.ref o :: st) h := pR_L rfl rfl
theorem rX3_clause_57 : pR 89 d 57 ls (.ref o :: st) h = pR 89 d 58 ls (.ref o :: .ref o :: st) h := pR_L rfl rfl
theorem rX3_clause_57i : pR 89 d 57 ls (.int x :: st) h = pR 89 d 58 ls (.int x :: .int x :: st) h := pR_L rfl rfl
theorem rX3_clause_58 : pR 89 d 58 ls (.ref o :: st) h = if pis (pfl h 3 o 8) = true then pR 89 d 61 ls (pfl h 3 o 8 :: st) h else none := r_get rfl
theorem rX3_clause_61 : pR 89 d 61 ls st h = pR 89 d 62 ls (.int 1 :: st) h := pR_L rfl rfl
theorem rX3_clause_62 : pR 89 d 62 ls (.int y :: .int x :: st) h = pR 89 d 63 ls (.int (x + y) :: st) h := pR_L rfl rfl
theorem rX3_clause_63 : pR 89 d 63 ls (.int x :: .ref o :: st) h = if pis (pfl h 3 o 8) = true then pR 89 d 66 ls st (psf h o 8 (.int x)) else none := r_put rfl rfl
theorem rX3_clause_66 : pR 89 d 66 [.ref o, a1, a2, a3] st h = pR 89 d 67 [.ref o, a1, a2, a3] (.ref o :: st) h := pR_L rfl rfl
theorem rX3_clause_67 : pR 89 d 67 ls (.ref o :: st) h = if pis (pfl h 3 o 28) = true then pR 89 d 70 ls (pfl h 3 o 28 :: st) h else none := r_get rfl
theorem rX3_clause_70 : pR 89 d 70 [.ref o, a1, a2, a3] st h = pR 89 d 71 [.ref o, a1, a2, a3] (.ref o :: st) h := pR_L rfl rfl
theorem rX3_clause_71 : pR 89 d 71 ls (.ref o :: st) h = if pis (pfl h 3 o 32) = true then pR 89 d 74 ls (pfl h 3 o 32 :: st) h else none := r_get rfl
theorem rX3_clause_74 : pR 89 d 74 ls (.int x :: .ref o :: st) h = pR 89 d 75 ls (.int x :: .ref o :: .int x :: .ref o :: st) h := pR_L rfl rfl
theorem rX3_clause_75 : pR 89 d 75 ls (.int x :: .ref o :: st) h = if (pin x (pln h 0 o) || pin x (pln h 9 o)) = true then pR 89 d 76 ls (.int (pct h o x.toNatClampNeg) :: st) h else none := pR_Lif rfl rfl
theorem rX3_clause_76 : pR 89 d 76 ls st h = pR 89 d 77 ls (.int 1 :: st) h := pR_L rfl rfl
theorem rX3_clause_77 : pR 89 d 77 ls (.int y :: .int x :: st) h = pR 89 d 78 ls (.int (x + y) :: st) h := pR_L rfl rfl
theorem rX3_clause_78 : pR 89 d 78 ls (.int y :: .int x :: .ref o :: st) h = if pin x (pln h 0 o) = true then pR 89 d 79 ls st (pst h o x.toNatClampNeg y) else none := pR_Lif rfl rfl
theorem rX3_clause_79 : pR 89 d 79 [.ref o, a1, a2, a3] st h = pR 89 d 80 [.ref o, a1, a2, a3] (.ref o :: st) h := pR_L rfl rfl
theorem rX3_clause_80 : pR 89 d 80 ls (.ref o :: st) h = if pis (pfl h 3 o 29) = true then pR 89 d 83 ls (pfl h 3 o 29 :: st) h else none := r_get rfl
theorem rX3_clause_83 : pR 89 d 83 [a0, .int x, a2, a3] st h = pR 89 d 84 [a0, .int x, a2, a3] (.int x :: st) h := pR_L rfl rfl
theorem rX3_clause_84 : pR 89 d 84 [.ref o, a1, a2, a3] st h = pR 89 d 85 [.ref o, a1, a2, a3] (.ref o :: st) h := pR_L rfl rfl
theorem rX3_clause_85 : pR 89 d 85 ls (.ref o :: st) h = if pis (pfl h 3 o 33) = true then pR 89 d 88 ls (pfl h 3 o 33 :: st) h else none := r_get rfl
theorem rX3_clause_88 : pR 89 d 88 ls (.int y :: .int x :: .ref o :: st) h = if pin x (pln h 0 o) = true then pR 89 d 89 ls st (pst h o x.toNatClampNeg y) else none := pR_Lif rfl rfl
theorem rX3_clause_89 : pR 89 d 89 [.ref o, a1, a2, a3] st h = pR 89 d 90 [.ref o, a1, a2, a3] (.ref o :: st) h := pR_L rfl rfl
theorem rX3_clause_90 : pR 89 (d + 1) 90 ls (.ref o :: st) h = if (pok 3 (pcl h o) && pw st) = true then pK 89 (d + 1) 90 3 ls st (pCa 76 d [.ref o] h) else none := r_callV rfl rfl rfl
theorem rX3_clause_93 : pR 89 d 93 [a0, a1, a2, a3] (.int x :: st) h = if p1 a2 = true then pR 89 d 94 [a0, a1, .int x, a3] st h else none := r_sto (n := 1) (k := 2) (v := .int x) (ls := [a0, a1, a2, a3]) rfl rfl rfl
theorem rX3_clause_94 : pR 89 d 94 [a0, a1, .int x, a3] st h = pR 89 d 95 [a0, a1, .int x, a3] (.int x :: st) h := pR_L rfl rfl
theorem rX3_clause_95 : pR 89 d 95 ls st h = pR 89 d 97 ls (.int 33 :: st) h := pR_L rfl rfl
theorem rX3_clause_97 : pR 89 d 97 ls (.int y :: .int x :: st) h = if x = y then pR 89 d 106 ls st h else pR 89 d 100 ls st h := r_ceq rfl rfl
theorem rX3_clause_100 : pR 89 d 100 [a0, a1, .int x, a3] st h = pR 89 d 101 [a0, a1, .int x, a3] (.int x :: st) h := pR_L rfl rfl
theorem rX3_clause_101 : pR 89 d 101 ls st h = pR 89 d 103 ls (.int 40 :: st) h := pR_L rfl rfl
theorem rX3_clause_103 : pR 89 d 103 ls (.int y :: .int x :: st) h = if x = y then pR 89 d 106 ls st h else pR 89 d 110 ls st h := r_cne rfl rfl
theorem rX3_clause_106 : pR 89 d 106 ls st h = pR 89 d 107 ls (.int 1 :: st) h := pR_L rfl rfl
theorem rX3_clause_107 : pR 89 d 107 ls st h = pR 89 d 111 ls st h := pR_L rfl rfl
theorem rX3_clause_110 : pR 89 d 110 ls st h = pR 89 d 111 ls (.int 0 :: st) h := pR_L rfl rfl
theorem rX3_clause_111 : pR 89 d 111 [a0, a1, a2, a3] (.int x :: st) h = if p1 a3 = true then pR 89 d 112 [a0, a1, a2, .int x] st h else none := r_sto (n := 1) (k := 3) (v := .int x) (ls := [a0, a1, a2, a3]) rfl rfl rfl
theorem rX3_clause_112 : pR 89 d 112 [a0, a1, a2, .int x] st h = pR 89 d 113 [a0, a1, a2, .int x] (.int x :: st) h := pR_L rfl rfl
theorem rX3_clause_113 : pR 89 d 113 ls (.int x :: st) h = if x = 0 then pR 89 d 124 ls st h else pR 89 d 116 ls st h := r_ieq rfl rfl
theorem rX3_clause_116 : pR 89 d 116 [.ref o, a1, a2, a3] st h = pR 89 d 117 [.ref o, a1, a2, a3] (.ref o :: st) h := pR_L rfl rfl
theorem rX3_clause_117 : pR 89 d 117 ls st h = pR 89 d 118 ls (.int 0 :: st) h := pR_L rfl rfl
theorem rX3_clause_118 : pR 89 (d + 1) 118 ls (b1 :: .ref o :: st) h = if (pok 3 (pcl h o) && pw st) = true then pK 89 (d + 1) 118 3 ls st (pCa 90 d [.ref o, b1] h) else none := r_callV rfl rfl rfl
theorem rX3_clause_121 : pR 89 d 121 ls st h = pR 89 d 178 ls st h := pR_L rfl rfl
theorem rX3_clause_124 : pR 89 d 124 [.ref o, a1, a2, a3] st h = pR 89 d 125 [.ref o, a1, a2, a3] (.ref o :: st) h := pR_L rfl rfl
theorem rX3_clause_125 : pR 89 (d + 1) 125 ls (.ref o :: st) h = if (pok 3 (pcl h o) && pw st) = true then pK 89 (d + 1) 125 3 ls st (pCa 96 d [.ref o] h) else none := r_callV rfl rfl rfl
theorem rX3_clause_128 : pR 89 d 128 [.ref o, a1, a2, a3] st h = pR 89 d 129 [.ref o, a1, a2, a3] (.ref o :: st) h := pR_L rfl rfl
theorem rX3_clause_129 : pR 89 d 129 ls (.ref o :: st) h = if pis (pfl h 3 o 9) = true then pR 89 d 132 ls (pfl h 3 o 9 :: st) h else none := r_get rfl
theorem rX3_clause_132 : pR 89 d 132 ls st h = pR 89 d 133 ls (.int (-1) :: st) h := pR_L rfl rfl
theorem rX3_clause_133 : pR 89 d 133 ls (.int y :: .int x :: st) h = if x = y then pR 89 d 136 ls st h else pR 89 d 143 ls st h := r_cne rfl rfl
theorem rX3_clause_136 : pR 89 d 136 [.ref o, a1, a2, a3] st h = pR 89 d 137 [.ref o, a1, a2, a3] (.ref o :: st) h := pR_L rfl rfl
theorem rX3_clause_137 : pR 89 (d + 1) 137 ls (.ref o :: st) h = if (pok 3 (pcl h o) && pw st) = true then pK 89 (d + 1) 137 3 ls st (pCa 76 d [.ref o] h) else none := r_callV rfl rfl rfl
theorem rX3_clause_140 : pR 89 d 140 ls st h = pR 89 d 144 ls st h := pR_L rfl rfl
theorem rX3_clause_143 : pR 89 d 143 ls st h = pR 89 d 144 ls (.int (-1) :: st) h := pR_L rfl rfl
theorem rX3_clause_144 : pR 89 d 144 [a0, a1, a2, a3] (.int x :: st) h = if p1 a2 = true then pR 89 d 145 [a0, a1, .int x, a3] st h else none := r_sto (n := 1) (k := 2) (v := .int x) (ls := [a0, a1, a2, a3]) rfl rfl rfl
theorem rX3_clause_145 : pR 89 d 145 [a0, a1, .int x, a3] st h = pR 89 d 146 [a0, a1, .int x, a3] (.int x :: st) h := pR_L rfl rfl
theorem rX3_clause_146 : pR 89 d 146 ls st h = pR 89 d 148 ls (.int 61 :: st) h := pR_L rfl rfl
theorem rX3_clause_148 : pR 89 d 148 ls (.int y :: .int x :: st) h = if x = y then pR 89 d 163 ls st h else pR 89 d 151 ls st h := r_ceq rfl rfl
theorem rX3_clause_151 : pR 89 d 151 [a0, a1, .int x, a3] st h = pR 89 d 152 [a0, a1, .int x, a3] (.int x :: st) h := pR_L rfl rfl
theorem rX3_clause_152 : pR 89 d 152 ls st h = pR 89 d 154 ls (.int 60 :: st) h := pR_L rfl rfl
theorem rX3_clause_154 : pR 89 d 154 ls (.int y :: .int x :: st) h = if x = y then pR 89 d 163 ls st h else pR 89 d 157 ls st h := r_ceq rfl rfl
theorem rX3_clause_157 : pR 89 d 157 [a0, a1, .int x, a3] st h = pR 89 d 158 [a0, a1, .int x, a3] (.int x :: st) h := pR_L rfl rfl
theorem rX3_clause_158 : pR 89 d 158 ls st h = pR 89 d 160 ls (.int 62 :: st) h := pR_L rfl rfl
theorem rX3_clause_160 : pR 89 d 160 ls (.int y :: .int x :: st) h = if x = y then pR 89 d 163 ls st h else pR 89 d 167 ls st h := r_cne rfl rfl
theorem rX3_clause_163 : pR 89 d 163 ls st h = pR 89 d 164 ls (.int 1 :: st) h := pR_L rfl rfl
theorem rX3_clause_164 : pR 89 d 164 ls st h = pR 89 d 168 ls st h := pR_L rfl rfl
theorem rX3_clause_167 : pR 89 d 167 ls st h = pR 89 d 168 ls (.int 0 :: st) h := pR_L rfl rfl
theorem rX3_clause_168 : pR 89 d 168 [a0, a1, a2, a3] (.int x :: st) h = if p1 a3 = true then pR 89 d 169 [a0, a1, a2, .int x] st h else none := r_sto (n := 1) (k := 3) (v := .int x) (ls := [a0, a1, a2, a3]) rfl rfl rfl
theorem rX3_clause_169 : pR 89 d 169 [a0, a1, a2, .int x] st h = pR 89 d 170 [a0, a1, a2, .int x] (.int x :: st) h := pR_L rfl rfl
theorem rX3_clause_170 : pR 89 d 170 ls (.int x :: st) h = if x = 0 then pR 89 d 178 ls st h else pR 89 d 173 ls st h := r_ieq rfl rfl
theorem rX3_clause_173 : pR 89 d 173 [.ref o, a1, a2, a3] st h = pR 89 d 174 [.ref o, a1, a2, a3] (.ref o :: st) h := pR_L rfl rfl
theorem rX3_clause_174 : pR 89 d 174 ls st h = pR 89 d 175 ls (.int 1 :: st) h := pR_L rfl rfl
theorem rX3_clause_175 : pR 89 (d + 1) 175 ls (b1 :: .ref o :: st) h = if (pok 3 (pcl h o) && pw st) = true then pK 89 (d + 1) 175 3 ls st (pCa 90 d [.ref o, b1] h) else none := r_callV rfl rfl rfl
theorem rX3_clause_178 : pR 89 d 178 [.ref o, a1, a2, a3] st h = pR 89 d 179 [.ref o, a1, a2, a3] (.ref o :: st) h := pR_L rfl rfl
theorem rX3_clause_179 : pR 89 d 179 ls (.ref o :: st) h = if pis (pfl h 3 o 9) = true then pR 89 d 182 ls (pfl h 3 o 9 :: st) h else none := r_get rfl
theorem rX3_clause_182 : pR 89 d 182 ls st h = pR 89 d 183 ls (.int (-1) :: st) h := pR_L rfl rfl
theorem rX3_clause_183 : pR 89 d 183 ls (.int y :: .int x :: st) h = if x = y then pR 89 d 186 ls st h else pR 89 d 228 ls st h := r_cne rfl rfl
theorem rX3_clause_186 : pR 89 d 186 [a0, a1, a2, .int x] st h = pR 89 d 187 [a0, a1, a2, .int x] (.int x :: st) h := pR_L rfl rfl
theorem rX3_clause_187 : pR 89 d 187 ls (.int x :: st) h = if x = 0 then pR 89 d 228 ls st h else pR 89 d 190 ls st h := r_ieq rfl rfl
theorem rX3_clause_190 : pR 89 d 190 [.ref o, a1, a2, a3] st h = pR 89 d 191 [.ref o, a1, a2, a3] (.ref o :: st) h := pR_L rfl rfl
theorem rX3_clause_191 : pR 89 (d + 1) 191 ls (.ref o :: st) h = if (pok 3 (pcl h o) && pw st) = true then pK 89 (d + 1) 191 3 ls st (pCa 76 d [.ref o] h) else none := r_callV rfl rfl rfl
theorem rX3_clause_194 : pR 89 d 194 ls st h = pR 89 d 196 ls (.int 63 :: st) h := pR_L rfl rfl
theorem rX3_clause_196 : pR 89 d 196 ls (.int y :: .int x :: st) h = if x = y then pR 89 d 204 ls st h else pR 89 d 199 ls st h := r_ceq rfl rfl
theorem rX3_clause_199 : pR 89 d 199 [.ref o, a1, a2, a3] st h = pR 89 d 200 [.ref o, a1, a2, a3] (.ref o :: st) h := pR_L rfl rfl
theorem rX3_clause_200 : pR 89 (d + 1) 200 ls (.ref o :: st) h = if (pok 3 (pcl h o) && pw st) = true then pK 89 (d + 1) 200 3 ls st (pCa 78 d [.ref o] h) else none := r_callV rfl rfl rfl
theorem rX3_clause_203 : pR 89 d 203 ls [] h = some (.inl none, h) := pR_E rfl rfl
theorem rX3_clause_204 : pR 89 d 204 [.ref o, a1, a2, a3] st h = pR 89 d 205 [.ref o, a1, a2, a3] (.ref o :: st) h := pR_L rfl rfl
theorem rX3_clause_205 : pR 89 d 205 ls (.ref o :: st) h = pR 89 d 206 ls (.ref o :: .ref o :: st) h := pR_L rfl rfl
theorem rX3_clause_205i : pR 89 d 205 ls (.int x :: st) h = pR 89 d 206 ls (.int x :: .int x :: st) h := pR_L rfl rfl
theorem rX3_clause_206 : pR 89 d 206 ls (.ref o :: st) h = if pis (pfl h 3 o 8) = true then pR 89 d 209 ls (pfl h 3 o 8 :: st) h else none := r_get rfl
theorem rX3_clause_209 : pR 89 d 209 ls st h = pR 89 d 210 ls (.int 1 :: st) h := pR_L rfl rfl
theorem rX3_clause_210 : pR 89 d 210 ls (.int y :: .int x :: st) h = pR 89 d 211 ls (.int (x + y) :: st) h := pR_L rfl rfl
theorem rX3_clause_211 : pR 89 d 211 ls (.int x :: .ref o :: st) h = if pis (pfl h 3 o 8) = true then pR 89 d 214 ls st (psf h o 8 (.int x)) else none := r_put rfl rfl
theorem rX3_clause_214 : pR 89 d 214 [.ref o, a1, a2, a3] st h = pR 89 d 215 [.ref o, a1, a2, a3] (.ref o :: st) h := pR_L rfl rfl
theorem rX3_clause_215 : pR 89 d 215 ls (.ref o :: st) h = if pis (pfl h 3 o 29) = true then pR 89 d 218 ls (pfl h 3 o 29 :: st) h else none := r_get rfl
theorem rX3_clause_218 : pR 89 d 218 [a0, .int x, a2, a3] st h = pR 89 d 219 [a0, .int x, a2, a3] (.int x :: st) h := pR_L rfl rfl
theorem rX3_clause_219 : pR 89 d 219 [.ref o, a1, a2, a3] st h = pR 89 d 220 [.ref o, a1, a2, a3] (.ref o :: st) h := pR_L rfl rfl
theorem rX3_clause_220 : pR 89 d 220 ls (.ref o :: st) h = if pis (pfl h 3 o 33) = true then pR 89 d 223 ls (pfl h 3 o 33 :: st) h else none := r_get rfl
theorem rX3_clause_223 : pR 89 d 223 ls (.int y :: .int x :: .ref o :: st) h = if pin x (pln h 0 o) = true then pR 89 d 224 ls st (pst h o x.toNatClampNeg y) else none := pR_Lif rfl rfl
theorem rX3_clause_224 : pR 89 d 224 [.ref o, a1, a2, a3] st h = pR 89 d 225 [.ref o, a1, a2, a3] (.ref o :: st) h := pR_L rfl rfl
theorem rX3_clause_225 : pR 89 (d + 1) 225 ls (.ref o :: st) h = if (pok 3 (pcl h o) && pw st) = true then pK 89 (d + 1) 225 3 ls st (pCa 96 d [.ref o] h) else none := r_callV rfl rfl rfl
theorem rX3_clause_228 : pR 89 d 228 [.ref o, a1, a2, a3] st h = pR 89 d 229 [.ref o, a1, a2, a3] (.ref o :: st) h := pR_L rfl rfl
theorem rX3_clause_229 : pR 89 d 229 ls (.ref o :: st) h = if pis (pfl h 3 o 30) = true then pR 89 d 232 ls (pfl h 3 o 30 :: st) h else none := r_get rfl
theorem rX3_clause_232 : pR 89 d 232 [a0, .int x, a2, a3] st h = pR 89 d 233 [a0, .int x, a2, a3] (.int x :: st) h := pR_L rfl rfl
theorem rX3_clause_233 : pR 89 d 233 [.ref o, a1, a2, a3] st h = pR 89 d 234 [.ref o, a1, a2, a3] (.ref o :: st) h := pR_L rfl rfl
theorem rX3_clause_234 : pR 89 d 234 ls (.ref o :: st) h = if pis (pfl h 3 o 33) = true then pR 89 d 237 ls (pfl h 3 o 33 :: st) h else none := r_get rfl
theorem rX3_clause_237 : pR 89 d 237 ls (.int y :: .int x :: .ref o :: st) h = if pin x (pln h 0 o) = true then pR 89 d 238 ls st (pst h o x.toNatClampNeg y) else none := pR_Lif rfl rfl
theorem rX3_clause_238 : pR 89 d 238 ls [] h = some (.inl none, h) := pR_E rfl rfl
-- 90 BalloonStallModel condition (Z)V
theorem eX3_condition : pCa 90 d [.ref o, .int x0] h = pR 90 d 0 [.ref o, .int x0] [] h := rfl
theorem rX3_condition_0 : pR 90 d 0 [.ref o, a1] st h = pR 90 d 1 [.ref o, a1] (.ref o :: st) h := pR_L rfl rfl
theorem rX3_condition_1 : pR 90 d 1 [a0, .int x] st h = pR 90 d 2 [a0, .int x] (.int x :: st) h := pR_L rfl rfl
theorem rX3_condition_2 : pR 90 (d + 1) 2 ls (b1 :: .ref o :: st) h = if (pok 3 (pcl h o) && pw st) = true then pK 90 (d + 1) 2 3 ls st (pCa 91 d [.ref o, b1] h) else none := r_callV rfl rfl rfl
theorem rX3_condition_5 : pR 90 d 5 [.ref o, a1] st h = pR 90 d 6 [.ref o, a1] (.ref o :: st) h := pR_L rfl rfl
theorem rX3_condition_6 : pR 90 d 6 ls (.ref o :: st) h = if pis (pfl h 3 o 9) = true then pR 90 d 9 ls (pfl h 3 o 9 :: st) h else none := r_get rfl
theorem rX3_condition_9 : pR 90 d 9 ls st h = pR 90 d 10 ls (.int (-1) :: st) h := pR_L rfl rfl
theorem rX3_condition_10 : pR 90 d 10 ls (.int y :: .int x :: st) h = if x = y then pR 90 d 13 ls st h else pR 90 d 46 ls st h := r_cne rfl rfl
theorem rX3_condition_13 : pR 90 d 13 [.ref o, a1] st h = pR 90 d 14 [.ref o, a1] (.ref o :: st) h := pR_L rfl rfl
theorem rX3_condition_14 : pR 90 (d + 1) 14 ls (.ref o :: st) h = if (pok 3 (pcl h o) && pw st) = true then pK 90 (d + 1) 14 3 ls st (pCa 76 d [.ref o] h) else none := r_callV rfl rfl rfl
theorem rX3_condition_17 : pR 90 d 17 ls st h = pR 90 d 19 ls (.int 124 :: st) h := pR_L rfl rfl
theorem rX3_condition_19 : pR 90 d 19 ls (.int y :: .int x :: st) h = if x = y then pR 90 d 22 ls st h else pR 90 d 46 ls st h := r_cne rfl rfl
theorem rX3_condition_22 : pR 90 d 22 [.ref o, a1] st h = pR 90 d 23 [.ref o, a1] (.ref o :: st) h := pR_L rfl rfl
theorem rX3_condition_23 : pR 90 d 23 ls (.ref o :: st) h = pR 90 d 24 ls (.ref o :: .ref o :: st) h := pR_L rfl rfl
theorem rX3_condition_23i : pR 90 d 23 ls (.int x :: st) h = pR 90 d 24 ls (.int x :: .int x :: st) h := pR_L rfl rfl
theorem rX3_condition_24 : pR 90 d 24 ls (.ref o :: st) h = if pis (pfl h 3 o 8) = true then pR 90 d 27 ls (pfl h 3 o 8 :: st) h else none := r_get rfl
theorem rX3_condition_27 : pR 90 d 27 ls st h = pR 90 d 28 ls (.int 1 :: st) h := pR_L rfl rfl
theorem rX3_condition_28 : pR 90 d 28 ls (.int y :: .int x :: st) h = pR 90 d 29 ls (.int (x + y) :: st) h := pR_L rfl rfl
theorem rX3_condition_29 : pR 90 d 29 ls (.int x :: .ref o :: st) h = if pis (pfl h 3 o 8) = true then pR 90 d 32 ls st (psf h o 8 (.int x)) else none := r_put rfl rfl
theorem rX3_condition_32 : pR 90 d 32 [.ref o, a1] st h = pR 90 d 33 [.ref o, a1] (.ref o :: st) h := pR_L rfl rfl
theorem rX3_condition_33 : pR 90 d 33 ls st h = pR 90 d 34 ls (.int 0 :: st) h := pR_L rfl rfl
theorem rX3_condition_34 : pR 90 (d + 1) 34 ls (b1 :: .ref o :: st) h = if (pok 3 (pcl h o) && pw st) = true then pK 90 (d + 1) 34 3 ls st (pCa 91 d [.ref o, b1] h) else none := r_callV rfl rfl rfl
theorem rX3_condition_37 : pR 90 d 37 [.ref o, a1] st h = pR 90 d 38 [.ref o, a1] (.ref o :: st) h := pR_L rfl rfl
theorem rX3_condition_38 : pR 90 d 38 ls st h = pR 90 d 40 ls (.int 124 :: st) h := pR_L rfl rfl
theorem rX3_condition_40 : pR 90 (d + 1) 40 ls (b1 :: .ref o :: st) h = if (pok 3 (pcl h o) && pw st) = true then pK 90 (d + 1) 40 3 ls st (pCa 94 d [.ref o, b1] h) else none := r_callV rfl rfl rfl
theorem rX3_condition_43 : pR 90 d 43 ls st h = pR 90 d 5 ls st h := pR_L rfl rfl
theorem rX3_condition_46 : pR 90 d 46 ls [] h = some (.inl none, h) := pR_E rfl rfl
-- 91 BalloonStallModel truth (Z)V
theorem eX3_truth : pCa 91 d [.ref o, .int x0] h = pR 91 d 0 [.ref o, .int x0] [] h := rfl
theorem rX3_truth_0 : pR 91 d 0 [.ref o, a1] st h = pR 91 d 1 [.ref o, a1] (.ref o :: st) h := pR_L rfl rfl
theorem rX3_truth_1 : pR 91 d 1 [a0, .int x] st h = pR 91 d 2 [a0, .int x] (.int x :: st) h := pR_L rfl rfl
theorem rX3_truth_2 : pR 91 (d + 1) 2 ls (b1 :: .ref o :: st) h = if (pok 3 (pcl h o) && pw st) = true then pK 91 (d + 1) 2 3 ls st (pCa 92 d [.ref o, b1] h) else none := r_callV rfl rfl rfl
theorem rX3_truth_5 : pR 91 d 5 [.ref o, a1] st h = pR 91 d 6 [.ref o, a1] (.ref o :: st) h := pR_L rfl rfl
theorem rX3_truth_6 : pR 91 d 6 ls (.ref o :: st) h = if pis (pfl h 3 o 9) = true then pR 91 d 9 ls (pfl h 3 o 9 :: st) h else none := r_get rfl
theorem rX3_truth_9 : pR 91 d 9 ls st h = pR 91 d 10 ls (.int (-1) :: st) h := pR_L rfl rfl
theorem rX3_truth_10 : pR 91 d 10 ls (.int y :: .int x :: st) h = if x = y then pR 91 d 13 ls st h else pR 91 d 46 ls st h := r_cne rfl rfl
theorem rX3_truth_13 : pR 91 d 13 [.ref o, a1] st h = pR 91 d 14 [.ref o, a1] (.ref o :: st) h := pR_L rfl rfl
theorem rX3_truth_14 : pR 91 (d + 1) 14 ls (.ref o :: st) h = if (pok 3 (pcl h o) && pw st) = true then pK 91 (d + 1) 14 3 ls st (pCa 76 d [.ref o] h) else none := r_callV rfl rfl rfl
theorem rX3_truth_17 : pR 91 d 17 ls st h = pR 91 d 19 ls (.int 38 :: st) h := pR_L rfl rfl
theorem rX3_truth_19 : pR 91 d 19 ls (.int y :: .int x :: st) h = if x = y then pR 91 d 22 ls st h else pR 91 d 46 ls st h := r_cne rfl rfl
theorem rX3_truth_22 : pR 91 d 22 [.ref o, a1] st h = pR 91 d 23 [.ref o, a1] (.ref o :: st) h := pR_L rfl rfl
theorem rX3_truth_23 : pR 91 d 23 ls (.ref o :: st) h = pR 91 d 24 ls (.ref o :: .ref o :: st) h := pR_L rfl rfl
theorem rX3_truth_23i : pR 91 d 23 ls (.int x :: st) h = pR 91 d 24 ls (.int x :: .int x :: st) h := pR_L rfl rfl
theorem rX3_truth_24 : pR 91 d 24 ls (.ref o :: st) h = if pis (pfl h 3 o 8) = true then pR 91 d 27 ls (pfl h 3 o 8 :: st) h else none := r_get rfl
theorem rX3_truth_27 : pR 91 d 27 ls st h = pR 91 d 28 ls (.int 1 :: st) h := pR_L rfl rfl
theorem rX3_truth_28 : pR 91 d 28 ls (.int y :: .int x :: st) h = pR 91 d 29 ls (.int (x + y) :: st) h := pR_L rfl rfl
theorem rX3_truth_29 : pR 91 d 29 ls (.int x :: .ref o :: st) h = if pis (pfl h 3 o 8) = true then pR 91 d 32 ls st (psf h o 8 (.int x)) else none := r_put rfl rfl
theorem rX3_truth_32 : pR 91 d 32 [.ref o, a1] st h = pR 91 d 33 [.ref o, a1] (.ref o :: st) h := pR_L rfl rfl
theorem rX3_truth_33 : pR 91 d 33 ls st h = pR 91 d 34 ls (.int 0 :: st) h := pR_L rfl rfl
theorem rX3_truth_34 : pR 91 (d + 1) 34 ls (b1 :: .ref o :: st) h = if (pok 3 (pcl h o) && pw st) = true then pK 91 (d + 1) 34 3 ls st (pCa 92 d [.ref o, b1] h) else none := r_callV rfl rfl rfl
theorem rX3_truth_37 : pR 91 d 37 [.ref o, a1] st h = pR 91 d 38 [.ref o, a1] (.ref o :: st) h := pR_L rfl rfl
theorem rX3_truth_38 : pR 91 d 38 ls st h = pR 91 d 40 ls (.int 38 :: st) h := pR_L rfl rfl
theorem rX3_truth_40 : pR 91 (d + 1) 40 ls (b1 :: .ref o :: st) h = if (pok 3 (pcl h o) && pw st) = true then pK 91 (d + 1) 40 3 ls st (pCa 94 d [.ref o, b1] h) else none := r_callV rfl rfl rfl
theorem rX3_truth_43 : pR 91 d 43 ls st h = pR 91 d 5 ls st h := pR_L rfl rfl
theorem rX3_truth_46 : pR 91 d 46 ls [] h = some (.inl none, h) := pR_E rfl rfl
-- 92 BalloonStallModel unit (Z)V
theorem eX3_unit : pCa 92 d [.ref o, .int x0] h = pR 92 d 0 [.ref o, .int x0, pU] [] h := rfl
theorem rX3_unit_0 : pR 92 d 0 [.ref o, a1, a2] st h = pR 92 d 1 [.ref o, a1, a2] (.ref o :: st) h := pR_L rfl rfl
theorem rX3_unit_1 : pR 92 d 1 ls (.ref o :: st) h = if pis (pfl h 3 o 9) = true then pR 92 d 4 ls (pfl h 3 o 9 :: st) h else none := r_get rfl
theorem rX3_unit_4 : pR 92 d 4 ls st h = pR 92 d 5 ls (.int (-1) :: st) h := pR_L rfl rfl
theorem rX3_unit_5 : pR 92 d 5 ls (.int y :: .int x :: st) h = if x = y then pR 92 d 8 ls st h else pR 92 d 15 ls st h := r_cne rfl rfl
theorem rX3_unit_8 : pR 92 d 8 [.ref o, a1, a2] st h = pR 92 d 9 [.ref o, a1, a2] (.ref o :: st) h := pR_L rfl rfl
theorem rX3_unit_9 : pR 92 (d + 1) 9 ls (.ref o :: st) h = if (pok 3 (pcl h o) && pw st) = true then pK 92 (d + 1) 9 3 ls st (pCa 76 d [.ref o] h) else none := r_callV rfl rfl rfl
theorem rX3_unit_12 : pR 92 d 12 ls st h = pR 92 d 16 ls st h := pR_L rfl rfl
theorem rX3_unit_15 : pR 92 d 15 ls st h = pR 92 d 16 ls (.int (-1) :: st) h := pR_L rfl rfl
theorem rX3_unit_16 : pR 92 d 16 [a0, a1, a2] (.int x :: st) h = if p1 a2 = true then pR 92 d 17 [a0, a1, .int x] st h else none := r_sto (n := 1) (k := 2) (v := .int x) (ls := [a0, a1, a2]) rfl rfl rfl
theorem rX3_unit_17 : pR 92 d 17 [a0, .int x, a2] st h = pR 92 d 18 [a0, .int x, a2] (.int x :: st) h := pR_L rfl rfl
theorem rX3_unit_18 : pR 92 d 18 ls (.int x :: st) h = if x = 0 then pR 92 d 21 ls st h else pR 92 d 88 ls st h := r_ine rfl rfl
theorem rX3_unit_21 : pR 92 d 21 [a0, a1, .int x] st h = pR 92 d 22 [a0, a1, .int x] (.int x :: st) h := pR_L rfl rfl
theorem rX3_unit_22 : pR 92 d 22 ls st h = pR 92 d 24 ls (.int 33 :: st) h := pR_L rfl rfl
theorem rX3_unit_24 : pR 92 d 24 ls (.int y :: .int x :: st) h = if x = y then pR 92 d 33 ls st h else pR 92 d 27 ls st h := r_ceq rfl rfl
theorem rX3_unit_27 : pR 92 d 27 [a0, a1, .int x] st h = pR 92 d 28 [a0, a1, .int x] (.int x :: st) h := pR_L rfl rfl
theorem rX3_unit_28 : pR 92 d 28 ls st h = pR 92 d 30 ls (.int 40 :: st) h := pR_L rfl rfl
theorem rX3_unit_30 : pR 92 d 30 ls (.int y :: .int x :: st) h = if x = y then pR 92 d 33 ls st h else pR 92 d 88 ls st h := r_cne rfl rfl
theorem rX3_unit_33 : pR 92 d 33 [.ref o, a1, a2] st h = pR 92 d 34 [.ref o, a1, a2] (.ref o :: st) h := pR_L rfl rfl
theorem rX3_unit_34 : pR 92 (d + 1) 34 ls (.ref o :: st) h = if (pok 3 (pcl h o) && pw st) = true then pK 92 (d + 1) 34 3 ls st (pCa 93 d [.ref o] h) else none := r_callV rfl rfl rfl
theorem rX3_unit_37 : pR 92 d 37 [.ref o, a1, a2] st h = pR 92 d 38 [.ref o, a1, a2] (.ref o :: st) h := pR_L rfl rfl
theorem rX3_unit_38 : pR 92 d 38 ls (.ref o :: st) h = if pis (pfl h 3 o 9) = true then pR 92 d 41 ls (pfl h 3 o 9 :: st) h else none := r_get rfl
theorem rX3_unit_41 : pR 92 d 41 ls st h = pR 92 d 42 ls (.int (-1) :: st) h := pR_L rfl rfl
theorem rX3_unit_42 : pR 92 d 42 ls (.int y :: .int x :: st) h = if x = y then pR 92 d 46 ls st h else pR 92 d 45 ls st h := r_ceq rfl rfl
theorem rX3_unit_45 : pR 92 d 45 ls [] h = some (.inl none, h) := pR_E rfl rfl
theorem rX3_unit_46 : pR 92 d 46 [a0, a1, .int x] st h = pR 92 d 47 [a0, a1, .int x] (.int x :: st) h := pR_L rfl rfl
theorem rX3_unit_47 : pR 92 d 47 ls st h = pR 92 d 49 ls (.int 33 :: st) h := pR_L rfl rfl
theorem rX3_unit_49 : pR 92 d 49 ls (.int y :: .int x :: st) h = if x = y then pR 92 d 52 ls st h else pR 92 d 76 ls st h := r_cne rfl rfl
theorem rX3_unit_52 : pR 92 d 52 [.ref o, a1, a2] st h = pR 92 d 53 [.ref o, a1, a2] (.ref o :: st) h := pR_L rfl rfl
theorem rX3_unit_53 : pR 92 d 53 ls st h = pR 92 d 54 ls (.int 0 :: st) h := pR_L rfl rfl
theorem rX3_unit_54 : pR 92 (d + 1) 54 ls (b1 :: .ref o :: st) h = if (pok 3 (pcl h o) && pw st) = true then pK 92 (d + 1) 54 3 ls st (pCa 92 d [.ref o, b1] h) else none := r_callV rfl rfl rfl
theorem rX3_unit_57 : pR 92 d 57 [.ref o, a1, a2] st h = pR 92 d 58 [.ref o, a1, a2] (.ref o :: st) h := pR_L rfl rfl
theorem rX3_unit_58 : pR 92 d 58 ls (.ref o :: st) h = pR 92 d 59 ls (.ref o :: .ref o :: st) h := pR_L rfl rfl
theorem rX3_unit_58i : pR 92 d 58 ls (.int x :: st) h = pR 92 d 59 ls (.int x :: .int x :: st) h := pR_L rfl rfl
theorem rX3_unit_59 : pR 92 d 59 ls (.ref o :: st) h = if pis (pfl h 3 o 10) = true then pR 92 d 62 ls (pfl h 3 o 10 :: st) h else none := r_get rfl
theorem rX3_unit_62 : pR 92 d 62 ls st h = pR 92 d 63 ls (.int 1 :: st) h := pR_L rfl rfl
theorem rX3_unit_63 : pR 92 d 63 ls (.int y :: .int x :: st) h = pR 92 d 64 ls (.int (x - y) :: st) h := pR_L rfl rfl
theorem rX3_unit_64 : pR 92 d 64 ls (.int x :: .ref o :: st) h = if pis (pfl h 3 o 10) = true then pR 92 d 67 ls st (psf h o 10 (.int x)) else none := r_put rfl rfl
theorem rX3_unit_67 : pR 92 d 67 [.ref o, a1, a2] st h = pR 92 d 68 [.ref o, a1, a2] (.ref o :: st) h := pR_L rfl rfl
theorem rX3_unit_68 : pR 92 d 68 ls st h = pR 92 d 70 ls (.int 33 :: st) h := pR_L rfl rfl
theorem rX3_unit_70 : pR 92 (d + 1) 70 ls (b1 :: .ref o :: st) h = if (pok 3 (pcl h o) && pw st) = true then pK 92 (d + 1) 70 3 ls st (pCa 94 d [.ref o, b1] h) else none := r_callV rfl rfl rfl
theorem rX3_unit_73 : pR 92 d 73 ls st h = pR 92 d 87 ls st h := pR_L rfl rfl
theorem rX3_unit_76 : pR 92 d 76 [.ref o, a1, a2] st h = pR 92 d 77 [.ref o, a1, a2] (.ref o :: st) h := pR_L rfl rfl
theorem rX3_unit_77 : pR 92 d 77 ls st h = pR 92 d 78 ls (.int 0 :: st) h := pR_L rfl rfl
theorem rX3_unit_78 : pR 92 (d + 1) 78 ls (b1 :: .ref o :: st) h = if (pok 3 (pcl h o) && pw st) = true then pK 92 (d + 1) 78 3 ls st (pCa 90 d [.ref o, b1] h) else none := r_callV rfl rfl rfl
theorem rX3_unit_81 : pR 92 d 81 [.ref o, a1, a2] st h = pR 92 d 82 [.ref o, a1, a2] (.ref o :: st) h := pR_L rfl rfl
theorem rX3_unit_82 : pR 92 d 82 ls st h = pR 92 d 84 ls (.int 41 :: st) h := pR_L rfl rfl
theorem rX3_unit_84 : pR 92 (d + 1) 84 ls (b1 :: .ref o :: st) h = if (pok 3 (pcl h o) && pw st) = true then pK 92 (d + 1) 84 3 ls st (pCa 95 d [.ref o, b1] h) else none := r_callV rfl rfl rfl
theorem rX3_unit_87 : pR 92 d 87 ls [] h = some (.inl none, h) := pR_E rfl rfl
theorem rX3_unit_88 : pR 92 d 88 [a0, .int x, a2] st h = pR 92 d 89 [a0, .int x, a2] (.int x :: st) h := pR_L rfl rfl
theorem rX3_unit_89 : pR 92 d 89 ls (.int x :: st) h = if x = 0 then pR 92 d 92 ls st h else pR 92 d 96 ls st h := r_ine rfl rfl
theorem rX3_unit_92 : pR 92 d 92 [.ref o, a1, a2] st h = pR 92 d 93 [.ref o, a1, a2] (.ref o :: st) h := pR_L rfl rfl
theorem rX3_unit_93 : pR 92 (d + 1) 93 ls (.ref o :: st) h = if (pok 3 (pcl h o) && pw st) = true then pK 92 (d + 1) 93 3 ls st (pCa 96 d [.ref o] h) else none := r_callV rfl rfl rfl
theorem rX3_unit_96 : pR 92 d 96 [.ref o, a1, a2] st h = pR 92 d 97 [.ref o, a1, a2] (.ref o :: st) h := pR_L rfl rfl
theorem rX3_unit_97 : pR 92 d 97 ls (.ref o :: st) h = if pis (pfl h 3 o 9) = true then pR 92 d 100 ls (pfl h 3 o 9 :: st) h else none := r_get rfl
theorem rX3_unit_100 : pR 92 d 100 ls st h = pR 92 d 101 ls (.int (-1) :: st) h := pR_L rfl rfl
theorem rX3_unit_101 : pR 92 d 101 ls (.int y :: .int x :: st) h = if x = y then pR 92 d 104 ls st h else pR 92 d 111 ls st h := r_cne rfl rfl
theorem rX3_unit_104 : pR 92 d 104 [.ref o, a1, a2] st h = pR 92 d 105 [.ref o, a1, a2] (.ref o :: st) h := pR_L rfl rfl
theorem rX3_unit_105 : pR 92 (d + 1) 105 ls (.ref o :: st) h = if (pok 3 (pcl h o) && pw st) = true then pK 92 (d + 1) 105 3 ls st (pCa 76 d [.ref o] h) else none := r_callV rfl rfl rfl
theorem rX3_unit_108 : pR 92 d 108 ls st h = pR 92 d 112 ls st h := pR_L rfl rfl
theorem rX3_unit_111 : pR 92 d 111 ls st h = pR 92 d 112 ls (.int (-1) :: st) h := pR_L rfl rfl
theorem rX3_unit_112 : pR 92 d 112 [a0, a1, a2] (.int x :: st) h = if p1 a2 = true then pR 92 d 113 [a0, a1, .int x] st h else none := r_sto (n := 1) (k := 2) (v := .int x) (ls := [a0, a1, a2]) rfl rfl rfl
theorem rX3_unit_113 : pR 92 d 113 [a0, a1, .int x] st h = pR 92 d 114 [a0, a1, .int x] (.int x :: st) h := pR_L rfl rfl
theorem rX3_unit_114 : pR 92 d 114 ls st h = pR 92 d 116 ls (.int 61 :: st) h := pR_L rfl rfl
theorem rX3_unit_116 : pR 92 d 116 ls (.int y :: .int x :: st) h = if x = y then pR 92 d 136 ls st h else pR 92 d 119 ls st h := r_ceq rfl rfl
theorem rX3_unit_119 : pR 92 d 119 [a0, a1, .int x] st h = pR 92 d 120 [a0, a1, .int x] (.int x :: st) h := pR_L rfl rfl
theorem rX3_unit_120 : pR 92 d 120 ls st h = pR 92 d 122 ls (.int 60 :: st) h := pR_L rfl rfl
theorem rX3_unit_122 : pR 92 d 122 ls (.int y :: .int x :: st) h = if x = y then pR 92 d 136 ls st h else pR 92 d 125 ls st h := r_ceq rfl rfl
theorem rX3_unit_125 : pR 92 d 125 [a0, a1, .int x] st h = pR 92 d 126 [a0, a1, .int x] (.int x :: st) h := pR_L rfl rfl
theorem rX3_unit_126 : pR 92 d 126 ls st h = pR 92 d 128 ls (.int 62 :: st) h := pR_L rfl rfl
theorem rX3_unit_128 : pR 92 d 128 ls (.int y :: .int x :: st) h = if x = y then pR 92 d 136 ls st h else pR 92 d 131 ls st h := r_ceq rfl rfl
theorem rX3_unit_131 : pR 92 d 131 [.ref o, a1, a2] st h = pR 92 d 132 [.ref o, a1, a2] (.ref o :: st) h := pR_L rfl rfl
theorem rX3_unit_132 : pR 92 (d + 1) 132 ls (.ref o :: st) h = if (pok 3 (pcl h o) && pw st) = true then pK 92 (d + 1) 132 3 ls st (pCa 78 d [.ref o] h) else none := r_callV rfl rfl rfl
theorem rX3_unit_135 : pR 92 d 135 ls [] h = some (.inl none, h) := pR_E rfl rfl
theorem rX3_unit_136 : pR 92 d 136 [.ref o, a1, a2] st h = pR 92 d 137 [.ref o, a1, a2] (.ref o :: st) h := pR_L rfl rfl
theorem rX3_unit_137 : pR 92 d 137 ls (.ref o :: st) h = pR 92 d 138 ls (.ref o :: .ref o :: st) h := pR_L rfl rfl
theorem rX3_unit_137i : pR 92 d 137 ls (.int x :: st) h = pR 92 d 138 ls (.int x :: .int x :: st) h := pR_L rfl rfl
theorem rX3_unit_138 : pR 92 d 138 ls (.ref o :: st) h = if pis (pfl h 3 o 8) = true then pR 92 d 141 ls (pfl h 3 o 8 :: st) h else none := r_get rfl
theorem rX3_unit_141 : pR 92 d 141 ls st h = pR 92 d 142 ls (.int 1 :: st) h := pR_L rfl rfl
theorem rX3_unit_142 : pR 92 d 142 ls (.int y :: .int x :: st) h = pR 92 d 143 ls (.int (x + y) :: st) h := pR_L rfl rfl
theorem rX3_unit_143 : pR 92 d 143 ls (.int x :: .ref o :: st) h = if pis (pfl h 3 o 8) = true then pR 92 d 146 ls st (psf h o 8 (.int x)) else none := r_put rfl rfl
theorem rX3_unit_146 : pR 92 d 146 [.ref o, a1, a2] st h = pR 92 d 147 [.ref o, a1, a2] (.ref o :: st) h := pR_L rfl rfl
theorem rX3_unit_147 : pR 92 (d + 1) 147 ls (.ref o :: st) h = if (pok 3 (pcl h o) && pw st) = true then pK 92 (d + 1) 147 3 ls st (pCa 96 d [.ref o] h) else none := r_callV rfl rfl rfl
theorem rX3_unit_150 : pR 92 d 150 [.ref o, a1, a2] st h = pR 92 d 151 [.ref o, a1, a2] (.ref o :: st) h := pR_L rfl rfl
theorem rX3_unit_151 : pR 92 d 151 [a0, a1, .int x] st h = pR 92 d 152 [a0, a1, .int x] (.int x :: st) h := pR_L rfl rfl
theorem rX3_unit_152 : pR 92 (d + 1) 152 ls (b1 :: .ref o :: st) h = if (pok 3 (pcl h o) && pw st) = true then pK 92 (d + 1) 152 3 ls st (pCa 94 d [.ref o, b1] h) else none := r_callV rfl rfl rfl
theorem rX3_unit_155 : pR 92 d 155 ls [] h = some (.inl none, h) := pR_E rfl rfl
-- 93 BalloonStallModel opens ()V
theorem eX3_opens : pCa 93 d [.ref o] h = pR 93 d 0 [.ref o] [] h := rfl
theorem rX3_opens_0 : pR 93 d 0 [.ref o] st h = pR 93 d 1 [.ref o] (.ref o :: st) h := pR_L rfl rfl
theorem rX3_opens_1 : pR 93 d 1 ls (.ref o :: st) h = if pis (pfl h 3 o 10) = true then pR 93 d 4 ls (pfl h 3 o 10 :: st) h else none := r_get rfl
theorem rX3_opens_4 : pR 93 d 4 ls st h = pR 93 d 6 ls (.int 6 :: st) h := pR_L rfl rfl
theorem rX3_opens_6 : pR 93 d 6 ls (.int y :: .int x :: st) h = if x = y then pR 93 d 9 ls st h else pR 93 d 14 ls st h := r_cne rfl rfl
theorem rX3_opens_9 : pR 93 d 9 [.ref o] st h = pR 93 d 10 [.ref o] (.ref o :: st) h := pR_L rfl rfl
theorem rX3_opens_10 : pR 93 (d + 1) 10 ls (.ref o :: st) h = if (pok 3 (pcl h o) && pw st) = true then pK 93 (d + 1) 10 3 ls st (pCa 78 d [.ref o] h) else none := r_callV rfl rfl rfl
theorem rX3_opens_13 : pR 93 d 13 ls [] h = some (.inl none, h) := pR_E rfl rfl
theorem rX3_opens_14 : pR 93 d 14 [.ref o] st h = pR 93 d 15 [.ref o] (.ref o :: st) h := pR_L rfl rfl
theorem rX3_opens_15 : pR 93 d 15 ls (.ref o :: st) h = pR 93 d 16 ls (.ref o :: .ref o :: st) h := pR_L rfl rfl
theorem rX3_opens_15i : pR 93 d 15 ls (.int x :: st) h = pR 93 d 16 ls (.int x :: .int x :: st) h := pR_L rfl rfl
theorem rX3_opens_16 : pR 93 d 16 ls (.ref o :: st) h = if pis (pfl h 3 o 10) = true then pR 93 d 19 ls (pfl h 3 o 10 :: st) h else none := r_get rfl
theorem rX3_opens_19 : pR 93 d 19 ls st h = pR 93 d 20 ls (.int 1 :: st) h := pR_L rfl rfl
theorem rX3_opens_20 : pR 93 d 20 ls (.int y :: .int x :: st) h = pR 93 d 21 ls (.int (x + y) :: st) h := pR_L rfl rfl
theorem rX3_opens_21 : pR 93 d 21 ls (.int x :: .ref o :: st) h = if pis (pfl h 3 o 10) = true then pR 93 d 24 ls st (psf h o 10 (.int x)) else none := r_put rfl rfl
theorem rX3_opens_24 : pR 93 d 24 [.ref o] st h = pR 93 d 25 [.ref o] (.ref o :: st) h := pR_L rfl rfl
theorem rX3_opens_25 : pR 93 d 25 ls (.ref o :: st) h = pR 93 d 26 ls (.ref o :: .ref o :: st) h := pR_L rfl rfl
theorem rX3_opens_25i : pR 93 d 25 ls (.int x :: st) h = pR 93 d 26 ls (.int x :: .int x :: st) h := pR_L rfl rfl
theorem rX3_opens_26 : pR 93 d 26 ls (.ref o :: st) h = if pis (pfl h 3 o 8) = true then pR 93 d 29 ls (pfl h 3 o 8 :: st) h else none := r_get rfl
theorem rX3_opens_29 : pR 93 d 29 ls st h = pR 93 d 30 ls (.int 1 :: st) h := pR_L rfl rfl
theorem rX3_opens_30 : pR 93 d 30 ls (.int y :: .int x :: st) h = pR 93 d 31 ls (.int (x + y) :: st) h := pR_L rfl rfl
theorem rX3_opens_31 : pR 93 d 31 ls (.int x :: .ref o :: st) h = if pis (pfl h 3 o 8) = true then pR 93 d 34 ls st (psf h o 8 (.int x)) else none := r_put rfl rfl
theorem rX3_opens_34 : pR 93 d 34 ls [] h = some (.inl none, h) := pR_E rfl rfl
-- 94 BalloonStallModel say (I)V
theorem eX3_say : pCa 94 d [.ref o, .int x0] h = pR 94 d 0 [.ref o, .int x0] [] h := rfl
theorem rX3_say_0 : pR 94 d 0 [.ref o, a1] st h = pR 94 d 1 [.ref o, a1] (.ref o :: st) h := pR_L rfl rfl
theorem rX3_say_1 : pR 94 d 1 ls (.ref o :: st) h = if pis (pfl h 3 o 27) = true then pR 94 d 4 ls (pfl h 3 o 27 :: st) h else none := r_get rfl
theorem rX3_say_4 : pR 94 d 4 ls st h = pR 94 d 7 ls (.int 400 :: st) h := pR_L rfl rfl
theorem rX3_say_7 : pR 94 d 7 [.ref o, a1] st h = pR 94 d 8 [.ref o, a1] (.ref o :: st) h := pR_L rfl rfl
theorem rX3_say_8 : pR 94 d 8 ls (.ref o :: st) h = if pis (pfl h 3 o 32) = true then pR 94 d 11 ls (pfl h 3 o 32 :: st) h else none := r_get rfl
theorem rX3_say_11 : pR 94 d 11 ls (.int y :: .int x :: st) h = pR 94 d 12 ls (.int (x * y) :: st) h := pR_L rfl rfl
theorem rX3_say_12 : pR 94 d 12 [.ref o, a1] st h = pR 94 d 13 [.ref o, a1] (.ref o :: st) h := pR_L rfl rfl
theorem rX3_say_13 : pR 94 d 13 ls (.ref o :: st) h = if pis (pfl h 3 o 33) = true then pR 94 d 16 ls (pfl h 3 o 33 :: st) h else none := r_get rfl
theorem rX3_say_16 : pR 94 d 16 ls (.int y :: .int x :: st) h = pR 94 d 17 ls (.int (x + y) :: st) h := pR_L rfl rfl
theorem rX3_say_17 : pR 94 d 17 [a0, .int x] st h = pR 94 d 18 [a0, .int x] (.int x :: st) h := pR_L rfl rfl
theorem rX3_say_18 : pR 94 d 18 ls (.int y :: .int x :: .ref o :: st) h = if pin x (pln h 0 o) = true then pR 94 d 19 ls st (pst h o x.toNatClampNeg y) else none := pR_Lif rfl rfl
theorem rX3_say_19 : pR 94 d 19 [.ref o, a1] st h = pR 94 d 20 [.ref o, a1] (.ref o :: st) h := pR_L rfl rfl
theorem rX3_say_20 : pR 94 d 20 ls (.ref o :: st) h = pR 94 d 21 ls (.ref o :: .ref o :: st) h := pR_L rfl rfl
theorem rX3_say_20i : pR 94 d 20 ls (.int x :: st) h = pR 94 d 21 ls (.int x :: .int x :: st) h := pR_L rfl rfl
theorem rX3_say_21 : pR 94 d 21 ls (.ref o :: st) h = if pis (pfl h 3 o 33) = true then pR 94 d 24 ls (pfl h 3 o 33 :: st) h else none := r_get rfl
theorem rX3_say_24 : pR 94 d 24 ls st h = pR 94 d 25 ls (.int 1 :: st) h := pR_L rfl rfl
theorem rX3_say_25 : pR 94 d 25 ls (.int y :: .int x :: st) h = pR 94 d 26 ls (.int (x + y) :: st) h := pR_L rfl rfl
theorem rX3_say_26 : pR 94 d 26 ls (.int x :: .ref o :: st) h = if pis (pfl h 3 o 33) = true then pR 94 d 29 ls st (psf h o 33 (.int x)) else none := r_put rfl rfl
theorem rX3_say_29 : pR 94 d 29 ls [] h = some (.inl none, h) := pR_E rfl rfl
-- 95 BalloonStallModel sign (I)V
theorem eX3_sign : pCa 95 d [.ref o, .int x0] h = pR 95 d 0 [.ref o, .int x0] [] h := rfl
theorem rX3_sign_0 : pR 95 d 0 [.ref o, a1] st h = pR 95 d 1 [.ref o, a1] (.ref o :: st) h := pR_L rfl rfl
theorem rX3_sign_1 : pR 95 d 1 ls (.ref o :: st) h = if pis (pfl h 3 o 9) = true then pR 95 d 4 ls (pfl h 3 o 9 :: st) h else none := r_get rfl
theorem rX3_sign_4 : pR 95 d 4 ls st h = pR 95 d 5 ls (.int (-1) :: st) h := pR_L rfl rfl
theorem rX3_sign_5 : pR 95 d 5 ls (.int y :: .int x :: st) h = if x = y then pR 95 d 8 ls st h else pR 95 d 20 ls st h := r_cne rfl rfl
theorem rX3_sign_8 : pR 95 d 8 [.ref o, a1] st h = pR 95 d 9 [.ref o, a1] (.ref o :: st) h := pR_L rfl rfl
theorem rX3_sign_9 : pR 95 (d + 1) 9 ls (.ref o :: st) h = if (pok 3 (pcl h o) && pw st) = true then pK 95 (d + 1) 9 3 ls st (pCa 76 d [.ref o] h) else none := r_callV rfl rfl rfl
theorem rX3_sign_12 : pR 95 d 12 [a0, .int x] st h = pR 95 d 13 [a0, .int x] (.int x :: st) h := pR_L rfl rfl
theorem rX3_sign_13 : pR 95 d 13 ls (.int y :: .int x :: st) h = if x = y then pR 95 d 20 ls st h else pR 95 d 16 ls st h := r_ceq rfl rfl
theorem rX3_sign_16 : pR 95 d 16 [.ref o, a1] st h = pR 95 d 17 [.ref o, a1] (.ref o :: st) h := pR_L rfl rfl
theorem rX3_sign_17 : pR 95 (d + 1) 17 ls (.ref o :: st) h = if (pok 3 (pcl h o) && pw st) = true then pK 95 (d + 1) 17 3 ls st (pCa 78 d [.ref o] h) else none := r_callV rfl rfl rfl
theorem rX3_sign_20 : pR 95 d 20 [.ref o, a1] st h = pR 95 d 21 [.ref o, a1] (.ref o :: st) h := pR_L rfl rfl
theorem rX3_sign_21 : pR 95 d 21 ls (.ref o :: st) h = pR 95 d 22 ls (.ref o :: .ref o :: st) h := pR_L rfl rfl
theorem rX3_sign_21i : pR 95 d 21 ls (.int x :: st) h = pR 95 d 22 ls (.int x :: .int x :: st) h := pR_L rfl rfl
theorem rX3_sign_22 : pR 95 d 22 ls (.ref o :: st) h = if pis (pfl h 3 o 8) = true then pR 95 d 25 ls (pfl h 3 o 8 :: st) h else none := r_get rfl
theorem rX3_sign_25 : pR 95 d 25 ls st h = pR 95 d 26 ls (.int 1 :: st) h := pR_L rfl rfl
theorem rX3_sign_26 : pR 95 d 26 ls (.int y :: .int x :: st) h = pR 95 d 27 ls (.int (x + y) :: st) h := pR_L rfl rfl
theorem rX3_sign_27 : pR 95 d 27 ls (.int x :: .ref o :: st) h = if pis (pfl h 3 o 8) = true then pR 95 d 30 ls st (psf h o 8 (.int x)) else none := r_put rfl rfl
theorem rX3_sign_30 : pR 95 d 30 [.ref o, a1] st h = pR 95 d 31 [.ref o, a1] (.ref o :: st) h := pR_L rfl rfl
theorem rX3_sign_31 : pR 95 d 31 ls (.ref o :: st) h = pR 95 d 32 ls (.ref o :: .ref o :: st) h := pR_L rfl rfl
theorem rX3_sign_31i : pR 95 d 31 ls (.int x :: st) h = pR 95 d 32 ls (.int x :: .int x :: st) h := pR_L rfl rfl
theorem rX3_sign_32 : pR 95 d 32 ls (.ref o :: st) h = if pis (pfl h 3 o 10) = true then pR 95 d 35 ls (pfl h 3 o 10 :: st) h else none := r_get rfl
theorem rX3_sign_35 : pR 95 d 35 ls st h = pR 95 d 36 ls (.int 1 :: st) h := pR_L rfl rfl
theorem rX3_sign_36 : pR 95 d 36 ls (.int y :: .int x :: st) h = pR 95 d 37 ls (.int (x - y) :: st) h := pR_L rfl rfl
theorem rX3_sign_37 : pR 95 d 37 ls (.int x :: .ref o :: st) h = if pis (pfl h 3 o 10) = true then pR 95 d 40 ls st (psf h o 10 (.int x)) else none := r_put rfl rfl
theorem rX3_sign_40 : pR 95 d 40 ls [] h = some (.inl none, h) := pR_E rfl rfl
-- 96 BalloonStallModel sum ()V
theorem eX3_sum : pCa 96 d [.ref o] h = pR 96 d 0 [.ref o, pU] [] h := rfl
theorem rX3_sum_0 : pR 96 d 0 [.ref o, a1] st h = pR 96 d 1 [.ref o, a1] (.ref o :: st) h := pR_L rfl rfl
theorem rX3_sum_1 : pR 96 (d + 1) 1 ls (.ref o :: st) h = if (pok 3 (pcl h o) && pw st) = true then pK 96 (d + 1) 1 3 ls st (pCa 97 d [.ref o] h) else none := r_callV rfl rfl rfl
theorem rX3_sum_4 : pR 96 d 4 [.ref o, a1] st h = pR 96 d 5 [.ref o, a1] (.ref o :: st) h := pR_L rfl rfl
theorem rX3_sum_5 : pR 96 d 5 ls (.ref o :: st) h = if pis (pfl h 3 o 9) = true then pR 96 d 8 ls (pfl h 3 o 9 :: st) h else none := r_get rfl
theorem rX3_sum_8 : pR 96 d 8 ls st h = pR 96 d 9 ls (.int (-1) :: st) h := pR_L rfl rfl
theorem rX3_sum_9 : pR 96 d 9 ls (.int y :: .int x :: st) h = if x = y then pR 96 d 12 ls st h else pR 96 d 57 ls st h := r_cne rfl rfl
theorem rX3_sum_12 : pR 96 d 12 [.ref o, a1] st h = pR 96 d 13 [.ref o, a1] (.ref o :: st) h := pR_L rfl rfl
theorem rX3_sum_13 : pR 96 (d + 1) 13 ls (.ref o :: st) h = if (pok 3 (pcl h o) && pw st) = true then pK 96 (d + 1) 13 3 ls st (pCa 76 d [.ref o] h) else none := r_callV rfl rfl rfl
theorem rX3_sum_16 : pR 96 d 16 ls st h = pR 96 d 18 ls (.int 43 :: st) h := pR_L rfl rfl
theorem rX3_sum_18 : pR 96 d 18 ls (.int y :: .int x :: st) h = if x = y then pR 96 d 30 ls st h else pR 96 d 21 ls st h := r_ceq rfl rfl
theorem rX3_sum_21 : pR 96 d 21 [.ref o, a1] st h = pR 96 d 22 [.ref o, a1] (.ref o :: st) h := pR_L rfl rfl
theorem rX3_sum_22 : pR 96 (d + 1) 22 ls (.ref o :: st) h = if (pok 3 (pcl h o) && pw st) = true then pK 96 (d + 1) 22 3 ls st (pCa 76 d [.ref o] h) else none := r_callV rfl rfl rfl
theorem rX3_sum_25 : pR 96 d 25 ls st h = pR 96 d 27 ls (.int 45 :: st) h := pR_L rfl rfl
theorem rX3_sum_27 : pR 96 d 27 ls (.int y :: .int x :: st) h = if x = y then pR 96 d 30 ls st h else pR 96 d 57 ls st h := r_cne rfl rfl
theorem rX3_sum_30 : pR 96 d 30 [.ref o, a1] st h = pR 96 d 31 [.ref o, a1] (.ref o :: st) h := pR_L rfl rfl
theorem rX3_sum_31 : pR 96 (d + 1) 31 ls (.ref o :: st) h = if (pok 3 (pcl h o) && pw st) = true then pK 96 (d + 1) 31 3 ls st (pCa 76 d [.ref o] h) else none := r_callV rfl rfl rfl
theorem rX3_sum_34 : pR 96 d 34 [a0, a1] (.int x :: st) h = if p1 a1 = true then pR 96 d 35 [a0, .int x] st h else none := r_sto (n := 1) (k := 1) (v := .int x) (ls := [a0, a1]) rfl rfl rfl
theorem rX3_sum_35 : pR 96 d 35 [.ref o, a1] st h = pR 96 d 36 [.ref o, a1] (.ref o :: st) h := pR_L rfl rfl
theorem rX3_sum_36 : pR 96 d 36 ls (.ref o :: st) h = pR 96 d 37 ls (.ref o :: .ref o :: st) h := pR_L rfl rfl
theorem rX3_sum_36i : pR 96 d 36 ls (.int x :: st) h = pR 96 d 37 ls (.int x :: .int x :: st) h := pR_L rfl rfl
theorem rX3_sum_37 : pR 96 d 37 ls (.ref o :: st) h = if pis (pfl h 3 o 8) = true then pR 96 d 40 ls (pfl h 3 o 8 :: st) h else none := r_get rfl
theorem rX3_sum_40 : pR 96 d 40 ls st h = pR 96 d 41 ls (.int 1 :: st) h := pR_L rfl rfl
theorem rX3_sum_41 : pR 96 d 41 ls (.int y :: .int x :: st) h = pR 96 d 42 ls (.int (x + y) :: st) h := pR_L rfl rfl
theorem rX3_sum_42 : pR 96 d 42 ls (.int x :: .ref o :: st) h = if pis (pfl h 3 o 8) = true then pR 96 d 45 ls st (psf h o 8 (.int x)) else none := r_put rfl rfl
theorem rX3_sum_45 : pR 96 d 45 [.ref o, a1] st h = pR 96 d 46 [.ref o, a1] (.ref o :: st) h := pR_L rfl rfl
theorem rX3_sum_46 : pR 96 (d + 1) 46 ls (.ref o :: st) h = if (pok 3 (pcl h o) && pw st) = true then pK 96 (d + 1) 46 3 ls st (pCa 97 d [.ref o] h) else none := r_callV rfl rfl rfl
theorem rX3_sum_49 : pR 96 d 49 [.ref o, a1] st h = pR 96 d 50 [.ref o, a1] (.ref o :: st) h := pR_L rfl rfl
theorem rX3_sum_50 : pR 96 d 50 [a0, .int x] st h = pR 96 d 51 [a0, .int x] (.int x :: st) h := pR_L rfl rfl
theorem rX3_sum_51 : pR 96 (d + 1) 51 ls (b1 :: .ref o :: st) h = if (pok 3 (pcl h o) && pw st) = true then pK 96 (d + 1) 51 3 ls st (pCa 94 d [.ref o, b1] h) else none := r_callV rfl rfl rfl
theorem rX3_sum_54 : pR 96 d 54 ls st h = pR 96 d 4 ls st h := pR_L rfl rfl
theorem rX3_sum_57 : pR 96 d 57 ls [] h = some (.inl none, h) := pR_E rfl rfl
-- 97 BalloonStallModel term ()V
theorem eX3_term : pCa 97 d [.ref o] h = pR 97 d 0 [.ref o, pU] [] h := rfl
theorem rX3_term_0 : pR 97 d 0 [.ref o, a1] st h = pR 97 d 1 [.ref o, a1] (.ref o :: st) h := pR_L rfl rfl
theorem rX3_term_1 : pR 97 (d + 1) 1 ls (.ref o :: st) h = if (pok 3 (pcl h o) && pw st) = true then pK 97 (d + 1) 1 3 ls st (pCa 98 d [.ref o] h) else none := r_callV rfl rfl rfl
theorem rX3_term_4 : pR 97 d 4 [.ref o, a1] st h = pR 97 d 5 [.ref o, a1] (.ref o :: st) h := pR_L rfl rfl
theorem rX3_term_5 : pR 97 d 5 ls (.ref o :: st) h = if pis (pfl h 3 o 9) = true then pR 97 d 8 ls (pfl h 3 o 9 :: st) h else none := r_get rfl
theorem rX3_term_8 : pR 97 d 8 ls st h = pR 97 d 9 ls (.int (-1) :: st) h := pR_L rfl rfl
theorem rX3_term_9 : pR 97 d 9 ls (.int y :: .int x :: st) h = if x = y then pR 97 d 12 ls st h else pR 97 d 57 ls st h := r_cne rfl rfl
theorem rX3_term_12 : pR 97 d 12 [.ref o, a1] st h = pR 97 d 13 [.ref o, a1] (.ref o :: st) h := pR_L rfl rfl
theorem rX3_term_13 : pR 97 (d + 1) 13 ls (.ref o :: st) h = if (pok 3 (pcl h o) && pw st) = true then pK 97 (d + 1) 13 3 ls st (pCa 76 d [.ref o] h) else none := r_callV rfl rfl rfl
theorem rX3_term_16 : pR 97 d 16 ls st h = pR 97 d 18 ls (.int 42 :: st) h := pR_L rfl rfl
theorem rX3_term_18 : pR 97 d 18 ls (.int y :: .int x :: st) h = if x = y then pR 97 d 30 ls st h else pR 97 d 21 ls st h := r_ceq rfl rfl
theorem rX3_term_21 : pR 97 d 21 [.ref o, a1] st h = pR 97 d 22 [.ref o, a1] (.ref o :: st) h := pR_L rfl rfl
theorem rX3_term_22 : pR 97 (d + 1) 22 ls (.ref o :: st) h = if (pok 3 (pcl h o) && pw st) = true then pK 97 (d + 1) 22 3 ls st (pCa 76 d [.ref o] h) else none := r_callV rfl rfl rfl
theorem rX3_term_25 : pR 97 d 25 ls st h = pR 97 d 27 ls (.int 47 :: st) h := pR_L rfl rfl
theorem rX3_term_27 : pR 97 d 27 ls (.int y :: .int x :: st) h = if x = y then pR 97 d 30 ls st h else pR 97 d 57 ls st h := r_cne rfl rfl
theorem rX3_term_30 : pR 97 d 30 [.ref o, a1] st h = pR 97 d 31 [.ref o, a1] (.ref o :: st) h := pR_L rfl rfl
theorem rX3_term_31 : pR 97 (d + 1) 31 ls (.ref o :: st) h = if (pok 3 (pcl h o) && pw st) = true then pK 97 (d + 1) 31 3 ls st (pCa 76 d [.ref o] h) else none := r_callV rfl rfl rfl
theorem rX3_term_34 : pR 97 d 34 [a0, a1] (.int x :: st) h = if p1 a1 = true then pR 97 d 35 [a0, .int x] st h else none := r_sto (n := 1) (k := 1) (v := .int x) (ls := [a0, a1]) rfl rfl rfl
theorem rX3_term_35 : pR 97 d 35 [.ref o, a1] st h = pR 97 d 36 [.ref o, a1] (.ref o :: st) h := pR_L rfl rfl
theorem rX3_term_36 : pR 97 d 36 ls (.ref o :: st) h = pR 97 d 37 ls (.ref o :: .ref o :: st) h := pR_L rfl rfl
theorem rX3_term_36i : pR 97 d 36 ls (.int x :: st) h = pR 97 d 37 ls (.int x :: .int x :: st) h := pR_L rfl rfl
theorem rX3_term_37 : pR 97 d 37 ls (.ref o :: st) h = if pis (pfl h 3 o 8) = true then pR 97 d 40 ls (pfl h 3 o 8 :: st) h else none := r_get rfl
theorem rX3_term_40 : pR 97 d 40 ls st h = pR 97 d 41 ls (.int 1 :: st) h := pR_L rfl rfl
theorem rX3_term_41 : pR 97 d 41 ls (.int y :: .int x :: st) h = pR 97 d 42 ls (.int (x + y) :: st) h := pR_L rfl rfl
theorem rX3_term_42 : pR 97 d 42 ls (.int x :: .ref o :: st) h = if pis (pfl h 3 o 8) = true then pR 97 d 45 ls st (psf h o 8 (.int x)) else none := r_put rfl rfl
theorem rX3_term_45 : pR 97 d 45 [.ref o, a1] st h = pR 97 d 46 [.ref o, a1] (.ref o :: st) h := pR_L rfl rfl
theorem rX3_term_46 : pR 97 (d + 1) 46 ls (.ref o :: st) h = if (pok 3 (pcl h o) && pw st) = true then pK 97 (d + 1) 46 3 ls st (pCa 98 d [.ref o] h) else none := r_callV rfl rfl rfl
theorem rX3_term_49 : pR 97 d 49 [.ref o, a1] st h = pR 97 d 50 [.ref o, a1] (.ref o :: st) h := pR_L rfl rfl
theorem rX3_term_50 : pR 97 d 50 [a0, .int x] st h = pR 97 d 51 [a0, .int x] (.int x :: st) h := pR_L rfl rfl
theorem rX3_term_51 : pR 97 (d + 1) 51 ls (b1 :: .ref o :: st) h = if (pok 3 (pcl h o) && pw st) = true then pK 97 (d + 1) 51 3 ls st (pCa 94 d [.ref o, b1] h) else none := r_callV rfl rfl rfl
theorem rX3_term_54 : pR 97 d 54 ls st h = pR 97 d 4 ls st h := pR_L rfl rfl
theorem rX3_term_57 : pR 97 d 57 ls [] h = some (.inl none, h) := pR_E rfl rfl
-- 98 BalloonStallModel atom ()V
theorem eX3_atom : pCa 98 d [.ref o] h = pR 98 d 0 [.ref o, pU, pU, pU] [] h := rfl
theorem rX3_atom_0 : pR 98 d 0 [.ref o, a1, a2, a3] st h = pR 98 d 1 [.ref o, a1, a2, a3] (.ref o :: st) h := pR_L rfl rfl
theorem rX3_atom_1 : pR 98 d 1 ls (.ref o :: st) h = if pis (pfl h 3 o 9) = true then pR 98 d 4 ls (pfl h 3 o 9 :: st) h else none := r_get rfl
theorem rX3_atom_4 : pR 98 d 4 ls st h = pR 98 d 5 ls (.int (-1) :: st) h := pR_L rfl rfl
theorem rX3_atom_5 : pR 98 d 5 ls (.int y :: .int x :: st) h = if x = y then pR 98 d 8 ls st h else pR 98 d 15 ls st h := r_cne rfl rfl
theorem rX3_atom_8 : pR 98 d 8 [.ref o, a1, a2, a3] st h = pR 98 d 9 [.ref o, a1, a2, a3] (.ref o :: st) h := pR_L rfl rfl
theorem rX3_atom_9 : pR 98 (d + 1) 9 ls (.ref o :: st) h = if (pok 3 (pcl h o) && pw st) = true then pK 98 (d + 1) 9 3 ls st (pCa 76 d [.ref o] h) else none := r_callV rfl rfl rfl
theorem rX3_atom_12 : pR 98 d 12 ls st h = pR 98 d 16 ls st h := pR_L rfl rfl
theorem rX3_atom_15 : pR 98 d 15 ls st h = pR 98 d 16 ls (.int (-1) :: st) h := pR_L rfl rfl
theorem rX3_atom_16 : pR 98 d 16 [a0, a1, a2, a3] (.int x :: st) h = if p1 a1 = true then pR 98 d 17 [a0, .int x, a2, a3] st h else none := r_sto (n := 1) (k := 1) (v := .int x) (ls := [a0, a1, a2, a3]) rfl rfl rfl
theorem rX3_atom_17 : pR 98 d 17 [a0, .int x, a2, a3] st h = pR 98 d 18 [a0, .int x, a2, a3] (.int x :: st) h := pR_L rfl rfl
theorem rX3_atom_18 : pR 98 (d + 1) 18 ls (b0 :: st) h = if pw st = true then pK 98 (d + 1) 18 3 ls st (pCa 79 d [b0] h) else none := r_callS rfl rfl rfl
theorem rX3_atom_21 : pR 98 d 21 ls (.int x :: st) h = if x = 0 then pR 98 d 90 ls st h else pR 98 d 24 ls st h := r_ieq rfl rfl
theorem rX3_atom_24 : pR 98 d 24 ls st h = pR 98 d 25 ls (.int 0 :: st) h := pR_L rfl rfl
theorem rX3_atom_25 : pR 98 d 25 [a0, a1, a2, a3] (.int x :: st) h = if p1 a2 = true then pR 98 d 26 [a0, a1, .int x, a3] st h else none := r_sto (n := 1) (k := 2) (v := .int x) (ls := [a0, a1, a2, a3]) rfl rfl rfl
theorem rX3_atom_26 : pR 98 d 26 ls st h = pR 98 d 27 ls (.int 0 :: st) h := pR_L rfl rfl
theorem rX3_atom_27 : pR 98 d 27 [a0, a1, a2, a3] (.int x :: st) h = if p1 a3 = true then pR 98 d 28 [a0, a1, a2, .int x] st h else none := r_sto (n := 1) (k := 3) (v := .int x) (ls := [a0, a1, a2, a3]) rfl rfl rfl
theorem rX3_atom_28 : pR 98 d 28 [.ref o, a1, a2, a3] st h = pR 98 d 29 [.ref o, a1, a2, a3] (.ref o :: st) h := pR_L rfl rfl
theorem rX3_atom_29 : pR 98 (d + 1) 29 ls (.ref o :: st) h = if (pok 3 (pcl h o) && pw st) = true then pK 98 (d + 1) 29 3 ls st (pCa 77 d [.ref o] h) else none := r_callV rfl rfl rfl
theorem rX3_atom_32 : pR 98 (d + 1) 32 ls (b0 :: st) h = if pw st = true then pK 98 (d + 1) 32 3 ls st (pCa 79 d [b0] h) else none := r_callS rfl rfl rfl
theorem rX3_atom_35 : pR 98 d 35 ls (.int x :: st) h = if x = 0 then pR 98 d 77 ls st h else pR 98 d 38 ls st h := r_ieq rfl rfl
theorem rX3_atom_38 : pR 98 d 38 [a0, a1, a2, .int x] st h = pR 98 d 39 [a0, a1, a2, .int x] (.int x :: st) h := pR_L rfl rfl
theorem rX3_atom_39 : pR 98 d 39 ls st h = pR 98 d 40 ls (.int 4 :: st) h := pR_L rfl rfl
theorem rX3_atom_40 : pR 98 d 40 ls (.int y :: .int x :: st) h = if x = y then pR 98 d 43 ls st h else pR 98 d 48 ls st h := r_cne rfl rfl
theorem rX3_atom_43 : pR 98 d 43 [.ref o, a1, a2, a3] st h = pR 98 d 44 [.ref o, a1, a2, a3] (.ref o :: st) h := pR_L rfl rfl
theorem rX3_atom_44 : pR 98 (d + 1) 44 ls (.ref o :: st) h = if (pok 3 (pcl h o) && pw st) = true then pK 98 (d + 1) 44 3 ls st (pCa 78 d [.ref o] h) else none := r_callV rfl rfl rfl
theorem rX3_atom_47 : pR 98 d 47 ls [] h = some (.inl none, h) := pR_E rfl rfl
theorem rX3_atom_48 : pR 98 d 48 ls st h = pR 98 d 50 ls (.int 10 :: st) h := pR_L rfl rfl
theorem rX3_atom_50 : pR 98 d 50 [a0, a1, .int x, a3] st h = pR 98 d 51 [a0, a1, .int x, a3] (.int x :: st) h := pR_L rfl rfl
theorem rX3_atom_51 : pR 98 d 51 ls (.int y :: .int x :: st) h = pR 98 d 52 ls (.int (x * y) :: st) h := pR_L rfl rfl
theorem rX3_atom_52 : pR 98 d 52 [.ref o, a1, a2, a3] st h = pR 98 d 53 [.ref o, a1, a2, a3] (.ref o :: st) h := pR_L rfl rfl
theorem rX3_atom_53 : pR 98 (d + 1) 53 ls (.ref o :: st) h = if (pok 3 (pcl h o) && pw st) = true then pK 98 (d + 1) 53 3 ls st (pCa 77 d [.ref o] h) else none := r_callV rfl rfl rfl
theorem rX3_atom_56 : pR 98 d 56 ls (.int y :: .int x :: st) h = pR 98 d 57 ls (.int (x + y) :: st) h := pR_L rfl rfl
theorem rX3_atom_57 : pR 98 d 57 ls st h = pR 98 d 59 ls (.int 48 :: st) h := pR_L rfl rfl
theorem rX3_atom_59 : pR 98 d 59 ls (.int y :: .int x :: st) h = pR 98 d 60 ls (.int (x - y) :: st) h := pR_L rfl rfl
theorem rX3_atom_60 : pR 98 d 60 [a0, a1, a2, a3] (.int x :: st) h = if p1 a2 = true then pR 98 d 61 [a0, a1, .int x, a3] st h else none := r_sto (n := 1) (k := 2) (v := .int x) (ls := [a0, a1, a2, a3]) rfl rfl rfl
theorem rX3_atom_61 : pR 98 d 61 [a0, a1, a2, .int x] st h = pR 98 d 64 [a0, a1, a2, .int (x + 1)] st h := pR_L rfl rfl
theorem rX3_atom_64 : pR 98 d 64 [.ref o, a1, a2, a3] st h = pR 98 d 65 [.ref o, a1, a2, a3] (.ref o :: st) h := pR_L rfl rfl
theorem rX3_atom_65 : pR 98 d 65 ls (.ref o :: st) h = pR 98 d 66 ls (.ref o :: .ref o :: st) h := pR_L rfl rfl
theorem rX3_atom_65i : pR 98 d 65 ls (.int x :: st) h = pR 98 d 66 ls (.int x :: .int x :: st) h := pR_L rfl rfl
theorem rX3_atom_66 : pR 98 d 66 ls (.ref o :: st) h = if pis (pfl h 3 o 8) = true then pR 98 d 69 ls (pfl h 3 o 8 :: st) h else none := r_get rfl
theorem rX3_atom_69 : pR 98 d 69 ls st h = pR 98 d 70 ls (.int 1 :: st) h := pR_L rfl rfl
theorem rX3_atom_70 : pR 98 d 70 ls (.int y :: .int x :: st) h = pR 98 d 71 ls (.int (x + y) :: st) h := pR_L rfl rfl
theorem rX3_atom_71 : pR 98 d 71 ls (.int x :: .ref o :: st) h = if pis (pfl h 3 o 8) = true then pR 98 d 74 ls st (psf h o 8 (.int x)) else none := r_put rfl rfl
theorem rX3_atom_74 : pR 98 d 74 ls st h = pR 98 d 28 ls st h := pR_L rfl rfl
theorem rX3_atom_77 : pR 98 d 77 [.ref o, a1, a2, a3] st h = pR 98 d 78 [.ref o, a1, a2, a3] (.ref o :: st) h := pR_L rfl rfl
theorem rX3_atom_78 : pR 98 d 78 ls st h = pR 98 d 79 ls (.int 0 :: st) h := pR_L rfl rfl
theorem rX3_atom_79 : pR 98 (d + 1) 79 ls (b1 :: .ref o :: st) h = if (pok 3 (pcl h o) && pw st) = true then pK 98 (d + 1) 79 3 ls st (pCa 94 d [.ref o, b1] h) else none := r_callV rfl rfl rfl
theorem rX3_atom_82 : pR 98 d 82 [.ref o, a1, a2, a3] st h = pR 98 d 83 [.ref o, a1, a2, a3] (.ref o :: st) h := pR_L rfl rfl
theorem rX3_atom_83 : pR 98 d 83 [a0, a1, .int x, a3] st h = pR 98 d 84 [a0, a1, .int x, a3] (.int x :: st) h := pR_L rfl rfl
theorem rX3_atom_84 : pR 98 (d + 1) 84 ls (b1 :: .ref o :: st) h = if (pok 3 (pcl h o) && pw st) = true then pK 98 (d + 1) 84 3 ls st (pCa 94 d [.ref o, b1] h) else none := r_callV rfl rfl rfl
theorem rX3_atom_87 : pR 98 d 87 ls st h = pR 98 d 155 ls st h := pR_L rfl rfl
theorem rX3_atom_90 : pR 98 d 90 [a0, .int x, a2, a3] st h = pR 98 d 91 [a0, .int x, a2, a3] (.int x :: st) h := pR_L rfl rfl
theorem rX3_atom_91 : pR 98 (d + 1) 91 ls (b0 :: st) h = if pw st = true then pK 98 (d + 1) 91 3 ls st (pCa 99 d [b0] h) else none := r_callS rfl rfl rfl
theorem rX3_atom_94 : pR 98 d 94 ls (.int x :: st) h = if x = 0 then pR 98 d 120 ls st h else pR 98 d 97 ls st h := r_ieq rfl rfl
theorem rX3_atom_97 : pR 98 d 97 [.ref o, a1, a2, a3] st h = pR 98 d 98 [.ref o, a1, a2, a3] (.ref o :: st) h := pR_L rfl rfl
theorem rX3_atom_98 : pR 98 d 98 ls (.ref o :: st) h = pR 98 d 99 ls (.ref o :: .ref o :: st) h := pR_L rfl rfl
theorem rX3_atom_98i : pR 98 d 98 ls (.int x :: st) h = pR 98 d 99 ls (.int x :: .int x :: st) h := pR_L rfl rfl
theorem rX3_atom_99 : pR 98 d 99 ls (.ref o :: st) h = if pis (pfl h 3 o 8) = true then pR 98 d 102 ls (pfl h 3 o 8 :: st) h else none := r_get rfl
theorem rX3_atom_102 : pR 98 d 102 ls st h = pR 98 d 103 ls (.int 1 :: st) h := pR_L rfl rfl
theorem rX3_atom_103 : pR 98 d 103 ls (.int y :: .int x :: st) h = pR 98 d 104 ls (.int (x + y) :: st) h := pR_L rfl rfl
theorem rX3_atom_104 : pR 98 d 104 ls (.int x :: .ref o :: st) h = if pis (pfl h 3 o 8) = true then pR 98 d 107 ls st (psf h o 8 (.int x)) else none := r_put rfl rfl
theorem rX3_atom_107 : pR 98 d 107 [.ref o, a1, a2, a3] st h = pR 98 d 108 [.ref o, a1, a2, a3] (.ref o :: st) h := pR_L rfl rfl
theorem rX3_atom_108 : pR 98 d 108 ls st h = pR 98 d 109 ls (.int 1 :: st) h := pR_L rfl rfl
theorem rX3_atom_109 : pR 98 (d + 1) 109 ls (b1 :: .ref o :: st) h = if (pok 3 (pcl h o) && pw st) = true then pK 98 (d + 1) 109 3 ls st (pCa 94 d [.ref o, b1] h) else none := r_callV rfl rfl rfl
theorem rX3_atom_112 : pR 98 d 112 [.ref o, a1, a2, a3] st h = pR 98 d 113 [.ref o, a1, a2, a3] (.ref o :: st) h := pR_L rfl rfl
theorem rX3_atom_113 : pR 98 d 113 [a0, .int x, a2, a3] st h = pR 98 d 114 [a0, .int x, a2, a3] (.int x :: st) h := pR_L rfl rfl
theorem rX3_atom_114 : pR 98 (d + 1) 114 ls (b1 :: .ref o :: st) h = if (pok 3 (pcl h o) && pw st) = true then pK 98 (d + 1) 114 3 ls st (pCa 94 d [.ref o, b1] h) else none := r_callV rfl rfl rfl
theorem rX3_atom_117 : pR 98 d 117 ls st h = pR 98 d 155 ls st h := pR_L rfl rfl
theorem rX3_atom_120 : pR 98 d 120 [a0, .int x, a2, a3] st h = pR 98 d 121 [a0, .int x, a2, a3] (.int x :: st) h := pR_L rfl rfl
theorem rX3_atom_121 : pR 98 d 121 ls st h = pR 98 d 123 ls (.int 91 :: st) h := pR_L rfl rfl
theorem rX3_atom_123 : pR 98 d 123 ls (.int y :: .int x :: st) h = if x = y then pR 98 d 126 ls st h else pR 98 d 151 ls st h := r_cne rfl rfl
theorem rX3_atom_126 : pR 98 d 126 [.ref o, a1, a2, a3] st h = pR 98 d 127 [.ref o, a1, a2, a3] (.ref o :: st) h := pR_L rfl rfl
theorem rX3_atom_127 : pR 98 (d + 1) 127 ls (.ref o :: st) h = if (pok 3 (pcl h o) && pw st) = true then pK 98 (d + 1) 127 3 ls st (pCa 93 d [.ref o] h) else none := r_callV rfl rfl rfl
theorem rX3_atom_130 : pR 98 d 130 [.ref o, a1, a2, a3] st h = pR 98 d 131 [.ref o, a1, a2, a3] (.ref o :: st) h := pR_L rfl rfl
theorem rX3_atom_131 : pR 98 d 131 ls (.ref o :: st) h = if pis (pfl h 3 o 9) = true then pR 98 d 134 ls (pfl h 3 o 9 :: st) h else none := r_get rfl
theorem rX3_atom_134 : pR 98 d 134 ls st h = pR 98 d 135 ls (.int (-1) :: st) h := pR_L rfl rfl
theorem rX3_atom_135 : pR 98 d 135 ls (.int y :: .int x :: st) h = if x = y then pR 98 d 138 ls st h else pR 98 d 155 ls st h := r_cne rfl rfl
theorem rX3_atom_138 : pR 98 d 138 [.ref o, a1, a2, a3] st h = pR 98 d 139 [.ref o, a1, a2, a3] (.ref o :: st) h := pR_L rfl rfl
theorem rX3_atom_139 : pR 98 (d + 1) 139 ls (.ref o :: st) h = if (pok 3 (pcl h o) && pw st) = true then pK 98 (d + 1) 139 3 ls st (pCa 96 d [.ref o] h) else none := r_callV rfl rfl rfl
theorem rX3_atom_142 : pR 98 d 142 [.ref o, a1, a2, a3] st h = pR 98 d 143 [.ref o, a1, a2, a3] (.ref o :: st) h := pR_L rfl rfl
theorem rX3_atom_143 : pR 98 d 143 ls st h = pR 98 d 145 ls (.int 93 :: st) h := pR_L rfl rfl
theorem rX3_atom_145 : pR 98 (d + 1) 145 ls (b1 :: .ref o :: st) h = if (pok 3 (pcl h o) && pw st) = true then pK 98 (d + 1) 145 3 ls st (pCa 95 d [.ref o, b1] h) else none := r_callV rfl rfl rfl
theorem rX3_atom_148 : pR 98 d 148 ls st h = pR 98 d 155 ls st h := pR_L rfl rfl
theorem rX3_atom_151 : pR 98 d 151 [.ref o, a1, a2, a3] st h = pR 98 d 152 [.ref o, a1, a2, a3] (.ref o :: st) h := pR_L rfl rfl
theorem rX3_atom_152 : pR 98 (d + 1) 152 ls (.ref o :: st) h = if (pok 3 (pcl h o) && pw st) = true then pK 98 (d + 1) 152 3 ls st (pCa 78 d [.ref o] h) else none := r_callV rfl rfl rfl
theorem rX3_atom_155 : pR 98 d 155 ls [] h = some (.inl none, h) := pR_E rfl rfl
-- 99 BalloonStallModel isLetter (I)Z
theorem eX3_isLetter : pCa 99 d [.int x0] h = pR 99 d 0 [.int x0] [] h := rfl
theorem rX3_isLetter_0 : pR 99 d 0 [.int x] st h = pR 99 d 1 [.int x] (.int x :: st) h := pR_L rfl rfl
theorem rX3_isLetter_1 : pR 99 d 1 ls st h = pR 99 d 3 ls (.int 108 :: st) h := pR_L rfl rfl
theorem rX3_isLetter_3 : pR 99 d 3 ls (.int y :: .int x :: st) h = if x = y then pR 99 d 30 ls st h else pR 99 d 6 ls st h := r_ceq rfl rfl
theorem rX3_isLetter_6 : pR 99 d 6 [.int x] st h = pR 99 d 7 [.int x] (.int x :: st) h := pR_L rfl rfl
theorem rX3_isLetter_7 : pR 99 d 7 ls st h = pR 99 d 9 ls (.int 104 :: st) h := pR_L rfl rfl
theorem rX3_isLetter_9 : pR 99 d 9 ls (.int y :: .int x :: st) h = if x = y then pR 99 d 30 ls st h else pR 99 d 12 ls st h := r_ceq rfl rfl
theorem rX3_isLetter_12 : pR 99 d 12 [.int x] st h = pR 99 d 13 [.int x] (.int x :: st) h := pR_L rfl rfl
theorem rX3_isLetter_13 : pR 99 d 13 ls st h = pR 99 d 15 ls (.int 107 :: st) h := pR_L rfl rfl
theorem rX3_isLetter_15 : pR 99 d 15 ls (.int y :: .int x :: st) h = if x = y then pR 99 d 30 ls st h else pR 99 d 18 ls st h := r_ceq rfl rfl
theorem rX3_isLetter_18 : pR 99 d 18 [.int x] st h = pR 99 d 19 [.int x] (.int x :: st) h := pR_L rfl rfl
theorem rX3_isLetter_19 : pR 99 d 19 ls st h = pR 99 d 21 ls (.int 115 :: st) h := pR_L rfl rfl
theorem rX3_isLetter_21 : pR 99 d 21 ls (.int y :: .int x :: st) h = if x = y then pR 99 d 30 ls st h else pR 99 d 24 ls st h := r_ceq rfl rfl
theorem rX3_isLetter_24 : pR 99 d 24 [.int x] st h = pR 99 d 25 [.int x] (.int x :: st) h := pR_L rfl rfl
theorem rX3_isLetter_25 : pR 99 d 25 ls st h = pR 99 d 27 ls (.int 97 :: st) h := pR_L rfl rfl
theorem rX3_isLetter_27 : pR 99 d 27 ls (.int y :: .int x :: st) h = if x = y then pR 99 d 30 ls st h else pR 99 d 34 ls st h := r_cne rfl rfl
theorem rX3_isLetter_30 : pR 99 d 30 ls st h = pR 99 d 31 ls (.int 1 :: st) h := pR_L rfl rfl
theorem rX3_isLetter_31 : pR 99 d 31 ls st h = pR 99 d 35 ls st h := pR_L rfl rfl
theorem rX3_isLetter_34 : pR 99 d 34 ls st h = pR 99 d 35 ls (.int 0 :: st) h := pR_L rfl rfl
theorem rX3_isLetter_350 : pR 99 d 35 ls [.int 0] h = some (.inl (some (.int 0)), h) := pR_E rfl rfl
theorem rX3_isLetter_351 : pR 99 d 35 ls [.int 1] h = some (.inl (some (.int 1)), h) := pR_E rfl rfl
-- 100 BalloonStallModel figure ()I
theorem eX3_figure : pCa 100 d [.ref o] h = pR 100 d 0 [.ref o] [] h := rfl
theorem rX3_figure_0 : pR 100 d 0 [.ref o] st h = pR 100 d 1 [.ref o] (.ref o :: st) h := pR_L rfl rfl
theorem rX3_figure_1 : pR 100 d 1 ls (.ref o :: st) h = if pis (pfl h 3 o 20) = true then pR 100 d 4 ls (pfl h 3 o 20 :: st) h else none := r_get rfl
theorem rX3_figure_4 : pR 100 d 4 ls st h = pR 100 d 6 ls (.int 12 :: st) h := pR_L rfl rfl
theorem rX3_figure_6 : pR 100 d 6 ls (.int y :: .int x :: st) h = if x = y then pR 100 d 21 ls st h else pR 100 d 9 ls st h := r_ceq rfl rfl
theorem rX3_figure_9 : pR 100 d 9 [.ref o] st h = pR 100 d 10 [.ref o] (.ref o :: st) h := pR_L rfl rfl
theorem rX3_figure_10 : pR 100 d 10 [.ref o] st h = pR 100 d 11 [.ref o] (.ref o :: st) h := pR_L rfl rfl
theorem rX3_figure_11 : pR 100 d 11 ls (.ref o :: st) h = if pis (pfl h 3 o 20) = true then pR 100 d 14 ls (pfl h 3 o 20 :: st) h else none := r_get rfl
theorem rX3_figure_14 : pR 100 (d + 1) 14 ls (b1 :: .ref o :: st) h = if (pok 3 (pcl h o) && pw st) = true then pK 100 (d + 1) 14 3 ls st (pCa 74 d [.ref o, b1] h) else none := r_callV rfl rfl rfl
theorem rX3_figure_17 : pR 100 d 17 ls st h = pR 100 d 18 ls (.int (-1) :: st) h := pR_L rfl rfl
theorem rX3_figure_18 : pR 100 d 18 ls (.int y :: .int x :: st) h = if x = y then pR 100 d 23 ls st h else pR 100 d 21 ls st h := r_ceq rfl rfl
theorem rX3_figure_21 : pR 100 d 21 ls st h = pR 100 d 22 ls (.int (-1) :: st) h := pR_L rfl rfl
theorem rX3_figure_22 : pR 100 d 22 ls [.int x] h = some (.inl (some (.int x)), h) := pR_E rfl rfl
theorem rX3_figure_23 : pR 100 d 23 [.ref o] st h = pR 100 d 24 [.ref o] (.ref o :: st) h := pR_L rfl rfl
theorem rX3_figure_24 : pR 100 d 24 ls st h = pR 100 d 25 ls (.int 0 :: st) h := pR_L rfl rfl
theorem rX3_figure_25 : pR 100 d 25 ls (.int x :: .ref o :: st) h = if pis (pfl h 3 o 7) = true then pR 100 d 28 ls st (psf h o 7 (.int x)) else none := r_put rfl rfl
theorem rX3_figure_28 : pR 100 d 28 [.ref o] st h = pR 100 d 29 [.ref o] (.ref o :: st) h := pR_L rfl rfl
theorem rX3_figure_29 : pR 100 d 29 ls (.ref o :: st) h = pR 100 d 30 ls (.ref o :: .ref o :: st) h := pR_L rfl rfl
theorem rX3_figure_29i : pR 100 d 29 ls (.int x :: st) h = pR 100 d 30 ls (.int x :: .int x :: st) h := pR_L rfl rfl
theorem rX3_figure_30 : pR 100 d 30 ls (.ref o :: st) h = if pis (pfl h 3 o 20) = true then pR 100 d 33 ls (pfl h 3 o 20 :: st) h else none := r_get rfl
theorem rX3_figure_33 : pR 100 d 33 ls st h = pR 100 d 34 ls (.int 1 :: st) h := pR_L rfl rfl
theorem rX3_figure_34 : pR 100 d 34 ls (.int y :: .int x :: st) h = pR 100 d 35 ls (.int (x + y) :: st) h := pR_L rfl rfl
theorem rX3_figure_35 : pR 100 d 35 ls (.int x :: .ref o :: st) h = if pis (pfl h 3 o 20) = true then pR 100 d 38 ls st (psf h o 20 (.int x)) else none := r_put rfl rfl
theorem rX3_figure_38 : pR 100 d 38 [.ref o] st h = pR 100 d 39 [.ref o] (.ref o :: st) h := pR_L rfl rfl
theorem rX3_figure_39 : pR 100 d 39 ls (.ref o :: st) h = if pis (pfl h 3 o 20) = true then pR 100 d 42 ls (pfl h 3 o 20 :: st) h else none := r_get rfl
theorem rX3_figure_42 : pR 100 d 42 ls st h = pR 100 d 43 ls (.int 1 :: st) h := pR_L rfl rfl
theorem rX3_figure_43 : pR 100 d 43 ls (.int y :: .int x :: st) h = pR 100 d 44 ls (.int (x - y) :: st) h := pR_L rfl rfl
theorem rX3_figure_44 : pR 100 d 44 ls [.int x] h = some (.inl (some (.int x)), h) := pR_E rfl rfl
-- 101 BalloonStallModel rule ()I
theorem eX3_rule : pCa 101 d [.ref o] h = pR 101 d 0 [.ref o] [] h := rfl
theorem rX3_rule_0 : pR 101 d 0 [.ref o] st h = pR 101 d 1 [.ref o] (.ref o :: st) h := pR_L rfl rfl
theorem rX3_rule_1 : pR 101 d 1 ls (.ref o :: st) h = if pis (pfl h 3 o 31) = true then pR 101 d 4 ls (pfl h 3 o 31 :: st) h else none := r_get rfl
theorem rX3_rule_4 : pR 101 d 4 ls st h = pR 101 d 6 ls (.int 6 :: st) h := pR_L rfl rfl
theorem rX3_rule_6 : pR 101 d 6 ls (.int y :: .int x :: st) h = if x = y then pR 101 d 21 ls st h else pR 101 d 9 ls st h := r_ceq rfl rfl
theorem rX3_rule_9 : pR 101 d 9 [.ref o] st h = pR 101 d 10 [.ref o] (.ref o :: st) h := pR_L rfl rfl
theorem rX3_rule_10 : pR 101 d 10 [.ref o] st h = pR 101 d 11 [.ref o] (.ref o :: st) h := pR_L rfl rfl
theorem rX3_rule_11 : pR 101 d 11 ls (.ref o :: st) h = if pis (pfl h 3 o 31) = true then pR 101 d 14 ls (pfl h 3 o 31 :: st) h else none := r_get rfl
theorem rX3_rule_14 : pR 101 (d + 1) 14 ls (b1 :: .ref o :: st) h = if (pok 3 (pcl h o) && pw st) = true then pK 101 (d + 1) 14 3 ls st (pCa 88 d [.ref o, b1] h) else none := r_callV rfl rfl rfl
theorem rX3_rule_17 : pR 101 d 17 ls st h = pR 101 d 18 ls (.int (-1) :: st) h := pR_L rfl rfl
theorem rX3_rule_18 : pR 101 d 18 ls (.int y :: .int x :: st) h = if x = y then pR 101 d 23 ls st h else pR 101 d 21 ls st h := r_ceq rfl rfl
theorem rX3_rule_21 : pR 101 d 21 ls st h = pR 101 d 22 ls (.int (-1) :: st) h := pR_L rfl rfl
theorem rX3_rule_22 : pR 101 d 22 ls [.int x] h = some (.inl (some (.int x)), h) := pR_E rfl rfl
theorem rX3_rule_23 : pR 101 d 23 [.ref o] st h = pR 101 d 24 [.ref o] (.ref o :: st) h := pR_L rfl rfl
theorem rX3_rule_24 : pR 101 d 24 ls st h = pR 101 d 25 ls (.int 0 :: st) h := pR_L rfl rfl
theorem rX3_rule_25 : pR 101 d 25 ls (.int x :: .ref o :: st) h = if pis (pfl h 3 o 7) = true then pR 101 d 28 ls st (psf h o 7 (.int x)) else none := r_put rfl rfl
theorem rX3_rule_28 : pR 101 d 28 [.ref o] st h = pR 101 d 29 [.ref o] (.ref o :: st) h := pR_L rfl rfl
theorem rX3_rule_29 : pR 101 d 29 ls (.ref o :: st) h = pR 101 d 30 ls (.ref o :: .ref o :: st) h := pR_L rfl rfl
theorem rX3_rule_29i : pR 101 d 29 ls (.int x :: st) h = pR 101 d 30 ls (.int x :: .int x :: st) h := pR_L rfl rfl
theorem rX3_rule_30 : pR 101 d 30 ls (.ref o :: st) h = if pis (pfl h 3 o 31) = true then pR 101 d 33 ls (pfl h 3 o 31 :: st) h else none := r_get rfl
theorem rX3_rule_33 : pR 101 d 33 ls st h = pR 101 d 34 ls (.int 1 :: st) h := pR_L rfl rfl
theorem rX3_rule_34 : pR 101 d 34 ls (.int y :: .int x :: st) h = pR 101 d 35 ls (.int (x + y) :: st) h := pR_L rfl rfl
theorem rX3_rule_35 : pR 101 d 35 ls (.int x :: .ref o :: st) h = if pis (pfl h 3 o 31) = true then pR 101 d 38 ls st (psf h o 31 (.int x)) else none := r_put rfl rfl
theorem rX3_rule_38 : pR 101 d 38 [.ref o] st h = pR 101 d 39 [.ref o] (.ref o :: st) h := pR_L rfl rfl
theorem rX3_rule_39 : pR 101 d 39 ls (.ref o :: st) h = if pis (pfl h 3 o 31) = true then pR 101 d 42 ls (pfl h 3 o 31 :: st) h else none := r_get rfl
theorem rX3_rule_42 : pR 101 d 42 ls st h = pR 101 d 43 ls (.int 1 :: st) h := pR_L rfl rfl
theorem rX3_rule_43 : pR 101 d 43 ls (.int y :: .int x :: st) h = pR 101 d 44 ls (.int (x - y) :: st) h := pR_L rfl rfl
theorem rX3_rule_44 : pR 101 d 44 ls [.int x] h = some (.inl (some (.int x)), h) := pR_E rfl rfl
-- 102 BalloonStallModel worth (IIIIII)I
theorem eX3_worth : pCa 102 d [.ref o, .int x0, .int x1, .int x2, .int x3, .int x4, .int x5] h = pR 102 d 0 [.ref o, .int x0, .int x1, .int x2, .int x3, .int x4, .int x5] [] h := rfl
theorem rX3_worth_0 : pR 102 d 0 [.ref o, a1, a2, a3, a4, a5, a6] st h = pR 102 d 1 [.ref o, a1, a2, a3, a4, a5, a6] (.ref o :: st) h := pR_L rfl rfl
theorem rX3_worth_1 : pR 102 d 1 [a0, .int x, a2, a3, a4, a5, a6] st h = pR 102 d 2 [a0, .int x, a2, a3, a4, a5, a6] (.int x :: st) h := pR_L rfl rfl
theorem rX3_worth_2 : pR 102 d 2 ls st h = pR 102 d 3 ls (.int 0 :: st) h := pR_L rfl rfl
theorem rX3_worth_3 : pR 102 d 3 [.ref o, a1, a2, a3, a4, a5, a6] st h = pR 102 d 4 [.ref o, a1, a2, a3, a4, a5, a6] (.ref o :: st) h := pR_L rfl rfl
theorem rX3_worth_4 : pR 102 d 4 ls (.ref o :: st) h = if pis (pfl h 3 o 31) = true then pR 102 d 7 ls (pfl h 3 o 31 :: st) h else none := r_get rfl
theorem rX3_worth_7 : pR 102 d 7 ls st h = pR 102 d 8 ls (.int 1 :: st) h := pR_L rfl rfl
theorem rX3_worth_8 : pR 102 d 8 ls (.int y :: .int x :: st) h = pR 102 d 9 ls (.int (x - y) :: st) h := pR_L rfl rfl
theorem rX3_worth_9 : pR 102 (d + 1) 9 ls (b2 :: b1 :: b0 :: st) h = if pw st = true then pK 102 (d + 1) 9 3 ls st (pCa 69 d [b0, b1, b2] h) else none := r_callS rfl rfl rfl
theorem rX3_worth_12 : pR 102 d 12 ls (.int x :: st) h = if x = 0 then pR 102 d 19 ls st h else pR 102 d 15 ls st h := r_ieq rfl rfl
theorem rX3_worth_15 : pR 102 d 15 ls st h = pR 102 d 16 ls (.int 0 :: st) h := pR_L rfl rfl
theorem rX3_worth_16 : pR 102 d 16 ls st h = pR 102 d 20 ls st h := pR_L rfl rfl
theorem rX3_worth_19 : pR 102 d 19 ls st h = pR 102 d 20 ls (.int 1 :: st) h := pR_L rfl rfl
theorem rX3_worth_20 : pR 102 d 20 ls (.int x :: .ref o :: st) h = if pis (pfl h 3 o 0) = true then pR 102 d 23 ls st (psf h o 0 (.int x)) else none := r_put rfl rfl
theorem rX3_worth_23 : pR 102 d 23 [.ref o, a1, a2, a3, a4, a5, a6] st h = pR 102 d 24 [.ref o, a1, a2, a3, a4, a5, a6] (.ref o :: st) h := pR_L rfl rfl
theorem rX3_worth_24 : pR 102 d 24 ls (.ref o :: st) h = if pis (pfl h 3 o 0) = true then pR 102 d 27 ls (pfl h 3 o 0 :: st) h else none := r_get rfl
theorem rX3_worth_27 : pR 102 d 27 ls st h = pR 102 d 28 ls (.int 1 :: st) h := pR_L rfl rfl
theorem rX3_worth_28 : pR 102 d 28 ls (.int y :: .int x :: st) h = if x = y then pR 102 d 31 ls st h else pR 102 d 35 ls st h := r_cne rfl rfl
theorem rX3_worth_31 : pR 102 d 31 ls st h = pR 102 d 32 ls (.int 0 :: st) h := pR_L rfl rfl
theorem rX3_worth_32 : pR 102 d 32 ls st h = pR 102 d 48 ls st h := pR_L rfl rfl
theorem rX3_worth_35 : pR 102 d 35 [.ref o, a1, a2, a3, a4, a5, a6] st h = pR 102 d 36 [.ref o, a1, a2, a3, a4, a5, a6] (.ref o :: st) h := pR_L rfl rfl
theorem rX3_worth_36 : pR 102 d 36 [a0, .int x, a2, a3, a4, a5, a6] st h = pR 102 d 37 [a0, .int x, a2, a3, a4, a5, a6] (.int x :: st) h := pR_L rfl rfl
theorem rX3_worth_37 : pR 102 d 37 [a0, a1, .int x, a3, a4, a5, a6] st h = pR 102 d 38 [a0, a1, .int x, a3, a4, a5, a6] (.int x :: st) h := pR_L rfl rfl
theorem rX3_worth_38 : pR 102 d 38 [a0, a1, a2, .int x, a4, a5, a6] st h = pR 102 d 39 [a0, a1, a2, .int x, a4, a5, a6] (.int x :: st) h := pR_L rfl rfl
theorem rX3_worth_39 : pR 102 d 39 [a0, a1, a2, a3, .int x, a5, a6] st h = pR 102 d 41 [a0, a1, a2, a3, .int x, a5, a6] (.int x :: st) h := pR_L rfl rfl
theorem rX3_worth_41 : pR 102 d 41 [a0, a1, a2, a3, a4, .int x, a6] st h = pR 102 d 43 [a0, a1, a2, a3, a4, .int x, a6] (.int x :: st) h := pR_L rfl rfl
theorem rX3_worth_43 : pR 102 d 43 [a0, a1, a2, a3, a4, a5, .int x] st h = pR 102 d 45 [a0, a1, a2, a3, a4, a5, .int x] (.int x :: st) h := pR_L rfl rfl
theorem rX3_worth_45 : pR 102 (d + 1) 45 ls (b6 :: b5 :: b4 :: b3 :: b2 :: b1 :: .ref o :: st) h = if (pok 3 (pcl h o) && pw st) = true then pK 102 (d + 1) 45 3 ls st (pCa 103 d [.ref o, b1, b2, b3, b4, b5, b6] h) else none := r_callV rfl rfl rfl
theorem rX3_worth_48 : pR 102 d 48 ls [.int x] h = some (.inl (some (.int x)), h) := pR_E rfl rfl
-- 103 BalloonStallModel worthOf (IIIIII)I
theorem eX3_worthOf : pCa 103 d [.ref o, .int x0, .int x1, .int x2, .int x3, .int x4, .int x5] h = pR 103 d 0 [.ref o, .int x0, .int x1, .int x2, .int x3, .int x4, .int x5, pU, pU, pU, pU] [] h := rfl
theorem rX3_worthOf_0 : pR 103 d 0 ls st h = pR 103 d 1 ls (.int 0 :: st) h := pR_L rfl rfl
theorem rX3_worthOf_1 : pR 103 d 1 [a0, a1, a2, a3, a4, a5, a6, a7, a8, a9, a10] (.int x :: st) h = if p1 a7 = true then pR 103 d 3 [a0, a1, a2, a3, a4, a5, a6, .int x, a8, a9, a10] st h else none := r_sto (n := 2) (k := 7) (v := .int x) (ls := [a0, a1, a2, a3, a4, a5, a6, a7, a8, a9, a10]) rfl rfl rfl
theorem rX3_worthOf_3 : pR 103 d 3 ls st h = pR 103 d 4 ls (.int 0 :: st) h := pR_L rfl rfl
theorem rX3_worthOf_4 : pR 103 d 4 [a0, a1, a2, a3, a4, a5, a6, a7, a8, a9, a10] (.int x :: st) h = if p1 a8 = true then pR 103 d 6 [a0, a1, a2, a3, a4, a5, a6, a7, .int x, a9, a10] st h else none := r_sto (n := 2) (k := 8) (v := .int x) (ls := [a0, a1, a2, a3, a4, a5, a6, a7, a8, a9, a10]) rfl rfl rfl
theorem rX3_worthOf_6 : pR 103 d 6 [a0, a1, a2, a3, a4, a5, a6, a7, .int x, a9, a10] st h = pR 103 d 8 [a0, a1, a2, a3, a4, a5, a6, a7, .int x, a9, a10] (.int x :: st) h := pR_L rfl rfl
theorem rX3_worthOf_8 : pR 103 d 8 [.ref o, a1, a2, a3, a4, a5, a6, a7, a8, a9, a10] st h = pR 103 d 9 [.ref o, a1, a2, a3, a4, a5, a6, a7, a8, a9, a10] (.ref o :: st) h := pR_L rfl rfl
theorem rX3_worthOf_9 : pR 103 d 9 ls (.ref o :: st) h = if pis (pfl h 3 o 28) = true then pR 103 d 12 ls (pfl h 3 o 28 :: st) h else none := r_get rfl
theorem rX3_worthOf_12 : pR 103 d 12 [a0, .int x, a2, a3, a4, a5, a6, a7, a8, a9, a10] st h = pR 103 d 13 [a0, .int x, a2, a3, a4, a5, a6, a7, a8, a9, a10] (.int x :: st) h := pR_L rfl rfl
theorem rX3_worthOf_13 : pR 103 d 13 ls (.int x :: .ref o :: st) h = if (pin x (pln h 0 o) || pin x (pln h 9 o)) = true then pR 103 d 14 ls (.int (pct h o x.toNatClampNeg) :: st) h else none := pR_Lif rfl rfl
theorem rX3_worthOf_14 : pR 103 d 14 ls (.int y :: .int x :: st) h = if x < y then pR 103 d 17 ls st h else pR 103 d 103 ls st h := r_cge rfl rfl
theorem rX3_worthOf_17 : pR 103 d 17 [.ref o, a1, a2, a3, a4, a5, a6, a7, a8, a9, a10] st h = pR 103 d 18 [.ref o, a1, a2, a3, a4, a5, a6, a7, a8, a9, a10] (.ref o :: st) h := pR_L rfl rfl
theorem rX3_worthOf_18 : pR 103 d 18 ls (.ref o :: st) h = if pis (pfl h 3 o 29) = true then pR 103 d 21 ls (pfl h 3 o 29 :: st) h else none := r_get rfl
theorem rX3_worthOf_21 : pR 103 d 21 ls st h = pR 103 d 23 ls (.int 64 :: st) h := pR_L rfl rfl
theorem rX3_worthOf_23 : pR 103 d 23 [a0, .int x, a2, a3, a4, a5, a6, a7, a8, a9, a10] st h = pR 103 d 24 [a0, .int x, a2, a3, a4, a5, a6, a7, a8, a9, a10] (.int x :: st) h := pR_L rfl rfl
theorem rX3_worthOf_24 : pR 103 d 24 ls (.int y :: .int x :: st) h = pR 103 d 25 ls (.int (x * y) :: st) h := pR_L rfl rfl
theorem rX3_worthOf_25 : pR 103 d 25 [a0, a1, a2, a3, a4, a5, a6, a7, .int x, a9, a10] st h = pR 103 d 27 [a0, a1, a2, a3, a4, a5, a6, a7, .int x, a9, a10] (.int x :: st) h := pR_L rfl rfl
theorem rX3_worthOf_27 : pR 103 d 27 ls (.int y :: .int x :: st) h = pR 103 d 28 ls (.int (x + y) :: st) h := pR_L rfl rfl
theorem rX3_worthOf_28 : pR 103 d 28 ls (.int x :: .ref o :: st) h = if (pin x (pln h 0 o) || pin x (pln h 9 o)) = true then pR 103 d 29 ls (.int (pct h o x.toNatClampNeg) :: st) h else none := pR_Lif rfl rfl
theorem rX3_worthOf_29 : pR 103 d 29 [a0, a1, a2, a3, a4, a5, a6, a7, a8, a9, a10] (.int x :: st) h = if p1 a9 = true then pR 103 d 31 [a0, a1, a2, a3, a4, a5, a6, a7, a8, .int x, a10] st h else none := r_sto (n := 2) (k := 9) (v := .int x) (ls := [a0, a1, a2, a3, a4, a5, a6, a7, a8, a9, a10]) rfl rfl rfl
theorem rX3_worthOf_31 : pR 103 d 31 [.ref o, a1, a2, a3, a4, a5, a6, a7, a8, a9, a10] st h = pR 103 d 32 [.ref o, a1, a2, a3, a4, a5, a6, a7, a8, a9, a10] (.ref o :: st) h := pR_L rfl rfl
theorem rX3_worthOf_32 : pR 103 d 32 ls (.ref o :: st) h = if pis (pfl h 3 o 30) = true then pR 103 d 35 ls (pfl h 3 o 30 :: st) h else none := r_get rfl
theorem rX3_worthOf_35 : pR 103 d 35 ls st h = pR 103 d 37 ls (.int 64 :: st) h := pR_L rfl rfl
theorem rX3_worthOf_37 : pR 103 d 37 [a0, .int x, a2, a3, a4, a5, a6, a7, a8, a9, a10] st h = pR 103 d 38 [a0, .int x, a2, a3, a4, a5, a6, a7, a8, a9, a10] (.int x :: st) h := pR_L rfl rfl
theorem rX3_worthOf_38 : pR 103 d 38 ls (.int y :: .int x :: st) h = pR 103 d 39 ls (.int (x * y) :: st) h := pR_L rfl rfl
theorem rX3_worthOf_39 : pR 103 d 39 [a0, a1, a2, a3, a4, a5, a6, a7, .int x, a9, a10] st h = pR 103 d 41 [a0, a1, a2, a3, a4, a5, a6, a7, .int x, a9, a10] (.int x :: st) h := pR_L rfl rfl
theorem rX3_worthOf_41 : pR 103 d 41 ls (.int y :: .int x :: st) h = pR 103 d 42 ls (.int (x + y) :: st) h := pR_L rfl rfl
theorem rX3_worthOf_42 : pR 103 d 42 ls (.int x :: .ref o :: st) h = if (pin x (pln h 0 o) || pin x (pln h 9 o)) = true then pR 103 d 43 ls (.int (pct h o x.toNatClampNeg) :: st) h else none := pR_Lif rfl rfl
theorem rX3_worthOf_43 : pR 103 d 43 [a0, a1, a2, a3, a4, a5, a6, a7, a8, a9, a10] (.int x :: st) h = if p1 a10 = true then pR 103 d 45 [a0, a1, a2, a3, a4, a5, a6, a7, a8, a9, .int x] st h else none := r_sto (n := 2) (k := 10) (v := .int x) (ls := [a0, a1, a2, a3, a4, a5, a6, a7, a8, a9, a10]) rfl rfl rfl
theorem rX3_worthOf_45 : pR 103 d 45 [a0, a1, a2, a3, a4, a5, a6, a7, a8, .int x, a10] st h = pR 103 d 47 [a0, a1, a2, a3, a4, a5, a6, a7, a8, .int x, a10] (.int x :: st) h := pR_L rfl rfl
theorem rX3_worthOf_47 : pR 103 d 47 [a0, a1, a2, a3, a4, a5, a6, .int x, a8, a9, a10] st h = pR 103 d 49 [a0, a1, a2, a3, a4, a5, a6, .int x, a8, a9, a10] (.int x :: st) h := pR_L rfl rfl
theorem rX3_worthOf_49 : pR 103 d 49 ls (.int y :: .int x :: st) h = if x = y then pR 103 d 74 ls st h else pR 103 d 52 ls st h := r_ceq rfl rfl
theorem rX3_worthOf_52 : pR 103 d 52 [.ref o, a1, a2, a3, a4, a5, a6, a7, a8, a9, a10] st h = pR 103 d 53 [.ref o, a1, a2, a3, a4, a5, a6, a7, a8, a9, a10] (.ref o :: st) h := pR_L rfl rfl
theorem rX3_worthOf_53 : pR 103 d 53 [a0, .int x, a2, a3, a4, a5, a6, a7, a8, a9, a10] st h = pR 103 d 54 [a0, .int x, a2, a3, a4, a5, a6, a7, a8, a9, a10] (.int x :: st) h := pR_L rfl rfl
theorem rX3_worthOf_54 : pR 103 d 54 [a0, a1, a2, a3, a4, a5, a6, .int x, a8, a9, a10] st h = pR 103 d 56 [a0, a1, a2, a3, a4, a5, a6, .int x, a8, a9, a10] (.int x :: st) h := pR_L rfl rfl
theorem rX3_worthOf_56 : pR 103 d 56 [a0, a1, a2, a3, a4, a5, a6, a7, a8, .int x, a10] st h = pR 103 d 58 [a0, a1, a2, a3, a4, a5, a6, a7, a8, .int x, a10] (.int x :: st) h := pR_L rfl rfl
theorem rX3_worthOf_58 : pR 103 d 58 [a0, a1, .int x, a3, a4, a5, a6, a7, a8, a9, a10] st h = pR 103 d 59 [a0, a1, .int x, a3, a4, a5, a6, a7, a8, a9, a10] (.int x :: st) h := pR_L rfl rfl
theorem rX3_worthOf_59 : pR 103 d 59 [a0, a1, a2, .int x, a4, a5, a6, a7, a8, a9, a10] st h = pR 103 d 60 [a0, a1, a2, .int x, a4, a5, a6, a7, a8, a9, a10] (.int x :: st) h := pR_L rfl rfl
theorem rX3_worthOf_60 : pR 103 d 60 [a0, a1, a2, a3, .int x, a5, a6, a7, a8, a9, a10] st h = pR 103 d 62 [a0, a1, a2, a3, .int x, a5, a6, a7, a8, a9, a10] (.int x :: st) h := pR_L rfl rfl
theorem rX3_worthOf_62 : pR 103 d 62 [a0, a1, a2, a3, a4, .int x, a6, a7, a8, a9, a10] st h = pR 103 d 64 [a0, a1, a2, a3, a4, .int x, a6, a7, a8, a9, a10] (.int x :: st) h := pR_L rfl rfl
theorem rX3_worthOf_64 : pR 103 d 64 [a0, a1, a2, a3, a4, a5, .int x, a7, a8, a9, a10] st h = pR 103 d 66 [a0, a1, a2, a3, a4, a5, .int x, a7, a8, a9, a10] (.int x :: st) h := pR_L rfl rfl
theorem rX3_worthOf_66 : pR 103 (d + 1) 66 ls (b8 :: b7 :: b6 :: b5 :: b4 :: b3 :: b2 :: b1 :: .ref o :: st) h = if (pok 3 (pcl h o) && pw st) = true then pK 103 (d + 1) 66 3 ls st (pCa 104 d [.ref o, b1, b2, b3, b4, b5, b6, b7, b8] h) else none := r_callV rfl rfl rfl
theorem rX3_worthOf_69 : pR 103 d 69 ls st h = pR 103 d 70 ls (.long 1 :: st) h := pR_L rfl rfl
theorem rX3_worthOf_70 : pR 103 d 70 ls (.long ly :: .long lx :: st) h = pR 103 d 71 ls (.int (lg_cmp lx ly) :: st) h := pR_L rfl rfl
theorem rX3_worthOf_71 : pR 103 d 71 ls (.int x :: st) h = if x = 0 then pR 103 d 74 ls st h else pR 103 d 93 ls st h := r_ine rfl rfl
theorem rX3_worthOf_74 : pR 103 d 74 [.ref o, a1, a2, a3, a4, a5, a6, a7, a8, a9, a10] st h = pR 103 d 75 [.ref o, a1, a2, a3, a4, a5, a6, a7, a8, a9, a10] (.ref o :: st) h := pR_L rfl rfl
theorem rX3_worthOf_75 : pR 103 d 75 [a0, .int x, a2, a3, a4, a5, a6, a7, a8, a9, a10] st h = pR 103 d 76 [a0, .int x, a2, a3, a4, a5, a6, a7, a8, a9, a10] (.int x :: st) h := pR_L rfl rfl
theorem rX3_worthOf_76 : pR 103 d 76 [a0, a1, a2, a3, a4, a5, a6, a7, a8, .int x, a10] st h = pR 103 d 78 [a0, a1, a2, a3, a4, a5, a6, a7, a8, .int x, a10] (.int x :: st) h := pR_L rfl rfl
theorem rX3_worthOf_78 : pR 103 d 78 [a0, a1, a2, a3, a4, a5, a6, a7, a8, a9, .int x] st h = pR 103 d 80 [a0, a1, a2, a3, a4, a5, a6, a7, a8, a9, .int x] (.int x :: st) h := pR_L rfl rfl
theorem rX3_worthOf_80 : pR 103 d 80 [a0, a1, .int x, a3, a4, a5, a6, a7, a8, a9, a10] st h = pR 103 d 81 [a0, a1, .int x, a3, a4, a5, a6, a7, a8, a9, a10] (.int x :: st) h := pR_L rfl rfl
theorem rX3_worthOf_81 : pR 103 d 81 [a0, a1, a2, .int x, a4, a5, a6, a7, a8, a9, a10] st h = pR 103 d 82 [a0, a1, a2, .int x, a4, a5, a6, a7, a8, a9, a10] (.int x :: st) h := pR_L rfl rfl
theorem rX3_worthOf_82 : pR 103 d 82 [a0, a1, a2, a3, .int x, a5, a6, a7, a8, a9, a10] st h = pR 103 d 84 [a0, a1, a2, a3, .int x, a5, a6, a7, a8, a9, a10] (.int x :: st) h := pR_L rfl rfl
theorem rX3_worthOf_84 : pR 103 d 84 [a0, a1, a2, a3, a4, .int x, a6, a7, a8, a9, a10] st h = pR 103 d 86 [a0, a1, a2, a3, a4, .int x, a6, a7, a8, a9, a10] (.int x :: st) h := pR_L rfl rfl
theorem rX3_worthOf_86 : pR 103 d 86 [a0, a1, a2, a3, a4, a5, .int x, a7, a8, a9, a10] st h = pR 103 d 88 [a0, a1, a2, a3, a4, a5, .int x, a7, a8, a9, a10] (.int x :: st) h := pR_L rfl rfl
theorem rX3_worthOf_88 : pR 103 (d + 1) 88 ls (b8 :: b7 :: b6 :: b5 :: b4 :: b3 :: b2 :: b1 :: .ref o :: st) h = if (pok 3 (pcl h o) && pw st) = true then pK 103 (d + 1) 88 3 ls st (pCa 104 d [.ref o, b1, b2, b3, b4, b5, b6, b7, b8] h) else none := r_callV rfl rfl rfl
theorem rX3_worthOf_91 : pR 103 d 91 ls (.long lx :: st) h = pR 103 d 92 ls (.int lx.toInt32 :: st) h := pR_L rfl rfl
theorem rX3_worthOf_92 : pR 103 d 92 ls [.int x] h = some (.inl (some (.int x)), h) := pR_E rfl rfl
theorem rX3_worthOf_93 : pR 103 d 93 [a0, a1, a2, a3, a4, a5, a6, a7, a8, a9, .int x] st h = pR 103 d 95 [a0, a1, a2, a3, a4, a5, a6, a7, a8, a9, .int x] (.int x :: st) h := pR_L rfl rfl
theorem rX3_worthOf_95 : pR 103 d 95 [a0, a1, a2, a3, a4, a5, a6, a7, a8, a9, a10] (.int x :: st) h = if p1 a7 = true then pR 103 d 97 [a0, a1, a2, a3, a4, a5, a6, .int x, a8, a9, a10] st h else none := r_sto (n := 2) (k := 7) (v := .int x) (ls := [a0, a1, a2, a3, a4, a5, a6, a7, a8, a9, a10]) rfl rfl rfl
theorem rX3_worthOf_97 : pR 103 d 97 [a0, a1, a2, a3, a4, a5, a6, a7, .int x, a9, a10] st h = pR 103 d 100 [a0, a1, a2, a3, a4, a5, a6, a7, .int (x + 1), a9, a10] st h := pR_L rfl rfl
theorem rX3_worthOf_100 : pR 103 d 100 ls st h = pR 103 d 6 ls st h := pR_L rfl rfl
theorem rX3_worthOf_103 : pR 103 d 103 ls st h = pR 103 d 104 ls (.int 0 :: st) h := pR_L rfl rfl
theorem rX3_worthOf_104 : pR 103 d 104 ls [.int x] h = some (.inl (some (.int x)), h) := pR_E rfl rfl
-- 104 BalloonStallModel work (IIIIIIII)J
theorem eX3_work : pCa 104 d [.ref o, .int x0, .int x1, .int x2, .int x3, .int x4, .int x5, .int x6, .int x7] h = pR 104 d 0 [.ref o, .int x0, .int x1, .int x2, .int x3, .int x4, .int x5, .int x6, .int x7, pU, pU, pU, pU] [] h := rfl
theorem rX3_work_0 : pR 104 d 0 ls st h = pR 104 d 1 ls (.int 0 :: st) h := pR_L rfl rfl
theorem rX3_work_1 : pR 104 d 1 [a0, a1, a2, a3, a4, a5, a6, a7, a8, a9, a10, a11, a12] (.int x :: st) h = if p1 a9 = true then pR 104 d 3 [a0, a1, a2, a3, a4, a5, a6, a7, a8, .int x, a10, a11, a12] st h else none := r_sto (n := 2) (k := 9) (v := .int x) (ls := [a0, a1, a2, a3, a4, a5, a6, a7, a8, a9, a10, a11, a12]) rfl rfl rfl
theorem rX3_work_3 : pR 104 d 3 ls st h = pR 104 d 6 ls (.int 400 :: st) h := pR_L rfl rfl
theorem rX3_work_6 : pR 104 d 6 [a0, .int x, a2, a3, a4, a5, a6, a7, a8, a9, a10, a11, a12] st h = pR 104 d 7 [a0, .int x, a2, a3, a4, a5, a6, a7, a8, a9, a10, a11, a12] (.int x :: st) h := pR_L rfl rfl
theorem rX3_work_7 : pR 104 d 7 ls (.int y :: .int x :: st) h = pR 104 d 8 ls (.int (x * y) :: st) h := pR_L rfl rfl
theorem rX3_work_8 : pR 104 d 8 [a0, a1, .int x, a3, a4, a5, a6, a7, a8, a9, a10, a11, a12] st h = pR 104 d 9 [a0, a1, .int x, a3, a4, a5, a6, a7, a8, a9, a10, a11, a12] (.int x :: st) h := pR_L rfl rfl
theorem rX3_work_9 : pR 104 d 9 ls (.int y :: .int x :: st) h = pR 104 d 10 ls (.int (x + y) :: st) h := pR_L rfl rfl
theorem rX3_work_10 : pR 104 d 10 [a0, a1, a2, a3, a4, a5, a6, a7, a8, a9, a10, a11, a12] (.int x :: st) h = if p1 a10 = true then pR 104 d 12 [a0, a1, a2, a3, a4, a5, a6, a7, a8, a9, .int x, a11, a12] st h else none := r_sto (n := 2) (k := 10) (v := .int x) (ls := [a0, a1, a2, a3, a4, a5, a6, a7, a8, a9, a10, a11, a12]) rfl rfl rfl
theorem rX3_work_12 : pR 104 d 12 [a0, a1, a2, a3, a4, a5, a6, a7, a8, a9, .int x, a11, a12] st h = pR 104 d 14 [a0, a1, a2, a3, a4, a5, a6, a7, a8, a9, .int x, a11, a12] (.int x :: st) h := pR_L rfl rfl
theorem rX3_work_14 : pR 104 d 14 ls st h = pR 104 d 17 ls (.int 400 :: st) h := pR_L rfl rfl
theorem rX3_work_17 : pR 104 d 17 [a0, .int x, a2, a3, a4, a5, a6, a7, a8, a9, a10, a11, a12] st h = pR 104 d 18 [a0, .int x, a2, a3, a4, a5, a6, a7, a8, a9, a10, a11, a12] (.int x :: st) h := pR_L rfl rfl
theorem rX3_work_18 : pR 104 d 18 ls (.int y :: .int x :: st) h = pR 104 d 19 ls (.int (x * y) :: st) h := pR_L rfl rfl
theorem rX3_work_19 : pR 104 d 19 [a0, a1, a2, .int x, a4, a5, a6, a7, a8, a9, a10, a11, a12] st h = pR 104 d 20 [a0, a1, a2, .int x, a4, a5, a6, a7, a8, a9, a10, a11, a12] (.int x :: st) h := pR_L rfl rfl
theorem rX3_work_20 : pR 104 d 20 ls (.int y :: .int x :: st) h = pR 104 d 21 ls (.int (x + y) :: st) h := pR_L rfl rfl
theorem rX3_work_21 : pR 104 d 21 ls (.int y :: .int x :: st) h = if x < y then pR 104 d 24 ls st h else pR 104 d 199 ls st h := r_cge rfl rfl
theorem rX3_work_24 : pR 104 d 24 [.ref o, a1, a2, a3, a4, a5, a6, a7, a8, a9, a10, a11, a12] st h = pR 104 d 25 [.ref o, a1, a2, a3, a4, a5, a6, a7, a8, a9, a10, a11, a12] (.ref o :: st) h := pR_L rfl rfl
theorem rX3_work_25 : pR 104 d 25 ls (.ref o :: st) h = if pis (pfl h 3 o 27) = true then pR 104 d 28 ls (pfl h 3 o 27 :: st) h else none := r_get rfl
theorem rX3_work_28 : pR 104 d 28 [a0, a1, a2, a3, a4, a5, a6, a7, a8, a9, .int x, a11, a12] st h = pR 104 d 30 [a0, a1, a2, a3, a4, a5, a6, a7, a8, a9, .int x, a11, a12] (.int x :: st) h := pR_L rfl rfl
theorem rX3_work_30 : pR 104 d 30 ls (.int x :: .ref o :: st) h = if (pin x (pln h 0 o) || pin x (pln h 9 o)) = true then pR 104 d 31 ls (.int (pct h o x.toNatClampNeg) :: st) h else none := pR_Lif rfl rfl
theorem rX3_work_31 : pR 104 d 31 [a0, a1, a2, a3, a4, a5, a6, a7, a8, a9, a10, a11, a12] (.int x :: st) h = if p1 a11 = true then pR 104 d 33 [a0, a1, a2, a3, a4, a5, a6, a7, a8, a9, a10, .int x, a12] st h else none := r_sto (n := 2) (k := 11) (v := .int x) (ls := [a0, a1, a2, a3, a4, a5, a6, a7, a8, a9, a10, a11, a12]) rfl rfl rfl
theorem rX3_work_33 : pR 104 d 33 [a0, a1, a2, a3, a4, a5, a6, a7, a8, a9, .int x, a11, a12] st h = pR 104 d 36 [a0, a1, a2, a3, a4, a5, a6, a7, a8, a9, .int (x + 1), a11, a12] st h := pR_L rfl rfl
theorem rX3_work_36 : pR 104 d 36 [a0, a1, a2, a3, a4, a5, a6, a7, a8, a9, a10, .int x, a12] st h = pR 104 d 38 [a0, a1, a2, a3, a4, a5, a6, a7, a8, a9, a10, .int x, a12] (.int x :: st) h := pR_L rfl rfl
theorem rX3_work_38 : pR 104 d 38 ls st h = pR 104 d 39 ls (.int 2 :: st) h := pR_L rfl rfl
theorem rX3_work_39 : pR 104 d 39 ls (.int y :: .int x :: st) h = if x < y then pR 104 d 42 ls st h else pR 104 d 133 ls st h := r_cge rfl rfl
theorem rX3_work_42 : pR 104 d 42 [.ref o, a1, a2, a3, a4, a5, a6, a7, a8, a9, a10, a11, a12] st h = pR 104 d 43 [.ref o, a1, a2, a3, a4, a5, a6, a7, a8, a9, a10, a11, a12] (.ref o :: st) h := pR_L rfl rfl
theorem rX3_work_43 : pR 104 d 43 ls (.ref o :: st) h = if pis (pfl h 3 o 27) = true then pR 104 d 46 ls (pfl h 3 o 27 :: st) h else none := r_get rfl
theorem rX3_work_46 : pR 104 d 46 [a0, a1, a2, a3, a4, a5, a6, a7, a8, a9, .int x, a11, a12] st h = pR 104 d 48 [a0, a1, a2, a3, a4, a5, a6, a7, a8, a9, .int x, a11, a12] (.int x :: st) h := pR_L rfl rfl
theorem rX3_work_48 : pR 104 d 48 ls (.int x :: .ref o :: st) h = if (pin x (pln h 0 o) || pin x (pln h 9 o)) = true then pR 104 d 49 ls (.int (pct h o x.toNatClampNeg) :: st) h else none := pR_Lif rfl rfl
theorem rX3_work_49 : pR 104 d 49 [a0, a1, a2, a3, a4, a5, a6, a7, a8, a9, a10, a11, a12] (.int x :: st) h = if p1 a12 = true then pR 104 d 51 [a0, a1, a2, a3, a4, a5, a6, a7, a8, a9, a10, a11, .int x] st h else none := r_sto (n := 2) (k := 12) (v := .int x) (ls := [a0, a1, a2, a3, a4, a5, a6, a7, a8, a9, a10, a11, a12]) rfl rfl rfl
theorem rX3_work_51 : pR 104 d 51 [a0, a1, a2, a3, a4, a5, a6, a7, a8, a9, .int x, a11, a12] st h = pR 104 d 54 [a0, a1, a2, a3, a4, a5, a6, a7, a8, a9, .int (x + 1), a11, a12] st h := pR_L rfl rfl
theorem rX3_work_54 : pR 104 d 54 [.ref o, a1, a2, a3, a4, a5, a6, a7, a8, a9, a10, a11, a12] st h = pR 104 d 55 [.ref o, a1, a2, a3, a4, a5, a6, a7, a8, a9, a10, a11, a12] (.ref o :: st) h := pR_L rfl rfl
theorem rX3_work_55 : pR 104 d 55 ls (.ref o :: st) h = if pis (pfl h 3 o 34) = true then pR 104 d 58 ls (pfl h 3 o 34 :: st) h else none := r_get rfl
theorem rX3_work_58 : pR 104 d 58 [a0, a1, a2, a3, a4, a5, a6, a7, a8, .int x, a10, a11, a12] st h = pR 104 d 60 [a0, a1, a2, a3, a4, a5, a6, a7, a8, .int x, a10, a11, a12] (.int x :: st) h := pR_L rfl rfl
theorem rX3_work_60 : pR 104 d 60 [a0, a1, a2, a3, a4, a5, a6, a7, a8, a9, a10, .int x, a12] st h = pR 104 d 62 [a0, a1, a2, a3, a4, a5, a6, a7, a8, a9, a10, .int x, a12] (.int x :: st) h := pR_L rfl rfl
theorem rX3_work_62 : pR 104 d 62 ls (.int x :: st) h = if x = 0 then pR 104 d 65 ls st h else pR 104 d 71 ls st h := r_ine rfl rfl
theorem rX3_work_65 : pR 104 d 65 [a0, a1, a2, a3, a4, a5, a6, a7, a8, a9, a10, a11, .int x] st h = pR 104 d 67 [a0, a1, a2, a3, a4, a5, a6, a7, a8, a9, a10, a11, .int x] (.int x :: st) h := pR_L rfl rfl
theorem rX3_work_67 : pR 104 d 67 ls (.int x :: st) h = pR 104 d 68 ls (.long x.toInt64 :: st) h := pR_L rfl rfl
theorem rX3_work_68 : pR 104 d 68 ls st h = pR 104 d 126 ls st h := pR_L rfl rfl
theorem rX3_work_71 : pR 104 d 71 [a0, a1, a2, a3, a4, a5, a6, a7, a8, a9, a10, a11, .int x] st h = pR 104 d 73 [a0, a1, a2, a3, a4, a5, a6, a7, a8, a9, a10, a11, .int x] (.int x :: st) h := pR_L rfl rfl
theorem rX3_work_73 : pR 104 d 73 ls st h = pR 104 d 75 ls (.int 108 :: st) h := pR_L rfl rfl
theorem rX3_work_75 : pR 104 d 75 ls (.int y :: .int x :: st) h = if x = y then pR 104 d 78 ls st h else pR 104 d 84 ls st h := r_cne rfl rfl
theorem rX3_work_78 : pR 104 d 78 [a0, a1, a2, a3, .int x, a5, a6, a7, a8, a9, a10, a11, a12] st h = pR 104 d 80 [a0, a1, a2, a3, .int x, a5, a6, a7, a8, a9, a10, a11, a12] (.int x :: st) h := pR_L rfl rfl
theorem rX3_work_80 : pR 104 d 80 ls (.int x :: st) h = pR 104 d 81 ls (.long x.toInt64 :: st) h := pR_L rfl rfl
theorem rX3_work_81 : pR 104 d 81 ls st h = pR 104 d 126 ls st h := pR_L rfl rfl
theorem rX3_work_84 : pR 104 d 84 [a0, a1, a2, a3, a4, a5, a6, a7, a8, a9, a10, a11, .int x] st h = pR 104 d 86 [a0, a1, a2, a3, a4, a5, a6, a7, a8, a9, a10, a11, .int x] (.int x :: st) h := pR_L rfl rfl
theorem rX3_work_86 : pR 104 d 86 ls st h = pR 104 d 88 ls (.int 104 :: st) h := pR_L rfl rfl
theorem rX3_work_88 : pR 104 d 88 ls (.int y :: .int x :: st) h = if x = y then pR 104 d 91 ls st h else pR 104 d 97 ls st h := r_cne rfl rfl
theorem rX3_work_91 : pR 104 d 91 [a0, a1, a2, a3, a4, .int x, a6, a7, a8, a9, a10, a11, a12] st h = pR 104 d 93 [a0, a1, a2, a3, a4, .int x, a6, a7, a8, a9, a10, a11, a12] (.int x :: st) h := pR_L rfl rfl
theorem rX3_work_93 : pR 104 d 93 ls (.int x :: st) h = pR 104 d 94 ls (.long x.toInt64 :: st) h := pR_L rfl rfl
theorem rX3_work_94 : pR 104 d 94 ls st h = pR 104 d 126 ls st h := pR_L rfl rfl
theorem rX3_work_97 : pR 104 d 97 [a0, a1, a2, a3, a4, a5, a6, a7, a8, a9, a10, a11, .int x] st h = pR 104 d 99 [a0, a1, a2, a3, a4, a5, a6, a7, a8, a9, a10, a11, .int x] (.int x :: st) h := pR_L rfl rfl
theorem rX3_work_99 : pR 104 d 99 ls st h = pR 104 d 101 ls (.int 107 :: st) h := pR_L rfl rfl
theorem rX3_work_101 : pR 104 d 101 ls (.int y :: .int x :: st) h = if x = y then pR 104 d 104 ls st h else pR 104 d 110 ls st h := r_cne rfl rfl
theorem rX3_work_104 : pR 104 d 104 [a0, a1, a2, a3, a4, a5, .int x, a7, a8, a9, a10, a11, a12] st h = pR 104 d 106 [a0, a1, a2, a3, a4, a5, .int x, a7, a8, a9, a10, a11, a12] (.int x :: st) h := pR_L rfl rfl
theorem rX3_work_106 : pR 104 d 106 ls (.int x :: st) h = pR 104 d 107 ls (.long x.toInt64 :: st) h := pR_L rfl rfl
theorem rX3_work_107 : pR 104 d 107 ls st h = pR 104 d 126 ls st h := pR_L rfl rfl
theorem rX3_work_110 : pR 104 d 110 [a0, a1, a2, a3, a4, a5, a6, a7, a8, a9, a10, a11, .int x] st h = pR 104 d 112 [a0, a1, a2, a3, a4, a5, a6, a7, a8, a9, a10, a11, .int x] (.int x :: st) h := pR_L rfl rfl
theorem rX3_work_112 : pR 104 d 112 ls st h = pR 104 d 114 ls (.int 115 :: st) h := pR_L rfl rfl
theorem rX3_work_114 : pR 104 d 114 ls (.int y :: .int x :: st) h = if x = y then pR 104 d 117 ls st h else pR 104 d 123 ls st h := r_cne rfl rfl
theorem rX3_work_117 : pR 104 d 117 [a0, a1, a2, a3, a4, a5, a6, .int x, a8, a9, a10, a11, a12] st h = pR 104 d 119 [a0, a1, a2, a3, a4, a5, a6, .int x, a8, a9, a10, a11, a12] (.int x :: st) h := pR_L rfl rfl
theorem rX3_work_119 : pR 104 d 119 ls (.int x :: st) h = pR 104 d 120 ls (.long x.toInt64 :: st) h := pR_L rfl rfl
theorem rX3_work_120 : pR 104 d 120 ls st h = pR 104 d 126 ls st h := pR_L rfl rfl
theorem rX3_work_123 : pR 104 d 123 [a0, a1, a2, a3, a4, a5, a6, a7, .int x, a9, a10, a11, a12] st h = pR 104 d 125 [a0, a1, a2, a3, a4, a5, a6, a7, .int x, a9, a10, a11, a12] (.int x :: st) h := pR_L rfl rfl
theorem rX3_work_125 : pR 104 d 125 ls (.int x :: st) h = pR 104 d 126 ls (.long x.toInt64 :: st) h := pR_L rfl rfl
theorem rX3_work_126 : pR 104 d 126 ls (.long ly :: .int x :: .ref o :: st) h = if pin x (plnL h o) = true then pR 104 d 127 ls st (pstL h o x.toNatClampNeg ly) else none := pR_Lif rfl rfl
theorem rX3_work_127 : pR 104 d 127 [a0, a1, a2, a3, a4, a5, a6, a7, a8, .int x, a10, a11, a12] st h = pR 104 d 130 [a0, a1, a2, a3, a4, a5, a6, a7, a8, .int (x + 1), a10, a11, a12] st h := pR_L rfl rfl
theorem rX3_work_130 : pR 104 d 130 ls st h = pR 104 d 196 ls st h := pR_L rfl rfl
theorem rX3_work_133 : pR 104 d 133 [a0, a1, a2, a3, a4, a5, a6, a7, a8, a9, a10, .int x, a12] st h = pR 104 d 135 [a0, a1, a2, a3, a4, a5, a6, a7, a8, a9, a10, .int x, a12] (.int x :: st) h := pR_L rfl rfl
theorem rX3_work_135 : pR 104 d 135 ls st h = pR 104 d 137 ls (.int 33 :: st) h := pR_L rfl rfl
theorem rX3_work_137 : pR 104 d 137 ls (.int y :: .int x :: st) h = if x = y then pR 104 d 140 ls st h else pR 104 d 163 ls st h := r_cne rfl rfl
theorem rX3_work_140 : pR 104 d 140 [.ref o, a1, a2, a3, a4, a5, a6, a7, a8, a9, a10, a11, a12] st h = pR 104 d 141 [.ref o, a1, a2, a3, a4, a5, a6, a7, a8, a9, a10, a11, a12] (.ref o :: st) h := pR_L rfl rfl
theorem rX3_work_141 : pR 104 d 141 ls (.ref o :: st) h = if pis (pfl h 3 o 34) = true then pR 104 d 144 ls (pfl h 3 o 34 :: st) h else none := r_get rfl
theorem rX3_work_144 : pR 104 d 144 [a0, a1, a2, a3, a4, a5, a6, a7, a8, .int x, a10, a11, a12] st h = pR 104 d 146 [a0, a1, a2, a3, a4, a5, a6, a7, a8, .int x, a10, a11, a12] (.int x :: st) h := pR_L rfl rfl
theorem rX3_work_146 : pR 104 d 146 ls st h = pR 104 d 147 ls (.int 1 :: st) h := pR_L rfl rfl
theorem rX3_work_147 : pR 104 d 147 ls (.int y :: .int x :: st) h = pR 104 d 148 ls (.int (x - y) :: st) h := pR_L rfl rfl
theorem rX3_work_148 : pR 104 d 148 ls st h = pR 104 d 149 ls (.long 1 :: st) h := pR_L rfl rfl
theorem rX3_work_149 : pR 104 d 149 [.ref o, a1, a2, a3, a4, a5, a6, a7, a8, a9, a10, a11, a12] st h = pR 104 d 150 [.ref o, a1, a2, a3, a4, a5, a6, a7, a8, a9, a10, a11, a12] (.ref o :: st) h := pR_L rfl rfl
theorem rX3_work_150 : pR 104 d 150 ls (.ref o :: st) h = if pis (pfl h 3 o 34) = true then pR 104 d 153 ls (pfl h 3 o 34 :: st) h else none := r_get rfl
theorem rX3_work_153 : pR 104 d 153 [a0, a1, a2, a3, a4, a5, a6, a7, a8, .int x, a10, a11, a12] st h = pR 104 d 155 [a0, a1, a2, a3, a4, a5, a6, a7, a8, .int x, a10, a11, a12] (.int x :: st) h := pR_L rfl rfl
theorem rX3_work_155 : pR 104 d 155 ls st h = pR 104 d 156 ls (.int 1 :: st) h := pR_L rfl rfl
theorem rX3_work_156 : pR 104 d 156 ls (.int y :: .int x :: st) h = pR 104 d 157 ls (.int (x - y) :: st) h := pR_L rfl rfl
theorem rX3_work_157 : pR 104 d 157 ls (.int x :: .ref o :: st) h = if pin x (plnL h o) = true then pR 104 d 158 ls (.long (pctL h o x.toNatClampNeg) :: st) h else none := pR_Lif rfl rfl
theorem rX3_work_158 : pR 104 d 158 ls (.long ly :: .long lx :: st) h = pR 104 d 159 ls (.long (lx - ly) :: st) h := pR_L rfl rfl
theorem rX3_work_159 : pR 104 d 159 ls (.long ly :: .int x :: .ref o :: st) h = if pin x (plnL h o) = true then pR 104 d 160 ls st (pstL h o x.toNatClampNeg ly) else none := pR_Lif rfl rfl
theorem rX3_work_160 : pR 104 d 160 ls st h = pR 104 d 196 ls st h := pR_L rfl rfl
theorem rX3_work_163 : pR 104 d 163 [a0, a1, a2, a3, a4, a5, a6, a7, a8, .int x, a10, a11, a12] st h = pR 104 d 166 [a0, a1, a2, a3, a4, a5, a6, a7, a8, .int (x + (-1)), a10, a11, a12] st h := pR_L rfl rfl
theorem rX3_work_166 : pR 104 d 166 [.ref o, a1, a2, a3, a4, a5, a6, a7, a8, a9, a10, a11, a12] st h = pR 104 d 167 [.ref o, a1, a2, a3, a4, a5, a6, a7, a8, a9, a10, a11, a12] (.ref o :: st) h := pR_L rfl rfl
theorem rX3_work_167 : pR 104 d 167 ls (.ref o :: st) h = if pis (pfl h 3 o 34) = true then pR 104 d 170 ls (pfl h 3 o 34 :: st) h else none := r_get rfl
theorem rX3_work_170 : pR 104 d 170 [a0, a1, a2, a3, a4, a5, a6, a7, a8, .int x, a10, a11, a12] st h = pR 104 d 172 [a0, a1, a2, a3, a4, a5, a6, a7, a8, .int x, a10, a11, a12] (.int x :: st) h := pR_L rfl rfl
theorem rX3_work_172 : pR 104 d 172 ls st h = pR 104 d 173 ls (.int 1 :: st) h := pR_L rfl rfl
theorem rX3_work_173 : pR 104 d 173 ls (.int y :: .int x :: st) h = pR 104 d 174 ls (.int (x - y) :: st) h := pR_L rfl rfl
theorem rX3_work_174 : pR 104 d 174 [a0, a1, a2, a3, a4, a5, a6, a7, a8, a9, a10, .int x, a12] st h = pR 104 d 176 [a0, a1, a2, a3, a4, a5, a6, a7, a8, a9, a10, .int x, a12] (.int x :: st) h := pR_L rfl rfl
theorem rX3_work_176 : pR 104 d 176 [.ref o, a1, a2, a3, a4, a5, a6, a7, a8, a9, a10, a11, a12] st h = pR 104 d 177 [.ref o, a1, a2, a3, a4, a5, a6, a7, a8, a9, a10, a11, a12] (.ref o :: st) h := pR_L rfl rfl
theorem rX3_work_177 : pR 104 d 177 ls (.ref o :: st) h = if pis (pfl h 3 o 34) = true then pR 104 d 180 ls (pfl h 3 o 34 :: st) h else none := r_get rfl
theorem rX3_work_180 : pR 104 d 180 [a0, a1, a2, a3, a4, a5, a6, a7, a8, .int x, a10, a11, a12] st h = pR 104 d 182 [a0, a1, a2, a3, a4, a5, a6, a7, a8, .int x, a10, a11, a12] (.int x :: st) h := pR_L rfl rfl
theorem rX3_work_182 : pR 104 d 182 ls st h = pR 104 d 183 ls (.int 1 :: st) h := pR_L rfl rfl
theorem rX3_work_183 : pR 104 d 183 ls (.int y :: .int x :: st) h = pR 104 d 184 ls (.int (x - y) :: st) h := pR_L rfl rfl
theorem rX3_work_184 : pR 104 d 184 ls (.int x :: .ref o :: st) h = if pin x (plnL h o) = true then pR 104 d 185 ls (.long (pctL h o x.toNatClampNeg) :: st) h else none := pR_Lif rfl rfl
theorem rX3_work_185 : pR 104 d 185 [.ref o, a1, a2, a3, a4, a5, a6, a7, a8, a9, a10, a11, a12] st h = pR 104 d 186 [.ref o, a1, a2, a3, a4, a5, a6, a7, a8, a9, a10, a11, a12] (.ref o :: st) h := pR_L rfl rfl
theorem rX3_work_186 : pR 104 d 186 ls (.ref o :: st) h = if pis (pfl h 3 o 34) = true then pR 104 d 189 ls (pfl h 3 o 34 :: st) h else none := r_get rfl
theorem rX3_work_189 : pR 104 d 189 [a0, a1, a2, a3, a4, a5, a6, a7, a8, .int x, a10, a11, a12] st h = pR 104 d 191 [a0, a1, a2, a3, a4, a5, a6, a7, a8, .int x, a10, a11, a12] (.int x :: st) h := pR_L rfl rfl
theorem rX3_work_191 : pR 104 d 191 ls (.int x :: .ref o :: st) h = if pin x (plnL h o) = true then pR 104 d 192 ls (.long (pctL h o x.toNatClampNeg) :: st) h else none := pR_Lif rfl rfl
theorem rX3_work_192 : pR 104 (d + 1) 192 ls (b2 :: b1 :: b0 :: st) h = if pw st = true then pK 104 (d + 1) 192 3 ls st (pCa 105 d [b0, b1, b2] h) else none := r_callS rfl rfl rfl
theorem rX3_work_195 : pR 104 d 195 ls (.long ly :: .int x :: .ref o :: st) h = if pin x (plnL h o) = true then pR 104 d 196 ls st (pstL h o x.toNatClampNeg ly) else none := pR_Lif rfl rfl
theorem rX3_work_196 : pR 104 d 196 ls st h = pR 104 d 12 ls st h := pR_L rfl rfl
theorem rX3_work_199 : pR 104 d 199 [.ref o, a1, a2, a3, a4, a5, a6, a7, a8, a9, a10, a11, a12] st h = pR 104 d 200 [.ref o, a1, a2, a3, a4, a5, a6, a7, a8, a9, a10, a11, a12] (.ref o :: st) h := pR_L rfl rfl
theorem rX3_work_200 : pR 104 d 200 ls (.ref o :: st) h = if pis (pfl h 3 o 34) = true then pR 104 d 203 ls (pfl h 3 o 34 :: st) h else none := r_get rfl
theorem rX3_work_203 : pR 104 d 203 ls st h = pR 104 d 204 ls (.int 0 :: st) h := pR_L rfl rfl
theorem rX3_work_204 : pR 104 d 204 ls (.int x :: .ref o :: st) h = if pin x (plnL h o) = true then pR 104 d 205 ls (.long (pctL h o x.toNatClampNeg) :: st) h else none := pR_Lif rfl rfl
theorem rX3_work_205 : pR 104 d 205 ls [.long lx] h = some (.inl (some (.long lx)), h) := pR_E rfl rfl
-- 105 BalloonStallModel both (IJJ)J
theorem eX3_both : pCa 105 d [.int x0, .long l1, .long l2] h = pR 105 d 0 [.int x0, .long l1, pV, .long l2, pV] [] h := rfl
theorem rX3_both_0 : pR 105 d 0 [.int x, a1, a2, a3, a4] st h = pR 105 d 1 [.int x, a1, a2, a3, a4] (.int x :: st) h := pR_L rfl rfl
theorem rX3_both_1k38 : pR 105 d 1 ls (.int 38 :: st) h = pR 105 d 190 ls st h := pR_L rfl rfl
theorem rX3_both_1k39 : pR 105 d 1 ls (.int 39 :: st) h = pR 105 d 206 ls st h := pR_L rfl rfl
theorem rX3_both_1k40 : pR 105 d 1 ls (.int 40 :: st) h = pR 105 d 206 ls st h := pR_L rfl rfl
theorem rX3_both_1k41 : pR 105 d 1 ls (.int 41 :: st) h = pR 105 d 206 ls st h := pR_L rfl rfl
theorem rX3_both_1k42 : pR 105 d 1 ls (.int 42 :: st) h = pR 105 d 130 ls st h := pR_L rfl rfl
theorem rX3_both_1k43 : pR 105 d 1 ls (.int 43 :: st) h = pR 105 d 116 ls st h := pR_L rfl rfl
theorem rX3_both_1k44 : pR 105 d 1 ls (.int 44 :: st) h = pR 105 d 206 ls st h := pR_L rfl rfl
theorem rX3_both_1k45 : pR 105 d 1 ls (.int 45 :: st) h = pR 105 d 123 ls st h := pR_L rfl rfl
theorem rX3_both_1k46 : pR 105 d 1 ls (.int 46 :: st) h = pR 105 d 206 ls st h := pR_L rfl rfl
theorem rX3_both_1k47 : pR 105 d 1 ls (.int 47 :: st) h = pR 105 d 137 ls st h := pR_L rfl rfl
theorem rX3_both_1k48 : pR 105 d 1 ls (.int 48 :: st) h = pR 105 d 206 ls st h := pR_L rfl rfl
theorem rX3_both_1k49 : pR 105 d 1 ls (.int 49 :: st) h = pR 105 d 206 ls st h := pR_L rfl rfl
theorem rX3_both_1k50 : pR 105 d 1 ls (.int 50 :: st) h = pR 105 d 206 ls st h := pR_L rfl rfl
theorem rX3_both_1k51 : pR 105 d 1 ls (.int 51 :: st) h = pR 105 d 206 ls st h := pR_L rfl rfl
theorem rX3_both_1k52 : pR 105 d 1 ls (.int 52 :: st) h = pR 105 d 206 ls st h := pR_L rfl rfl
theorem rX3_both_1k53 : pR 105 d 1 ls (.int 53 :: st) h = pR 105 d 206 ls st h := pR_L rfl rfl
theorem rX3_both_1k54 : pR 105 d 1 ls (.int 54 :: st) h = pR 105 d 206 ls st h := pR_L rfl rfl
theorem rX3_both_1k55 : pR 105 d 1 ls (.int 55 :: st) h = pR 105 d 206 ls st h := pR_L rfl rfl
theorem rX3_both_1k56 : pR 105 d 1 ls (.int 56 :: st) h = pR 105 d 206 ls st h := pR_L rfl rfl
theorem rX3_both_1k57 : pR 105 d 1 ls (.int 57 :: st) h = pR 105 d 206 ls st h := pR_L rfl rfl
theorem rX3_both_1k58 : pR 105 d 1 ls (.int 58 :: st) h = pR 105 d 206 ls st h := pR_L rfl rfl
theorem rX3_both_1k59 : pR 105 d 1 ls (.int 59 :: st) h = pR 105 d 206 ls st h := pR_L rfl rfl
theorem rX3_both_1k60 : pR 105 d 1 ls (.int 60 :: st) h = pR 105 d 166 ls st h := pR_L rfl rfl
theorem rX3_both_1k61 : pR 105 d 1 ls (.int 61 :: st) h = pR 105 d 154 ls st h := pR_L rfl rfl
theorem rX3_both_1k62 : pR 105 d 1 ls (.int 62 :: st) h = pR 105 d 178 ls st h := pR_L rfl rfl
theorem rX3_both_1d (hx : x.toInt < 38 ∨ 62 < x.toInt) : pR 105 d 1 ls (.int x :: st) h = pR 105 d 206 ls st h := r_sw rfl rfl hx
theorem rX3_both_116 : pR 105 d 116 [a0, .long lx, a2, a3, a4] st h = pR 105 d 117 [a0, .long lx, a2, a3, a4] (.long lx :: st) h := pR_L rfl rfl
theorem rX3_both_117 : pR 105 d 117 [a0, a1, a2, .long lx, a4] st h = pR 105 d 118 [a0, a1, a2, .long lx, a4] (.long lx :: st) h := pR_L rfl rfl
theorem rX3_both_118 : pR 105 d 118 ls (.long ly :: .long lx :: st) h = pR 105 d 119 ls (.long (lx + ly) :: st) h := pR_L rfl rfl
theorem rX3_both_119 : pR 105 (d + 1) 119 ls (b0 :: st) h = if pw st = true then pK 105 (d + 1) 119 3 ls st (pCa 106 d [b0] h) else none := r_callS rfl rfl rfl
theorem rX3_both_122 : pR 105 d 122 ls [.long lx] h = some (.inl (some (.long lx)), h) := pR_E rfl rfl
theorem rX3_both_123 : pR 105 d 123 [a0, .long lx, a2, a3, a4] st h = pR 105 d 124 [a0, .long lx, a2, a3, a4] (.long lx :: st) h := pR_L rfl rfl
theorem rX3_both_124 : pR 105 d 124 [a0, a1, a2, .long lx, a4] st h = pR 105 d 125 [a0, a1, a2, .long lx, a4] (.long lx :: st) h := pR_L rfl rfl
theorem rX3_both_125 : pR 105 d 125 ls (.long ly :: .long lx :: st) h = pR 105 d 126 ls (.long (lx - ly) :: st) h := pR_L rfl rfl
theorem rX3_both_126 : pR 105 (d + 1) 126 ls (b0 :: st) h = if pw st = true then pK 105 (d + 1) 126 3 ls st (pCa 106 d [b0] h) else none := r_callS rfl rfl rfl
theorem rX3_both_129 : pR 105 d 129 ls [.long lx] h = some (.inl (some (.long lx)), h) := pR_E rfl rfl
theorem rX3_both_130 : pR 105 d 130 [a0, .long lx, a2, a3, a4] st h = pR 105 d 131 [a0, .long lx, a2, a3, a4] (.long lx :: st) h := pR_L rfl rfl
theorem rX3_both_131 : pR 105 d 131 [a0, a1, a2, .long lx, a4] st h = pR 105 d 132 [a0, a1, a2, .long lx, a4] (.long lx :: st) h := pR_L rfl rfl
theorem rX3_both_132 : pR 105 d 132 ls (.long ly :: .long lx :: st) h = pR 105 d 133 ls (.long (lx * ly) :: st) h := pR_L rfl rfl
theorem rX3_both_133 : pR 105 (d + 1) 133 ls (b0 :: st) h = if pw st = true then pK 105 (d + 1) 133 3 ls st (pCa 106 d [b0] h) else none := r_callS rfl rfl rfl
theorem rX3_both_136 : pR 105 d 136 ls [.long lx] h = some (.inl (some (.long lx)), h) := pR_E rfl rfl
theorem rX3_both_137 : pR 105 d 137 [a0, a1, a2, .long lx, a4] st h = pR 105 d 138 [a0, a1, a2, .long lx, a4] (.long lx :: st) h := pR_L rfl rfl
theorem rX3_both_138 : pR 105 d 138 ls st h = pR 105 d 139 ls (.long 0 :: st) h := pR_L rfl rfl
theorem rX3_both_139 : pR 105 d 139 ls (.long ly :: .long lx :: st) h = pR 105 d 140 ls (.int (lg_cmp lx ly) :: st) h := pR_L rfl rfl
theorem rX3_both_140 : pR 105 d 140 ls (.int x :: st) h = if x = 0 then pR 105 d 143 ls st h else pR 105 d 147 ls st h := r_ine rfl rfl
theorem rX3_both_143 : pR 105 d 143 ls st h = pR 105 d 144 ls (.long 0 :: st) h := pR_L rfl rfl
theorem rX3_both_144 : pR 105 d 144 ls st h = pR 105 d 153 ls st h := pR_L rfl rfl
theorem rX3_both_147 : pR 105 d 147 [a0, .long lx, a2, a3, a4] st h = pR 105 d 148 [a0, .long lx, a2, a3, a4] (.long lx :: st) h := pR_L rfl rfl
theorem rX3_both_148 : pR 105 d 148 [a0, a1, a2, .long lx, a4] st h = pR 105 d 149 [a0, a1, a2, .long lx, a4] (.long lx :: st) h := pR_L rfl rfl
theorem rX3_both_149 : pR 105 d 149 ls (.long ly :: .long lx :: st) h = if ly = 0 then none else pR 105 d 150 ls (.long (lx / ly) :: st) h := r_ldiv rfl
theorem rX3_both_150 : pR 105 (d + 1) 150 ls (b0 :: st) h = if pw st = true then pK 105 (d + 1) 150 3 ls st (pCa 106 d [b0] h) else none := r_callS rfl rfl rfl
theorem rX3_both_153 : pR 105 d 153 ls [.long lx] h = some (.inl (some (.long lx)), h) := pR_E rfl rfl
theorem rX3_both_154 : pR 105 d 154 [a0, .long lx, a2, a3, a4] st h = pR 105 d 155 [a0, .long lx, a2, a3, a4] (.long lx :: st) h := pR_L rfl rfl
theorem rX3_both_155 : pR 105 d 155 [a0, a1, a2, .long lx, a4] st h = pR 105 d 156 [a0, a1, a2, .long lx, a4] (.long lx :: st) h := pR_L rfl rfl
theorem rX3_both_156 : pR 105 d 156 ls (.long ly :: .long lx :: st) h = pR 105 d 157 ls (.int (lg_cmp lx ly) :: st) h := pR_L rfl rfl
theorem rX3_both_157 : pR 105 d 157 ls (.int x :: st) h = if x = 0 then pR 105 d 160 ls st h else pR 105 d 164 ls st h := r_ine rfl rfl
theorem rX3_both_160 : pR 105 d 160 ls st h = pR 105 d 161 ls (.long 1 :: st) h := pR_L rfl rfl
theorem rX3_both_161 : pR 105 d 161 ls st h = pR 105 d 165 ls st h := pR_L rfl rfl
theorem rX3_both_164 : pR 105 d 164 ls st h = pR 105 d 165 ls (.long 0 :: st) h := pR_L rfl rfl
theorem rX3_both_165 : pR 105 d 165 ls [.long lx] h = some (.inl (some (.long lx)), h) := pR_E rfl rfl
theorem rX3_both_166 : pR 105 d 166 [a0, .long lx, a2, a3, a4] st h = pR 105 d 167 [a0, .long lx, a2, a3, a4] (.long lx :: st) h := pR_L rfl rfl
theorem rX3_both_167 : pR 105 d 167 [a0, a1, a2, .long lx, a4] st h = pR 105 d 168 [a0, a1, a2, .long lx, a4] (.long lx :: st) h := pR_L rfl rfl
theorem rX3_both_168 : pR 105 d 168 ls (.long ly :: .long lx :: st) h = pR 105 d 169 ls (.int (lg_cmp lx ly) :: st) h := pR_L rfl rfl
theorem rX3_both_169 : pR 105 d 169 ls (.int x :: st) h = if x < 0 then pR 105 d 172 ls st h else pR 105 d 176 ls st h := r_ige rfl rfl
theorem rX3_both_172 : pR 105 d 172 ls st h = pR 105 d 173 ls (.long 1 :: st) h := pR_L rfl rfl
theorem rX3_both_173 : pR 105 d 173 ls st h = pR 105 d 177 ls st h := pR_L rfl rfl
theorem rX3_both_176 : pR 105 d 176 ls st h = pR 105 d 177 ls (.long 0 :: st) h := pR_L rfl rfl
theorem rX3_both_177 : pR 105 d 177 ls [.long lx] h = some (.inl (some (.long lx)), h) := pR_E rfl rfl
theorem rX3_both_178 : pR 105 d 178 [a0, .long lx, a2, a3, a4] st h = pR 105 d 179 [a0, .long lx, a2, a3, a4] (.long lx :: st) h := pR_L rfl rfl
theorem rX3_both_179 : pR 105 d 179 [a0, a1, a2, .long lx, a4] st h = pR 105 d 180 [a0, a1, a2, .long lx, a4] (.long lx :: st) h := pR_L rfl rfl
theorem rX3_both_180 : pR 105 d 180 ls (.long ly :: .long lx :: st) h = pR 105 d 181 ls (.int (lg_cmp lx ly) :: st) h := pR_L rfl rfl
theorem rX3_both_181 : pR 105 d 181 ls (.int x :: st) h = if 0 < x then pR 105 d 184 ls st h else pR 105 d 188 ls st h := r_ile rfl rfl
theorem rX3_both_184 : pR 105 d 184 ls st h = pR 105 d 185 ls (.long 1 :: st) h := pR_L rfl rfl
theorem rX3_both_185 : pR 105 d 185 ls st h = pR 105 d 189 ls st h := pR_L rfl rfl
theorem rX3_both_188 : pR 105 d 188 ls st h = pR 105 d 189 ls (.long 0 :: st) h := pR_L rfl rfl
theorem rX3_both_189 : pR 105 d 189 ls [.long lx] h = some (.inl (some (.long lx)), h) := pR_E rfl rfl
theorem rX3_both_190 : pR 105 d 190 [a0, .long lx, a2, a3, a4] st h = pR 105 d 191 [a0, .long lx, a2, a3, a4] (.long lx :: st) h := pR_L rfl rfl
theorem rX3_both_191 : pR 105 d 191 [a0, a1, a2, .long lx, a4] st h = pR 105 d 192 [a0, a1, a2, .long lx, a4] (.long lx :: st) h := pR_L rfl rfl
theorem rX3_both_192 : pR 105 d 192 ls (.long ly :: .long lx :: st) h = pR 105 d 193 ls (.long (lx + ly) :: st) h := pR_L rfl rfl
theorem rX3_both_193 : pR 105 d 193 ls st h = pR 105 d 196 ls (.long 2 :: st) h := pR_X rfl rfl
theorem rX3_both_196 : pR 105 d 196 ls (.long ly :: .long lx :: st) h = pR 105 d 197 ls (.int (lg_cmp lx ly) :: st) h := pR_L rfl rfl
theorem rX3_both_197 : pR 105 d 197 ls (.int x :: st) h = if x = 0 then pR 105 d 200 ls st h else pR 105 d 204 ls st h := r_ine rfl rfl
theorem rX3_both_200 : pR 105 d 200 ls st h = pR 105 d 201 ls (.long 1 :: st) h := pR_L rfl rfl
theorem rX3_both_201 : pR 105 d 201 ls st h = pR 105 d 205 ls st h := pR_L rfl rfl
theorem rX3_both_204 : pR 105 d 204 ls st h = pR 105 d 205 ls (.long 0 :: st) h := pR_L rfl rfl
theorem rX3_both_205 : pR 105 d 205 ls [.long lx] h = some (.inl (some (.long lx)), h) := pR_E rfl rfl
theorem rX3_both_206 : pR 105 d 206 [a0, .long lx, a2, a3, a4] st h = pR 105 d 207 [a0, .long lx, a2, a3, a4] (.long lx :: st) h := pR_L rfl rfl
theorem rX3_both_207 : pR 105 d 207 [a0, a1, a2, .long lx, a4] st h = pR 105 d 208 [a0, a1, a2, .long lx, a4] (.long lx :: st) h := pR_L rfl rfl
theorem rX3_both_208 : pR 105 d 208 ls (.long ly :: .long lx :: st) h = pR 105 d 209 ls (.long (lx + ly) :: st) h := pR_L rfl rfl
theorem rX3_both_209 : pR 105 d 209 ls st h = pR 105 d 210 ls (.long 0 :: st) h := pR_L rfl rfl
theorem rX3_both_210 : pR 105 d 210 ls (.long ly :: .long lx :: st) h = pR 105 d 211 ls (.int (lg_cmp lx ly) :: st) h := pR_L rfl rfl
theorem rX3_both_211 : pR 105 d 211 ls (.int x :: st) h = if 0 < x then pR 105 d 214 ls st h else pR 105 d 218 ls st h := r_ile rfl rfl
theorem rX3_both_214 : pR 105 d 214 ls st h = pR 105 d 215 ls (.long 1 :: st) h := pR_L rfl rfl
theorem rX3_both_215 : pR 105 d 215 ls st h = pR 105 d 219 ls st h := pR_L rfl rfl
theorem rX3_both_218 : pR 105 d 218 ls st h = pR 105 d 219 ls (.long 0 :: st) h := pR_L rfl rfl
theorem rX3_both_219 : pR 105 d 219 ls [.long lx] h = some (.inl (some (.long lx)), h) := pR_E rfl rfl
-- 106 BalloonStallModel within (J)J
theorem eX3_within : pCa 106 d [.long l0] h = pR 106 d 0 [.long l0, pV] [] h := rfl
theorem rX3_within_0 : pR 106 d 0 ls st h = pR 106 d 3 ls (.long (-1000000) :: st) h := pR_X rfl rfl
theorem rX3_within_3 : pR 106 d 3 ls st h = pR 106 d 6 ls (.long 1000000 :: st) h := pR_X rfl rfl
theorem rX3_within_6 : pR 106 d 6 [.long lx, a1] st h = pR 106 d 7 [.long lx, a1] (.long lx :: st) h := pR_L rfl rfl
theorem rX3_within_7 : pR 106 (d + 1) 7 ls (.long ly :: .long lx :: st) h = if pw st = true then pR 106 (d + 1) 10 ls (.long (if ly < lx then ly else lx) :: st) h else none := r_mnl rfl
theorem rX3_within_10 : pR 106 (d + 1) 10 ls (.long ly :: .long lx :: st) h = if pw st = true then pR 106 (d + 1) 13 ls (.long (if ly < lx then lx else ly) :: st) h else none := r_mxl rfl
theorem rX3_within_13 : pR 106 d 13 ls [.long lx] h = some (.inl (some (.long lx)), h) := pR_E rfl rfl
-- 107 BalloonStallModel many (II)I
theorem eX3_many : pCa 107 d [.ref o, .int x0, .int x1] h = pR 107 d 0 [.ref o, .int x0, .int x1, pU, pU, pU] [] h := rfl
theorem rX3_many_0 : pR 107 d 0 [.ref o, a1, a2, a3, a4, a5] st h = pR 107 d 1 [.ref o, a1, a2, a3, a4, a5] (.ref o :: st) h := pR_L rfl rfl
theorem rX3_many_1 : pR 107 d 1 [a0, .int x, a2, a3, a4, a5] st h = pR 107 d 2 [a0, .int x, a2, a3, a4, a5] (.int x :: st) h := pR_L rfl rfl
theorem rX3_many_2 : pR 107 (d + 1) 2 ls (b1 :: .ref o :: st) h = if (pok 3 (pcl h o) && pw st) = true then pK 107 (d + 1) 2 3 ls st (pCa 108 d [.ref o, b1] h) else none := r_callV rfl rfl rfl
theorem rX3_many_5 : pR 107 d 5 ls (.int x :: st) h = if x = 0 then pR 107 d 17 ls st h else pR 107 d 8 ls st h := r_ieq rfl rfl
theorem rX3_many_8 : pR 107 d 8 [a0, a1, .int x, a3, a4, a5] st h = pR 107 d 9 [a0, a1, .int x, a3, a4, a5] (.int x :: st) h := pR_L rfl rfl
theorem rX3_many_9 : pR 107 d 9 ls st h = pR 107 d 10 ls (.int 0 :: st) h := pR_L rfl rfl
theorem rX3_many_10 : pR 107 d 10 ls st h = pR 107 d 11 ls (.int 5 :: st) h := pR_L rfl rfl
theorem rX3_many_11 : pR 107 (d + 1) 11 ls (b2 :: b1 :: b0 :: st) h = if pw st = true then pK 107 (d + 1) 11 3 ls st (pCa 69 d [b0, b1, b2] h) else none := r_callS rfl rfl rfl
theorem rX3_many_14 : pR 107 d 14 ls (.int x :: st) h = if x = 0 then pR 107 d 17 ls st h else pR 107 d 19 ls st h := r_ine rfl rfl
theorem rX3_many_17 : pR 107 d 17 ls st h = pR 107 d 18 ls (.int (-1) :: st) h := pR_L rfl rfl
theorem rX3_many_18 : pR 107 d 18 ls [.int x] h = some (.inl (some (.int x)), h) := pR_E rfl rfl
theorem rX3_many_19 : pR 107 d 19 ls st h = pR 107 d 20 ls (.int 0 :: st) h := pR_L rfl rfl
theorem rX3_many_20 : pR 107 d 20 [a0, a1, a2, a3, a4, a5] (.int x :: st) h = if p1 a3 = true then pR 107 d 21 [a0, a1, a2, .int x, a4, a5] st h else none := r_sto (n := 1) (k := 3) (v := .int x) (ls := [a0, a1, a2, a3, a4, a5]) rfl rfl rfl
theorem rX3_many_21 : pR 107 d 21 ls st h = pR 107 d 22 ls (.int 0 :: st) h := pR_L rfl rfl
theorem rX3_many_22 : pR 107 d 22 [a0, a1, a2, a3, a4, a5] (.int x :: st) h = if p1 a4 = true then pR 107 d 24 [a0, a1, a2, a3, .int x, a5] st h else none := r_sto (n := 2) (k := 4) (v := .int x) (ls := [a0, a1, a2, a3, a4, a5]) rfl rfl rfl
theorem rX3_many_24 : pR 107 d 24 ls st h = pR 107 d 25 ls (.int 0 :: st) h := pR_L rfl rfl
theorem rX3_many_25 : pR 107 d 25 [a0, a1, a2, a3, a4, a5] (.int x :: st) h = if p1 a5 = true then pR 107 d 27 [a0, a1, a2, a3, a4, .int x] st h else none := r_sto (n := 2) (k := 5) (v := .int x) (ls := [a0, a1, a2, a3, a4, a5]) rfl rfl rfl
theorem rX3_many_27 : pR 107 d 27 [a0, a1, a2, a3, a4, .int x] st h = pR 107 d 29 [a0, a1, a2, a3, a4, .int x] (.int x :: st) h := pR_L rfl rfl
theorem rX3_many_29 : pR 107 d 29 [.ref o, a1, a2, a3, a4, a5] st h = pR 107 d 30 [.ref o, a1, a2, a3, a4, a5] (.ref o :: st) h := pR_L rfl rfl
theorem rX3_many_30 : pR 107 d 30 ls (.ref o :: st) h = if pis (pfl h 3 o 13) = true then pR 107 d 33 ls (pfl h 3 o 13 :: st) h else none := r_get rfl
theorem rX3_many_33 : pR 107 d 33 [a0, .int x, a2, a3, a4, a5] st h = pR 107 d 34 [a0, .int x, a2, a3, a4, a5] (.int x :: st) h := pR_L rfl rfl
theorem rX3_many_34 : pR 107 d 34 ls (.int x :: .ref o :: st) h = if (pin x (pln h 0 o) || pin x (pln h 9 o)) = true then pR 107 d 35 ls (.int (pct h o x.toNatClampNeg) :: st) h else none := pR_Lif rfl rfl
theorem rX3_many_35 : pR 107 d 35 ls (.int y :: .int x :: st) h = if x < y then pR 107 d 38 ls st h else pR 107 d 92 ls st h := r_cge rfl rfl
theorem rX3_many_38 : pR 107 d 38 [a0, a1, a2, .int x, a4, a5] st h = pR 107 d 39 [a0, a1, a2, .int x, a4, a5] (.int x :: st) h := pR_L rfl rfl
theorem rX3_many_39 : pR 107 d 39 [.ref o, a1, a2, a3, a4, a5] st h = pR 107 d 40 [.ref o, a1, a2, a3, a4, a5] (.ref o :: st) h := pR_L rfl rfl
theorem rX3_many_40 : pR 107 d 40 [a0, .int x, a2, a3, a4, a5] st h = pR 107 d 41 [a0, .int x, a2, a3, a4, a5] (.int x :: st) h := pR_L rfl rfl
theorem rX3_many_41 : pR 107 d 41 [a0, a1, a2, a3, a4, .int x] st h = pR 107 d 43 [a0, a1, a2, a3, a4, .int x] (.int x :: st) h := pR_L rfl rfl
theorem rX3_many_43 : pR 107 (d + 1) 43 ls (b2 :: b1 :: .ref o :: st) h = if (pok 3 (pcl h o) && pw st) = true then pK 107 (d + 1) 43 3 ls st (pCa 109 d [.ref o, b1, b2] h) else none := r_callV rfl rfl rfl
theorem rX3_many_46 : pR 107 d 46 ls (.int x :: st) h = if x = 0 then pR 107 d 53 ls st h else pR 107 d 49 ls st h := r_ieq rfl rfl
theorem rX3_many_49 : pR 107 d 49 ls st h = pR 107 d 50 ls (.int 1 :: st) h := pR_L rfl rfl
theorem rX3_many_50 : pR 107 d 50 ls st h = pR 107 d 54 ls st h := pR_L rfl rfl
theorem rX3_many_53 : pR 107 d 53 ls st h = pR 107 d 54 ls (.int 0 :: st) h := pR_L rfl rfl
theorem rX3_many_54 : pR 107 d 54 ls (.int y :: .int x :: st) h = pR 107 d 55 ls (.int (x + y) :: st) h := pR_L rfl rfl
theorem rX3_many_55 : pR 107 d 55 [a0, a1, a2, a3, a4, a5] (.int x :: st) h = if p1 a3 = true then pR 107 d 56 [a0, a1, a2, .int x, a4, a5] st h else none := r_sto (n := 1) (k := 3) (v := .int x) (ls := [a0, a1, a2, a3, a4, a5]) rfl rfl rfl
theorem rX3_many_56 : pR 107 d 56 [a0, a1, a2, a3, .int x, a5] st h = pR 107 d 58 [a0, a1, a2, a3, .int x, a5] (.int x :: st) h := pR_L rfl rfl
theorem rX3_many_58 : pR 107 d 58 [.ref o, a1, a2, a3, a4, a5] st h = pR 107 d 59 [.ref o, a1, a2, a3, a4, a5] (.ref o :: st) h := pR_L rfl rfl
theorem rX3_many_59 : pR 107 d 59 [a0, .int x, a2, a3, a4, a5] st h = pR 107 d 60 [a0, .int x, a2, a3, a4, a5] (.int x :: st) h := pR_L rfl rfl
theorem rX3_many_60 : pR 107 d 60 [a0, a1, a2, a3, a4, .int x] st h = pR 107 d 62 [a0, a1, a2, a3, a4, .int x] (.int x :: st) h := pR_L rfl rfl
theorem rX3_many_62 : pR 107 (d + 1) 62 ls (b2 :: b1 :: .ref o :: st) h = if (pok 3 (pcl h o) && pw st) = true then pK 107 (d + 1) 62 3 ls st (pCa 109 d [.ref o, b1, b2] h) else none := r_callV rfl rfl rfl
theorem rX3_many_65 : pR 107 d 65 ls (.int x :: st) h = if x = 0 then pR 107 d 82 ls st h else pR 107 d 68 ls st h := r_ieq rfl rfl
theorem rX3_many_68 : pR 107 d 68 [.ref o, a1, a2, a3, a4, a5] st h = pR 107 d 69 [.ref o, a1, a2, a3, a4, a5] (.ref o :: st) h := pR_L rfl rfl
theorem rX3_many_69 : pR 107 d 69 [a0, .int x, a2, a3, a4, a5] st h = pR 107 d 70 [a0, .int x, a2, a3, a4, a5] (.int x :: st) h := pR_L rfl rfl
theorem rX3_many_70 : pR 107 d 70 [a0, a1, a2, a3, a4, .int x] st h = pR 107 d 72 [a0, a1, a2, a3, a4, .int x] (.int x :: st) h := pR_L rfl rfl
theorem rX3_many_72 : pR 107 (d + 1) 72 ls (b2 :: b1 :: .ref o :: st) h = if (pok 3 (pcl h o) && pw st) = true then pK 107 (d + 1) 72 3 ls st (pCa 110 d [.ref o, b1, b2] h) else none := r_callV rfl rfl rfl
theorem rX3_many_75 : pR 107 d 75 ls (.int x :: st) h = if x = 0 then pR 107 d 82 ls st h else pR 107 d 78 ls st h := r_ieq rfl rfl
theorem rX3_many_78 : pR 107 d 78 ls st h = pR 107 d 79 ls (.int 1 :: st) h := pR_L rfl rfl
theorem rX3_many_79 : pR 107 d 79 ls st h = pR 107 d 83 ls st h := pR_L rfl rfl
theorem rX3_many_82 : pR 107 d 82 ls st h = pR 107 d 83 ls (.int 0 :: st) h := pR_L rfl rfl
theorem rX3_many_83 : pR 107 d 83 ls (.int y :: .int x :: st) h = pR 107 d 84 ls (.int (x + y) :: st) h := pR_L rfl rfl
theorem rX3_many_84 : pR 107 d 84 [a0, a1, a2, a3, a4, a5] (.int x :: st) h = if p1 a4 = true then pR 107 d 86 [a0, a1, a2, a3, .int x, a5] st h else none := r_sto (n := 2) (k := 4) (v := .int x) (ls := [a0, a1, a2, a3, a4, a5]) rfl rfl rfl
theorem rX3_many_86 : pR 107 d 86 [a0, a1, a2, a3, a4, .int x] st h = pR 107 d 89 [a0, a1, a2, a3, a4, .int (x + 1)] st h := pR_L rfl rfl
theorem rX3_many_89 : pR 107 d 89 ls st h = pR 107 d 27 ls st h := pR_L rfl rfl
theorem rX3_many_92 : pR 107 d 92 [a0, a1, .int x, a3, a4, a5] st h = pR 107 d 93 [a0, a1, .int x, a3, a4, a5] (.int x :: st) h := pR_L rfl rfl
theorem rX3_many_93 : pR 107 d 93 ls (.int x :: st) h = if x = 0 then pR 107 d 96 ls st h else pR 107 d 105 ls st h := r_ine rfl rfl
theorem rX3_many_96 : pR 107 d 96 [.ref o, a1, a2, a3, a4, a5] st h = pR 107 d 97 [.ref o, a1, a2, a3, a4, a5] (.ref o :: st) h := pR_L rfl rfl
theorem rX3_many_97 : pR 107 d 97 ls (.ref o :: st) h = if pis (pfl h 3 o 11) = true then pR 107 d 100 ls (pfl h 3 o 11 :: st) h else none := r_get rfl
theorem rX3_many_100 : pR 107 d 100 [a0, .int x, a2, a3, a4, a5] st h = pR 107 d 101 [a0, .int x, a2, a3, a4, a5] (.int x :: st) h := pR_L rfl rfl
theorem rX3_many_101 : pR 107 d 101 ls (.int x :: .ref o :: st) h = if (pin x (pln h 0 o) || pin x (pln h 9 o)) = true then pR 107 d 102 ls (.int (pct h o x.toNatClampNeg) :: st) h else none := pR_Lif rfl rfl
theorem rX3_many_102 : pR 107 d 102 ls st h = pR 107 d 162 ls st h := pR_L rfl rfl
theorem rX3_many_105 : pR 107 d 105 [a0, a1, .int x, a3, a4, a5] st h = pR 107 d 106 [a0, a1, .int x, a3, a4, a5] (.int x :: st) h := pR_L rfl rfl
theorem rX3_many_106 : pR 107 d 106 ls st h = pR 107 d 107 ls (.int 1 :: st) h := pR_L rfl rfl
theorem rX3_many_107 : pR 107 d 107 ls (.int y :: .int x :: st) h = if x = y then pR 107 d 110 ls st h else pR 107 d 119 ls st h := r_cne rfl rfl
theorem rX3_many_110 : pR 107 d 110 [.ref o, a1, a2, a3, a4, a5] st h = pR 107 d 111 [.ref o, a1, a2, a3, a4, a5] (.ref o :: st) h := pR_L rfl rfl
theorem rX3_many_111 : pR 107 d 111 ls (.ref o :: st) h = if pis (pfl h 3 o 13) = true then pR 107 d 114 ls (pfl h 3 o 13 :: st) h else none := r_get rfl
theorem rX3_many_114 : pR 107 d 114 [a0, .int x, a2, a3, a4, a5] st h = pR 107 d 115 [a0, .int x, a2, a3, a4, a5] (.int x :: st) h := pR_L rfl rfl
theorem rX3_many_115 : pR 107 d 115 ls (.int x :: .ref o :: st) h = if (pin x (pln h 0 o) || pin x (pln h 9 o)) = true then pR 107 d 116 ls (.int (pct h o x.toNatClampNeg) :: st) h else none := pR_Lif rfl rfl
theorem rX3_many_116 : pR 107 d 116 ls st h = pR 107 d 162 ls st h := pR_L rfl rfl
theorem rX3_many_119 : pR 107 d 119 [a0, a1, .int x, a3, a4, a5] st h = pR 107 d 120 [a0, a1, .int x, a3, a4, a5] (.int x :: st) h := pR_L rfl rfl
theorem rX3_many_120 : pR 107 d 120 ls st h = pR 107 d 121 ls (.int 2 :: st) h := pR_L rfl rfl
theorem rX3_many_121 : pR 107 d 121 ls (.int y :: .int x :: st) h = if x = y then pR 107 d 124 ls st h else pR 107 d 133 ls st h := r_cne rfl rfl
theorem rX3_many_124 : pR 107 d 124 [.ref o, a1, a2, a3, a4, a5] st h = pR 107 d 125 [.ref o, a1, a2, a3, a4, a5] (.ref o :: st) h := pR_L rfl rfl
theorem rX3_many_125 : pR 107 d 125 ls (.ref o :: st) h = if pis (pfl h 3 o 14) = true then pR 107 d 128 ls (pfl h 3 o 14 :: st) h else none := r_get rfl
theorem rX3_many_128 : pR 107 d 128 [a0, .int x, a2, a3, a4, a5] st h = pR 107 d 129 [a0, .int x, a2, a3, a4, a5] (.int x :: st) h := pR_L rfl rfl
theorem rX3_many_129 : pR 107 d 129 ls (.int x :: .ref o :: st) h = if (pin x (pln h 0 o) || pin x (pln h 9 o)) = true then pR 107 d 130 ls (.int (pct h o x.toNatClampNeg) :: st) h else none := pR_Lif rfl rfl
theorem rX3_many_130 : pR 107 d 130 ls st h = pR 107 d 162 ls st h := pR_L rfl rfl
theorem rX3_many_133 : pR 107 d 133 [a0, a1, .int x, a3, a4, a5] st h = pR 107 d 134 [a0, a1, .int x, a3, a4, a5] (.int x :: st) h := pR_L rfl rfl
theorem rX3_many_134 : pR 107 d 134 ls st h = pR 107 d 135 ls (.int 3 :: st) h := pR_L rfl rfl
theorem rX3_many_135 : pR 107 d 135 ls (.int y :: .int x :: st) h = if x = y then pR 107 d 138 ls st h else pR 107 d 142 ls st h := r_cne rfl rfl
theorem rX3_many_138 : pR 107 d 138 [a0, a1, a2, .int x, a4, a5] st h = pR 107 d 139 [a0, a1, a2, .int x, a4, a5] (.int x :: st) h := pR_L rfl rfl
theorem rX3_many_139 : pR 107 d 139 ls st h = pR 107 d 162 ls st h := pR_L rfl rfl
theorem rX3_many_142 : pR 107 d 142 [a0, a1, .int x, a3, a4, a5] st h = pR 107 d 143 [a0, a1, .int x, a3, a4, a5] (.int x :: st) h := pR_L rfl rfl
theorem rX3_many_143 : pR 107 d 143 ls st h = pR 107 d 144 ls (.int 4 :: st) h := pR_L rfl rfl
theorem rX3_many_144 : pR 107 d 144 ls (.int y :: .int x :: st) h = if x = y then pR 107 d 147 ls st h else pR 107 d 152 ls st h := r_cne rfl rfl
theorem rX3_many_147 : pR 107 d 147 [a0, a1, a2, a3, .int x, a5] st h = pR 107 d 149 [a0, a1, a2, a3, .int x, a5] (.int x :: st) h := pR_L rfl rfl
theorem rX3_many_149 : pR 107 d 149 ls st h = pR 107 d 162 ls st h := pR_L rfl rfl
theorem rX3_many_152 : pR 107 d 152 [.ref o, a1, a2, a3, a4, a5] st h = pR 107 d 153 [.ref o, a1, a2, a3, a4, a5] (.ref o :: st) h := pR_L rfl rfl
theorem rX3_many_153 : pR 107 d 153 [a0, .int x, a2, a3, a4, a5] st h = pR 107 d 154 [a0, .int x, a2, a3, a4, a5] (.int x :: st) h := pR_L rfl rfl
theorem rX3_many_154 : pR 107 d 154 [.ref o, a1, a2, a3, a4, a5] st h = pR 107 d 155 [.ref o, a1, a2, a3, a4, a5] (.ref o :: st) h := pR_L rfl rfl
theorem rX3_many_155 : pR 107 d 155 [a0, .int x, a2, a3, a4, a5] st h = pR 107 d 156 [a0, .int x, a2, a3, a4, a5] (.int x :: st) h := pR_L rfl rfl
theorem rX3_many_156 : pR 107 (d + 1) 156 ls (b1 :: .ref o :: st) h = if (pok 3 (pcl h o) && pw st) = true then pK 107 (d + 1) 156 3 ls st (pCa 111 d [.ref o, b1] h) else none := r_callV rfl rfl rfl
theorem rX3_many_159 : pR 107 (d + 1) 159 ls (b2 :: b1 :: .ref o :: st) h = if (pok 3 (pcl h o) && pw st) = true then pK 107 (d + 1) 159 3 ls st (pCa 113 d [.ref o, b1, b2] h) else none := r_callV rfl rfl rfl
theorem rX3_many_162 : pR 107 d 162 ls [.int x] h = some (.inl (some (.int x)), h) := pR_E rfl rfl
-- 108 BalloonStallModel isFigure (I)Z
theorem eX3_isFigure : pCa 108 d [.ref o, .int x0] h = pR 108 d 0 [.ref o, .int x0] [] h := rfl
theorem rX3_isFigure_0 : pR 108 d 0 [a0, .int x] st h = pR 108 d 1 [a0, .int x] (.int x :: st) h := pR_L rfl rfl
theorem rX3_isFigure_1 : pR 108 d 1 ls st h = pR 108 d 2 ls (.int 0 :: st) h := pR_L rfl rfl
theorem rX3_isFigure_2 : pR 108 d 2 [.ref o, a1] st h = pR 108 d 3 [.ref o, a1] (.ref o :: st) h := pR_L rfl rfl
theorem rX3_isFigure_3 : pR 108 d 3 ls (.ref o :: st) h = if pis (pfl h 3 o 20) = true then pR 108 d 6 ls (pfl h 3 o 20 :: st) h else none := r_get rfl
theorem rX3_isFigure_6 : pR 108 d 6 ls st h = pR 108 d 7 ls (.int 1 :: st) h := pR_L rfl rfl
theorem rX3_isFigure_7 : pR 108 d 7 ls (.int y :: .int x :: st) h = pR 108 d 8 ls (.int (x - y) :: st) h := pR_L rfl rfl
theorem rX3_isFigure_8 : pR 108 (d + 1) 8 ls (b2 :: b1 :: b0 :: st) h = if pw st = true then pK 108 (d + 1) 8 3 ls st (pCa 69 d [b0, b1, b2] h) else none := r_callS rfl rfl rfl
theorem rX3_isFigure_110 : pR 108 d 11 ls [.int 0] h = some (.inl (some (.int 0)), h) := pR_E rfl rfl
theorem rX3_isFigure_111 : pR 108 d 11 ls [.int 1] h = some (.inl (some (.int 1)), h) := pR_E rfl rfl
-- 109 BalloonStallModel isTwist (II)Z
theorem eX3_isTwist : pCa 109 d [.ref o, .int x0, .int x1] h = pR 109 d 0 [.ref o, .int x0, .int x1] [] h := rfl
theorem rX3_isTwist_0 : pR 109 d 0 [a0, a1, .int x] st h = pR 109 d 1 [a0, a1, .int x] (.int x :: st) h := pR_L rfl rfl
theorem rX3_isTwist_1 : pR 109 d 1 ls st h = pR 109 d 2 ls (.int 1 :: st) h := pR_L rfl rfl
theorem rX3_isTwist_2 : pR 109 d 2 ls (.int y :: .int x :: st) h = pR 109 d 3 ls (.int (x + y) :: st) h := pR_L rfl rfl
theorem rX3_isTwist_3 : pR 109 d 3 [.ref o, a1, a2] st h = pR 109 d 4 [.ref o, a1, a2] (.ref o :: st) h := pR_L rfl rfl
theorem rX3_isTwist_4 : pR 109 d 4 ls (.ref o :: st) h = if pis (pfl h 3 o 13) = true then pR 109 d 7 ls (pfl h 3 o 13 :: st) h else none := r_get rfl
theorem rX3_isTwist_7 : pR 109 d 7 [a0, .int x, a2] st h = pR 109 d 8 [a0, .int x, a2] (.int x :: st) h := pR_L rfl rfl
theorem rX3_isTwist_8 : pR 109 d 8 ls (.int x :: .ref o :: st) h = if (pin x (pln h 0 o) || pin x (pln h 9 o)) = true then pR 109 d 9 ls (.int (pct h o x.toNatClampNeg) :: st) h else none := pR_Lif rfl rfl
theorem rX3_isTwist_9 : pR 109 d 9 ls (.int y :: .int x :: st) h = if x < y then pR 109 d 12 ls st h else pR 109 d 43 ls st h := r_cge rfl rfl
theorem rX3_isTwist_12 : pR 109 d 12 [.ref o, a1, a2] st h = pR 109 d 13 [.ref o, a1, a2] (.ref o :: st) h := pR_L rfl rfl
theorem rX3_isTwist_13 : pR 109 d 13 ls (.ref o :: st) h = if pis (pfl h 3 o 18) = true then pR 109 d 16 ls (pfl h 3 o 18 :: st) h else none := r_get rfl
theorem rX3_isTwist_16 : pR 109 d 16 ls st h = pR 109 d 18 ls (.int 24 :: st) h := pR_L rfl rfl
theorem rX3_isTwist_18 : pR 109 d 18 [a0, .int x, a2] st h = pR 109 d 19 [a0, .int x, a2] (.int x :: st) h := pR_L rfl rfl
theorem rX3_isTwist_19 : pR 109 d 19 ls (.int y :: .int x :: st) h = pR 109 d 20 ls (.int (x * y) :: st) h := pR_L rfl rfl
theorem rX3_isTwist_20 : pR 109 d 20 [a0, a1, .int x] st h = pR 109 d 21 [a0, a1, .int x] (.int x :: st) h := pR_L rfl rfl
theorem rX3_isTwist_21 : pR 109 d 21 ls (.int y :: .int x :: st) h = pR 109 d 22 ls (.int (x + y) :: st) h := pR_L rfl rfl
theorem rX3_isTwist_22 : pR 109 d 22 ls (.int x :: .ref o :: st) h = if (pin x (pln h 0 o) || pin x (pln h 9 o)) = true then pR 109 d 23 ls (.int (pct h o x.toNatClampNeg) :: st) h else none := pR_Lif rfl rfl
theorem rX3_isTwist_23 : pR 109 d 23 [.ref o, a1, a2] st h = pR 109 d 24 [.ref o, a1, a2] (.ref o :: st) h := pR_L rfl rfl
theorem rX3_isTwist_24 : pR 109 d 24 ls (.ref o :: st) h = if pis (pfl h 3 o 18) = true then pR 109 d 27 ls (pfl h 3 o 18 :: st) h else none := r_get rfl
theorem rX3_isTwist_27 : pR 109 d 27 ls st h = pR 109 d 29 ls (.int 24 :: st) h := pR_L rfl rfl
theorem rX3_isTwist_29 : pR 109 d 29 [a0, .int x, a2] st h = pR 109 d 30 [a0, .int x, a2] (.int x :: st) h := pR_L rfl rfl
theorem rX3_isTwist_30 : pR 109 d 30 ls (.int y :: .int x :: st) h = pR 109 d 31 ls (.int (x * y) :: st) h := pR_L rfl rfl
theorem rX3_isTwist_31 : pR 109 d 31 [a0, a1, .int x] st h = pR 109 d 32 [a0, a1, .int x] (.int x :: st) h := pR_L rfl rfl
theorem rX3_isTwist_32 : pR 109 d 32 ls (.int y :: .int x :: st) h = pR 109 d 33 ls (.int (x + y) :: st) h := pR_L rfl rfl
theorem rX3_isTwist_33 : pR 109 d 33 ls st h = pR 109 d 34 ls (.int 1 :: st) h := pR_L rfl rfl
theorem rX3_isTwist_34 : pR 109 d 34 ls (.int y :: .int x :: st) h = pR 109 d 35 ls (.int (x + y) :: st) h := pR_L rfl rfl
theorem rX3_isTwist_35 : pR 109 d 35 ls (.int x :: .ref o :: st) h = if (pin x (pln h 0 o) || pin x (pln h 9 o)) = true then pR 109 d 36 ls (.int (pct h o x.toNatClampNeg) :: st) h else none := pR_Lif rfl rfl
theorem rX3_isTwist_36 : pR 109 d 36 ls (.int y :: .int x :: st) h = if x = y then pR 109 d 39 ls st h else pR 109 d 43 ls st h := r_cne rfl rfl
theorem rX3_isTwist_39 : pR 109 d 39 ls st h = pR 109 d 40 ls (.int 1 :: st) h := pR_L rfl rfl
theorem rX3_isTwist_40 : pR 109 d 40 ls st h = pR 109 d 44 ls st h := pR_L rfl rfl
theorem rX3_isTwist_43 : pR 109 d 43 ls st h = pR 109 d 44 ls (.int 0 :: st) h := pR_L rfl rfl
theorem rX3_isTwist_440 : pR 109 d 44 ls [.int 0] h = some (.inl (some (.int 0)), h) := pR_E rfl rfl
theorem rX3_isTwist_441 : pR 109 d 44 ls [.int 1] h = some (.inl (some (.int 1)), h) := pR_E rfl rfl
-- 110 BalloonStallModel isSlack (II)Z
theorem eX3_isSlack : pCa 110 d [.ref o, .int x0, .int x1] h = pR 110 d 0 [.ref o, .int x0, .int x1] [] h := rfl
theorem rX3_isSlack_0 : pR 110 d 0 [.ref o, a1, a2] st h = pR 110 d 1 [.ref o, a1, a2] (.ref o :: st) h := pR_L rfl rfl
theorem rX3_isSlack_1 : pR 110 d 1 [a0, .int x, a2] st h = pR 110 d 2 [a0, .int x, a2] (.int x :: st) h := pR_L rfl rfl
theorem rX3_isSlack_2 : pR 110 d 2 [.ref o, a1, a2] st h = pR 110 d 3 [.ref o, a1, a2] (.ref o :: st) h := pR_L rfl rfl
theorem rX3_isSlack_3 : pR 110 d 3 ls (.ref o :: st) h = if pis (pfl h 3 o 17) = true then pR 110 d 6 ls (pfl h 3 o 17 :: st) h else none := r_get rfl
theorem rX3_isSlack_6 : pR 110 d 6 ls st h = pR 110 d 8 ls (.int 24 :: st) h := pR_L rfl rfl
theorem rX3_isSlack_8 : pR 110 d 8 [a0, .int x, a2] st h = pR 110 d 9 [a0, .int x, a2] (.int x :: st) h := pR_L rfl rfl
theorem rX3_isSlack_9 : pR 110 d 9 ls (.int y :: .int x :: st) h = pR 110 d 10 ls (.int (x * y) :: st) h := pR_L rfl rfl
theorem rX3_isSlack_10 : pR 110 d 10 [a0, a1, .int x] st h = pR 110 d 11 [a0, a1, .int x] (.int x :: st) h := pR_L rfl rfl
theorem rX3_isSlack_11 : pR 110 d 11 ls (.int y :: .int x :: st) h = pR 110 d 12 ls (.int (x + y) :: st) h := pR_L rfl rfl
theorem rX3_isSlack_12 : pR 110 d 12 ls (.int x :: .ref o :: st) h = if (pin x (pln h 0 o) || pin x (pln h 9 o)) = true then pR 110 d 13 ls (.int (pct h o x.toNatClampNeg) :: st) h else none := pR_Lif rfl rfl
theorem rX3_isSlack_13 : pR 110 d 13 [.ref o, a1, a2] st h = pR 110 d 14 [.ref o, a1, a2] (.ref o :: st) h := pR_L rfl rfl
theorem rX3_isSlack_14 : pR 110 d 14 [a0, .int x, a2] st h = pR 110 d 15 [a0, .int x, a2] (.int x :: st) h := pR_L rfl rfl
theorem rX3_isSlack_15 : pR 110 (d + 1) 15 ls (b1 :: .ref o :: st) h = if (pok 3 (pcl h o) && pw st) = true then pK 110 (d + 1) 15 3 ls st (pCa 111 d [.ref o, b1] h) else none := r_callV rfl rfl rfl
theorem rX3_isSlack_18 : pR 110 (d + 1) 18 ls (b3 :: b2 :: b1 :: .ref o :: st) h = if (pok 3 (pcl h o) && pw st) = true then pK 110 (d + 1) 18 3 ls st (pCa 112 d [.ref o, b1, b2, b3] h) else none := r_callV rfl rfl rfl
theorem rX3_isSlack_21 : pR 110 d 21 ls st h = pR 110 d 22 ls (.int 3 :: st) h := pR_L rfl rfl
theorem rX3_isSlack_22 : pR 110 d 22 ls (.int y :: .int x :: st) h = if x < y then pR 110 d 25 ls st h else pR 110 d 29 ls st h := r_cge rfl rfl
theorem rX3_isSlack_25 : pR 110 d 25 ls st h = pR 110 d 26 ls (.int 1 :: st) h := pR_L rfl rfl
theorem rX3_isSlack_26 : pR 110 d 26 ls st h = pR 110 d 30 ls st h := pR_L rfl rfl
theorem rX3_isSlack_29 : pR 110 d 29 ls st h = pR 110 d 30 ls (.int 0 :: st) h := pR_L rfl rfl
theorem rX3_isSlack_300 : pR 110 d 30 ls [.int 0] h = some (.inl (some (.int 0)), h) := pR_E rfl rfl
theorem rX3_isSlack_301 : pR 110 d 30 ls [.int 1] h = some (.inl (some (.int 1)), h) := pR_E rfl rfl
-- 111 BalloonStallModel all (I)I
theorem eX3_all : pCa 111 d [.ref o, .int x0] h = pR 111 d 0 [.ref o, .int x0] [] h := rfl
theorem rX3_all_0 : pR 111 d 0 ls st h = pR 111 d 1 ls (.int 1 :: st) h := pR_L rfl rfl
theorem rX3_all_1 : pR 111 d 1 [.ref o, a1] st h = pR 111 d 2 [.ref o, a1] (.ref o :: st) h := pR_L rfl rfl
theorem rX3_all_2 : pR 111 d 2 ls (.ref o :: st) h = if pis (pfl h 3 o 13) = true then pR 111 d 5 ls (pfl h 3 o 13 :: st) h else none := r_get rfl
theorem rX3_all_5 : pR 111 d 5 [a0, .int x] st h = pR 111 d 6 [a0, .int x] (.int x :: st) h := pR_L rfl rfl
theorem rX3_all_6 : pR 111 d 6 ls (.int x :: .ref o :: st) h = if (pin x (pln h 0 o) || pin x (pln h 9 o)) = true then pR 111 d 7 ls (.int (pct h o x.toNatClampNeg) :: st) h else none := pR_Lif rfl rfl
theorem rX3_all_7 : pR 111 d 7 ls (.int y :: .int x :: st) h = pR 111 d 8 ls (.int (x <<< (y &&& 31)) :: st) h := pR_L rfl rfl
theorem rX3_all_8 : pR 111 d 8 ls st h = pR 111 d 9 ls (.int 1 :: st) h := pR_L rfl rfl
theorem rX3_all_9 : pR 111 d 9 ls (.int y :: .int x :: st) h = pR 111 d 10 ls (.int (x - y) :: st) h := pR_L rfl rfl
theorem rX3_all_10 : pR 111 d 10 ls [.int x] h = some (.inl (some (.int x)), h) := pR_E rfl rfl
-- 112 BalloonStallModel endsIn (III)I
theorem eX3_endsIn : pCa 112 d [.ref o, .int x0, .int x1, .int x2] h = pR 112 d 0 [.ref o, .int x0, .int x1, .int x2, pU, pU] [] h := rfl
theorem rX3_endsIn_0 : pR 112 d 0 ls st h = pR 112 d 1 ls (.int 0 :: st) h := pR_L rfl rfl
theorem rX3_endsIn_1 : pR 112 d 1 [a0, a1, a2, a3, a4, a5] (.int x :: st) h = if p1 a4 = true then pR 112 d 3 [a0, a1, a2, a3, .int x, a5] st h else none := r_sto (n := 2) (k := 4) (v := .int x) (ls := [a0, a1, a2, a3, a4, a5]) rfl rfl rfl
theorem rX3_endsIn_3 : pR 112 d 3 ls st h = pR 112 d 4 ls (.int 0 :: st) h := pR_L rfl rfl
theorem rX3_endsIn_4 : pR 112 d 4 [a0, a1, a2, a3, a4, a5] (.int x :: st) h = if p1 a5 = true then pR 112 d 6 [a0, a1, a2, a3, a4, .int x] st h else none := r_sto (n := 2) (k := 5) (v := .int x) (ls := [a0, a1, a2, a3, a4, a5]) rfl rfl rfl
theorem rX3_endsIn_6 : pR 112 d 6 [a0, a1, a2, a3, a4, .int x] st h = pR 112 d 8 [a0, a1, a2, a3, a4, .int x] (.int x :: st) h := pR_L rfl rfl
theorem rX3_endsIn_8 : pR 112 d 8 [.ref o, a1, a2, a3, a4, a5] st h = pR 112 d 9 [.ref o, a1, a2, a3, a4, a5] (.ref o :: st) h := pR_L rfl rfl
theorem rX3_endsIn_9 : pR 112 d 9 ls (.ref o :: st) h = if pis (pfl h 3 o 13) = true then pR 112 d 12 ls (pfl h 3 o 13 :: st) h else none := r_get rfl
theorem rX3_endsIn_12 : pR 112 d 12 [a0, .int x, a2, a3, a4, a5] st h = pR 112 d 13 [a0, .int x, a2, a3, a4, a5] (.int x :: st) h := pR_L rfl rfl
theorem rX3_endsIn_13 : pR 112 d 13 ls (.int x :: .ref o :: st) h = if (pin x (pln h 0 o) || pin x (pln h 9 o)) = true then pR 112 d 14 ls (.int (pct h o x.toNatClampNeg) :: st) h else none := pR_Lif rfl rfl
theorem rX3_endsIn_14 : pR 112 d 14 ls (.int y :: .int x :: st) h = if x < y then pR 112 d 17 ls st h else pR 112 d 85 ls st h := r_cge rfl rfl
theorem rX3_endsIn_17 : pR 112 d 17 [a0, a1, a2, .int x, a4, a5] st h = pR 112 d 18 [a0, a1, a2, .int x, a4, a5] (.int x :: st) h := pR_L rfl rfl
theorem rX3_endsIn_18 : pR 112 d 18 [a0, a1, a2, a3, a4, .int x] st h = pR 112 d 20 [a0, a1, a2, a3, a4, .int x] (.int x :: st) h := pR_L rfl rfl
theorem rX3_endsIn_20 : pR 112 d 20 ls (.int y :: .int x :: st) h = pR 112 d 21 ls (.int (x >>> (y &&& 31)) :: st) h := pR_L rfl rfl
theorem rX3_endsIn_21 : pR 112 d 21 ls st h = pR 112 d 22 ls (.int 1 :: st) h := pR_L rfl rfl
theorem rX3_endsIn_22 : pR 112 d 22 ls (.int y :: .int x :: st) h = pR 112 d 23 ls (.int (x &&& y) :: st) h := pR_L rfl rfl
theorem rX3_endsIn_23 : pR 112 d 23 ls st h = pR 112 d 24 ls (.int 1 :: st) h := pR_L rfl rfl
theorem rX3_endsIn_24 : pR 112 d 24 ls (.int y :: .int x :: st) h = if x = y then pR 112 d 27 ls st h else pR 112 d 79 ls st h := r_cne rfl rfl
theorem rX3_endsIn_27 : pR 112 d 27 [a0, a1, a2, a3, .int x, a5] st h = pR 112 d 29 [a0, a1, a2, a3, .int x, a5] (.int x :: st) h := pR_L rfl rfl
theorem rX3_endsIn_29 : pR 112 d 29 [.ref o, a1, a2, a3, a4, a5] st h = pR 112 d 30 [.ref o, a1, a2, a3, a4, a5] (.ref o :: st) h := pR_L rfl rfl
theorem rX3_endsIn_30 : pR 112 d 30 ls (.ref o :: st) h = if pis (pfl h 3 o 16) = true then pR 112 d 33 ls (pfl h 3 o 16 :: st) h else none := r_get rfl
theorem rX3_endsIn_33 : pR 112 d 33 ls st h = pR 112 d 35 ls (.int 24 :: st) h := pR_L rfl rfl
theorem rX3_endsIn_35 : pR 112 d 35 [a0, .int x, a2, a3, a4, a5] st h = pR 112 d 36 [a0, .int x, a2, a3, a4, a5] (.int x :: st) h := pR_L rfl rfl
theorem rX3_endsIn_36 : pR 112 d 36 ls (.int y :: .int x :: st) h = pR 112 d 37 ls (.int (x * y) :: st) h := pR_L rfl rfl
theorem rX3_endsIn_37 : pR 112 d 37 [a0, a1, a2, a3, a4, .int x] st h = pR 112 d 39 [a0, a1, a2, a3, a4, .int x] (.int x :: st) h := pR_L rfl rfl
theorem rX3_endsIn_39 : pR 112 d 39 ls (.int y :: .int x :: st) h = pR 112 d 40 ls (.int (x + y) :: st) h := pR_L rfl rfl
theorem rX3_endsIn_40 : pR 112 d 40 ls (.int x :: .ref o :: st) h = if (pin x (pln h 0 o) || pin x (pln h 9 o)) = true then pR 112 d 41 ls (.int (pct h o x.toNatClampNeg) :: st) h else none := pR_Lif rfl rfl
theorem rX3_endsIn_41 : pR 112 d 41 [a0, a1, .int x, a3, a4, a5] st h = pR 112 d 42 [a0, a1, .int x, a3, a4, a5] (.int x :: st) h := pR_L rfl rfl
theorem rX3_endsIn_42 : pR 112 d 42 ls (.int y :: .int x :: st) h = if x = y then pR 112 d 45 ls st h else pR 112 d 49 ls st h := r_cne rfl rfl
theorem rX3_endsIn_45 : pR 112 d 45 ls st h = pR 112 d 46 ls (.int 1 :: st) h := pR_L rfl rfl
theorem rX3_endsIn_46 : pR 112 d 46 ls st h = pR 112 d 50 ls st h := pR_L rfl rfl
theorem rX3_endsIn_49 : pR 112 d 49 ls st h = pR 112 d 50 ls (.int 0 :: st) h := pR_L rfl rfl
theorem rX3_endsIn_50 : pR 112 d 50 ls (.int y :: .int x :: st) h = pR 112 d 51 ls (.int (x + y) :: st) h := pR_L rfl rfl
theorem rX3_endsIn_51 : pR 112 d 51 [a0, a1, a2, a3, a4, a5] (.int x :: st) h = if p1 a4 = true then pR 112 d 53 [a0, a1, a2, a3, .int x, a5] st h else none := r_sto (n := 2) (k := 4) (v := .int x) (ls := [a0, a1, a2, a3, a4, a5]) rfl rfl rfl
theorem rX3_endsIn_53 : pR 112 d 53 [a0, a1, a2, a3, .int x, a5] st h = pR 112 d 55 [a0, a1, a2, a3, .int x, a5] (.int x :: st) h := pR_L rfl rfl
theorem rX3_endsIn_55 : pR 112 d 55 [.ref o, a1, a2, a3, a4, a5] st h = pR 112 d 56 [.ref o, a1, a2, a3, a4, a5] (.ref o :: st) h := pR_L rfl rfl
theorem rX3_endsIn_56 : pR 112 d 56 ls (.ref o :: st) h = if pis (pfl h 3 o 17) = true then pR 112 d 59 ls (pfl h 3 o 17 :: st) h else none := r_get rfl
theorem rX3_endsIn_59 : pR 112 d 59 ls st h = pR 112 d 61 ls (.int 24 :: st) h := pR_L rfl rfl
theorem rX3_endsIn_61 : pR 112 d 61 [a0, .int x, a2, a3, a4, a5] st h = pR 112 d 62 [a0, .int x, a2, a3, a4, a5] (.int x :: st) h := pR_L rfl rfl
theorem rX3_endsIn_62 : pR 112 d 62 ls (.int y :: .int x :: st) h = pR 112 d 63 ls (.int (x * y) :: st) h := pR_L rfl rfl
theorem rX3_endsIn_63 : pR 112 d 63 [a0, a1, a2, a3, a4, .int x] st h = pR 112 d 65 [a0, a1, a2, a3, a4, .int x] (.int x :: st) h := pR_L rfl rfl
theorem rX3_endsIn_65 : pR 112 d 65 ls (.int y :: .int x :: st) h = pR 112 d 66 ls (.int (x + y) :: st) h := pR_L rfl rfl
theorem rX3_endsIn_66 : pR 112 d 66 ls (.int x :: .ref o :: st) h = if (pin x (pln h 0 o) || pin x (pln h 9 o)) = true then pR 112 d 67 ls (.int (pct h o x.toNatClampNeg) :: st) h else none := pR_Lif rfl rfl
theorem rX3_endsIn_67 : pR 112 d 67 [a0, a1, .int x, a3, a4, a5] st h = pR 112 d 68 [a0, a1, .int x, a3, a4, a5] (.int x :: st) h := pR_L rfl rfl
theorem rX3_endsIn_68 : pR 112 d 68 ls (.int y :: .int x :: st) h = if x = y then pR 112 d 71 ls st h else pR 112 d 75 ls st h := r_cne rfl rfl
theorem rX3_endsIn_71 : pR 112 d 71 ls st h = pR 112 d 72 ls (.int 1 :: st) h := pR_L rfl rfl
theorem rX3_endsIn_72 : pR 112 d 72 ls st h = pR 112 d 76 ls st h := pR_L rfl rfl
theorem rX3_endsIn_75 : pR 112 d 75 ls st h = pR 112 d 76 ls (.int 0 :: st) h := pR_L rfl rfl
theorem rX3_endsIn_76 : pR 112 d 76 ls (.int y :: .int x :: st) h = pR 112 d 77 ls (.int (x + y) :: st) h := pR_L rfl rfl
theorem rX3_endsIn_77 : pR 112 d 77 [a0, a1, a2, a3, a4, a5] (.int x :: st) h = if p1 a4 = true then pR 112 d 79 [a0, a1, a2, a3, .int x, a5] st h else none := r_sto (n := 2) (k := 4) (v := .int x) (ls := [a0, a1, a2, a3, a4, a5]) rfl rfl rfl
theorem rX3_endsIn_79 : pR 112 d 79 [a0, a1, a2, a3, a4, .int x] st h = pR 112 d 82 [a0, a1, a2, a3, a4, .int (x + 1)] st h := pR_L rfl rfl
theorem rX3_endsIn_82 : pR 112 d 82 ls st h = pR 112 d 6 ls st h := pR_L rfl rfl
theorem rX3_endsIn_85 : pR 112 d 85 [a0, a1, a2, a3, .int x, a5] st h = pR 112 d 87 [a0, a1, a2, a3, .int x, a5] (.int x :: st) h := pR_L rfl rfl
theorem rX3_endsIn_87 : pR 112 d 87 ls [.int x] h = some (.inl (some (.int x)), h) := pR_E rfl rfl
-- 113 BalloonStallModel odd (II)I
theorem eX3_odd : pCa 113 d [.ref o, .int x0, .int x1] h = pR 113 d 0 [.ref o, .int x0, .int x1, pU, pU] [] h := rfl
theorem rX3_odd_0 : pR 113 d 0 ls st h = pR 113 d 1 ls (.int 0 :: st) h := pR_L rfl rfl
theorem rX3_odd_1 : pR 113 d 1 [a0, a1, a2, a3, a4] (.int x :: st) h = if p1 a3 = true then pR 113 d 2 [a0, a1, a2, .int x, a4] st h else none := r_sto (n := 1) (k := 3) (v := .int x) (ls := [a0, a1, a2, a3, a4]) rfl rfl rfl
theorem rX3_odd_2 : pR 113 d 2 ls st h = pR 113 d 3 ls (.int 0 :: st) h := pR_L rfl rfl
theorem rX3_odd_3 : pR 113 d 3 [a0, a1, a2, a3, a4] (.int x :: st) h = if p1 a4 = true then pR 113 d 5 [a0, a1, a2, a3, .int x] st h else none := r_sto (n := 2) (k := 4) (v := .int x) (ls := [a0, a1, a2, a3, a4]) rfl rfl rfl
theorem rX3_odd_5 : pR 113 d 5 [a0, a1, a2, a3, .int x] st h = pR 113 d 7 [a0, a1, a2, a3, .int x] (.int x :: st) h := pR_L rfl rfl
theorem rX3_odd_7 : pR 113 d 7 [.ref o, a1, a2, a3, a4] st h = pR 113 d 8 [.ref o, a1, a2, a3, a4] (.ref o :: st) h := pR_L rfl rfl
theorem rX3_odd_8 : pR 113 d 8 ls (.ref o :: st) h = if pis (pfl h 3 o 14) = true then pR 113 d 11 ls (pfl h 3 o 14 :: st) h else none := r_get rfl
theorem rX3_odd_11 : pR 113 d 11 [a0, .int x, a2, a3, a4] st h = pR 113 d 12 [a0, .int x, a2, a3, a4] (.int x :: st) h := pR_L rfl rfl
theorem rX3_odd_12 : pR 113 d 12 ls (.int x :: .ref o :: st) h = if (pin x (pln h 0 o) || pin x (pln h 9 o)) = true then pR 113 d 13 ls (.int (pct h o x.toNatClampNeg) :: st) h else none := pR_Lif rfl rfl
theorem rX3_odd_13 : pR 113 d 13 ls (.int y :: .int x :: st) h = if x < y then pR 113 d 16 ls st h else pR 113 d 35 ls st h := r_cge rfl rfl
theorem rX3_odd_16 : pR 113 d 16 [a0, a1, a2, .int x, a4] st h = pR 113 d 17 [a0, a1, a2, .int x, a4] (.int x :: st) h := pR_L rfl rfl
theorem rX3_odd_17 : pR 113 d 17 [.ref o, a1, a2, a3, a4] st h = pR 113 d 18 [.ref o, a1, a2, a3, a4] (.ref o :: st) h := pR_L rfl rfl
theorem rX3_odd_18 : pR 113 d 18 [a0, .int x, a2, a3, a4] st h = pR 113 d 19 [a0, .int x, a2, a3, a4] (.int x :: st) h := pR_L rfl rfl
theorem rX3_odd_19 : pR 113 d 19 [a0, a1, a2, a3, .int x] st h = pR 113 d 21 [a0, a1, a2, a3, .int x] (.int x :: st) h := pR_L rfl rfl
theorem rX3_odd_21 : pR 113 d 21 [a0, a1, .int x, a3, a4] st h = pR 113 d 22 [a0, a1, .int x, a3, a4] (.int x :: st) h := pR_L rfl rfl
theorem rX3_odd_22 : pR 113 (d + 1) 22 ls (b3 :: b2 :: b1 :: .ref o :: st) h = if (pok 3 (pcl h o) && pw st) = true then pK 113 (d + 1) 22 3 ls st (pCa 112 d [.ref o, b1, b2, b3] h) else none := r_callV rfl rfl rfl
theorem rX3_odd_25 : pR 113 d 25 ls st h = pR 113 d 26 ls (.int 2 :: st) h := pR_L rfl rfl
theorem rX3_odd_26 : pR 113 d 26 ls (.int y :: .int x :: st) h = if y = 0 then none else pR 113 d 27 ls (.int (x - x / y * y) :: st) h := r_rem rfl
theorem rX3_odd_27 : pR 113 d 27 ls (.int y :: .int x :: st) h = pR 113 d 28 ls (.int (x + y) :: st) h := pR_L rfl rfl
theorem rX3_odd_28 : pR 113 d 28 [a0, a1, a2, a3, a4] (.int x :: st) h = if p1 a3 = true then pR 113 d 29 [a0, a1, a2, .int x, a4] st h else none := r_sto (n := 1) (k := 3) (v := .int x) (ls := [a0, a1, a2, a3, a4]) rfl rfl rfl
theorem rX3_odd_29 : pR 113 d 29 [a0, a1, a2, a3, .int x] st h = pR 113 d 32 [a0, a1, a2, a3, .int (x + 1)] st h := pR_L rfl rfl
theorem rX3_odd_32 : pR 113 d 32 ls st h = pR 113 d 5 ls st h := pR_L rfl rfl
theorem rX3_odd_35 : pR 113 d 35 [a0, a1, a2, .int x, a4] st h = pR 113 d 36 [a0, a1, a2, .int x, a4] (.int x :: st) h := pR_L rfl rfl
theorem rX3_odd_36 : pR 113 d 36 ls [.int x] h = some (.inl (some (.int x)), h) := pR_E rfl rfl
-- 114 BalloonStallModel bubble (III)I
theorem eX3_bubble_2 : pCa 114 d [.ref o, .int x0, .int x1, .int x2] h = pR 114 d 0 [.ref o, .int x0, .int x1, .int x2, pU] [] h := rfl
theorem rX3_bubble_2_0 : pR 114 d 0 [.ref o, a1, a2, a3, a4] st h = pR 114 d 1 [.ref o, a1, a2, a3, a4] (.ref o :: st) h := pR_L rfl rfl
theorem rX3_bubble_2_1 : pR 114 d 1 [.ref o, a1, a2, a3, a4] st h = pR 114 d 2 [.ref o, a1, a2, a3, a4] (.ref o :: st) h := pR_L rfl rfl
theorem rX3_bubble_2_2 : pR 114 d 2 [a0, .int x, a2, a3, a4] st h = pR 114 d 3 [a0, .int x, a2, a3, a4] (.int x :: st) h := pR_L rfl rfl
theorem rX3_bubble_2_3 : pR 114 d 3 [a0, a1, .int x, a3, a4] st h = pR 114 d 4 [a0, a1, .int x, a3, a4] (.int x :: st) h := pR_L rfl rfl
theorem rX3_bubble_2_4 : pR 114 (d + 1) 4 ls (b2 :: b1 :: .ref o :: st) h = if (pok 3 (pcl h o) && pw st) = true then pK 114 (d + 1) 4 3 ls st (pCa 115 d [.ref o, b1, b2] h) else none := r_callV rfl rfl rfl
theorem rX3_bubble_2_7 : pR 114 d 7 ls (.int x :: st) h = if x = 0 then pR 114 d 23 ls st h else pR 114 d 10 ls st h := r_ieq rfl rfl
theorem rX3_bubble_2_10 : pR 114 d 10 [a0, a1, a2, .int x, a4] st h = pR 114 d 11 [a0, a1, a2, .int x, a4] (.int x :: st) h := pR_L rfl rfl
theorem rX3_bubble_2_11 : pR 114 d 11 ls st h = pR 114 d 12 ls (.int 0 :: st) h := pR_L rfl rfl
theorem rX3_bubble_2_12 : pR 114 d 12 ls st h = pR 114 d 13 ls (.int 4 :: st) h := pR_L rfl rfl
theorem rX3_bubble_2_13 : pR 114 (d + 1) 13 ls (b2 :: b1 :: b0 :: st) h = if pw st = true then pK 114 (d + 1) 13 3 ls st (pCa 69 d [b0, b1, b2] h) else none := r_callS rfl rfl rfl
theorem rX3_bubble_2_16 : pR 114 d 16 ls (.int x :: st) h = if x = 0 then pR 114 d 23 ls st h else pR 114 d 19 ls st h := r_ieq rfl rfl
theorem rX3_bubble_2_19 : pR 114 d 19 ls st h = pR 114 d 20 ls (.int 0 :: st) h := pR_L rfl rfl
theorem rX3_bubble_2_20 : pR 114 d 20 ls st h = pR 114 d 24 ls st h := pR_L rfl rfl
theorem rX3_bubble_2_23 : pR 114 d 23 ls st h = pR 114 d 24 ls (.int 1 :: st) h := pR_L rfl rfl
theorem rX3_bubble_2_24 : pR 114 d 24 ls (.int x :: .ref o :: st) h = if pis (pfl h 3 o 0) = true then pR 114 d 27 ls st (psf h o 0 (.int x)) else none := r_put rfl rfl
theorem rX3_bubble_2_27 : pR 114 d 27 [.ref o, a1, a2, a3, a4] st h = pR 114 d 28 [.ref o, a1, a2, a3, a4] (.ref o :: st) h := pR_L rfl rfl
theorem rX3_bubble_2_28 : pR 114 d 28 ls (.ref o :: st) h = if pis (pfl h 3 o 0) = true then pR 114 d 31 ls (pfl h 3 o 0 :: st) h else none := r_get rfl
theorem rX3_bubble_2_31 : pR 114 d 31 ls st h = pR 114 d 32 ls (.int 1 :: st) h := pR_L rfl rfl
theorem rX3_bubble_2_32 : pR 114 d 32 ls (.int y :: .int x :: st) h = if x = y then pR 114 d 35 ls st h else pR 114 d 37 ls st h := r_cne rfl rfl
theorem rX3_bubble_2_35 : pR 114 d 35 ls st h = pR 114 d 36 ls (.int 0 :: st) h := pR_L rfl rfl
theorem rX3_bubble_2_36 : pR 114 d 36 ls [.int x] h = some (.inl (some (.int x)), h) := pR_E rfl rfl
theorem rX3_bubble_2_37 : pR 114 d 37 ls st h = pR 114 d 39 ls (.int 24 :: st) h := pR_L rfl rfl
theorem rX3_bubble_2_39 : pR 114 d 39 [a0, .int x, a2, a3, a4] st h = pR 114 d 40 [a0, .int x, a2, a3, a4] (.int x :: st) h := pR_L rfl rfl
theorem rX3_bubble_2_40 : pR 114 d 40 ls (.int y :: .int x :: st) h = pR 114 d 41 ls (.int (x * y) :: st) h := pR_L rfl rfl
theorem rX3_bubble_2_41 : pR 114 d 41 [a0, a1, .int x, a3, a4] st h = pR 114 d 42 [a0, a1, .int x, a3, a4] (.int x :: st) h := pR_L rfl rfl
theorem rX3_bubble_2_42 : pR 114 d 42 ls (.int y :: .int x :: st) h = pR 114 d 43 ls (.int (x + y) :: st) h := pR_L rfl rfl
theorem rX3_bubble_2_43 : pR 114 d 43 [a0, a1, a2, a3, a4] (.int x :: st) h = if p1 a4 = true then pR 114 d 45 [a0, a1, a2, a3, .int x] st h else none := r_sto (n := 2) (k := 4) (v := .int x) (ls := [a0, a1, a2, a3, a4]) rfl rfl rfl
theorem rX3_bubble_2_45 : pR 114 d 45 [a0, a1, a2, .int x, a4] st h = pR 114 d 46 [a0, a1, a2, .int x, a4] (.int x :: st) h := pR_L rfl rfl
theorem rX3_bubble_2_46 : pR 114 d 46 ls (.int x :: st) h = if x = 0 then pR 114 d 49 ls st h else pR 114 d 59 ls st h := r_ine rfl rfl
theorem rX3_bubble_2_49 : pR 114 d 49 [.ref o, a1, a2, a3, a4] st h = pR 114 d 50 [.ref o, a1, a2, a3, a4] (.ref o :: st) h := pR_L rfl rfl
theorem rX3_bubble_2_50 : pR 114 d 50 ls (.ref o :: st) h = if pis (pfl h 3 o 15) = true then pR 114 d 53 ls (pfl h 3 o 15 :: st) h else none := r_get rfl
theorem rX3_bubble_2_53 : pR 114 d 53 [a0, a1, a2, a3, .int x] st h = pR 114 d 55 [a0, a1, a2, a3, .int x] (.int x :: st) h := pR_L rfl rfl
theorem rX3_bubble_2_55 : pR 114 d 55 ls (.int x :: .ref o :: st) h = if (pin x (pln h 0 o) || pin x (pln h 9 o)) = true then pR 114 d 56 ls (.int (pct h o x.toNatClampNeg) :: st) h else none := pR_Lif rfl rfl
theorem rX3_bubble_2_56 : pR 114 d 56 ls st h = pR 114 d 121 ls st h := pR_L rfl rfl
theorem rX3_bubble_2_59 : pR 114 d 59 [a0, a1, a2, .int x, a4] st h = pR 114 d 60 [a0, a1, a2, .int x, a4] (.int x :: st) h := pR_L rfl rfl
theorem rX3_bubble_2_60 : pR 114 d 60 ls st h = pR 114 d 61 ls (.int 1 :: st) h := pR_L rfl rfl
theorem rX3_bubble_2_61 : pR 114 d 61 ls (.int y :: .int x :: st) h = if x = y then pR 114 d 64 ls st h else pR 114 d 74 ls st h := r_cne rfl rfl
theorem rX3_bubble_2_64 : pR 114 d 64 [.ref o, a1, a2, a3, a4] st h = pR 114 d 65 [.ref o, a1, a2, a3, a4] (.ref o :: st) h := pR_L rfl rfl
theorem rX3_bubble_2_65 : pR 114 d 65 ls (.ref o :: st) h = if pis (pfl h 3 o 16) = true then pR 114 d 68 ls (pfl h 3 o 16 :: st) h else none := r_get rfl
theorem rX3_bubble_2_68 : pR 114 d 68 [a0, a1, a2, a3, .int x] st h = pR 114 d 70 [a0, a1, a2, a3, .int x] (.int x :: st) h := pR_L rfl rfl
theorem rX3_bubble_2_70 : pR 114 d 70 ls (.int x :: .ref o :: st) h = if (pin x (pln h 0 o) || pin x (pln h 9 o)) = true then pR 114 d 71 ls (.int (pct h o x.toNatClampNeg) :: st) h else none := pR_Lif rfl rfl
theorem rX3_bubble_2_71 : pR 114 d 71 ls st h = pR 114 d 121 ls st h := pR_L rfl rfl
theorem rX3_bubble_2_74 : pR 114 d 74 [a0, a1, a2, .int x, a4] st h = pR 114 d 75 [a0, a1, a2, .int x, a4] (.int x :: st) h := pR_L rfl rfl
theorem rX3_bubble_2_75 : pR 114 d 75 ls st h = pR 114 d 76 ls (.int 2 :: st) h := pR_L rfl rfl
theorem rX3_bubble_2_76 : pR 114 d 76 ls (.int y :: .int x :: st) h = if x = y then pR 114 d 79 ls st h else pR 114 d 89 ls st h := r_cne rfl rfl
theorem rX3_bubble_2_79 : pR 114 d 79 [.ref o, a1, a2, a3, a4] st h = pR 114 d 80 [.ref o, a1, a2, a3, a4] (.ref o :: st) h := pR_L rfl rfl
theorem rX3_bubble_2_80 : pR 114 d 80 ls (.ref o :: st) h = if pis (pfl h 3 o 17) = true then pR 114 d 83 ls (pfl h 3 o 17 :: st) h else none := r_get rfl
theorem rX3_bubble_2_83 : pR 114 d 83 [a0, a1, a2, a3, .int x] st h = pR 114 d 85 [a0, a1, a2, a3, .int x] (.int x :: st) h := pR_L rfl rfl
theorem rX3_bubble_2_85 : pR 114 d 85 ls (.int x :: .ref o :: st) h = if (pin x (pln h 0 o) || pin x (pln h 9 o)) = true then pR 114 d 86 ls (.int (pct h o x.toNatClampNeg) :: st) h else none := pR_Lif rfl rfl
theorem rX3_bubble_2_86 : pR 114 d 86 ls st h = pR 114 d 121 ls st h := pR_L rfl rfl
theorem rX3_bubble_2_89 : pR 114 d 89 [a0, a1, a2, .int x, a4] st h = pR 114 d 90 [a0, a1, a2, .int x, a4] (.int x :: st) h := pR_L rfl rfl
theorem rX3_bubble_2_90 : pR 114 d 90 ls st h = pR 114 d 91 ls (.int 3 :: st) h := pR_L rfl rfl
theorem rX3_bubble_2_91 : pR 114 d 91 ls (.int y :: .int x :: st) h = if x = y then pR 114 d 94 ls st h else pR 114 d 104 ls st h := r_cne rfl rfl
theorem rX3_bubble_2_94 : pR 114 d 94 [.ref o, a1, a2, a3, a4] st h = pR 114 d 95 [.ref o, a1, a2, a3, a4] (.ref o :: st) h := pR_L rfl rfl
theorem rX3_bubble_2_95 : pR 114 d 95 ls (.ref o :: st) h = if pis (pfl h 3 o 18) = true then pR 114 d 98 ls (pfl h 3 o 18 :: st) h else none := r_get rfl
theorem rX3_bubble_2_98 : pR 114 d 98 [a0, a1, a2, a3, .int x] st h = pR 114 d 100 [a0, a1, a2, a3, .int x] (.int x :: st) h := pR_L rfl rfl
theorem rX3_bubble_2_100 : pR 114 d 100 ls (.int x :: .ref o :: st) h = if (pin x (pln h 0 o) || pin x (pln h 9 o)) = true then pR 114 d 101 ls (.int (pct h o x.toNatClampNeg) :: st) h else none := pR_Lif rfl rfl
theorem rX3_bubble_2_101 : pR 114 d 101 ls st h = pR 114 d 121 ls st h := pR_L rfl rfl
theorem rX3_bubble_2_104 : pR 114 d 104 [.ref o, a1, a2, a3, a4] st h = pR 114 d 105 [.ref o, a1, a2, a3, a4] (.ref o :: st) h := pR_L rfl rfl
theorem rX3_bubble_2_105 : pR 114 d 105 ls (.ref o :: st) h = if pis (pfl h 3 o 12) = true then pR 114 d 108 ls (pfl h 3 o 12 :: st) h else none := r_get rfl
theorem rX3_bubble_2_108 : pR 114 d 108 ls st h = pR 114 d 110 ls (.int 6 :: st) h := pR_L rfl rfl
theorem rX3_bubble_2_110 : pR 114 d 110 [a0, .int x, a2, a3, a4] st h = pR 114 d 111 [a0, .int x, a2, a3, a4] (.int x :: st) h := pR_L rfl rfl
theorem rX3_bubble_2_111 : pR 114 d 111 ls (.int y :: .int x :: st) h = pR 114 d 112 ls (.int (x * y) :: st) h := pR_L rfl rfl
theorem rX3_bubble_2_112 : pR 114 d 112 [.ref o, a1, a2, a3, a4] st h = pR 114 d 113 [.ref o, a1, a2, a3, a4] (.ref o :: st) h := pR_L rfl rfl
theorem rX3_bubble_2_113 : pR 114 d 113 ls (.ref o :: st) h = if pis (pfl h 3 o 18) = true then pR 114 d 116 ls (pfl h 3 o 18 :: st) h else none := r_get rfl
theorem rX3_bubble_2_116 : pR 114 d 116 [a0, a1, a2, a3, .int x] st h = pR 114 d 118 [a0, a1, a2, a3, .int x] (.int x :: st) h := pR_L rfl rfl
theorem rX3_bubble_2_118 : pR 114 d 118 ls (.int x :: .ref o :: st) h = if (pin x (pln h 0 o) || pin x (pln h 9 o)) = true then pR 114 d 119 ls (.int (pct h o x.toNatClampNeg) :: st) h else none := pR_Lif rfl rfl
theorem rX3_bubble_2_119 : pR 114 d 119 ls (.int y :: .int x :: st) h = pR 114 d 120 ls (.int (x + y) :: st) h := pR_L rfl rfl
theorem rX3_bubble_2_120 : pR 114 d 120 ls (.int x :: .ref o :: st) h = if (pin x (pln h 0 o) || pin x (pln h 9 o)) = true then pR 114 d 121 ls (.int (pct h o x.toNatClampNeg) :: st) h else none := pR_Lif rfl rfl
theorem rX3_bubble_2_121 : pR 114 d 121 ls [.int x] h = some (.inl (some (.int x)), h) := pR_E rfl rfl
-- 115 BalloonStallModel isBubble (II)Z
theorem eX3_isBubble : pCa 115 d [.ref o, .int x0, .int x1] h = pR 115 d 0 [.ref o, .int x0, .int x1] [] h := rfl
theorem rX3_isBubble_0 : pR 115 d 0 [.ref o, a1, a2] st h = pR 115 d 1 [.ref o, a1, a2] (.ref o :: st) h := pR_L rfl rfl
theorem rX3_isBubble_1 : pR 115 d 1 [a0, .int x, a2] st h = pR 115 d 2 [a0, .int x, a2] (.int x :: st) h := pR_L rfl rfl
theorem rX3_isBubble_2 : pR 115 (d + 1) 2 ls (b1 :: .ref o :: st) h = if (pok 3 (pcl h o) && pw st) = true then pK 115 (d + 1) 2 3 ls st (pCa 108 d [.ref o, b1] h) else none := r_callV rfl rfl rfl
theorem rX3_isBubble_5 : pR 115 d 5 ls (.int x :: st) h = if x = 0 then pR 115 d 28 ls st h else pR 115 d 8 ls st h := r_ieq rfl rfl
theorem rX3_isBubble_8 : pR 115 d 8 [a0, a1, .int x] st h = pR 115 d 9 [a0, a1, .int x] (.int x :: st) h := pR_L rfl rfl
theorem rX3_isBubble_9 : pR 115 d 9 ls st h = pR 115 d 10 ls (.int 0 :: st) h := pR_L rfl rfl
theorem rX3_isBubble_10 : pR 115 d 10 [.ref o, a1, a2] st h = pR 115 d 11 [.ref o, a1, a2] (.ref o :: st) h := pR_L rfl rfl
theorem rX3_isBubble_11 : pR 115 d 11 ls (.ref o :: st) h = if pis (pfl h 3 o 13) = true then pR 115 d 14 ls (pfl h 3 o 13 :: st) h else none := r_get rfl
theorem rX3_isBubble_14 : pR 115 d 14 [a0, .int x, a2] st h = pR 115 d 15 [a0, .int x, a2] (.int x :: st) h := pR_L rfl rfl
theorem rX3_isBubble_15 : pR 115 d 15 ls (.int x :: .ref o :: st) h = if (pin x (pln h 0 o) || pin x (pln h 9 o)) = true then pR 115 d 16 ls (.int (pct h o x.toNatClampNeg) :: st) h else none := pR_Lif rfl rfl
theorem rX3_isBubble_16 : pR 115 d 16 ls st h = pR 115 d 17 ls (.int 1 :: st) h := pR_L rfl rfl
theorem rX3_isBubble_17 : pR 115 d 17 ls (.int y :: .int x :: st) h = pR 115 d 18 ls (.int (x - y) :: st) h := pR_L rfl rfl
theorem rX3_isBubble_18 : pR 115 (d + 1) 18 ls (b2 :: b1 :: b0 :: st) h = if pw st = true then pK 115 (d + 1) 18 3 ls st (pCa 69 d [b0, b1, b2] h) else none := r_callS rfl rfl rfl
theorem rX3_isBubble_21 : pR 115 d 21 ls (.int x :: st) h = if x = 0 then pR 115 d 28 ls st h else pR 115 d 24 ls st h := r_ieq rfl rfl
theorem rX3_isBubble_24 : pR 115 d 24 ls st h = pR 115 d 25 ls (.int 1 :: st) h := pR_L rfl rfl
theorem rX3_isBubble_25 : pR 115 d 25 ls st h = pR 115 d 29 ls st h := pR_L rfl rfl
theorem rX3_isBubble_28 : pR 115 d 28 ls st h = pR 115 d 29 ls (.int 0 :: st) h := pR_L rfl rfl
theorem rX3_isBubble_290 : pR 115 d 29 ls [.int 0] h = some (.inl (some (.int 0)), h) := pR_E rfl rfl
theorem rX3_isBubble_291 : pR 115 d 29 ls [.int 1] h = some (.inl (some (.int 1)), h) := pR_E rfl rfl
-- 116 BalloonStallModel ends (II)I
theorem eX3_ends : pCa 116 d [.ref o, .int x0, .int x1] h = pR 116 d 0 [.ref o, .int x0, .int x1] [] h := rfl
theorem rX3_ends_0 : pR 116 d 0 [.ref o, a1, a2] st h = pR 116 d 1 [.ref o, a1, a2] (.ref o :: st) h := pR_L rfl rfl
theorem rX3_ends_1 : pR 116 d 1 [a0, .int x, a2] st h = pR 116 d 2 [a0, .int x, a2] (.int x :: st) h := pR_L rfl rfl
theorem rX3_ends_2 : pR 116 d 2 [a0, a1, .int x] st h = pR 116 d 3 [a0, a1, .int x] (.int x :: st) h := pR_L rfl rfl
theorem rX3_ends_3 : pR 116 (d + 1) 3 ls (b2 :: b1 :: .ref o :: st) h = if (pok 3 (pcl h o) && pw st) = true then pK 116 (d + 1) 3 3 ls st (pCa 117 d [.ref o, b1, b2] h) else none := r_callV rfl rfl rfl
theorem rX3_ends_6 : pR 116 d 6 ls (.int x :: st) h = if x = 0 then pR 116 d 23 ls st h else pR 116 d 9 ls st h := r_ieq rfl rfl
theorem rX3_ends_9 : pR 116 d 9 [.ref o, a1, a2] st h = pR 116 d 10 [.ref o, a1, a2] (.ref o :: st) h := pR_L rfl rfl
theorem rX3_ends_10 : pR 116 d 10 [a0, .int x, a2] st h = pR 116 d 11 [a0, .int x, a2] (.int x :: st) h := pR_L rfl rfl
theorem rX3_ends_11 : pR 116 d 11 [a0, a1, .int x] st h = pR 116 d 12 [a0, a1, .int x] (.int x :: st) h := pR_L rfl rfl
theorem rX3_ends_12 : pR 116 d 12 [.ref o, a1, a2] st h = pR 116 d 13 [.ref o, a1, a2] (.ref o :: st) h := pR_L rfl rfl
theorem rX3_ends_13 : pR 116 d 13 [a0, .int x, a2] st h = pR 116 d 14 [a0, .int x, a2] (.int x :: st) h := pR_L rfl rfl
theorem rX3_ends_14 : pR 116 (d + 1) 14 ls (b1 :: .ref o :: st) h = if (pok 3 (pcl h o) && pw st) = true then pK 116 (d + 1) 14 3 ls st (pCa 111 d [.ref o, b1] h) else none := r_callV rfl rfl rfl
theorem rX3_ends_17 : pR 116 (d + 1) 17 ls (b3 :: b2 :: b1 :: .ref o :: st) h = if (pok 3 (pcl h o) && pw st) = true then pK 116 (d + 1) 17 3 ls st (pCa 112 d [.ref o, b1, b2, b3] h) else none := r_callV rfl rfl rfl
theorem rX3_ends_20 : pR 116 d 20 ls st h = pR 116 d 24 ls st h := pR_L rfl rfl
theorem rX3_ends_23 : pR 116 d 23 ls st h = pR 116 d 24 ls (.int (-1) :: st) h := pR_L rfl rfl
theorem rX3_ends_24 : pR 116 d 24 ls [.int x] h = some (.inl (some (.int x)), h) := pR_E rfl rfl
-- 117 BalloonStallModel isPoint (II)Z
theorem eX3_isPoint : pCa 117 d [.ref o, .int x0, .int x1] h = pR 117 d 0 [.ref o, .int x0, .int x1] [] h := rfl
theorem rX3_isPoint_0 : pR 117 d 0 [.ref o, a1, a2] st h = pR 117 d 1 [.ref o, a1, a2] (.ref o :: st) h := pR_L rfl rfl
theorem rX3_isPoint_1 : pR 117 d 1 [a0, .int x, a2] st h = pR 117 d 2 [a0, .int x, a2] (.int x :: st) h := pR_L rfl rfl
theorem rX3_isPoint_2 : pR 117 (d + 1) 2 ls (b1 :: .ref o :: st) h = if (pok 3 (pcl h o) && pw st) = true then pK 117 (d + 1) 2 3 ls st (pCa 108 d [.ref o, b1] h) else none := r_callV rfl rfl rfl
theorem rX3_isPoint_5 : pR 117 d 5 ls (.int x :: st) h = if x = 0 then pR 117 d 28 ls st h else pR 117 d 8 ls st h := r_ieq rfl rfl
theorem rX3_isPoint_8 : pR 117 d 8 [a0, a1, .int x] st h = pR 117 d 9 [a0, a1, .int x] (.int x :: st) h := pR_L rfl rfl
theorem rX3_isPoint_9 : pR 117 d 9 ls st h = pR 117 d 10 ls (.int 0 :: st) h := pR_L rfl rfl
theorem rX3_isPoint_10 : pR 117 d 10 [.ref o, a1, a2] st h = pR 117 d 11 [.ref o, a1, a2] (.ref o :: st) h := pR_L rfl rfl
theorem rX3_isPoint_11 : pR 117 d 11 ls (.ref o :: st) h = if pis (pfl h 3 o 14) = true then pR 117 d 14 ls (pfl h 3 o 14 :: st) h else none := r_get rfl
theorem rX3_isPoint_14 : pR 117 d 14 [a0, .int x, a2] st h = pR 117 d 15 [a0, .int x, a2] (.int x :: st) h := pR_L rfl rfl
theorem rX3_isPoint_15 : pR 117 d 15 ls (.int x :: .ref o :: st) h = if (pin x (pln h 0 o) || pin x (pln h 9 o)) = true then pR 117 d 16 ls (.int (pct h o x.toNatClampNeg) :: st) h else none := pR_Lif rfl rfl
theorem rX3_isPoint_16 : pR 117 d 16 ls st h = pR 117 d 17 ls (.int 1 :: st) h := pR_L rfl rfl
theorem rX3_isPoint_17 : pR 117 d 17 ls (.int y :: .int x :: st) h = pR 117 d 18 ls (.int (x - y) :: st) h := pR_L rfl rfl
theorem rX3_isPoint_18 : pR 117 (d + 1) 18 ls (b2 :: b1 :: b0 :: st) h = if pw st = true then pK 117 (d + 1) 18 3 ls st (pCa 69 d [b0, b1, b2] h) else none := r_callS rfl rfl rfl
theorem rX3_isPoint_21 : pR 117 d 21 ls (.int x :: st) h = if x = 0 then pR 117 d 28 ls st h else pR 117 d 24 ls st h := r_ieq rfl rfl
theorem rX3_isPoint_24 : pR 117 d 24 ls st h = pR 117 d 25 ls (.int 1 :: st) h := pR_L rfl rfl
theorem rX3_isPoint_25 : pR 117 d 25 ls st h = pR 117 d 29 ls st h := pR_L rfl rfl
theorem rX3_isPoint_28 : pR 117 d 28 ls st h = pR 117 d 29 ls (.int 0 :: st) h := pR_L rfl rfl
theorem rX3_isPoint_290 : pR 117 d 29 ls [.int 0] h = some (.inl (some (.int 0)), h) := pR_E rfl rfl
theorem rX3_isPoint_291 : pR 117 d 29 ls [.int 1] h = some (.inl (some (.int 1)), h) := pR_E rfl rfl
-- 118 BalloonStallModel bursts (II)I
theorem eX3_bursts : pCa 118 d [.ref o, .int x0, .int x1] h = pR 118 d 0 [.ref o, .int x0, .int x1, pU, pU, pU] [] h := rfl
theorem rX3_bursts_0 : pR 118 d 0 [.ref o, a1, a2, a3, a4, a5] st h = pR 118 d 1 [.ref o, a1, a2, a3, a4, a5] (.ref o :: st) h := pR_L rfl rfl
theorem rX3_bursts_1 : pR 118 d 1 [a0, .int x, a2, a3, a4, a5] st h = pR 118 d 2 [a0, .int x, a2, a3, a4, a5] (.int x :: st) h := pR_L rfl rfl
theorem rX3_bursts_2 : pR 118 d 2 [a0, a1, .int x, a3, a4, a5] st h = pR 118 d 3 [a0, a1, .int x, a3, a4, a5] (.int x :: st) h := pR_L rfl rfl
theorem rX3_bursts_3 : pR 118 (d + 1) 3 ls (b2 :: b1 :: .ref o :: st) h = if (pok 3 (pcl h o) && pw st) = true then pK 118 (d + 1) 3 3 ls st (pCa 119 d [.ref o, b1, b2] h) else none := r_callV rfl rfl rfl
theorem rX3_bursts_6 : pR 118 d 6 ls (.int x :: st) h = if x = 0 then pR 118 d 9 ls st h else pR 118 d 11 ls st h := r_ine rfl rfl
theorem rX3_bursts_9 : pR 118 d 9 ls st h = pR 118 d 10 ls (.int (-1) :: st) h := pR_L rfl rfl
theorem rX3_bursts_10 : pR 118 d 10 ls [.int x] h = some (.inl (some (.int x)), h) := pR_E rfl rfl
theorem rX3_bursts_11 : pR 118 d 11 [.ref o, a1, a2, a3, a4, a5] st h = pR 118 d 12 [.ref o, a1, a2, a3, a4, a5] (.ref o :: st) h := pR_L rfl rfl
theorem rX3_bursts_12 : pR 118 d 12 ls (.ref o :: st) h = if pis (pfl h 3 o 12) = true then pR 118 d 15 ls (pfl h 3 o 12 :: st) h else none := r_get rfl
theorem rX3_bursts_15 : pR 118 d 15 ls st h = pR 118 d 17 ls (.int 6 :: st) h := pR_L rfl rfl
theorem rX3_bursts_17 : pR 118 d 17 [a0, .int x, a2, a3, a4, a5] st h = pR 118 d 18 [a0, .int x, a2, a3, a4, a5] (.int x :: st) h := pR_L rfl rfl
theorem rX3_bursts_18 : pR 118 d 18 ls (.int y :: .int x :: st) h = pR 118 d 19 ls (.int (x * y) :: st) h := pR_L rfl rfl
theorem rX3_bursts_19 : pR 118 d 19 [a0, a1, .int x, a3, a4, a5] st h = pR 118 d 20 [a0, a1, .int x, a3, a4, a5] (.int x :: st) h := pR_L rfl rfl
theorem rX3_bursts_20 : pR 118 d 20 ls (.int y :: .int x :: st) h = pR 118 d 21 ls (.int (x + y) :: st) h := pR_L rfl rfl
theorem rX3_bursts_21 : pR 118 d 21 ls (.int x :: .ref o :: st) h = if (pin x (pln h 0 o) || pin x (pln h 9 o)) = true then pR 118 d 22 ls (.int (pct h o x.toNatClampNeg) :: st) h else none := pR_Lif rfl rfl
theorem rX3_bursts_22 : pR 118 d 22 [a0, a1, a2, a3, a4, a5] (.int x :: st) h = if p1 a3 = true then pR 118 d 23 [a0, a1, a2, .int x, a4, a5] st h else none := r_sto (n := 1) (k := 3) (v := .int x) (ls := [a0, a1, a2, a3, a4, a5]) rfl rfl rfl
theorem rX3_bursts_23 : pR 118 d 23 [.ref o, a1, a2, a3, a4, a5] st h = pR 118 d 24 [.ref o, a1, a2, a3, a4, a5] (.ref o :: st) h := pR_L rfl rfl
theorem rX3_bursts_24 : pR 118 d 24 ls (.ref o :: st) h = if pis (pfl h 3 o 2) = true then pR 118 d 27 ls (pfl h 3 o 2 :: st) h else none := r_get rfl
theorem rX3_bursts_27 : pR 118 d 27 [a0, a1, a2, .int x, a4, a5] st h = pR 118 d 28 [a0, a1, a2, .int x, a4, a5] (.int x :: st) h := pR_L rfl rfl
theorem rX3_bursts_28 : pR 118 d 28 ls (.int x :: .ref o :: st) h = if (pin x (pln h 0 o) || pin x (pln h 9 o)) = true then pR 118 d 29 ls (.int (pct h o x.toNatClampNeg) :: st) h else none := pR_Lif rfl rfl
theorem rX3_bursts_29 : pR 118 d 29 ls (.int x :: st) h = pR 118 d 30 ls (.int (-x) :: st) h := pR_L rfl rfl
theorem rX3_bursts_30 : pR 118 d 30 [a0, a1, a2, a3, a4, a5] (.int x :: st) h = if p1 a4 = true then pR 118 d 32 [a0, a1, a2, a3, .int x, a5] st h else none := r_sto (n := 2) (k := 4) (v := .int x) (ls := [a0, a1, a2, a3, a4, a5]) rfl rfl rfl
theorem rX3_bursts_32 : pR 118 d 32 ls st h = pR 118 d 33 ls (.int 0 :: st) h := pR_L rfl rfl
theorem rX3_bursts_33 : pR 118 d 33 [a0, a1, a2, a3, a4, a5] (.int x :: st) h = if p1 a5 = true then pR 118 d 35 [a0, a1, a2, a3, a4, .int x] st h else none := r_sto (n := 2) (k := 5) (v := .int x) (ls := [a0, a1, a2, a3, a4, a5]) rfl rfl rfl
theorem rX3_bursts_35 : pR 118 d 35 [a0, a1, a2, a3, a4, .int x] st h = pR 118 d 37 [a0, a1, a2, a3, a4, .int x] (.int x :: st) h := pR_L rfl rfl
theorem rX3_bursts_37 : pR 118 d 37 [.ref o, a1, a2, a3, a4, a5] st h = pR 118 d 38 [.ref o, a1, a2, a3, a4, a5] (.ref o :: st) h := pR_L rfl rfl
theorem rX3_bursts_38 : pR 118 d 38 ls (.ref o :: st) h = if pis (pfl h 3 o 13) = true then pR 118 d 41 ls (pfl h 3 o 13 :: st) h else none := r_get rfl
theorem rX3_bursts_41 : pR 118 d 41 [a0, .int x, a2, a3, a4, a5] st h = pR 118 d 42 [a0, .int x, a2, a3, a4, a5] (.int x :: st) h := pR_L rfl rfl
theorem rX3_bursts_42 : pR 118 d 42 ls (.int x :: .ref o :: st) h = if (pin x (pln h 0 o) || pin x (pln h 9 o)) = true then pR 118 d 43 ls (.int (pct h o x.toNatClampNeg) :: st) h else none := pR_Lif rfl rfl
theorem rX3_bursts_43 : pR 118 d 43 ls (.int y :: .int x :: st) h = if x < y then pR 118 d 46 ls st h else pR 118 d 106 ls st h := r_cge rfl rfl
theorem rX3_bursts_46 : pR 118 d 46 [.ref o, a1, a2, a3, a4, a5] st h = pR 118 d 47 [.ref o, a1, a2, a3, a4, a5] (.ref o :: st) h := pR_L rfl rfl
theorem rX3_bursts_47 : pR 118 d 47 ls (.ref o :: st) h = if pis (pfl h 3 o 18) = true then pR 118 d 50 ls (pfl h 3 o 18 :: st) h else none := r_get rfl
theorem rX3_bursts_50 : pR 118 d 50 ls st h = pR 118 d 52 ls (.int 24 :: st) h := pR_L rfl rfl
theorem rX3_bursts_52 : pR 118 d 52 [a0, .int x, a2, a3, a4, a5] st h = pR 118 d 53 [a0, .int x, a2, a3, a4, a5] (.int x :: st) h := pR_L rfl rfl
theorem rX3_bursts_53 : pR 118 d 53 ls (.int y :: .int x :: st) h = pR 118 d 54 ls (.int (x * y) :: st) h := pR_L rfl rfl
theorem rX3_bursts_54 : pR 118 d 54 [a0, a1, a2, a3, a4, .int x] st h = pR 118 d 56 [a0, a1, a2, a3, a4, .int x] (.int x :: st) h := pR_L rfl rfl
theorem rX3_bursts_56 : pR 118 d 56 ls (.int y :: .int x :: st) h = pR 118 d 57 ls (.int (x + y) :: st) h := pR_L rfl rfl
theorem rX3_bursts_57 : pR 118 d 57 ls (.int x :: .ref o :: st) h = if (pin x (pln h 0 o) || pin x (pln h 9 o)) = true then pR 118 d 58 ls (.int (pct h o x.toNatClampNeg) :: st) h else none := pR_Lif rfl rfl
theorem rX3_bursts_58 : pR 118 d 58 [a0, a1, .int x, a3, a4, a5] st h = pR 118 d 59 [a0, a1, .int x, a3, a4, a5] (.int x :: st) h := pR_L rfl rfl
theorem rX3_bursts_59 : pR 118 d 59 ls (.int y :: .int x :: st) h = if x = y then pR 118 d 62 ls st h else pR 118 d 100 ls st h := r_cne rfl rfl
theorem rX3_bursts_62 : pR 118 d 62 [a0, a1, a2, a3, .int x, a5] st h = pR 118 d 64 [a0, a1, a2, a3, .int x, a5] (.int x :: st) h := pR_L rfl rfl
theorem rX3_bursts_64 : pR 118 d 64 [.ref o, a1, a2, a3, a4, a5] st h = pR 118 d 65 [.ref o, a1, a2, a3, a4, a5] (.ref o :: st) h := pR_L rfl rfl
theorem rX3_bursts_65 : pR 118 d 65 ls (.ref o :: st) h = if pis (pfl h 3 o 2) = true then pR 118 d 68 ls (pfl h 3 o 2 :: st) h else none := r_get rfl
theorem rX3_bursts_68 : pR 118 d 68 [a0, a1, a2, .int x, a4, a5] st h = pR 118 d 69 [a0, a1, a2, .int x, a4, a5] (.int x :: st) h := pR_L rfl rfl
theorem rX3_bursts_69 : pR 118 d 69 ls (.int x :: .ref o :: st) h = if (pin x (pln h 0 o) || pin x (pln h 9 o)) = true then pR 118 d 70 ls (.int (pct h o x.toNatClampNeg) :: st) h else none := pR_Lif rfl rfl
theorem rX3_bursts_70 : pR 118 d 70 [.ref o, a1, a2, a3, a4, a5] st h = pR 118 d 71 [.ref o, a1, a2, a3, a4, a5] (.ref o :: st) h := pR_L rfl rfl
theorem rX3_bursts_71 : pR 118 d 71 ls (.ref o :: st) h = if pis (pfl h 3 o 15) = true then pR 118 d 74 ls (pfl h 3 o 15 :: st) h else none := r_get rfl
theorem rX3_bursts_74 : pR 118 d 74 ls st h = pR 118 d 76 ls (.int 24 :: st) h := pR_L rfl rfl
theorem rX3_bursts_76 : pR 118 d 76 [a0, .int x, a2, a3, a4, a5] st h = pR 118 d 77 [a0, .int x, a2, a3, a4, a5] (.int x :: st) h := pR_L rfl rfl
theorem rX3_bursts_77 : pR 118 d 77 ls (.int y :: .int x :: st) h = pR 118 d 78 ls (.int (x * y) :: st) h := pR_L rfl rfl
theorem rX3_bursts_78 : pR 118 d 78 [a0, a1, a2, a3, a4, .int x] st h = pR 118 d 80 [a0, a1, a2, a3, a4, .int x] (.int x :: st) h := pR_L rfl rfl
theorem rX3_bursts_80 : pR 118 d 80 ls (.int y :: .int x :: st) h = pR 118 d 81 ls (.int (x + y) :: st) h := pR_L rfl rfl
theorem rX3_bursts_81 : pR 118 d 81 ls (.int x :: .ref o :: st) h = if (pin x (pln h 0 o) || pin x (pln h 9 o)) = true then pR 118 d 82 ls (.int (pct h o x.toNatClampNeg) :: st) h else none := pR_Lif rfl rfl
theorem rX3_bursts_82 : pR 118 d 82 ls (.int y :: .int x :: st) h = pR 118 d 83 ls (.int (x + y) :: st) h := pR_L rfl rfl
theorem rX3_bursts_83 : pR 118 d 83 ls (.int y :: .int x :: st) h = pR 118 d 84 ls (.int (x + y) :: st) h := pR_L rfl rfl
theorem rX3_bursts_84 : pR 118 d 84 [a0, a1, a2, a3, a4, a5] (.int x :: st) h = if p1 a4 = true then pR 118 d 86 [a0, a1, a2, a3, .int x, a5] st h else none := r_sto (n := 2) (k := 4) (v := .int x) (ls := [a0, a1, a2, a3, a4, a5]) rfl rfl rfl
theorem rX3_bursts_86 : pR 118 d 86 [a0, a1, a2, a3, .int x, a5] st h = pR 118 d 88 [a0, a1, a2, a3, .int x, a5] (.int x :: st) h := pR_L rfl rfl
theorem rX3_bursts_88 : pR 118 d 88 [.ref o, a1, a2, a3, a4, a5] st h = pR 118 d 89 [.ref o, a1, a2, a3, a4, a5] (.ref o :: st) h := pR_L rfl rfl
theorem rX3_bursts_89 : pR 118 d 89 ls (.ref o :: st) h = if pis (pfl h 3 o 1) = true then pR 118 d 92 ls (pfl h 3 o 1 :: st) h else none := r_get rfl
theorem rX3_bursts_92 : pR 118 d 92 [a0, a1, a2, .int x, a4, a5] st h = pR 118 d 93 [a0, a1, a2, .int x, a4, a5] (.int x :: st) h := pR_L rfl rfl
theorem rX3_bursts_93 : pR 118 d 93 ls (.int x :: .ref o :: st) h = if (pin x (pln h 0 o) || pin x (pln h 9 o)) = true then pR 118 d 94 ls (.int (pct h o x.toNatClampNeg) :: st) h else none := pR_Lif rfl rfl
theorem rX3_bursts_94 : pR 118 d 94 ls (.int y :: .int x :: st) h = if y < x then pR 118 d 97 ls st h else pR 118 d 100 ls st h := r_cle rfl rfl
theorem rX3_bursts_97 : pR 118 d 97 [a0, a1, a2, a3, a4, .int x] st h = pR 118 d 99 [a0, a1, a2, a3, a4, .int x] (.int x :: st) h := pR_L rfl rfl
theorem rX3_bursts_99 : pR 118 d 99 ls [.int x] h = some (.inl (some (.int x)), h) := pR_E rfl rfl
theorem rX3_bursts_100 : pR 118 d 100 [a0, a1, a2, a3, a4, .int x] st h = pR 118 d 103 [a0, a1, a2, a3, a4, .int (x + 1)] st h := pR_L rfl rfl
theorem rX3_bursts_103 : pR 118 d 103 ls st h = pR 118 d 35 ls st h := pR_L rfl rfl
theorem rX3_bursts_106 : pR 118 d 106 ls st h = pR 118 d 107 ls (.int (-1) :: st) h := pR_L rfl rfl
theorem rX3_bursts_107 : pR 118 d 107 ls [.int x] h = some (.inl (some (.int x)), h) := pR_E rfl rfl
-- 119 BalloonStallModel isBalloon (II)Z
theorem eX3_isBalloon : pCa 119 d [.ref o, .int x0, .int x1] h = pR 119 d 0 [.ref o, .int x0, .int x1] [] h := rfl
theorem rX3_isBalloon_0 : pR 119 d 0 [.ref o, a1, a2] st h = pR 119 d 1 [.ref o, a1, a2] (.ref o :: st) h := pR_L rfl rfl
theorem rX3_isBalloon_1 : pR 119 d 1 [a0, .int x, a2] st h = pR 119 d 2 [a0, .int x, a2] (.int x :: st) h := pR_L rfl rfl
theorem rX3_isBalloon_2 : pR 119 (d + 1) 2 ls (b1 :: .ref o :: st) h = if (pok 3 (pcl h o) && pw st) = true then pK 119 (d + 1) 2 3 ls st (pCa 108 d [.ref o, b1] h) else none := r_callV rfl rfl rfl
theorem rX3_isBalloon_5 : pR 119 d 5 ls (.int x :: st) h = if x = 0 then pR 119 d 28 ls st h else pR 119 d 8 ls st h := r_ieq rfl rfl
theorem rX3_isBalloon_8 : pR 119 d 8 [a0, a1, .int x] st h = pR 119 d 9 [a0, a1, .int x] (.int x :: st) h := pR_L rfl rfl
theorem rX3_isBalloon_9 : pR 119 d 9 ls st h = pR 119 d 10 ls (.int 0 :: st) h := pR_L rfl rfl
theorem rX3_isBalloon_10 : pR 119 d 10 [.ref o, a1, a2] st h = pR 119 d 11 [.ref o, a1, a2] (.ref o :: st) h := pR_L rfl rfl
theorem rX3_isBalloon_11 : pR 119 d 11 ls (.ref o :: st) h = if pis (pfl h 3 o 11) = true then pR 119 d 14 ls (pfl h 3 o 11 :: st) h else none := r_get rfl
theorem rX3_isBalloon_14 : pR 119 d 14 [a0, .int x, a2] st h = pR 119 d 15 [a0, .int x, a2] (.int x :: st) h := pR_L rfl rfl
theorem rX3_isBalloon_15 : pR 119 d 15 ls (.int x :: .ref o :: st) h = if (pin x (pln h 0 o) || pin x (pln h 9 o)) = true then pR 119 d 16 ls (.int (pct h o x.toNatClampNeg) :: st) h else none := pR_Lif rfl rfl
theorem rX3_isBalloon_16 : pR 119 d 16 ls st h = pR 119 d 17 ls (.int 1 :: st) h := pR_L rfl rfl
theorem rX3_isBalloon_17 : pR 119 d 17 ls (.int y :: .int x :: st) h = pR 119 d 18 ls (.int (x - y) :: st) h := pR_L rfl rfl
theorem rX3_isBalloon_18 : pR 119 (d + 1) 18 ls (b2 :: b1 :: b0 :: st) h = if pw st = true then pK 119 (d + 1) 18 3 ls st (pCa 69 d [b0, b1, b2] h) else none := r_callS rfl rfl rfl
theorem rX3_isBalloon_21 : pR 119 d 21 ls (.int x :: st) h = if x = 0 then pR 119 d 28 ls st h else pR 119 d 24 ls st h := r_ieq rfl rfl
theorem rX3_isBalloon_24 : pR 119 d 24 ls st h = pR 119 d 25 ls (.int 1 :: st) h := pR_L rfl rfl
theorem rX3_isBalloon_25 : pR 119 d 25 ls st h = pR 119 d 29 ls st h := pR_L rfl rfl
theorem rX3_isBalloon_28 : pR 119 d 28 ls st h = pR 119 d 29 ls (.int 0 :: st) h := pR_L rfl rfl
theorem rX3_isBalloon_290 : pR 119 d 29 ls [.int 0] h = some (.inl (some (.int 0)), h) := pR_E rfl rfl
theorem rX3_isBalloon_291 : pR 119 d 29 ls [.int 1] h = some (.inl (some (.int 1)), h) := pR_E rfl rfl
-- 120 BalloonStallModel rest (II)I
theorem eX3_rest : pCa 120 d [.ref o, .int x0, .int x1] h = pR 120 d 0 [.ref o, .int x0, .int x1, pU, pU, pU, pU] [] h := rfl
theorem rX3_rest_0 : pR 120 d 0 [.ref o, a1, a2, a3, a4, a5, a6] st h = pR 120 d 1 [.ref o, a1, a2, a3, a4, a5, a6] (.ref o :: st) h := pR_L rfl rfl
theorem rX3_rest_1 : pR 120 d 1 [a0, .int x, a2, a3, a4, a5, a6] st h = pR 120 d 2 [a0, .int x, a2, a3, a4, a5, a6] (.int x :: st) h := pR_L rfl rfl
theorem rX3_rest_2 : pR 120 d 2 [a0, a1, .int x, a3, a4, a5, a6] st h = pR 120 d 3 [a0, a1, .int x, a3, a4, a5, a6] (.int x :: st) h := pR_L rfl rfl
theorem rX3_rest_3 : pR 120 (d + 1) 3 ls (b2 :: b1 :: .ref o :: st) h = if (pok 3 (pcl h o) && pw st) = true then pK 120 (d + 1) 3 3 ls st (pCa 119 d [.ref o, b1, b2] h) else none := r_callV rfl rfl rfl
theorem rX3_rest_6 : pR 120 d 6 ls (.int x :: st) h = if x = 0 then pR 120 d 9 ls st h else pR 120 d 11 ls st h := r_ine rfl rfl
theorem rX3_rest_9 : pR 120 d 9 ls st h = pR 120 d 10 ls (.int (-1) :: st) h := pR_L rfl rfl
theorem rX3_rest_10 : pR 120 d 10 ls [.int x] h = some (.inl (some (.int x)), h) := pR_E rfl rfl
theorem rX3_rest_11 : pR 120 d 11 [.ref o, a1, a2, a3, a4, a5, a6] st h = pR 120 d 12 [.ref o, a1, a2, a3, a4, a5, a6] (.ref o :: st) h := pR_L rfl rfl
theorem rX3_rest_12 : pR 120 d 12 ls (.ref o :: st) h = if pis (pfl h 3 o 12) = true then pR 120 d 15 ls (pfl h 3 o 12 :: st) h else none := r_get rfl
theorem rX3_rest_15 : pR 120 d 15 ls st h = pR 120 d 17 ls (.int 6 :: st) h := pR_L rfl rfl
theorem rX3_rest_17 : pR 120 d 17 [a0, .int x, a2, a3, a4, a5, a6] st h = pR 120 d 18 [a0, .int x, a2, a3, a4, a5, a6] (.int x :: st) h := pR_L rfl rfl
theorem rX3_rest_18 : pR 120 d 18 ls (.int y :: .int x :: st) h = pR 120 d 19 ls (.int (x * y) :: st) h := pR_L rfl rfl
theorem rX3_rest_19 : pR 120 d 19 [a0, a1, .int x, a3, a4, a5, a6] st h = pR 120 d 20 [a0, a1, .int x, a3, a4, a5, a6] (.int x :: st) h := pR_L rfl rfl
theorem rX3_rest_20 : pR 120 d 20 ls (.int y :: .int x :: st) h = pR 120 d 21 ls (.int (x + y) :: st) h := pR_L rfl rfl
theorem rX3_rest_21 : pR 120 d 21 ls (.int x :: .ref o :: st) h = if (pin x (pln h 0 o) || pin x (pln h 9 o)) = true then pR 120 d 22 ls (.int (pct h o x.toNatClampNeg) :: st) h else none := pR_Lif rfl rfl
theorem rX3_rest_22 : pR 120 d 22 [a0, a1, a2, a3, a4, a5, a6] (.int x :: st) h = if p1 a3 = true then pR 120 d 23 [a0, a1, a2, .int x, a4, a5, a6] st h else none := r_sto (n := 1) (k := 3) (v := .int x) (ls := [a0, a1, a2, a3, a4, a5, a6]) rfl rfl rfl
theorem rX3_rest_23 : pR 120 d 23 ls st h = pR 120 d 24 ls (.int 0 :: st) h := pR_L rfl rfl
theorem rX3_rest_24 : pR 120 d 24 [a0, a1, a2, a3, a4, a5, a6] (.int x :: st) h = if p1 a4 = true then pR 120 d 26 [a0, a1, a2, a3, .int x, a5, a6] st h else none := r_sto (n := 2) (k := 4) (v := .int x) (ls := [a0, a1, a2, a3, a4, a5, a6]) rfl rfl rfl
theorem rX3_rest_26 : pR 120 d 26 ls st h = pR 120 d 27 ls (.int 0 :: st) h := pR_L rfl rfl
theorem rX3_rest_27 : pR 120 d 27 [a0, a1, a2, a3, a4, a5, a6] (.int x :: st) h = if p1 a5 = true then pR 120 d 29 [a0, a1, a2, a3, a4, .int x, a6] st h else none := r_sto (n := 2) (k := 5) (v := .int x) (ls := [a0, a1, a2, a3, a4, a5, a6]) rfl rfl rfl
theorem rX3_rest_29 : pR 120 d 29 ls st h = pR 120 d 30 ls (.int 0 :: st) h := pR_L rfl rfl
theorem rX3_rest_30 : pR 120 d 30 [a0, a1, a2, a3, a4, a5, a6] (.int x :: st) h = if p1 a6 = true then pR 120 d 32 [a0, a1, a2, a3, a4, a5, .int x] st h else none := r_sto (n := 2) (k := 6) (v := .int x) (ls := [a0, a1, a2, a3, a4, a5, a6]) rfl rfl rfl
theorem rX3_rest_32 : pR 120 d 32 [a0, a1, a2, a3, a4, a5, .int x] st h = pR 120 d 34 [a0, a1, a2, a3, a4, a5, .int x] (.int x :: st) h := pR_L rfl rfl
theorem rX3_rest_34 : pR 120 d 34 [.ref o, a1, a2, a3, a4, a5, a6] st h = pR 120 d 35 [.ref o, a1, a2, a3, a4, a5, a6] (.ref o :: st) h := pR_L rfl rfl
theorem rX3_rest_35 : pR 120 d 35 ls (.ref o :: st) h = if pis (pfl h 3 o 13) = true then pR 120 d 38 ls (pfl h 3 o 13 :: st) h else none := r_get rfl
theorem rX3_rest_38 : pR 120 d 38 [a0, .int x, a2, a3, a4, a5, a6] st h = pR 120 d 39 [a0, .int x, a2, a3, a4, a5, a6] (.int x :: st) h := pR_L rfl rfl
theorem rX3_rest_39 : pR 120 d 39 ls (.int x :: .ref o :: st) h = if (pin x (pln h 0 o) || pin x (pln h 9 o)) = true then pR 120 d 40 ls (.int (pct h o x.toNatClampNeg) :: st) h else none := pR_Lif rfl rfl
theorem rX3_rest_40 : pR 120 d 40 ls (.int y :: .int x :: st) h = if x < y then pR 120 d 43 ls st h else pR 120 d 85 ls st h := r_cge rfl rfl
theorem rX3_rest_43 : pR 120 d 43 [.ref o, a1, a2, a3, a4, a5, a6] st h = pR 120 d 44 [.ref o, a1, a2, a3, a4, a5, a6] (.ref o :: st) h := pR_L rfl rfl
theorem rX3_rest_44 : pR 120 d 44 ls (.ref o :: st) h = if pis (pfl h 3 o 18) = true then pR 120 d 47 ls (pfl h 3 o 18 :: st) h else none := r_get rfl
theorem rX3_rest_47 : pR 120 d 47 ls st h = pR 120 d 49 ls (.int 24 :: st) h := pR_L rfl rfl
theorem rX3_rest_49 : pR 120 d 49 [a0, .int x, a2, a3, a4, a5, a6] st h = pR 120 d 50 [a0, .int x, a2, a3, a4, a5, a6] (.int x :: st) h := pR_L rfl rfl
theorem rX3_rest_50 : pR 120 d 50 ls (.int y :: .int x :: st) h = pR 120 d 51 ls (.int (x * y) :: st) h := pR_L rfl rfl
theorem rX3_rest_51 : pR 120 d 51 [a0, a1, a2, a3, a4, a5, .int x] st h = pR 120 d 53 [a0, a1, a2, a3, a4, a5, .int x] (.int x :: st) h := pR_L rfl rfl
theorem rX3_rest_53 : pR 120 d 53 ls (.int y :: .int x :: st) h = pR 120 d 54 ls (.int (x + y) :: st) h := pR_L rfl rfl
theorem rX3_rest_54 : pR 120 d 54 ls (.int x :: .ref o :: st) h = if (pin x (pln h 0 o) || pin x (pln h 9 o)) = true then pR 120 d 55 ls (.int (pct h o x.toNatClampNeg) :: st) h else none := pR_Lif rfl rfl
theorem rX3_rest_55 : pR 120 d 55 [a0, a1, .int x, a3, a4, a5, a6] st h = pR 120 d 56 [a0, a1, .int x, a3, a4, a5, a6] (.int x :: st) h := pR_L rfl rfl
theorem rX3_rest_56 : pR 120 d 56 ls (.int y :: .int x :: st) h = if x = y then pR 120 d 59 ls st h else pR 120 d 79 ls st h := r_cne rfl rfl
theorem rX3_rest_59 : pR 120 d 59 [a0, a1, a2, a3, .int x, a5, a6] st h = pR 120 d 61 [a0, a1, a2, a3, .int x, a5, a6] (.int x :: st) h := pR_L rfl rfl
theorem rX3_rest_61 : pR 120 d 61 [.ref o, a1, a2, a3, a4, a5, a6] st h = pR 120 d 62 [.ref o, a1, a2, a3, a4, a5, a6] (.ref o :: st) h := pR_L rfl rfl
theorem rX3_rest_62 : pR 120 d 62 ls (.ref o :: st) h = if pis (pfl h 3 o 15) = true then pR 120 d 65 ls (pfl h 3 o 15 :: st) h else none := r_get rfl
theorem rX3_rest_65 : pR 120 d 65 ls st h = pR 120 d 67 ls (.int 24 :: st) h := pR_L rfl rfl
theorem rX3_rest_67 : pR 120 d 67 [a0, .int x, a2, a3, a4, a5, a6] st h = pR 120 d 68 [a0, .int x, a2, a3, a4, a5, a6] (.int x :: st) h := pR_L rfl rfl
theorem rX3_rest_68 : pR 120 d 68 ls (.int y :: .int x :: st) h = pR 120 d 69 ls (.int (x * y) :: st) h := pR_L rfl rfl
theorem rX3_rest_69 : pR 120 d 69 [a0, a1, a2, a3, a4, a5, .int x] st h = pR 120 d 71 [a0, a1, a2, a3, a4, a5, .int x] (.int x :: st) h := pR_L rfl rfl
theorem rX3_rest_71 : pR 120 d 71 ls (.int y :: .int x :: st) h = pR 120 d 72 ls (.int (x + y) :: st) h := pR_L rfl rfl
theorem rX3_rest_72 : pR 120 d 72 ls (.int x :: .ref o :: st) h = if (pin x (pln h 0 o) || pin x (pln h 9 o)) = true then pR 120 d 73 ls (.int (pct h o x.toNatClampNeg) :: st) h else none := pR_Lif rfl rfl
theorem rX3_rest_73 : pR 120 d 73 ls (.int y :: .int x :: st) h = pR 120 d 74 ls (.int (x + y) :: st) h := pR_L rfl rfl
theorem rX3_rest_74 : pR 120 d 74 [a0, a1, a2, a3, a4, a5, a6] (.int x :: st) h = if p1 a4 = true then pR 120 d 76 [a0, a1, a2, a3, .int x, a5, a6] st h else none := r_sto (n := 2) (k := 4) (v := .int x) (ls := [a0, a1, a2, a3, a4, a5, a6]) rfl rfl rfl
theorem rX3_rest_76 : pR 120 d 76 [a0, a1, a2, a3, a4, .int x, a6] st h = pR 120 d 79 [a0, a1, a2, a3, a4, .int (x + 1), a6] st h := pR_L rfl rfl
theorem rX3_rest_79 : pR 120 d 79 [a0, a1, a2, a3, a4, a5, .int x] st h = pR 120 d 82 [a0, a1, a2, a3, a4, a5, .int (x + 1)] st h := pR_L rfl rfl
theorem rX3_rest_82 : pR 120 d 82 ls st h = pR 120 d 32 ls st h := pR_L rfl rfl
theorem rX3_rest_85 : pR 120 d 85 ls st h = pR 120 d 86 ls (.int 0 :: st) h := pR_L rfl rfl
theorem rX3_rest_86 : pR 120 d 86 [.ref o, a1, a2, a3, a4, a5, a6] st h = pR 120 d 87 [.ref o, a1, a2, a3, a4, a5, a6] (.ref o :: st) h := pR_L rfl rfl
theorem rX3_rest_87 : pR 120 d 87 ls (.ref o :: st) h = if pis (pfl h 3 o 1) = true then pR 120 d 90 ls (pfl h 3 o 1 :: st) h else none := r_get rfl
theorem rX3_rest_90 : pR 120 d 90 [a0, a1, a2, .int x, a4, a5, a6] st h = pR 120 d 91 [a0, a1, a2, .int x, a4, a5, a6] (.int x :: st) h := pR_L rfl rfl
theorem rX3_rest_91 : pR 120 d 91 ls (.int x :: .ref o :: st) h = if (pin x (pln h 0 o) || pin x (pln h 9 o)) = true then pR 120 d 92 ls (.int (pct h o x.toNatClampNeg) :: st) h else none := pR_Lif rfl rfl
theorem rX3_rest_92 : pR 120 d 92 [a0, a1, a2, a3, .int x, a5, a6] st h = pR 120 d 94 [a0, a1, a2, a3, .int x, a5, a6] (.int x :: st) h := pR_L rfl rfl
theorem rX3_rest_94 : pR 120 d 94 ls (.int y :: .int x :: st) h = pR 120 d 95 ls (.int (x - y) :: st) h := pR_L rfl rfl
theorem rX3_rest_95 : pR 120 d 95 [.ref o, a1, a2, a3, a4, a5, a6] st h = pR 120 d 96 [.ref o, a1, a2, a3, a4, a5, a6] (.ref o :: st) h := pR_L rfl rfl
theorem rX3_rest_96 : pR 120 d 96 ls (.ref o :: st) h = if pis (pfl h 3 o 2) = true then pR 120 d 99 ls (pfl h 3 o 2 :: st) h else none := r_get rfl
theorem rX3_rest_99 : pR 120 d 99 [a0, a1, a2, .int x, a4, a5, a6] st h = pR 120 d 100 [a0, a1, a2, .int x, a4, a5, a6] (.int x :: st) h := pR_L rfl rfl
theorem rX3_rest_100 : pR 120 d 100 ls (.int x :: .ref o :: st) h = if (pin x (pln h 0 o) || pin x (pln h 9 o)) = true then pR 120 d 101 ls (.int (pct h o x.toNatClampNeg) :: st) h else none := pR_Lif rfl rfl
theorem rX3_rest_101 : pR 120 d 101 ls st h = pR 120 d 102 ls (.int 0 :: st) h := pR_L rfl rfl
theorem rX3_rest_102 : pR 120 d 102 [a0, a1, a2, a3, a4, .int x, a6] st h = pR 120 d 104 [a0, a1, a2, a3, a4, .int x, a6] (.int x :: st) h := pR_L rfl rfl
theorem rX3_rest_104 : pR 120 d 104 ls st h = pR 120 d 105 ls (.int 1 :: st) h := pR_L rfl rfl
theorem rX3_rest_105 : pR 120 d 105 ls (.int y :: .int x :: st) h = pR 120 d 106 ls (.int (x - y) :: st) h := pR_L rfl rfl
theorem rX3_rest_106 : pR 120 (d + 1) 106 ls (.int y :: .int x :: st) h = if pw st = true then pR 120 (d + 1) 109 ls (.int (if x < y then y else x) :: st) h else none := r_mx rfl
theorem rX3_rest_109 : pR 120 d 109 ls (.int y :: .int x :: st) h = pR 120 d 110 ls (.int (x * y) :: st) h := pR_L rfl rfl
theorem rX3_rest_110 : pR 120 d 110 ls (.int y :: .int x :: st) h = pR 120 d 111 ls (.int (x - y) :: st) h := pR_L rfl rfl
theorem rX3_rest_111 : pR 120 (d + 1) 111 ls (.int y :: .int x :: st) h = if pw st = true then pR 120 (d + 1) 114 ls (.int (if x < y then y else x) :: st) h else none := r_mx rfl
theorem rX3_rest_114 : pR 120 d 114 ls [.int x] h = some (.inl (some (.int x)), h) := pR_E rfl rfl
-- 121 BalloonStallModel hands (I)I
theorem eX3_hands : pCa 121 d [.ref o, .int x0] h = pR 121 d 0 [.ref o, .int x0] [] h := rfl
theorem rX3_hands_0 : pR 121 d 0 [.ref o, a1] st h = pR 121 d 1 [.ref o, a1] (.ref o :: st) h := pR_L rfl rfl
theorem rX3_hands_1 : pR 121 d 1 [a0, .int x] st h = pR 121 d 2 [a0, .int x] (.int x :: st) h := pR_L rfl rfl
theorem rX3_hands_2 : pR 121 (d + 1) 2 ls (b1 :: .ref o :: st) h = if (pok 3 (pcl h o) && pw st) = true then pK 121 (d + 1) 2 3 ls st (pCa 108 d [.ref o, b1] h) else none := r_callV rfl rfl rfl
theorem rX3_hands_5 : pR 121 d 5 ls (.int x :: st) h = if x = 0 then pR 121 d 17 ls st h else pR 121 d 8 ls st h := r_ieq rfl rfl
theorem rX3_hands_8 : pR 121 d 8 [.ref o, a1] st h = pR 121 d 9 [.ref o, a1] (.ref o :: st) h := pR_L rfl rfl
theorem rX3_hands_9 : pR 121 d 9 ls (.ref o :: st) h = if pis (pfl h 3 o 19) = true then pR 121 d 12 ls (pfl h 3 o 19 :: st) h else none := r_get rfl
theorem rX3_hands_12 : pR 121 d 12 [a0, .int x] st h = pR 121 d 13 [a0, .int x] (.int x :: st) h := pR_L rfl rfl
theorem rX3_hands_13 : pR 121 d 13 ls (.int x :: .ref o :: st) h = if (pin x (pln h 0 o) || pin x (pln h 9 o)) = true then pR 121 d 14 ls (.int (pct h o x.toNatClampNeg) :: st) h else none := pR_Lif rfl rfl
theorem rX3_hands_14 : pR 121 d 14 ls st h = pR 121 d 18 ls st h := pR_L rfl rfl
theorem rX3_hands_17 : pR 121 d 17 ls st h = pR 121 d 18 ls (.int (-1) :: st) h := pR_L rfl rfl
theorem rX3_hands_18 : pR 121 d 18 ls [.int x] h = some (.inl (some (.int x)), h) := pR_E rfl rfl
-- 122 BalloonStallModel holds (II)I
theorem eX3_holds : pCa 122 d [.ref o, .int x0, .int x1] h = pR 122 d 0 [.ref o, .int x0, .int x1] [] h := rfl
theorem rX3_holds_0 : pR 122 d 0 [.ref o, a1, a2] st h = pR 122 d 1 [.ref o, a1, a2] (.ref o :: st) h := pR_L rfl rfl
theorem rX3_holds_1 : pR 122 d 1 [a0, .int x, a2] st h = pR 122 d 2 [a0, .int x, a2] (.int x :: st) h := pR_L rfl rfl
theorem rX3_holds_2 : pR 122 d 2 [a0, a1, .int x] st h = pR 122 d 3 [a0, a1, .int x] (.int x :: st) h := pR_L rfl rfl
theorem rX3_holds_3 : pR 122 (d + 1) 3 ls (b2 :: b1 :: .ref o :: st) h = if (pok 3 (pcl h o) && pw st) = true then pK 122 (d + 1) 3 3 ls st (pCa 115 d [.ref o, b1, b2] h) else none := r_callV rfl rfl rfl
theorem rX3_holds_6 : pR 122 d 6 ls (.int x :: st) h = if x = 0 then pR 122 d 35 ls st h else pR 122 d 9 ls st h := r_ieq rfl rfl
theorem rX3_holds_9 : pR 122 d 9 [.ref o, a1, a2] st h = pR 122 d 10 [.ref o, a1, a2] (.ref o :: st) h := pR_L rfl rfl
theorem rX3_holds_10 : pR 122 d 10 [a0, .int x, a2] st h = pR 122 d 11 [a0, .int x, a2] (.int x :: st) h := pR_L rfl rfl
theorem rX3_holds_11 : pR 122 d 11 [a0, a1, .int x] st h = pR 122 d 12 [a0, a1, .int x] (.int x :: st) h := pR_L rfl rfl
theorem rX3_holds_12 : pR 122 (d + 1) 12 ls (b2 :: b1 :: .ref o :: st) h = if (pok 3 (pcl h o) && pw st) = true then pK 122 (d + 1) 12 3 ls st (pCa 109 d [.ref o, b1, b2] h) else none := r_callV rfl rfl rfl
theorem rX3_holds_15 : pR 122 d 15 ls (.int x :: st) h = if x = 0 then pR 122 d 35 ls st h else pR 122 d 18 ls st h := r_ieq rfl rfl
theorem rX3_holds_18 : pR 122 d 18 [.ref o, a1, a2] st h = pR 122 d 19 [.ref o, a1, a2] (.ref o :: st) h := pR_L rfl rfl
theorem rX3_holds_19 : pR 122 d 19 [a0, .int x, a2] st h = pR 122 d 20 [a0, .int x, a2] (.int x :: st) h := pR_L rfl rfl
theorem rX3_holds_20 : pR 122 d 20 [a0, a1, .int x] st h = pR 122 d 21 [a0, a1, .int x] (.int x :: st) h := pR_L rfl rfl
theorem rX3_holds_21 : pR 122 (d + 1) 21 ls (b2 :: b1 :: .ref o :: st) h = if (pok 3 (pcl h o) && pw st) = true then pK 122 (d + 1) 21 3 ls st (pCa 110 d [.ref o, b1, b2] h) else none := r_callV rfl rfl rfl
theorem rX3_holds_24 : pR 122 d 24 ls (.int x :: st) h = if x = 0 then pR 122 d 31 ls st h else pR 122 d 27 ls st h := r_ieq rfl rfl
theorem rX3_holds_27 : pR 122 d 27 ls st h = pR 122 d 28 ls (.int 0 :: st) h := pR_L rfl rfl
theorem rX3_holds_28 : pR 122 d 28 ls st h = pR 122 d 36 ls st h := pR_L rfl rfl
theorem rX3_holds_31 : pR 122 d 31 ls st h = pR 122 d 32 ls (.int 1 :: st) h := pR_L rfl rfl
theorem rX3_holds_32 : pR 122 d 32 ls st h = pR 122 d 36 ls st h := pR_L rfl rfl
theorem rX3_holds_35 : pR 122 d 35 ls st h = pR 122 d 36 ls (.int (-1) :: st) h := pR_L rfl rfl
theorem rX3_holds_36 : pR 122 d 36 ls [.int x] h = some (.inl (some (.int x)), h) := pR_E rfl rfl
-- 123 BalloonStallModel plain (I)I
theorem eX3_plain : pCa 123 d [.ref o, .int x0] h = pR 123 d 0 [.ref o, .int x0, pU, pU, pU, pU, pU] [] h := rfl
theorem rX3_plain_0 : pR 123 d 0 [.ref o, a1, a2, a3, a4, a5, a6] st h = pR 123 d 1 [.ref o, a1, a2, a3, a4, a5, a6] (.ref o :: st) h := pR_L rfl rfl
theorem rX3_plain_1 : pR 123 d 1 [a0, .int x, a2, a3, a4, a5, a6] st h = pR 123 d 2 [a0, .int x, a2, a3, a4, a5, a6] (.int x :: st) h := pR_L rfl rfl
theorem rX3_plain_2 : pR 123 (d + 1) 2 ls (b1 :: .ref o :: st) h = if (pok 3 (pcl h o) && pw st) = true then pK 123 (d + 1) 2 3 ls st (pCa 108 d [.ref o, b1] h) else none := r_callV rfl rfl rfl
theorem rX3_plain_5 : pR 123 d 5 ls (.int x :: st) h = if x = 0 then pR 123 d 17 ls st h else pR 123 d 8 ls st h := r_ieq rfl rfl
theorem rX3_plain_8 : pR 123 d 8 [.ref o, a1, a2, a3, a4, a5, a6] st h = pR 123 d 9 [.ref o, a1, a2, a3, a4, a5, a6] (.ref o :: st) h := pR_L rfl rfl
theorem rX3_plain_9 : pR 123 d 9 ls (.ref o :: st) h = if pis (pfl h 3 o 20) = true then pR 123 d 12 ls (pfl h 3 o 20 :: st) h else none := r_get rfl
theorem rX3_plain_12 : pR 123 d 12 ls st h = pR 123 d 14 ls (.int 12 :: st) h := pR_L rfl rfl
theorem rX3_plain_14 : pR 123 d 14 ls (.int y :: .int x :: st) h = if x = y then pR 123 d 17 ls st h else pR 123 d 19 ls st h := r_cne rfl rfl
theorem rX3_plain_17 : pR 123 d 17 ls st h = pR 123 d 18 ls (.int (-1) :: st) h := pR_L rfl rfl
theorem rX3_plain_18 : pR 123 d 18 ls [.int x] h = some (.inl (some (.int x)), h) := pR_E rfl rfl
theorem rX3_plain_19 : pR 123 d 19 [.ref o, a1, a2, a3, a4, a5, a6] st h = pR 123 d 20 [.ref o, a1, a2, a3, a4, a5, a6] (.ref o :: st) h := pR_L rfl rfl
theorem rX3_plain_20 : pR 123 (d + 1) 20 ls (.ref o :: st) h = if (pok 3 (pcl h o) && pw st) = true then pK 123 (d + 1) 20 3 ls st (pCa 124 d [.ref o] h) else none := r_callV rfl rfl rfl
theorem rX3_plain_23 : pR 123 d 23 ls st h = pR 123 d 24 ls (.int 0 :: st) h := pR_L rfl rfl
theorem rX3_plain_24 : pR 123 d 24 [a0, a1, a2, a3, a4, a5, a6] (.int x :: st) h = if p1 a2 = true then pR 123 d 25 [a0, a1, .int x, a3, a4, a5, a6] st h else none := r_sto (n := 1) (k := 2) (v := .int x) (ls := [a0, a1, a2, a3, a4, a5, a6]) rfl rfl rfl
theorem rX3_plain_25 : pR 123 d 25 [a0, a1, .int x, a3, a4, a5, a6] st h = pR 123 d 26 [a0, a1, .int x, a3, a4, a5, a6] (.int x :: st) h := pR_L rfl rfl
theorem rX3_plain_26 : pR 123 d 26 [.ref o, a1, a2, a3, a4, a5, a6] st h = pR 123 d 27 [.ref o, a1, a2, a3, a4, a5, a6] (.ref o :: st) h := pR_L rfl rfl
theorem rX3_plain_27 : pR 123 d 27 ls (.ref o :: st) h = if pis (pfl h 3 o 11) = true then pR 123 d 30 ls (pfl h 3 o 11 :: st) h else none := r_get rfl
theorem rX3_plain_30 : pR 123 d 30 [a0, .int x, a2, a3, a4, a5, a6] st h = pR 123 d 31 [a0, .int x, a2, a3, a4, a5, a6] (.int x :: st) h := pR_L rfl rfl
theorem rX3_plain_31 : pR 123 d 31 ls (.int x :: .ref o :: st) h = if (pin x (pln h 0 o) || pin x (pln h 9 o)) = true then pR 123 d 32 ls (.int (pct h o x.toNatClampNeg) :: st) h else none := pR_Lif rfl rfl
theorem rX3_plain_32 : pR 123 d 32 ls (.int y :: .int x :: st) h = if x < y then pR 123 d 35 ls st h else pR 123 d 66 ls st h := r_cge rfl rfl
theorem rX3_plain_35 : pR 123 d 35 [.ref o, a1, a2, a3, a4, a5, a6] st h = pR 123 d 36 [.ref o, a1, a2, a3, a4, a5, a6] (.ref o :: st) h := pR_L rfl rfl
theorem rX3_plain_36 : pR 123 d 36 ls (.ref o :: st) h = if pis (pfl h 3 o 12) = true then pR 123 d 39 ls (pfl h 3 o 12 :: st) h else none := r_get rfl
theorem rX3_plain_39 : pR 123 d 39 ls st h = pR 123 d 41 ls (.int 6 :: st) h := pR_L rfl rfl
theorem rX3_plain_41 : pR 123 d 41 [.ref o, a1, a2, a3, a4, a5, a6] st h = pR 123 d 42 [.ref o, a1, a2, a3, a4, a5, a6] (.ref o :: st) h := pR_L rfl rfl
theorem rX3_plain_42 : pR 123 d 42 ls (.ref o :: st) h = if pis (pfl h 3 o 20) = true then pR 123 d 45 ls (pfl h 3 o 20 :: st) h else none := r_get rfl
theorem rX3_plain_45 : pR 123 d 45 ls (.int y :: .int x :: st) h = pR 123 d 46 ls (.int (x * y) :: st) h := pR_L rfl rfl
theorem rX3_plain_46 : pR 123 d 46 [a0, a1, .int x, a3, a4, a5, a6] st h = pR 123 d 47 [a0, a1, .int x, a3, a4, a5, a6] (.int x :: st) h := pR_L rfl rfl
theorem rX3_plain_47 : pR 123 d 47 ls (.int y :: .int x :: st) h = pR 123 d 48 ls (.int (x + y) :: st) h := pR_L rfl rfl
theorem rX3_plain_48 : pR 123 d 48 [.ref o, a1, a2, a3, a4, a5, a6] st h = pR 123 d 49 [.ref o, a1, a2, a3, a4, a5, a6] (.ref o :: st) h := pR_L rfl rfl
theorem rX3_plain_49 : pR 123 d 49 ls (.ref o :: st) h = if pis (pfl h 3 o 12) = true then pR 123 d 52 ls (pfl h 3 o 12 :: st) h else none := r_get rfl
theorem rX3_plain_52 : pR 123 d 52 ls st h = pR 123 d 54 ls (.int 6 :: st) h := pR_L rfl rfl
theorem rX3_plain_54 : pR 123 d 54 [a0, .int x, a2, a3, a4, a5, a6] st h = pR 123 d 55 [a0, .int x, a2, a3, a4, a5, a6] (.int x :: st) h := pR_L rfl rfl
theorem rX3_plain_55 : pR 123 d 55 ls (.int y :: .int x :: st) h = pR 123 d 56 ls (.int (x * y) :: st) h := pR_L rfl rfl
theorem rX3_plain_56 : pR 123 d 56 [a0, a1, .int x, a3, a4, a5, a6] st h = pR 123 d 57 [a0, a1, .int x, a3, a4, a5, a6] (.int x :: st) h := pR_L rfl rfl
theorem rX3_plain_57 : pR 123 d 57 ls (.int y :: .int x :: st) h = pR 123 d 58 ls (.int (x + y) :: st) h := pR_L rfl rfl
theorem rX3_plain_58 : pR 123 d 58 ls (.int x :: .ref o :: st) h = if (pin x (pln h 0 o) || pin x (pln h 9 o)) = true then pR 123 d 59 ls (.int (pct h o x.toNatClampNeg) :: st) h else none := pR_Lif rfl rfl
theorem rX3_plain_59 : pR 123 d 59 ls (.int y :: .int x :: .ref o :: st) h = if pin x (pln h 0 o) = true then pR 123 d 60 ls st (pst h o x.toNatClampNeg y) else none := pR_Lif rfl rfl
theorem rX3_plain_60 : pR 123 d 60 [a0, a1, .int x, a3, a4, a5, a6] st h = pR 123 d 63 [a0, a1, .int (x + 1), a3, a4, a5, a6] st h := pR_L rfl rfl
theorem rX3_plain_63 : pR 123 d 63 ls st h = pR 123 d 25 ls st h := pR_L rfl rfl
theorem rX3_plain_66 : pR 123 d 66 [.ref o, a1, a2, a3, a4, a5, a6] st h = pR 123 d 67 [.ref o, a1, a2, a3, a4, a5, a6] (.ref o :: st) h := pR_L rfl rfl
theorem rX3_plain_67 : pR 123 d 67 ls (.ref o :: st) h = if pis (pfl h 3 o 11) = true then pR 123 d 70 ls (pfl h 3 o 11 :: st) h else none := r_get rfl
theorem rX3_plain_70 : pR 123 d 70 [.ref o, a1, a2, a3, a4, a5, a6] st h = pR 123 d 71 [.ref o, a1, a2, a3, a4, a5, a6] (.ref o :: st) h := pR_L rfl rfl
theorem rX3_plain_71 : pR 123 d 71 ls (.ref o :: st) h = if pis (pfl h 3 o 20) = true then pR 123 d 74 ls (pfl h 3 o 20 :: st) h else none := r_get rfl
theorem rX3_plain_74 : pR 123 d 74 [.ref o, a1, a2, a3, a4, a5, a6] st h = pR 123 d 75 [.ref o, a1, a2, a3, a4, a5, a6] (.ref o :: st) h := pR_L rfl rfl
theorem rX3_plain_75 : pR 123 d 75 ls (.ref o :: st) h = if pis (pfl h 3 o 11) = true then pR 123 d 78 ls (pfl h 3 o 11 :: st) h else none := r_get rfl
theorem rX3_plain_78 : pR 123 d 78 [a0, .int x, a2, a3, a4, a5, a6] st h = pR 123 d 79 [a0, .int x, a2, a3, a4, a5, a6] (.int x :: st) h := pR_L rfl rfl
theorem rX3_plain_79 : pR 123 d 79 ls (.int x :: .ref o :: st) h = if (pin x (pln h 0 o) || pin x (pln h 9 o)) = true then pR 123 d 80 ls (.int (pct h o x.toNatClampNeg) :: st) h else none := pR_Lif rfl rfl
theorem rX3_plain_80 : pR 123 d 80 ls (.int y :: .int x :: .ref o :: st) h = if pin x (pln h 0 o) = true then pR 123 d 81 ls st (pst h o x.toNatClampNeg y) else none := pR_Lif rfl rfl
theorem rX3_plain_81 : pR 123 d 81 ls st h = pR 123 d 82 ls (.int 0 :: st) h := pR_L rfl rfl
theorem rX3_plain_82 : pR 123 d 82 [a0, a1, a2, a3, a4, a5, a6] (.int x :: st) h = if p1 a2 = true then pR 123 d 83 [a0, a1, .int x, a3, a4, a5, a6] st h else none := r_sto (n := 1) (k := 2) (v := .int x) (ls := [a0, a1, a2, a3, a4, a5, a6]) rfl rfl rfl
theorem rX3_plain_83 : pR 123 d 83 [a0, a1, .int x, a3, a4, a5, a6] st h = pR 123 d 84 [a0, a1, .int x, a3, a4, a5, a6] (.int x :: st) h := pR_L rfl rfl
theorem rX3_plain_84 : pR 123 d 84 [.ref o, a1, a2, a3, a4, a5, a6] st h = pR 123 d 85 [.ref o, a1, a2, a3, a4, a5, a6] (.ref o :: st) h := pR_L rfl rfl
theorem rX3_plain_85 : pR 123 d 85 ls (.ref o :: st) h = if pis (pfl h 3 o 14) = true then pR 123 d 88 ls (pfl h 3 o 14 :: st) h else none := r_get rfl
theorem rX3_plain_88 : pR 123 d 88 [a0, .int x, a2, a3, a4, a5, a6] st h = pR 123 d 89 [a0, .int x, a2, a3, a4, a5, a6] (.int x :: st) h := pR_L rfl rfl
theorem rX3_plain_89 : pR 123 d 89 ls (.int x :: .ref o :: st) h = if (pin x (pln h 0 o) || pin x (pln h 9 o)) = true then pR 123 d 90 ls (.int (pct h o x.toNatClampNeg) :: st) h else none := pR_Lif rfl rfl
theorem rX3_plain_90 : pR 123 d 90 ls (.int y :: .int x :: st) h = if x < y then pR 123 d 93 ls st h else pR 123 d 106 ls st h := r_cge rfl rfl
theorem rX3_plain_93 : pR 123 d 93 [.ref o, a1, a2, a3, a4, a5, a6] st h = pR 123 d 94 [.ref o, a1, a2, a3, a4, a5, a6] (.ref o :: st) h := pR_L rfl rfl
theorem rX3_plain_94 : pR 123 d 94 ls (.ref o :: st) h = if pis (pfl h 3 o 21) = true then pR 123 d 97 ls (pfl h 3 o 21 :: st) h else none := r_get rfl
theorem rX3_plain_97 : pR 123 d 97 [a0, a1, .int x, a3, a4, a5, a6] st h = pR 123 d 98 [a0, a1, .int x, a3, a4, a5, a6] (.int x :: st) h := pR_L rfl rfl
theorem rX3_plain_98 : pR 123 d 98 [a0, a1, .int x, a3, a4, a5, a6] st h = pR 123 d 99 [a0, a1, .int x, a3, a4, a5, a6] (.int x :: st) h := pR_L rfl rfl
theorem rX3_plain_99 : pR 123 d 99 ls (.int y :: .int x :: .ref o :: st) h = if pin x (pln h 0 o) = true then pR 123 d 100 ls st (pst h o x.toNatClampNeg y) else none := pR_Lif rfl rfl
theorem rX3_plain_100 : pR 123 d 100 [a0, a1, .int x, a3, a4, a5, a6] st h = pR 123 d 103 [a0, a1, .int (x + 1), a3, a4, a5, a6] st h := pR_L rfl rfl
theorem rX3_plain_103 : pR 123 d 103 ls st h = pR 123 d 83 ls st h := pR_L rfl rfl
theorem rX3_plain_106 : pR 123 d 106 ls st h = pR 123 d 107 ls (.int 0 :: st) h := pR_L rfl rfl
theorem rX3_plain_107 : pR 123 d 107 [a0, a1, a2, a3, a4, a5, a6] (.int x :: st) h = if p1 a2 = true then pR 123 d 108 [a0, a1, .int x, a3, a4, a5, a6] st h else none := r_sto (n := 1) (k := 2) (v := .int x) (ls := [a0, a1, a2, a3, a4, a5, a6]) rfl rfl rfl
theorem rX3_plain_108 : pR 123 d 108 ls st h = pR 123 d 109 ls (.int 0 :: st) h := pR_L rfl rfl
theorem rX3_plain_109 : pR 123 d 109 [a0, a1, a2, a3, a4, a5, a6] (.int x :: st) h = if p1 a3 = true then pR 123 d 110 [a0, a1, a2, .int x, a4, a5, a6] st h else none := r_sto (n := 1) (k := 3) (v := .int x) (ls := [a0, a1, a2, a3, a4, a5, a6]) rfl rfl rfl
theorem rX3_plain_110 : pR 123 d 110 [a0, a1, a2, .int x, a4, a5, a6] st h = pR 123 d 111 [a0, a1, a2, .int x, a4, a5, a6] (.int x :: st) h := pR_L rfl rfl
theorem rX3_plain_111 : pR 123 d 111 [.ref o, a1, a2, a3, a4, a5, a6] st h = pR 123 d 112 [.ref o, a1, a2, a3, a4, a5, a6] (.ref o :: st) h := pR_L rfl rfl
theorem rX3_plain_112 : pR 123 d 112 ls (.ref o :: st) h = if pis (pfl h 3 o 13) = true then pR 123 d 115 ls (pfl h 3 o 13 :: st) h else none := r_get rfl
theorem rX3_plain_115 : pR 123 d 115 [a0, .int x, a2, a3, a4, a5, a6] st h = pR 123 d 116 [a0, .int x, a2, a3, a4, a5, a6] (.int x :: st) h := pR_L rfl rfl
theorem rX3_plain_116 : pR 123 d 116 ls (.int x :: .ref o :: st) h = if (pin x (pln h 0 o) || pin x (pln h 9 o)) = true then pR 123 d 117 ls (.int (pct h o x.toNatClampNeg) :: st) h else none := pR_Lif rfl rfl
theorem rX3_plain_117 : pR 123 d 117 ls (.int y :: .int x :: st) h = if x < y then pR 123 d 120 ls st h else pR 123 d 238 ls st h := r_cge rfl rfl
theorem rX3_plain_120 : pR 123 d 120 ls st h = pR 123 d 122 ls (.int 24 :: st) h := pR_L rfl rfl
theorem rX3_plain_122 : pR 123 d 122 [a0, .int x, a2, a3, a4, a5, a6] st h = pR 123 d 123 [a0, .int x, a2, a3, a4, a5, a6] (.int x :: st) h := pR_L rfl rfl
theorem rX3_plain_123 : pR 123 d 123 ls (.int y :: .int x :: st) h = pR 123 d 124 ls (.int (x * y) :: st) h := pR_L rfl rfl
theorem rX3_plain_124 : pR 123 d 124 [a0, a1, a2, .int x, a4, a5, a6] st h = pR 123 d 125 [a0, a1, a2, .int x, a4, a5, a6] (.int x :: st) h := pR_L rfl rfl
theorem rX3_plain_125 : pR 123 d 125 ls (.int y :: .int x :: st) h = pR 123 d 126 ls (.int (x + y) :: st) h := pR_L rfl rfl
theorem rX3_plain_126 : pR 123 d 126 [a0, a1, a2, a3, a4, a5, a6] (.int x :: st) h = if p1 a4 = true then pR 123 d 128 [a0, a1, a2, a3, .int x, a5, a6] st h else none := r_sto (n := 2) (k := 4) (v := .int x) (ls := [a0, a1, a2, a3, a4, a5, a6]) rfl rfl rfl
theorem rX3_plain_128 : pR 123 d 128 [.ref o, a1, a2, a3, a4, a5, a6] st h = pR 123 d 129 [.ref o, a1, a2, a3, a4, a5, a6] (.ref o :: st) h := pR_L rfl rfl
theorem rX3_plain_129 : pR 123 d 129 [a0, .int x, a2, a3, a4, a5, a6] st h = pR 123 d 130 [a0, .int x, a2, a3, a4, a5, a6] (.int x :: st) h := pR_L rfl rfl
theorem rX3_plain_130 : pR 123 d 130 [a0, a1, a2, .int x, a4, a5, a6] st h = pR 123 d 131 [a0, a1, a2, .int x, a4, a5, a6] (.int x :: st) h := pR_L rfl rfl
theorem rX3_plain_131 : pR 123 (d + 1) 131 ls (b2 :: b1 :: .ref o :: st) h = if (pok 3 (pcl h o) && pw st) = true then pK 123 (d + 1) 131 3 ls st (pCa 109 d [.ref o, b1, b2] h) else none := r_callV rfl rfl rfl
theorem rX3_plain_134 : pR 123 d 134 ls (.int x :: st) h = if x = 0 then pR 123 d 162 ls st h else pR 123 d 137 ls st h := r_ieq rfl rfl
theorem rX3_plain_137 : pR 123 d 137 [.ref o, a1, a2, a3, a4, a5, a6] st h = pR 123 d 138 [.ref o, a1, a2, a3, a4, a5, a6] (.ref o :: st) h := pR_L rfl rfl
theorem rX3_plain_138 : pR 123 d 138 [a0, .int x, a2, a3, a4, a5, a6] st h = pR 123 d 139 [a0, .int x, a2, a3, a4, a5, a6] (.int x :: st) h := pR_L rfl rfl
theorem rX3_plain_139 : pR 123 d 139 [a0, a1, a2, .int x, a4, a5, a6] st h = pR 123 d 140 [a0, a1, a2, .int x, a4, a5, a6] (.int x :: st) h := pR_L rfl rfl
theorem rX3_plain_140 : pR 123 (d + 1) 140 ls (b2 :: b1 :: .ref o :: st) h = if (pok 3 (pcl h o) && pw st) = true then pK 123 (d + 1) 140 3 ls st (pCa 110 d [.ref o, b1, b2] h) else none := r_callV rfl rfl rfl
theorem rX3_plain_143 : pR 123 d 143 ls (.int x :: st) h = if x = 0 then pR 123 d 162 ls st h else pR 123 d 146 ls st h := r_ieq rfl rfl
theorem rX3_plain_146 : pR 123 d 146 [.ref o, a1, a2, a3, a4, a5, a6] st h = pR 123 d 147 [.ref o, a1, a2, a3, a4, a5, a6] (.ref o :: st) h := pR_L rfl rfl
theorem rX3_plain_147 : pR 123 d 147 ls (.ref o :: st) h = if pis (pfl h 3 o 21) = true then pR 123 d 150 ls (pfl h 3 o 21 :: st) h else none := r_get rfl
theorem rX3_plain_150 : pR 123 d 150 [.ref o, a1, a2, a3, a4, a5, a6] st h = pR 123 d 151 [.ref o, a1, a2, a3, a4, a5, a6] (.ref o :: st) h := pR_L rfl rfl
theorem rX3_plain_151 : pR 123 d 151 ls (.ref o :: st) h = if pis (pfl h 3 o 17) = true then pR 123 d 154 ls (pfl h 3 o 17 :: st) h else none := r_get rfl
theorem rX3_plain_154 : pR 123 d 154 [a0, a1, a2, a3, .int x, a5, a6] st h = pR 123 d 156 [a0, a1, a2, a3, .int x, a5, a6] (.int x :: st) h := pR_L rfl rfl
theorem rX3_plain_156 : pR 123 d 156 ls (.int x :: .ref o :: st) h = if (pin x (pln h 0 o) || pin x (pln h 9 o)) = true then pR 123 d 157 ls (.int (pct h o x.toNatClampNeg) :: st) h else none := pR_Lif rfl rfl
theorem rX3_plain_157 : pR 123 d 157 ls st h = pR 123 d 158 ls (.int (-1) :: st) h := pR_L rfl rfl
theorem rX3_plain_158 : pR 123 d 158 ls (.int y :: .int x :: .ref o :: st) h = if pin x (pln h 0 o) = true then pR 123 d 159 ls st (pst h o x.toNatClampNeg y) else none := pR_Lif rfl rfl
theorem rX3_plain_159 : pR 123 d 159 ls st h = pR 123 d 232 ls st h := pR_L rfl rfl
theorem rX3_plain_162 : pR 123 d 162 ls st h = pR 123 d 163 ls (.int 0 :: st) h := pR_L rfl rfl
theorem rX3_plain_163 : pR 123 d 163 [a0, a1, a2, a3, a4, a5, a6] (.int x :: st) h = if p1 a5 = true then pR 123 d 165 [a0, a1, a2, a3, a4, .int x, a6] st h else none := r_sto (n := 2) (k := 5) (v := .int x) (ls := [a0, a1, a2, a3, a4, a5, a6]) rfl rfl rfl
theorem rX3_plain_165 : pR 123 d 165 [a0, a1, .int x, a3, a4, a5, a6] st h = pR 123 d 166 [a0, a1, .int x, a3, a4, a5, a6] (.int x :: st) h := pR_L rfl rfl
theorem rX3_plain_166 : pR 123 d 166 [a0, a1, a2, a3, a4, a5, a6] (.int x :: st) h = if p1 a6 = true then pR 123 d 168 [a0, a1, a2, a3, a4, a5, .int x] st h else none := r_sto (n := 2) (k := 6) (v := .int x) (ls := [a0, a1, a2, a3, a4, a5, a6]) rfl rfl rfl
theorem rX3_plain_168 : pR 123 d 168 [a0, a1, a2, a3, a4, a5, .int x] st h = pR 123 d 170 [a0, a1, a2, a3, a4, a5, .int x] (.int x :: st) h := pR_L rfl rfl
theorem rX3_plain_170 : pR 123 d 170 [a0, a1, a2, .int x, a4, a5, a6] st h = pR 123 d 171 [a0, a1, a2, .int x, a4, a5, a6] (.int x :: st) h := pR_L rfl rfl
theorem rX3_plain_171 : pR 123 d 171 ls (.int y :: .int x :: st) h = if y < x then pR 123 d 197 ls st h else pR 123 d 174 ls st h := r_cgt rfl rfl
theorem rX3_plain_174 : pR 123 d 174 [a0, a1, a2, a3, a4, .int x, a6] st h = pR 123 d 176 [a0, a1, a2, a3, a4, .int x, a6] (.int x :: st) h := pR_L rfl rfl
theorem rX3_plain_176 : pR 123 d 176 [.ref o, a1, a2, a3, a4, a5, a6] st h = pR 123 d 177 [.ref o, a1, a2, a3, a4, a5, a6] (.ref o :: st) h := pR_L rfl rfl
theorem rX3_plain_177 : pR 123 d 177 ls (.ref o :: st) h = if pis (pfl h 3 o 15) = true then pR 123 d 180 ls (pfl h 3 o 15 :: st) h else none := r_get rfl
theorem rX3_plain_180 : pR 123 d 180 ls st h = pR 123 d 182 ls (.int 24 :: st) h := pR_L rfl rfl
theorem rX3_plain_182 : pR 123 d 182 [a0, .int x, a2, a3, a4, a5, a6] st h = pR 123 d 183 [a0, .int x, a2, a3, a4, a5, a6] (.int x :: st) h := pR_L rfl rfl
theorem rX3_plain_183 : pR 123 d 183 ls (.int y :: .int x :: st) h = pR 123 d 184 ls (.int (x * y) :: st) h := pR_L rfl rfl
theorem rX3_plain_184 : pR 123 d 184 [a0, a1, a2, a3, a4, a5, .int x] st h = pR 123 d 186 [a0, a1, a2, a3, a4, a5, .int x] (.int x :: st) h := pR_L rfl rfl
theorem rX3_plain_186 : pR 123 d 186 ls (.int y :: .int x :: st) h = pR 123 d 187 ls (.int (x + y) :: st) h := pR_L rfl rfl
theorem rX3_plain_187 : pR 123 d 187 ls (.int x :: .ref o :: st) h = if (pin x (pln h 0 o) || pin x (pln h 9 o)) = true then pR 123 d 188 ls (.int (pct h o x.toNatClampNeg) :: st) h else none := pR_Lif rfl rfl
theorem rX3_plain_188 : pR 123 d 188 ls (.int y :: .int x :: st) h = pR 123 d 189 ls (.int (x + y) :: st) h := pR_L rfl rfl
theorem rX3_plain_189 : pR 123 d 189 [a0, a1, a2, a3, a4, a5, a6] (.int x :: st) h = if p1 a5 = true then pR 123 d 191 [a0, a1, a2, a3, a4, .int x, a6] st h else none := r_sto (n := 2) (k := 5) (v := .int x) (ls := [a0, a1, a2, a3, a4, a5, a6]) rfl rfl rfl
theorem rX3_plain_191 : pR 123 d 191 [a0, a1, a2, a3, a4, a5, .int x] st h = pR 123 d 194 [a0, a1, a2, a3, a4, a5, .int (x + 1)] st h := pR_L rfl rfl
theorem rX3_plain_194 : pR 123 d 194 ls st h = pR 123 d 168 ls st h := pR_L rfl rfl
theorem rX3_plain_197 : pR 123 d 197 [.ref o, a1, a2, a3, a4, a5, a6] st h = pR 123 d 198 [.ref o, a1, a2, a3, a4, a5, a6] (.ref o :: st) h := pR_L rfl rfl
theorem rX3_plain_198 : pR 123 d 198 [a0, a1, a2, a3, a4, .int x, a6] st h = pR 123 d 200 [a0, a1, a2, a3, a4, .int x, a6] (.int x :: st) h := pR_L rfl rfl
theorem rX3_plain_200 : pR 123 d 200 [.ref o, a1, a2, a3, a4, a5, a6] st h = pR 123 d 201 [.ref o, a1, a2, a3, a4, a5, a6] (.ref o :: st) h := pR_L rfl rfl
theorem rX3_plain_201 : pR 123 d 201 ls (.ref o :: st) h = if pis (pfl h 3 o 18) = true then pR 123 d 204 ls (pfl h 3 o 18 :: st) h else none := r_get rfl
theorem rX3_plain_204 : pR 123 d 204 [a0, a1, a2, a3, .int x, a5, a6] st h = pR 123 d 206 [a0, a1, a2, a3, .int x, a5, a6] (.int x :: st) h := pR_L rfl rfl
theorem rX3_plain_206 : pR 123 d 206 ls (.int x :: .ref o :: st) h = if (pin x (pln h 0 o) || pin x (pln h 9 o)) = true then pR 123 d 207 ls (.int (pct h o x.toNatClampNeg) :: st) h else none := pR_Lif rfl rfl
theorem rX3_plain_207 : pR 123 d 207 [.ref o, a1, a2, a3, a4, a5, a6] st h = pR 123 d 208 [.ref o, a1, a2, a3, a4, a5, a6] (.ref o :: st) h := pR_L rfl rfl
theorem rX3_plain_208 : pR 123 d 208 ls (.ref o :: st) h = if pis (pfl h 3 o 16) = true then pR 123 d 211 ls (pfl h 3 o 16 :: st) h else none := r_get rfl
theorem rX3_plain_211 : pR 123 d 211 ls st h = pR 123 d 213 ls (.int 24 :: st) h := pR_L rfl rfl
theorem rX3_plain_213 : pR 123 d 213 [a0, .int x, a2, a3, a4, a5, a6] st h = pR 123 d 214 [a0, .int x, a2, a3, a4, a5, a6] (.int x :: st) h := pR_L rfl rfl
theorem rX3_plain_214 : pR 123 d 214 ls (.int y :: .int x :: st) h = pR 123 d 215 ls (.int (x * y) :: st) h := pR_L rfl rfl
theorem rX3_plain_215 : pR 123 d 215 [a0, a1, .int x, a3, a4, a5, a6] st h = pR 123 d 216 [a0, a1, .int x, a3, a4, a5, a6] (.int x :: st) h := pR_L rfl rfl
theorem rX3_plain_216 : pR 123 d 216 ls (.int y :: .int x :: st) h = pR 123 d 217 ls (.int (x + y) :: st) h := pR_L rfl rfl
theorem rX3_plain_217 : pR 123 d 217 ls (.int x :: .ref o :: st) h = if (pin x (pln h 0 o) || pin x (pln h 9 o)) = true then pR 123 d 218 ls (.int (pct h o x.toNatClampNeg) :: st) h else none := pR_Lif rfl rfl
theorem rX3_plain_218 : pR 123 d 218 [.ref o, a1, a2, a3, a4, a5, a6] st h = pR 123 d 219 [.ref o, a1, a2, a3, a4, a5, a6] (.ref o :: st) h := pR_L rfl rfl
theorem rX3_plain_219 : pR 123 d 219 ls (.ref o :: st) h = if pis (pfl h 3 o 17) = true then pR 123 d 222 ls (pfl h 3 o 17 :: st) h else none := r_get rfl
theorem rX3_plain_222 : pR 123 d 222 [a0, a1, a2, a3, .int x, a5, a6] st h = pR 123 d 224 [a0, a1, a2, a3, .int x, a5, a6] (.int x :: st) h := pR_L rfl rfl
theorem rX3_plain_224 : pR 123 d 224 ls (.int x :: .ref o :: st) h = if (pin x (pln h 0 o) || pin x (pln h 9 o)) = true then pR 123 d 225 ls (.int (pct h o x.toNatClampNeg) :: st) h else none := pR_Lif rfl rfl
theorem rX3_plain_225 : pR 123 (d + 1) 225 ls (b4 :: b3 :: b2 :: b1 :: .ref o :: st) h = if (pok 3 (pcl h o) && pw st) = true then pK 123 (d + 1) 225 3 ls st (pCa 125 d [.ref o, b1, b2, b3, b4] h) else none := r_callV rfl rfl rfl
theorem rX3_plain_228 : pR 123 d 228 [a0, a1, a2, .int x, a4, a5, a6] st h = pR 123 d 229 [a0, a1, a2, .int x, a4, a5, a6] (.int x :: st) h := pR_L rfl rfl
theorem rX3_plain_229 : pR 123 d 229 ls st h = pR 123 d 230 ls (.int 1 :: st) h := pR_L rfl rfl
theorem rX3_plain_230 : pR 123 d 230 ls (.int y :: .int x :: st) h = pR 123 d 231 ls (.int (x + y) :: st) h := pR_L rfl rfl
theorem rX3_plain_231 : pR 123 d 231 [a0, a1, a2, a3, a4, a5, a6] (.int x :: st) h = if p1 a2 = true then pR 123 d 232 [a0, a1, .int x, a3, a4, a5, a6] st h else none := r_sto (n := 1) (k := 2) (v := .int x) (ls := [a0, a1, a2, a3, a4, a5, a6]) rfl rfl rfl
theorem rX3_plain_232 : pR 123 d 232 [a0, a1, a2, .int x, a4, a5, a6] st h = pR 123 d 235 [a0, a1, a2, .int (x + 1), a4, a5, a6] st h := pR_L rfl rfl
theorem rX3_plain_235 : pR 123 d 235 ls st h = pR 123 d 110 ls st h := pR_L rfl rfl
theorem rX3_plain_238 : pR 123 d 238 [.ref o, a1, a2, a3, a4, a5, a6] st h = pR 123 d 239 [.ref o, a1, a2, a3, a4, a5, a6] (.ref o :: st) h := pR_L rfl rfl
theorem rX3_plain_239 : pR 123 d 239 [.ref o, a1, a2, a3, a4, a5, a6] st h = pR 123 d 240 [.ref o, a1, a2, a3, a4, a5, a6] (.ref o :: st) h := pR_L rfl rfl
theorem rX3_plain_240 : pR 123 d 240 ls (.ref o :: st) h = if pis (pfl h 3 o 14) = true then pR 123 d 243 ls (pfl h 3 o 14 :: st) h else none := r_get rfl
theorem rX3_plain_243 : pR 123 d 243 [a0, .int x, a2, a3, a4, a5, a6] st h = pR 123 d 244 [a0, .int x, a2, a3, a4, a5, a6] (.int x :: st) h := pR_L rfl rfl
theorem rX3_plain_244 : pR 123 d 244 ls (.int x :: .ref o :: st) h = if (pin x (pln h 0 o) || pin x (pln h 9 o)) = true then pR 123 d 245 ls (.int (pct h o x.toNatClampNeg) :: st) h else none := pR_Lif rfl rfl
theorem rX3_plain_245 : pR 123 (d + 1) 245 ls (b1 :: .ref o :: st) h = if (pok 3 (pcl h o) && pw st) = true then pK 123 (d + 1) 245 3 ls st (pCa 126 d [.ref o, b1] h) else none := r_callV rfl rfl rfl
theorem rX3_plain_248 : pR 123 d 248 [.ref o, a1, a2, a3, a4, a5, a6] st h = pR 123 d 249 [.ref o, a1, a2, a3, a4, a5, a6] (.ref o :: st) h := pR_L rfl rfl
theorem rX3_plain_249 : pR 123 d 249 ls (.ref o :: st) h = if pis (pfl h 3 o 20) = true then pR 123 d 252 ls (pfl h 3 o 20 :: st) h else none := r_get rfl
theorem rX3_plain_252 : pR 123 d 252 ls st h = pR 123 d 253 ls (.int 1 :: st) h := pR_L rfl rfl
theorem rX3_plain_253 : pR 123 d 253 ls (.int y :: .int x :: st) h = pR 123 d 254 ls (.int (x - y) :: st) h := pR_L rfl rfl
theorem rX3_plain_254 : pR 123 d 254 ls [.int x] h = some (.inl (some (.int x)), h) := pR_E rfl rfl
-- 124 BalloonStallModel startFigure ()V
theorem eX3_startFigure : pCa 124 d [.ref o] h = pR 124 d 0 [.ref o] [] h := rfl
theorem rX3_startFigure_0 : pR 124 d 0 [.ref o] st h = pR 124 d 1 [.ref o] (.ref o :: st) h := pR_L rfl rfl
theorem rX3_startFigure_1 : pR 124 d 1 ls (.ref o :: st) h = if pis (pfl h 3 o 13) = true then pR 124 d 4 ls (pfl h 3 o 13 :: st) h else none := r_get rfl
theorem rX3_startFigure_4 : pR 124 d 4 [.ref o] st h = pR 124 d 5 [.ref o] (.ref o :: st) h := pR_L rfl rfl
theorem rX3_startFigure_5 : pR 124 d 5 ls (.ref o :: st) h = if pis (pfl h 3 o 20) = true then pR 124 d 8 ls (pfl h 3 o 20 :: st) h else none := r_get rfl
theorem rX3_startFigure_8 : pR 124 d 8 ls st h = pR 124 d 9 ls (.int 0 :: st) h := pR_L rfl rfl
theorem rX3_startFigure_9 : pR 124 d 9 ls (.int y :: .int x :: .ref o :: st) h = if pin x (pln h 0 o) = true then pR 124 d 10 ls st (pst h o x.toNatClampNeg y) else none := pR_Lif rfl rfl
theorem rX3_startFigure_10 : pR 124 d 10 [.ref o] st h = pR 124 d 11 [.ref o] (.ref o :: st) h := pR_L rfl rfl
theorem rX3_startFigure_11 : pR 124 d 11 ls (.ref o :: st) h = if pis (pfl h 3 o 11) = true then pR 124 d 14 ls (pfl h 3 o 11 :: st) h else none := r_get rfl
theorem rX3_startFigure_14 : pR 124 d 14 [.ref o] st h = pR 124 d 15 [.ref o] (.ref o :: st) h := pR_L rfl rfl
theorem rX3_startFigure_15 : pR 124 d 15 ls (.ref o :: st) h = if pis (pfl h 3 o 20) = true then pR 124 d 18 ls (pfl h 3 o 20 :: st) h else none := r_get rfl
theorem rX3_startFigure_18 : pR 124 d 18 ls st h = pR 124 d 19 ls (.int 0 :: st) h := pR_L rfl rfl
theorem rX3_startFigure_19 : pR 124 d 19 ls (.int y :: .int x :: .ref o :: st) h = if pin x (pln h 0 o) = true then pR 124 d 20 ls st (pst h o x.toNatClampNeg y) else none := pR_Lif rfl rfl
theorem rX3_startFigure_20 : pR 124 d 20 ls [] h = some (.inl none, h) := pR_E rfl rfl
-- 125 BalloonStallModel put (IIII)V
theorem eX3_put : pCa 125 d [.ref o, .int x0, .int x1, .int x2, .int x3] h = pR 125 d 0 [.ref o, .int x0, .int x1, .int x2, .int x3, pU] [] h := rfl
theorem rX3_put_0 : pR 125 d 0 ls st h = pR 125 d 2 ls (.int 24 :: st) h := pR_L rfl rfl
theorem rX3_put_2 : pR 125 d 2 [.ref o, a1, a2, a3, a4, a5] st h = pR 125 d 3 [.ref o, a1, a2, a3, a4, a5] (.ref o :: st) h := pR_L rfl rfl
theorem rX3_put_3 : pR 125 d 3 ls (.ref o :: st) h = if pis (pfl h 3 o 20) = true then pR 125 d 6 ls (pfl h 3 o 20 :: st) h else none := r_get rfl
theorem rX3_put_6 : pR 125 d 6 ls (.int y :: .int x :: st) h = pR 125 d 7 ls (.int (x * y) :: st) h := pR_L rfl rfl
theorem rX3_put_7 : pR 125 d 7 [.ref o, a1, a2, a3, a4, a5] st h = pR 125 d 8 [.ref o, a1, a2, a3, a4, a5] (.ref o :: st) h := pR_L rfl rfl
theorem rX3_put_8 : pR 125 d 8 ls (.ref o :: st) h = if pis (pfl h 3 o 13) = true then pR 125 d 11 ls (pfl h 3 o 13 :: st) h else none := r_get rfl
theorem rX3_put_11 : pR 125 d 11 [.ref o, a1, a2, a3, a4, a5] st h = pR 125 d 12 [.ref o, a1, a2, a3, a4, a5] (.ref o :: st) h := pR_L rfl rfl
theorem rX3_put_12 : pR 125 d 12 ls (.ref o :: st) h = if pis (pfl h 3 o 20) = true then pR 125 d 15 ls (pfl h 3 o 20 :: st) h else none := r_get rfl
theorem rX3_put_15 : pR 125 d 15 ls (.int x :: .ref o :: st) h = if (pin x (pln h 0 o) || pin x (pln h 9 o)) = true then pR 125 d 16 ls (.int (pct h o x.toNatClampNeg) :: st) h else none := pR_Lif rfl rfl
theorem rX3_put_16 : pR 125 d 16 ls (.int y :: .int x :: st) h = pR 125 d 17 ls (.int (x + y) :: st) h := pR_L rfl rfl
theorem rX3_put_17 : pR 125 d 17 [a0, a1, a2, a3, a4, a5] (.int x :: st) h = if p1 a5 = true then pR 125 d 19 [a0, a1, a2, a3, a4, .int x] st h else none := r_sto (n := 2) (k := 5) (v := .int x) (ls := [a0, a1, a2, a3, a4, a5]) rfl rfl rfl
theorem rX3_put_19 : pR 125 d 19 [.ref o, a1, a2, a3, a4, a5] st h = pR 125 d 20 [.ref o, a1, a2, a3, a4, a5] (.ref o :: st) h := pR_L rfl rfl
theorem rX3_put_20 : pR 125 d 20 ls (.ref o :: st) h = if pis (pfl h 3 o 15) = true then pR 125 d 23 ls (pfl h 3 o 15 :: st) h else none := r_get rfl
theorem rX3_put_23 : pR 125 d 23 [a0, a1, a2, a3, a4, .int x] st h = pR 125 d 25 [a0, a1, a2, a3, a4, .int x] (.int x :: st) h := pR_L rfl rfl
theorem rX3_put_25 : pR 125 d 25 [a0, .int x, a2, a3, a4, a5] st h = pR 125 d 26 [a0, .int x, a2, a3, a4, a5] (.int x :: st) h := pR_L rfl rfl
theorem rX3_put_26 : pR 125 d 26 ls (.int y :: .int x :: .ref o :: st) h = if pin x (pln h 0 o) = true then pR 125 d 27 ls st (pst h o x.toNatClampNeg y) else none := pR_Lif rfl rfl
theorem rX3_put_27 : pR 125 d 27 [.ref o, a1, a2, a3, a4, a5] st h = pR 125 d 28 [.ref o, a1, a2, a3, a4, a5] (.ref o :: st) h := pR_L rfl rfl
theorem rX3_put_28 : pR 125 d 28 ls (.ref o :: st) h = if pis (pfl h 3 o 18) = true then pR 125 d 31 ls (pfl h 3 o 18 :: st) h else none := r_get rfl
theorem rX3_put_31 : pR 125 d 31 [a0, a1, a2, a3, a4, .int x] st h = pR 125 d 33 [a0, a1, a2, a3, a4, .int x] (.int x :: st) h := pR_L rfl rfl
theorem rX3_put_33 : pR 125 d 33 [a0, a1, .int x, a3, a4, a5] st h = pR 125 d 34 [a0, a1, .int x, a3, a4, a5] (.int x :: st) h := pR_L rfl rfl
theorem rX3_put_34 : pR 125 d 34 ls (.int y :: .int x :: .ref o :: st) h = if pin x (pln h 0 o) = true then pR 125 d 35 ls st (pst h o x.toNatClampNeg y) else none := pR_Lif rfl rfl
theorem rX3_put_35 : pR 125 d 35 [.ref o, a1, a2, a3, a4, a5] st h = pR 125 d 36 [.ref o, a1, a2, a3, a4, a5] (.ref o :: st) h := pR_L rfl rfl
theorem rX3_put_36 : pR 125 d 36 ls (.ref o :: st) h = if pis (pfl h 3 o 16) = true then pR 125 d 39 ls (pfl h 3 o 16 :: st) h else none := r_get rfl
theorem rX3_put_39 : pR 125 d 39 [a0, a1, a2, a3, a4, .int x] st h = pR 125 d 41 [a0, a1, a2, a3, a4, .int x] (.int x :: st) h := pR_L rfl rfl
theorem rX3_put_41 : pR 125 d 41 [a0, a1, a2, .int x, a4, a5] st h = pR 125 d 42 [a0, a1, a2, .int x, a4, a5] (.int x :: st) h := pR_L rfl rfl
theorem rX3_put_42 : pR 125 d 42 ls (.int y :: .int x :: .ref o :: st) h = if pin x (pln h 0 o) = true then pR 125 d 43 ls st (pst h o x.toNatClampNeg y) else none := pR_Lif rfl rfl
theorem rX3_put_43 : pR 125 d 43 [.ref o, a1, a2, a3, a4, a5] st h = pR 125 d 44 [.ref o, a1, a2, a3, a4, a5] (.ref o :: st) h := pR_L rfl rfl
theorem rX3_put_44 : pR 125 d 44 ls (.ref o :: st) h = if pis (pfl h 3 o 17) = true then pR 125 d 47 ls (pfl h 3 o 17 :: st) h else none := r_get rfl
theorem rX3_put_47 : pR 125 d 47 [a0, a1, a2, a3, a4, .int x] st h = pR 125 d 49 [a0, a1, a2, a3, a4, .int x] (.int x :: st) h := pR_L rfl rfl
theorem rX3_put_49 : pR 125 d 49 [a0, a1, a2, a3, .int x, a5] st h = pR 125 d 51 [a0, a1, a2, a3, .int x, a5] (.int x :: st) h := pR_L rfl rfl
theorem rX3_put_51 : pR 125 d 51 ls (.int y :: .int x :: .ref o :: st) h = if pin x (pln h 0 o) = true then pR 125 d 52 ls st (pst h o x.toNatClampNeg y) else none := pR_Lif rfl rfl
theorem rX3_put_52 : pR 125 d 52 [.ref o, a1, a2, a3, a4, a5] st h = pR 125 d 53 [.ref o, a1, a2, a3, a4, a5] (.ref o :: st) h := pR_L rfl rfl
theorem rX3_put_53 : pR 125 d 53 ls (.ref o :: st) h = if pis (pfl h 3 o 13) = true then pR 125 d 56 ls (pfl h 3 o 13 :: st) h else none := r_get rfl
theorem rX3_put_56 : pR 125 d 56 [.ref o, a1, a2, a3, a4, a5] st h = pR 125 d 57 [.ref o, a1, a2, a3, a4, a5] (.ref o :: st) h := pR_L rfl rfl
theorem rX3_put_57 : pR 125 d 57 ls (.ref o :: st) h = if pis (pfl h 3 o 20) = true then pR 125 d 60 ls (pfl h 3 o 20 :: st) h else none := r_get rfl
theorem rX3_put_60 : pR 125 d 60 ls (.int x :: .ref o :: st) h = pR 125 d 61 ls (.int x :: .ref o :: .int x :: .ref o :: st) h := pR_L rfl rfl
theorem rX3_put_61 : pR 125 d 61 ls (.int x :: .ref o :: st) h = if (pin x (pln h 0 o) || pin x (pln h 9 o)) = true then pR 125 d 62 ls (.int (pct h o x.toNatClampNeg) :: st) h else none := pR_Lif rfl rfl
theorem rX3_put_62 : pR 125 d 62 ls st h = pR 125 d 63 ls (.int 1 :: st) h := pR_L rfl rfl
theorem rX3_put_63 : pR 125 d 63 ls (.int y :: .int x :: st) h = pR 125 d 64 ls (.int (x + y) :: st) h := pR_L rfl rfl
theorem rX3_put_64 : pR 125 d 64 ls (.int y :: .int x :: .ref o :: st) h = if pin x (pln h 0 o) = true then pR 125 d 65 ls st (pst h o x.toNatClampNeg y) else none := pR_Lif rfl rfl
theorem rX3_put_65 : pR 125 d 65 ls [] h = some (.inl none, h) := pR_E rfl rfl
-- 126 BalloonStallModel endFigure (I)V
theorem eX3_endFigure : pCa 126 d [.ref o, .int x0] h = pR 126 d 0 [.ref o, .int x0, pU, pU] [] h := rfl
theorem rX3_endFigure_0 : pR 126 d 0 ls st h = pR 126 d 1 ls (.int 0 :: st) h := pR_L rfl rfl
theorem rX3_endFigure_1 : pR 126 d 1 [a0, a1, a2, a3] (.int x :: st) h = if p1 a2 = true then pR 126 d 2 [a0, a1, .int x, a3] st h else none := r_sto (n := 1) (k := 2) (v := .int x) (ls := [a0, a1, a2, a3]) rfl rfl rfl
theorem rX3_endFigure_2 : pR 126 d 2 ls st h = pR 126 d 3 ls (.int 0 :: st) h := pR_L rfl rfl
theorem rX3_endFigure_3 : pR 126 d 3 [a0, a1, a2, a3] (.int x :: st) h = if p1 a3 = true then pR 126 d 4 [a0, a1, a2, .int x] st h else none := r_sto (n := 1) (k := 3) (v := .int x) (ls := [a0, a1, a2, a3]) rfl rfl rfl
theorem rX3_endFigure_4 : pR 126 d 4 [a0, a1, a2, .int x] st h = pR 126 d 5 [a0, a1, a2, .int x] (.int x :: st) h := pR_L rfl rfl
theorem rX3_endFigure_5 : pR 126 d 5 [a0, .int x, a2, a3] st h = pR 126 d 6 [a0, .int x, a2, a3] (.int x :: st) h := pR_L rfl rfl
theorem rX3_endFigure_6 : pR 126 d 6 ls (.int y :: .int x :: st) h = if x < y then pR 126 d 9 ls st h else pR 126 d 54 ls st h := r_cge rfl rfl
theorem rX3_endFigure_9 : pR 126 d 9 [.ref o, a1, a2, a3] st h = pR 126 d 10 [.ref o, a1, a2, a3] (.ref o :: st) h := pR_L rfl rfl
theorem rX3_endFigure_10 : pR 126 d 10 ls (.ref o :: st) h = if pis (pfl h 3 o 26) = true then pR 126 d 13 ls (pfl h 3 o 26 :: st) h else none := r_get rfl
theorem rX3_endFigure_13 : pR 126 d 13 [a0, a1, a2, .int x] st h = pR 126 d 14 [a0, a1, a2, .int x] (.int x :: st) h := pR_L rfl rfl
theorem rX3_endFigure_14 : pR 126 d 14 [.ref o, a1, a2, a3] st h = pR 126 d 15 [.ref o, a1, a2, a3] (.ref o :: st) h := pR_L rfl rfl
theorem rX3_endFigure_15 : pR 126 d 15 ls (.ref o :: st) h = if pis (pfl h 3 o 21) = true then pR 126 d 18 ls (pfl h 3 o 21 :: st) h else none := r_get rfl
theorem rX3_endFigure_18 : pR 126 d 18 [a0, a1, a2, .int x] st h = pR 126 d 19 [a0, a1, a2, .int x] (.int x :: st) h := pR_L rfl rfl
theorem rX3_endFigure_19 : pR 126 d 19 ls (.int x :: .ref o :: st) h = if (pin x (pln h 0 o) || pin x (pln h 9 o)) = true then pR 126 d 20 ls (.int (pct h o x.toNatClampNeg) :: st) h else none := pR_Lif rfl rfl
theorem rX3_endFigure_20 : pR 126 d 20 [a0, a1, a2, .int x] st h = pR 126 d 21 [a0, a1, a2, .int x] (.int x :: st) h := pR_L rfl rfl
theorem rX3_endFigure_21 : pR 126 d 21 ls (.int y :: .int x :: st) h = if x = y then pR 126 d 24 ls st h else pR 126 d 28 ls st h := r_cne rfl rfl
theorem rX3_endFigure_24 : pR 126 d 24 [a0, a1, .int x, a3] st h = pR 126 d 25 [a0, a1, .int x, a3] (.int x :: st) h := pR_L rfl rfl
theorem rX3_endFigure_25 : pR 126 d 25 ls st h = pR 126 d 29 ls st h := pR_L rfl rfl
theorem rX3_endFigure_28 : pR 126 d 28 ls st h = pR 126 d 29 ls (.int (-1) :: st) h := pR_L rfl rfl
theorem rX3_endFigure_29 : pR 126 d 29 ls (.int y :: .int x :: .ref o :: st) h = if pin x (pln h 0 o) = true then pR 126 d 30 ls st (pst h o x.toNatClampNeg y) else none := pR_Lif rfl rfl
theorem rX3_endFigure_30 : pR 126 d 30 [a0, a1, .int x, a3] st h = pR 126 d 31 [a0, a1, .int x, a3] (.int x :: st) h := pR_L rfl rfl
theorem rX3_endFigure_31 : pR 126 d 31 [.ref o, a1, a2, a3] st h = pR 126 d 32 [.ref o, a1, a2, a3] (.ref o :: st) h := pR_L rfl rfl
theorem rX3_endFigure_32 : pR 126 d 32 ls (.ref o :: st) h = if pis (pfl h 3 o 21) = true then pR 126 d 35 ls (pfl h 3 o 21 :: st) h else none := r_get rfl
theorem rX3_endFigure_35 : pR 126 d 35 [a0, a1, a2, .int x] st h = pR 126 d 36 [a0, a1, a2, .int x] (.int x :: st) h := pR_L rfl rfl
theorem rX3_endFigure_36 : pR 126 d 36 ls (.int x :: .ref o :: st) h = if (pin x (pln h 0 o) || pin x (pln h 9 o)) = true then pR 126 d 37 ls (.int (pct h o x.toNatClampNeg) :: st) h else none := pR_Lif rfl rfl
theorem rX3_endFigure_37 : pR 126 d 37 [a0, a1, a2, .int x] st h = pR 126 d 38 [a0, a1, a2, .int x] (.int x :: st) h := pR_L rfl rfl
theorem rX3_endFigure_38 : pR 126 d 38 ls (.int y :: .int x :: st) h = if x = y then pR 126 d 41 ls st h else pR 126 d 45 ls st h := r_cne rfl rfl
theorem rX3_endFigure_41 : pR 126 d 41 ls st h = pR 126 d 42 ls (.int 1 :: st) h := pR_L rfl rfl
theorem rX3_endFigure_42 : pR 126 d 42 ls st h = pR 126 d 46 ls st h := pR_L rfl rfl
theorem rX3_endFigure_45 : pR 126 d 45 ls st h = pR 126 d 46 ls (.int 0 :: st) h := pR_L rfl rfl
theorem rX3_endFigure_46 : pR 126 d 46 ls (.int y :: .int x :: st) h = pR 126 d 47 ls (.int (x + y) :: st) h := pR_L rfl rfl
theorem rX3_endFigure_47 : pR 126 d 47 [a0, a1, a2, a3] (.int x :: st) h = if p1 a2 = true then pR 126 d 48 [a0, a1, .int x, a3] st h else none := r_sto (n := 1) (k := 2) (v := .int x) (ls := [a0, a1, a2, a3]) rfl rfl rfl
theorem rX3_endFigure_48 : pR 126 d 48 [a0, a1, a2, .int x] st h = pR 126 d 51 [a0, a1, a2, .int (x + 1)] st h := pR_L rfl rfl
theorem rX3_endFigure_51 : pR 126 d 51 ls st h = pR 126 d 4 ls st h := pR_L rfl rfl
theorem rX3_endFigure_54 : pR 126 d 54 ls st h = pR 126 d 56 ls (.int 24 :: st) h := pR_L rfl rfl
theorem rX3_endFigure_56 : pR 126 d 56 [.ref o, a1, a2, a3] st h = pR 126 d 57 [.ref o, a1, a2, a3] (.ref o :: st) h := pR_L rfl rfl
theorem rX3_endFigure_57 : pR 126 d 57 ls (.ref o :: st) h = if pis (pfl h 3 o 20) = true then pR 126 d 60 ls (pfl h 3 o 20 :: st) h else none := r_get rfl
theorem rX3_endFigure_60 : pR 126 d 60 ls (.int y :: .int x :: st) h = pR 126 d 61 ls (.int (x * y) :: st) h := pR_L rfl rfl
theorem rX3_endFigure_61 : pR 126 d 61 [a0, a1, a2, a3] (.int x :: st) h = if p1 a3 = true then pR 126 d 62 [a0, a1, a2, .int x] st h else none := r_sto (n := 1) (k := 3) (v := .int x) (ls := [a0, a1, a2, a3]) rfl rfl rfl
theorem rX3_endFigure_62 : pR 126 d 62 [a0, a1, a2, .int x] st h = pR 126 d 63 [a0, a1, a2, .int x] (.int x :: st) h := pR_L rfl rfl
theorem rX3_endFigure_63 : pR 126 d 63 ls st h = pR 126 d 65 ls (.int 24 :: st) h := pR_L rfl rfl
theorem rX3_endFigure_65 : pR 126 d 65 [.ref o, a1, a2, a3] st h = pR 126 d 66 [.ref o, a1, a2, a3] (.ref o :: st) h := pR_L rfl rfl
theorem rX3_endFigure_66 : pR 126 d 66 ls (.ref o :: st) h = if pis (pfl h 3 o 20) = true then pR 126 d 69 ls (pfl h 3 o 20 :: st) h else none := r_get rfl
theorem rX3_endFigure_69 : pR 126 d 69 ls (.int y :: .int x :: st) h = pR 126 d 70 ls (.int (x * y) :: st) h := pR_L rfl rfl
theorem rX3_endFigure_70 : pR 126 d 70 [.ref o, a1, a2, a3] st h = pR 126 d 71 [.ref o, a1, a2, a3] (.ref o :: st) h := pR_L rfl rfl
theorem rX3_endFigure_71 : pR 126 d 71 ls (.ref o :: st) h = if pis (pfl h 3 o 13) = true then pR 126 d 74 ls (pfl h 3 o 13 :: st) h else none := r_get rfl
theorem rX3_endFigure_74 : pR 126 d 74 [.ref o, a1, a2, a3] st h = pR 126 d 75 [.ref o, a1, a2, a3] (.ref o :: st) h := pR_L rfl rfl
theorem rX3_endFigure_75 : pR 126 d 75 ls (.ref o :: st) h = if pis (pfl h 3 o 20) = true then pR 126 d 78 ls (pfl h 3 o 20 :: st) h else none := r_get rfl
theorem rX3_endFigure_78 : pR 126 d 78 ls (.int x :: .ref o :: st) h = if (pin x (pln h 0 o) || pin x (pln h 9 o)) = true then pR 126 d 79 ls (.int (pct h o x.toNatClampNeg) :: st) h else none := pR_Lif rfl rfl
theorem rX3_endFigure_79 : pR 126 d 79 ls (.int y :: .int x :: st) h = pR 126 d 80 ls (.int (x + y) :: st) h := pR_L rfl rfl
theorem rX3_endFigure_80 : pR 126 d 80 ls (.int y :: .int x :: st) h = if x < y then pR 126 d 83 ls st h else pR 126 d 131 ls st h := r_cge rfl rfl
theorem rX3_endFigure_83 : pR 126 d 83 [.ref o, a1, a2, a3] st h = pR 126 d 84 [.ref o, a1, a2, a3] (.ref o :: st) h := pR_L rfl rfl
theorem rX3_endFigure_84 : pR 126 d 84 ls (.ref o :: st) h = if pis (pfl h 3 o 16) = true then pR 126 d 87 ls (pfl h 3 o 16 :: st) h else none := r_get rfl
theorem rX3_endFigure_87 : pR 126 d 87 [a0, a1, a2, .int x] st h = pR 126 d 88 [a0, a1, a2, .int x] (.int x :: st) h := pR_L rfl rfl
theorem rX3_endFigure_88 : pR 126 d 88 [.ref o, a1, a2, a3] st h = pR 126 d 89 [.ref o, a1, a2, a3] (.ref o :: st) h := pR_L rfl rfl
theorem rX3_endFigure_89 : pR 126 d 89 ls (.ref o :: st) h = if pis (pfl h 3 o 26) = true then pR 126 d 92 ls (pfl h 3 o 26 :: st) h else none := r_get rfl
theorem rX3_endFigure_92 : pR 126 d 92 [.ref o, a1, a2, a3] st h = pR 126 d 93 [.ref o, a1, a2, a3] (.ref o :: st) h := pR_L rfl rfl
theorem rX3_endFigure_93 : pR 126 d 93 [.ref o, a1, a2, a3] st h = pR 126 d 94 [.ref o, a1, a2, a3] (.ref o :: st) h := pR_L rfl rfl
theorem rX3_endFigure_94 : pR 126 d 94 ls (.ref o :: st) h = if pis (pfl h 3 o 16) = true then pR 126 d 97 ls (pfl h 3 o 16 :: st) h else none := r_get rfl
theorem rX3_endFigure_97 : pR 126 d 97 [a0, a1, a2, .int x] st h = pR 126 d 98 [a0, a1, a2, .int x] (.int x :: st) h := pR_L rfl rfl
theorem rX3_endFigure_98 : pR 126 d 98 ls (.int x :: .ref o :: st) h = if (pin x (pln h 0 o) || pin x (pln h 9 o)) = true then pR 126 d 99 ls (.int (pct h o x.toNatClampNeg) :: st) h else none := pR_Lif rfl rfl
theorem rX3_endFigure_99 : pR 126 (d + 1) 99 ls (b1 :: .ref o :: st) h = if (pok 3 (pcl h o) && pw st) = true then pK 126 (d + 1) 99 3 ls st (pCa 84 d [.ref o, b1] h) else none := r_callV rfl rfl rfl
theorem rX3_endFigure_102 : pR 126 d 102 ls (.int x :: .ref o :: st) h = if (pin x (pln h 0 o) || pin x (pln h 9 o)) = true then pR 126 d 103 ls (.int (pct h o x.toNatClampNeg) :: st) h else none := pR_Lif rfl rfl
theorem rX3_endFigure_103 : pR 126 d 103 ls (.int y :: .int x :: .ref o :: st) h = if pin x (pln h 0 o) = true then pR 126 d 104 ls st (pst h o x.toNatClampNeg y) else none := pR_Lif rfl rfl
theorem rX3_endFigure_104 : pR 126 d 104 [.ref o, a1, a2, a3] st h = pR 126 d 105 [.ref o, a1, a2, a3] (.ref o :: st) h := pR_L rfl rfl
theorem rX3_endFigure_105 : pR 126 d 105 ls (.ref o :: st) h = if pis (pfl h 3 o 17) = true then pR 126 d 108 ls (pfl h 3 o 17 :: st) h else none := r_get rfl
theorem rX3_endFigure_108 : pR 126 d 108 [a0, a1, a2, .int x] st h = pR 126 d 109 [a0, a1, a2, .int x] (.int x :: st) h := pR_L rfl rfl
theorem rX3_endFigure_109 : pR 126 d 109 [.ref o, a1, a2, a3] st h = pR 126 d 110 [.ref o, a1, a2, a3] (.ref o :: st) h := pR_L rfl rfl
theorem rX3_endFigure_110 : pR 126 d 110 ls (.ref o :: st) h = if pis (pfl h 3 o 26) = true then pR 126 d 113 ls (pfl h 3 o 26 :: st) h else none := r_get rfl
theorem rX3_endFigure_113 : pR 126 d 113 [.ref o, a1, a2, a3] st h = pR 126 d 114 [.ref o, a1, a2, a3] (.ref o :: st) h := pR_L rfl rfl
theorem rX3_endFigure_114 : pR 126 d 114 [.ref o, a1, a2, a3] st h = pR 126 d 115 [.ref o, a1, a2, a3] (.ref o :: st) h := pR_L rfl rfl
theorem rX3_endFigure_115 : pR 126 d 115 ls (.ref o :: st) h = if pis (pfl h 3 o 17) = true then pR 126 d 118 ls (pfl h 3 o 17 :: st) h else none := r_get rfl
theorem rX3_endFigure_118 : pR 126 d 118 [a0, a1, a2, .int x] st h = pR 126 d 119 [a0, a1, a2, .int x] (.int x :: st) h := pR_L rfl rfl
theorem rX3_endFigure_119 : pR 126 d 119 ls (.int x :: .ref o :: st) h = if (pin x (pln h 0 o) || pin x (pln h 9 o)) = true then pR 126 d 120 ls (.int (pct h o x.toNatClampNeg) :: st) h else none := pR_Lif rfl rfl
theorem rX3_endFigure_120 : pR 126 (d + 1) 120 ls (b1 :: .ref o :: st) h = if (pok 3 (pcl h o) && pw st) = true then pK 126 (d + 1) 120 3 ls st (pCa 84 d [.ref o, b1] h) else none := r_callV rfl rfl rfl
theorem rX3_endFigure_123 : pR 126 d 123 ls (.int x :: .ref o :: st) h = if (pin x (pln h 0 o) || pin x (pln h 9 o)) = true then pR 126 d 124 ls (.int (pct h o x.toNatClampNeg) :: st) h else none := pR_Lif rfl rfl
theorem rX3_endFigure_124 : pR 126 d 124 ls (.int y :: .int x :: .ref o :: st) h = if pin x (pln h 0 o) = true then pR 126 d 125 ls st (pst h o x.toNatClampNeg y) else none := pR_Lif rfl rfl
theorem rX3_endFigure_125 : pR 126 d 125 [a0, a1, a2, .int x] st h = pR 126 d 128 [a0, a1, a2, .int (x + 1)] st h := pR_L rfl rfl
theorem rX3_endFigure_128 : pR 126 d 128 ls st h = pR 126 d 62 ls st h := pR_L rfl rfl
theorem rX3_endFigure_131 : pR 126 d 131 [.ref o, a1, a2, a3] st h = pR 126 d 132 [.ref o, a1, a2, a3] (.ref o :: st) h := pR_L rfl rfl
theorem rX3_endFigure_132 : pR 126 d 132 ls (.ref o :: st) h = if pis (pfl h 3 o 14) = true then pR 126 d 135 ls (pfl h 3 o 14 :: st) h else none := r_get rfl
theorem rX3_endFigure_135 : pR 126 d 135 [.ref o, a1, a2, a3] st h = pR 126 d 136 [.ref o, a1, a2, a3] (.ref o :: st) h := pR_L rfl rfl
theorem rX3_endFigure_136 : pR 126 d 136 ls (.ref o :: st) h = if pis (pfl h 3 o 20) = true then pR 126 d 139 ls (pfl h 3 o 20 :: st) h else none := r_get rfl
theorem rX3_endFigure_139 : pR 126 d 139 [a0, a1, .int x, a3] st h = pR 126 d 140 [a0, a1, .int x, a3] (.int x :: st) h := pR_L rfl rfl
theorem rX3_endFigure_140 : pR 126 d 140 ls (.int y :: .int x :: .ref o :: st) h = if pin x (pln h 0 o) = true then pR 126 d 141 ls st (pst h o x.toNatClampNeg y) else none := pR_Lif rfl rfl
theorem rX3_endFigure_141 : pR 126 d 141 [.ref o, a1, a2, a3] st h = pR 126 d 142 [.ref o, a1, a2, a3] (.ref o :: st) h := pR_L rfl rfl
theorem rX3_endFigure_142 : pR 126 d 142 ls (.ref o :: st) h = if pis (pfl h 3 o 19) = true then pR 126 d 145 ls (pfl h 3 o 19 :: st) h else none := r_get rfl
theorem rX3_endFigure_145 : pR 126 d 145 [.ref o, a1, a2, a3] st h = pR 126 d 146 [.ref o, a1, a2, a3] (.ref o :: st) h := pR_L rfl rfl
theorem rX3_endFigure_146 : pR 126 d 146 ls (.ref o :: st) h = if pis (pfl h 3 o 20) = true then pR 126 d 149 ls (pfl h 3 o 20 :: st) h else none := r_get rfl
theorem rX3_endFigure_149 : pR 126 d 149 [.ref o, a1, a2, a3] st h = pR 126 d 150 [.ref o, a1, a2, a3] (.ref o :: st) h := pR_L rfl rfl
theorem rX3_endFigure_150 : pR 126 d 150 [.ref o, a1, a2, a3] st h = pR 126 d 151 [.ref o, a1, a2, a3] (.ref o :: st) h := pR_L rfl rfl
theorem rX3_endFigure_151 : pR 126 d 151 ls (.ref o :: st) h = if pis (pfl h 3 o 20) = true then pR 126 d 154 ls (pfl h 3 o 20 :: st) h else none := r_get rfl
theorem rX3_endFigure_154 : pR 126 (d + 1) 154 ls (b1 :: .ref o :: st) h = if (pok 3 (pcl h o) && pw st) = true then pK 126 (d + 1) 154 3 ls st (pCa 127 d [.ref o, b1] h) else none := r_callV rfl rfl rfl
theorem rX3_endFigure_157 : pR 126 d 157 ls (.int y :: .int x :: .ref o :: st) h = if pin x (pln h 0 o) = true then pR 126 d 158 ls st (pst h o x.toNatClampNeg y) else none := pR_Lif rfl rfl
theorem rX3_endFigure_158 : pR 126 d 158 [.ref o, a1, a2, a3] st h = pR 126 d 159 [.ref o, a1, a2, a3] (.ref o :: st) h := pR_L rfl rfl
theorem rX3_endFigure_159 : pR 126 d 159 ls (.ref o :: st) h = pR 126 d 160 ls (.ref o :: .ref o :: st) h := pR_L rfl rfl
theorem rX3_endFigure_159i : pR 126 d 159 ls (.int x :: st) h = pR 126 d 160 ls (.int x :: .int x :: st) h := pR_L rfl rfl
theorem rX3_endFigure_160 : pR 126 d 160 ls (.ref o :: st) h = if pis (pfl h 3 o 20) = true then pR 126 d 163 ls (pfl h 3 o 20 :: st) h else none := r_get rfl
theorem rX3_endFigure_163 : pR 126 d 163 ls st h = pR 126 d 164 ls (.int 1 :: st) h := pR_L rfl rfl
theorem rX3_endFigure_164 : pR 126 d 164 ls (.int y :: .int x :: st) h = pR 126 d 165 ls (.int (x + y) :: st) h := pR_L rfl rfl
theorem rX3_endFigure_165 : pR 126 d 165 ls (.int x :: .ref o :: st) h = if pis (pfl h 3 o 20) = true then pR 126 d 168 ls st (psf h o 20 (.int x)) else none := r_put rfl rfl
theorem rX3_endFigure_168 : pR 126 d 168 ls [] h = some (.inl none, h) := pR_E rfl rfl
-- 127 BalloonStallModel handsOf (I)I
theorem eX3_handsOf : pCa 127 d [.ref o, .int x0] h = pR 127 d 0 [.ref o, .int x0, pU, pU, pU, pU, pU] [] h := rfl
theorem rX3_handsOf_0 : pR 127 d 0 ls st h = pR 127 d 1 ls (.int 0 :: st) h := pR_L rfl rfl
theorem rX3_handsOf_1 : pR 127 d 1 [a0, a1, a2, a3, a4, a5, a6] (.int x :: st) h = if p1 a2 = true then pR 127 d 2 [a0, a1, .int x, a3, a4, a5, a6] st h else none := r_sto (n := 1) (k := 2) (v := .int x) (ls := [a0, a1, a2, a3, a4, a5, a6]) rfl rfl rfl
theorem rX3_handsOf_2 : pR 127 d 2 ls st h = pR 127 d 3 ls (.int 0 :: st) h := pR_L rfl rfl
theorem rX3_handsOf_3 : pR 127 d 3 [a0, a1, a2, a3, a4, a5, a6] (.int x :: st) h = if p1 a3 = true then pR 127 d 4 [a0, a1, a2, .int x, a4, a5, a6] st h else none := r_sto (n := 1) (k := 3) (v := .int x) (ls := [a0, a1, a2, a3, a4, a5, a6]) rfl rfl rfl
theorem rX3_handsOf_4 : pR 127 d 4 [a0, a1, a2, .int x, a4, a5, a6] st h = pR 127 d 5 [a0, a1, a2, .int x, a4, a5, a6] (.int x :: st) h := pR_L rfl rfl
theorem rX3_handsOf_5 : pR 127 d 5 [.ref o, a1, a2, a3, a4, a5, a6] st h = pR 127 d 6 [.ref o, a1, a2, a3, a4, a5, a6] (.ref o :: st) h := pR_L rfl rfl
theorem rX3_handsOf_6 : pR 127 d 6 ls (.ref o :: st) h = if pis (pfl h 3 o 13) = true then pR 127 d 9 ls (pfl h 3 o 13 :: st) h else none := r_get rfl
theorem rX3_handsOf_9 : pR 127 d 9 [a0, .int x, a2, a3, a4, a5, a6] st h = pR 127 d 10 [a0, .int x, a2, a3, a4, a5, a6] (.int x :: st) h := pR_L rfl rfl
theorem rX3_handsOf_10 : pR 127 d 10 ls (.int x :: .ref o :: st) h = if (pin x (pln h 0 o) || pin x (pln h 9 o)) = true then pR 127 d 11 ls (.int (pct h o x.toNatClampNeg) :: st) h else none := pR_Lif rfl rfl
theorem rX3_handsOf_11 : pR 127 d 11 ls (.int y :: .int x :: st) h = if x < y then pR 127 d 14 ls st h else pR 127 d 97 ls st h := r_cge rfl rfl
theorem rX3_handsOf_14 : pR 127 d 14 ls st h = pR 127 d 15 ls (.int 1 :: st) h := pR_L rfl rfl
theorem rX3_handsOf_15 : pR 127 d 15 [a0, a1, a2, .int x, a4, a5, a6] st h = pR 127 d 16 [a0, a1, a2, .int x, a4, a5, a6] (.int x :: st) h := pR_L rfl rfl
theorem rX3_handsOf_16 : pR 127 d 16 ls st h = pR 127 d 17 ls (.int 1 :: st) h := pR_L rfl rfl
theorem rX3_handsOf_17 : pR 127 d 17 ls (.int y :: .int x :: st) h = pR 127 d 18 ls (.int (x + y) :: st) h := pR_L rfl rfl
theorem rX3_handsOf_18 : pR 127 d 18 ls (.int y :: .int x :: st) h = pR 127 d 19 ls (.int (x <<< (y &&& 31)) :: st) h := pR_L rfl rfl
theorem rX3_handsOf_19 : pR 127 d 19 ls st h = pR 127 d 20 ls (.int 1 :: st) h := pR_L rfl rfl
theorem rX3_handsOf_20 : pR 127 d 20 ls (.int y :: .int x :: st) h = pR 127 d 21 ls (.int (x - y) :: st) h := pR_L rfl rfl
theorem rX3_handsOf_21 : pR 127 d 21 [a0, a1, a2, a3, a4, a5, a6] (.int x :: st) h = if p1 a4 = true then pR 127 d 23 [a0, a1, a2, a3, .int x, a5, a6] st h else none := r_sto (n := 2) (k := 4) (v := .int x) (ls := [a0, a1, a2, a3, a4, a5, a6]) rfl rfl rfl
theorem rX3_handsOf_23 : pR 127 d 23 ls st h = pR 127 d 24 ls (.int 0 :: st) h := pR_L rfl rfl
theorem rX3_handsOf_24 : pR 127 d 24 [a0, a1, a2, a3, a4, a5, a6] (.int x :: st) h = if p1 a5 = true then pR 127 d 26 [a0, a1, a2, a3, a4, .int x, a6] st h else none := r_sto (n := 2) (k := 5) (v := .int x) (ls := [a0, a1, a2, a3, a4, a5, a6]) rfl rfl rfl
theorem rX3_handsOf_26 : pR 127 d 26 ls st h = pR 127 d 27 ls (.int 0 :: st) h := pR_L rfl rfl
theorem rX3_handsOf_27 : pR 127 d 27 [a0, a1, a2, a3, a4, a5, a6] (.int x :: st) h = if p1 a6 = true then pR 127 d 29 [a0, a1, a2, a3, a4, a5, .int x] st h else none := r_sto (n := 2) (k := 6) (v := .int x) (ls := [a0, a1, a2, a3, a4, a5, a6]) rfl rfl rfl
theorem rX3_handsOf_29 : pR 127 d 29 [a0, a1, a2, a3, a4, a5, .int x] st h = pR 127 d 31 [a0, a1, a2, a3, a4, a5, .int x] (.int x :: st) h := pR_L rfl rfl
theorem rX3_handsOf_31 : pR 127 d 31 [a0, a1, a2, .int x, a4, a5, a6] st h = pR 127 d 32 [a0, a1, a2, .int x, a4, a5, a6] (.int x :: st) h := pR_L rfl rfl
theorem rX3_handsOf_32 : pR 127 d 32 ls (.int y :: .int x :: st) h = if x < y then pR 127 d 35 ls st h else pR 127 d 84 ls st h := r_cge rfl rfl
theorem rX3_handsOf_35 : pR 127 d 35 [a0, a1, a2, a3, a4, .int x, a6] st h = pR 127 d 37 [a0, a1, a2, a3, a4, .int x, a6] (.int x :: st) h := pR_L rfl rfl
theorem rX3_handsOf_37 : pR 127 d 37 [.ref o, a1, a2, a3, a4, a5, a6] st h = pR 127 d 38 [.ref o, a1, a2, a3, a4, a5, a6] (.ref o :: st) h := pR_L rfl rfl
theorem rX3_handsOf_38 : pR 127 d 38 [a0, .int x, a2, a3, a4, a5, a6] st h = pR 127 d 39 [a0, .int x, a2, a3, a4, a5, a6] (.int x :: st) h := pR_L rfl rfl
theorem rX3_handsOf_39 : pR 127 d 39 [a0, a1, a2, a3, a4, a5, .int x] st h = pR 127 d 41 [a0, a1, a2, a3, a4, a5, .int x] (.int x :: st) h := pR_L rfl rfl
theorem rX3_handsOf_41 : pR 127 (d + 1) 41 ls (b2 :: b1 :: .ref o :: st) h = if (pok 3 (pcl h o) && pw st) = true then pK 127 (d + 1) 41 3 ls st (pCa 109 d [.ref o, b1, b2] h) else none := r_callV rfl rfl rfl
theorem rX3_handsOf_44 : pR 127 d 44 ls (.int x :: st) h = if x = 0 then pR 127 d 74 ls st h else pR 127 d 47 ls st h := r_ieq rfl rfl
theorem rX3_handsOf_47 : pR 127 d 47 [.ref o, a1, a2, a3, a4, a5, a6] st h = pR 127 d 48 [.ref o, a1, a2, a3, a4, a5, a6] (.ref o :: st) h := pR_L rfl rfl
theorem rX3_handsOf_48 : pR 127 d 48 [a0, .int x, a2, a3, a4, a5, a6] st h = pR 127 d 49 [a0, .int x, a2, a3, a4, a5, a6] (.int x :: st) h := pR_L rfl rfl
theorem rX3_handsOf_49 : pR 127 d 49 [.ref o, a1, a2, a3, a4, a5, a6] st h = pR 127 d 50 [.ref o, a1, a2, a3, a4, a5, a6] (.ref o :: st) h := pR_L rfl rfl
theorem rX3_handsOf_50 : pR 127 d 50 ls (.ref o :: st) h = if pis (pfl h 3 o 17) = true then pR 127 d 53 ls (pfl h 3 o 17 :: st) h else none := r_get rfl
theorem rX3_handsOf_53 : pR 127 d 53 ls st h = pR 127 d 55 ls (.int 24 :: st) h := pR_L rfl rfl
theorem rX3_handsOf_55 : pR 127 d 55 [a0, .int x, a2, a3, a4, a5, a6] st h = pR 127 d 56 [a0, .int x, a2, a3, a4, a5, a6] (.int x :: st) h := pR_L rfl rfl
theorem rX3_handsOf_56 : pR 127 d 56 ls (.int y :: .int x :: st) h = pR 127 d 57 ls (.int (x * y) :: st) h := pR_L rfl rfl
theorem rX3_handsOf_57 : pR 127 d 57 [a0, a1, a2, a3, a4, a5, .int x] st h = pR 127 d 59 [a0, a1, a2, a3, a4, a5, .int x] (.int x :: st) h := pR_L rfl rfl
theorem rX3_handsOf_59 : pR 127 d 59 ls (.int y :: .int x :: st) h = pR 127 d 60 ls (.int (x + y) :: st) h := pR_L rfl rfl
theorem rX3_handsOf_60 : pR 127 d 60 ls (.int x :: .ref o :: st) h = if (pin x (pln h 0 o) || pin x (pln h 9 o)) = true then pR 127 d 61 ls (.int (pct h o x.toNatClampNeg) :: st) h else none := pR_Lif rfl rfl
theorem rX3_handsOf_61 : pR 127 d 61 [a0, a1, a2, a3, .int x, a5, a6] st h = pR 127 d 63 [a0, a1, a2, a3, .int x, a5, a6] (.int x :: st) h := pR_L rfl rfl
theorem rX3_handsOf_63 : pR 127 (d + 1) 63 ls (b3 :: b2 :: b1 :: .ref o :: st) h = if (pok 3 (pcl h o) && pw st) = true then pK 127 (d + 1) 63 3 ls st (pCa 112 d [.ref o, b1, b2, b3] h) else none := r_callV rfl rfl rfl
theorem rX3_handsOf_66 : pR 127 d 66 ls st h = pR 127 d 67 ls (.int 3 :: st) h := pR_L rfl rfl
theorem rX3_handsOf_67 : pR 127 d 67 ls (.int y :: .int x :: st) h = if x < y then pR 127 d 70 ls st h else pR 127 d 74 ls st h := r_cge rfl rfl
theorem rX3_handsOf_70 : pR 127 d 70 ls st h = pR 127 d 71 ls (.int 1 :: st) h := pR_L rfl rfl
theorem rX3_handsOf_71 : pR 127 d 71 ls st h = pR 127 d 75 ls st h := pR_L rfl rfl
theorem rX3_handsOf_74 : pR 127 d 74 ls st h = pR 127 d 75 ls (.int 0 :: st) h := pR_L rfl rfl
theorem rX3_handsOf_75 : pR 127 d 75 ls (.int y :: .int x :: st) h = pR 127 d 76 ls (.int (x + y) :: st) h := pR_L rfl rfl
theorem rX3_handsOf_76 : pR 127 d 76 [a0, a1, a2, a3, a4, a5, a6] (.int x :: st) h = if p1 a5 = true then pR 127 d 78 [a0, a1, a2, a3, a4, .int x, a6] st h else none := r_sto (n := 2) (k := 5) (v := .int x) (ls := [a0, a1, a2, a3, a4, a5, a6]) rfl rfl rfl
theorem rX3_handsOf_78 : pR 127 d 78 [a0, a1, a2, a3, a4, a5, .int x] st h = pR 127 d 81 [a0, a1, a2, a3, a4, a5, .int (x + 1)] st h := pR_L rfl rfl
theorem rX3_handsOf_81 : pR 127 d 81 ls st h = pR 127 d 29 ls st h := pR_L rfl rfl
theorem rX3_handsOf_84 : pR 127 d 84 [a0, a1, .int x, a3, a4, a5, a6] st h = pR 127 d 85 [a0, a1, .int x, a3, a4, a5, a6] (.int x :: st) h := pR_L rfl rfl
theorem rX3_handsOf_85 : pR 127 d 85 [a0, a1, a2, a3, a4, .int x, a6] st h = pR 127 d 87 [a0, a1, a2, a3, a4, .int x, a6] (.int x :: st) h := pR_L rfl rfl
theorem rX3_handsOf_87 : pR 127 (d + 1) 87 ls (.int y :: .int x :: st) h = if pw st = true then pR 127 (d + 1) 90 ls (.int (if x < y then y else x) :: st) h else none := r_mx rfl
theorem rX3_handsOf_90 : pR 127 d 90 [a0, a1, a2, a3, a4, a5, a6] (.int x :: st) h = if p1 a2 = true then pR 127 d 91 [a0, a1, .int x, a3, a4, a5, a6] st h else none := r_sto (n := 1) (k := 2) (v := .int x) (ls := [a0, a1, a2, a3, a4, a5, a6]) rfl rfl rfl
theorem rX3_handsOf_91 : pR 127 d 91 [a0, a1, a2, .int x, a4, a5, a6] st h = pR 127 d 94 [a0, a1, a2, .int (x + 1), a4, a5, a6] st h := pR_L rfl rfl
theorem rX3_handsOf_94 : pR 127 d 94 ls st h = pR 127 d 4 ls st h := pR_L rfl rfl
theorem rX3_handsOf_97 : pR 127 d 97 [a0, a1, .int x, a3, a4, a5, a6] st h = pR 127 d 98 [a0, a1, .int x, a3, a4, a5, a6] (.int x :: st) h := pR_L rfl rfl
theorem rX3_handsOf_98 : pR 127 d 98 ls [.int x] h = some (.inl (some (.int x)), h) := pR_E rfl rfl
-- 128 BalloonStallModel add (IIII)I
theorem eX3_add : pCa 128 d [.ref o, .int x0, .int x1, .int x2, .int x3] h = pR 128 d 0 [.ref o, .int x0, .int x1, .int x2, .int x3, pU] [] h := rfl
theorem rX3_add_0 : pR 128 d 0 [.ref o, a1, a2, a3, a4, a5] st h = pR 128 d 1 [.ref o, a1, a2, a3, a4, a5] (.ref o :: st) h := pR_L rfl rfl
theorem rX3_add_1 : pR 128 d 1 [a0, .int x, a2, a3, a4, a5] st h = pR 128 d 2 [a0, .int x, a2, a3, a4, a5] (.int x :: st) h := pR_L rfl rfl
theorem rX3_add_2 : pR 128 d 2 [a0, a1, a2, .int x, a4, a5] st h = pR 128 d 3 [a0, a1, a2, .int x, a4, a5] (.int x :: st) h := pR_L rfl rfl
theorem rX3_add_3 : pR 128 (d + 1) 3 ls (b2 :: b1 :: .ref o :: st) h = if (pok 3 (pcl h o) && pw st) = true then pK 128 (d + 1) 3 3 ls st (pCa 117 d [.ref o, b1, b2] h) else none := r_callV rfl rfl rfl
theorem rX3_add_6 : pR 128 d 6 ls (.int x :: st) h = if x = 0 then pR 128 d 64 ls st h else pR 128 d 9 ls st h := r_ieq rfl rfl
theorem rX3_add_9 : pR 128 d 9 [.ref o, a1, a2, a3, a4, a5] st h = pR 128 d 10 [.ref o, a1, a2, a3, a4, a5] (.ref o :: st) h := pR_L rfl rfl
theorem rX3_add_10 : pR 128 d 10 [a0, a1, .int x, a3, a4, a5] st h = pR 128 d 11 [a0, a1, .int x, a3, a4, a5] (.int x :: st) h := pR_L rfl rfl
theorem rX3_add_11 : pR 128 d 11 [a0, a1, a2, a3, .int x, a5] st h = pR 128 d 13 [a0, a1, a2, a3, .int x, a5] (.int x :: st) h := pR_L rfl rfl
theorem rX3_add_13 : pR 128 (d + 1) 13 ls (b2 :: b1 :: .ref o :: st) h = if (pok 3 (pcl h o) && pw st) = true then pK 128 (d + 1) 13 3 ls st (pCa 117 d [.ref o, b1, b2] h) else none := r_callV rfl rfl rfl
theorem rX3_add_16 : pR 128 d 16 ls (.int x :: st) h = if x = 0 then pR 128 d 64 ls st h else pR 128 d 19 ls st h := r_ieq rfl rfl
theorem rX3_add_19 : pR 128 d 19 [.ref o, a1, a2, a3, a4, a5] st h = pR 128 d 20 [.ref o, a1, a2, a3, a4, a5] (.ref o :: st) h := pR_L rfl rfl
theorem rX3_add_20 : pR 128 d 20 ls (.ref o :: st) h = if pis (pfl h 3 o 13) = true then pR 128 d 23 ls (pfl h 3 o 13 :: st) h else none := r_get rfl
theorem rX3_add_23 : pR 128 d 23 [a0, .int x, a2, a3, a4, a5] st h = pR 128 d 24 [a0, .int x, a2, a3, a4, a5] (.int x :: st) h := pR_L rfl rfl
theorem rX3_add_24 : pR 128 d 24 ls (.int x :: .ref o :: st) h = if (pin x (pln h 0 o) || pin x (pln h 9 o)) = true then pR 128 d 25 ls (.int (pct h o x.toNatClampNeg) :: st) h else none := pR_Lif rfl rfl
theorem rX3_add_25 : pR 128 d 25 [.ref o, a1, a2, a3, a4, a5] st h = pR 128 d 26 [.ref o, a1, a2, a3, a4, a5] (.ref o :: st) h := pR_L rfl rfl
theorem rX3_add_26 : pR 128 d 26 ls (.ref o :: st) h = if pis (pfl h 3 o 13) = true then pR 128 d 29 ls (pfl h 3 o 13 :: st) h else none := r_get rfl
theorem rX3_add_29 : pR 128 d 29 [a0, a1, .int x, a3, a4, a5] st h = pR 128 d 30 [a0, a1, .int x, a3, a4, a5] (.int x :: st) h := pR_L rfl rfl
theorem rX3_add_30 : pR 128 d 30 ls (.int x :: .ref o :: st) h = if (pin x (pln h 0 o) || pin x (pln h 9 o)) = true then pR 128 d 31 ls (.int (pct h o x.toNatClampNeg) :: st) h else none := pR_Lif rfl rfl
theorem rX3_add_31 : pR 128 d 31 ls (.int y :: .int x :: st) h = pR 128 d 32 ls (.int (x + y) :: st) h := pR_L rfl rfl
theorem rX3_add_32 : pR 128 d 32 ls st h = pR 128 d 34 ls (.int 24 :: st) h := pR_L rfl rfl
theorem rX3_add_34 : pR 128 d 34 ls (.int y :: .int x :: st) h = if y < x then pR 128 d 64 ls st h else pR 128 d 37 ls st h := r_cgt rfl rfl
theorem rX3_add_37 : pR 128 d 37 [.ref o, a1, a2, a3, a4, a5] st h = pR 128 d 38 [.ref o, a1, a2, a3, a4, a5] (.ref o :: st) h := pR_L rfl rfl
theorem rX3_add_38 : pR 128 d 38 ls (.ref o :: st) h = if pis (pfl h 3 o 11) = true then pR 128 d 41 ls (pfl h 3 o 11 :: st) h else none := r_get rfl
theorem rX3_add_41 : pR 128 d 41 [a0, .int x, a2, a3, a4, a5] st h = pR 128 d 42 [a0, .int x, a2, a3, a4, a5] (.int x :: st) h := pR_L rfl rfl
theorem rX3_add_42 : pR 128 d 42 ls (.int x :: .ref o :: st) h = if (pin x (pln h 0 o) || pin x (pln h 9 o)) = true then pR 128 d 43 ls (.int (pct h o x.toNatClampNeg) :: st) h else none := pR_Lif rfl rfl
theorem rX3_add_43 : pR 128 d 43 [.ref o, a1, a2, a3, a4, a5] st h = pR 128 d 44 [.ref o, a1, a2, a3, a4, a5] (.ref o :: st) h := pR_L rfl rfl
theorem rX3_add_44 : pR 128 d 44 ls (.ref o :: st) h = if pis (pfl h 3 o 11) = true then pR 128 d 47 ls (pfl h 3 o 11 :: st) h else none := r_get rfl
theorem rX3_add_47 : pR 128 d 47 [a0, a1, .int x, a3, a4, a5] st h = pR 128 d 48 [a0, a1, .int x, a3, a4, a5] (.int x :: st) h := pR_L rfl rfl
theorem rX3_add_48 : pR 128 d 48 ls (.int x :: .ref o :: st) h = if (pin x (pln h 0 o) || pin x (pln h 9 o)) = true then pR 128 d 49 ls (.int (pct h o x.toNatClampNeg) :: st) h else none := pR_Lif rfl rfl
theorem rX3_add_49 : pR 128 d 49 ls (.int y :: .int x :: st) h = pR 128 d 50 ls (.int (x + y) :: st) h := pR_L rfl rfl
theorem rX3_add_50 : pR 128 d 50 ls st h = pR 128 d 52 ls (.int 6 :: st) h := pR_L rfl rfl
theorem rX3_add_52 : pR 128 d 52 ls (.int y :: .int x :: st) h = if y < x then pR 128 d 64 ls st h else pR 128 d 55 ls st h := r_cgt rfl rfl
theorem rX3_add_55 : pR 128 d 55 [.ref o, a1, a2, a3, a4, a5] st h = pR 128 d 56 [.ref o, a1, a2, a3, a4, a5] (.ref o :: st) h := pR_L rfl rfl
theorem rX3_add_56 : pR 128 d 56 ls (.ref o :: st) h = if pis (pfl h 3 o 20) = true then pR 128 d 59 ls (pfl h 3 o 20 :: st) h else none := r_get rfl
theorem rX3_add_59 : pR 128 d 59 ls st h = pR 128 d 61 ls (.int 12 :: st) h := pR_L rfl rfl
theorem rX3_add_61 : pR 128 d 61 ls (.int y :: .int x :: st) h = if x = y then pR 128 d 64 ls st h else pR 128 d 66 ls st h := r_cne rfl rfl
theorem rX3_add_64 : pR 128 d 64 ls st h = pR 128 d 65 ls (.int (-1) :: st) h := pR_L rfl rfl
theorem rX3_add_65 : pR 128 d 65 ls [.int x] h = some (.inl (some (.int x)), h) := pR_E rfl rfl
theorem rX3_add_66 : pR 128 d 66 [.ref o, a1, a2, a3, a4, a5] st h = pR 128 d 67 [.ref o, a1, a2, a3, a4, a5] (.ref o :: st) h := pR_L rfl rfl
theorem rX3_add_67 : pR 128 (d + 1) 67 ls (.ref o :: st) h = if (pok 3 (pcl h o) && pw st) = true then pK 128 (d + 1) 67 3 ls st (pCa 124 d [.ref o] h) else none := r_callV rfl rfl rfl
theorem rX3_add_70 : pR 128 d 70 ls st h = pR 128 d 71 ls (.int 0 :: st) h := pR_L rfl rfl
theorem rX3_add_71 : pR 128 d 71 [a0, a1, a2, a3, a4, a5] (.int x :: st) h = if p1 a5 = true then pR 128 d 73 [a0, a1, a2, a3, a4, .int x] st h else none := r_sto (n := 2) (k := 5) (v := .int x) (ls := [a0, a1, a2, a3, a4, a5]) rfl rfl rfl
theorem rX3_add_73 : pR 128 d 73 [a0, a1, a2, a3, a4, .int x] st h = pR 128 d 75 [a0, a1, a2, a3, a4, .int x] (.int x :: st) h := pR_L rfl rfl
theorem rX3_add_75 : pR 128 d 75 [.ref o, a1, a2, a3, a4, a5] st h = pR 128 d 76 [.ref o, a1, a2, a3, a4, a5] (.ref o :: st) h := pR_L rfl rfl
theorem rX3_add_76 : pR 128 d 76 ls (.ref o :: st) h = if pis (pfl h 3 o 14) = true then pR 128 d 79 ls (pfl h 3 o 14 :: st) h else none := r_get rfl
theorem rX3_add_79 : pR 128 d 79 [a0, .int x, a2, a3, a4, a5] st h = pR 128 d 80 [a0, .int x, a2, a3, a4, a5] (.int x :: st) h := pR_L rfl rfl
theorem rX3_add_80 : pR 128 d 80 ls (.int x :: .ref o :: st) h = if (pin x (pln h 0 o) || pin x (pln h 9 o)) = true then pR 128 d 81 ls (.int (pct h o x.toNatClampNeg) :: st) h else none := pR_Lif rfl rfl
theorem rX3_add_81 : pR 128 d 81 [.ref o, a1, a2, a3, a4, a5] st h = pR 128 d 82 [.ref o, a1, a2, a3, a4, a5] (.ref o :: st) h := pR_L rfl rfl
theorem rX3_add_82 : pR 128 d 82 ls (.ref o :: st) h = if pis (pfl h 3 o 14) = true then pR 128 d 85 ls (pfl h 3 o 14 :: st) h else none := r_get rfl
theorem rX3_add_85 : pR 128 d 85 [a0, a1, .int x, a3, a4, a5] st h = pR 128 d 86 [a0, a1, .int x, a3, a4, a5] (.int x :: st) h := pR_L rfl rfl
theorem rX3_add_86 : pR 128 d 86 ls (.int x :: .ref o :: st) h = if (pin x (pln h 0 o) || pin x (pln h 9 o)) = true then pR 128 d 87 ls (.int (pct h o x.toNatClampNeg) :: st) h else none := pR_Lif rfl rfl
theorem rX3_add_87 : pR 128 d 87 ls (.int y :: .int x :: st) h = pR 128 d 88 ls (.int (x + y) :: st) h := pR_L rfl rfl
theorem rX3_add_88 : pR 128 d 88 ls (.int y :: .int x :: st) h = if x < y then pR 128 d 91 ls st h else pR 128 d 106 ls st h := r_cge rfl rfl
theorem rX3_add_91 : pR 128 d 91 [.ref o, a1, a2, a3, a4, a5] st h = pR 128 d 92 [.ref o, a1, a2, a3, a4, a5] (.ref o :: st) h := pR_L rfl rfl
theorem rX3_add_92 : pR 128 d 92 ls (.ref o :: st) h = if pis (pfl h 3 o 21) = true then pR 128 d 95 ls (pfl h 3 o 21 :: st) h else none := r_get rfl
theorem rX3_add_95 : pR 128 d 95 [a0, a1, a2, a3, a4, .int x] st h = pR 128 d 97 [a0, a1, a2, a3, a4, .int x] (.int x :: st) h := pR_L rfl rfl
theorem rX3_add_97 : pR 128 d 97 [a0, a1, a2, a3, a4, .int x] st h = pR 128 d 99 [a0, a1, a2, a3, a4, .int x] (.int x :: st) h := pR_L rfl rfl
theorem rX3_add_99 : pR 128 d 99 ls (.int y :: .int x :: .ref o :: st) h = if pin x (pln h 0 o) = true then pR 128 d 100 ls st (pst h o x.toNatClampNeg y) else none := pR_Lif rfl rfl
theorem rX3_add_100 : pR 128 d 100 [a0, a1, a2, a3, a4, .int x] st h = pR 128 d 103 [a0, a1, a2, a3, a4, .int (x + 1)] st h := pR_L rfl rfl
theorem rX3_add_103 : pR 128 d 103 ls st h = pR 128 d 73 ls st h := pR_L rfl rfl
theorem rX3_add_106 : pR 128 d 106 [.ref o, a1, a2, a3, a4, a5] st h = pR 128 d 107 [.ref o, a1, a2, a3, a4, a5] (.ref o :: st) h := pR_L rfl rfl
theorem rX3_add_107 : pR 128 d 107 ls (.ref o :: st) h = if pis (pfl h 3 o 21) = true then pR 128 d 110 ls (pfl h 3 o 21 :: st) h else none := r_get rfl
theorem rX3_add_110 : pR 128 d 110 [.ref o, a1, a2, a3, a4, a5] st h = pR 128 d 111 [.ref o, a1, a2, a3, a4, a5] (.ref o :: st) h := pR_L rfl rfl
theorem rX3_add_111 : pR 128 d 111 ls (.ref o :: st) h = if pis (pfl h 3 o 14) = true then pR 128 d 114 ls (pfl h 3 o 14 :: st) h else none := r_get rfl
theorem rX3_add_114 : pR 128 d 114 [a0, .int x, a2, a3, a4, a5] st h = pR 128 d 115 [a0, .int x, a2, a3, a4, a5] (.int x :: st) h := pR_L rfl rfl
theorem rX3_add_115 : pR 128 d 115 ls (.int x :: .ref o :: st) h = if (pin x (pln h 0 o) || pin x (pln h 9 o)) = true then pR 128 d 116 ls (.int (pct h o x.toNatClampNeg) :: st) h else none := pR_Lif rfl rfl
theorem rX3_add_116 : pR 128 d 116 [a0, a1, a2, a3, .int x, a5] st h = pR 128 d 118 [a0, a1, a2, a3, .int x, a5] (.int x :: st) h := pR_L rfl rfl
theorem rX3_add_118 : pR 128 d 118 ls (.int y :: .int x :: st) h = pR 128 d 119 ls (.int (x + y) :: st) h := pR_L rfl rfl
theorem rX3_add_119 : pR 128 d 119 [a0, a1, a2, .int x, a4, a5] st h = pR 128 d 120 [a0, a1, a2, .int x, a4, a5] (.int x :: st) h := pR_L rfl rfl
theorem rX3_add_120 : pR 128 d 120 ls (.int y :: .int x :: .ref o :: st) h = if pin x (pln h 0 o) = true then pR 128 d 121 ls st (pst h o x.toNatClampNeg y) else none := pR_Lif rfl rfl
theorem rX3_add_121 : pR 128 d 121 [.ref o, a1, a2, a3, a4, a5] st h = pR 128 d 122 [.ref o, a1, a2, a3, a4, a5] (.ref o :: st) h := pR_L rfl rfl
theorem rX3_add_122 : pR 128 d 122 [a0, .int x, a2, a3, a4, a5] st h = pR 128 d 123 [a0, .int x, a2, a3, a4, a5] (.int x :: st) h := pR_L rfl rfl
theorem rX3_add_123 : pR 128 d 123 ls st h = pR 128 d 124 ls (.int 0 :: st) h := pR_L rfl rfl
theorem rX3_add_124 : pR 128 d 124 ls st h = pR 128 d 125 ls (.int 0 :: st) h := pR_L rfl rfl
theorem rX3_add_125 : pR 128 (d + 1) 125 ls (b3 :: b2 :: b1 :: .ref o :: st) h = if (pok 3 (pcl h o) && pw st) = true then pK 128 (d + 1) 125 3 ls st (pCa 129 d [.ref o, b1, b2, b3] h) else none := r_callV rfl rfl rfl
theorem rX3_add_128 : pR 128 d 128 [.ref o, a1, a2, a3, a4, a5] st h = pR 128 d 129 [.ref o, a1, a2, a3, a4, a5] (.ref o :: st) h := pR_L rfl rfl
theorem rX3_add_129 : pR 128 d 129 [a0, a1, .int x, a3, a4, a5] st h = pR 128 d 130 [a0, a1, .int x, a3, a4, a5] (.int x :: st) h := pR_L rfl rfl
theorem rX3_add_130 : pR 128 d 130 [.ref o, a1, a2, a3, a4, a5] st h = pR 128 d 131 [.ref o, a1, a2, a3, a4, a5] (.ref o :: st) h := pR_L rfl rfl
theorem rX3_add_131 : pR 128 d 131 ls (.ref o :: st) h = if pis (pfl h 3 o 11) = true then pR 128 d 134 ls (pfl h 3 o 11 :: st) h else none := r_get rfl
theorem rX3_add_134 : pR 128 d 134 [a0, .int x, a2, a3, a4, a5] st h = pR 128 d 135 [a0, .int x, a2, a3, a4, a5] (.int x :: st) h := pR_L rfl rfl
theorem rX3_add_135 : pR 128 d 135 ls (.int x :: .ref o :: st) h = if (pin x (pln h 0 o) || pin x (pln h 9 o)) = true then pR 128 d 136 ls (.int (pct h o x.toNatClampNeg) :: st) h else none := pR_Lif rfl rfl
theorem rX3_add_136 : pR 128 d 136 [.ref o, a1, a2, a3, a4, a5] st h = pR 128 d 137 [.ref o, a1, a2, a3, a4, a5] (.ref o :: st) h := pR_L rfl rfl
theorem rX3_add_137 : pR 128 d 137 ls (.ref o :: st) h = if pis (pfl h 3 o 14) = true then pR 128 d 140 ls (pfl h 3 o 14 :: st) h else none := r_get rfl
theorem rX3_add_140 : pR 128 d 140 [a0, .int x, a2, a3, a4, a5] st h = pR 128 d 141 [a0, .int x, a2, a3, a4, a5] (.int x :: st) h := pR_L rfl rfl
theorem rX3_add_141 : pR 128 d 141 ls (.int x :: .ref o :: st) h = if (pin x (pln h 0 o) || pin x (pln h 9 o)) = true then pR 128 d 142 ls (.int (pct h o x.toNatClampNeg) :: st) h else none := pR_Lif rfl rfl
theorem rX3_add_142 : pR 128 (d + 1) 142 ls (b3 :: b2 :: b1 :: .ref o :: st) h = if (pok 3 (pcl h o) && pw st) = true then pK 128 (d + 1) 142 3 ls st (pCa 129 d [.ref o, b1, b2, b3] h) else none := r_callV rfl rfl rfl
theorem rX3_add_145 : pR 128 d 145 [.ref o, a1, a2, a3, a4, a5] st h = pR 128 d 146 [.ref o, a1, a2, a3, a4, a5] (.ref o :: st) h := pR_L rfl rfl
theorem rX3_add_146 : pR 128 d 146 ls (.ref o :: st) h = if pis (pfl h 3 o 11) = true then pR 128 d 149 ls (pfl h 3 o 11 :: st) h else none := r_get rfl
theorem rX3_add_149 : pR 128 d 149 [.ref o, a1, a2, a3, a4, a5] st h = pR 128 d 150 [.ref o, a1, a2, a3, a4, a5] (.ref o :: st) h := pR_L rfl rfl
theorem rX3_add_150 : pR 128 d 150 ls (.ref o :: st) h = if pis (pfl h 3 o 20) = true then pR 128 d 153 ls (pfl h 3 o 20 :: st) h else none := r_get rfl
theorem rX3_add_153 : pR 128 d 153 [.ref o, a1, a2, a3, a4, a5] st h = pR 128 d 154 [.ref o, a1, a2, a3, a4, a5] (.ref o :: st) h := pR_L rfl rfl
theorem rX3_add_154 : pR 128 d 154 ls (.ref o :: st) h = if pis (pfl h 3 o 11) = true then pR 128 d 157 ls (pfl h 3 o 11 :: st) h else none := r_get rfl
theorem rX3_add_157 : pR 128 d 157 [a0, .int x, a2, a3, a4, a5] st h = pR 128 d 158 [a0, .int x, a2, a3, a4, a5] (.int x :: st) h := pR_L rfl rfl
theorem rX3_add_158 : pR 128 d 158 ls (.int x :: .ref o :: st) h = if (pin x (pln h 0 o) || pin x (pln h 9 o)) = true then pR 128 d 159 ls (.int (pct h o x.toNatClampNeg) :: st) h else none := pR_Lif rfl rfl
theorem rX3_add_159 : pR 128 d 159 [.ref o, a1, a2, a3, a4, a5] st h = pR 128 d 160 [.ref o, a1, a2, a3, a4, a5] (.ref o :: st) h := pR_L rfl rfl
theorem rX3_add_160 : pR 128 d 160 ls (.ref o :: st) h = if pis (pfl h 3 o 11) = true then pR 128 d 163 ls (pfl h 3 o 11 :: st) h else none := r_get rfl
theorem rX3_add_163 : pR 128 d 163 [a0, a1, .int x, a3, a4, a5] st h = pR 128 d 164 [a0, a1, .int x, a3, a4, a5] (.int x :: st) h := pR_L rfl rfl
theorem rX3_add_164 : pR 128 d 164 ls (.int x :: .ref o :: st) h = if (pin x (pln h 0 o) || pin x (pln h 9 o)) = true then pR 128 d 165 ls (.int (pct h o x.toNatClampNeg) :: st) h else none := pR_Lif rfl rfl
theorem rX3_add_165 : pR 128 d 165 ls (.int y :: .int x :: st) h = pR 128 d 166 ls (.int (x + y) :: st) h := pR_L rfl rfl
theorem rX3_add_166 : pR 128 d 166 ls (.int y :: .int x :: .ref o :: st) h = if pin x (pln h 0 o) = true then pR 128 d 167 ls st (pst h o x.toNatClampNeg y) else none := pR_Lif rfl rfl
theorem rX3_add_167 : pR 128 d 167 [.ref o, a1, a2, a3, a4, a5] st h = pR 128 d 168 [.ref o, a1, a2, a3, a4, a5] (.ref o :: st) h := pR_L rfl rfl
theorem rX3_add_168 : pR 128 d 168 [.ref o, a1, a2, a3, a4, a5] st h = pR 128 d 169 [.ref o, a1, a2, a3, a4, a5] (.ref o :: st) h := pR_L rfl rfl
theorem rX3_add_169 : pR 128 d 169 ls (.ref o :: st) h = if pis (pfl h 3 o 14) = true then pR 128 d 172 ls (pfl h 3 o 14 :: st) h else none := r_get rfl
theorem rX3_add_172 : pR 128 d 172 [a0, .int x, a2, a3, a4, a5] st h = pR 128 d 173 [a0, .int x, a2, a3, a4, a5] (.int x :: st) h := pR_L rfl rfl
theorem rX3_add_173 : pR 128 d 173 ls (.int x :: .ref o :: st) h = if (pin x (pln h 0 o) || pin x (pln h 9 o)) = true then pR 128 d 174 ls (.int (pct h o x.toNatClampNeg) :: st) h else none := pR_Lif rfl rfl
theorem rX3_add_174 : pR 128 d 174 [.ref o, a1, a2, a3, a4, a5] st h = pR 128 d 175 [.ref o, a1, a2, a3, a4, a5] (.ref o :: st) h := pR_L rfl rfl
theorem rX3_add_175 : pR 128 d 175 ls (.ref o :: st) h = if pis (pfl h 3 o 14) = true then pR 128 d 178 ls (pfl h 3 o 14 :: st) h else none := r_get rfl
theorem rX3_add_178 : pR 128 d 178 [a0, a1, .int x, a3, a4, a5] st h = pR 128 d 179 [a0, a1, .int x, a3, a4, a5] (.int x :: st) h := pR_L rfl rfl
theorem rX3_add_179 : pR 128 d 179 ls (.int x :: .ref o :: st) h = if (pin x (pln h 0 o) || pin x (pln h 9 o)) = true then pR 128 d 180 ls (.int (pct h o x.toNatClampNeg) :: st) h else none := pR_Lif rfl rfl
theorem rX3_add_180 : pR 128 d 180 ls (.int y :: .int x :: st) h = pR 128 d 181 ls (.int (x + y) :: st) h := pR_L rfl rfl
theorem rX3_add_181 : pR 128 (d + 1) 181 ls (b1 :: .ref o :: st) h = if (pok 3 (pcl h o) && pw st) = true then pK 128 (d + 1) 181 3 ls st (pCa 126 d [.ref o, b1] h) else none := r_callV rfl rfl rfl
theorem rX3_add_184 : pR 128 d 184 [.ref o, a1, a2, a3, a4, a5] st h = pR 128 d 185 [.ref o, a1, a2, a3, a4, a5] (.ref o :: st) h := pR_L rfl rfl
theorem rX3_add_185 : pR 128 d 185 ls (.ref o :: st) h = if pis (pfl h 3 o 20) = true then pR 128 d 188 ls (pfl h 3 o 20 :: st) h else none := r_get rfl
theorem rX3_add_188 : pR 128 d 188 ls st h = pR 128 d 189 ls (.int 1 :: st) h := pR_L rfl rfl
theorem rX3_add_189 : pR 128 d 189 ls (.int y :: .int x :: st) h = pR 128 d 190 ls (.int (x - y) :: st) h := pR_L rfl rfl
theorem rX3_add_190 : pR 128 d 190 ls [.int x] h = some (.inl (some (.int x)), h) := pR_E rfl rfl
-- 129 BalloonStallModel addAll (III)V
theorem eX3_addAll : pCa 129 d [.ref o, .int x0, .int x1, .int x2] h = pR 129 d 0 [.ref o, .int x0, .int x1, .int x2, pU, pU] [] h := rfl
theorem rX3_addAll_0 : pR 129 d 0 ls st h = pR 129 d 1 ls (.int 0 :: st) h := pR_L rfl rfl
theorem rX3_addAll_1 : pR 129 d 1 [a0, a1, a2, a3, a4, a5] (.int x :: st) h = if p1 a4 = true then pR 129 d 3 [a0, a1, a2, a3, .int x, a5] st h else none := r_sto (n := 2) (k := 4) (v := .int x) (ls := [a0, a1, a2, a3, a4, a5]) rfl rfl rfl
theorem rX3_addAll_3 : pR 129 d 3 [a0, a1, a2, a3, .int x, a5] st h = pR 129 d 5 [a0, a1, a2, a3, .int x, a5] (.int x :: st) h := pR_L rfl rfl
theorem rX3_addAll_5 : pR 129 d 5 [.ref o, a1, a2, a3, a4, a5] st h = pR 129 d 6 [.ref o, a1, a2, a3, a4, a5] (.ref o :: st) h := pR_L rfl rfl
theorem rX3_addAll_6 : pR 129 d 6 ls (.ref o :: st) h = if pis (pfl h 3 o 11) = true then pR 129 d 9 ls (pfl h 3 o 11 :: st) h else none := r_get rfl
theorem rX3_addAll_9 : pR 129 d 9 [a0, .int x, a2, a3, a4, a5] st h = pR 129 d 10 [a0, .int x, a2, a3, a4, a5] (.int x :: st) h := pR_L rfl rfl
theorem rX3_addAll_10 : pR 129 d 10 ls (.int x :: .ref o :: st) h = if (pin x (pln h 0 o) || pin x (pln h 9 o)) = true then pR 129 d 11 ls (.int (pct h o x.toNatClampNeg) :: st) h else none := pR_Lif rfl rfl
theorem rX3_addAll_11 : pR 129 d 11 ls (.int y :: .int x :: st) h = if x < y then pR 129 d 14 ls st h else pR 129 d 49 ls st h := r_cge rfl rfl
theorem rX3_addAll_14 : pR 129 d 14 [.ref o, a1, a2, a3, a4, a5] st h = pR 129 d 15 [.ref o, a1, a2, a3, a4, a5] (.ref o :: st) h := pR_L rfl rfl
theorem rX3_addAll_15 : pR 129 d 15 ls (.ref o :: st) h = if pis (pfl h 3 o 12) = true then pR 129 d 18 ls (pfl h 3 o 12 :: st) h else none := r_get rfl
theorem rX3_addAll_18 : pR 129 d 18 ls st h = pR 129 d 20 ls (.int 6 :: st) h := pR_L rfl rfl
theorem rX3_addAll_20 : pR 129 d 20 [.ref o, a1, a2, a3, a4, a5] st h = pR 129 d 21 [.ref o, a1, a2, a3, a4, a5] (.ref o :: st) h := pR_L rfl rfl
theorem rX3_addAll_21 : pR 129 d 21 ls (.ref o :: st) h = if pis (pfl h 3 o 20) = true then pR 129 d 24 ls (pfl h 3 o 20 :: st) h else none := r_get rfl
theorem rX3_addAll_24 : pR 129 d 24 ls (.int y :: .int x :: st) h = pR 129 d 25 ls (.int (x * y) :: st) h := pR_L rfl rfl
theorem rX3_addAll_25 : pR 129 d 25 [a0, a1, .int x, a3, a4, a5] st h = pR 129 d 26 [a0, a1, .int x, a3, a4, a5] (.int x :: st) h := pR_L rfl rfl
theorem rX3_addAll_26 : pR 129 d 26 ls (.int y :: .int x :: st) h = pR 129 d 27 ls (.int (x + y) :: st) h := pR_L rfl rfl
theorem rX3_addAll_27 : pR 129 d 27 [a0, a1, a2, a3, .int x, a5] st h = pR 129 d 29 [a0, a1, a2, a3, .int x, a5] (.int x :: st) h := pR_L rfl rfl
theorem rX3_addAll_29 : pR 129 d 29 ls (.int y :: .int x :: st) h = pR 129 d 30 ls (.int (x + y) :: st) h := pR_L rfl rfl
theorem rX3_addAll_30 : pR 129 d 30 [.ref o, a1, a2, a3, a4, a5] st h = pR 129 d 31 [.ref o, a1, a2, a3, a4, a5] (.ref o :: st) h := pR_L rfl rfl
theorem rX3_addAll_31 : pR 129 d 31 ls (.ref o :: st) h = if pis (pfl h 3 o 12) = true then pR 129 d 34 ls (pfl h 3 o 12 :: st) h else none := r_get rfl
theorem rX3_addAll_34 : pR 129 d 34 ls st h = pR 129 d 36 ls (.int 6 :: st) h := pR_L rfl rfl
theorem rX3_addAll_36 : pR 129 d 36 [a0, .int x, a2, a3, a4, a5] st h = pR 129 d 37 [a0, .int x, a2, a3, a4, a5] (.int x :: st) h := pR_L rfl rfl
theorem rX3_addAll_37 : pR 129 d 37 ls (.int y :: .int x :: st) h = pR 129 d 38 ls (.int (x * y) :: st) h := pR_L rfl rfl
theorem rX3_addAll_38 : pR 129 d 38 [a0, a1, a2, a3, .int x, a5] st h = pR 129 d 40 [a0, a1, a2, a3, .int x, a5] (.int x :: st) h := pR_L rfl rfl
theorem rX3_addAll_40 : pR 129 d 40 ls (.int y :: .int x :: st) h = pR 129 d 41 ls (.int (x + y) :: st) h := pR_L rfl rfl
theorem rX3_addAll_41 : pR 129 d 41 ls (.int x :: .ref o :: st) h = if (pin x (pln h 0 o) || pin x (pln h 9 o)) = true then pR 129 d 42 ls (.int (pct h o x.toNatClampNeg) :: st) h else none := pR_Lif rfl rfl
theorem rX3_addAll_42 : pR 129 d 42 ls (.int y :: .int x :: .ref o :: st) h = if pin x (pln h 0 o) = true then pR 129 d 43 ls st (pst h o x.toNatClampNeg y) else none := pR_Lif rfl rfl
theorem rX3_addAll_43 : pR 129 d 43 [a0, a1, a2, a3, .int x, a5] st h = pR 129 d 46 [a0, a1, a2, a3, .int (x + 1), a5] st h := pR_L rfl rfl
theorem rX3_addAll_46 : pR 129 d 46 ls st h = pR 129 d 3 ls st h := pR_L rfl rfl
theorem rX3_addAll_49 : pR 129 d 49 ls st h = pR 129 d 50 ls (.int 0 :: st) h := pR_L rfl rfl
theorem rX3_addAll_50 : pR 129 d 50 [a0, a1, a2, a3, a4, a5] (.int x :: st) h = if p1 a4 = true then pR 129 d 52 [a0, a1, a2, a3, .int x, a5] st h else none := r_sto (n := 2) (k := 4) (v := .int x) (ls := [a0, a1, a2, a3, a4, a5]) rfl rfl rfl
theorem rX3_addAll_52 : pR 129 d 52 [a0, a1, a2, a3, .int x, a5] st h = pR 129 d 54 [a0, a1, a2, a3, .int x, a5] (.int x :: st) h := pR_L rfl rfl
theorem rX3_addAll_54 : pR 129 d 54 [.ref o, a1, a2, a3, a4, a5] st h = pR 129 d 55 [.ref o, a1, a2, a3, a4, a5] (.ref o :: st) h := pR_L rfl rfl
theorem rX3_addAll_55 : pR 129 d 55 ls (.ref o :: st) h = if pis (pfl h 3 o 13) = true then pR 129 d 58 ls (pfl h 3 o 13 :: st) h else none := r_get rfl
theorem rX3_addAll_58 : pR 129 d 58 [a0, .int x, a2, a3, a4, a5] st h = pR 129 d 59 [a0, .int x, a2, a3, a4, a5] (.int x :: st) h := pR_L rfl rfl
theorem rX3_addAll_59 : pR 129 d 59 ls (.int x :: .ref o :: st) h = if (pin x (pln h 0 o) || pin x (pln h 9 o)) = true then pR 129 d 60 ls (.int (pct h o x.toNatClampNeg) :: st) h else none := pR_Lif rfl rfl
theorem rX3_addAll_60 : pR 129 d 60 ls (.int y :: .int x :: st) h = if x < y then pR 129 d 63 ls st h else pR 129 d 116 ls st h := r_cge rfl rfl
theorem rX3_addAll_63 : pR 129 d 63 ls st h = pR 129 d 65 ls (.int 24 :: st) h := pR_L rfl rfl
theorem rX3_addAll_65 : pR 129 d 65 [a0, .int x, a2, a3, a4, a5] st h = pR 129 d 66 [a0, .int x, a2, a3, a4, a5] (.int x :: st) h := pR_L rfl rfl
theorem rX3_addAll_66 : pR 129 d 66 ls (.int y :: .int x :: st) h = pR 129 d 67 ls (.int (x * y) :: st) h := pR_L rfl rfl
theorem rX3_addAll_67 : pR 129 d 67 [a0, a1, a2, a3, .int x, a5] st h = pR 129 d 69 [a0, a1, a2, a3, .int x, a5] (.int x :: st) h := pR_L rfl rfl
theorem rX3_addAll_69 : pR 129 d 69 ls (.int y :: .int x :: st) h = pR 129 d 70 ls (.int (x + y) :: st) h := pR_L rfl rfl
theorem rX3_addAll_70 : pR 129 d 70 [a0, a1, a2, a3, a4, a5] (.int x :: st) h = if p1 a5 = true then pR 129 d 72 [a0, a1, a2, a3, a4, .int x] st h else none := r_sto (n := 2) (k := 5) (v := .int x) (ls := [a0, a1, a2, a3, a4, a5]) rfl rfl rfl
theorem rX3_addAll_72 : pR 129 d 72 [.ref o, a1, a2, a3, a4, a5] st h = pR 129 d 73 [.ref o, a1, a2, a3, a4, a5] (.ref o :: st) h := pR_L rfl rfl
theorem rX3_addAll_73 : pR 129 d 73 [.ref o, a1, a2, a3, a4, a5] st h = pR 129 d 74 [.ref o, a1, a2, a3, a4, a5] (.ref o :: st) h := pR_L rfl rfl
theorem rX3_addAll_74 : pR 129 d 74 ls (.ref o :: st) h = if pis (pfl h 3 o 15) = true then pR 129 d 77 ls (pfl h 3 o 15 :: st) h else none := r_get rfl
theorem rX3_addAll_77 : pR 129 d 77 [a0, a1, a2, a3, a4, .int x] st h = pR 129 d 79 [a0, a1, a2, a3, a4, .int x] (.int x :: st) h := pR_L rfl rfl
theorem rX3_addAll_79 : pR 129 d 79 ls (.int x :: .ref o :: st) h = if (pin x (pln h 0 o) || pin x (pln h 9 o)) = true then pR 129 d 80 ls (.int (pct h o x.toNatClampNeg) :: st) h else none := pR_Lif rfl rfl
theorem rX3_addAll_80 : pR 129 d 80 [a0, a1, .int x, a3, a4, a5] st h = pR 129 d 81 [a0, a1, .int x, a3, a4, a5] (.int x :: st) h := pR_L rfl rfl
theorem rX3_addAll_81 : pR 129 d 81 [.ref o, a1, a2, a3, a4, a5] st h = pR 129 d 82 [.ref o, a1, a2, a3, a4, a5] (.ref o :: st) h := pR_L rfl rfl
theorem rX3_addAll_82 : pR 129 d 82 ls (.ref o :: st) h = if pis (pfl h 3 o 18) = true then pR 129 d 85 ls (pfl h 3 o 18 :: st) h else none := r_get rfl
theorem rX3_addAll_85 : pR 129 d 85 [a0, a1, a2, a3, a4, .int x] st h = pR 129 d 87 [a0, a1, a2, a3, a4, .int x] (.int x :: st) h := pR_L rfl rfl
theorem rX3_addAll_87 : pR 129 d 87 ls (.int x :: .ref o :: st) h = if (pin x (pln h 0 o) || pin x (pln h 9 o)) = true then pR 129 d 88 ls (.int (pct h o x.toNatClampNeg) :: st) h else none := pR_Lif rfl rfl
theorem rX3_addAll_88 : pR 129 d 88 ls (.int y :: .int x :: st) h = pR 129 d 89 ls (.int (x + y) :: st) h := pR_L rfl rfl
theorem rX3_addAll_89 : pR 129 d 89 [a0, a1, a2, .int x, a4, a5] st h = pR 129 d 90 [a0, a1, a2, .int x, a4, a5] (.int x :: st) h := pR_L rfl rfl
theorem rX3_addAll_90 : pR 129 d 90 [.ref o, a1, a2, a3, a4, a5] st h = pR 129 d 91 [.ref o, a1, a2, a3, a4, a5] (.ref o :: st) h := pR_L rfl rfl
theorem rX3_addAll_91 : pR 129 d 91 ls (.ref o :: st) h = if pis (pfl h 3 o 16) = true then pR 129 d 94 ls (pfl h 3 o 16 :: st) h else none := r_get rfl
theorem rX3_addAll_94 : pR 129 d 94 [a0, a1, a2, a3, a4, .int x] st h = pR 129 d 96 [a0, a1, a2, a3, a4, .int x] (.int x :: st) h := pR_L rfl rfl
theorem rX3_addAll_96 : pR 129 d 96 ls (.int x :: .ref o :: st) h = if (pin x (pln h 0 o) || pin x (pln h 9 o)) = true then pR 129 d 97 ls (.int (pct h o x.toNatClampNeg) :: st) h else none := pR_Lif rfl rfl
theorem rX3_addAll_97 : pR 129 d 97 ls (.int y :: .int x :: st) h = pR 129 d 98 ls (.int (x + y) :: st) h := pR_L rfl rfl
theorem rX3_addAll_98 : pR 129 d 98 [a0, a1, a2, .int x, a4, a5] st h = pR 129 d 99 [a0, a1, a2, .int x, a4, a5] (.int x :: st) h := pR_L rfl rfl
theorem rX3_addAll_99 : pR 129 d 99 [.ref o, a1, a2, a3, a4, a5] st h = pR 129 d 100 [.ref o, a1, a2, a3, a4, a5] (.ref o :: st) h := pR_L rfl rfl
theorem rX3_addAll_100 : pR 129 d 100 ls (.ref o :: st) h = if pis (pfl h 3 o 17) = true then pR 129 d 103 ls (pfl h 3 o 17 :: st) h else none := r_get rfl
theorem rX3_addAll_103 : pR 129 d 103 [a0, a1, a2, a3, a4, .int x] st h = pR 129 d 105 [a0, a1, a2, a3, a4, .int x] (.int x :: st) h := pR_L rfl rfl
theorem rX3_addAll_105 : pR 129 d 105 ls (.int x :: .ref o :: st) h = if (pin x (pln h 0 o) || pin x (pln h 9 o)) = true then pR 129 d 106 ls (.int (pct h o x.toNatClampNeg) :: st) h else none := pR_Lif rfl rfl
theorem rX3_addAll_106 : pR 129 d 106 ls (.int y :: .int x :: st) h = pR 129 d 107 ls (.int (x + y) :: st) h := pR_L rfl rfl
theorem rX3_addAll_107 : pR 129 (d + 1) 107 ls (b4 :: b3 :: b2 :: b1 :: .ref o :: st) h = if (pok 3 (pcl h o) && pw st) = true then pK 129 (d + 1) 107 3 ls st (pCa 125 d [.ref o, b1, b2, b3, b4] h) else none := r_callV rfl rfl rfl
theorem rX3_addAll_110 : pR 129 d 110 [a0, a1, a2, a3, .int x, a5] st h = pR 129 d 113 [a0, a1, a2, a3, .int (x + 1), a5] st h := pR_L rfl rfl
theorem rX3_addAll_113 : pR 129 d 113 ls st h = pR 129 d 52 ls st h := pR_L rfl rfl
theorem rX3_addAll_116 : pR 129 d 116 ls [] h = some (.inl none, h) := pR_E rfl rfl
-- 130 BalloonStallModel pop (III)I
theorem eX3_pop : pCa 130 d [.ref o, .int x0, .int x1, .int x2] h = pR 130 d 0 [.ref o, .int x0, .int x1, .int x2, pU, pU] [] h := rfl
theorem rX3_pop_0 : pR 130 d 0 [.ref o, a1, a2, a3, a4, a5] st h = pR 130 d 1 [.ref o, a1, a2, a3, a4, a5] (.ref o :: st) h := pR_L rfl rfl
theorem rX3_pop_1 : pR 130 d 1 [a0, .int x, a2, a3, a4, a5] st h = pR 130 d 2 [a0, .int x, a2, a3, a4, a5] (.int x :: st) h := pR_L rfl rfl
theorem rX3_pop_2 : pR 130 d 2 [a0, a1, .int x, a3, a4, a5] st h = pR 130 d 3 [a0, a1, .int x, a3, a4, a5] (.int x :: st) h := pR_L rfl rfl
theorem rX3_pop_3 : pR 130 (d + 1) 3 ls (b2 :: b1 :: .ref o :: st) h = if (pok 3 (pcl h o) && pw st) = true then pK 130 (d + 1) 3 3 ls st (pCa 115 d [.ref o, b1, b2] h) else none := r_callV rfl rfl rfl
theorem rX3_pop_6 : pR 130 d 6 ls (.int x :: st) h = if x = 0 then pR 130 d 18 ls st h else pR 130 d 9 ls st h := r_ieq rfl rfl
theorem rX3_pop_9 : pR 130 d 9 [a0, a1, a2, .int x, a4, a5] st h = pR 130 d 10 [a0, a1, a2, .int x, a4, a5] (.int x :: st) h := pR_L rfl rfl
theorem rX3_pop_10 : pR 130 d 10 ls st h = pR 130 d 11 ls (.int 0 :: st) h := pR_L rfl rfl
theorem rX3_pop_11 : pR 130 d 11 ls st h = pR 130 d 12 ls (.int 2 :: st) h := pR_L rfl rfl
theorem rX3_pop_12 : pR 130 (d + 1) 12 ls (b2 :: b1 :: b0 :: st) h = if pw st = true then pK 130 (d + 1) 12 3 ls st (pCa 69 d [b0, b1, b2] h) else none := r_callS rfl rfl rfl
theorem rX3_pop_15 : pR 130 d 15 ls (.int x :: st) h = if x = 0 then pR 130 d 18 ls st h else pR 130 d 20 ls st h := r_ine rfl rfl
theorem rX3_pop_18 : pR 130 d 18 ls st h = pR 130 d 19 ls (.int (-1) :: st) h := pR_L rfl rfl
theorem rX3_pop_19 : pR 130 d 19 ls [.int x] h = some (.inl (some (.int x)), h) := pR_E rfl rfl
theorem rX3_pop_20 : pR 130 d 20 [.ref o, a1, a2, a3, a4, a5] st h = pR 130 d 21 [.ref o, a1, a2, a3, a4, a5] (.ref o :: st) h := pR_L rfl rfl
theorem rX3_pop_21 : pR 130 d 21 [a0, .int x, a2, a3, a4, a5] st h = pR 130 d 22 [a0, .int x, a2, a3, a4, a5] (.int x :: st) h := pR_L rfl rfl
theorem rX3_pop_22 : pR 130 d 22 [.ref o, a1, a2, a3, a4, a5] st h = pR 130 d 23 [.ref o, a1, a2, a3, a4, a5] (.ref o :: st) h := pR_L rfl rfl
theorem rX3_pop_23 : pR 130 d 23 [a0, .int x, a2, a3, a4, a5] st h = pR 130 d 24 [a0, .int x, a2, a3, a4, a5] (.int x :: st) h := pR_L rfl rfl
theorem rX3_pop_24 : pR 130 (d + 1) 24 ls (b1 :: .ref o :: st) h = if (pok 3 (pcl h o) && pw st) = true then pK 130 (d + 1) 24 3 ls st (pCa 111 d [.ref o, b1] h) else none := r_callV rfl rfl rfl
theorem rX3_pop_27 : pR 130 d 27 ls st h = pR 130 d 28 ls (.int 1 :: st) h := pR_L rfl rfl
theorem rX3_pop_28 : pR 130 d 28 [a0, a1, .int x, a3, a4, a5] st h = pR 130 d 29 [a0, a1, .int x, a3, a4, a5] (.int x :: st) h := pR_L rfl rfl
theorem rX3_pop_29 : pR 130 d 29 ls (.int y :: .int x :: st) h = pR 130 d 30 ls (.int (x <<< (y &&& 31)) :: st) h := pR_L rfl rfl
theorem rX3_pop_30 : pR 130 d 30 ls st h = pR 130 d 31 ls (.int (-1) :: st) h := pR_L rfl rfl
theorem rX3_pop_31 : pR 130 d 31 ls (.int y :: .int x :: st) h = pR 130 d 32 ls (.int (x ^^^ y) :: st) h := pR_L rfl rfl
theorem rX3_pop_32 : pR 130 d 32 ls (.int y :: .int x :: st) h = pR 130 d 33 ls (.int (x &&& y) :: st) h := pR_L rfl rfl
theorem rX3_pop_33 : pR 130 (d + 1) 33 ls (b2 :: b1 :: .ref o :: st) h = if (pok 3 (pcl h o) && pw st) = true then pK 130 (d + 1) 33 3 ls st (pCa 131 d [.ref o, b1, b2] h) else none := r_callV rfl rfl rfl
theorem rX3_pop_36 : pR 130 d 36 [a0, a1, a2, a3, a4, a5] (.int x :: st) h = if p1 a4 = true then pR 130 d 38 [a0, a1, a2, a3, .int x, a5] st h else none := r_sto (n := 2) (k := 4) (v := .int x) (ls := [a0, a1, a2, a3, a4, a5]) rfl rfl rfl
theorem rX3_pop_38 : pR 130 d 38 [.ref o, a1, a2, a3, a4, a5] st h = pR 130 d 39 [.ref o, a1, a2, a3, a4, a5] (.ref o :: st) h := pR_L rfl rfl
theorem rX3_pop_39 : pR 130 d 39 [a0, .int x, a2, a3, a4, a5] st h = pR 130 d 40 [a0, .int x, a2, a3, a4, a5] (.int x :: st) h := pR_L rfl rfl
theorem rX3_pop_40 : pR 130 (d + 1) 40 ls (b1 :: .ref o :: st) h = if (pok 3 (pcl h o) && pw st) = true then pK 130 (d + 1) 40 3 ls st (pCa 111 d [.ref o, b1] h) else none := r_callV rfl rfl rfl
theorem rX3_pop_43 : pR 130 d 43 [a0, a1, a2, a3, .int x, a5] st h = pR 130 d 45 [a0, a1, a2, a3, .int x, a5] (.int x :: st) h := pR_L rfl rfl
theorem rX3_pop_45 : pR 130 d 45 ls st h = pR 130 d 46 ls (.int (-1) :: st) h := pR_L rfl rfl
theorem rX3_pop_46 : pR 130 d 46 ls (.int y :: .int x :: st) h = pR 130 d 47 ls (.int (x ^^^ y) :: st) h := pR_L rfl rfl
theorem rX3_pop_47 : pR 130 d 47 ls (.int y :: .int x :: st) h = pR 130 d 48 ls (.int (x &&& y) :: st) h := pR_L rfl rfl
theorem rX3_pop_48 : pR 130 d 48 [a0, a1, a2, a3, a4, a5] (.int x :: st) h = if p1 a5 = true then pR 130 d 50 [a0, a1, a2, a3, a4, .int x] st h else none := r_sto (n := 2) (k := 5) (v := .int x) (ls := [a0, a1, a2, a3, a4, a5]) rfl rfl rfl
theorem rX3_pop_50 : pR 130 d 50 [a0, a1, a2, .int x, a4, a5] st h = pR 130 d 51 [a0, a1, a2, .int x, a4, a5] (.int x :: st) h := pR_L rfl rfl
theorem rX3_pop_51 : pR 130 d 51 ls (.int x :: st) h = if x = 0 then pR 130 d 54 ls st h else pR 130 d 59 ls st h := r_ine rfl rfl
theorem rX3_pop_54 : pR 130 d 54 [a0, a1, a2, a3, a4, .int x] st h = pR 130 d 56 [a0, a1, a2, a3, a4, .int x] (.int x :: st) h := pR_L rfl rfl
theorem rX3_pop_56 : pR 130 d 56 ls st h = pR 130 d 79 ls st h := pR_L rfl rfl
theorem rX3_pop_59 : pR 130 d 59 [a0, a1, a2, .int x, a4, a5] st h = pR 130 d 60 [a0, a1, a2, .int x, a4, a5] (.int x :: st) h := pR_L rfl rfl
theorem rX3_pop_60 : pR 130 d 60 ls st h = pR 130 d 61 ls (.int 1 :: st) h := pR_L rfl rfl
theorem rX3_pop_61 : pR 130 d 61 ls (.int y :: .int x :: st) h = if x = y then pR 130 d 64 ls st h else pR 130 d 72 ls st h := r_cne rfl rfl
theorem rX3_pop_64 : pR 130 d 64 [a0, a1, a2, a3, a4, .int x] st h = pR 130 d 66 [a0, a1, a2, a3, a4, .int x] (.int x :: st) h := pR_L rfl rfl
theorem rX3_pop_66 : pR 130 (d + 1) 66 ls (b0 :: st) h = if pw st = true then pK 130 (d + 1) 66 3 ls st (pCa 254 d [b0] h) else none := r_callS rfl rfl rfl
theorem rX3_pop_69 : pR 130 d 69 ls st h = pR 130 d 79 ls st h := pR_L rfl rfl
theorem rX3_pop_72 : pR 130 d 72 [.ref o, a1, a2, a3, a4, a5] st h = pR 130 d 73 [.ref o, a1, a2, a3, a4, a5] (.ref o :: st) h := pR_L rfl rfl
theorem rX3_pop_73 : pR 130 d 73 [a0, .int x, a2, a3, a4, a5] st h = pR 130 d 74 [a0, .int x, a2, a3, a4, a5] (.int x :: st) h := pR_L rfl rfl
theorem rX3_pop_74 : pR 130 d 74 [a0, a1, a2, a3, .int x, a5] st h = pR 130 d 76 [a0, a1, a2, a3, .int x, a5] (.int x :: st) h := pR_L rfl rfl
theorem rX3_pop_76 : pR 130 (d + 1) 76 ls (b2 :: b1 :: .ref o :: st) h = if (pok 3 (pcl h o) && pw st) = true then pK 130 (d + 1) 76 3 ls st (pCa 132 d [.ref o, b1, b2] h) else none := r_callV rfl rfl rfl
theorem rX3_pop_79 : pR 130 d 79 ls [.int x] h = some (.inl (some (.int x)), h) := pR_E rfl rfl
-- 131 BalloonStallModel leftOf (II)I
theorem eX3_leftOf : pCa 131 d [.ref o, .int x0, .int x1] h = pR 131 d 0 [.ref o, .int x0, .int x1, pU, pU, pU, pU, pU] [] h := rfl
theorem rX3_leftOf_0 : pR 131 d 0 [a0, a1, .int x, a3, a4, a5, a6, a7] st h = pR 131 d 1 [a0, a1, .int x, a3, a4, a5, a6, a7] (.int x :: st) h := pR_L rfl rfl
theorem rX3_leftOf_1 : pR 131 d 1 [a0, a1, a2, a3, a4, a5, a6, a7] (.int x :: st) h = if p1 a3 = true then pR 131 d 2 [a0, a1, a2, .int x, a4, a5, a6, a7] st h else none := r_sto (n := 1) (k := 3) (v := .int x) (ls := [a0, a1, a2, a3, a4, a5, a6, a7]) rfl rfl rfl
theorem rX3_leftOf_2 : pR 131 d 2 ls st h = pR 131 d 3 ls (.int 1 :: st) h := pR_L rfl rfl
theorem rX3_leftOf_3 : pR 131 d 3 [a0, a1, a2, a3, a4, a5, a6, a7] (.int x :: st) h = if p1 a4 = true then pR 131 d 5 [a0, a1, a2, a3, .int x, a5, a6, a7] st h else none := r_sto (n := 2) (k := 4) (v := .int x) (ls := [a0, a1, a2, a3, a4, a5, a6, a7]) rfl rfl rfl
theorem rX3_leftOf_5 : pR 131 d 5 [a0, a1, a2, a3, .int x, a5, a6, a7] st h = pR 131 d 7 [a0, a1, a2, a3, .int x, a5, a6, a7] (.int x :: st) h := pR_L rfl rfl
theorem rX3_leftOf_7 : pR 131 d 7 ls (.int x :: st) h = if x = 0 then pR 131 d 126 ls st h else pR 131 d 10 ls st h := r_ieq rfl rfl
theorem rX3_leftOf_10 : pR 131 d 10 ls st h = pR 131 d 11 ls (.int 0 :: st) h := pR_L rfl rfl
theorem rX3_leftOf_11 : pR 131 d 11 [a0, a1, a2, a3, a4, a5, a6, a7] (.int x :: st) h = if p1 a4 = true then pR 131 d 13 [a0, a1, a2, a3, .int x, a5, a6, a7] st h else none := r_sto (n := 2) (k := 4) (v := .int x) (ls := [a0, a1, a2, a3, a4, a5, a6, a7]) rfl rfl rfl
theorem rX3_leftOf_13 : pR 131 d 13 ls st h = pR 131 d 14 ls (.int 0 :: st) h := pR_L rfl rfl
theorem rX3_leftOf_14 : pR 131 d 14 [a0, a1, a2, a3, a4, a5, a6, a7] (.int x :: st) h = if p1 a5 = true then pR 131 d 16 [a0, a1, a2, a3, a4, .int x, a6, a7] st h else none := r_sto (n := 2) (k := 5) (v := .int x) (ls := [a0, a1, a2, a3, a4, a5, a6, a7]) rfl rfl rfl
theorem rX3_leftOf_16 : pR 131 d 16 [a0, a1, a2, a3, a4, .int x, a6, a7] st h = pR 131 d 18 [a0, a1, a2, a3, a4, .int x, a6, a7] (.int x :: st) h := pR_L rfl rfl
theorem rX3_leftOf_18 : pR 131 d 18 [.ref o, a1, a2, a3, a4, a5, a6, a7] st h = pR 131 d 19 [.ref o, a1, a2, a3, a4, a5, a6, a7] (.ref o :: st) h := pR_L rfl rfl
theorem rX3_leftOf_19 : pR 131 d 19 ls (.ref o :: st) h = if pis (pfl h 3 o 13) = true then pR 131 d 22 ls (pfl h 3 o 13 :: st) h else none := r_get rfl
theorem rX3_leftOf_22 : pR 131 d 22 [a0, .int x, a2, a3, a4, a5, a6, a7] st h = pR 131 d 23 [a0, .int x, a2, a3, a4, a5, a6, a7] (.int x :: st) h := pR_L rfl rfl
theorem rX3_leftOf_23 : pR 131 d 23 ls (.int x :: .ref o :: st) h = if (pin x (pln h 0 o) || pin x (pln h 9 o)) = true then pR 131 d 24 ls (.int (pct h o x.toNatClampNeg) :: st) h else none := pR_Lif rfl rfl
theorem rX3_leftOf_24 : pR 131 d 24 ls (.int y :: .int x :: st) h = if x < y then pR 131 d 27 ls st h else pR 131 d 123 ls st h := r_cge rfl rfl
theorem rX3_leftOf_27 : pR 131 d 27 [.ref o, a1, a2, a3, a4, a5, a6, a7] st h = pR 131 d 28 [.ref o, a1, a2, a3, a4, a5, a6, a7] (.ref o :: st) h := pR_L rfl rfl
theorem rX3_leftOf_28 : pR 131 d 28 [a0, .int x, a2, a3, a4, a5, a6, a7] st h = pR 131 d 29 [a0, .int x, a2, a3, a4, a5, a6, a7] (.int x :: st) h := pR_L rfl rfl
theorem rX3_leftOf_29 : pR 131 d 29 [a0, a1, a2, a3, a4, .int x, a6, a7] st h = pR 131 d 31 [a0, a1, a2, a3, a4, .int x, a6, a7] (.int x :: st) h := pR_L rfl rfl
theorem rX3_leftOf_31 : pR 131 (d + 1) 31 ls (b2 :: b1 :: .ref o :: st) h = if (pok 3 (pcl h o) && pw st) = true then pK 131 (d + 1) 31 3 ls st (pCa 109 d [.ref o, b1, b2] h) else none := r_callV rfl rfl rfl
theorem rX3_leftOf_34 : pR 131 d 34 ls (.int x :: st) h = if x = 0 then pR 131 d 37 ls st h else pR 131 d 40 ls st h := r_ine rfl rfl
theorem rX3_leftOf_37 : pR 131 d 37 ls st h = pR 131 d 117 ls st h := pR_L rfl rfl
theorem rX3_leftOf_40 : pR 131 d 40 [a0, a1, a2, .int x, a4, a5, a6, a7] st h = pR 131 d 41 [a0, a1, a2, .int x, a4, a5, a6, a7] (.int x :: st) h := pR_L rfl rfl
theorem rX3_leftOf_41 : pR 131 d 41 [a0, a1, a2, a3, a4, .int x, a6, a7] st h = pR 131 d 43 [a0, a1, a2, a3, a4, .int x, a6, a7] (.int x :: st) h := pR_L rfl rfl
theorem rX3_leftOf_43 : pR 131 d 43 ls (.int y :: .int x :: st) h = pR 131 d 44 ls (.int (x >>> (y &&& 31)) :: st) h := pR_L rfl rfl
theorem rX3_leftOf_44 : pR 131 d 44 ls st h = pR 131 d 45 ls (.int 1 :: st) h := pR_L rfl rfl
theorem rX3_leftOf_45 : pR 131 d 45 ls (.int y :: .int x :: st) h = pR 131 d 46 ls (.int (x &&& y) :: st) h := pR_L rfl rfl
theorem rX3_leftOf_46 : pR 131 d 46 ls st h = pR 131 d 47 ls (.int 1 :: st) h := pR_L rfl rfl
theorem rX3_leftOf_47 : pR 131 d 47 ls (.int y :: .int x :: st) h = if x = y then pR 131 d 50 ls st h else pR 131 d 54 ls st h := r_cne rfl rfl
theorem rX3_leftOf_50 : pR 131 d 50 ls st h = pR 131 d 51 ls (.int 1 :: st) h := pR_L rfl rfl
theorem rX3_leftOf_51 : pR 131 d 51 ls st h = pR 131 d 55 ls st h := pR_L rfl rfl
theorem rX3_leftOf_54 : pR 131 d 54 ls st h = pR 131 d 55 ls (.int 0 :: st) h := pR_L rfl rfl
theorem rX3_leftOf_55 : pR 131 d 55 [a0, a1, a2, a3, a4, a5, a6, a7] (.int x :: st) h = if p1 a6 = true then pR 131 d 57 [a0, a1, a2, a3, a4, a5, .int x, a7] st h else none := r_sto (n := 2) (k := 6) (v := .int x) (ls := [a0, a1, a2, a3, a4, a5, a6, a7]) rfl rfl rfl
theorem rX3_leftOf_57 : pR 131 d 57 [a0, a1, a2, .int x, a4, a5, a6, a7] st h = pR 131 d 58 [a0, a1, a2, .int x, a4, a5, a6, a7] (.int x :: st) h := pR_L rfl rfl
theorem rX3_leftOf_58 : pR 131 d 58 [a0, a1, a2, a3, a4, .int x, a6, a7] st h = pR 131 d 60 [a0, a1, a2, a3, a4, .int x, a6, a7] (.int x :: st) h := pR_L rfl rfl
theorem rX3_leftOf_60 : pR 131 d 60 ls st h = pR 131 d 61 ls (.int 1 :: st) h := pR_L rfl rfl
theorem rX3_leftOf_61 : pR 131 d 61 ls (.int y :: .int x :: st) h = pR 131 d 62 ls (.int (x + y) :: st) h := pR_L rfl rfl
theorem rX3_leftOf_62 : pR 131 d 62 ls (.int y :: .int x :: st) h = pR 131 d 63 ls (.int (x >>> (y &&& 31)) :: st) h := pR_L rfl rfl
theorem rX3_leftOf_63 : pR 131 d 63 ls st h = pR 131 d 64 ls (.int 1 :: st) h := pR_L rfl rfl
theorem rX3_leftOf_64 : pR 131 d 64 ls (.int y :: .int x :: st) h = pR 131 d 65 ls (.int (x &&& y) :: st) h := pR_L rfl rfl
theorem rX3_leftOf_65 : pR 131 d 65 ls st h = pR 131 d 66 ls (.int 1 :: st) h := pR_L rfl rfl
theorem rX3_leftOf_66 : pR 131 d 66 ls (.int y :: .int x :: st) h = if x = y then pR 131 d 69 ls st h else pR 131 d 73 ls st h := r_cne rfl rfl
theorem rX3_leftOf_69 : pR 131 d 69 ls st h = pR 131 d 70 ls (.int 1 :: st) h := pR_L rfl rfl
theorem rX3_leftOf_70 : pR 131 d 70 ls st h = pR 131 d 74 ls st h := pR_L rfl rfl
theorem rX3_leftOf_73 : pR 131 d 73 ls st h = pR 131 d 74 ls (.int 0 :: st) h := pR_L rfl rfl
theorem rX3_leftOf_74 : pR 131 d 74 [a0, a1, a2, a3, a4, a5, a6, a7] (.int x :: st) h = if p1 a7 = true then pR 131 d 76 [a0, a1, a2, a3, a4, a5, a6, .int x] st h else none := r_sto (n := 2) (k := 7) (v := .int x) (ls := [a0, a1, a2, a3, a4, a5, a6, a7]) rfl rfl rfl
theorem rX3_leftOf_76 : pR 131 d 76 [a0, a1, a2, a3, a4, a5, .int x, a7] st h = pR 131 d 78 [a0, a1, a2, a3, a4, a5, .int x, a7] (.int x :: st) h := pR_L rfl rfl
theorem rX3_leftOf_78 : pR 131 d 78 [a0, a1, a2, a3, a4, a5, a6, .int x] st h = pR 131 d 80 [a0, a1, a2, a3, a4, a5, a6, .int x] (.int x :: st) h := pR_L rfl rfl
theorem rX3_leftOf_80 : pR 131 d 80 ls (.int y :: .int x :: st) h = if x = y then pR 131 d 117 ls st h else pR 131 d 83 ls st h := r_ceq rfl rfl
theorem rX3_leftOf_83 : pR 131 d 83 [.ref o, a1, a2, a3, a4, a5, a6, a7] st h = pR 131 d 84 [.ref o, a1, a2, a3, a4, a5, a6, a7] (.ref o :: st) h := pR_L rfl rfl
theorem rX3_leftOf_84 : pR 131 d 84 [a0, .int x, a2, a3, a4, a5, a6, a7] st h = pR 131 d 85 [a0, .int x, a2, a3, a4, a5, a6, a7] (.int x :: st) h := pR_L rfl rfl
theorem rX3_leftOf_85 : pR 131 d 85 [.ref o, a1, a2, a3, a4, a5, a6, a7] st h = pR 131 d 86 [.ref o, a1, a2, a3, a4, a5, a6, a7] (.ref o :: st) h := pR_L rfl rfl
theorem rX3_leftOf_86 : pR 131 d 86 ls (.ref o :: st) h = if pis (pfl h 3 o 17) = true then pR 131 d 89 ls (pfl h 3 o 17 :: st) h else none := r_get rfl
theorem rX3_leftOf_89 : pR 131 d 89 ls st h = pR 131 d 91 ls (.int 24 :: st) h := pR_L rfl rfl
theorem rX3_leftOf_91 : pR 131 d 91 [a0, .int x, a2, a3, a4, a5, a6, a7] st h = pR 131 d 92 [a0, .int x, a2, a3, a4, a5, a6, a7] (.int x :: st) h := pR_L rfl rfl
theorem rX3_leftOf_92 : pR 131 d 92 ls (.int y :: .int x :: st) h = pR 131 d 93 ls (.int (x * y) :: st) h := pR_L rfl rfl
theorem rX3_leftOf_93 : pR 131 d 93 [a0, a1, a2, a3, a4, .int x, a6, a7] st h = pR 131 d 95 [a0, a1, a2, a3, a4, .int x, a6, a7] (.int x :: st) h := pR_L rfl rfl
theorem rX3_leftOf_95 : pR 131 d 95 ls (.int y :: .int x :: st) h = pR 131 d 96 ls (.int (x + y) :: st) h := pR_L rfl rfl
theorem rX3_leftOf_96 : pR 131 d 96 ls (.int x :: .ref o :: st) h = if (pin x (pln h 0 o) || pin x (pln h 9 o)) = true then pR 131 d 97 ls (.int (pct h o x.toNatClampNeg) :: st) h else none := pR_Lif rfl rfl
theorem rX3_leftOf_97 : pR 131 d 97 [a0, a1, a2, .int x, a4, a5, a6, a7] st h = pR 131 d 98 [a0, a1, a2, .int x, a4, a5, a6, a7] (.int x :: st) h := pR_L rfl rfl
theorem rX3_leftOf_98 : pR 131 (d + 1) 98 ls (b3 :: b2 :: b1 :: .ref o :: st) h = if (pok 3 (pcl h o) && pw st) = true then pK 131 (d + 1) 98 3 ls st (pCa 112 d [.ref o, b1, b2, b3] h) else none := r_callV rfl rfl rfl
theorem rX3_leftOf_101 : pR 131 d 101 ls st h = pR 131 d 102 ls (.int 3 :: st) h := pR_L rfl rfl
theorem rX3_leftOf_102 : pR 131 d 102 ls (.int y :: .int x :: st) h = if x < y then pR 131 d 105 ls st h else pR 131 d 117 ls st h := r_cge rfl rfl
theorem rX3_leftOf_105 : pR 131 d 105 [a0, a1, a2, .int x, a4, a5, a6, a7] st h = pR 131 d 106 [a0, a1, a2, .int x, a4, a5, a6, a7] (.int x :: st) h := pR_L rfl rfl
theorem rX3_leftOf_106 : pR 131 d 106 ls st h = pR 131 d 107 ls (.int 3 :: st) h := pR_L rfl rfl
theorem rX3_leftOf_107 : pR 131 d 107 [a0, a1, a2, a3, a4, .int x, a6, a7] st h = pR 131 d 109 [a0, a1, a2, a3, a4, .int x, a6, a7] (.int x :: st) h := pR_L rfl rfl
theorem rX3_leftOf_109 : pR 131 d 109 ls (.int y :: .int x :: st) h = pR 131 d 110 ls (.int (x <<< (y &&& 31)) :: st) h := pR_L rfl rfl
theorem rX3_leftOf_110 : pR 131 d 110 ls st h = pR 131 d 111 ls (.int (-1) :: st) h := pR_L rfl rfl
theorem rX3_leftOf_111 : pR 131 d 111 ls (.int y :: .int x :: st) h = pR 131 d 112 ls (.int (x ^^^ y) :: st) h := pR_L rfl rfl
theorem rX3_leftOf_112 : pR 131 d 112 ls (.int y :: .int x :: st) h = pR 131 d 113 ls (.int (x &&& y) :: st) h := pR_L rfl rfl
theorem rX3_leftOf_113 : pR 131 d 113 [a0, a1, a2, a3, a4, a5, a6, a7] (.int x :: st) h = if p1 a3 = true then pR 131 d 114 [a0, a1, a2, .int x, a4, a5, a6, a7] st h else none := r_sto (n := 1) (k := 3) (v := .int x) (ls := [a0, a1, a2, a3, a4, a5, a6, a7]) rfl rfl rfl
theorem rX3_leftOf_114 : pR 131 d 114 ls st h = pR 131 d 115 ls (.int 1 :: st) h := pR_L rfl rfl
theorem rX3_leftOf_115 : pR 131 d 115 [a0, a1, a2, a3, a4, a5, a6, a7] (.int x :: st) h = if p1 a4 = true then pR 131 d 117 [a0, a1, a2, a3, .int x, a5, a6, a7] st h else none := r_sto (n := 2) (k := 4) (v := .int x) (ls := [a0, a1, a2, a3, a4, a5, a6, a7]) rfl rfl rfl
theorem rX3_leftOf_117 : pR 131 d 117 [a0, a1, a2, a3, a4, .int x, a6, a7] st h = pR 131 d 120 [a0, a1, a2, a3, a4, .int (x + 1), a6, a7] st h := pR_L rfl rfl
theorem rX3_leftOf_120 : pR 131 d 120 ls st h = pR 131 d 16 ls st h := pR_L rfl rfl
theorem rX3_leftOf_123 : pR 131 d 123 ls st h = pR 131 d 5 ls st h := pR_L rfl rfl
theorem rX3_leftOf_126 : pR 131 d 126 [a0, a1, a2, .int x, a4, a5, a6, a7] st h = pR 131 d 127 [a0, a1, a2, .int x, a4, a5, a6, a7] (.int x :: st) h := pR_L rfl rfl
theorem rX3_leftOf_127 : pR 131 d 127 ls [.int x] h = some (.inl (some (.int x)), h) := pR_E rfl rfl
-- 132 BalloonStallModel partsOf (II)I
theorem eX3_partsOf : pCa 132 d [.ref o, .int x0, .int x1] h = pR 132 d 0 [.ref o, .int x0, .int x1, pU, pU, pU, pU, pU] [] h := rfl
theorem rX3_partsOf_0 : pR 132 d 0 [a0, a1, .int x, a3, a4, a5, a6, a7] st h = pR 132 d 1 [a0, a1, .int x, a3, a4, a5, a6, a7] (.int x :: st) h := pR_L rfl rfl
theorem rX3_partsOf_1 : pR 132 d 1 [a0, a1, a2, a3, a4, a5, a6, a7] (.int x :: st) h = if p1 a3 = true then pR 132 d 2 [a0, a1, a2, .int x, a4, a5, a6, a7] st h else none := r_sto (n := 1) (k := 3) (v := .int x) (ls := [a0, a1, a2, a3, a4, a5, a6, a7]) rfl rfl rfl
theorem rX3_partsOf_2 : pR 132 d 2 ls st h = pR 132 d 3 ls (.int 0 :: st) h := pR_L rfl rfl
theorem rX3_partsOf_3 : pR 132 d 3 [a0, a1, a2, a3, a4, a5, a6, a7] (.int x :: st) h = if p1 a4 = true then pR 132 d 5 [a0, a1, a2, a3, .int x, a5, a6, a7] st h else none := r_sto (n := 2) (k := 4) (v := .int x) (ls := [a0, a1, a2, a3, a4, a5, a6, a7]) rfl rfl rfl
theorem rX3_partsOf_5 : pR 132 d 5 [a0, a1, a2, .int x, a4, a5, a6, a7] st h = pR 132 d 6 [a0, a1, a2, .int x, a4, a5, a6, a7] (.int x :: st) h := pR_L rfl rfl
theorem rX3_partsOf_6 : pR 132 d 6 ls (.int x :: st) h = if x = 0 then pR 132 d 100 ls st h else pR 132 d 9 ls st h := r_ieq rfl rfl
theorem rX3_partsOf_9 : pR 132 d 9 [a0, a1, a2, .int x, a4, a5, a6, a7] st h = pR 132 d 10 [a0, a1, a2, .int x, a4, a5, a6, a7] (.int x :: st) h := pR_L rfl rfl
theorem rX3_partsOf_10 : pR 132 d 10 [a0, a1, a2, .int x, a4, a5, a6, a7] st h = pR 132 d 11 [a0, a1, a2, .int x, a4, a5, a6, a7] (.int x :: st) h := pR_L rfl rfl
theorem rX3_partsOf_11 : pR 132 d 11 ls (.int x :: st) h = pR 132 d 12 ls (.int (-x) :: st) h := pR_L rfl rfl
theorem rX3_partsOf_12 : pR 132 d 12 ls (.int y :: .int x :: st) h = pR 132 d 13 ls (.int (x &&& y) :: st) h := pR_L rfl rfl
theorem rX3_partsOf_13 : pR 132 d 13 [a0, a1, a2, a3, a4, a5, a6, a7] (.int x :: st) h = if p1 a5 = true then pR 132 d 15 [a0, a1, a2, a3, a4, .int x, a6, a7] st h else none := r_sto (n := 2) (k := 5) (v := .int x) (ls := [a0, a1, a2, a3, a4, a5, a6, a7]) rfl rfl rfl
theorem rX3_partsOf_15 : pR 132 d 15 ls st h = pR 132 d 16 ls (.int 0 :: st) h := pR_L rfl rfl
theorem rX3_partsOf_16 : pR 132 d 16 [a0, a1, a2, a3, a4, a5, a6, a7] (.int x :: st) h = if p1 a6 = true then pR 132 d 18 [a0, a1, a2, a3, a4, a5, .int x, a7] st h else none := r_sto (n := 2) (k := 6) (v := .int x) (ls := [a0, a1, a2, a3, a4, a5, a6, a7]) rfl rfl rfl
theorem rX3_partsOf_18 : pR 132 d 18 [a0, a1, a2, a3, a4, a5, .int x, a7] st h = pR 132 d 20 [a0, a1, a2, a3, a4, a5, .int x, a7] (.int x :: st) h := pR_L rfl rfl
theorem rX3_partsOf_20 : pR 132 d 20 [a0, a1, a2, a3, a4, .int x, a6, a7] st h = pR 132 d 22 [a0, a1, a2, a3, a4, .int x, a6, a7] (.int x :: st) h := pR_L rfl rfl
theorem rX3_partsOf_22 : pR 132 d 22 ls (.int y :: .int x :: st) h = if x = y then pR 132 d 87 ls st h else pR 132 d 25 ls st h := r_ceq rfl rfl
theorem rX3_partsOf_25 : pR 132 d 25 [a0, a1, a2, a3, a4, .int x, a6, a7] st h = pR 132 d 27 [a0, a1, a2, a3, a4, .int x, a6, a7] (.int x :: st) h := pR_L rfl rfl
theorem rX3_partsOf_27 : pR 132 d 27 [a0, a1, a2, a3, a4, a5, a6, a7] (.int x :: st) h = if p1 a6 = true then pR 132 d 29 [a0, a1, a2, a3, a4, a5, .int x, a7] st h else none := r_sto (n := 2) (k := 6) (v := .int x) (ls := [a0, a1, a2, a3, a4, a5, a6, a7]) rfl rfl rfl
theorem rX3_partsOf_29 : pR 132 d 29 ls st h = pR 132 d 30 ls (.int 0 :: st) h := pR_L rfl rfl
theorem rX3_partsOf_30 : pR 132 d 30 [a0, a1, a2, a3, a4, a5, a6, a7] (.int x :: st) h = if p1 a7 = true then pR 132 d 32 [a0, a1, a2, a3, a4, a5, a6, .int x] st h else none := r_sto (n := 2) (k := 7) (v := .int x) (ls := [a0, a1, a2, a3, a4, a5, a6, a7]) rfl rfl rfl
theorem rX3_partsOf_32 : pR 132 d 32 [a0, a1, a2, a3, a4, a5, a6, .int x] st h = pR 132 d 34 [a0, a1, a2, a3, a4, a5, a6, .int x] (.int x :: st) h := pR_L rfl rfl
theorem rX3_partsOf_34 : pR 132 d 34 [.ref o, a1, a2, a3, a4, a5, a6, a7] st h = pR 132 d 35 [.ref o, a1, a2, a3, a4, a5, a6, a7] (.ref o :: st) h := pR_L rfl rfl
theorem rX3_partsOf_35 : pR 132 d 35 ls (.ref o :: st) h = if pis (pfl h 3 o 13) = true then pR 132 d 38 ls (pfl h 3 o 13 :: st) h else none := r_get rfl
theorem rX3_partsOf_38 : pR 132 d 38 [a0, .int x, a2, a3, a4, a5, a6, a7] st h = pR 132 d 39 [a0, .int x, a2, a3, a4, a5, a6, a7] (.int x :: st) h := pR_L rfl rfl
theorem rX3_partsOf_39 : pR 132 d 39 ls (.int x :: .ref o :: st) h = if (pin x (pln h 0 o) || pin x (pln h 9 o)) = true then pR 132 d 40 ls (.int (pct h o x.toNatClampNeg) :: st) h else none := pR_Lif rfl rfl
theorem rX3_partsOf_40 : pR 132 d 40 ls (.int y :: .int x :: st) h = if x < y then pR 132 d 43 ls st h else pR 132 d 84 ls st h := r_cge rfl rfl
theorem rX3_partsOf_43 : pR 132 d 43 [a0, a1, a2, a3, a4, .int x, a6, a7] st h = pR 132 d 45 [a0, a1, a2, a3, a4, .int x, a6, a7] (.int x :: st) h := pR_L rfl rfl
theorem rX3_partsOf_45 : pR 132 d 45 [a0, a1, a2, .int x, a4, a5, a6, a7] st h = pR 132 d 46 [a0, a1, a2, .int x, a4, a5, a6, a7] (.int x :: st) h := pR_L rfl rfl
theorem rX3_partsOf_46 : pR 132 d 46 [a0, a1, a2, a3, a4, a5, a6, .int x] st h = pR 132 d 48 [a0, a1, a2, a3, a4, a5, a6, .int x] (.int x :: st) h := pR_L rfl rfl
theorem rX3_partsOf_48 : pR 132 d 48 ls (.int y :: .int x :: st) h = pR 132 d 49 ls (.int (x >>> (y &&& 31)) :: st) h := pR_L rfl rfl
theorem rX3_partsOf_49 : pR 132 d 49 ls st h = pR 132 d 50 ls (.int 1 :: st) h := pR_L rfl rfl
theorem rX3_partsOf_50 : pR 132 d 50 ls (.int y :: .int x :: st) h = pR 132 d 51 ls (.int (x &&& y) :: st) h := pR_L rfl rfl
theorem rX3_partsOf_51 : pR 132 d 51 ls st h = pR 132 d 52 ls (.int 1 :: st) h := pR_L rfl rfl
theorem rX3_partsOf_52 : pR 132 d 52 ls (.int y :: .int x :: st) h = if x = y then pR 132 d 55 ls st h else pR 132 d 74 ls st h := r_cne rfl rfl
theorem rX3_partsOf_55 : pR 132 d 55 [.ref o, a1, a2, a3, a4, a5, a6, a7] st h = pR 132 d 56 [.ref o, a1, a2, a3, a4, a5, a6, a7] (.ref o :: st) h := pR_L rfl rfl
theorem rX3_partsOf_56 : pR 132 d 56 [a0, .int x, a2, a3, a4, a5, a6, a7] st h = pR 132 d 57 [a0, .int x, a2, a3, a4, a5, a6, a7] (.int x :: st) h := pR_L rfl rfl
theorem rX3_partsOf_57 : pR 132 d 57 [a0, a1, a2, a3, a4, a5, a6, .int x] st h = pR 132 d 59 [a0, a1, a2, a3, a4, a5, a6, .int x] (.int x :: st) h := pR_L rfl rfl
theorem rX3_partsOf_59 : pR 132 d 59 [a0, a1, a2, a3, a4, .int x, a6, a7] st h = pR 132 d 61 [a0, a1, a2, a3, a4, .int x, a6, a7] (.int x :: st) h := pR_L rfl rfl
theorem rX3_partsOf_61 : pR 132 (d + 1) 61 ls (b3 :: b2 :: b1 :: .ref o :: st) h = if (pok 3 (pcl h o) && pw st) = true then pK 132 (d + 1) 61 3 ls st (pCa 133 d [.ref o, b1, b2, b3] h) else none := r_callV rfl rfl rfl
theorem rX3_partsOf_64 : pR 132 d 64 ls (.int x :: st) h = if x = 0 then pR 132 d 74 ls st h else pR 132 d 67 ls st h := r_ieq rfl rfl
theorem rX3_partsOf_67 : pR 132 d 67 ls st h = pR 132 d 68 ls (.int 1 :: st) h := pR_L rfl rfl
theorem rX3_partsOf_68 : pR 132 d 68 [a0, a1, a2, a3, a4, a5, a6, .int x] st h = pR 132 d 70 [a0, a1, a2, a3, a4, a5, a6, .int x] (.int x :: st) h := pR_L rfl rfl
theorem rX3_partsOf_70 : pR 132 d 70 ls (.int y :: .int x :: st) h = pR 132 d 71 ls (.int (x <<< (y &&& 31)) :: st) h := pR_L rfl rfl
theorem rX3_partsOf_71 : pR 132 d 71 ls st h = pR 132 d 75 ls st h := pR_L rfl rfl
theorem rX3_partsOf_74 : pR 132 d 74 ls st h = pR 132 d 75 ls (.int 0 :: st) h := pR_L rfl rfl
theorem rX3_partsOf_75 : pR 132 d 75 ls (.int y :: .int x :: st) h = pR 132 d 76 ls (.int (x ||| y) :: st) h := pR_L rfl rfl
theorem rX3_partsOf_76 : pR 132 d 76 [a0, a1, a2, a3, a4, a5, a6, a7] (.int x :: st) h = if p1 a5 = true then pR 132 d 78 [a0, a1, a2, a3, a4, .int x, a6, a7] st h else none := r_sto (n := 2) (k := 5) (v := .int x) (ls := [a0, a1, a2, a3, a4, a5, a6, a7]) rfl rfl rfl
theorem rX3_partsOf_78 : pR 132 d 78 [a0, a1, a2, a3, a4, a5, a6, .int x] st h = pR 132 d 81 [a0, a1, a2, a3, a4, a5, a6, .int (x + 1)] st h := pR_L rfl rfl
theorem rX3_partsOf_81 : pR 132 d 81 ls st h = pR 132 d 32 ls st h := pR_L rfl rfl
theorem rX3_partsOf_84 : pR 132 d 84 ls st h = pR 132 d 18 ls st h := pR_L rfl rfl
theorem rX3_partsOf_87 : pR 132 d 87 [a0, a1, a2, .int x, a4, a5, a6, a7] st h = pR 132 d 88 [a0, a1, a2, .int x, a4, a5, a6, a7] (.int x :: st) h := pR_L rfl rfl
theorem rX3_partsOf_88 : pR 132 d 88 [a0, a1, a2, a3, a4, .int x, a6, a7] st h = pR 132 d 90 [a0, a1, a2, a3, a4, .int x, a6, a7] (.int x :: st) h := pR_L rfl rfl
theorem rX3_partsOf_90 : pR 132 d 90 ls st h = pR 132 d 91 ls (.int (-1) :: st) h := pR_L rfl rfl
theorem rX3_partsOf_91 : pR 132 d 91 ls (.int y :: .int x :: st) h = pR 132 d 92 ls (.int (x ^^^ y) :: st) h := pR_L rfl rfl
theorem rX3_partsOf_92 : pR 132 d 92 ls (.int y :: .int x :: st) h = pR 132 d 93 ls (.int (x &&& y) :: st) h := pR_L rfl rfl
theorem rX3_partsOf_93 : pR 132 d 93 [a0, a1, a2, a3, a4, a5, a6, a7] (.int x :: st) h = if p1 a3 = true then pR 132 d 94 [a0, a1, a2, .int x, a4, a5, a6, a7] st h else none := r_sto (n := 1) (k := 3) (v := .int x) (ls := [a0, a1, a2, a3, a4, a5, a6, a7]) rfl rfl rfl
theorem rX3_partsOf_94 : pR 132 d 94 [a0, a1, a2, a3, .int x, a5, a6, a7] st h = pR 132 d 97 [a0, a1, a2, a3, .int (x + 1), a5, a6, a7] st h := pR_L rfl rfl
theorem rX3_partsOf_97 : pR 132 d 97 ls st h = pR 132 d 5 ls st h := pR_L rfl rfl
theorem rX3_partsOf_100 : pR 132 d 100 [a0, a1, a2, a3, .int x, a5, a6, a7] st h = pR 132 d 102 [a0, a1, a2, a3, .int x, a5, a6, a7] (.int x :: st) h := pR_L rfl rfl
theorem rX3_partsOf_102 : pR 132 d 102 ls [.int x] h = some (.inl (some (.int x)), h) := pR_E rfl rfl
-- 133 BalloonStallModel meets (III)Z
theorem eX3_meets : pCa 133 d [.ref o, .int x0, .int x1, .int x2] h = pR 133 d 0 [.ref o, .int x0, .int x1, .int x2, pU, pU, pU] [] h := rfl
theorem rX3_meets_0 : pR 133 d 0 ls st h = pR 133 d 1 ls (.int 0 :: st) h := pR_L rfl rfl
theorem rX3_meets_1 : pR 133 d 1 [a0, a1, a2, a3, a4, a5, a6] (.int x :: st) h = if p1 a4 = true then pR 133 d 3 [a0, a1, a2, a3, .int x, a5, a6] st h else none := r_sto (n := 2) (k := 4) (v := .int x) (ls := [a0, a1, a2, a3, a4, a5, a6]) rfl rfl rfl
theorem rX3_meets_3 : pR 133 d 3 [a0, a1, a2, a3, .int x, a5, a6] st h = pR 133 d 5 [a0, a1, a2, a3, .int x, a5, a6] (.int x :: st) h := pR_L rfl rfl
theorem rX3_meets_5 : pR 133 d 5 [.ref o, a1, a2, a3, a4, a5, a6] st h = pR 133 d 6 [.ref o, a1, a2, a3, a4, a5, a6] (.ref o :: st) h := pR_L rfl rfl
theorem rX3_meets_6 : pR 133 d 6 ls (.ref o :: st) h = if pis (pfl h 3 o 13) = true then pR 133 d 9 ls (pfl h 3 o 13 :: st) h else none := r_get rfl
theorem rX3_meets_9 : pR 133 d 9 [a0, .int x, a2, a3, a4, a5, a6] st h = pR 133 d 10 [a0, .int x, a2, a3, a4, a5, a6] (.int x :: st) h := pR_L rfl rfl
theorem rX3_meets_10 : pR 133 d 10 ls (.int x :: .ref o :: st) h = if (pin x (pln h 0 o) || pin x (pln h 9 o)) = true then pR 133 d 11 ls (.int (pct h o x.toNatClampNeg) :: st) h else none := pR_Lif rfl rfl
theorem rX3_meets_11 : pR 133 d 11 ls (.int y :: .int x :: st) h = if x < y then pR 133 d 14 ls st h else pR 133 d 117 ls st h := r_cge rfl rfl
theorem rX3_meets_14 : pR 133 d 14 [a0, a1, a2, .int x, a4, a5, a6] st h = pR 133 d 15 [a0, a1, a2, .int x, a4, a5, a6] (.int x :: st) h := pR_L rfl rfl
theorem rX3_meets_15 : pR 133 d 15 [a0, a1, a2, a3, .int x, a5, a6] st h = pR 133 d 17 [a0, a1, a2, a3, .int x, a5, a6] (.int x :: st) h := pR_L rfl rfl
theorem rX3_meets_17 : pR 133 d 17 ls (.int y :: .int x :: st) h = pR 133 d 18 ls (.int (x >>> (y &&& 31)) :: st) h := pR_L rfl rfl
theorem rX3_meets_18 : pR 133 d 18 ls st h = pR 133 d 19 ls (.int 1 :: st) h := pR_L rfl rfl
theorem rX3_meets_19 : pR 133 d 19 ls (.int y :: .int x :: st) h = pR 133 d 20 ls (.int (x &&& y) :: st) h := pR_L rfl rfl
theorem rX3_meets_20 : pR 133 d 20 ls st h = pR 133 d 21 ls (.int 1 :: st) h := pR_L rfl rfl
theorem rX3_meets_21 : pR 133 d 21 ls (.int y :: .int x :: st) h = if x = y then pR 133 d 24 ls st h else pR 133 d 111 ls st h := r_cne rfl rfl
theorem rX3_meets_24 : pR 133 d 24 ls st h = pR 133 d 26 ls (.int 24 :: st) h := pR_L rfl rfl
theorem rX3_meets_26 : pR 133 d 26 [a0, .int x, a2, a3, a4, a5, a6] st h = pR 133 d 27 [a0, .int x, a2, a3, a4, a5, a6] (.int x :: st) h := pR_L rfl rfl
theorem rX3_meets_27 : pR 133 d 27 ls (.int y :: .int x :: st) h = pR 133 d 28 ls (.int (x * y) :: st) h := pR_L rfl rfl
theorem rX3_meets_28 : pR 133 d 28 [a0, a1, a2, a3, .int x, a5, a6] st h = pR 133 d 30 [a0, a1, a2, a3, .int x, a5, a6] (.int x :: st) h := pR_L rfl rfl
theorem rX3_meets_30 : pR 133 d 30 ls (.int y :: .int x :: st) h = pR 133 d 31 ls (.int (x + y) :: st) h := pR_L rfl rfl
theorem rX3_meets_31 : pR 133 d 31 [a0, a1, a2, a3, a4, a5, a6] (.int x :: st) h = if p1 a5 = true then pR 133 d 33 [a0, a1, a2, a3, a4, .int x, a6] st h else none := r_sto (n := 2) (k := 5) (v := .int x) (ls := [a0, a1, a2, a3, a4, a5, a6]) rfl rfl rfl
theorem rX3_meets_33 : pR 133 d 33 ls st h = pR 133 d 35 ls (.int 24 :: st) h := pR_L rfl rfl
theorem rX3_meets_35 : pR 133 d 35 [a0, .int x, a2, a3, a4, a5, a6] st h = pR 133 d 36 [a0, .int x, a2, a3, a4, a5, a6] (.int x :: st) h := pR_L rfl rfl
theorem rX3_meets_36 : pR 133 d 36 ls (.int y :: .int x :: st) h = pR 133 d 37 ls (.int (x * y) :: st) h := pR_L rfl rfl
theorem rX3_meets_37 : pR 133 d 37 [a0, a1, .int x, a3, a4, a5, a6] st h = pR 133 d 38 [a0, a1, .int x, a3, a4, a5, a6] (.int x :: st) h := pR_L rfl rfl
theorem rX3_meets_38 : pR 133 d 38 ls (.int y :: .int x :: st) h = pR 133 d 39 ls (.int (x + y) :: st) h := pR_L rfl rfl
theorem rX3_meets_39 : pR 133 d 39 [a0, a1, a2, a3, a4, a5, a6] (.int x :: st) h = if p1 a6 = true then pR 133 d 41 [a0, a1, a2, a3, a4, a5, .int x] st h else none := r_sto (n := 2) (k := 6) (v := .int x) (ls := [a0, a1, a2, a3, a4, a5, a6]) rfl rfl rfl
theorem rX3_meets_41 : pR 133 d 41 [.ref o, a1, a2, a3, a4, a5, a6] st h = pR 133 d 42 [.ref o, a1, a2, a3, a4, a5, a6] (.ref o :: st) h := pR_L rfl rfl
theorem rX3_meets_42 : pR 133 d 42 ls (.ref o :: st) h = if pis (pfl h 3 o 16) = true then pR 133 d 45 ls (pfl h 3 o 16 :: st) h else none := r_get rfl
theorem rX3_meets_45 : pR 133 d 45 [a0, a1, a2, a3, a4, .int x, a6] st h = pR 133 d 47 [a0, a1, a2, a3, a4, .int x, a6] (.int x :: st) h := pR_L rfl rfl
theorem rX3_meets_47 : pR 133 d 47 ls (.int x :: .ref o :: st) h = if (pin x (pln h 0 o) || pin x (pln h 9 o)) = true then pR 133 d 48 ls (.int (pct h o x.toNatClampNeg) :: st) h else none := pR_Lif rfl rfl
theorem rX3_meets_48 : pR 133 d 48 [.ref o, a1, a2, a3, a4, a5, a6] st h = pR 133 d 49 [.ref o, a1, a2, a3, a4, a5, a6] (.ref o :: st) h := pR_L rfl rfl
theorem rX3_meets_49 : pR 133 d 49 ls (.ref o :: st) h = if pis (pfl h 3 o 16) = true then pR 133 d 52 ls (pfl h 3 o 16 :: st) h else none := r_get rfl
theorem rX3_meets_52 : pR 133 d 52 [a0, a1, a2, a3, a4, a5, .int x] st h = pR 133 d 54 [a0, a1, a2, a3, a4, a5, .int x] (.int x :: st) h := pR_L rfl rfl
theorem rX3_meets_54 : pR 133 d 54 ls (.int x :: .ref o :: st) h = if (pin x (pln h 0 o) || pin x (pln h 9 o)) = true then pR 133 d 55 ls (.int (pct h o x.toNatClampNeg) :: st) h else none := pR_Lif rfl rfl
theorem rX3_meets_55 : pR 133 d 55 ls (.int y :: .int x :: st) h = if x = y then pR 133 d 109 ls st h else pR 133 d 58 ls st h := r_ceq rfl rfl
theorem rX3_meets_58 : pR 133 d 58 [.ref o, a1, a2, a3, a4, a5, a6] st h = pR 133 d 59 [.ref o, a1, a2, a3, a4, a5, a6] (.ref o :: st) h := pR_L rfl rfl
theorem rX3_meets_59 : pR 133 d 59 ls (.ref o :: st) h = if pis (pfl h 3 o 16) = true then pR 133 d 62 ls (pfl h 3 o 16 :: st) h else none := r_get rfl
theorem rX3_meets_62 : pR 133 d 62 [a0, a1, a2, a3, a4, .int x, a6] st h = pR 133 d 64 [a0, a1, a2, a3, a4, .int x, a6] (.int x :: st) h := pR_L rfl rfl
theorem rX3_meets_64 : pR 133 d 64 ls (.int x :: .ref o :: st) h = if (pin x (pln h 0 o) || pin x (pln h 9 o)) = true then pR 133 d 65 ls (.int (pct h o x.toNatClampNeg) :: st) h else none := pR_Lif rfl rfl
theorem rX3_meets_65 : pR 133 d 65 [.ref o, a1, a2, a3, a4, a5, a6] st h = pR 133 d 66 [.ref o, a1, a2, a3, a4, a5, a6] (.ref o :: st) h := pR_L rfl rfl
theorem rX3_meets_66 : pR 133 d 66 ls (.ref o :: st) h = if pis (pfl h 3 o 17) = true then pR 133 d 69 ls (pfl h 3 o 17 :: st) h else none := r_get rfl
theorem rX3_meets_69 : pR 133 d 69 [a0, a1, a2, a3, a4, a5, .int x] st h = pR 133 d 71 [a0, a1, a2, a3, a4, a5, .int x] (.int x :: st) h := pR_L rfl rfl
theorem rX3_meets_71 : pR 133 d 71 ls (.int x :: .ref o :: st) h = if (pin x (pln h 0 o) || pin x (pln h 9 o)) = true then pR 133 d 72 ls (.int (pct h o x.toNatClampNeg) :: st) h else none := pR_Lif rfl rfl
theorem rX3_meets_72 : pR 133 d 72 ls (.int y :: .int x :: st) h = if x = y then pR 133 d 109 ls st h else pR 133 d 75 ls st h := r_ceq rfl rfl
theorem rX3_meets_75 : pR 133 d 75 [.ref o, a1, a2, a3, a4, a5, a6] st h = pR 133 d 76 [.ref o, a1, a2, a3, a4, a5, a6] (.ref o :: st) h := pR_L rfl rfl
theorem rX3_meets_76 : pR 133 d 76 ls (.ref o :: st) h = if pis (pfl h 3 o 17) = true then pR 133 d 79 ls (pfl h 3 o 17 :: st) h else none := r_get rfl
theorem rX3_meets_79 : pR 133 d 79 [a0, a1, a2, a3, a4, .int x, a6] st h = pR 133 d 81 [a0, a1, a2, a3, a4, .int x, a6] (.int x :: st) h := pR_L rfl rfl
theorem rX3_meets_81 : pR 133 d 81 ls (.int x :: .ref o :: st) h = if (pin x (pln h 0 o) || pin x (pln h 9 o)) = true then pR 133 d 82 ls (.int (pct h o x.toNatClampNeg) :: st) h else none := pR_Lif rfl rfl
theorem rX3_meets_82 : pR 133 d 82 [.ref o, a1, a2, a3, a4, a5, a6] st h = pR 133 d 83 [.ref o, a1, a2, a3, a4, a5, a6] (.ref o :: st) h := pR_L rfl rfl
theorem rX3_meets_83 : pR 133 d 83 ls (.ref o :: st) h = if pis (pfl h 3 o 16) = true then pR 133 d 86 ls (pfl h 3 o 16 :: st) h else none := r_get rfl
theorem rX3_meets_86 : pR 133 d 86 [a0, a1, a2, a3, a4, a5, .int x] st h = pR 133 d 88 [a0, a1, a2, a3, a4, a5, .int x] (.int x :: st) h := pR_L rfl rfl
theorem rX3_meets_88 : pR 133 d 88 ls (.int x :: .ref o :: st) h = if (pin x (pln h 0 o) || pin x (pln h 9 o)) = true then pR 133 d 89 ls (.int (pct h o x.toNatClampNeg) :: st) h else none := pR_Lif rfl rfl
theorem rX3_meets_89 : pR 133 d 89 ls (.int y :: .int x :: st) h = if x = y then pR 133 d 109 ls st h else pR 133 d 92 ls st h := r_ceq rfl rfl
theorem rX3_meets_92 : pR 133 d 92 [.ref o, a1, a2, a3, a4, a5, a6] st h = pR 133 d 93 [.ref o, a1, a2, a3, a4, a5, a6] (.ref o :: st) h := pR_L rfl rfl
theorem rX3_meets_93 : pR 133 d 93 ls (.ref o :: st) h = if pis (pfl h 3 o 17) = true then pR 133 d 96 ls (pfl h 3 o 17 :: st) h else none := r_get rfl
theorem rX3_meets_96 : pR 133 d 96 [a0, a1, a2, a3, a4, .int x, a6] st h = pR 133 d 98 [a0, a1, a2, a3, a4, .int x, a6] (.int x :: st) h := pR_L rfl rfl
theorem rX3_meets_98 : pR 133 d 98 ls (.int x :: .ref o :: st) h = if (pin x (pln h 0 o) || pin x (pln h 9 o)) = true then pR 133 d 99 ls (.int (pct h o x.toNatClampNeg) :: st) h else none := pR_Lif rfl rfl
theorem rX3_meets_99 : pR 133 d 99 [.ref o, a1, a2, a3, a4, a5, a6] st h = pR 133 d 100 [.ref o, a1, a2, a3, a4, a5, a6] (.ref o :: st) h := pR_L rfl rfl
theorem rX3_meets_100 : pR 133 d 100 ls (.ref o :: st) h = if pis (pfl h 3 o 17) = true then pR 133 d 103 ls (pfl h 3 o 17 :: st) h else none := r_get rfl
theorem rX3_meets_103 : pR 133 d 103 [a0, a1, a2, a3, a4, a5, .int x] st h = pR 133 d 105 [a0, a1, a2, a3, a4, a5, .int x] (.int x :: st) h := pR_L rfl rfl
theorem rX3_meets_105 : pR 133 d 105 ls (.int x :: .ref o :: st) h = if (pin x (pln h 0 o) || pin x (pln h 9 o)) = true then pR 133 d 106 ls (.int (pct h o x.toNatClampNeg) :: st) h else none := pR_Lif rfl rfl
theorem rX3_meets_106 : pR 133 d 106 ls (.int y :: .int x :: st) h = if x = y then pR 133 d 109 ls st h else pR 133 d 111 ls st h := r_cne rfl rfl
theorem rX3_meets_109 : pR 133 d 109 ls st h = pR 133 d 110 ls (.int 1 :: st) h := pR_L rfl rfl
theorem rX3_meets_1100 : pR 133 d 110 ls [.int 0] h = some (.inl (some (.int 0)), h) := pR_E rfl rfl
theorem rX3_meets_1101 : pR 133 d 110 ls [.int 1] h = some (.inl (some (.int 1)), h) := pR_E rfl rfl
theorem rX3_meets_111 : pR 133 d 111 [a0, a1, a2, a3, .int x, a5, a6] st h = pR 133 d 114 [a0, a1, a2, a3, .int (x + 1), a5, a6] st h := pR_L rfl rfl
theorem rX3_meets_114 : pR 133 d 114 ls st h = pR 133 d 3 ls st h := pR_L rfl rfl
theorem rX3_meets_117 : pR 133 d 117 ls st h = pR 133 d 118 ls (.int 0 :: st) h := pR_L rfl rfl
theorem rX3_meets_1180 : pR 133 d 118 ls [.int 0] h = some (.inl (some (.int 0)), h) := pR_E rfl rfl
theorem rX3_meets_1181 : pR 133 d 118 ls [.int 1] h = some (.inl (some (.int 1)), h) := pR_E rfl rfl
-- 134 BalloonStallModel weakest (I)I
theorem eX3_weakest : pCa 134 d [.ref o, .int x0] h = pR 134 d 0 [.ref o, .int x0, pU, pU] [] h := rfl
theorem rX3_weakest_0 : pR 134 d 0 [.ref o, a1, a2, a3] st h = pR 134 d 1 [.ref o, a1, a2, a3] (.ref o :: st) h := pR_L rfl rfl
theorem rX3_weakest_1 : pR 134 d 1 [a0, .int x, a2, a3] st h = pR 134 d 2 [a0, .int x, a2, a3] (.int x :: st) h := pR_L rfl rfl
theorem rX3_weakest_2 : pR 134 (d + 1) 2 ls (b1 :: .ref o :: st) h = if (pok 3 (pcl h o) && pw st) = true then pK 134 (d + 1) 2 3 ls st (pCa 108 d [.ref o, b1] h) else none := r_callV rfl rfl rfl
theorem rX3_weakest_5 : pR 134 d 5 ls (.int x :: st) h = if x = 0 then pR 134 d 8 ls st h else pR 134 d 10 ls st h := r_ine rfl rfl
theorem rX3_weakest_8 : pR 134 d 8 ls st h = pR 134 d 9 ls (.int (-1) :: st) h := pR_L rfl rfl
theorem rX3_weakest_9 : pR 134 d 9 ls [.int x] h = some (.inl (some (.int x)), h) := pR_E rfl rfl
theorem rX3_weakest_10 : pR 134 d 10 ls st h = pR 134 d 11 ls (.int (-1) :: st) h := pR_L rfl rfl
theorem rX3_weakest_11 : pR 134 d 11 [a0, a1, a2, a3] (.int x :: st) h = if p1 a2 = true then pR 134 d 12 [a0, a1, .int x, a3] st h else none := r_sto (n := 1) (k := 2) (v := .int x) (ls := [a0, a1, a2, a3]) rfl rfl rfl
theorem rX3_weakest_12 : pR 134 d 12 ls st h = pR 134 d 13 ls (.int 0 :: st) h := pR_L rfl rfl
theorem rX3_weakest_13 : pR 134 d 13 [a0, a1, a2, a3] (.int x :: st) h = if p1 a3 = true then pR 134 d 14 [a0, a1, a2, .int x] st h else none := r_sto (n := 1) (k := 3) (v := .int x) (ls := [a0, a1, a2, a3]) rfl rfl rfl
theorem rX3_weakest_14 : pR 134 d 14 [a0, a1, a2, .int x] st h = pR 134 d 15 [a0, a1, a2, .int x] (.int x :: st) h := pR_L rfl rfl
theorem rX3_weakest_15 : pR 134 d 15 [.ref o, a1, a2, a3] st h = pR 134 d 16 [.ref o, a1, a2, a3] (.ref o :: st) h := pR_L rfl rfl
theorem rX3_weakest_16 : pR 134 d 16 ls (.ref o :: st) h = if pis (pfl h 3 o 13) = true then pR 134 d 19 ls (pfl h 3 o 13 :: st) h else none := r_get rfl
theorem rX3_weakest_19 : pR 134 d 19 [a0, .int x, a2, a3] st h = pR 134 d 20 [a0, .int x, a2, a3] (.int x :: st) h := pR_L rfl rfl
theorem rX3_weakest_20 : pR 134 d 20 ls (.int x :: .ref o :: st) h = if (pin x (pln h 0 o) || pin x (pln h 9 o)) = true then pR 134 d 21 ls (.int (pct h o x.toNatClampNeg) :: st) h else none := pR_Lif rfl rfl
theorem rX3_weakest_21 : pR 134 d 21 ls (.int y :: .int x :: st) h = if x < y then pR 134 d 24 ls st h else pR 134 d 58 ls st h := r_cge rfl rfl
theorem rX3_weakest_24 : pR 134 d 24 [a0, a1, .int x, a3] st h = pR 134 d 25 [a0, a1, .int x, a3] (.int x :: st) h := pR_L rfl rfl
theorem rX3_weakest_25 : pR 134 d 25 ls st h = pR 134 d 26 ls (.int (-1) :: st) h := pR_L rfl rfl
theorem rX3_weakest_26 : pR 134 d 26 ls (.int y :: .int x :: st) h = if x = y then pR 134 d 46 ls st h else pR 134 d 29 ls st h := r_ceq rfl rfl
theorem rX3_weakest_29 : pR 134 d 29 [.ref o, a1, a2, a3] st h = pR 134 d 30 [.ref o, a1, a2, a3] (.ref o :: st) h := pR_L rfl rfl
theorem rX3_weakest_30 : pR 134 d 30 [a0, .int x, a2, a3] st h = pR 134 d 31 [a0, .int x, a2, a3] (.int x :: st) h := pR_L rfl rfl
theorem rX3_weakest_31 : pR 134 d 31 [a0, a1, a2, .int x] st h = pR 134 d 32 [a0, a1, a2, .int x] (.int x :: st) h := pR_L rfl rfl
theorem rX3_weakest_32 : pR 134 d 32 ls st h = pR 134 d 33 ls (.int 1 :: st) h := pR_L rfl rfl
theorem rX3_weakest_33 : pR 134 (d + 1) 33 ls (b3 :: b2 :: b1 :: .ref o :: st) h = if (pok 3 (pcl h o) && pw st) = true then pK 134 (d + 1) 33 3 ls st (pCa 130 d [.ref o, b1, b2, b3] h) else none := r_callV rfl rfl rfl
theorem rX3_weakest_36 : pR 134 d 36 [.ref o, a1, a2, a3] st h = pR 134 d 37 [.ref o, a1, a2, a3] (.ref o :: st) h := pR_L rfl rfl
theorem rX3_weakest_37 : pR 134 d 37 [a0, .int x, a2, a3] st h = pR 134 d 38 [a0, .int x, a2, a3] (.int x :: st) h := pR_L rfl rfl
theorem rX3_weakest_38 : pR 134 d 38 [a0, a1, .int x, a3] st h = pR 134 d 39 [a0, a1, .int x, a3] (.int x :: st) h := pR_L rfl rfl
theorem rX3_weakest_39 : pR 134 d 39 ls st h = pR 134 d 40 ls (.int 1 :: st) h := pR_L rfl rfl
theorem rX3_weakest_40 : pR 134 (d + 1) 40 ls (b3 :: b2 :: b1 :: .ref o :: st) h = if (pok 3 (pcl h o) && pw st) = true then pK 134 (d + 1) 40 3 ls st (pCa 130 d [.ref o, b1, b2, b3] h) else none := r_callV rfl rfl rfl
theorem rX3_weakest_43 : pR 134 d 43 ls (.int y :: .int x :: st) h = if y < x then pR 134 d 46 ls st h else pR 134 d 50 ls st h := r_cle rfl rfl
theorem rX3_weakest_46 : pR 134 d 46 [a0, a1, a2, .int x] st h = pR 134 d 47 [a0, a1, a2, .int x] (.int x :: st) h := pR_L rfl rfl
theorem rX3_weakest_47 : pR 134 d 47 ls st h = pR 134 d 51 ls st h := pR_L rfl rfl
theorem rX3_weakest_50 : pR 134 d 50 [a0, a1, .int x, a3] st h = pR 134 d 51 [a0, a1, .int x, a3] (.int x :: st) h := pR_L rfl rfl
theorem rX3_weakest_51 : pR 134 d 51 [a0, a1, a2, a3] (.int x :: st) h = if p1 a2 = true then pR 134 d 52 [a0, a1, .int x, a3] st h else none := r_sto (n := 1) (k := 2) (v := .int x) (ls := [a0, a1, a2, a3]) rfl rfl rfl
theorem rX3_weakest_52 : pR 134 d 52 [a0, a1, a2, .int x] st h = pR 134 d 55 [a0, a1, a2, .int (x + 1)] st h := pR_L rfl rfl
theorem rX3_weakest_55 : pR 134 d 55 ls st h = pR 134 d 14 ls st h := pR_L rfl rfl
theorem rX3_weakest_58 : pR 134 d 58 [a0, a1, .int x, a3] st h = pR 134 d 59 [a0, a1, .int x, a3] (.int x :: st) h := pR_L rfl rfl
theorem rX3_weakest_59 : pR 134 d 59 ls [.int x] h = some (.inl (some (.int x)), h) := pR_E rfl rfl
-- 135 BalloonStallModel alike (II)I
theorem eX3_alike : pCa 135 d [.ref o, .int x0, .int x1] h = pR 135 d 0 [.ref o, .int x0, .int x1] [] h := rfl
theorem rX3_alike_0 : pR 135 d 0 [.ref o, a1, a2] st h = pR 135 d 1 [.ref o, a1, a2] (.ref o :: st) h := pR_L rfl rfl
theorem rX3_alike_1 : pR 135 d 1 [a0, .int x, a2] st h = pR 135 d 2 [a0, .int x, a2] (.int x :: st) h := pR_L rfl rfl
theorem rX3_alike_2 : pR 135 d 2 [a0, a1, .int x] st h = pR 135 d 3 [a0, a1, .int x] (.int x :: st) h := pR_L rfl rfl
theorem rX3_alike_3 : pR 135 (d + 1) 3 ls (b2 :: b1 :: .ref o :: st) h = if (pok 3 (pcl h o) && pw st) = true then pK 135 (d + 1) 3 3 ls st (pCa 136 d [.ref o, b1, b2] h) else none := r_callV rfl rfl rfl
theorem rX3_alike_6 : pR 135 d 6 ls (.int x :: st) h = if x = 0 then pR 135 d 26 ls st h else pR 135 d 9 ls st h := r_ieq rfl rfl
theorem rX3_alike_9 : pR 135 d 9 [.ref o, a1, a2] st h = pR 135 d 10 [.ref o, a1, a2] (.ref o :: st) h := pR_L rfl rfl
theorem rX3_alike_10 : pR 135 d 10 [a0, .int x, a2] st h = pR 135 d 11 [a0, .int x, a2] (.int x :: st) h := pR_L rfl rfl
theorem rX3_alike_11 : pR 135 d 11 [a0, a1, .int x] st h = pR 135 d 12 [a0, a1, .int x] (.int x :: st) h := pR_L rfl rfl
theorem rX3_alike_12 : pR 135 (d + 1) 12 ls (b2 :: b1 :: .ref o :: st) h = if (pok 3 (pcl h o) && pw st) = true then pK 135 (d + 1) 12 3 ls st (pCa 137 d [.ref o, b1, b2] h) else none := r_callV rfl rfl rfl
theorem rX3_alike_15 : pR 135 d 15 ls (.int x :: st) h = if x = 0 then pR 135 d 22 ls st h else pR 135 d 18 ls st h := r_ieq rfl rfl
theorem rX3_alike_18 : pR 135 d 18 ls st h = pR 135 d 19 ls (.int 1 :: st) h := pR_L rfl rfl
theorem rX3_alike_19 : pR 135 d 19 ls st h = pR 135 d 27 ls st h := pR_L rfl rfl
theorem rX3_alike_22 : pR 135 d 22 ls st h = pR 135 d 23 ls (.int 0 :: st) h := pR_L rfl rfl
theorem rX3_alike_23 : pR 135 d 23 ls st h = pR 135 d 27 ls st h := pR_L rfl rfl
theorem rX3_alike_26 : pR 135 d 26 ls st h = pR 135 d 27 ls (.int (-1) :: st) h := pR_L rfl rfl
theorem rX3_alike_27 : pR 135 d 27 ls [.int x] h = some (.inl (some (.int x)), h) := pR_E rfl rfl
-- 136 BalloonStallModel mayMatch (II)Z
theorem eX3_mayMatch : pCa 136 d [.ref o, .int x0, .int x1] h = pR 136 d 0 [.ref o, .int x0, .int x1] [] h := rfl
theorem rX3_mayMatch_0 : pR 136 d 0 [.ref o, a1, a2] st h = pR 136 d 1 [.ref o, a1, a2] (.ref o :: st) h := pR_L rfl rfl
theorem rX3_mayMatch_1 : pR 136 d 1 [a0, .int x, a2] st h = pR 136 d 2 [a0, .int x, a2] (.int x :: st) h := pR_L rfl rfl
theorem rX3_mayMatch_2 : pR 136 (d + 1) 2 ls (b1 :: .ref o :: st) h = if (pok 3 (pcl h o) && pw st) = true then pK 136 (d + 1) 2 3 ls st (pCa 108 d [.ref o, b1] h) else none := r_callV rfl rfl rfl
theorem rX3_mayMatch_5 : pR 136 d 5 ls (.int x :: st) h = if x = 0 then pR 136 d 42 ls st h else pR 136 d 8 ls st h := r_ieq rfl rfl
theorem rX3_mayMatch_8 : pR 136 d 8 [.ref o, a1, a2] st h = pR 136 d 9 [.ref o, a1, a2] (.ref o :: st) h := pR_L rfl rfl
theorem rX3_mayMatch_9 : pR 136 d 9 [a0, a1, .int x] st h = pR 136 d 10 [a0, a1, .int x] (.int x :: st) h := pR_L rfl rfl
theorem rX3_mayMatch_10 : pR 136 (d + 1) 10 ls (b1 :: .ref o :: st) h = if (pok 3 (pcl h o) && pw st) = true then pK 136 (d + 1) 10 3 ls st (pCa 108 d [.ref o, b1] h) else none := r_callV rfl rfl rfl
theorem rX3_mayMatch_13 : pR 136 d 13 ls (.int x :: st) h = if x = 0 then pR 136 d 42 ls st h else pR 136 d 16 ls st h := r_ieq rfl rfl
theorem rX3_mayMatch_16 : pR 136 d 16 [.ref o, a1, a2] st h = pR 136 d 17 [.ref o, a1, a2] (.ref o :: st) h := pR_L rfl rfl
theorem rX3_mayMatch_17 : pR 136 d 17 ls (.ref o :: st) h = if pis (pfl h 3 o 14) = true then pR 136 d 20 ls (pfl h 3 o 14 :: st) h else none := r_get rfl
theorem rX3_mayMatch_20 : pR 136 d 20 [a0, .int x, a2] st h = pR 136 d 21 [a0, .int x, a2] (.int x :: st) h := pR_L rfl rfl
theorem rX3_mayMatch_21 : pR 136 d 21 ls (.int x :: .ref o :: st) h = if (pin x (pln h 0 o) || pin x (pln h 9 o)) = true then pR 136 d 22 ls (.int (pct h o x.toNatClampNeg) :: st) h else none := pR_Lif rfl rfl
theorem rX3_mayMatch_22 : pR 136 d 22 ls st h = pR 136 d 24 ls (.int 8 :: st) h := pR_L rfl rfl
theorem rX3_mayMatch_24 : pR 136 d 24 ls (.int y :: .int x :: st) h = if y < x then pR 136 d 42 ls st h else pR 136 d 27 ls st h := r_cgt rfl rfl
theorem rX3_mayMatch_27 : pR 136 d 27 [.ref o, a1, a2] st h = pR 136 d 28 [.ref o, a1, a2] (.ref o :: st) h := pR_L rfl rfl
theorem rX3_mayMatch_28 : pR 136 d 28 ls (.ref o :: st) h = if pis (pfl h 3 o 14) = true then pR 136 d 31 ls (pfl h 3 o 14 :: st) h else none := r_get rfl
theorem rX3_mayMatch_31 : pR 136 d 31 [a0, a1, .int x] st h = pR 136 d 32 [a0, a1, .int x] (.int x :: st) h := pR_L rfl rfl
theorem rX3_mayMatch_32 : pR 136 d 32 ls (.int x :: .ref o :: st) h = if (pin x (pln h 0 o) || pin x (pln h 9 o)) = true then pR 136 d 33 ls (.int (pct h o x.toNatClampNeg) :: st) h else none := pR_Lif rfl rfl
theorem rX3_mayMatch_33 : pR 136 d 33 ls st h = pR 136 d 35 ls (.int 8 :: st) h := pR_L rfl rfl
theorem rX3_mayMatch_35 : pR 136 d 35 ls (.int y :: .int x :: st) h = if y < x then pR 136 d 42 ls st h else pR 136 d 38 ls st h := r_cgt rfl rfl
theorem rX3_mayMatch_38 : pR 136 d 38 ls st h = pR 136 d 39 ls (.int 1 :: st) h := pR_L rfl rfl
theorem rX3_mayMatch_39 : pR 136 d 39 ls st h = pR 136 d 43 ls st h := pR_L rfl rfl
theorem rX3_mayMatch_42 : pR 136 d 42 ls st h = pR 136 d 43 ls (.int 0 :: st) h := pR_L rfl rfl
theorem rX3_mayMatch_430 : pR 136 d 43 ls [.int 0] h = some (.inl (some (.int 0)), h) := pR_E rfl rfl
theorem rX3_mayMatch_431 : pR 136 d 43 ls [.int 1] h = some (.inl (some (.int 1)), h) := pR_E rfl rfl
-- 137 BalloonStallModel areAlike (II)Z
theorem eX3_areAlike : pCa 137 d [.ref o, .int x0, .int x1] h = pR 137 d 0 [.ref o, .int x0, .int x1] [] h := rfl
theorem rX3_areAlike_0 : pR 137 d 0 [.ref o, a1, a2] st h = pR 137 d 1 [.ref o, a1, a2] (.ref o :: st) h := pR_L rfl rfl
theorem rX3_areAlike_1 : pR 137 d 1 ls (.ref o :: st) h = if pis (pfl h 3 o 14) = true then pR 137 d 4 ls (pfl h 3 o 14 :: st) h else none := r_get rfl
theorem rX3_areAlike_4 : pR 137 d 4 [a0, .int x, a2] st h = pR 137 d 5 [a0, .int x, a2] (.int x :: st) h := pR_L rfl rfl
theorem rX3_areAlike_5 : pR 137 d 5 ls (.int x :: .ref o :: st) h = if (pin x (pln h 0 o) || pin x (pln h 9 o)) = true then pR 137 d 6 ls (.int (pct h o x.toNatClampNeg) :: st) h else none := pR_Lif rfl rfl
theorem rX3_areAlike_6 : pR 137 d 6 [.ref o, a1, a2] st h = pR 137 d 7 [.ref o, a1, a2] (.ref o :: st) h := pR_L rfl rfl
theorem rX3_areAlike_7 : pR 137 d 7 ls (.ref o :: st) h = if pis (pfl h 3 o 14) = true then pR 137 d 10 ls (pfl h 3 o 14 :: st) h else none := r_get rfl
theorem rX3_areAlike_10 : pR 137 d 10 [a0, a1, .int x] st h = pR 137 d 11 [a0, a1, .int x] (.int x :: st) h := pR_L rfl rfl
theorem rX3_areAlike_11 : pR 137 d 11 ls (.int x :: .ref o :: st) h = if (pin x (pln h 0 o) || pin x (pln h 9 o)) = true then pR 137 d 12 ls (.int (pct h o x.toNatClampNeg) :: st) h else none := pR_Lif rfl rfl
theorem rX3_areAlike_12 : pR 137 d 12 ls (.int y :: .int x :: st) h = if x = y then pR 137 d 15 ls st h else pR 137 d 45 ls st h := r_cne rfl rfl
theorem rX3_areAlike_15 : pR 137 d 15 [.ref o, a1, a2] st h = pR 137 d 16 [.ref o, a1, a2] (.ref o :: st) h := pR_L rfl rfl
theorem rX3_areAlike_16 : pR 137 d 16 ls (.ref o :: st) h = if pis (pfl h 3 o 13) = true then pR 137 d 19 ls (pfl h 3 o 13 :: st) h else none := r_get rfl
theorem rX3_areAlike_19 : pR 137 d 19 [a0, .int x, a2] st h = pR 137 d 20 [a0, .int x, a2] (.int x :: st) h := pR_L rfl rfl
theorem rX3_areAlike_20 : pR 137 d 20 ls (.int x :: .ref o :: st) h = if (pin x (pln h 0 o) || pin x (pln h 9 o)) = true then pR 137 d 21 ls (.int (pct h o x.toNatClampNeg) :: st) h else none := pR_Lif rfl rfl
theorem rX3_areAlike_21 : pR 137 d 21 [.ref o, a1, a2] st h = pR 137 d 22 [.ref o, a1, a2] (.ref o :: st) h := pR_L rfl rfl
theorem rX3_areAlike_22 : pR 137 d 22 ls (.ref o :: st) h = if pis (pfl h 3 o 13) = true then pR 137 d 25 ls (pfl h 3 o 13 :: st) h else none := r_get rfl
theorem rX3_areAlike_25 : pR 137 d 25 [a0, a1, .int x] st h = pR 137 d 26 [a0, a1, .int x] (.int x :: st) h := pR_L rfl rfl
theorem rX3_areAlike_26 : pR 137 d 26 ls (.int x :: .ref o :: st) h = if (pin x (pln h 0 o) || pin x (pln h 9 o)) = true then pR 137 d 27 ls (.int (pct h o x.toNatClampNeg) :: st) h else none := pR_Lif rfl rfl
theorem rX3_areAlike_27 : pR 137 d 27 ls (.int y :: .int x :: st) h = if x = y then pR 137 d 30 ls st h else pR 137 d 45 ls st h := r_cne rfl rfl
theorem rX3_areAlike_30 : pR 137 d 30 [.ref o, a1, a2] st h = pR 137 d 31 [.ref o, a1, a2] (.ref o :: st) h := pR_L rfl rfl
theorem rX3_areAlike_31 : pR 137 d 31 [a0, .int x, a2] st h = pR 137 d 32 [a0, .int x, a2] (.int x :: st) h := pR_L rfl rfl
theorem rX3_areAlike_32 : pR 137 d 32 [a0, a1, .int x] st h = pR 137 d 33 [a0, a1, .int x] (.int x :: st) h := pR_L rfl rfl
theorem rX3_areAlike_33 : pR 137 d 33 ls st h = pR 137 d 34 ls (.int 0 :: st) h := pR_L rfl rfl
theorem rX3_areAlike_34 : pR 137 d 34 ls st h = pR 137 d 35 ls (.int 0 :: st) h := pR_L rfl rfl
theorem rX3_areAlike_35 : pR 137 (d + 1) 35 ls (b4 :: b3 :: b2 :: b1 :: .ref o :: st) h = if (pok 3 (pcl h o) && pw st) = true then pK 137 (d + 1) 35 3 ls st (pCa 138 d [.ref o, b1, b2, b3, b4] h) else none := r_callV rfl rfl rfl
theorem rX3_areAlike_38 : pR 137 d 38 ls (.int x :: st) h = if x = 0 then pR 137 d 45 ls st h else pR 137 d 41 ls st h := r_ieq rfl rfl
theorem rX3_areAlike_41 : pR 137 d 41 ls st h = pR 137 d 42 ls (.int 1 :: st) h := pR_L rfl rfl
theorem rX3_areAlike_42 : pR 137 d 42 ls st h = pR 137 d 46 ls st h := pR_L rfl rfl
theorem rX3_areAlike_45 : pR 137 d 45 ls st h = pR 137 d 46 ls (.int 0 :: st) h := pR_L rfl rfl
theorem rX3_areAlike_460 : pR 137 d 46 ls [.int 0] h = some (.inl (some (.int 0)), h) := pR_E rfl rfl
theorem rX3_areAlike_461 : pR 137 d 46 ls [.int 1] h = some (.inl (some (.int 1)), h) := pR_E rfl rfl
-- 138 BalloonStallModel pairs (IIII)Z
theorem eX3_pairs : pCa 138 d [.ref o, .int x0, .int x1, .int x2, .int x3] h = pR 138 d 0 [.ref o, .int x0, .int x1, .int x2, .int x3, pU, pU, pU] [] h := rfl
theorem rX3_pairs_0 : pR 138 d 0 [a0, a1, a2, .int x, a4, a5, a6, a7] st h = pR 138 d 1 [a0, a1, a2, .int x, a4, a5, a6, a7] (.int x :: st) h := pR_L rfl rfl
theorem rX3_pairs_1 : pR 138 d 1 [.ref o, a1, a2, a3, a4, a5, a6, a7] st h = pR 138 d 2 [.ref o, a1, a2, a3, a4, a5, a6, a7] (.ref o :: st) h := pR_L rfl rfl
theorem rX3_pairs_2 : pR 138 d 2 ls (.ref o :: st) h = if pis (pfl h 3 o 14) = true then pR 138 d 5 ls (pfl h 3 o 14 :: st) h else none := r_get rfl
theorem rX3_pairs_5 : pR 138 d 5 [a0, .int x, a2, a3, a4, a5, a6, a7] st h = pR 138 d 6 [a0, .int x, a2, a3, a4, a5, a6, a7] (.int x :: st) h := pR_L rfl rfl
theorem rX3_pairs_6 : pR 138 d 6 ls (.int x :: .ref o :: st) h = if (pin x (pln h 0 o) || pin x (pln h 9 o)) = true then pR 138 d 7 ls (.int (pct h o x.toNatClampNeg) :: st) h else none := pR_Lif rfl rfl
theorem rX3_pairs_7 : pR 138 d 7 ls (.int y :: .int x :: st) h = if x = y then pR 138 d 10 ls st h else pR 138 d 12 ls st h := r_cne rfl rfl
theorem rX3_pairs_10 : pR 138 d 10 ls st h = pR 138 d 11 ls (.int 1 :: st) h := pR_L rfl rfl
theorem rX3_pairs_110 : pR 138 d 11 ls [.int 0] h = some (.inl (some (.int 0)), h) := pR_E rfl rfl
theorem rX3_pairs_111 : pR 138 d 11 ls [.int 1] h = some (.inl (some (.int 1)), h) := pR_E rfl rfl
theorem rX3_pairs_12 : pR 138 d 12 ls st h = pR 138 d 13 ls (.int 0 :: st) h := pR_L rfl rfl
theorem rX3_pairs_13 : pR 138 d 13 [a0, a1, a2, a3, a4, a5, a6, a7] (.int x :: st) h = if p1 a5 = true then pR 138 d 15 [a0, a1, a2, a3, a4, .int x, a6, a7] st h else none := r_sto (n := 2) (k := 5) (v := .int x) (ls := [a0, a1, a2, a3, a4, a5, a6, a7]) rfl rfl rfl
theorem rX3_pairs_15 : pR 138 d 15 [a0, a1, a2, a3, a4, .int x, a6, a7] st h = pR 138 d 17 [a0, a1, a2, a3, a4, .int x, a6, a7] (.int x :: st) h := pR_L rfl rfl
theorem rX3_pairs_17 : pR 138 d 17 [.ref o, a1, a2, a3, a4, a5, a6, a7] st h = pR 138 d 18 [.ref o, a1, a2, a3, a4, a5, a6, a7] (.ref o :: st) h := pR_L rfl rfl
theorem rX3_pairs_18 : pR 138 d 18 ls (.ref o :: st) h = if pis (pfl h 3 o 14) = true then pR 138 d 21 ls (pfl h 3 o 14 :: st) h else none := r_get rfl
theorem rX3_pairs_21 : pR 138 d 21 [a0, a1, .int x, a3, a4, a5, a6, a7] st h = pR 138 d 22 [a0, a1, .int x, a3, a4, a5, a6, a7] (.int x :: st) h := pR_L rfl rfl
theorem rX3_pairs_22 : pR 138 d 22 ls (.int x :: .ref o :: st) h = if (pin x (pln h 0 o) || pin x (pln h 9 o)) = true then pR 138 d 23 ls (.int (pct h o x.toNatClampNeg) :: st) h else none := pR_Lif rfl rfl
theorem rX3_pairs_23 : pR 138 d 23 ls (.int y :: .int x :: st) h = if x < y then pR 138 d 26 ls st h else pR 138 d 123 ls st h := r_cge rfl rfl
theorem rX3_pairs_26 : pR 138 d 26 [a0, a1, a2, a3, .int x, a5, a6, a7] st h = pR 138 d 28 [a0, a1, a2, a3, .int x, a5, a6, a7] (.int x :: st) h := pR_L rfl rfl
theorem rX3_pairs_28 : pR 138 d 28 [a0, a1, a2, a3, a4, .int x, a6, a7] st h = pR 138 d 30 [a0, a1, a2, a3, a4, .int x, a6, a7] (.int x :: st) h := pR_L rfl rfl
theorem rX3_pairs_30 : pR 138 d 30 ls (.int y :: .int x :: st) h = pR 138 d 31 ls (.int (x >>> (y &&& 31)) :: st) h := pR_L rfl rfl
theorem rX3_pairs_31 : pR 138 d 31 ls st h = pR 138 d 32 ls (.int 1 :: st) h := pR_L rfl rfl
theorem rX3_pairs_32 : pR 138 d 32 ls (.int y :: .int x :: st) h = pR 138 d 33 ls (.int (x &&& y) :: st) h := pR_L rfl rfl
theorem rX3_pairs_33 : pR 138 d 33 ls st h = pR 138 d 34 ls (.int 1 :: st) h := pR_L rfl rfl
theorem rX3_pairs_34 : pR 138 d 34 ls (.int y :: .int x :: st) h = if x = y then pR 138 d 37 ls st h else pR 138 d 40 ls st h := r_cne rfl rfl
theorem rX3_pairs_37 : pR 138 d 37 ls st h = pR 138 d 117 ls st h := pR_L rfl rfl
theorem rX3_pairs_40 : pR 138 d 40 [.ref o, a1, a2, a3, a4, a5, a6, a7] st h = pR 138 d 41 [.ref o, a1, a2, a3, a4, a5, a6, a7] (.ref o :: st) h := pR_L rfl rfl
theorem rX3_pairs_41 : pR 138 d 41 ls (.ref o :: st) h = if pis (pfl h 3 o 35) = true then pR 138 d 44 ls (pfl h 3 o 35 :: st) h else none := r_get rfl
theorem rX3_pairs_44 : pR 138 d 44 [a0, a1, a2, .int x, a4, a5, a6, a7] st h = pR 138 d 45 [a0, a1, a2, .int x, a4, a5, a6, a7] (.int x :: st) h := pR_L rfl rfl
theorem rX3_pairs_45 : pR 138 d 45 [a0, a1, a2, a3, a4, .int x, a6, a7] st h = pR 138 d 47 [a0, a1, a2, a3, a4, .int x, a6, a7] (.int x :: st) h := pR_L rfl rfl
theorem rX3_pairs_47 : pR 138 d 47 ls (.int y :: .int x :: .ref o :: st) h = if pin x (pln h 0 o) = true then pR 138 d 48 ls st (pst h o x.toNatClampNeg y) else none := pR_Lif rfl rfl
theorem rX3_pairs_48 : pR 138 d 48 ls st h = pR 138 d 49 ls (.int 1 :: st) h := pR_L rfl rfl
theorem rX3_pairs_49 : pR 138 d 49 [a0, a1, a2, a3, a4, a5, a6, a7] (.int x :: st) h = if p1 a6 = true then pR 138 d 51 [a0, a1, a2, a3, a4, a5, .int x, a7] st h else none := r_sto (n := 2) (k := 6) (v := .int x) (ls := [a0, a1, a2, a3, a4, a5, a6, a7]) rfl rfl rfl
theorem rX3_pairs_51 : pR 138 d 51 ls st h = pR 138 d 52 ls (.int 0 :: st) h := pR_L rfl rfl
theorem rX3_pairs_52 : pR 138 d 52 [a0, a1, a2, a3, a4, a5, a6, a7] (.int x :: st) h = if p1 a7 = true then pR 138 d 54 [a0, a1, a2, a3, a4, a5, a6, .int x] st h else none := r_sto (n := 2) (k := 7) (v := .int x) (ls := [a0, a1, a2, a3, a4, a5, a6, a7]) rfl rfl rfl
theorem rX3_pairs_54 : pR 138 d 54 [a0, a1, a2, a3, a4, a5, a6, .int x] st h = pR 138 d 56 [a0, a1, a2, a3, a4, a5, a6, .int x] (.int x :: st) h := pR_L rfl rfl
theorem rX3_pairs_56 : pR 138 d 56 [a0, a1, a2, .int x, a4, a5, a6, a7] st h = pR 138 d 57 [a0, a1, a2, .int x, a4, a5, a6, a7] (.int x :: st) h := pR_L rfl rfl
theorem rX3_pairs_57 : pR 138 d 57 ls (.int y :: .int x :: st) h = if y < x then pR 138 d 91 ls st h else pR 138 d 60 ls st h := r_cgt rfl rfl
theorem rX3_pairs_60 : pR 138 d 60 [a0, a1, a2, a3, a4, a5, .int x, a7] st h = pR 138 d 62 [a0, a1, a2, a3, a4, a5, .int x, a7] (.int x :: st) h := pR_L rfl rfl
theorem rX3_pairs_62 : pR 138 d 62 ls (.int x :: st) h = if x = 0 then pR 138 d 91 ls st h else pR 138 d 65 ls st h := r_ieq rfl rfl
theorem rX3_pairs_65 : pR 138 d 65 [.ref o, a1, a2, a3, a4, a5, a6, a7] st h = pR 138 d 66 [.ref o, a1, a2, a3, a4, a5, a6, a7] (.ref o :: st) h := pR_L rfl rfl
theorem rX3_pairs_66 : pR 138 d 66 [a0, .int x, a2, a3, a4, a5, a6, a7] st h = pR 138 d 67 [a0, .int x, a2, a3, a4, a5, a6, a7] (.int x :: st) h := pR_L rfl rfl
theorem rX3_pairs_67 : pR 138 d 67 [a0, a1, a2, .int x, a4, a5, a6, a7] st h = pR 138 d 68 [a0, a1, a2, .int x, a4, a5, a6, a7] (.int x :: st) h := pR_L rfl rfl
theorem rX3_pairs_68 : pR 138 d 68 [a0, a1, a2, a3, a4, a5, a6, .int x] st h = pR 138 d 70 [a0, a1, a2, a3, a4, a5, a6, .int x] (.int x :: st) h := pR_L rfl rfl
theorem rX3_pairs_70 : pR 138 d 70 [a0, a1, .int x, a3, a4, a5, a6, a7] st h = pR 138 d 71 [a0, a1, .int x, a3, a4, a5, a6, a7] (.int x :: st) h := pR_L rfl rfl
theorem rX3_pairs_71 : pR 138 d 71 [a0, a1, a2, a3, a4, .int x, a6, a7] st h = pR 138 d 73 [a0, a1, a2, a3, a4, .int x, a6, a7] (.int x :: st) h := pR_L rfl rfl
theorem rX3_pairs_73 : pR 138 d 73 [.ref o, a1, a2, a3, a4, a5, a6, a7] st h = pR 138 d 74 [.ref o, a1, a2, a3, a4, a5, a6, a7] (.ref o :: st) h := pR_L rfl rfl
theorem rX3_pairs_74 : pR 138 d 74 ls (.ref o :: st) h = if pis (pfl h 3 o 35) = true then pR 138 d 77 ls (pfl h 3 o 35 :: st) h else none := r_get rfl
theorem rX3_pairs_77 : pR 138 d 77 [a0, a1, a2, a3, a4, a5, a6, .int x] st h = pR 138 d 79 [a0, a1, a2, a3, a4, a5, a6, .int x] (.int x :: st) h := pR_L rfl rfl
theorem rX3_pairs_79 : pR 138 d 79 ls (.int x :: .ref o :: st) h = if (pin x (pln h 0 o) || pin x (pln h 9 o)) = true then pR 138 d 80 ls (.int (pct h o x.toNatClampNeg) :: st) h else none := pR_Lif rfl rfl
theorem rX3_pairs_80 : pR 138 (d + 1) 80 ls (b6 :: b5 :: b4 :: b3 :: b2 :: b1 :: .ref o :: st) h = if (pok 3 (pcl h o) && pw st) = true then pK 138 (d + 1) 80 3 ls st (pCa 139 d [.ref o, b1, b2, b3, b4, b5, b6] h) else none := r_callV rfl rfl rfl
theorem rX3_pairs_83 : pR 138 d 83 [a0, a1, a2, a3, a4, a5, a6, a7] (.int x :: st) h = if p1 a6 = true then pR 138 d 85 [a0, a1, a2, a3, a4, a5, .int x, a7] st h else none := r_sto (n := 2) (k := 6) (v := .int x) (ls := [a0, a1, a2, a3, a4, a5, a6, a7]) rfl rfl rfl
theorem rX3_pairs_85 : pR 138 d 85 [a0, a1, a2, a3, a4, a5, a6, .int x] st h = pR 138 d 88 [a0, a1, a2, a3, a4, a5, a6, .int (x + 1)] st h := pR_L rfl rfl
theorem rX3_pairs_88 : pR 138 d 88 ls st h = pR 138 d 54 ls st h := pR_L rfl rfl
theorem rX3_pairs_91 : pR 138 d 91 [a0, a1, a2, a3, a4, a5, .int x, a7] st h = pR 138 d 93 [a0, a1, a2, a3, a4, a5, .int x, a7] (.int x :: st) h := pR_L rfl rfl
theorem rX3_pairs_93 : pR 138 d 93 ls (.int x :: st) h = if x = 0 then pR 138 d 117 ls st h else pR 138 d 96 ls st h := r_ieq rfl rfl
theorem rX3_pairs_96 : pR 138 d 96 [.ref o, a1, a2, a3, a4, a5, a6, a7] st h = pR 138 d 97 [.ref o, a1, a2, a3, a4, a5, a6, a7] (.ref o :: st) h := pR_L rfl rfl
theorem rX3_pairs_97 : pR 138 d 97 [a0, .int x, a2, a3, a4, a5, a6, a7] st h = pR 138 d 98 [a0, .int x, a2, a3, a4, a5, a6, a7] (.int x :: st) h := pR_L rfl rfl
theorem rX3_pairs_98 : pR 138 d 98 [a0, a1, .int x, a3, a4, a5, a6, a7] st h = pR 138 d 99 [a0, a1, .int x, a3, a4, a5, a6, a7] (.int x :: st) h := pR_L rfl rfl
theorem rX3_pairs_99 : pR 138 d 99 [a0, a1, a2, .int x, a4, a5, a6, a7] st h = pR 138 d 100 [a0, a1, a2, .int x, a4, a5, a6, a7] (.int x :: st) h := pR_L rfl rfl
theorem rX3_pairs_100 : pR 138 d 100 ls st h = pR 138 d 101 ls (.int 1 :: st) h := pR_L rfl rfl
theorem rX3_pairs_101 : pR 138 d 101 ls (.int y :: .int x :: st) h = pR 138 d 102 ls (.int (x + y) :: st) h := pR_L rfl rfl
theorem rX3_pairs_102 : pR 138 d 102 [a0, a1, a2, a3, .int x, a5, a6, a7] st h = pR 138 d 104 [a0, a1, a2, a3, .int x, a5, a6, a7] (.int x :: st) h := pR_L rfl rfl
theorem rX3_pairs_104 : pR 138 d 104 ls st h = pR 138 d 105 ls (.int 1 :: st) h := pR_L rfl rfl
theorem rX3_pairs_105 : pR 138 d 105 [a0, a1, a2, a3, a4, .int x, a6, a7] st h = pR 138 d 107 [a0, a1, a2, a3, a4, .int x, a6, a7] (.int x :: st) h := pR_L rfl rfl
theorem rX3_pairs_107 : pR 138 d 107 ls (.int y :: .int x :: st) h = pR 138 d 108 ls (.int (x <<< (y &&& 31)) :: st) h := pR_L rfl rfl
theorem rX3_pairs_108 : pR 138 d 108 ls (.int y :: .int x :: st) h = pR 138 d 109 ls (.int (x ||| y) :: st) h := pR_L rfl rfl
theorem rX3_pairs_109 : pR 138 (d + 1) 109 ls (b4 :: b3 :: b2 :: b1 :: .ref o :: st) h = if (pok 3 (pcl h o) && pw st) = true then pK 138 (d + 1) 109 3 ls st (pCa 138 d [.ref o, b1, b2, b3, b4] h) else none := r_callV rfl rfl rfl
theorem rX3_pairs_112 : pR 138 d 112 ls (.int x :: st) h = if x = 0 then pR 138 d 117 ls st h else pR 138 d 115 ls st h := r_ieq rfl rfl
theorem rX3_pairs_115 : pR 138 d 115 ls st h = pR 138 d 116 ls (.int 1 :: st) h := pR_L rfl rfl
theorem rX3_pairs_1160 : pR 138 d 116 ls [.int 0] h = some (.inl (some (.int 0)), h) := pR_E rfl rfl
theorem rX3_pairs_1161 : pR 138 d 116 ls [.int 1] h = some (.inl (some (.int 1)), h) := pR_E rfl rfl
theorem rX3_pairs_117 : pR 138 d 117 [a0, a1, a2, a3, a4, .int x, a6, a7] st h = pR 138 d 120 [a0, a1, a2, a3, a4, .int (x + 1), a6, a7] st h := pR_L rfl rfl
theorem rX3_pairs_120 : pR 138 d 120 ls st h = pR 138 d 15 ls st h := pR_L rfl rfl
theorem rX3_pairs_123 : pR 138 d 123 ls st h = pR 138 d 124 ls (.int 0 :: st) h := pR_L rfl rfl
theorem rX3_pairs_1240 : pR 138 d 124 ls [.int 0] h = some (.inl (some (.int 0)), h) := pR_E rfl rfl
theorem rX3_pairs_1241 : pR 138 d 124 ls [.int 1] h = some (.inl (some (.int 1)), h) := pR_E rfl rfl
-- 139 BalloonStallModel isSame (IIIIII)Z
theorem eX3_isSame : pCa 139 d [.ref o, .int x0, .int x1, .int x2, .int x3, .int x4, .int x5] h = pR 139 d 0 [.ref o, .int x0, .int x1, .int x2, .int x3, .int x4, .int x5, pU] [] h := rfl
theorem rX3_isSame_0 : pR 139 d 0 ls st h = pR 139 d 2 ls (.int 24 :: st) h := pR_L rfl rfl
theorem rX3_isSame_2 : pR 139 d 2 [a0, .int x, a2, a3, a4, a5, a6, a7] st h = pR 139 d 3 [a0, .int x, a2, a3, a4, a5, a6, a7] (.int x :: st) h := pR_L rfl rfl
theorem rX3_isSame_3 : pR 139 d 3 ls (.int y :: .int x :: st) h = pR 139 d 4 ls (.int (x * y) :: st) h := pR_L rfl rfl
theorem rX3_isSame_4 : pR 139 d 4 [a0, a1, a2, a3, a4, a5, a6, a7] (.int x :: st) h = if p1 a7 = true then pR 139 d 6 [a0, a1, a2, a3, a4, a5, a6, .int x] st h else none := r_sto (n := 2) (k := 7) (v := .int x) (ls := [a0, a1, a2, a3, a4, a5, a6, a7]) rfl rfl rfl
theorem rX3_isSame_6 : pR 139 d 6 [a0, a1, a2, a3, a4, a5, a6, .int x] st h = pR 139 d 8 [a0, a1, a2, a3, a4, a5, a6, .int x] (.int x :: st) h := pR_L rfl rfl
theorem rX3_isSame_8 : pR 139 d 8 ls st h = pR 139 d 10 ls (.int 24 :: st) h := pR_L rfl rfl
theorem rX3_isSame_10 : pR 139 d 10 [a0, .int x, a2, a3, a4, a5, a6, a7] st h = pR 139 d 11 [a0, .int x, a2, a3, a4, a5, a6, a7] (.int x :: st) h := pR_L rfl rfl
theorem rX3_isSame_11 : pR 139 d 11 ls (.int y :: .int x :: st) h = pR 139 d 12 ls (.int (x * y) :: st) h := pR_L rfl rfl
theorem rX3_isSame_12 : pR 139 d 12 [.ref o, a1, a2, a3, a4, a5, a6, a7] st h = pR 139 d 13 [.ref o, a1, a2, a3, a4, a5, a6, a7] (.ref o :: st) h := pR_L rfl rfl
theorem rX3_isSame_13 : pR 139 d 13 ls (.ref o :: st) h = if pis (pfl h 3 o 13) = true then pR 139 d 16 ls (pfl h 3 o 13 :: st) h else none := r_get rfl
theorem rX3_isSame_16 : pR 139 d 16 [a0, .int x, a2, a3, a4, a5, a6, a7] st h = pR 139 d 17 [a0, .int x, a2, a3, a4, a5, a6, a7] (.int x :: st) h := pR_L rfl rfl
theorem rX3_isSame_17 : pR 139 d 17 ls (.int x :: .ref o :: st) h = if (pin x (pln h 0 o) || pin x (pln h 9 o)) = true then pR 139 d 18 ls (.int (pct h o x.toNatClampNeg) :: st) h else none := pR_Lif rfl rfl
theorem rX3_isSame_18 : pR 139 d 18 ls (.int y :: .int x :: st) h = pR 139 d 19 ls (.int (x + y) :: st) h := pR_L rfl rfl
theorem rX3_isSame_19 : pR 139 d 19 ls (.int y :: .int x :: st) h = if x < y then pR 139 d 22 ls st h else pR 139 d 64 ls st h := r_cge rfl rfl
theorem rX3_isSame_22 : pR 139 d 22 [.ref o, a1, a2, a3, a4, a5, a6, a7] st h = pR 139 d 23 [.ref o, a1, a2, a3, a4, a5, a6, a7] (.ref o :: st) h := pR_L rfl rfl
theorem rX3_isSame_23 : pR 139 d 23 [a0, .int x, a2, a3, a4, a5, a6, a7] st h = pR 139 d 24 [a0, .int x, a2, a3, a4, a5, a6, a7] (.int x :: st) h := pR_L rfl rfl
theorem rX3_isSame_24 : pR 139 d 24 [a0, a1, .int x, a3, a4, a5, a6, a7] st h = pR 139 d 25 [a0, a1, .int x, a3, a4, a5, a6, a7] (.int x :: st) h := pR_L rfl rfl
theorem rX3_isSame_25 : pR 139 d 25 [a0, a1, a2, .int x, a4, a5, a6, a7] st h = pR 139 d 26 [a0, a1, a2, .int x, a4, a5, a6, a7] (.int x :: st) h := pR_L rfl rfl
theorem rX3_isSame_26 : pR 139 d 26 [.ref o, a1, a2, a3, a4, a5, a6, a7] st h = pR 139 d 27 [.ref o, a1, a2, a3, a4, a5, a6, a7] (.ref o :: st) h := pR_L rfl rfl
theorem rX3_isSame_27 : pR 139 d 27 ls (.ref o :: st) h = if pis (pfl h 3 o 15) = true then pR 139 d 30 ls (pfl h 3 o 15 :: st) h else none := r_get rfl
theorem rX3_isSame_30 : pR 139 d 30 [a0, a1, a2, a3, a4, a5, a6, .int x] st h = pR 139 d 32 [a0, a1, a2, a3, a4, a5, a6, .int x] (.int x :: st) h := pR_L rfl rfl
theorem rX3_isSame_32 : pR 139 d 32 ls (.int x :: .ref o :: st) h = if (pin x (pln h 0 o) || pin x (pln h 9 o)) = true then pR 139 d 33 ls (.int (pct h o x.toNatClampNeg) :: st) h else none := pR_Lif rfl rfl
theorem rX3_isSame_33 : pR 139 (d + 1) 33 ls (b4 :: b3 :: b2 :: b1 :: .ref o :: st) h = if (pok 3 (pcl h o) && pw st) = true then pK 139 (d + 1) 33 3 ls st (pCa 140 d [.ref o, b1, b2, b3, b4] h) else none := r_callV rfl rfl rfl
theorem rX3_isSame_36 : pR 139 d 36 [.ref o, a1, a2, a3, a4, a5, a6, a7] st h = pR 139 d 37 [.ref o, a1, a2, a3, a4, a5, a6, a7] (.ref o :: st) h := pR_L rfl rfl
theorem rX3_isSame_37 : pR 139 d 37 [a0, a1, a2, a3, .int x, a5, a6, a7] st h = pR 139 d 39 [a0, a1, a2, a3, .int x, a5, a6, a7] (.int x :: st) h := pR_L rfl rfl
theorem rX3_isSame_39 : pR 139 d 39 [a0, a1, a2, a3, a4, .int x, a6, a7] st h = pR 139 d 41 [a0, a1, a2, a3, a4, .int x, a6, a7] (.int x :: st) h := pR_L rfl rfl
theorem rX3_isSame_41 : pR 139 d 41 [a0, a1, a2, a3, a4, a5, .int x, a7] st h = pR 139 d 43 [a0, a1, a2, a3, a4, a5, .int x, a7] (.int x :: st) h := pR_L rfl rfl
theorem rX3_isSame_43 : pR 139 d 43 [.ref o, a1, a2, a3, a4, a5, a6, a7] st h = pR 139 d 44 [.ref o, a1, a2, a3, a4, a5, a6, a7] (.ref o :: st) h := pR_L rfl rfl
theorem rX3_isSame_44 : pR 139 d 44 ls (.ref o :: st) h = if pis (pfl h 3 o 15) = true then pR 139 d 47 ls (pfl h 3 o 15 :: st) h else none := r_get rfl
theorem rX3_isSame_47 : pR 139 d 47 [a0, a1, a2, a3, a4, a5, a6, .int x] st h = pR 139 d 49 [a0, a1, a2, a3, a4, a5, a6, .int x] (.int x :: st) h := pR_L rfl rfl
theorem rX3_isSame_49 : pR 139 d 49 ls (.int x :: .ref o :: st) h = if (pin x (pln h 0 o) || pin x (pln h 9 o)) = true then pR 139 d 50 ls (.int (pct h o x.toNatClampNeg) :: st) h else none := pR_Lif rfl rfl
theorem rX3_isSame_50 : pR 139 (d + 1) 50 ls (b4 :: b3 :: b2 :: b1 :: .ref o :: st) h = if (pok 3 (pcl h o) && pw st) = true then pK 139 (d + 1) 50 3 ls st (pCa 140 d [.ref o, b1, b2, b3, b4] h) else none := r_callV rfl rfl rfl
theorem rX3_isSame_53 : pR 139 d 53 ls (.int y :: .int x :: st) h = if x = y then pR 139 d 58 ls st h else pR 139 d 56 ls st h := r_ceq rfl rfl
theorem rX3_isSame_56 : pR 139 d 56 ls st h = pR 139 d 57 ls (.int 0 :: st) h := pR_L rfl rfl
theorem rX3_isSame_570 : pR 139 d 57 ls [.int 0] h = some (.inl (some (.int 0)), h) := pR_E rfl rfl
theorem rX3_isSame_571 : pR 139 d 57 ls [.int 1] h = some (.inl (some (.int 1)), h) := pR_E rfl rfl
theorem rX3_isSame_58 : pR 139 d 58 [a0, a1, a2, a3, a4, a5, a6, .int x] st h = pR 139 d 61 [a0, a1, a2, a3, a4, a5, a6, .int (x + 1)] st h := pR_L rfl rfl
theorem rX3_isSame_61 : pR 139 d 61 ls st h = pR 139 d 6 ls st h := pR_L rfl rfl
theorem rX3_isSame_64 : pR 139 d 64 ls st h = pR 139 d 66 ls (.int 24 :: st) h := pR_L rfl rfl
theorem rX3_isSame_66 : pR 139 d 66 [a0, a1, a2, a3, .int x, a5, a6, a7] st h = pR 139 d 68 [a0, a1, a2, a3, .int x, a5, a6, a7] (.int x :: st) h := pR_L rfl rfl
theorem rX3_isSame_68 : pR 139 d 68 ls (.int y :: .int x :: st) h = pR 139 d 69 ls (.int (x * y) :: st) h := pR_L rfl rfl
theorem rX3_isSame_69 : pR 139 d 69 [a0, a1, a2, a3, a4, a5, a6, a7] (.int x :: st) h = if p1 a7 = true then pR 139 d 71 [a0, a1, a2, a3, a4, a5, a6, .int x] st h else none := r_sto (n := 2) (k := 7) (v := .int x) (ls := [a0, a1, a2, a3, a4, a5, a6, a7]) rfl rfl rfl
theorem rX3_isSame_71 : pR 139 d 71 [a0, a1, a2, a3, a4, a5, a6, .int x] st h = pR 139 d 73 [a0, a1, a2, a3, a4, a5, a6, .int x] (.int x :: st) h := pR_L rfl rfl
theorem rX3_isSame_73 : pR 139 d 73 ls st h = pR 139 d 75 ls (.int 24 :: st) h := pR_L rfl rfl
theorem rX3_isSame_75 : pR 139 d 75 [a0, a1, a2, a3, .int x, a5, a6, a7] st h = pR 139 d 77 [a0, a1, a2, a3, .int x, a5, a6, a7] (.int x :: st) h := pR_L rfl rfl
theorem rX3_isSame_77 : pR 139 d 77 ls (.int y :: .int x :: st) h = pR 139 d 78 ls (.int (x * y) :: st) h := pR_L rfl rfl
theorem rX3_isSame_78 : pR 139 d 78 [.ref o, a1, a2, a3, a4, a5, a6, a7] st h = pR 139 d 79 [.ref o, a1, a2, a3, a4, a5, a6, a7] (.ref o :: st) h := pR_L rfl rfl
theorem rX3_isSame_79 : pR 139 d 79 ls (.ref o :: st) h = if pis (pfl h 3 o 13) = true then pR 139 d 82 ls (pfl h 3 o 13 :: st) h else none := r_get rfl
theorem rX3_isSame_82 : pR 139 d 82 [a0, a1, a2, a3, .int x, a5, a6, a7] st h = pR 139 d 84 [a0, a1, a2, a3, .int x, a5, a6, a7] (.int x :: st) h := pR_L rfl rfl
theorem rX3_isSame_84 : pR 139 d 84 ls (.int x :: .ref o :: st) h = if (pin x (pln h 0 o) || pin x (pln h 9 o)) = true then pR 139 d 85 ls (.int (pct h o x.toNatClampNeg) :: st) h else none := pR_Lif rfl rfl
theorem rX3_isSame_85 : pR 139 d 85 ls (.int y :: .int x :: st) h = pR 139 d 86 ls (.int (x + y) :: st) h := pR_L rfl rfl
theorem rX3_isSame_86 : pR 139 d 86 ls (.int y :: .int x :: st) h = if x < y then pR 139 d 89 ls st h else pR 139 d 131 ls st h := r_cge rfl rfl
theorem rX3_isSame_89 : pR 139 d 89 [.ref o, a1, a2, a3, a4, a5, a6, a7] st h = pR 139 d 90 [.ref o, a1, a2, a3, a4, a5, a6, a7] (.ref o :: st) h := pR_L rfl rfl
theorem rX3_isSame_90 : pR 139 d 90 [a0, .int x, a2, a3, a4, a5, a6, a7] st h = pR 139 d 91 [a0, .int x, a2, a3, a4, a5, a6, a7] (.int x :: st) h := pR_L rfl rfl
theorem rX3_isSame_91 : pR 139 d 91 [a0, a1, .int x, a3, a4, a5, a6, a7] st h = pR 139 d 92 [a0, a1, .int x, a3, a4, a5, a6, a7] (.int x :: st) h := pR_L rfl rfl
theorem rX3_isSame_92 : pR 139 d 92 [a0, a1, a2, .int x, a4, a5, a6, a7] st h = pR 139 d 93 [a0, a1, a2, .int x, a4, a5, a6, a7] (.int x :: st) h := pR_L rfl rfl
theorem rX3_isSame_93 : pR 139 d 93 [.ref o, a1, a2, a3, a4, a5, a6, a7] st h = pR 139 d 94 [.ref o, a1, a2, a3, a4, a5, a6, a7] (.ref o :: st) h := pR_L rfl rfl
theorem rX3_isSame_94 : pR 139 d 94 ls (.ref o :: st) h = if pis (pfl h 3 o 15) = true then pR 139 d 97 ls (pfl h 3 o 15 :: st) h else none := r_get rfl
theorem rX3_isSame_97 : pR 139 d 97 [a0, a1, a2, a3, a4, a5, a6, .int x] st h = pR 139 d 99 [a0, a1, a2, a3, a4, a5, a6, .int x] (.int x :: st) h := pR_L rfl rfl
theorem rX3_isSame_99 : pR 139 d 99 ls (.int x :: .ref o :: st) h = if (pin x (pln h 0 o) || pin x (pln h 9 o)) = true then pR 139 d 100 ls (.int (pct h o x.toNatClampNeg) :: st) h else none := pR_Lif rfl rfl
theorem rX3_isSame_100 : pR 139 (d + 1) 100 ls (b4 :: b3 :: b2 :: b1 :: .ref o :: st) h = if (pok 3 (pcl h o) && pw st) = true then pK 139 (d + 1) 100 3 ls st (pCa 140 d [.ref o, b1, b2, b3, b4] h) else none := r_callV rfl rfl rfl
theorem rX3_isSame_103 : pR 139 d 103 [.ref o, a1, a2, a3, a4, a5, a6, a7] st h = pR 139 d 104 [.ref o, a1, a2, a3, a4, a5, a6, a7] (.ref o :: st) h := pR_L rfl rfl
theorem rX3_isSame_104 : pR 139 d 104 [a0, a1, a2, a3, .int x, a5, a6, a7] st h = pR 139 d 106 [a0, a1, a2, a3, .int x, a5, a6, a7] (.int x :: st) h := pR_L rfl rfl
theorem rX3_isSame_106 : pR 139 d 106 [a0, a1, a2, a3, a4, .int x, a6, a7] st h = pR 139 d 108 [a0, a1, a2, a3, a4, .int x, a6, a7] (.int x :: st) h := pR_L rfl rfl
theorem rX3_isSame_108 : pR 139 d 108 [a0, a1, a2, a3, a4, a5, .int x, a7] st h = pR 139 d 110 [a0, a1, a2, a3, a4, a5, .int x, a7] (.int x :: st) h := pR_L rfl rfl
theorem rX3_isSame_110 : pR 139 d 110 [.ref o, a1, a2, a3, a4, a5, a6, a7] st h = pR 139 d 111 [.ref o, a1, a2, a3, a4, a5, a6, a7] (.ref o :: st) h := pR_L rfl rfl
theorem rX3_isSame_111 : pR 139 d 111 ls (.ref o :: st) h = if pis (pfl h 3 o 15) = true then pR 139 d 114 ls (pfl h 3 o 15 :: st) h else none := r_get rfl
theorem rX3_isSame_114 : pR 139 d 114 [a0, a1, a2, a3, a4, a5, a6, .int x] st h = pR 139 d 116 [a0, a1, a2, a3, a4, a5, a6, .int x] (.int x :: st) h := pR_L rfl rfl
theorem rX3_isSame_116 : pR 139 d 116 ls (.int x :: .ref o :: st) h = if (pin x (pln h 0 o) || pin x (pln h 9 o)) = true then pR 139 d 117 ls (.int (pct h o x.toNatClampNeg) :: st) h else none := pR_Lif rfl rfl
theorem rX3_isSame_117 : pR 139 (d + 1) 117 ls (b4 :: b3 :: b2 :: b1 :: .ref o :: st) h = if (pok 3 (pcl h o) && pw st) = true then pK 139 (d + 1) 117 3 ls st (pCa 140 d [.ref o, b1, b2, b3, b4] h) else none := r_callV rfl rfl rfl
theorem rX3_isSame_120 : pR 139 d 120 ls (.int y :: .int x :: st) h = if x = y then pR 139 d 125 ls st h else pR 139 d 123 ls st h := r_ceq rfl rfl
theorem rX3_isSame_123 : pR 139 d 123 ls st h = pR 139 d 124 ls (.int 0 :: st) h := pR_L rfl rfl
theorem rX3_isSame_1240 : pR 139 d 124 ls [.int 0] h = some (.inl (some (.int 0)), h) := pR_E rfl rfl
theorem rX3_isSame_1241 : pR 139 d 124 ls [.int 1] h = some (.inl (some (.int 1)), h) := pR_E rfl rfl
theorem rX3_isSame_125 : pR 139 d 125 [a0, a1, a2, a3, a4, a5, a6, .int x] st h = pR 139 d 128 [a0, a1, a2, a3, a4, a5, a6, .int (x + 1)] st h := pR_L rfl rfl
theorem rX3_isSame_128 : pR 139 d 128 ls st h = pR 139 d 71 ls st h := pR_L rfl rfl
theorem rX3_isSame_131 : pR 139 d 131 ls st h = pR 139 d 132 ls (.int 1 :: st) h := pR_L rfl rfl
theorem rX3_isSame_1320 : pR 139 d 132 ls [.int 0] h = some (.inl (some (.int 0)), h) := pR_E rfl rfl
theorem rX3_isSame_1321 : pR 139 d 132 ls [.int 1] h = some (.inl (some (.int 1)), h) := pR_E rfl rfl
-- 140 BalloonStallModel between (IIII)I
theorem eX3_between : pCa 140 d [.ref o, .int x0, .int x1, .int x2, .int x3] h = pR 140 d 0 [.ref o, .int x0, .int x1, .int x2, .int x3, pU, pU, pU] [] h := rfl
theorem rX3_between_0 : pR 140 d 0 ls st h = pR 140 d 1 ls (.int 0 :: st) h := pR_L rfl rfl
theorem rX3_between_1 : pR 140 d 1 [a0, a1, a2, a3, a4, a5, a6, a7] (.int x :: st) h = if p1 a5 = true then pR 140 d 3 [a0, a1, a2, a3, a4, .int x, a6, a7] st h else none := r_sto (n := 2) (k := 5) (v := .int x) (ls := [a0, a1, a2, a3, a4, a5, a6, a7]) rfl rfl rfl
theorem rX3_between_3 : pR 140 d 3 ls st h = pR 140 d 5 ls (.int 24 :: st) h := pR_L rfl rfl
theorem rX3_between_5 : pR 140 d 5 [a0, .int x, a2, a3, a4, a5, a6, a7] st h = pR 140 d 6 [a0, .int x, a2, a3, a4, a5, a6, a7] (.int x :: st) h := pR_L rfl rfl
theorem rX3_between_6 : pR 140 d 6 ls (.int y :: .int x :: st) h = pR 140 d 7 ls (.int (x * y) :: st) h := pR_L rfl rfl
theorem rX3_between_7 : pR 140 d 7 [a0, a1, a2, a3, a4, a5, a6, a7] (.int x :: st) h = if p1 a6 = true then pR 140 d 9 [a0, a1, a2, a3, a4, a5, .int x, a7] st h else none := r_sto (n := 2) (k := 6) (v := .int x) (ls := [a0, a1, a2, a3, a4, a5, a6, a7]) rfl rfl rfl
theorem rX3_between_9 : pR 140 d 9 [a0, a1, a2, a3, a4, a5, .int x, a7] st h = pR 140 d 11 [a0, a1, a2, a3, a4, a5, .int x, a7] (.int x :: st) h := pR_L rfl rfl
theorem rX3_between_11 : pR 140 d 11 ls st h = pR 140 d 13 ls (.int 24 :: st) h := pR_L rfl rfl
theorem rX3_between_13 : pR 140 d 13 [a0, .int x, a2, a3, a4, a5, a6, a7] st h = pR 140 d 14 [a0, .int x, a2, a3, a4, a5, a6, a7] (.int x :: st) h := pR_L rfl rfl
theorem rX3_between_14 : pR 140 d 14 ls (.int y :: .int x :: st) h = pR 140 d 15 ls (.int (x * y) :: st) h := pR_L rfl rfl
theorem rX3_between_15 : pR 140 d 15 [.ref o, a1, a2, a3, a4, a5, a6, a7] st h = pR 140 d 16 [.ref o, a1, a2, a3, a4, a5, a6, a7] (.ref o :: st) h := pR_L rfl rfl
theorem rX3_between_16 : pR 140 d 16 ls (.ref o :: st) h = if pis (pfl h 3 o 13) = true then pR 140 d 19 ls (pfl h 3 o 13 :: st) h else none := r_get rfl
theorem rX3_between_19 : pR 140 d 19 [a0, .int x, a2, a3, a4, a5, a6, a7] st h = pR 140 d 20 [a0, .int x, a2, a3, a4, a5, a6, a7] (.int x :: st) h := pR_L rfl rfl
theorem rX3_between_20 : pR 140 d 20 ls (.int x :: .ref o :: st) h = if (pin x (pln h 0 o) || pin x (pln h 9 o)) = true then pR 140 d 21 ls (.int (pct h o x.toNatClampNeg) :: st) h else none := pR_Lif rfl rfl
theorem rX3_between_21 : pR 140 d 21 ls (.int y :: .int x :: st) h = pR 140 d 22 ls (.int (x + y) :: st) h := pR_L rfl rfl
theorem rX3_between_22 : pR 140 d 22 ls (.int y :: .int x :: st) h = if x < y then pR 140 d 25 ls st h else pR 140 d 109 ls st h := r_cge rfl rfl
theorem rX3_between_25 : pR 140 d 25 [.ref o, a1, a2, a3, a4, a5, a6, a7] st h = pR 140 d 26 [.ref o, a1, a2, a3, a4, a5, a6, a7] (.ref o :: st) h := pR_L rfl rfl
theorem rX3_between_26 : pR 140 d 26 ls (.ref o :: st) h = if pis (pfl h 3 o 16) = true then pR 140 d 29 ls (pfl h 3 o 16 :: st) h else none := r_get rfl
theorem rX3_between_29 : pR 140 d 29 [a0, a1, a2, a3, a4, a5, .int x, a7] st h = pR 140 d 31 [a0, a1, a2, a3, a4, a5, .int x, a7] (.int x :: st) h := pR_L rfl rfl
theorem rX3_between_31 : pR 140 d 31 ls (.int x :: .ref o :: st) h = if (pin x (pln h 0 o) || pin x (pln h 9 o)) = true then pR 140 d 32 ls (.int (pct h o x.toNatClampNeg) :: st) h else none := pR_Lif rfl rfl
theorem rX3_between_32 : pR 140 d 32 [a0, a1, .int x, a3, a4, a5, a6, a7] st h = pR 140 d 33 [a0, a1, .int x, a3, a4, a5, a6, a7] (.int x :: st) h := pR_L rfl rfl
theorem rX3_between_33 : pR 140 d 33 ls (.int y :: .int x :: st) h = if x = y then pR 140 d 36 ls st h else pR 140 d 47 ls st h := r_cne rfl rfl
theorem rX3_between_36 : pR 140 d 36 [.ref o, a1, a2, a3, a4, a5, a6, a7] st h = pR 140 d 37 [.ref o, a1, a2, a3, a4, a5, a6, a7] (.ref o :: st) h := pR_L rfl rfl
theorem rX3_between_37 : pR 140 d 37 ls (.ref o :: st) h = if pis (pfl h 3 o 17) = true then pR 140 d 40 ls (pfl h 3 o 17 :: st) h else none := r_get rfl
theorem rX3_between_40 : pR 140 d 40 [a0, a1, a2, a3, a4, a5, .int x, a7] st h = pR 140 d 42 [a0, a1, a2, a3, a4, a5, .int x, a7] (.int x :: st) h := pR_L rfl rfl
theorem rX3_between_42 : pR 140 d 42 ls (.int x :: .ref o :: st) h = if (pin x (pln h 0 o) || pin x (pln h 9 o)) = true then pR 140 d 43 ls (.int (pct h o x.toNatClampNeg) :: st) h else none := pR_Lif rfl rfl
theorem rX3_between_43 : pR 140 d 43 [a0, a1, a2, .int x, a4, a5, a6, a7] st h = pR 140 d 44 [a0, a1, a2, .int x, a4, a5, a6, a7] (.int x :: st) h := pR_L rfl rfl
theorem rX3_between_44 : pR 140 d 44 ls (.int y :: .int x :: st) h = if x = y then pR 140 d 69 ls st h else pR 140 d 47 ls st h := r_ceq rfl rfl
theorem rX3_between_47 : pR 140 d 47 [.ref o, a1, a2, a3, a4, a5, a6, a7] st h = pR 140 d 48 [.ref o, a1, a2, a3, a4, a5, a6, a7] (.ref o :: st) h := pR_L rfl rfl
theorem rX3_between_48 : pR 140 d 48 ls (.ref o :: st) h = if pis (pfl h 3 o 16) = true then pR 140 d 51 ls (pfl h 3 o 16 :: st) h else none := r_get rfl
theorem rX3_between_51 : pR 140 d 51 [a0, a1, a2, a3, a4, a5, .int x, a7] st h = pR 140 d 53 [a0, a1, a2, a3, a4, a5, .int x, a7] (.int x :: st) h := pR_L rfl rfl
theorem rX3_between_53 : pR 140 d 53 ls (.int x :: .ref o :: st) h = if (pin x (pln h 0 o) || pin x (pln h 9 o)) = true then pR 140 d 54 ls (.int (pct h o x.toNatClampNeg) :: st) h else none := pR_Lif rfl rfl
theorem rX3_between_54 : pR 140 d 54 [a0, a1, a2, .int x, a4, a5, a6, a7] st h = pR 140 d 55 [a0, a1, a2, .int x, a4, a5, a6, a7] (.int x :: st) h := pR_L rfl rfl
theorem rX3_between_55 : pR 140 d 55 ls (.int y :: .int x :: st) h = if x = y then pR 140 d 58 ls st h else pR 140 d 73 ls st h := r_cne rfl rfl
theorem rX3_between_58 : pR 140 d 58 [.ref o, a1, a2, a3, a4, a5, a6, a7] st h = pR 140 d 59 [.ref o, a1, a2, a3, a4, a5, a6, a7] (.ref o :: st) h := pR_L rfl rfl
theorem rX3_between_59 : pR 140 d 59 ls (.ref o :: st) h = if pis (pfl h 3 o 17) = true then pR 140 d 62 ls (pfl h 3 o 17 :: st) h else none := r_get rfl
theorem rX3_between_62 : pR 140 d 62 [a0, a1, a2, a3, a4, a5, .int x, a7] st h = pR 140 d 64 [a0, a1, a2, a3, a4, a5, .int x, a7] (.int x :: st) h := pR_L rfl rfl
theorem rX3_between_64 : pR 140 d 64 ls (.int x :: .ref o :: st) h = if (pin x (pln h 0 o) || pin x (pln h 9 o)) = true then pR 140 d 65 ls (.int (pct h o x.toNatClampNeg) :: st) h else none := pR_Lif rfl rfl
theorem rX3_between_65 : pR 140 d 65 [a0, a1, .int x, a3, a4, a5, a6, a7] st h = pR 140 d 66 [a0, a1, .int x, a3, a4, a5, a6, a7] (.int x :: st) h := pR_L rfl rfl
theorem rX3_between_66 : pR 140 d 66 ls (.int y :: .int x :: st) h = if x = y then pR 140 d 69 ls st h else pR 140 d 73 ls st h := r_cne rfl rfl
theorem rX3_between_69 : pR 140 d 69 ls st h = pR 140 d 70 ls (.int 1 :: st) h := pR_L rfl rfl
theorem rX3_between_70 : pR 140 d 70 ls st h = pR 140 d 74 ls st h := pR_L rfl rfl
theorem rX3_between_73 : pR 140 d 73 ls st h = pR 140 d 74 ls (.int 0 :: st) h := pR_L rfl rfl
theorem rX3_between_74 : pR 140 d 74 [a0, a1, a2, a3, a4, a5, a6, a7] (.int x :: st) h = if p1 a7 = true then pR 140 d 76 [a0, a1, a2, a3, a4, a5, a6, .int x] st h else none := r_sto (n := 2) (k := 7) (v := .int x) (ls := [a0, a1, a2, a3, a4, a5, a6, a7]) rfl rfl rfl
theorem rX3_between_76 : pR 140 d 76 [a0, a1, a2, a3, a4, .int x, a6, a7] st h = pR 140 d 78 [a0, a1, a2, a3, a4, .int x, a6, a7] (.int x :: st) h := pR_L rfl rfl
theorem rX3_between_78 : pR 140 d 78 [a0, a1, a2, a3, a4, a5, a6, .int x] st h = pR 140 d 80 [a0, a1, a2, a3, a4, a5, a6, .int x] (.int x :: st) h := pR_L rfl rfl
theorem rX3_between_80 : pR 140 d 80 ls (.int x :: st) h = if x = 0 then pR 140 d 99 ls st h else pR 140 d 83 ls st h := r_ieq rfl rfl
theorem rX3_between_83 : pR 140 d 83 [.ref o, a1, a2, a3, a4, a5, a6, a7] st h = pR 140 d 84 [.ref o, a1, a2, a3, a4, a5, a6, a7] (.ref o :: st) h := pR_L rfl rfl
theorem rX3_between_84 : pR 140 d 84 ls (.ref o :: st) h = if pis (pfl h 3 o 15) = true then pR 140 d 87 ls (pfl h 3 o 15 :: st) h else none := r_get rfl
theorem rX3_between_87 : pR 140 d 87 [a0, a1, a2, a3, a4, a5, .int x, a7] st h = pR 140 d 89 [a0, a1, a2, a3, a4, a5, .int x, a7] (.int x :: st) h := pR_L rfl rfl
theorem rX3_between_89 : pR 140 d 89 ls (.int x :: .ref o :: st) h = if (pin x (pln h 0 o) || pin x (pln h 9 o)) = true then pR 140 d 90 ls (.int (pct h o x.toNatClampNeg) :: st) h else none := pR_Lif rfl rfl
theorem rX3_between_90 : pR 140 d 90 [a0, a1, a2, a3, .int x, a5, a6, a7] st h = pR 140 d 92 [a0, a1, a2, a3, .int x, a5, a6, a7] (.int x :: st) h := pR_L rfl rfl
theorem rX3_between_92 : pR 140 d 92 ls (.int y :: .int x :: st) h = if x = y then pR 140 d 95 ls st h else pR 140 d 99 ls st h := r_cne rfl rfl
theorem rX3_between_95 : pR 140 d 95 ls st h = pR 140 d 96 ls (.int 1 :: st) h := pR_L rfl rfl
theorem rX3_between_96 : pR 140 d 96 ls st h = pR 140 d 100 ls st h := pR_L rfl rfl
theorem rX3_between_99 : pR 140 d 99 ls st h = pR 140 d 100 ls (.int 0 :: st) h := pR_L rfl rfl
theorem rX3_between_100 : pR 140 d 100 ls (.int y :: .int x :: st) h = pR 140 d 101 ls (.int (x + y) :: st) h := pR_L rfl rfl
theorem rX3_between_101 : pR 140 d 101 [a0, a1, a2, a3, a4, a5, a6, a7] (.int x :: st) h = if p1 a5 = true then pR 140 d 103 [a0, a1, a2, a3, a4, .int x, a6, a7] st h else none := r_sto (n := 2) (k := 5) (v := .int x) (ls := [a0, a1, a2, a3, a4, a5, a6, a7]) rfl rfl rfl
theorem rX3_between_103 : pR 140 d 103 [a0, a1, a2, a3, a4, a5, .int x, a7] st h = pR 140 d 106 [a0, a1, a2, a3, a4, a5, .int (x + 1), a7] st h := pR_L rfl rfl
theorem rX3_between_106 : pR 140 d 106 ls st h = pR 140 d 9 ls st h := pR_L rfl rfl
theorem rX3_between_109 : pR 140 d 109 [a0, a1, a2, a3, a4, .int x, a6, a7] st h = pR 140 d 111 [a0, a1, a2, a3, a4, .int x, a6, a7] (.int x :: st) h := pR_L rfl rfl
theorem rX3_between_111 : pR 140 d 111 ls [.int x] h = some (.inl (some (.int x)), h) := pR_E rfl rfl
-- 141 BalloonStallModel match (III)I
theorem eX3_match : pCa 141 d [.ref o, .int x0, .int x1, .int x2] h = pR 141 d 0 [.ref o, .int x0, .int x1, .int x2] [] h := rfl
theorem rX3_match_0 : pR 141 d 0 [.ref o, a1, a2, a3] st h = pR 141 d 1 [.ref o, a1, a2, a3] (.ref o :: st) h := pR_L rfl rfl
theorem rX3_match_1 : pR 141 d 1 [a0, .int x, a2, a3] st h = pR 141 d 2 [a0, .int x, a2, a3] (.int x :: st) h := pR_L rfl rfl
theorem rX3_match_2 : pR 141 d 2 [a0, a1, .int x, a3] st h = pR 141 d 3 [a0, a1, .int x, a3] (.int x :: st) h := pR_L rfl rfl
theorem rX3_match_3 : pR 141 (d + 1) 3 ls (b2 :: b1 :: .ref o :: st) h = if (pok 3 (pcl h o) && pw st) = true then pK 141 (d + 1) 3 3 ls st (pCa 136 d [.ref o, b1, b2] h) else none := r_callV rfl rfl rfl
theorem rX3_match_6 : pR 141 d 6 ls (.int x :: st) h = if x = 0 then pR 141 d 36 ls st h else pR 141 d 9 ls st h := r_ieq rfl rfl
theorem rX3_match_9 : pR 141 d 9 [.ref o, a1, a2, a3] st h = pR 141 d 10 [.ref o, a1, a2, a3] (.ref o :: st) h := pR_L rfl rfl
theorem rX3_match_10 : pR 141 d 10 [a0, .int x, a2, a3] st h = pR 141 d 11 [a0, .int x, a2, a3] (.int x :: st) h := pR_L rfl rfl
theorem rX3_match_11 : pR 141 d 11 [a0, a1, a2, .int x] st h = pR 141 d 12 [a0, a1, a2, .int x] (.int x :: st) h := pR_L rfl rfl
theorem rX3_match_12 : pR 141 (d + 1) 12 ls (b2 :: b1 :: .ref o :: st) h = if (pok 3 (pcl h o) && pw st) = true then pK 141 (d + 1) 12 3 ls st (pCa 117 d [.ref o, b1, b2] h) else none := r_callV rfl rfl rfl
theorem rX3_match_15 : pR 141 d 15 ls (.int x :: st) h = if x = 0 then pR 141 d 36 ls st h else pR 141 d 18 ls st h := r_ieq rfl rfl
theorem rX3_match_18 : pR 141 d 18 [.ref o, a1, a2, a3] st h = pR 141 d 19 [.ref o, a1, a2, a3] (.ref o :: st) h := pR_L rfl rfl
theorem rX3_match_19 : pR 141 d 19 [a0, .int x, a2, a3] st h = pR 141 d 20 [a0, .int x, a2, a3] (.int x :: st) h := pR_L rfl rfl
theorem rX3_match_20 : pR 141 d 20 [a0, a1, .int x, a3] st h = pR 141 d 21 [a0, a1, .int x, a3] (.int x :: st) h := pR_L rfl rfl
theorem rX3_match_21 : pR 141 (d + 1) 21 ls (b2 :: b1 :: .ref o :: st) h = if (pok 3 (pcl h o) && pw st) = true then pK 141 (d + 1) 21 3 ls st (pCa 137 d [.ref o, b1, b2] h) else none := r_callV rfl rfl rfl
theorem rX3_match_24 : pR 141 d 24 ls (.int x :: st) h = if x = 0 then pR 141 d 36 ls st h else pR 141 d 27 ls st h := r_ieq rfl rfl
theorem rX3_match_27 : pR 141 d 27 [.ref o, a1, a2, a3] st h = pR 141 d 28 [.ref o, a1, a2, a3] (.ref o :: st) h := pR_L rfl rfl
theorem rX3_match_28 : pR 141 d 28 ls (.ref o :: st) h = if pis (pfl h 3 o 35) = true then pR 141 d 31 ls (pfl h 3 o 35 :: st) h else none := r_get rfl
theorem rX3_match_31 : pR 141 d 31 [a0, a1, a2, .int x] st h = pR 141 d 32 [a0, a1, a2, .int x] (.int x :: st) h := pR_L rfl rfl
theorem rX3_match_32 : pR 141 d 32 ls (.int x :: .ref o :: st) h = if (pin x (pln h 0 o) || pin x (pln h 9 o)) = true then pR 141 d 33 ls (.int (pct h o x.toNatClampNeg) :: st) h else none := pR_Lif rfl rfl
theorem rX3_match_33 : pR 141 d 33 ls st h = pR 141 d 37 ls st h := pR_L rfl rfl
theorem rX3_match_36 : pR 141 d 36 ls st h = pR 141 d 37 ls (.int (-1) :: st) h := pR_L rfl rfl
theorem rX3_match_37 : pR 141 d 37 ls [.int x] h = some (.inl (some (.int x)), h) := pR_E rfl rfl
-- 142 BalloonStallModel far (III)I
theorem eX3_far : pCa 142 d [.ref o, .int x0, .int x1, .int x2] h = pR 142 d 0 [.ref o, .int x0, .int x1, .int x2, pU] [] h := rfl
theorem rX3_far_0 : pR 142 d 0 [.ref o, a1, a2, a3, a4] st h = pR 142 d 1 [.ref o, a1, a2, a3, a4] (.ref o :: st) h := pR_L rfl rfl
theorem rX3_far_1 : pR 142 d 1 [a0, .int x, a2, a3, a4] st h = pR 142 d 2 [a0, .int x, a2, a3, a4] (.int x :: st) h := pR_L rfl rfl
theorem rX3_far_2 : pR 142 d 2 [a0, a1, .int x, a3, a4] st h = pR 142 d 3 [a0, a1, .int x, a3, a4] (.int x :: st) h := pR_L rfl rfl
theorem rX3_far_3 : pR 142 (d + 1) 3 ls (b2 :: b1 :: .ref o :: st) h = if (pok 3 (pcl h o) && pw st) = true then pK 142 (d + 1) 3 3 ls st (pCa 117 d [.ref o, b1, b2] h) else none := r_callV rfl rfl rfl
theorem rX3_far_6 : pR 142 d 6 ls (.int x :: st) h = if x = 0 then pR 142 d 18 ls st h else pR 142 d 9 ls st h := r_ieq rfl rfl
theorem rX3_far_9 : pR 142 d 9 [.ref o, a1, a2, a3, a4] st h = pR 142 d 10 [.ref o, a1, a2, a3, a4] (.ref o :: st) h := pR_L rfl rfl
theorem rX3_far_10 : pR 142 d 10 [a0, .int x, a2, a3, a4] st h = pR 142 d 11 [a0, .int x, a2, a3, a4] (.int x :: st) h := pR_L rfl rfl
theorem rX3_far_11 : pR 142 d 11 [a0, a1, a2, .int x, a4] st h = pR 142 d 12 [a0, a1, a2, .int x, a4] (.int x :: st) h := pR_L rfl rfl
theorem rX3_far_12 : pR 142 (d + 1) 12 ls (b2 :: b1 :: .ref o :: st) h = if (pok 3 (pcl h o) && pw st) = true then pK 142 (d + 1) 12 3 ls st (pCa 117 d [.ref o, b1, b2] h) else none := r_callV rfl rfl rfl
theorem rX3_far_15 : pR 142 d 15 ls (.int x :: st) h = if x = 0 then pR 142 d 18 ls st h else pR 142 d 20 ls st h := r_ine rfl rfl
theorem rX3_far_18 : pR 142 d 18 ls st h = pR 142 d 19 ls (.int (-1) :: st) h := pR_L rfl rfl
theorem rX3_far_19 : pR 142 d 19 ls [.int x] h = some (.inl (some (.int x)), h) := pR_E rfl rfl
theorem rX3_far_20 : pR 142 d 20 [.ref o, a1, a2, a3, a4] st h = pR 142 d 21 [.ref o, a1, a2, a3, a4] (.ref o :: st) h := pR_L rfl rfl
theorem rX3_far_21 : pR 142 d 21 [a0, .int x, a2, a3, a4] st h = pR 142 d 22 [a0, .int x, a2, a3, a4] (.int x :: st) h := pR_L rfl rfl
theorem rX3_far_22 : pR 142 (d + 1) 22 ls (b1 :: .ref o :: st) h = if (pok 3 (pcl h o) && pw st) = true then pK 142 (d + 1) 22 3 ls st (pCa 143 d [.ref o, b1] h) else none := r_callV rfl rfl rfl
theorem rX3_far_25 : pR 142 d 25 [.ref o, a1, a2, a3, a4] st h = pR 142 d 26 [.ref o, a1, a2, a3, a4] (.ref o :: st) h := pR_L rfl rfl
theorem rX3_far_26 : pR 142 d 26 ls (.ref o :: st) h = if pis (pfl h 3 o 36) = true then pR 142 d 29 ls (pfl h 3 o 36 :: st) h else none := r_get rfl
theorem rX3_far_29 : pR 142 d 29 ls st h = pR 142 d 31 ls (.int 60 :: st) h := pR_L rfl rfl
theorem rX3_far_31 : pR 142 d 31 [a0, a1, .int x, a3, a4] st h = pR 142 d 32 [a0, a1, .int x, a3, a4] (.int x :: st) h := pR_L rfl rfl
theorem rX3_far_32 : pR 142 d 32 ls (.int y :: .int x :: st) h = pR 142 d 33 ls (.int (x * y) :: st) h := pR_L rfl rfl
theorem rX3_far_33 : pR 142 d 33 [a0, a1, a2, .int x, a4] st h = pR 142 d 34 [a0, a1, a2, .int x, a4] (.int x :: st) h := pR_L rfl rfl
theorem rX3_far_34 : pR 142 d 34 ls (.int y :: .int x :: st) h = pR 142 d 35 ls (.int (x + y) :: st) h := pR_L rfl rfl
theorem rX3_far_35 : pR 142 d 35 ls (.int x :: .ref o :: st) h = if (pin x (pln h 0 o) || pin x (pln h 9 o)) = true then pR 142 d 36 ls (.int (pct h o x.toNatClampNeg) :: st) h else none := pR_Lif rfl rfl
theorem rX3_far_36 : pR 142 d 36 [a0, a1, a2, a3, a4] (.int x :: st) h = if p1 a4 = true then pR 142 d 38 [a0, a1, a2, a3, .int x] st h else none := r_sto (n := 2) (k := 4) (v := .int x) (ls := [a0, a1, a2, a3, a4]) rfl rfl rfl
theorem rX3_far_38 : pR 142 d 38 [a0, a1, a2, a3, .int x] st h = pR 142 d 40 [a0, a1, a2, a3, .int x] (.int x :: st) h := pR_L rfl rfl
theorem rX3_far_40 : pR 142 d 40 ls st h = pR 142 d 43 ls (.int 1000000 :: st) h := pR_X rfl rfl
theorem rX3_far_43 : pR 142 d 43 ls (.int y :: .int x :: st) h = if x < y then pR 142 d 46 ls st h else pR 142 d 51 ls st h := r_cge rfl rfl
theorem rX3_far_46 : pR 142 d 46 [a0, a1, a2, a3, .int x] st h = pR 142 d 48 [a0, a1, a2, a3, .int x] (.int x :: st) h := pR_L rfl rfl
theorem rX3_far_48 : pR 142 d 48 ls st h = pR 142 d 52 ls st h := pR_L rfl rfl
theorem rX3_far_51 : pR 142 d 51 ls st h = pR 142 d 52 ls (.int (-1) :: st) h := pR_L rfl rfl
theorem rX3_far_52 : pR 142 d 52 ls [.int x] h = some (.inl (some (.int x)), h) := pR_E rfl rfl
-- 143 BalloonStallModel findFars (I)V
theorem eX3_findFars : pCa 143 d [.ref o, .int x0] h = pR 143 d 0 [.ref o, .int x0, pU, pU, pU, pU] [] h := rfl
theorem rX3_findFars_0 : pR 143 d 0 [.ref o, a1, a2, a3, a4, a5] st h = pR 143 d 1 [.ref o, a1, a2, a3, a4, a5] (.ref o :: st) h := pR_L rfl rfl
theorem rX3_findFars_1 : pR 143 d 1 ls (.ref o :: st) h = if pis (pfl h 3 o 14) = true then pR 143 d 4 ls (pfl h 3 o 14 :: st) h else none := r_get rfl
theorem rX3_findFars_4 : pR 143 d 4 [a0, .int x, a2, a3, a4, a5] st h = pR 143 d 5 [a0, .int x, a2, a3, a4, a5] (.int x :: st) h := pR_L rfl rfl
theorem rX3_findFars_5 : pR 143 d 5 ls (.int x :: .ref o :: st) h = if (pin x (pln h 0 o) || pin x (pln h 9 o)) = true then pR 143 d 6 ls (.int (pct h o x.toNatClampNeg) :: st) h else none := pR_Lif rfl rfl
theorem rX3_findFars_6 : pR 143 d 6 [a0, a1, a2, a3, a4, a5] (.int x :: st) h = if p1 a2 = true then pR 143 d 7 [a0, a1, .int x, a3, a4, a5] st h else none := r_sto (n := 1) (k := 2) (v := .int x) (ls := [a0, a1, a2, a3, a4, a5]) rfl rfl rfl
theorem rX3_findFars_7 : pR 143 d 7 ls st h = pR 143 d 8 ls (.int 0 :: st) h := pR_L rfl rfl
theorem rX3_findFars_8 : pR 143 d 8 [a0, a1, a2, a3, a4, a5] (.int x :: st) h = if p1 a3 = true then pR 143 d 9 [a0, a1, a2, .int x, a4, a5] st h else none := r_sto (n := 1) (k := 3) (v := .int x) (ls := [a0, a1, a2, a3, a4, a5]) rfl rfl rfl
theorem rX3_findFars_9 : pR 143 d 9 [a0, a1, a2, .int x, a4, a5] st h = pR 143 d 10 [a0, a1, a2, .int x, a4, a5] (.int x :: st) h := pR_L rfl rfl
theorem rX3_findFars_10 : pR 143 d 10 [a0, a1, .int x, a3, a4, a5] st h = pR 143 d 11 [a0, a1, .int x, a3, a4, a5] (.int x :: st) h := pR_L rfl rfl
theorem rX3_findFars_11 : pR 143 d 11 ls (.int y :: .int x :: st) h = if x < y then pR 143 d 14 ls st h else pR 143 d 60 ls st h := r_cge rfl rfl
theorem rX3_findFars_14 : pR 143 d 14 ls st h = pR 143 d 15 ls (.int 0 :: st) h := pR_L rfl rfl
theorem rX3_findFars_15 : pR 143 d 15 [a0, a1, a2, a3, a4, a5] (.int x :: st) h = if p1 a4 = true then pR 143 d 17 [a0, a1, a2, a3, .int x, a5] st h else none := r_sto (n := 2) (k := 4) (v := .int x) (ls := [a0, a1, a2, a3, a4, a5]) rfl rfl rfl
theorem rX3_findFars_17 : pR 143 d 17 [a0, a1, a2, a3, .int x, a5] st h = pR 143 d 19 [a0, a1, a2, a3, .int x, a5] (.int x :: st) h := pR_L rfl rfl
theorem rX3_findFars_19 : pR 143 d 19 [a0, a1, .int x, a3, a4, a5] st h = pR 143 d 20 [a0, a1, .int x, a3, a4, a5] (.int x :: st) h := pR_L rfl rfl
theorem rX3_findFars_20 : pR 143 d 20 ls (.int y :: .int x :: st) h = if x < y then pR 143 d 23 ls st h else pR 143 d 54 ls st h := r_cge rfl rfl
theorem rX3_findFars_23 : pR 143 d 23 [.ref o, a1, a2, a3, a4, a5] st h = pR 143 d 24 [.ref o, a1, a2, a3, a4, a5] (.ref o :: st) h := pR_L rfl rfl
theorem rX3_findFars_24 : pR 143 d 24 ls (.ref o :: st) h = if pis (pfl h 3 o 36) = true then pR 143 d 27 ls (pfl h 3 o 36 :: st) h else none := r_get rfl
theorem rX3_findFars_27 : pR 143 d 27 ls st h = pR 143 d 29 ls (.int 60 :: st) h := pR_L rfl rfl
theorem rX3_findFars_29 : pR 143 d 29 [a0, a1, a2, .int x, a4, a5] st h = pR 143 d 30 [a0, a1, a2, .int x, a4, a5] (.int x :: st) h := pR_L rfl rfl
theorem rX3_findFars_30 : pR 143 d 30 ls (.int y :: .int x :: st) h = pR 143 d 31 ls (.int (x * y) :: st) h := pR_L rfl rfl
theorem rX3_findFars_31 : pR 143 d 31 [a0, a1, a2, a3, .int x, a5] st h = pR 143 d 33 [a0, a1, a2, a3, .int x, a5] (.int x :: st) h := pR_L rfl rfl
theorem rX3_findFars_33 : pR 143 d 33 ls (.int y :: .int x :: st) h = pR 143 d 34 ls (.int (x + y) :: st) h := pR_L rfl rfl
theorem rX3_findFars_34 : pR 143 d 34 [a0, a1, a2, .int x, a4, a5] st h = pR 143 d 35 [a0, a1, a2, .int x, a4, a5] (.int x :: st) h := pR_L rfl rfl
theorem rX3_findFars_35 : pR 143 d 35 [a0, a1, a2, a3, .int x, a5] st h = pR 143 d 37 [a0, a1, a2, a3, .int x, a5] (.int x :: st) h := pR_L rfl rfl
theorem rX3_findFars_37 : pR 143 d 37 ls (.int y :: .int x :: st) h = if x = y then pR 143 d 40 ls st h else pR 143 d 44 ls st h := r_cne rfl rfl
theorem rX3_findFars_40 : pR 143 d 40 ls st h = pR 143 d 41 ls (.int 0 :: st) h := pR_L rfl rfl
theorem rX3_findFars_41 : pR 143 d 41 ls st h = pR 143 d 47 ls st h := pR_L rfl rfl
theorem rX3_findFars_44 : pR 143 d 44 ls st h = pR 143 d 47 ls (.int 1000000 :: st) h := pR_X rfl rfl
theorem rX3_findFars_47 : pR 143 d 47 ls (.int y :: .int x :: .ref o :: st) h = if pin x (pln h 0 o) = true then pR 143 d 48 ls st (pst h o x.toNatClampNeg y) else none := pR_Lif rfl rfl
theorem rX3_findFars_48 : pR 143 d 48 [a0, a1, a2, a3, .int x, a5] st h = pR 143 d 51 [a0, a1, a2, a3, .int (x + 1), a5] st h := pR_L rfl rfl
theorem rX3_findFars_51 : pR 143 d 51 ls st h = pR 143 d 17 ls st h := pR_L rfl rfl
theorem rX3_findFars_54 : pR 143 d 54 [a0, a1, a2, .int x, a4, a5] st h = pR 143 d 57 [a0, a1, a2, .int (x + 1), a4, a5] st h := pR_L rfl rfl
theorem rX3_findFars_57 : pR 143 d 57 ls st h = pR 143 d 9 ls st h := pR_L rfl rfl
theorem rX3_findFars_60 : pR 143 d 60 ls st h = pR 143 d 62 ls (.int 24 :: st) h := pR_L rfl rfl
theorem rX3_findFars_62 : pR 143 d 62 [a0, .int x, a2, a3, a4, a5] st h = pR 143 d 63 [a0, .int x, a2, a3, a4, a5] (.int x :: st) h := pR_L rfl rfl
theorem rX3_findFars_63 : pR 143 d 63 ls (.int y :: .int x :: st) h = pR 143 d 64 ls (.int (x * y) :: st) h := pR_L rfl rfl
theorem rX3_findFars_64 : pR 143 d 64 [a0, a1, a2, a3, a4, a5] (.int x :: st) h = if p1 a3 = true then pR 143 d 65 [a0, a1, a2, .int x, a4, a5] st h else none := r_sto (n := 1) (k := 3) (v := .int x) (ls := [a0, a1, a2, a3, a4, a5]) rfl rfl rfl
theorem rX3_findFars_65 : pR 143 d 65 [a0, a1, a2, .int x, a4, a5] st h = pR 143 d 66 [a0, a1, a2, .int x, a4, a5] (.int x :: st) h := pR_L rfl rfl
theorem rX3_findFars_66 : pR 143 d 66 ls st h = pR 143 d 68 ls (.int 24 :: st) h := pR_L rfl rfl
theorem rX3_findFars_68 : pR 143 d 68 [a0, .int x, a2, a3, a4, a5] st h = pR 143 d 69 [a0, .int x, a2, a3, a4, a5] (.int x :: st) h := pR_L rfl rfl
theorem rX3_findFars_69 : pR 143 d 69 ls (.int y :: .int x :: st) h = pR 143 d 70 ls (.int (x * y) :: st) h := pR_L rfl rfl
theorem rX3_findFars_70 : pR 143 d 70 [.ref o, a1, a2, a3, a4, a5] st h = pR 143 d 71 [.ref o, a1, a2, a3, a4, a5] (.ref o :: st) h := pR_L rfl rfl
theorem rX3_findFars_71 : pR 143 d 71 ls (.ref o :: st) h = if pis (pfl h 3 o 13) = true then pR 143 d 74 ls (pfl h 3 o 13 :: st) h else none := r_get rfl
theorem rX3_findFars_74 : pR 143 d 74 [a0, .int x, a2, a3, a4, a5] st h = pR 143 d 75 [a0, .int x, a2, a3, a4, a5] (.int x :: st) h := pR_L rfl rfl
theorem rX3_findFars_75 : pR 143 d 75 ls (.int x :: .ref o :: st) h = if (pin x (pln h 0 o) || pin x (pln h 9 o)) = true then pR 143 d 76 ls (.int (pct h o x.toNatClampNeg) :: st) h else none := pR_Lif rfl rfl
theorem rX3_findFars_76 : pR 143 d 76 ls (.int y :: .int x :: st) h = pR 143 d 77 ls (.int (x + y) :: st) h := pR_L rfl rfl
theorem rX3_findFars_77 : pR 143 d 77 ls (.int y :: .int x :: st) h = if x < y then pR 143 d 80 ls st h else pR 143 d 164 ls st h := r_cge rfl rfl
theorem rX3_findFars_80 : pR 143 d 80 [.ref o, a1, a2, a3, a4, a5] st h = pR 143 d 81 [.ref o, a1, a2, a3, a4, a5] (.ref o :: st) h := pR_L rfl rfl
theorem rX3_findFars_81 : pR 143 d 81 ls (.ref o :: st) h = if pis (pfl h 3 o 15) = true then pR 143 d 84 ls (pfl h 3 o 15 :: st) h else none := r_get rfl
theorem rX3_findFars_84 : pR 143 d 84 [a0, a1, a2, .int x, a4, a5] st h = pR 143 d 85 [a0, a1, a2, .int x, a4, a5] (.int x :: st) h := pR_L rfl rfl
theorem rX3_findFars_85 : pR 143 d 85 ls (.int x :: .ref o :: st) h = if (pin x (pln h 0 o) || pin x (pln h 9 o)) = true then pR 143 d 86 ls (.int (pct h o x.toNatClampNeg) :: st) h else none := pR_Lif rfl rfl
theorem rX3_findFars_86 : pR 143 d 86 [.ref o, a1, a2, a3, a4, a5] st h = pR 143 d 87 [.ref o, a1, a2, a3, a4, a5] (.ref o :: st) h := pR_L rfl rfl
theorem rX3_findFars_87 : pR 143 d 87 ls (.ref o :: st) h = if pis (pfl h 3 o 36) = true then pR 143 d 90 ls (pfl h 3 o 36 :: st) h else none := r_get rfl
theorem rX3_findFars_90 : pR 143 d 90 ls st h = pR 143 d 92 ls (.int 60 :: st) h := pR_L rfl rfl
theorem rX3_findFars_92 : pR 143 d 92 [.ref o, a1, a2, a3, a4, a5] st h = pR 143 d 93 [.ref o, a1, a2, a3, a4, a5] (.ref o :: st) h := pR_L rfl rfl
theorem rX3_findFars_93 : pR 143 d 93 ls (.ref o :: st) h = if pis (pfl h 3 o 16) = true then pR 143 d 96 ls (pfl h 3 o 16 :: st) h else none := r_get rfl
theorem rX3_findFars_96 : pR 143 d 96 [a0, a1, a2, .int x, a4, a5] st h = pR 143 d 97 [a0, a1, a2, .int x, a4, a5] (.int x :: st) h := pR_L rfl rfl
theorem rX3_findFars_97 : pR 143 d 97 ls (.int x :: .ref o :: st) h = if (pin x (pln h 0 o) || pin x (pln h 9 o)) = true then pR 143 d 98 ls (.int (pct h o x.toNatClampNeg) :: st) h else none := pR_Lif rfl rfl
theorem rX3_findFars_98 : pR 143 d 98 ls (.int y :: .int x :: st) h = pR 143 d 99 ls (.int (x * y) :: st) h := pR_L rfl rfl
theorem rX3_findFars_99 : pR 143 d 99 [.ref o, a1, a2, a3, a4, a5] st h = pR 143 d 100 [.ref o, a1, a2, a3, a4, a5] (.ref o :: st) h := pR_L rfl rfl
theorem rX3_findFars_100 : pR 143 d 100 ls (.ref o :: st) h = if pis (pfl h 3 o 17) = true then pR 143 d 103 ls (pfl h 3 o 17 :: st) h else none := r_get rfl
theorem rX3_findFars_103 : pR 143 d 103 [a0, a1, a2, .int x, a4, a5] st h = pR 143 d 104 [a0, a1, a2, .int x, a4, a5] (.int x :: st) h := pR_L rfl rfl
theorem rX3_findFars_104 : pR 143 d 104 ls (.int x :: .ref o :: st) h = if (pin x (pln h 0 o) || pin x (pln h 9 o)) = true then pR 143 d 105 ls (.int (pct h o x.toNatClampNeg) :: st) h else none := pR_Lif rfl rfl
theorem rX3_findFars_105 : pR 143 d 105 ls (.int y :: .int x :: st) h = pR 143 d 106 ls (.int (x + y) :: st) h := pR_L rfl rfl
theorem rX3_findFars_106 : pR 143 d 106 ls (.int x :: .ref o :: st) h = if (pin x (pln h 0 o) || pin x (pln h 9 o)) = true then pR 143 d 107 ls (.int (pct h o x.toNatClampNeg) :: st) h else none := pR_Lif rfl rfl
theorem rX3_findFars_107 : pR 143 (d + 1) 107 ls (.int y :: .int x :: st) h = if pw st = true then pR 143 (d + 1) 110 ls (.int (if y < x then y else x) :: st) h else none := r_mn rfl
theorem rX3_findFars_110 : pR 143 d 110 [a0, a1, a2, a3, a4, a5] (.int x :: st) h = if p1 a4 = true then pR 143 d 112 [a0, a1, a2, a3, .int x, a5] st h else none := r_sto (n := 2) (k := 4) (v := .int x) (ls := [a0, a1, a2, a3, a4, a5]) rfl rfl rfl
theorem rX3_findFars_112 : pR 143 d 112 [.ref o, a1, a2, a3, a4, a5] st h = pR 143 d 113 [.ref o, a1, a2, a3, a4, a5] (.ref o :: st) h := pR_L rfl rfl
theorem rX3_findFars_113 : pR 143 d 113 ls (.ref o :: st) h = if pis (pfl h 3 o 36) = true then pR 143 d 116 ls (pfl h 3 o 36 :: st) h else none := r_get rfl
theorem rX3_findFars_116 : pR 143 d 116 ls st h = pR 143 d 118 ls (.int 60 :: st) h := pR_L rfl rfl
theorem rX3_findFars_118 : pR 143 d 118 [.ref o, a1, a2, a3, a4, a5] st h = pR 143 d 119 [.ref o, a1, a2, a3, a4, a5] (.ref o :: st) h := pR_L rfl rfl
theorem rX3_findFars_119 : pR 143 d 119 ls (.ref o :: st) h = if pis (pfl h 3 o 16) = true then pR 143 d 122 ls (pfl h 3 o 16 :: st) h else none := r_get rfl
theorem rX3_findFars_122 : pR 143 d 122 [a0, a1, a2, .int x, a4, a5] st h = pR 143 d 123 [a0, a1, a2, .int x, a4, a5] (.int x :: st) h := pR_L rfl rfl
theorem rX3_findFars_123 : pR 143 d 123 ls (.int x :: .ref o :: st) h = if (pin x (pln h 0 o) || pin x (pln h 9 o)) = true then pR 143 d 124 ls (.int (pct h o x.toNatClampNeg) :: st) h else none := pR_Lif rfl rfl
theorem rX3_findFars_124 : pR 143 d 124 ls (.int y :: .int x :: st) h = pR 143 d 125 ls (.int (x * y) :: st) h := pR_L rfl rfl
theorem rX3_findFars_125 : pR 143 d 125 [.ref o, a1, a2, a3, a4, a5] st h = pR 143 d 126 [.ref o, a1, a2, a3, a4, a5] (.ref o :: st) h := pR_L rfl rfl
theorem rX3_findFars_126 : pR 143 d 126 ls (.ref o :: st) h = if pis (pfl h 3 o 17) = true then pR 143 d 129 ls (pfl h 3 o 17 :: st) h else none := r_get rfl
theorem rX3_findFars_129 : pR 143 d 129 [a0, a1, a2, .int x, a4, a5] st h = pR 143 d 130 [a0, a1, a2, .int x, a4, a5] (.int x :: st) h := pR_L rfl rfl
theorem rX3_findFars_130 : pR 143 d 130 ls (.int x :: .ref o :: st) h = if (pin x (pln h 0 o) || pin x (pln h 9 o)) = true then pR 143 d 131 ls (.int (pct h o x.toNatClampNeg) :: st) h else none := pR_Lif rfl rfl
theorem rX3_findFars_131 : pR 143 d 131 ls (.int y :: .int x :: st) h = pR 143 d 132 ls (.int (x + y) :: st) h := pR_L rfl rfl
theorem rX3_findFars_132 : pR 143 d 132 [a0, a1, a2, a3, .int x, a5] st h = pR 143 d 134 [a0, a1, a2, a3, .int x, a5] (.int x :: st) h := pR_L rfl rfl
theorem rX3_findFars_134 : pR 143 d 134 ls (.int y :: .int x :: .ref o :: st) h = if pin x (pln h 0 o) = true then pR 143 d 135 ls st (pst h o x.toNatClampNeg y) else none := pR_Lif rfl rfl
theorem rX3_findFars_135 : pR 143 d 135 [.ref o, a1, a2, a3, a4, a5] st h = pR 143 d 136 [.ref o, a1, a2, a3, a4, a5] (.ref o :: st) h := pR_L rfl rfl
theorem rX3_findFars_136 : pR 143 d 136 ls (.ref o :: st) h = if pis (pfl h 3 o 36) = true then pR 143 d 139 ls (pfl h 3 o 36 :: st) h else none := r_get rfl
theorem rX3_findFars_139 : pR 143 d 139 ls st h = pR 143 d 141 ls (.int 60 :: st) h := pR_L rfl rfl
theorem rX3_findFars_141 : pR 143 d 141 [.ref o, a1, a2, a3, a4, a5] st h = pR 143 d 142 [.ref o, a1, a2, a3, a4, a5] (.ref o :: st) h := pR_L rfl rfl
theorem rX3_findFars_142 : pR 143 d 142 ls (.ref o :: st) h = if pis (pfl h 3 o 17) = true then pR 143 d 145 ls (pfl h 3 o 17 :: st) h else none := r_get rfl
theorem rX3_findFars_145 : pR 143 d 145 [a0, a1, a2, .int x, a4, a5] st h = pR 143 d 146 [a0, a1, a2, .int x, a4, a5] (.int x :: st) h := pR_L rfl rfl
theorem rX3_findFars_146 : pR 143 d 146 ls (.int x :: .ref o :: st) h = if (pin x (pln h 0 o) || pin x (pln h 9 o)) = true then pR 143 d 147 ls (.int (pct h o x.toNatClampNeg) :: st) h else none := pR_Lif rfl rfl
theorem rX3_findFars_147 : pR 143 d 147 ls (.int y :: .int x :: st) h = pR 143 d 148 ls (.int (x * y) :: st) h := pR_L rfl rfl
theorem rX3_findFars_148 : pR 143 d 148 [.ref o, a1, a2, a3, a4, a5] st h = pR 143 d 149 [.ref o, a1, a2, a3, a4, a5] (.ref o :: st) h := pR_L rfl rfl
theorem rX3_findFars_149 : pR 143 d 149 ls (.ref o :: st) h = if pis (pfl h 3 o 16) = true then pR 143 d 152 ls (pfl h 3 o 16 :: st) h else none := r_get rfl
theorem rX3_findFars_152 : pR 143 d 152 [a0, a1, a2, .int x, a4, a5] st h = pR 143 d 153 [a0, a1, a2, .int x, a4, a5] (.int x :: st) h := pR_L rfl rfl
theorem rX3_findFars_153 : pR 143 d 153 ls (.int x :: .ref o :: st) h = if (pin x (pln h 0 o) || pin x (pln h 9 o)) = true then pR 143 d 154 ls (.int (pct h o x.toNatClampNeg) :: st) h else none := pR_Lif rfl rfl
theorem rX3_findFars_154 : pR 143 d 154 ls (.int y :: .int x :: st) h = pR 143 d 155 ls (.int (x + y) :: st) h := pR_L rfl rfl
theorem rX3_findFars_155 : pR 143 d 155 [a0, a1, a2, a3, .int x, a5] st h = pR 143 d 157 [a0, a1, a2, a3, .int x, a5] (.int x :: st) h := pR_L rfl rfl
theorem rX3_findFars_157 : pR 143 d 157 ls (.int y :: .int x :: .ref o :: st) h = if pin x (pln h 0 o) = true then pR 143 d 158 ls st (pst h o x.toNatClampNeg y) else none := pR_Lif rfl rfl
theorem rX3_findFars_158 : pR 143 d 158 [a0, a1, a2, .int x, a4, a5] st h = pR 143 d 161 [a0, a1, a2, .int (x + 1), a4, a5] st h := pR_L rfl rfl
theorem rX3_findFars_161 : pR 143 d 161 ls st h = pR 143 d 65 ls st h := pR_L rfl rfl
theorem rX3_findFars_164 : pR 143 d 164 ls st h = pR 143 d 165 ls (.int 0 :: st) h := pR_L rfl rfl
theorem rX3_findFars_165 : pR 143 d 165 [a0, a1, a2, a3, a4, a5] (.int x :: st) h = if p1 a3 = true then pR 143 d 166 [a0, a1, a2, .int x, a4, a5] st h else none := r_sto (n := 1) (k := 3) (v := .int x) (ls := [a0, a1, a2, a3, a4, a5]) rfl rfl rfl
theorem rX3_findFars_166 : pR 143 d 166 [a0, a1, a2, .int x, a4, a5] st h = pR 143 d 167 [a0, a1, a2, .int x, a4, a5] (.int x :: st) h := pR_L rfl rfl
theorem rX3_findFars_167 : pR 143 d 167 [a0, a1, .int x, a3, a4, a5] st h = pR 143 d 168 [a0, a1, .int x, a3, a4, a5] (.int x :: st) h := pR_L rfl rfl
theorem rX3_findFars_168 : pR 143 d 168 ls (.int y :: .int x :: st) h = if x < y then pR 143 d 171 ls st h else pR 143 d 261 ls st h := r_cge rfl rfl
theorem rX3_findFars_171 : pR 143 d 171 ls st h = pR 143 d 172 ls (.int 0 :: st) h := pR_L rfl rfl
theorem rX3_findFars_172 : pR 143 d 172 [a0, a1, a2, a3, a4, a5] (.int x :: st) h = if p1 a4 = true then pR 143 d 174 [a0, a1, a2, a3, .int x, a5] st h else none := r_sto (n := 2) (k := 4) (v := .int x) (ls := [a0, a1, a2, a3, a4, a5]) rfl rfl rfl
theorem rX3_findFars_174 : pR 143 d 174 [a0, a1, a2, a3, .int x, a5] st h = pR 143 d 176 [a0, a1, a2, a3, .int x, a5] (.int x :: st) h := pR_L rfl rfl
theorem rX3_findFars_176 : pR 143 d 176 [a0, a1, .int x, a3, a4, a5] st h = pR 143 d 177 [a0, a1, .int x, a3, a4, a5] (.int x :: st) h := pR_L rfl rfl
theorem rX3_findFars_177 : pR 143 d 177 ls (.int y :: .int x :: st) h = if x < y then pR 143 d 180 ls st h else pR 143 d 255 ls st h := r_cge rfl rfl
theorem rX3_findFars_180 : pR 143 d 180 ls st h = pR 143 d 181 ls (.int 0 :: st) h := pR_L rfl rfl
theorem rX3_findFars_181 : pR 143 d 181 [a0, a1, a2, a3, a4, a5] (.int x :: st) h = if p1 a5 = true then pR 143 d 183 [a0, a1, a2, a3, a4, .int x] st h else none := r_sto (n := 2) (k := 5) (v := .int x) (ls := [a0, a1, a2, a3, a4, a5]) rfl rfl rfl
theorem rX3_findFars_183 : pR 143 d 183 [a0, a1, a2, a3, a4, .int x] st h = pR 143 d 185 [a0, a1, a2, a3, a4, .int x] (.int x :: st) h := pR_L rfl rfl
theorem rX3_findFars_185 : pR 143 d 185 [a0, a1, .int x, a3, a4, a5] st h = pR 143 d 186 [a0, a1, .int x, a3, a4, a5] (.int x :: st) h := pR_L rfl rfl
theorem rX3_findFars_186 : pR 143 d 186 ls (.int y :: .int x :: st) h = if x < y then pR 143 d 189 ls st h else pR 143 d 249 ls st h := r_cge rfl rfl
theorem rX3_findFars_189 : pR 143 d 189 [.ref o, a1, a2, a3, a4, a5] st h = pR 143 d 190 [.ref o, a1, a2, a3, a4, a5] (.ref o :: st) h := pR_L rfl rfl
theorem rX3_findFars_190 : pR 143 d 190 ls (.ref o :: st) h = if pis (pfl h 3 o 36) = true then pR 143 d 193 ls (pfl h 3 o 36 :: st) h else none := r_get rfl
theorem rX3_findFars_193 : pR 143 d 193 ls st h = pR 143 d 195 ls (.int 60 :: st) h := pR_L rfl rfl
theorem rX3_findFars_195 : pR 143 d 195 [a0, a1, a2, a3, .int x, a5] st h = pR 143 d 197 [a0, a1, a2, a3, .int x, a5] (.int x :: st) h := pR_L rfl rfl
theorem rX3_findFars_197 : pR 143 d 197 ls (.int y :: .int x :: st) h = pR 143 d 198 ls (.int (x * y) :: st) h := pR_L rfl rfl
theorem rX3_findFars_198 : pR 143 d 198 [a0, a1, a2, a3, a4, .int x] st h = pR 143 d 200 [a0, a1, a2, a3, a4, .int x] (.int x :: st) h := pR_L rfl rfl
theorem rX3_findFars_200 : pR 143 d 200 ls (.int y :: .int x :: st) h = pR 143 d 201 ls (.int (x + y) :: st) h := pR_L rfl rfl
theorem rX3_findFars_201 : pR 143 d 201 [.ref o, a1, a2, a3, a4, a5] st h = pR 143 d 202 [.ref o, a1, a2, a3, a4, a5] (.ref o :: st) h := pR_L rfl rfl
theorem rX3_findFars_202 : pR 143 d 202 ls (.ref o :: st) h = if pis (pfl h 3 o 36) = true then pR 143 d 205 ls (pfl h 3 o 36 :: st) h else none := r_get rfl
theorem rX3_findFars_205 : pR 143 d 205 ls st h = pR 143 d 207 ls (.int 60 :: st) h := pR_L rfl rfl
theorem rX3_findFars_207 : pR 143 d 207 [a0, a1, a2, a3, .int x, a5] st h = pR 143 d 209 [a0, a1, a2, a3, .int x, a5] (.int x :: st) h := pR_L rfl rfl
theorem rX3_findFars_209 : pR 143 d 209 ls (.int y :: .int x :: st) h = pR 143 d 210 ls (.int (x * y) :: st) h := pR_L rfl rfl
theorem rX3_findFars_210 : pR 143 d 210 [a0, a1, a2, a3, a4, .int x] st h = pR 143 d 212 [a0, a1, a2, a3, a4, .int x] (.int x :: st) h := pR_L rfl rfl
theorem rX3_findFars_212 : pR 143 d 212 ls (.int y :: .int x :: st) h = pR 143 d 213 ls (.int (x + y) :: st) h := pR_L rfl rfl
theorem rX3_findFars_213 : pR 143 d 213 ls (.int x :: .ref o :: st) h = if (pin x (pln h 0 o) || pin x (pln h 9 o)) = true then pR 143 d 214 ls (.int (pct h o x.toNatClampNeg) :: st) h else none := pR_Lif rfl rfl
theorem rX3_findFars_214 : pR 143 d 214 [.ref o, a1, a2, a3, a4, a5] st h = pR 143 d 215 [.ref o, a1, a2, a3, a4, a5] (.ref o :: st) h := pR_L rfl rfl
theorem rX3_findFars_215 : pR 143 d 215 ls (.ref o :: st) h = if pis (pfl h 3 o 36) = true then pR 143 d 218 ls (pfl h 3 o 36 :: st) h else none := r_get rfl
theorem rX3_findFars_218 : pR 143 d 218 ls st h = pR 143 d 220 ls (.int 60 :: st) h := pR_L rfl rfl
theorem rX3_findFars_220 : pR 143 d 220 [a0, a1, a2, a3, .int x, a5] st h = pR 143 d 222 [a0, a1, a2, a3, .int x, a5] (.int x :: st) h := pR_L rfl rfl
theorem rX3_findFars_222 : pR 143 d 222 ls (.int y :: .int x :: st) h = pR 143 d 223 ls (.int (x * y) :: st) h := pR_L rfl rfl
theorem rX3_findFars_223 : pR 143 d 223 [a0, a1, a2, .int x, a4, a5] st h = pR 143 d 224 [a0, a1, a2, .int x, a4, a5] (.int x :: st) h := pR_L rfl rfl
theorem rX3_findFars_224 : pR 143 d 224 ls (.int y :: .int x :: st) h = pR 143 d 225 ls (.int (x + y) :: st) h := pR_L rfl rfl
theorem rX3_findFars_225 : pR 143 d 225 ls (.int x :: .ref o :: st) h = if (pin x (pln h 0 o) || pin x (pln h 9 o)) = true then pR 143 d 226 ls (.int (pct h o x.toNatClampNeg) :: st) h else none := pR_Lif rfl rfl
theorem rX3_findFars_226 : pR 143 d 226 [.ref o, a1, a2, a3, a4, a5] st h = pR 143 d 227 [.ref o, a1, a2, a3, a4, a5] (.ref o :: st) h := pR_L rfl rfl
theorem rX3_findFars_227 : pR 143 d 227 ls (.ref o :: st) h = if pis (pfl h 3 o 36) = true then pR 143 d 230 ls (pfl h 3 o 36 :: st) h else none := r_get rfl
theorem rX3_findFars_230 : pR 143 d 230 ls st h = pR 143 d 232 ls (.int 60 :: st) h := pR_L rfl rfl
theorem rX3_findFars_232 : pR 143 d 232 [a0, a1, a2, .int x, a4, a5] st h = pR 143 d 233 [a0, a1, a2, .int x, a4, a5] (.int x :: st) h := pR_L rfl rfl
theorem rX3_findFars_233 : pR 143 d 233 ls (.int y :: .int x :: st) h = pR 143 d 234 ls (.int (x * y) :: st) h := pR_L rfl rfl
theorem rX3_findFars_234 : pR 143 d 234 [a0, a1, a2, a3, a4, .int x] st h = pR 143 d 236 [a0, a1, a2, a3, a4, .int x] (.int x :: st) h := pR_L rfl rfl
theorem rX3_findFars_236 : pR 143 d 236 ls (.int y :: .int x :: st) h = pR 143 d 237 ls (.int (x + y) :: st) h := pR_L rfl rfl
theorem rX3_findFars_237 : pR 143 d 237 ls (.int x :: .ref o :: st) h = if (pin x (pln h 0 o) || pin x (pln h 9 o)) = true then pR 143 d 238 ls (.int (pct h o x.toNatClampNeg) :: st) h else none := pR_Lif rfl rfl
theorem rX3_findFars_238 : pR 143 d 238 ls (.int y :: .int x :: st) h = pR 143 d 239 ls (.int (x + y) :: st) h := pR_L rfl rfl
theorem rX3_findFars_239 : pR 143 (d + 1) 239 ls (.int y :: .int x :: st) h = if pw st = true then pR 143 (d + 1) 242 ls (.int (if y < x then y else x) :: st) h else none := r_mn rfl
theorem rX3_findFars_242 : pR 143 d 242 ls (.int y :: .int x :: .ref o :: st) h = if pin x (pln h 0 o) = true then pR 143 d 243 ls st (pst h o x.toNatClampNeg y) else none := pR_Lif rfl rfl
theorem rX3_findFars_243 : pR 143 d 243 [a0, a1, a2, a3, a4, .int x] st h = pR 143 d 246 [a0, a1, a2, a3, a4, .int (x + 1)] st h := pR_L rfl rfl
theorem rX3_findFars_246 : pR 143 d 246 ls st h = pR 143 d 183 ls st h := pR_L rfl rfl
theorem rX3_findFars_249 : pR 143 d 249 [a0, a1, a2, a3, .int x, a5] st h = pR 143 d 252 [a0, a1, a2, a3, .int (x + 1), a5] st h := pR_L rfl rfl
theorem rX3_findFars_252 : pR 143 d 252 ls st h = pR 143 d 174 ls st h := pR_L rfl rfl
theorem rX3_findFars_255 : pR 143 d 255 [a0, a1, a2, .int x, a4, a5] st h = pR 143 d 258 [a0, a1, a2, .int (x + 1), a4, a5] st h := pR_L rfl rfl
theorem rX3_findFars_258 : pR 143 d 258 ls st h = pR 143 d 166 ls st h := pR_L rfl rfl
theorem rX3_findFars_261 : pR 143 d 261 ls [] h = some (.inl none, h) := pR_E rfl rfl
-- 144 BalloonStallModel span (I)I
theorem eX3_span : pCa 144 d [.ref o, .int x0] h = pR 144 d 0 [.ref o, .int x0, pU, pU, pU] [] h := rfl
theorem rX3_span_0 : pR 144 d 0 [.ref o, a1, a2, a3, a4] st h = pR 144 d 1 [.ref o, a1, a2, a3, a4] (.ref o :: st) h := pR_L rfl rfl
theorem rX3_span_1 : pR 144 d 1 [a0, .int x, a2, a3, a4] st h = pR 144 d 2 [a0, .int x, a2, a3, a4] (.int x :: st) h := pR_L rfl rfl
theorem rX3_span_2 : pR 144 (d + 1) 2 ls (b1 :: .ref o :: st) h = if (pok 3 (pcl h o) && pw st) = true then pK 144 (d + 1) 2 3 ls st (pCa 108 d [.ref o, b1] h) else none := r_callV rfl rfl rfl
theorem rX3_span_5 : pR 144 d 5 ls (.int x :: st) h = if x = 0 then pR 144 d 8 ls st h else pR 144 d 10 ls st h := r_ine rfl rfl
theorem rX3_span_8 : pR 144 d 8 ls st h = pR 144 d 9 ls (.int (-1) :: st) h := pR_L rfl rfl
theorem rX3_span_9 : pR 144 d 9 ls [.int x] h = some (.inl (some (.int x)), h) := pR_E rfl rfl
theorem rX3_span_10 : pR 144 d 10 [.ref o, a1, a2, a3, a4] st h = pR 144 d 11 [.ref o, a1, a2, a3, a4] (.ref o :: st) h := pR_L rfl rfl
theorem rX3_span_11 : pR 144 d 11 [a0, .int x, a2, a3, a4] st h = pR 144 d 12 [a0, .int x, a2, a3, a4] (.int x :: st) h := pR_L rfl rfl
theorem rX3_span_12 : pR 144 (d + 1) 12 ls (b1 :: .ref o :: st) h = if (pok 3 (pcl h o) && pw st) = true then pK 144 (d + 1) 12 3 ls st (pCa 143 d [.ref o, b1] h) else none := r_callV rfl rfl rfl
theorem rX3_span_15 : pR 144 d 15 ls st h = pR 144 d 16 ls (.int 0 :: st) h := pR_L rfl rfl
theorem rX3_span_16 : pR 144 d 16 [a0, a1, a2, a3, a4] (.int x :: st) h = if p1 a2 = true then pR 144 d 17 [a0, a1, .int x, a3, a4] st h else none := r_sto (n := 1) (k := 2) (v := .int x) (ls := [a0, a1, a2, a3, a4]) rfl rfl rfl
theorem rX3_span_17 : pR 144 d 17 ls st h = pR 144 d 18 ls (.int 0 :: st) h := pR_L rfl rfl
theorem rX3_span_18 : pR 144 d 18 [a0, a1, a2, a3, a4] (.int x :: st) h = if p1 a3 = true then pR 144 d 19 [a0, a1, a2, .int x, a4] st h else none := r_sto (n := 1) (k := 3) (v := .int x) (ls := [a0, a1, a2, a3, a4]) rfl rfl rfl
theorem rX3_span_19 : pR 144 d 19 [a0, a1, a2, .int x, a4] st h = pR 144 d 20 [a0, a1, a2, .int x, a4] (.int x :: st) h := pR_L rfl rfl
theorem rX3_span_20 : pR 144 d 20 [.ref o, a1, a2, a3, a4] st h = pR 144 d 21 [.ref o, a1, a2, a3, a4] (.ref o :: st) h := pR_L rfl rfl
theorem rX3_span_21 : pR 144 d 21 ls (.ref o :: st) h = if pis (pfl h 3 o 14) = true then pR 144 d 24 ls (pfl h 3 o 14 :: st) h else none := r_get rfl
theorem rX3_span_24 : pR 144 d 24 [a0, .int x, a2, a3, a4] st h = pR 144 d 25 [a0, .int x, a2, a3, a4] (.int x :: st) h := pR_L rfl rfl
theorem rX3_span_25 : pR 144 d 25 ls (.int x :: .ref o :: st) h = if (pin x (pln h 0 o) || pin x (pln h 9 o)) = true then pR 144 d 26 ls (.int (pct h o x.toNatClampNeg) :: st) h else none := pR_Lif rfl rfl
theorem rX3_span_26 : pR 144 d 26 ls (.int y :: .int x :: st) h = if x < y then pR 144 d 29 ls st h else pR 144 d 94 ls st h := r_cge rfl rfl
theorem rX3_span_29 : pR 144 d 29 ls st h = pR 144 d 30 ls (.int 0 :: st) h := pR_L rfl rfl
theorem rX3_span_30 : pR 144 d 30 [a0, a1, a2, a3, a4] (.int x :: st) h = if p1 a4 = true then pR 144 d 32 [a0, a1, a2, a3, .int x] st h else none := r_sto (n := 2) (k := 4) (v := .int x) (ls := [a0, a1, a2, a3, a4]) rfl rfl rfl
theorem rX3_span_32 : pR 144 d 32 [a0, a1, a2, a3, .int x] st h = pR 144 d 34 [a0, a1, a2, a3, .int x] (.int x :: st) h := pR_L rfl rfl
theorem rX3_span_34 : pR 144 d 34 [.ref o, a1, a2, a3, a4] st h = pR 144 d 35 [.ref o, a1, a2, a3, a4] (.ref o :: st) h := pR_L rfl rfl
theorem rX3_span_35 : pR 144 d 35 ls (.ref o :: st) h = if pis (pfl h 3 o 14) = true then pR 144 d 38 ls (pfl h 3 o 14 :: st) h else none := r_get rfl
theorem rX3_span_38 : pR 144 d 38 [a0, .int x, a2, a3, a4] st h = pR 144 d 39 [a0, .int x, a2, a3, a4] (.int x :: st) h := pR_L rfl rfl
theorem rX3_span_39 : pR 144 d 39 ls (.int x :: .ref o :: st) h = if (pin x (pln h 0 o) || pin x (pln h 9 o)) = true then pR 144 d 40 ls (.int (pct h o x.toNatClampNeg) :: st) h else none := pR_Lif rfl rfl
theorem rX3_span_40 : pR 144 d 40 ls (.int y :: .int x :: st) h = if x < y then pR 144 d 43 ls st h else pR 144 d 88 ls st h := r_cge rfl rfl
theorem rX3_span_43 : pR 144 d 43 [.ref o, a1, a2, a3, a4] st h = pR 144 d 44 [.ref o, a1, a2, a3, a4] (.ref o :: st) h := pR_L rfl rfl
theorem rX3_span_44 : pR 144 d 44 ls (.ref o :: st) h = if pis (pfl h 3 o 36) = true then pR 144 d 47 ls (pfl h 3 o 36 :: st) h else none := r_get rfl
theorem rX3_span_47 : pR 144 d 47 ls st h = pR 144 d 49 ls (.int 60 :: st) h := pR_L rfl rfl
theorem rX3_span_49 : pR 144 d 49 [a0, a1, a2, .int x, a4] st h = pR 144 d 50 [a0, a1, a2, .int x, a4] (.int x :: st) h := pR_L rfl rfl
theorem rX3_span_50 : pR 144 d 50 ls (.int y :: .int x :: st) h = pR 144 d 51 ls (.int (x * y) :: st) h := pR_L rfl rfl
theorem rX3_span_51 : pR 144 d 51 [a0, a1, a2, a3, .int x] st h = pR 144 d 53 [a0, a1, a2, a3, .int x] (.int x :: st) h := pR_L rfl rfl
theorem rX3_span_53 : pR 144 d 53 ls (.int y :: .int x :: st) h = pR 144 d 54 ls (.int (x + y) :: st) h := pR_L rfl rfl
theorem rX3_span_54 : pR 144 d 54 ls (.int x :: .ref o :: st) h = if (pin x (pln h 0 o) || pin x (pln h 9 o)) = true then pR 144 d 55 ls (.int (pct h o x.toNatClampNeg) :: st) h else none := pR_Lif rfl rfl
theorem rX3_span_55 : pR 144 d 55 ls st h = pR 144 d 58 ls (.int 1000000 :: st) h := pR_X rfl rfl
theorem rX3_span_58 : pR 144 d 58 ls (.int y :: .int x :: st) h = if x < y then pR 144 d 61 ls st h else pR 144 d 80 ls st h := r_cge rfl rfl
theorem rX3_span_61 : pR 144 d 61 [a0, a1, .int x, a3, a4] st h = pR 144 d 62 [a0, a1, .int x, a3, a4] (.int x :: st) h := pR_L rfl rfl
theorem rX3_span_62 : pR 144 d 62 [.ref o, a1, a2, a3, a4] st h = pR 144 d 63 [.ref o, a1, a2, a3, a4] (.ref o :: st) h := pR_L rfl rfl
theorem rX3_span_63 : pR 144 d 63 ls (.ref o :: st) h = if pis (pfl h 3 o 36) = true then pR 144 d 66 ls (pfl h 3 o 36 :: st) h else none := r_get rfl
theorem rX3_span_66 : pR 144 d 66 ls st h = pR 144 d 68 ls (.int 60 :: st) h := pR_L rfl rfl
theorem rX3_span_68 : pR 144 d 68 [a0, a1, a2, .int x, a4] st h = pR 144 d 69 [a0, a1, a2, .int x, a4] (.int x :: st) h := pR_L rfl rfl
theorem rX3_span_69 : pR 144 d 69 ls (.int y :: .int x :: st) h = pR 144 d 70 ls (.int (x * y) :: st) h := pR_L rfl rfl
theorem rX3_span_70 : pR 144 d 70 [a0, a1, a2, a3, .int x] st h = pR 144 d 72 [a0, a1, a2, a3, .int x] (.int x :: st) h := pR_L rfl rfl
theorem rX3_span_72 : pR 144 d 72 ls (.int y :: .int x :: st) h = pR 144 d 73 ls (.int (x + y) :: st) h := pR_L rfl rfl
theorem rX3_span_73 : pR 144 d 73 ls (.int x :: .ref o :: st) h = if (pin x (pln h 0 o) || pin x (pln h 9 o)) = true then pR 144 d 74 ls (.int (pct h o x.toNatClampNeg) :: st) h else none := pR_Lif rfl rfl
theorem rX3_span_74 : pR 144 (d + 1) 74 ls (.int y :: .int x :: st) h = if pw st = true then pR 144 (d + 1) 77 ls (.int (if x < y then y else x) :: st) h else none := r_mx rfl
theorem rX3_span_77 : pR 144 d 77 ls st h = pR 144 d 81 ls st h := pR_L rfl rfl
theorem rX3_span_80 : pR 144 d 80 [a0, a1, .int x, a3, a4] st h = pR 144 d 81 [a0, a1, .int x, a3, a4] (.int x :: st) h := pR_L rfl rfl
theorem rX3_span_81 : pR 144 d 81 [a0, a1, a2, a3, a4] (.int x :: st) h = if p1 a2 = true then pR 144 d 82 [a0, a1, .int x, a3, a4] st h else none := r_sto (n := 1) (k := 2) (v := .int x) (ls := [a0, a1, a2, a3, a4]) rfl rfl rfl
theorem rX3_span_82 : pR 144 d 82 [a0, a1, a2, a3, .int x] st h = pR 144 d 85 [a0, a1, a2, a3, .int (x + 1)] st h := pR_L rfl rfl
theorem rX3_span_85 : pR 144 d 85 ls st h = pR 144 d 32 ls st h := pR_L rfl rfl
theorem rX3_span_88 : pR 144 d 88 [a0, a1, a2, .int x, a4] st h = pR 144 d 91 [a0, a1, a2, .int (x + 1), a4] st h := pR_L rfl rfl
theorem rX3_span_91 : pR 144 d 91 ls st h = pR 144 d 19 ls st h := pR_L rfl rfl
theorem rX3_span_94 : pR 144 d 94 [a0, a1, .int x, a3, a4] st h = pR 144 d 95 [a0, a1, .int x, a3, a4] (.int x :: st) h := pR_L rfl rfl
theorem rX3_span_95 : pR 144 d 95 ls [.int x] h = some (.inl (some (.int x)), h) := pR_E rfl rfl
-- 145 BalloonStallModel strokes (I)I
theorem eX3_strokes : pCa 145 d [.ref o, .int x0] h = pR 145 d 0 [.ref o, .int x0, pU, pU, pU] [] h := rfl
theorem rX3_strokes_0 : pR 145 d 0 [.ref o, a1, a2, a3, a4] st h = pR 145 d 1 [.ref o, a1, a2, a3, a4] (.ref o :: st) h := pR_L rfl rfl
theorem rX3_strokes_1 : pR 145 d 1 [a0, .int x, a2, a3, a4] st h = pR 145 d 2 [a0, .int x, a2, a3, a4] (.int x :: st) h := pR_L rfl rfl
theorem rX3_strokes_2 : pR 145 (d + 1) 2 ls (b1 :: .ref o :: st) h = if (pok 3 (pcl h o) && pw st) = true then pK 145 (d + 1) 2 3 ls st (pCa 108 d [.ref o, b1] h) else none := r_callV rfl rfl rfl
theorem rX3_strokes_5 : pR 145 d 5 ls (.int x :: st) h = if x = 0 then pR 145 d 8 ls st h else pR 145 d 10 ls st h := r_ine rfl rfl
theorem rX3_strokes_8 : pR 145 d 8 ls st h = pR 145 d 9 ls (.int (-1) :: st) h := pR_L rfl rfl
theorem rX3_strokes_9 : pR 145 d 9 ls [.int x] h = some (.inl (some (.int x)), h) := pR_E rfl rfl
theorem rX3_strokes_10 : pR 145 d 10 [.ref o, a1, a2, a3, a4] st h = pR 145 d 11 [.ref o, a1, a2, a3, a4] (.ref o :: st) h := pR_L rfl rfl
theorem rX3_strokes_11 : pR 145 d 11 [a0, .int x, a2, a3, a4] st h = pR 145 d 12 [a0, .int x, a2, a3, a4] (.int x :: st) h := pR_L rfl rfl
theorem rX3_strokes_12 : pR 145 (d + 1) 12 ls (b1 :: .ref o :: st) h = if (pok 3 (pcl h o) && pw st) = true then pK 145 (d + 1) 12 3 ls st (pCa 111 d [.ref o, b1] h) else none := r_callV rfl rfl rfl
theorem rX3_strokes_15 : pR 145 d 15 [a0, a1, a2, a3, a4] (.int x :: st) h = if p1 a2 = true then pR 145 d 16 [a0, a1, .int x, a3, a4] st h else none := r_sto (n := 1) (k := 2) (v := .int x) (ls := [a0, a1, a2, a3, a4]) rfl rfl rfl
theorem rX3_strokes_16 : pR 145 d 16 ls st h = pR 145 d 17 ls (.int 0 :: st) h := pR_L rfl rfl
theorem rX3_strokes_17 : pR 145 d 17 [a0, a1, a2, a3, a4] (.int x :: st) h = if p1 a3 = true then pR 145 d 18 [a0, a1, a2, .int x, a4] st h else none := r_sto (n := 1) (k := 3) (v := .int x) (ls := [a0, a1, a2, a3, a4]) rfl rfl rfl
theorem rX3_strokes_18 : pR 145 d 18 [a0, a1, .int x, a3, a4] st h = pR 145 d 19 [a0, a1, .int x, a3, a4] (.int x :: st) h := pR_L rfl rfl
theorem rX3_strokes_19 : pR 145 d 19 ls (.int x :: st) h = if x = 0 then pR 145 d 56 ls st h else pR 145 d 22 ls st h := r_ieq rfl rfl
theorem rX3_strokes_22 : pR 145 d 22 [.ref o, a1, a2, a3, a4] st h = pR 145 d 23 [.ref o, a1, a2, a3, a4] (.ref o :: st) h := pR_L rfl rfl
theorem rX3_strokes_23 : pR 145 d 23 [a0, .int x, a2, a3, a4] st h = pR 145 d 24 [a0, .int x, a2, a3, a4] (.int x :: st) h := pR_L rfl rfl
theorem rX3_strokes_24 : pR 145 d 24 [a0, a1, .int x, a3, a4] st h = pR 145 d 25 [a0, a1, .int x, a3, a4] (.int x :: st) h := pR_L rfl rfl
theorem rX3_strokes_25 : pR 145 (d + 1) 25 ls (b2 :: b1 :: .ref o :: st) h = if (pok 3 (pcl h o) && pw st) = true then pK 145 (d + 1) 25 3 ls st (pCa 146 d [.ref o, b1, b2] h) else none := r_callV rfl rfl rfl
theorem rX3_strokes_28 : pR 145 d 28 [a0, a1, a2, a3, a4] (.int x :: st) h = if p1 a4 = true then pR 145 d 30 [a0, a1, a2, a3, .int x] st h else none := r_sto (n := 2) (k := 4) (v := .int x) (ls := [a0, a1, a2, a3, a4]) rfl rfl rfl
theorem rX3_strokes_30 : pR 145 d 30 [a0, a1, a2, .int x, a4] st h = pR 145 d 31 [a0, a1, a2, .int x, a4] (.int x :: st) h := pR_L rfl rfl
theorem rX3_strokes_31 : pR 145 d 31 ls st h = pR 145 d 32 ls (.int 1 :: st) h := pR_L rfl rfl
theorem rX3_strokes_32 : pR 145 d 32 [.ref o, a1, a2, a3, a4] st h = pR 145 d 33 [.ref o, a1, a2, a3, a4] (.ref o :: st) h := pR_L rfl rfl
theorem rX3_strokes_33 : pR 145 d 33 [a0, .int x, a2, a3, a4] st h = pR 145 d 34 [a0, .int x, a2, a3, a4] (.int x :: st) h := pR_L rfl rfl
theorem rX3_strokes_34 : pR 145 d 34 [a0, a1, a2, a3, .int x] st h = pR 145 d 36 [a0, a1, a2, a3, .int x] (.int x :: st) h := pR_L rfl rfl
theorem rX3_strokes_36 : pR 145 (d + 1) 36 ls (b2 :: b1 :: .ref o :: st) h = if (pok 3 (pcl h o) && pw st) = true then pK 145 (d + 1) 36 3 ls st (pCa 113 d [.ref o, b1, b2] h) else none := r_callV rfl rfl rfl
theorem rX3_strokes_39 : pR 145 d 39 ls st h = pR 145 d 40 ls (.int 2 :: st) h := pR_L rfl rfl
theorem rX3_strokes_40 : pR 145 d 40 ls (.int y :: .int x :: st) h = if y = 0 then none else pR 145 d 41 ls (.int (x / y) :: st) h := r_div rfl
theorem rX3_strokes_41 : pR 145 (d + 1) 41 ls (.int y :: .int x :: st) h = if pw st = true then pR 145 (d + 1) 44 ls (.int (if x < y then y else x) :: st) h else none := r_mx rfl
theorem rX3_strokes_44 : pR 145 d 44 ls (.int y :: .int x :: st) h = pR 145 d 45 ls (.int (x + y) :: st) h := pR_L rfl rfl
theorem rX3_strokes_45 : pR 145 d 45 [a0, a1, a2, a3, a4] (.int x :: st) h = if p1 a3 = true then pR 145 d 46 [a0, a1, a2, .int x, a4] st h else none := r_sto (n := 1) (k := 3) (v := .int x) (ls := [a0, a1, a2, a3, a4]) rfl rfl rfl
theorem rX3_strokes_46 : pR 145 d 46 [a0, a1, .int x, a3, a4] st h = pR 145 d 47 [a0, a1, .int x, a3, a4] (.int x :: st) h := pR_L rfl rfl
theorem rX3_strokes_47 : pR 145 d 47 [a0, a1, a2, a3, .int x] st h = pR 145 d 49 [a0, a1, a2, a3, .int x] (.int x :: st) h := pR_L rfl rfl
theorem rX3_strokes_49 : pR 145 d 49 ls st h = pR 145 d 50 ls (.int (-1) :: st) h := pR_L rfl rfl
theorem rX3_strokes_50 : pR 145 d 50 ls (.int y :: .int x :: st) h = pR 145 d 51 ls (.int (x ^^^ y) :: st) h := pR_L rfl rfl
theorem rX3_strokes_51 : pR 145 d 51 ls (.int y :: .int x :: st) h = pR 145 d 52 ls (.int (x &&& y) :: st) h := pR_L rfl rfl
theorem rX3_strokes_52 : pR 145 d 52 [a0, a1, a2, a3, a4] (.int x :: st) h = if p1 a2 = true then pR 145 d 53 [a0, a1, .int x, a3, a4] st h else none := r_sto (n := 1) (k := 2) (v := .int x) (ls := [a0, a1, a2, a3, a4]) rfl rfl rfl
theorem rX3_strokes_53 : pR 145 d 53 ls st h = pR 145 d 18 ls st h := pR_L rfl rfl
theorem rX3_strokes_56 : pR 145 d 56 [a0, a1, a2, .int x, a4] st h = pR 145 d 57 [a0, a1, a2, .int x, a4] (.int x :: st) h := pR_L rfl rfl
theorem rX3_strokes_57 : pR 145 d 57 ls [.int x] h = some (.inl (some (.int x)), h) := pR_E rfl rfl
-- 146 BalloonStallModel firstPart (II)I
theorem eX3_firstPart : pCa 146 d [.ref o, .int x0, .int x1] h = pR 146 d 0 [.ref o, .int x0, .int x1, pU, pU, pU] [] h := rfl
theorem rX3_firstPart_0 : pR 146 d 0 [a0, a1, .int x, a3, a4, a5] st h = pR 146 d 1 [a0, a1, .int x, a3, a4, a5] (.int x :: st) h := pR_L rfl rfl
theorem rX3_firstPart_1 : pR 146 d 1 [a0, a1, .int x, a3, a4, a5] st h = pR 146 d 2 [a0, a1, .int x, a3, a4, a5] (.int x :: st) h := pR_L rfl rfl
theorem rX3_firstPart_2 : pR 146 d 2 ls (.int x :: st) h = pR 146 d 3 ls (.int (-x) :: st) h := pR_L rfl rfl
theorem rX3_firstPart_3 : pR 146 d 3 ls (.int y :: .int x :: st) h = pR 146 d 4 ls (.int (x &&& y) :: st) h := pR_L rfl rfl
theorem rX3_firstPart_4 : pR 146 d 4 [a0, a1, a2, a3, a4, a5] (.int x :: st) h = if p1 a3 = true then pR 146 d 5 [a0, a1, a2, .int x, a4, a5] st h else none := r_sto (n := 1) (k := 3) (v := .int x) (ls := [a0, a1, a2, a3, a4, a5]) rfl rfl rfl
theorem rX3_firstPart_5 : pR 146 d 5 ls st h = pR 146 d 6 ls (.int 0 :: st) h := pR_L rfl rfl
theorem rX3_firstPart_6 : pR 146 d 6 [a0, a1, a2, a3, a4, a5] (.int x :: st) h = if p1 a4 = true then pR 146 d 8 [a0, a1, a2, a3, .int x, a5] st h else none := r_sto (n := 2) (k := 4) (v := .int x) (ls := [a0, a1, a2, a3, a4, a5]) rfl rfl rfl
theorem rX3_firstPart_8 : pR 146 d 8 [a0, a1, a2, a3, .int x, a5] st h = pR 146 d 10 [a0, a1, a2, a3, .int x, a5] (.int x :: st) h := pR_L rfl rfl
theorem rX3_firstPart_10 : pR 146 d 10 [a0, a1, a2, .int x, a4, a5] st h = pR 146 d 11 [a0, a1, a2, .int x, a4, a5] (.int x :: st) h := pR_L rfl rfl
theorem rX3_firstPart_11 : pR 146 d 11 ls (.int y :: .int x :: st) h = if x = y then pR 146 d 72 ls st h else pR 146 d 14 ls st h := r_ceq rfl rfl
theorem rX3_firstPart_14 : pR 146 d 14 [a0, a1, a2, .int x, a4, a5] st h = pR 146 d 15 [a0, a1, a2, .int x, a4, a5] (.int x :: st) h := pR_L rfl rfl
theorem rX3_firstPart_15 : pR 146 d 15 [a0, a1, a2, a3, a4, a5] (.int x :: st) h = if p1 a4 = true then pR 146 d 17 [a0, a1, a2, a3, .int x, a5] st h else none := r_sto (n := 2) (k := 4) (v := .int x) (ls := [a0, a1, a2, a3, a4, a5]) rfl rfl rfl
theorem rX3_firstPart_17 : pR 146 d 17 ls st h = pR 146 d 18 ls (.int 0 :: st) h := pR_L rfl rfl
theorem rX3_firstPart_18 : pR 146 d 18 [a0, a1, a2, a3, a4, a5] (.int x :: st) h = if p1 a5 = true then pR 146 d 20 [a0, a1, a2, a3, a4, .int x] st h else none := r_sto (n := 2) (k := 5) (v := .int x) (ls := [a0, a1, a2, a3, a4, a5]) rfl rfl rfl
theorem rX3_firstPart_20 : pR 146 d 20 [a0, a1, a2, a3, a4, .int x] st h = pR 146 d 22 [a0, a1, a2, a3, a4, .int x] (.int x :: st) h := pR_L rfl rfl
theorem rX3_firstPart_22 : pR 146 d 22 [.ref o, a1, a2, a3, a4, a5] st h = pR 146 d 23 [.ref o, a1, a2, a3, a4, a5] (.ref o :: st) h := pR_L rfl rfl
theorem rX3_firstPart_23 : pR 146 d 23 ls (.ref o :: st) h = if pis (pfl h 3 o 13) = true then pR 146 d 26 ls (pfl h 3 o 13 :: st) h else none := r_get rfl
theorem rX3_firstPart_26 : pR 146 d 26 [a0, .int x, a2, a3, a4, a5] st h = pR 146 d 27 [a0, .int x, a2, a3, a4, a5] (.int x :: st) h := pR_L rfl rfl
theorem rX3_firstPart_27 : pR 146 d 27 ls (.int x :: .ref o :: st) h = if (pin x (pln h 0 o) || pin x (pln h 9 o)) = true then pR 146 d 28 ls (.int (pct h o x.toNatClampNeg) :: st) h else none := pR_Lif rfl rfl
theorem rX3_firstPart_28 : pR 146 d 28 ls (.int y :: .int x :: st) h = if x < y then pR 146 d 31 ls st h else pR 146 d 69 ls st h := r_cge rfl rfl
theorem rX3_firstPart_31 : pR 146 d 31 [a0, a1, a2, .int x, a4, a5] st h = pR 146 d 32 [a0, a1, a2, .int x, a4, a5] (.int x :: st) h := pR_L rfl rfl
theorem rX3_firstPart_32 : pR 146 d 32 [a0, a1, .int x, a3, a4, a5] st h = pR 146 d 33 [a0, a1, .int x, a3, a4, a5] (.int x :: st) h := pR_L rfl rfl
theorem rX3_firstPart_33 : pR 146 d 33 [a0, a1, a2, a3, a4, .int x] st h = pR 146 d 35 [a0, a1, a2, a3, a4, .int x] (.int x :: st) h := pR_L rfl rfl
theorem rX3_firstPart_35 : pR 146 d 35 ls (.int y :: .int x :: st) h = pR 146 d 36 ls (.int (x >>> (y &&& 31)) :: st) h := pR_L rfl rfl
theorem rX3_firstPart_36 : pR 146 d 36 ls st h = pR 146 d 37 ls (.int 1 :: st) h := pR_L rfl rfl
theorem rX3_firstPart_37 : pR 146 d 37 ls (.int y :: .int x :: st) h = pR 146 d 38 ls (.int (x &&& y) :: st) h := pR_L rfl rfl
theorem rX3_firstPart_38 : pR 146 d 38 ls st h = pR 146 d 39 ls (.int 1 :: st) h := pR_L rfl rfl
theorem rX3_firstPart_39 : pR 146 d 39 ls (.int y :: .int x :: st) h = if x = y then pR 146 d 42 ls st h else pR 146 d 60 ls st h := r_cne rfl rfl
theorem rX3_firstPart_42 : pR 146 d 42 [.ref o, a1, a2, a3, a4, a5] st h = pR 146 d 43 [.ref o, a1, a2, a3, a4, a5] (.ref o :: st) h := pR_L rfl rfl
theorem rX3_firstPart_43 : pR 146 d 43 [a0, .int x, a2, a3, a4, a5] st h = pR 146 d 44 [a0, .int x, a2, a3, a4, a5] (.int x :: st) h := pR_L rfl rfl
theorem rX3_firstPart_44 : pR 146 d 44 [a0, a1, a2, a3, a4, .int x] st h = pR 146 d 46 [a0, a1, a2, a3, a4, .int x] (.int x :: st) h := pR_L rfl rfl
theorem rX3_firstPart_46 : pR 146 d 46 [a0, a1, a2, .int x, a4, a5] st h = pR 146 d 47 [a0, a1, a2, .int x, a4, a5] (.int x :: st) h := pR_L rfl rfl
theorem rX3_firstPart_47 : pR 146 (d + 1) 47 ls (b3 :: b2 :: b1 :: .ref o :: st) h = if (pok 3 (pcl h o) && pw st) = true then pK 146 (d + 1) 47 3 ls st (pCa 133 d [.ref o, b1, b2, b3] h) else none := r_callV rfl rfl rfl
theorem rX3_firstPart_50 : pR 146 d 50 ls (.int x :: st) h = if x = 0 then pR 146 d 60 ls st h else pR 146 d 53 ls st h := r_ieq rfl rfl
theorem rX3_firstPart_53 : pR 146 d 53 ls st h = pR 146 d 54 ls (.int 1 :: st) h := pR_L rfl rfl
theorem rX3_firstPart_54 : pR 146 d 54 [a0, a1, a2, a3, a4, .int x] st h = pR 146 d 56 [a0, a1, a2, a3, a4, .int x] (.int x :: st) h := pR_L rfl rfl
theorem rX3_firstPart_56 : pR 146 d 56 ls (.int y :: .int x :: st) h = pR 146 d 57 ls (.int (x <<< (y &&& 31)) :: st) h := pR_L rfl rfl
theorem rX3_firstPart_57 : pR 146 d 57 ls st h = pR 146 d 61 ls st h := pR_L rfl rfl
theorem rX3_firstPart_60 : pR 146 d 60 ls st h = pR 146 d 61 ls (.int 0 :: st) h := pR_L rfl rfl
theorem rX3_firstPart_61 : pR 146 d 61 ls (.int y :: .int x :: st) h = pR 146 d 62 ls (.int (x ||| y) :: st) h := pR_L rfl rfl
theorem rX3_firstPart_62 : pR 146 d 62 [a0, a1, a2, a3, a4, a5] (.int x :: st) h = if p1 a3 = true then pR 146 d 63 [a0, a1, a2, .int x, a4, a5] st h else none := r_sto (n := 1) (k := 3) (v := .int x) (ls := [a0, a1, a2, a3, a4, a5]) rfl rfl rfl
theorem rX3_firstPart_63 : pR 146 d 63 [a0, a1, a2, a3, a4, .int x] st h = pR 146 d 66 [a0, a1, a2, a3, a4, .int (x + 1)] st h := pR_L rfl rfl
theorem rX3_firstPart_66 : pR 146 d 66 ls st h = pR 146 d 20 ls st h := pR_L rfl rfl
theorem rX3_firstPart_69 : pR 146 d 69 ls st h = pR 146 d 8 ls st h := pR_L rfl rfl
theorem rX3_firstPart_72 : pR 146 d 72 [a0, a1, a2, .int x, a4, a5] st h = pR 146 d 73 [a0, a1, a2, .int x, a4, a5] (.int x :: st) h := pR_L rfl rfl
theorem rX3_firstPart_73 : pR 146 d 73 ls [.int x] h = some (.inl (some (.int x)), h) := pR_E rfl rfl
-- 147 BalloonStallModel made (II)I
theorem eX3_made : pCa 147 d [.ref o, .int x0, .int x1] h = pR 147 d 0 [.ref o, .int x0, .int x1] [] h := rfl
theorem rX3_made_0 : pR 147 d 0 [.ref o, a1, a2] st h = pR 147 d 1 [.ref o, a1, a2] (.ref o :: st) h := pR_L rfl rfl
theorem rX3_made_1 : pR 147 d 1 [a0, .int x, a2] st h = pR 147 d 2 [a0, .int x, a2] (.int x :: st) h := pR_L rfl rfl
theorem rX3_made_2 : pR 147 d 2 [a0, a1, .int x] st h = pR 147 d 3 [a0, a1, .int x] (.int x :: st) h := pR_L rfl rfl
theorem rX3_made_3 : pR 147 (d + 1) 3 ls (b2 :: b1 :: .ref o :: st) h = if (pok 3 (pcl h o) && pw st) = true then pK 147 (d + 1) 3 3 ls st (pCa 148 d [.ref o, b1, b2] h) else none := r_callV rfl rfl rfl
theorem rX3_made_6 : pR 147 d 6 ls (.int x :: st) h = if x = 0 then pR 147 d 22 ls st h else pR 147 d 9 ls st h := r_ieq rfl rfl
theorem rX3_made_9 : pR 147 d 9 [.ref o, a1, a2] st h = pR 147 d 10 [.ref o, a1, a2] (.ref o :: st) h := pR_L rfl rfl
theorem rX3_made_10 : pR 147 d 10 ls (.ref o :: st) h = if pis (pfl h 3 o 37) = true then pR 147 d 13 ls (pfl h 3 o 37 :: st) h else none := r_get rfl
theorem rX3_made_13 : pR 147 d 13 [.ref o, a1, a2] st h = pR 147 d 14 [.ref o, a1, a2] (.ref o :: st) h := pR_L rfl rfl
theorem rX3_made_14 : pR 147 d 14 [a0, .int x, a2] st h = pR 147 d 15 [a0, .int x, a2] (.int x :: st) h := pR_L rfl rfl
theorem rX3_made_15 : pR 147 (d + 1) 15 ls (b1 :: .ref o :: st) h = if (pok 3 (pcl h o) && pw st) = true then pK 147 (d + 1) 15 3 ls st (pCa 111 d [.ref o, b1] h) else none := r_callV rfl rfl rfl
theorem rX3_made_18 : pR 147 d 18 ls (.int x :: .ref o :: st) h = if (pin x (pln h 0 o) || pin x (pln h 9 o)) = true then pR 147 d 19 ls (.int (pct h o x.toNatClampNeg) :: st) h else none := pR_Lif rfl rfl
theorem rX3_made_19 : pR 147 d 19 ls st h = pR 147 d 23 ls st h := pR_L rfl rfl
theorem rX3_made_22 : pR 147 d 22 ls st h = pR 147 d 23 ls (.int (-1) :: st) h := pR_L rfl rfl
theorem rX3_made_23 : pR 147 d 23 ls [.int x] h = some (.inl (some (.int x)), h) := pR_E rfl rfl
-- 148 BalloonStallModel mayBeMade (II)Z
theorem eX3_mayBeMade : pCa 148 d [.ref o, .int x0, .int x1] h = pR 148 d 0 [.ref o, .int x0, .int x1] [] h := rfl
theorem rX3_mayBeMade_0 : pR 148 d 0 [.ref o, a1, a2] st h = pR 148 d 1 [.ref o, a1, a2] (.ref o :: st) h := pR_L rfl rfl
theorem rX3_mayBeMade_1 : pR 148 d 1 [a0, .int x, a2] st h = pR 148 d 2 [a0, .int x, a2] (.int x :: st) h := pR_L rfl rfl
theorem rX3_mayBeMade_2 : pR 148 (d + 1) 2 ls (b1 :: .ref o :: st) h = if (pok 3 (pcl h o) && pw st) = true then pK 148 (d + 1) 2 3 ls st (pCa 108 d [.ref o, b1] h) else none := r_callV rfl rfl rfl
theorem rX3_mayBeMade_5 : pR 148 d 5 ls (.int x :: st) h = if x = 0 then pR 148 d 27 ls st h else pR 148 d 8 ls st h := r_ieq rfl rfl
theorem rX3_mayBeMade_8 : pR 148 d 8 [.ref o, a1, a2] st h = pR 148 d 9 [.ref o, a1, a2] (.ref o :: st) h := pR_L rfl rfl
theorem rX3_mayBeMade_9 : pR 148 d 9 [a0, a1, .int x] st h = pR 148 d 10 [a0, a1, .int x] (.int x :: st) h := pR_L rfl rfl
theorem rX3_mayBeMade_10 : pR 148 (d + 1) 10 ls (b1 :: .ref o :: st) h = if (pok 3 (pcl h o) && pw st) = true then pK 148 (d + 1) 10 3 ls st (pCa 149 d [.ref o, b1] h) else none := r_callV rfl rfl rfl
theorem rX3_mayBeMade_13 : pR 148 d 13 ls (.int x :: st) h = if x = 0 then pR 148 d 27 ls st h else pR 148 d 16 ls st h := r_ieq rfl rfl
theorem rX3_mayBeMade_16 : pR 148 d 16 [.ref o, a1, a2] st h = pR 148 d 17 [.ref o, a1, a2] (.ref o :: st) h := pR_L rfl rfl
theorem rX3_mayBeMade_17 : pR 148 d 17 ls (.ref o :: st) h = if pis (pfl h 3 o 13) = true then pR 148 d 20 ls (pfl h 3 o 13 :: st) h else none := r_get rfl
theorem rX3_mayBeMade_20 : pR 148 d 20 [a0, .int x, a2] st h = pR 148 d 21 [a0, .int x, a2] (.int x :: st) h := pR_L rfl rfl
theorem rX3_mayBeMade_21 : pR 148 d 21 ls (.int x :: .ref o :: st) h = if (pin x (pln h 0 o) || pin x (pln h 9 o)) = true then pR 148 d 22 ls (.int (pct h o x.toNatClampNeg) :: st) h else none := pR_Lif rfl rfl
theorem rX3_mayBeMade_22 : pR 148 d 22 ls st h = pR 148 d 24 ls (.int 10 :: st) h := pR_L rfl rfl
theorem rX3_mayBeMade_24 : pR 148 d 24 ls (.int y :: .int x :: st) h = if y < x then pR 148 d 27 ls st h else pR 148 d 29 ls st h := r_cle rfl rfl
theorem rX3_mayBeMade_27 : pR 148 d 27 ls st h = pR 148 d 28 ls (.int 0 :: st) h := pR_L rfl rfl
theorem rX3_mayBeMade_280 : pR 148 d 28 ls [.int 0] h = some (.inl (some (.int 0)), h) := pR_E rfl rfl
theorem rX3_mayBeMade_281 : pR 148 d 28 ls [.int 1] h = some (.inl (some (.int 1)), h) := pR_E rfl rfl
theorem rX3_mayBeMade_29 : pR 148 d 29 [.ref o, a1, a2] st h = pR 148 d 30 [.ref o, a1, a2] (.ref o :: st) h := pR_L rfl rfl
theorem rX3_mayBeMade_30 : pR 148 d 30 [a0, .int x, a2] st h = pR 148 d 31 [a0, .int x, a2] (.int x :: st) h := pR_L rfl rfl
theorem rX3_mayBeMade_31 : pR 148 d 31 [a0, a1, .int x] st h = pR 148 d 32 [a0, a1, .int x] (.int x :: st) h := pR_L rfl rfl
theorem rX3_mayBeMade_32 : pR 148 (d + 1) 32 ls (b2 :: b1 :: .ref o :: st) h = if (pok 3 (pcl h o) && pw st) = true then pK 148 (d + 1) 32 3 ls st (pCa 150 d [.ref o, b1, b2] h) else none := r_callV rfl rfl rfl
theorem rX3_mayBeMade_35 : pR 148 d 35 [.ref o, a1, a2] st h = pR 148 d 36 [.ref o, a1, a2] (.ref o :: st) h := pR_L rfl rfl
theorem rX3_mayBeMade_36 : pR 148 d 36 ls (.ref o :: st) h = if pis (pfl h 3 o 37) = true then pR 148 d 39 ls (pfl h 3 o 37 :: st) h else none := r_get rfl
theorem rX3_mayBeMade_39 : pR 148 d 39 [.ref o, a1, a2] st h = pR 148 d 40 [.ref o, a1, a2] (.ref o :: st) h := pR_L rfl rfl
theorem rX3_mayBeMade_40 : pR 148 d 40 [a0, .int x, a2] st h = pR 148 d 41 [a0, .int x, a2] (.int x :: st) h := pR_L rfl rfl
theorem rX3_mayBeMade_41 : pR 148 (d + 1) 41 ls (b1 :: .ref o :: st) h = if (pok 3 (pcl h o) && pw st) = true then pK 148 (d + 1) 41 3 ls st (pCa 111 d [.ref o, b1] h) else none := r_callV rfl rfl rfl
theorem rX3_mayBeMade_44 : pR 148 d 44 ls (.int x :: .ref o :: st) h = if (pin x (pln h 0 o) || pin x (pln h 9 o)) = true then pR 148 d 45 ls (.int (pct h o x.toNatClampNeg) :: st) h else none := pR_Lif rfl rfl
theorem rX3_mayBeMade_45 : pR 148 d 45 ls st h = pR 148 d 48 ls (.int 1000000 :: st) h := pR_X rfl rfl
theorem rX3_mayBeMade_48 : pR 148 d 48 ls (.int y :: .int x :: st) h = if x < y then pR 148 d 51 ls st h else pR 148 d 55 ls st h := r_cge rfl rfl
theorem rX3_mayBeMade_51 : pR 148 d 51 ls st h = pR 148 d 52 ls (.int 1 :: st) h := pR_L rfl rfl
theorem rX3_mayBeMade_52 : pR 148 d 52 ls st h = pR 148 d 56 ls st h := pR_L rfl rfl
theorem rX3_mayBeMade_55 : pR 148 d 55 ls st h = pR 148 d 56 ls (.int 0 :: st) h := pR_L rfl rfl
theorem rX3_mayBeMade_560 : pR 148 d 56 ls [.int 0] h = some (.inl (some (.int 0)), h) := pR_E rfl rfl
theorem rX3_mayBeMade_561 : pR 148 d 56 ls [.int 1] h = some (.inl (some (.int 1)), h) := pR_E rfl rfl
-- 149 BalloonStallModel isSort (I)Z
theorem eX3_isSort : pCa 149 d [.ref o, .int x0] h = pR 149 d 0 [.ref o, .int x0] [] h := rfl
theorem rX3_isSort_0 : pR 149 d 0 [a0, .int x] st h = pR 149 d 1 [a0, .int x] (.int x :: st) h := pR_L rfl rfl
theorem rX3_isSort_1 : pR 149 d 1 ls st h = pR 149 d 2 ls (.int 0 :: st) h := pR_L rfl rfl
theorem rX3_isSort_2 : pR 149 d 2 [.ref o, a1] st h = pR 149 d 3 [.ref o, a1] (.ref o :: st) h := pR_L rfl rfl
theorem rX3_isSort_3 : pR 149 d 3 ls (.ref o :: st) h = if pis (pfl h 3 o 5) = true then pR 149 d 6 ls (pfl h 3 o 5 :: st) h else none := r_get rfl
theorem rX3_isSort_6 : pR 149 d 6 ls st h = pR 149 d 7 ls (.int 1 :: st) h := pR_L rfl rfl
theorem rX3_isSort_7 : pR 149 d 7 ls (.int y :: .int x :: st) h = pR 149 d 8 ls (.int (x - y) :: st) h := pR_L rfl rfl
theorem rX3_isSort_8 : pR 149 (d + 1) 8 ls (b2 :: b1 :: b0 :: st) h = if pw st = true then pK 149 (d + 1) 8 3 ls st (pCa 69 d [b0, b1, b2] h) else none := r_callS rfl rfl rfl
theorem rX3_isSort_110 : pR 149 d 11 ls [.int 0] h = some (.inl (some (.int 0)), h) := pR_E rfl rfl
theorem rX3_isSort_111 : pR 149 d 11 ls [.int 1] h = some (.inl (some (.int 1)), h) := pR_E rfl rfl
-- 150 BalloonStallModel findFewest (II)V
theorem eX3_findFewest : pCa 150 d [.ref o, .int x0, .int x1] h = pR 150 d 0 [.ref o, .int x0, .int x1, pU, pU, pU, pU] [] h := rfl
theorem rX3_findFewest_0 : pR 150 d 0 [.ref o, a1, a2, a3, a4, a5, a6] st h = pR 150 d 1 [.ref o, a1, a2, a3, a4, a5, a6] (.ref o :: st) h := pR_L rfl rfl
theorem rX3_findFewest_1 : pR 150 d 1 [a0, .int x, a2, a3, a4, a5, a6] st h = pR 150 d 2 [a0, .int x, a2, a3, a4, a5, a6] (.int x :: st) h := pR_L rfl rfl
theorem rX3_findFewest_2 : pR 150 (d + 1) 2 ls (b1 :: .ref o :: st) h = if (pok 3 (pcl h o) && pw st) = true then pK 150 (d + 1) 2 3 ls st (pCa 111 d [.ref o, b1] h) else none := r_callV rfl rfl rfl
theorem rX3_findFewest_5 : pR 150 d 5 [a0, a1, a2, a3, a4, a5, a6] (.int x :: st) h = if p1 a3 = true then pR 150 d 6 [a0, a1, a2, .int x, a4, a5, a6] st h else none := r_sto (n := 1) (k := 3) (v := .int x) (ls := [a0, a1, a2, a3, a4, a5, a6]) rfl rfl rfl
theorem rX3_findFewest_6 : pR 150 d 6 [.ref o, a1, a2, a3, a4, a5, a6] st h = pR 150 d 7 [.ref o, a1, a2, a3, a4, a5, a6] (.ref o :: st) h := pR_L rfl rfl
theorem rX3_findFewest_7 : pR 150 d 7 ls (.ref o :: st) h = if pis (pfl h 3 o 37) = true then pR 150 d 10 ls (pfl h 3 o 37 :: st) h else none := r_get rfl
theorem rX3_findFewest_10 : pR 150 d 10 ls st h = pR 150 d 11 ls (.int 0 :: st) h := pR_L rfl rfl
theorem rX3_findFewest_11 : pR 150 d 11 ls st h = pR 150 d 12 ls (.int 0 :: st) h := pR_L rfl rfl
theorem rX3_findFewest_12 : pR 150 d 12 ls (.int y :: .int x :: .ref o :: st) h = if pin x (pln h 0 o) = true then pR 150 d 13 ls st (pst h o x.toNatClampNeg y) else none := pR_Lif rfl rfl
theorem rX3_findFewest_13 : pR 150 d 13 ls st h = pR 150 d 14 ls (.int 1 :: st) h := pR_L rfl rfl
theorem rX3_findFewest_14 : pR 150 d 14 [a0, a1, a2, a3, a4, a5, a6] (.int x :: st) h = if p1 a4 = true then pR 150 d 16 [a0, a1, a2, a3, .int x, a5, a6] st h else none := r_sto (n := 2) (k := 4) (v := .int x) (ls := [a0, a1, a2, a3, a4, a5, a6]) rfl rfl rfl
theorem rX3_findFewest_16 : pR 150 d 16 [a0, a1, a2, a3, .int x, a5, a6] st h = pR 150 d 18 [a0, a1, a2, a3, .int x, a5, a6] (.int x :: st) h := pR_L rfl rfl
theorem rX3_findFewest_18 : pR 150 d 18 [a0, a1, a2, .int x, a4, a5, a6] st h = pR 150 d 19 [a0, a1, a2, .int x, a4, a5, a6] (.int x :: st) h := pR_L rfl rfl
theorem rX3_findFewest_19 : pR 150 d 19 ls (.int y :: .int x :: st) h = if y < x then pR 150 d 131 ls st h else pR 150 d 22 ls st h := r_cgt rfl rfl
theorem rX3_findFewest_22 : pR 150 d 22 [.ref o, a1, a2, a3, a4, a5, a6] st h = pR 150 d 23 [.ref o, a1, a2, a3, a4, a5, a6] (.ref o :: st) h := pR_L rfl rfl
theorem rX3_findFewest_23 : pR 150 d 23 ls (.ref o :: st) h = if pis (pfl h 3 o 38) = true then pR 150 d 26 ls (pfl h 3 o 38 :: st) h else none := r_get rfl
theorem rX3_findFewest_26 : pR 150 d 26 [a0, a1, a2, a3, .int x, a5, a6] st h = pR 150 d 28 [a0, a1, a2, a3, .int x, a5, a6] (.int x :: st) h := pR_L rfl rfl
theorem rX3_findFewest_28 : pR 150 d 28 [.ref o, a1, a2, a3, a4, a5, a6] st h = pR 150 d 29 [.ref o, a1, a2, a3, a4, a5, a6] (.ref o :: st) h := pR_L rfl rfl
theorem rX3_findFewest_29 : pR 150 d 29 [a0, .int x, a2, a3, a4, a5, a6] st h = pR 150 d 30 [a0, .int x, a2, a3, a4, a5, a6] (.int x :: st) h := pR_L rfl rfl
theorem rX3_findFewest_30 : pR 150 d 30 [a0, a1, .int x, a3, a4, a5, a6] st h = pR 150 d 31 [a0, a1, .int x, a3, a4, a5, a6] (.int x :: st) h := pR_L rfl rfl
theorem rX3_findFewest_31 : pR 150 d 31 [a0, a1, a2, a3, .int x, a5, a6] st h = pR 150 d 33 [a0, a1, a2, a3, .int x, a5, a6] (.int x :: st) h := pR_L rfl rfl
theorem rX3_findFewest_33 : pR 150 (d + 1) 33 ls (b3 :: b2 :: b1 :: .ref o :: st) h = if (pok 3 (pcl h o) && pw st) = true then pK 150 (d + 1) 33 3 ls st (pCa 151 d [.ref o, b1, b2, b3] h) else none := r_callV rfl rfl rfl
theorem rX3_findFewest_36 : pR 150 d 36 ls (.int y :: .int x :: .ref o :: st) h = if pin x (pln h 1 o) = true then pR 150 d 37 ls st (pst h o x.toNatClampNeg y.toInt8.toInt32) else if (pin x (pln h 2 o) && (y == 0 || y == 1)) = true then pR 150 d 37 ls st (pst h o x.toNatClampNeg y) else none := r_bast rfl
theorem rX3_findFewest_37 : pR 150 d 37 [.ref o, a1, a2, a3, a4, a5, a6] st h = pR 150 d 38 [.ref o, a1, a2, a3, a4, a5, a6] (.ref o :: st) h := pR_L rfl rfl
theorem rX3_findFewest_38 : pR 150 d 38 ls (.ref o :: st) h = if pis (pfl h 3 o 37) = true then pR 150 d 41 ls (pfl h 3 o 37 :: st) h else none := r_get rfl
theorem rX3_findFewest_41 : pR 150 d 41 [a0, a1, a2, a3, .int x, a5, a6] st h = pR 150 d 43 [a0, a1, a2, a3, .int x, a5, a6] (.int x :: st) h := pR_L rfl rfl
theorem rX3_findFewest_43 : pR 150 d 43 ls st h = pR 150 d 46 ls (.int 1000000 :: st) h := pR_X rfl rfl
theorem rX3_findFewest_46 : pR 150 d 46 ls (.int y :: .int x :: .ref o :: st) h = if pin x (pln h 0 o) = true then pR 150 d 47 ls st (pst h o x.toNatClampNeg y) else none := pR_Lif rfl rfl
theorem rX3_findFewest_47 : pR 150 d 47 [a0, a1, a2, a3, .int x, a5, a6] st h = pR 150 d 49 [a0, a1, a2, a3, .int x, a5, a6] (.int x :: st) h := pR_L rfl rfl
theorem rX3_findFewest_49 : pR 150 d 49 [a0, a1, a2, a3, .int x, a5, a6] st h = pR 150 d 51 [a0, a1, a2, a3, .int x, a5, a6] (.int x :: st) h := pR_L rfl rfl
theorem rX3_findFewest_51 : pR 150 d 51 ls (.int x :: st) h = pR 150 d 52 ls (.int (-x) :: st) h := pR_L rfl rfl
theorem rX3_findFewest_52 : pR 150 d 52 ls (.int y :: .int x :: st) h = pR 150 d 53 ls (.int (x &&& y) :: st) h := pR_L rfl rfl
theorem rX3_findFewest_53 : pR 150 d 53 [a0, a1, a2, a3, a4, a5, a6] (.int x :: st) h = if p1 a5 = true then pR 150 d 55 [a0, a1, a2, a3, a4, .int x, a6] st h else none := r_sto (n := 2) (k := 5) (v := .int x) (ls := [a0, a1, a2, a3, a4, a5, a6]) rfl rfl rfl
theorem rX3_findFewest_55 : pR 150 d 55 [a0, a1, a2, a3, .int x, a5, a6] st h = pR 150 d 57 [a0, a1, a2, a3, .int x, a5, a6] (.int x :: st) h := pR_L rfl rfl
theorem rX3_findFewest_57 : pR 150 d 57 [a0, a1, a2, a3, a4, a5, a6] (.int x :: st) h = if p1 a6 = true then pR 150 d 59 [a0, a1, a2, a3, a4, a5, .int x] st h else none := r_sto (n := 2) (k := 6) (v := .int x) (ls := [a0, a1, a2, a3, a4, a5, a6]) rfl rfl rfl
theorem rX3_findFewest_59 : pR 150 d 59 [a0, a1, a2, a3, a4, a5, .int x] st h = pR 150 d 61 [a0, a1, a2, a3, a4, a5, .int x] (.int x :: st) h := pR_L rfl rfl
theorem rX3_findFewest_61 : pR 150 d 61 ls (.int x :: st) h = if 0 < x then pR 150 d 64 ls st h else pR 150 d 125 ls st h := r_ile rfl rfl
theorem rX3_findFewest_64 : pR 150 d 64 [a0, a1, a2, a3, a4, a5, .int x] st h = pR 150 d 66 [a0, a1, a2, a3, a4, a5, .int x] (.int x :: st) h := pR_L rfl rfl
theorem rX3_findFewest_66 : pR 150 d 66 [a0, a1, a2, a3, a4, .int x, a6] st h = pR 150 d 68 [a0, a1, a2, a3, a4, .int x, a6] (.int x :: st) h := pR_L rfl rfl
theorem rX3_findFewest_68 : pR 150 d 68 ls (.int y :: .int x :: st) h = pR 150 d 69 ls (.int (x &&& y) :: st) h := pR_L rfl rfl
theorem rX3_findFewest_69 : pR 150 d 69 ls (.int x :: st) h = if x = 0 then pR 150 d 113 ls st h else pR 150 d 72 ls st h := r_ieq rfl rfl
theorem rX3_findFewest_72 : pR 150 d 72 [.ref o, a1, a2, a3, a4, a5, a6] st h = pR 150 d 73 [.ref o, a1, a2, a3, a4, a5, a6] (.ref o :: st) h := pR_L rfl rfl
theorem rX3_findFewest_73 : pR 150 d 73 ls (.ref o :: st) h = if pis (pfl h 3 o 38) = true then pR 150 d 76 ls (pfl h 3 o 38 :: st) h else none := r_get rfl
theorem rX3_findFewest_76 : pR 150 d 76 [a0, a1, a2, a3, a4, a5, .int x] st h = pR 150 d 78 [a0, a1, a2, a3, a4, a5, .int x] (.int x :: st) h := pR_L rfl rfl
theorem rX3_findFewest_78 : pR 150 d 78 ls (.int x :: .ref o :: st) h = if (pin x (pln h 1 o) || pin x (pln h 2 o)) = true then pR 150 d 79 ls (.int (pct h o x.toNatClampNeg) :: st) h else none := pR_Lif rfl rfl
theorem rX3_findFewest_79 : pR 150 d 79 ls (.int x :: st) h = if x = 0 then pR 150 d 113 ls st h else pR 150 d 82 ls st h := r_ieq rfl rfl
theorem rX3_findFewest_82 : pR 150 d 82 [.ref o, a1, a2, a3, a4, a5, a6] st h = pR 150 d 83 [.ref o, a1, a2, a3, a4, a5, a6] (.ref o :: st) h := pR_L rfl rfl
theorem rX3_findFewest_83 : pR 150 d 83 ls (.ref o :: st) h = if pis (pfl h 3 o 37) = true then pR 150 d 86 ls (pfl h 3 o 37 :: st) h else none := r_get rfl
theorem rX3_findFewest_86 : pR 150 d 86 [a0, a1, a2, a3, .int x, a5, a6] st h = pR 150 d 88 [a0, a1, a2, a3, .int x, a5, a6] (.int x :: st) h := pR_L rfl rfl
theorem rX3_findFewest_88 : pR 150 d 88 [.ref o, a1, a2, a3, a4, a5, a6] st h = pR 150 d 89 [.ref o, a1, a2, a3, a4, a5, a6] (.ref o :: st) h := pR_L rfl rfl
theorem rX3_findFewest_89 : pR 150 d 89 ls (.ref o :: st) h = if pis (pfl h 3 o 37) = true then pR 150 d 92 ls (pfl h 3 o 37 :: st) h else none := r_get rfl
theorem rX3_findFewest_92 : pR 150 d 92 [a0, a1, a2, a3, .int x, a5, a6] st h = pR 150 d 94 [a0, a1, a2, a3, .int x, a5, a6] (.int x :: st) h := pR_L rfl rfl
theorem rX3_findFewest_94 : pR 150 d 94 ls (.int x :: .ref o :: st) h = if (pin x (pln h 0 o) || pin x (pln h 9 o)) = true then pR 150 d 95 ls (.int (pct h o x.toNatClampNeg) :: st) h else none := pR_Lif rfl rfl
theorem rX3_findFewest_95 : pR 150 d 95 ls st h = pR 150 d 96 ls (.int 1 :: st) h := pR_L rfl rfl
theorem rX3_findFewest_96 : pR 150 d 96 [.ref o, a1, a2, a3, a4, a5, a6] st h = pR 150 d 97 [.ref o, a1, a2, a3, a4, a5, a6] (.ref o :: st) h := pR_L rfl rfl
theorem rX3_findFewest_97 : pR 150 d 97 ls (.ref o :: st) h = if pis (pfl h 3 o 37) = true then pR 150 d 100 ls (pfl h 3 o 37 :: st) h else none := r_get rfl
theorem rX3_findFewest_100 : pR 150 d 100 [a0, a1, a2, a3, .int x, a5, a6] st h = pR 150 d 102 [a0, a1, a2, a3, .int x, a5, a6] (.int x :: st) h := pR_L rfl rfl
theorem rX3_findFewest_102 : pR 150 d 102 [a0, a1, a2, a3, a4, a5, .int x] st h = pR 150 d 104 [a0, a1, a2, a3, a4, a5, .int x] (.int x :: st) h := pR_L rfl rfl
theorem rX3_findFewest_104 : pR 150 d 104 ls st h = pR 150 d 105 ls (.int (-1) :: st) h := pR_L rfl rfl
theorem rX3_findFewest_105 : pR 150 d 105 ls (.int y :: .int x :: st) h = pR 150 d 106 ls (.int (x ^^^ y) :: st) h := pR_L rfl rfl
theorem rX3_findFewest_106 : pR 150 d 106 ls (.int y :: .int x :: st) h = pR 150 d 107 ls (.int (x &&& y) :: st) h := pR_L rfl rfl
theorem rX3_findFewest_107 : pR 150 d 107 ls (.int x :: .ref o :: st) h = if (pin x (pln h 0 o) || pin x (pln h 9 o)) = true then pR 150 d 108 ls (.int (pct h o x.toNatClampNeg) :: st) h else none := pR_Lif rfl rfl
theorem rX3_findFewest_108 : pR 150 d 108 ls (.int y :: .int x :: st) h = pR 150 d 109 ls (.int (x + y) :: st) h := pR_L rfl rfl
theorem rX3_findFewest_109 : pR 150 (d + 1) 109 ls (.int y :: .int x :: st) h = if pw st = true then pR 150 (d + 1) 112 ls (.int (if y < x then y else x) :: st) h else none := r_mn rfl
theorem rX3_findFewest_112 : pR 150 d 112 ls (.int y :: .int x :: .ref o :: st) h = if pin x (pln h 0 o) = true then pR 150 d 113 ls st (pst h o x.toNatClampNeg y) else none := pR_Lif rfl rfl
theorem rX3_findFewest_113 : pR 150 d 113 [a0, a1, a2, a3, a4, a5, .int x] st h = pR 150 d 115 [a0, a1, a2, a3, a4, a5, .int x] (.int x :: st) h := pR_L rfl rfl
theorem rX3_findFewest_115 : pR 150 d 115 ls st h = pR 150 d 116 ls (.int 1 :: st) h := pR_L rfl rfl
theorem rX3_findFewest_116 : pR 150 d 116 ls (.int y :: .int x :: st) h = pR 150 d 117 ls (.int (x - y) :: st) h := pR_L rfl rfl
theorem rX3_findFewest_117 : pR 150 d 117 [a0, a1, a2, a3, .int x, a5, a6] st h = pR 150 d 119 [a0, a1, a2, a3, .int x, a5, a6] (.int x :: st) h := pR_L rfl rfl
theorem rX3_findFewest_119 : pR 150 d 119 ls (.int y :: .int x :: st) h = pR 150 d 120 ls (.int (x &&& y) :: st) h := pR_L rfl rfl
theorem rX3_findFewest_120 : pR 150 d 120 [a0, a1, a2, a3, a4, a5, a6] (.int x :: st) h = if p1 a6 = true then pR 150 d 122 [a0, a1, a2, a3, a4, a5, .int x] st h else none := r_sto (n := 2) (k := 6) (v := .int x) (ls := [a0, a1, a2, a3, a4, a5, a6]) rfl rfl rfl
theorem rX3_findFewest_122 : pR 150 d 122 ls st h = pR 150 d 59 ls st h := pR_L rfl rfl
theorem rX3_findFewest_125 : pR 150 d 125 [a0, a1, a2, a3, .int x, a5, a6] st h = pR 150 d 128 [a0, a1, a2, a3, .int (x + 1), a5, a6] st h := pR_L rfl rfl
theorem rX3_findFewest_128 : pR 150 d 128 ls st h = pR 150 d 16 ls st h := pR_L rfl rfl
theorem rX3_findFewest_131 : pR 150 d 131 ls [] h = some (.inl none, h) := pR_E rfl rfl
-- 151 BalloonStallModel isOneWay (III)Z
theorem eX3_isOneWay : pCa 151 d [.ref o, .int x0, .int x1, .int x2] h = pR 151 d 0 [.ref o, .int x0, .int x1, .int x2, pU, pU] [] h := rfl
theorem rX3_isOneWay_0 : pR 151 d 0 [.ref o, a1, a2, a3, a4, a5] st h = pR 151 d 1 [.ref o, a1, a2, a3, a4, a5] (.ref o :: st) h := pR_L rfl rfl
theorem rX3_isOneWay_1 : pR 151 d 1 ls (.ref o :: st) h = if pis (pfl h 3 o 2) = true then pR 151 d 4 ls (pfl h 3 o 2 :: st) h else none := r_get rfl
theorem rX3_isOneWay_4 : pR 151 d 4 [a0, a1, .int x, a3, a4, a5] st h = pR 151 d 5 [a0, a1, .int x, a3, a4, a5] (.int x :: st) h := pR_L rfl rfl
theorem rX3_isOneWay_5 : pR 151 d 5 ls (.int x :: .ref o :: st) h = if (pin x (pln h 0 o) || pin x (pln h 9 o)) = true then pR 151 d 6 ls (.int (pct h o x.toNatClampNeg) :: st) h else none := pR_Lif rfl rfl
theorem rX3_isOneWay_6 : pR 151 d 6 [a0, a1, a2, .int x, a4, a5] st h = pR 151 d 7 [a0, a1, a2, .int x, a4, a5] (.int x :: st) h := pR_L rfl rfl
theorem rX3_isOneWay_7 : pR 151 (d + 1) 7 ls (b0 :: st) h = if pw st = true then pK 151 (d + 1) 7 3 ls st (pCa 254 d [b0] h) else none := r_callS rfl rfl rfl
theorem rX3_isOneWay_10 : pR 151 d 10 ls st h = pR 151 d 11 ls (.int 1 :: st) h := pR_L rfl rfl
theorem rX3_isOneWay_11 : pR 151 d 11 ls (.int y :: .int x :: st) h = pR 151 d 12 ls (.int (x - y) :: st) h := pR_L rfl rfl
theorem rX3_isOneWay_12 : pR 151 d 12 ls (.int y :: .int x :: st) h = pR 151 d 13 ls (.int (x * y) :: st) h := pR_L rfl rfl
theorem rX3_isOneWay_13 : pR 151 d 13 [a0, a1, a2, a3, a4, a5] (.int x :: st) h = if p1 a4 = true then pR 151 d 15 [a0, a1, a2, a3, .int x, a5] st h else none := r_sto (n := 2) (k := 4) (v := .int x) (ls := [a0, a1, a2, a3, a4, a5]) rfl rfl rfl
theorem rX3_isOneWay_15 : pR 151 d 15 ls st h = pR 151 d 16 ls (.int 0 :: st) h := pR_L rfl rfl
theorem rX3_isOneWay_16 : pR 151 d 16 [a0, a1, a2, a3, a4, a5] (.int x :: st) h = if p1 a5 = true then pR 151 d 18 [a0, a1, a2, a3, a4, .int x] st h else none := r_sto (n := 2) (k := 5) (v := .int x) (ls := [a0, a1, a2, a3, a4, a5]) rfl rfl rfl
theorem rX3_isOneWay_18 : pR 151 d 18 [a0, a1, a2, a3, a4, .int x] st h = pR 151 d 20 [a0, a1, a2, a3, a4, .int x] (.int x :: st) h := pR_L rfl rfl
theorem rX3_isOneWay_20 : pR 151 d 20 [.ref o, a1, a2, a3, a4, a5] st h = pR 151 d 21 [.ref o, a1, a2, a3, a4, a5] (.ref o :: st) h := pR_L rfl rfl
theorem rX3_isOneWay_21 : pR 151 d 21 ls (.ref o :: st) h = if pis (pfl h 3 o 13) = true then pR 151 d 24 ls (pfl h 3 o 13 :: st) h else none := r_get rfl
theorem rX3_isOneWay_24 : pR 151 d 24 [a0, .int x, a2, a3, a4, a5] st h = pR 151 d 25 [a0, .int x, a2, a3, a4, a5] (.int x :: st) h := pR_L rfl rfl
theorem rX3_isOneWay_25 : pR 151 d 25 ls (.int x :: .ref o :: st) h = if (pin x (pln h 0 o) || pin x (pln h 9 o)) = true then pR 151 d 26 ls (.int (pct h o x.toNatClampNeg) :: st) h else none := pR_Lif rfl rfl
theorem rX3_isOneWay_26 : pR 151 d 26 ls (.int y :: .int x :: st) h = if x < y then pR 151 d 29 ls st h else pR 151 d 66 ls st h := r_cge rfl rfl
theorem rX3_isOneWay_29 : pR 151 d 29 [a0, a1, a2, a3, .int x, a5] st h = pR 151 d 31 [a0, a1, a2, a3, .int x, a5] (.int x :: st) h := pR_L rfl rfl
theorem rX3_isOneWay_31 : pR 151 d 31 [a0, a1, a2, .int x, a4, a5] st h = pR 151 d 32 [a0, a1, a2, .int x, a4, a5] (.int x :: st) h := pR_L rfl rfl
theorem rX3_isOneWay_32 : pR 151 d 32 [a0, a1, a2, a3, a4, .int x] st h = pR 151 d 34 [a0, a1, a2, a3, a4, .int x] (.int x :: st) h := pR_L rfl rfl
theorem rX3_isOneWay_34 : pR 151 d 34 ls (.int y :: .int x :: st) h = pR 151 d 35 ls (.int (x >>> (y &&& 31)) :: st) h := pR_L rfl rfl
theorem rX3_isOneWay_35 : pR 151 d 35 ls st h = pR 151 d 36 ls (.int 1 :: st) h := pR_L rfl rfl
theorem rX3_isOneWay_36 : pR 151 d 36 ls (.int y :: .int x :: st) h = pR 151 d 37 ls (.int (x &&& y) :: st) h := pR_L rfl rfl
theorem rX3_isOneWay_37 : pR 151 d 37 ls st h = pR 151 d 38 ls (.int 1 :: st) h := pR_L rfl rfl
theorem rX3_isOneWay_38 : pR 151 d 38 ls (.int y :: .int x :: st) h = if x = y then pR 151 d 41 ls st h else pR 151 d 56 ls st h := r_cne rfl rfl
theorem rX3_isOneWay_41 : pR 151 d 41 [.ref o, a1, a2, a3, a4, a5] st h = pR 151 d 42 [.ref o, a1, a2, a3, a4, a5] (.ref o :: st) h := pR_L rfl rfl
theorem rX3_isOneWay_42 : pR 151 d 42 ls (.ref o :: st) h = if pis (pfl h 3 o 15) = true then pR 151 d 45 ls (pfl h 3 o 15 :: st) h else none := r_get rfl
theorem rX3_isOneWay_45 : pR 151 d 45 ls st h = pR 151 d 47 ls (.int 24 :: st) h := pR_L rfl rfl
theorem rX3_isOneWay_47 : pR 151 d 47 [a0, .int x, a2, a3, a4, a5] st h = pR 151 d 48 [a0, .int x, a2, a3, a4, a5] (.int x :: st) h := pR_L rfl rfl
theorem rX3_isOneWay_48 : pR 151 d 48 ls (.int y :: .int x :: st) h = pR 151 d 49 ls (.int (x * y) :: st) h := pR_L rfl rfl
theorem rX3_isOneWay_49 : pR 151 d 49 [a0, a1, a2, a3, a4, .int x] st h = pR 151 d 51 [a0, a1, a2, a3, a4, .int x] (.int x :: st) h := pR_L rfl rfl
theorem rX3_isOneWay_51 : pR 151 d 51 ls (.int y :: .int x :: st) h = pR 151 d 52 ls (.int (x + y) :: st) h := pR_L rfl rfl
theorem rX3_isOneWay_52 : pR 151 d 52 ls (.int x :: .ref o :: st) h = if (pin x (pln h 0 o) || pin x (pln h 9 o)) = true then pR 151 d 53 ls (.int (pct h o x.toNatClampNeg) :: st) h else none := pR_Lif rfl rfl
theorem rX3_isOneWay_53 : pR 151 d 53 ls st h = pR 151 d 57 ls st h := pR_L rfl rfl
theorem rX3_isOneWay_56 : pR 151 d 56 ls st h = pR 151 d 57 ls (.int 0 :: st) h := pR_L rfl rfl
theorem rX3_isOneWay_57 : pR 151 d 57 ls (.int y :: .int x :: st) h = pR 151 d 58 ls (.int (x + y) :: st) h := pR_L rfl rfl
theorem rX3_isOneWay_58 : pR 151 d 58 [a0, a1, a2, a3, a4, a5] (.int x :: st) h = if p1 a4 = true then pR 151 d 60 [a0, a1, a2, a3, .int x, a5] st h else none := r_sto (n := 2) (k := 4) (v := .int x) (ls := [a0, a1, a2, a3, a4, a5]) rfl rfl rfl
theorem rX3_isOneWay_60 : pR 151 d 60 [a0, a1, a2, a3, a4, .int x] st h = pR 151 d 63 [a0, a1, a2, a3, a4, .int (x + 1)] st h := pR_L rfl rfl
theorem rX3_isOneWay_63 : pR 151 d 63 ls st h = pR 151 d 18 ls st h := pR_L rfl rfl
theorem rX3_isOneWay_66 : pR 151 d 66 [a0, a1, a2, a3, .int x, a5] st h = pR 151 d 68 [a0, a1, a2, a3, .int x, a5] (.int x :: st) h := pR_L rfl rfl
theorem rX3_isOneWay_68 : pR 151 d 68 [.ref o, a1, a2, a3, a4, a5] st h = pR 151 d 69 [.ref o, a1, a2, a3, a4, a5] (.ref o :: st) h := pR_L rfl rfl
theorem rX3_isOneWay_69 : pR 151 d 69 ls (.ref o :: st) h = if pis (pfl h 3 o 1) = true then pR 151 d 72 ls (pfl h 3 o 1 :: st) h else none := r_get rfl
theorem rX3_isOneWay_72 : pR 151 d 72 [a0, a1, .int x, a3, a4, a5] st h = pR 151 d 73 [a0, a1, .int x, a3, a4, a5] (.int x :: st) h := pR_L rfl rfl
theorem rX3_isOneWay_73 : pR 151 d 73 ls (.int x :: .ref o :: st) h = if (pin x (pln h 0 o) || pin x (pln h 9 o)) = true then pR 151 d 74 ls (.int (pct h o x.toNatClampNeg) :: st) h else none := pR_Lif rfl rfl
theorem rX3_isOneWay_74 : pR 151 d 74 ls (.int y :: .int x :: st) h = if y < x then pR 151 d 101 ls st h else pR 151 d 77 ls st h := r_cgt rfl rfl
theorem rX3_isOneWay_77 : pR 151 d 77 [.ref o, a1, a2, a3, a4, a5] st h = pR 151 d 78 [.ref o, a1, a2, a3, a4, a5] (.ref o :: st) h := pR_L rfl rfl
theorem rX3_isOneWay_78 : pR 151 d 78 [a0, .int x, a2, a3, a4, a5] st h = pR 151 d 79 [a0, .int x, a2, a3, a4, a5] (.int x :: st) h := pR_L rfl rfl
theorem rX3_isOneWay_79 : pR 151 d 79 [a0, a1, a2, .int x, a4, a5] st h = pR 151 d 80 [a0, a1, a2, .int x, a4, a5] (.int x :: st) h := pR_L rfl rfl
theorem rX3_isOneWay_80 : pR 151 (d + 1) 80 ls (b2 :: b1 :: .ref o :: st) h = if (pok 3 (pcl h o) && pw st) = true then pK 151 (d + 1) 80 3 ls st (pCa 146 d [.ref o, b1, b2] h) else none := r_callV rfl rfl rfl
theorem rX3_isOneWay_83 : pR 151 d 83 [a0, a1, a2, .int x, a4, a5] st h = pR 151 d 84 [a0, a1, a2, .int x, a4, a5] (.int x :: st) h := pR_L rfl rfl
theorem rX3_isOneWay_84 : pR 151 d 84 ls (.int y :: .int x :: st) h = if x = y then pR 151 d 87 ls st h else pR 151 d 101 ls st h := r_cne rfl rfl
theorem rX3_isOneWay_87 : pR 151 d 87 [.ref o, a1, a2, a3, a4, a5] st h = pR 151 d 88 [.ref o, a1, a2, a3, a4, a5] (.ref o :: st) h := pR_L rfl rfl
theorem rX3_isOneWay_88 : pR 151 d 88 [a0, .int x, a2, a3, a4, a5] st h = pR 151 d 89 [a0, .int x, a2, a3, a4, a5] (.int x :: st) h := pR_L rfl rfl
theorem rX3_isOneWay_89 : pR 151 d 89 [a0, a1, a2, .int x, a4, a5] st h = pR 151 d 90 [a0, a1, a2, .int x, a4, a5] (.int x :: st) h := pR_L rfl rfl
theorem rX3_isOneWay_90 : pR 151 (d + 1) 90 ls (b2 :: b1 :: .ref o :: st) h = if (pok 3 (pcl h o) && pw st) = true then pK 151 (d + 1) 90 3 ls st (pCa 113 d [.ref o, b1, b2] h) else none := r_callV rfl rfl rfl
theorem rX3_isOneWay_93 : pR 151 d 93 ls st h = pR 151 d 94 ls (.int 2 :: st) h := pR_L rfl rfl
theorem rX3_isOneWay_94 : pR 151 d 94 ls (.int y :: .int x :: st) h = if y < x then pR 151 d 101 ls st h else pR 151 d 97 ls st h := r_cgt rfl rfl
theorem rX3_isOneWay_97 : pR 151 d 97 ls st h = pR 151 d 98 ls (.int 1 :: st) h := pR_L rfl rfl
theorem rX3_isOneWay_98 : pR 151 d 98 ls st h = pR 151 d 102 ls st h := pR_L rfl rfl
theorem rX3_isOneWay_101 : pR 151 d 101 ls st h = pR 151 d 102 ls (.int 0 :: st) h := pR_L rfl rfl
theorem rX3_isOneWay_1020 : pR 151 d 102 ls [.int 0] h = some (.inl (some (.int 0)), h) := pR_E rfl rfl
theorem rX3_isOneWay_1021 : pR 151 d 102 ls [.int 1] h = some (.inl (some (.int 1)), h) := pR_E rfl rfl
-- 152 BalloonStallModel set (III)I
theorem eX3_set : pCa 152 d [.ref o, .int x0, .int x1, .int x2] h = pR 152 d 0 [.ref o, .int x0, .int x1, .int x2, pU, pU, pU, pU] [] h := rfl
theorem rX3_set_0 : pR 152 d 0 [.ref o, a1, a2, a3, a4, a5, a6, a7] st h = pR 152 d 1 [.ref o, a1, a2, a3, a4, a5, a6, a7] (.ref o :: st) h := pR_L rfl rfl
theorem rX3_set_1 : pR 152 d 1 [a0, .int x, a2, a3, a4, a5, a6, a7] st h = pR 152 d 2 [a0, .int x, a2, a3, a4, a5, a6, a7] (.int x :: st) h := pR_L rfl rfl
theorem rX3_set_2 : pR 152 d 2 [a0, a1, .int x, a3, a4, a5, a6, a7] st h = pR 152 d 3 [a0, a1, .int x, a3, a4, a5, a6, a7] (.int x :: st) h := pR_L rfl rfl
theorem rX3_set_3 : pR 152 (d + 1) 3 ls (b2 :: b1 :: .ref o :: st) h = if (pok 3 (pcl h o) && pw st) = true then pK 152 (d + 1) 3 3 ls st (pCa 148 d [.ref o, b1, b2] h) else none := r_callV rfl rfl rfl
theorem rX3_set_6 : pR 152 d 6 ls (.int x :: st) h = if x = 0 then pR 152 d 29 ls st h else pR 152 d 9 ls st h := r_ieq rfl rfl
theorem rX3_set_9 : pR 152 d 9 [a0, a1, a2, .int x, a4, a5, a6, a7] st h = pR 152 d 10 [a0, a1, a2, .int x, a4, a5, a6, a7] (.int x :: st) h := pR_L rfl rfl
theorem rX3_set_10 : pR 152 d 10 ls st h = pR 152 d 11 ls (.int 0 :: st) h := pR_L rfl rfl
theorem rX3_set_11 : pR 152 d 11 [.ref o, a1, a2, a3, a4, a5, a6, a7] st h = pR 152 d 12 [.ref o, a1, a2, a3, a4, a5, a6, a7] (.ref o :: st) h := pR_L rfl rfl
theorem rX3_set_12 : pR 152 d 12 ls (.ref o :: st) h = if pis (pfl h 3 o 37) = true then pR 152 d 15 ls (pfl h 3 o 37 :: st) h else none := r_get rfl
theorem rX3_set_15 : pR 152 d 15 [.ref o, a1, a2, a3, a4, a5, a6, a7] st h = pR 152 d 16 [.ref o, a1, a2, a3, a4, a5, a6, a7] (.ref o :: st) h := pR_L rfl rfl
theorem rX3_set_16 : pR 152 d 16 [a0, .int x, a2, a3, a4, a5, a6, a7] st h = pR 152 d 17 [a0, .int x, a2, a3, a4, a5, a6, a7] (.int x :: st) h := pR_L rfl rfl
theorem rX3_set_17 : pR 152 (d + 1) 17 ls (b1 :: .ref o :: st) h = if (pok 3 (pcl h o) && pw st) = true then pK 152 (d + 1) 17 3 ls st (pCa 111 d [.ref o, b1] h) else none := r_callV rfl rfl rfl
theorem rX3_set_20 : pR 152 d 20 ls (.int x :: .ref o :: st) h = if (pin x (pln h 0 o) || pin x (pln h 9 o)) = true then pR 152 d 21 ls (.int (pct h o x.toNatClampNeg) :: st) h else none := pR_Lif rfl rfl
theorem rX3_set_21 : pR 152 d 21 ls st h = pR 152 d 22 ls (.int 1 :: st) h := pR_L rfl rfl
theorem rX3_set_22 : pR 152 d 22 ls (.int y :: .int x :: st) h = pR 152 d 23 ls (.int (x - y) :: st) h := pR_L rfl rfl
theorem rX3_set_23 : pR 152 (d + 1) 23 ls (b2 :: b1 :: b0 :: st) h = if pw st = true then pK 152 (d + 1) 23 3 ls st (pCa 69 d [b0, b1, b2] h) else none := r_callS rfl rfl rfl
theorem rX3_set_26 : pR 152 d 26 ls (.int x :: st) h = if x = 0 then pR 152 d 29 ls st h else pR 152 d 31 ls st h := r_ine rfl rfl
theorem rX3_set_29 : pR 152 d 29 ls st h = pR 152 d 30 ls (.int (-1) :: st) h := pR_L rfl rfl
theorem rX3_set_30 : pR 152 d 30 ls [.int x] h = some (.inl (some (.int x)), h) := pR_E rfl rfl
theorem rX3_set_31 : pR 152 d 31 [.ref o, a1, a2, a3, a4, a5, a6, a7] st h = pR 152 d 32 [.ref o, a1, a2, a3, a4, a5, a6, a7] (.ref o :: st) h := pR_L rfl rfl
theorem rX3_set_32 : pR 152 d 32 [a0, .int x, a2, a3, a4, a5, a6, a7] st h = pR 152 d 33 [a0, .int x, a2, a3, a4, a5, a6, a7] (.int x :: st) h := pR_L rfl rfl
theorem rX3_set_33 : pR 152 (d + 1) 33 ls (b1 :: .ref o :: st) h = if (pok 3 (pcl h o) && pw st) = true then pK 152 (d + 1) 33 3 ls st (pCa 111 d [.ref o, b1] h) else none := r_callV rfl rfl rfl
theorem rX3_set_36 : pR 152 d 36 [a0, a1, a2, a3, a4, a5, a6, a7] (.int x :: st) h = if p1 a4 = true then pR 152 d 38 [a0, a1, a2, a3, .int x, a5, a6, a7] st h else none := r_sto (n := 2) (k := 4) (v := .int x) (ls := [a0, a1, a2, a3, a4, a5, a6, a7]) rfl rfl rfl
theorem rX3_set_38 : pR 152 d 38 ls st h = pR 152 d 39 ls (.int 0 :: st) h := pR_L rfl rfl
theorem rX3_set_39 : pR 152 d 39 [a0, a1, a2, a3, a4, a5, a6, a7] (.int x :: st) h = if p1 a5 = true then pR 152 d 41 [a0, a1, a2, a3, a4, .int x, a6, a7] st h else none := r_sto (n := 2) (k := 5) (v := .int x) (ls := [a0, a1, a2, a3, a4, a5, a6, a7]) rfl rfl rfl
theorem rX3_set_41 : pR 152 d 41 [a0, a1, a2, a3, a4, .int x, a6, a7] st h = pR 152 d 43 [a0, a1, a2, a3, a4, .int x, a6, a7] (.int x :: st) h := pR_L rfl rfl
theorem rX3_set_43 : pR 152 d 43 [a0, a1, a2, .int x, a4, a5, a6, a7] st h = pR 152 d 44 [a0, a1, a2, .int x, a4, a5, a6, a7] (.int x :: st) h := pR_L rfl rfl
theorem rX3_set_44 : pR 152 d 44 ls (.int y :: .int x :: st) h = if y < x then pR 152 d 141 ls st h else pR 152 d 47 ls st h := r_cgt rfl rfl
theorem rX3_set_47 : pR 152 d 47 [a0, a1, a2, a3, .int x, a5, a6, a7] st h = pR 152 d 49 [a0, a1, a2, a3, .int x, a5, a6, a7] (.int x :: st) h := pR_L rfl rfl
theorem rX3_set_49 : pR 152 d 49 [a0, a1, a2, a3, .int x, a5, a6, a7] st h = pR 152 d 51 [a0, a1, a2, a3, .int x, a5, a6, a7] (.int x :: st) h := pR_L rfl rfl
theorem rX3_set_51 : pR 152 d 51 ls (.int x :: st) h = pR 152 d 52 ls (.int (-x) :: st) h := pR_L rfl rfl
theorem rX3_set_52 : pR 152 d 52 ls (.int y :: .int x :: st) h = pR 152 d 53 ls (.int (x &&& y) :: st) h := pR_L rfl rfl
theorem rX3_set_53 : pR 152 d 53 [a0, a1, a2, a3, a4, a5, a6, a7] (.int x :: st) h = if p1 a6 = true then pR 152 d 55 [a0, a1, a2, a3, a4, a5, .int x, a7] st h else none := r_sto (n := 2) (k := 6) (v := .int x) (ls := [a0, a1, a2, a3, a4, a5, a6, a7]) rfl rfl rfl
theorem rX3_set_55 : pR 152 d 55 [a0, a1, a2, a3, a4, a5, .int x, a7] st h = pR 152 d 57 [a0, a1, a2, a3, a4, a5, .int x, a7] (.int x :: st) h := pR_L rfl rfl
theorem rX3_set_57 : pR 152 d 57 [a0, a1, a2, a3, a4, a5, a6, a7] (.int x :: st) h = if p1 a7 = true then pR 152 d 59 [a0, a1, a2, a3, a4, a5, a6, .int x] st h else none := r_sto (n := 2) (k := 7) (v := .int x) (ls := [a0, a1, a2, a3, a4, a5, a6, a7]) rfl rfl rfl
theorem rX3_set_59 : pR 152 d 59 [a0, a1, a2, a3, a4, a5, a6, .int x] st h = pR 152 d 61 [a0, a1, a2, a3, a4, a5, a6, .int x] (.int x :: st) h := pR_L rfl rfl
theorem rX3_set_61 : pR 152 d 61 [a0, a1, a2, a3, .int x, a5, a6, a7] st h = pR 152 d 63 [a0, a1, a2, a3, .int x, a5, a6, a7] (.int x :: st) h := pR_L rfl rfl
theorem rX3_set_63 : pR 152 d 63 ls st h = pR 152 d 64 ls (.int (-1) :: st) h := pR_L rfl rfl
theorem rX3_set_64 : pR 152 d 64 ls (.int y :: .int x :: st) h = pR 152 d 65 ls (.int (x ^^^ y) :: st) h := pR_L rfl rfl
theorem rX3_set_65 : pR 152 d 65 ls (.int y :: .int x :: st) h = pR 152 d 66 ls (.int (x &&& y) :: st) h := pR_L rfl rfl
theorem rX3_set_66 : pR 152 d 66 ls (.int x :: st) h = if x = 0 then pR 152 d 69 ls st h else pR 152 d 111 ls st h := r_ine rfl rfl
theorem rX3_set_69 : pR 152 d 69 [a0, a1, a2, a3, a4, a5, a6, .int x] st h = pR 152 d 71 [a0, a1, a2, a3, a4, a5, a6, .int x] (.int x :: st) h := pR_L rfl rfl
theorem rX3_set_71 : pR 152 d 71 [a0, a1, a2, a3, a4, a5, .int x, a7] st h = pR 152 d 73 [a0, a1, a2, a3, a4, a5, .int x, a7] (.int x :: st) h := pR_L rfl rfl
theorem rX3_set_73 : pR 152 d 73 ls (.int y :: .int x :: st) h = pR 152 d 74 ls (.int (x &&& y) :: st) h := pR_L rfl rfl
theorem rX3_set_74 : pR 152 d 74 ls (.int x :: st) h = if x = 0 then pR 152 d 111 ls st h else pR 152 d 77 ls st h := r_ieq rfl rfl
theorem rX3_set_77 : pR 152 d 77 [.ref o, a1, a2, a3, a4, a5, a6, a7] st h = pR 152 d 78 [.ref o, a1, a2, a3, a4, a5, a6, a7] (.ref o :: st) h := pR_L rfl rfl
theorem rX3_set_78 : pR 152 d 78 ls (.ref o :: st) h = if pis (pfl h 3 o 38) = true then pR 152 d 81 ls (pfl h 3 o 38 :: st) h else none := r_get rfl
theorem rX3_set_81 : pR 152 d 81 [a0, a1, a2, a3, a4, a5, a6, .int x] st h = pR 152 d 83 [a0, a1, a2, a3, a4, a5, a6, .int x] (.int x :: st) h := pR_L rfl rfl
theorem rX3_set_83 : pR 152 d 83 ls (.int x :: .ref o :: st) h = if (pin x (pln h 1 o) || pin x (pln h 2 o)) = true then pR 152 d 84 ls (.int (pct h o x.toNatClampNeg) :: st) h else none := pR_Lif rfl rfl
theorem rX3_set_84 : pR 152 d 84 ls (.int x :: st) h = if x = 0 then pR 152 d 111 ls st h else pR 152 d 87 ls st h := r_ieq rfl rfl
theorem rX3_set_87 : pR 152 d 87 ls st h = pR 152 d 88 ls (.int 1 :: st) h := pR_L rfl rfl
theorem rX3_set_88 : pR 152 d 88 [.ref o, a1, a2, a3, a4, a5, a6, a7] st h = pR 152 d 89 [.ref o, a1, a2, a3, a4, a5, a6, a7] (.ref o :: st) h := pR_L rfl rfl
theorem rX3_set_89 : pR 152 d 89 ls (.ref o :: st) h = if pis (pfl h 3 o 37) = true then pR 152 d 92 ls (pfl h 3 o 37 :: st) h else none := r_get rfl
theorem rX3_set_92 : pR 152 d 92 [a0, a1, a2, a3, .int x, a5, a6, a7] st h = pR 152 d 94 [a0, a1, a2, a3, .int x, a5, a6, a7] (.int x :: st) h := pR_L rfl rfl
theorem rX3_set_94 : pR 152 d 94 [a0, a1, a2, a3, a4, a5, a6, .int x] st h = pR 152 d 96 [a0, a1, a2, a3, a4, a5, a6, .int x] (.int x :: st) h := pR_L rfl rfl
theorem rX3_set_96 : pR 152 d 96 ls st h = pR 152 d 97 ls (.int (-1) :: st) h := pR_L rfl rfl
theorem rX3_set_97 : pR 152 d 97 ls (.int y :: .int x :: st) h = pR 152 d 98 ls (.int (x ^^^ y) :: st) h := pR_L rfl rfl
theorem rX3_set_98 : pR 152 d 98 ls (.int y :: .int x :: st) h = pR 152 d 99 ls (.int (x &&& y) :: st) h := pR_L rfl rfl
theorem rX3_set_99 : pR 152 d 99 ls (.int x :: .ref o :: st) h = if (pin x (pln h 0 o) || pin x (pln h 9 o)) = true then pR 152 d 100 ls (.int (pct h o x.toNatClampNeg) :: st) h else none := pR_Lif rfl rfl
theorem rX3_set_100 : pR 152 d 100 ls (.int y :: .int x :: st) h = pR 152 d 101 ls (.int (x + y) :: st) h := pR_L rfl rfl
theorem rX3_set_101 : pR 152 d 101 [.ref o, a1, a2, a3, a4, a5, a6, a7] st h = pR 152 d 102 [.ref o, a1, a2, a3, a4, a5, a6, a7] (.ref o :: st) h := pR_L rfl rfl
theorem rX3_set_102 : pR 152 d 102 ls (.ref o :: st) h = if pis (pfl h 3 o 37) = true then pR 152 d 105 ls (pfl h 3 o 37 :: st) h else none := r_get rfl
theorem rX3_set_105 : pR 152 d 105 [a0, a1, a2, a3, .int x, a5, a6, a7] st h = pR 152 d 107 [a0, a1, a2, a3, .int x, a5, a6, a7] (.int x :: st) h := pR_L rfl rfl
theorem rX3_set_107 : pR 152 d 107 ls (.int x :: .ref o :: st) h = if (pin x (pln h 0 o) || pin x (pln h 9 o)) = true then pR 152 d 108 ls (.int (pct h o x.toNatClampNeg) :: st) h else none := pR_Lif rfl rfl
theorem rX3_set_108 : pR 152 d 108 ls (.int y :: .int x :: st) h = if x = y then pR 152 d 117 ls st h else pR 152 d 111 ls st h := r_ceq rfl rfl
theorem rX3_set_111 : pR 152 d 111 [a0, a1, a2, a3, a4, a5, a6, .int x] st h = pR 152 d 114 [a0, a1, a2, a3, a4, a5, a6, .int (x + 1)] st h := pR_L rfl rfl
theorem rX3_set_114 : pR 152 d 114 ls st h = pR 152 d 59 ls st h := pR_L rfl rfl
theorem rX3_set_117 : pR 152 d 117 [a0, a1, a2, a3, a4, .int x, a6, a7] st h = pR 152 d 119 [a0, a1, a2, a3, a4, .int x, a6, a7] (.int x :: st) h := pR_L rfl rfl
theorem rX3_set_119 : pR 152 d 119 [a0, a1, a2, .int x, a4, a5, a6, a7] st h = pR 152 d 120 [a0, a1, a2, .int x, a4, a5, a6, a7] (.int x :: st) h := pR_L rfl rfl
theorem rX3_set_120 : pR 152 d 120 ls (.int y :: .int x :: st) h = if x = y then pR 152 d 123 ls st h else pR 152 d 126 ls st h := r_cne rfl rfl
theorem rX3_set_123 : pR 152 d 123 [a0, a1, a2, a3, a4, a5, a6, .int x] st h = pR 152 d 125 [a0, a1, a2, a3, a4, a5, a6, .int x] (.int x :: st) h := pR_L rfl rfl
theorem rX3_set_125 : pR 152 d 125 ls [.int x] h = some (.inl (some (.int x)), h) := pR_E rfl rfl
theorem rX3_set_126 : pR 152 d 126 [a0, a1, a2, a3, .int x, a5, a6, a7] st h = pR 152 d 128 [a0, a1, a2, a3, .int x, a5, a6, a7] (.int x :: st) h := pR_L rfl rfl
theorem rX3_set_128 : pR 152 d 128 [a0, a1, a2, a3, a4, a5, a6, .int x] st h = pR 152 d 130 [a0, a1, a2, a3, a4, a5, a6, .int x] (.int x :: st) h := pR_L rfl rfl
theorem rX3_set_130 : pR 152 d 130 ls st h = pR 152 d 131 ls (.int (-1) :: st) h := pR_L rfl rfl
theorem rX3_set_131 : pR 152 d 131 ls (.int y :: .int x :: st) h = pR 152 d 132 ls (.int (x ^^^ y) :: st) h := pR_L rfl rfl
theorem rX3_set_132 : pR 152 d 132 ls (.int y :: .int x :: st) h = pR 152 d 133 ls (.int (x &&& y) :: st) h := pR_L rfl rfl
theorem rX3_set_133 : pR 152 d 133 [a0, a1, a2, a3, a4, a5, a6, a7] (.int x :: st) h = if p1 a4 = true then pR 152 d 135 [a0, a1, a2, a3, .int x, a5, a6, a7] st h else none := r_sto (n := 2) (k := 4) (v := .int x) (ls := [a0, a1, a2, a3, a4, a5, a6, a7]) rfl rfl rfl
theorem rX3_set_135 : pR 152 d 135 [a0, a1, a2, a3, a4, .int x, a6, a7] st h = pR 152 d 138 [a0, a1, a2, a3, a4, .int (x + 1), a6, a7] st h := pR_L rfl rfl
theorem rX3_set_138 : pR 152 d 138 ls st h = pR 152 d 41 ls st h := pR_L rfl rfl
theorem rX3_set_141 : pR 152 d 141 ls st h = pR 152 d 142 ls (.int (-1) :: st) h := pR_L rfl rfl
theorem rX3_set_142 : pR 152 d 142 ls [.int x] h = some (.inl (some (.int x)), h) := pR_E rfl rfl
-- 153 BalloonStallModel twice (I)I
theorem eX3_twice : pCa 153 d [.ref o, .int x0] h = pR 153 d 0 [.ref o, .int x0, pU, pU] [] h := rfl
theorem rX3_twice_0 : pR 153 d 0 [.ref o, a1, a2, a3] st h = pR 153 d 1 [.ref o, a1, a2, a3] (.ref o :: st) h := pR_L rfl rfl
theorem rX3_twice_1 : pR 153 d 1 [a0, .int x, a2, a3] st h = pR 153 d 2 [a0, .int x, a2, a3] (.int x :: st) h := pR_L rfl rfl
theorem rX3_twice_2 : pR 153 (d + 1) 2 ls (b1 :: .ref o :: st) h = if (pok 3 (pcl h o) && pw st) = true then pK 153 (d + 1) 2 3 ls st (pCa 108 d [.ref o, b1] h) else none := r_callV rfl rfl rfl
theorem rX3_twice_5 : pR 153 d 5 ls (.int x :: st) h = if x = 0 then pR 153 d 33 ls st h else pR 153 d 8 ls st h := r_ieq rfl rfl
theorem rX3_twice_8 : pR 153 d 8 [.ref o, a1, a2, a3] st h = pR 153 d 9 [.ref o, a1, a2, a3] (.ref o :: st) h := pR_L rfl rfl
theorem rX3_twice_9 : pR 153 d 9 ls (.ref o :: st) h = if pis (pfl h 3 o 13) = true then pR 153 d 12 ls (pfl h 3 o 13 :: st) h else none := r_get rfl
theorem rX3_twice_12 : pR 153 d 12 [a0, .int x, a2, a3] st h = pR 153 d 13 [a0, .int x, a2, a3] (.int x :: st) h := pR_L rfl rfl
theorem rX3_twice_13 : pR 153 d 13 ls (.int x :: .ref o :: st) h = if (pin x (pln h 0 o) || pin x (pln h 9 o)) = true then pR 153 d 14 ls (.int (pct h o x.toNatClampNeg) :: st) h else none := pR_Lif rfl rfl
theorem rX3_twice_14 : pR 153 d 14 ls st h = pR 153 d 16 ls (.int 12 :: st) h := pR_L rfl rfl
theorem rX3_twice_16 : pR 153 d 16 ls (.int y :: .int x :: st) h = if y < x then pR 153 d 33 ls st h else pR 153 d 19 ls st h := r_cgt rfl rfl
theorem rX3_twice_19 : pR 153 d 19 [.ref o, a1, a2, a3] st h = pR 153 d 20 [.ref o, a1, a2, a3] (.ref o :: st) h := pR_L rfl rfl
theorem rX3_twice_20 : pR 153 d 20 [a0, .int x, a2, a3] st h = pR 153 d 21 [a0, .int x, a2, a3] (.int x :: st) h := pR_L rfl rfl
theorem rX3_twice_21 : pR 153 d 21 [.ref o, a1, a2, a3] st h = pR 153 d 22 [.ref o, a1, a2, a3] (.ref o :: st) h := pR_L rfl rfl
theorem rX3_twice_22 : pR 153 d 22 [a0, .int x, a2, a3] st h = pR 153 d 23 [a0, .int x, a2, a3] (.int x :: st) h := pR_L rfl rfl
theorem rX3_twice_23 : pR 153 (d + 1) 23 ls (b1 :: .ref o :: st) h = if (pok 3 (pcl h o) && pw st) = true then pK 153 (d + 1) 23 3 ls st (pCa 111 d [.ref o, b1] h) else none := r_callV rfl rfl rfl
theorem rX3_twice_26 : pR 153 (d + 1) 26 ls (b2 :: b1 :: .ref o :: st) h = if (pok 3 (pcl h o) && pw st) = true then pK 153 (d + 1) 26 3 ls st (pCa 132 d [.ref o, b1, b2] h) else none := r_callV rfl rfl rfl
theorem rX3_twice_29 : pR 153 d 29 ls st h = pR 153 d 30 ls (.int 1 :: st) h := pR_L rfl rfl
theorem rX3_twice_30 : pR 153 d 30 ls (.int y :: .int x :: st) h = if y < x then pR 153 d 33 ls st h else pR 153 d 35 ls st h := r_cle rfl rfl
theorem rX3_twice_33 : pR 153 d 33 ls st h = pR 153 d 34 ls (.int (-1) :: st) h := pR_L rfl rfl
theorem rX3_twice_34 : pR 153 d 34 ls [.int x] h = some (.inl (some (.int x)), h) := pR_E rfl rfl
theorem rX3_twice_35 : pR 153 d 35 ls st h = pR 153 d 36 ls (.int 0 :: st) h := pR_L rfl rfl
theorem rX3_twice_36 : pR 153 d 36 [a0, a1, a2, a3] (.int x :: st) h = if p1 a2 = true then pR 153 d 37 [a0, a1, .int x, a3] st h else none := r_sto (n := 1) (k := 2) (v := .int x) (ls := [a0, a1, a2, a3]) rfl rfl rfl
theorem rX3_twice_37 : pR 153 d 37 ls st h = pR 153 d 38 ls (.int 0 :: st) h := pR_L rfl rfl
theorem rX3_twice_38 : pR 153 d 38 [a0, a1, a2, a3] (.int x :: st) h = if p1 a3 = true then pR 153 d 39 [a0, a1, a2, .int x] st h else none := r_sto (n := 1) (k := 3) (v := .int x) (ls := [a0, a1, a2, a3]) rfl rfl rfl
theorem rX3_twice_39 : pR 153 d 39 [a0, a1, a2, .int x] st h = pR 153 d 40 [a0, a1, a2, .int x] (.int x :: st) h := pR_L rfl rfl
theorem rX3_twice_40 : pR 153 d 40 [.ref o, a1, a2, a3] st h = pR 153 d 41 [.ref o, a1, a2, a3] (.ref o :: st) h := pR_L rfl rfl
theorem rX3_twice_41 : pR 153 d 41 ls (.ref o :: st) h = if pis (pfl h 3 o 14) = true then pR 153 d 44 ls (pfl h 3 o 14 :: st) h else none := r_get rfl
theorem rX3_twice_44 : pR 153 d 44 [a0, .int x, a2, a3] st h = pR 153 d 45 [a0, .int x, a2, a3] (.int x :: st) h := pR_L rfl rfl
theorem rX3_twice_45 : pR 153 d 45 ls (.int x :: .ref o :: st) h = if (pin x (pln h 0 o) || pin x (pln h 9 o)) = true then pR 153 d 46 ls (.int (pct h o x.toNatClampNeg) :: st) h else none := pR_Lif rfl rfl
theorem rX3_twice_46 : pR 153 d 46 ls (.int y :: .int x :: st) h = if x < y then pR 153 d 49 ls st h else pR 153 d 82 ls st h := r_cge rfl rfl
theorem rX3_twice_49 : pR 153 d 49 [.ref o, a1, a2, a3] st h = pR 153 d 50 [.ref o, a1, a2, a3] (.ref o :: st) h := pR_L rfl rfl
theorem rX3_twice_50 : pR 153 d 50 [a0, .int x, a2, a3] st h = pR 153 d 51 [a0, .int x, a2, a3] (.int x :: st) h := pR_L rfl rfl
theorem rX3_twice_51 : pR 153 d 51 [a0, a1, a2, .int x] st h = pR 153 d 52 [a0, a1, a2, .int x] (.int x :: st) h := pR_L rfl rfl
theorem rX3_twice_52 : pR 153 d 52 [.ref o, a1, a2, a3] st h = pR 153 d 53 [.ref o, a1, a2, a3] (.ref o :: st) h := pR_L rfl rfl
theorem rX3_twice_53 : pR 153 d 53 [a0, .int x, a2, a3] st h = pR 153 d 54 [a0, .int x, a2, a3] (.int x :: st) h := pR_L rfl rfl
theorem rX3_twice_54 : pR 153 (d + 1) 54 ls (b1 :: .ref o :: st) h = if (pok 3 (pcl h o) && pw st) = true then pK 153 (d + 1) 54 3 ls st (pCa 111 d [.ref o, b1] h) else none := r_callV rfl rfl rfl
theorem rX3_twice_57 : pR 153 (d + 1) 57 ls (b3 :: b2 :: b1 :: .ref o :: st) h = if (pok 3 (pcl h o) && pw st) = true then pK 153 (d + 1) 57 3 ls st (pCa 112 d [.ref o, b1, b2, b3] h) else none := r_callV rfl rfl rfl
theorem rX3_twice_60 : pR 153 d 60 ls st h = pR 153 d 61 ls (.int 2 :: st) h := pR_L rfl rfl
theorem rX3_twice_61 : pR 153 d 61 ls (.int y :: .int x :: st) h = if y = 0 then none else pR 153 d 62 ls (.int (x - x / y * y) :: st) h := r_rem rfl
theorem rX3_twice_62 : pR 153 d 62 ls st h = pR 153 d 63 ls (.int 1 :: st) h := pR_L rfl rfl
theorem rX3_twice_63 : pR 153 d 63 ls (.int y :: .int x :: st) h = if x = y then pR 153 d 66 ls st h else pR 153 d 76 ls st h := r_cne rfl rfl
theorem rX3_twice_66 : pR 153 d 66 [.ref o, a1, a2, a3] st h = pR 153 d 67 [.ref o, a1, a2, a3] (.ref o :: st) h := pR_L rfl rfl
theorem rX3_twice_67 : pR 153 d 67 ls (.ref o :: st) h = if pis (pfl h 3 o 39) = true then pR 153 d 70 ls (pfl h 3 o 39 :: st) h else none := r_get rfl
theorem rX3_twice_70 : pR 153 d 70 [a0, a1, .int x, a3] st h = pR 153 d 71 [a0, a1, .int x, a3] (.int x :: st) h := pR_L rfl rfl
theorem rX3_twice_71 : pR 153 d 71 [a0, a1, a2, .int x] st h = pR 153 d 72 [a0, a1, a2, .int x] (.int x :: st) h := pR_L rfl rfl
theorem rX3_twice_72 : pR 153 d 72 ls (.int y :: .int x :: .ref o :: st) h = if pin x (pln h 0 o) = true then pR 153 d 73 ls st (pst h o x.toNatClampNeg y) else none := pR_Lif rfl rfl
theorem rX3_twice_73 : pR 153 d 73 [a0, a1, .int x, a3] st h = pR 153 d 76 [a0, a1, .int (x + 1), a3] st h := pR_L rfl rfl
theorem rX3_twice_76 : pR 153 d 76 [a0, a1, a2, .int x] st h = pR 153 d 79 [a0, a1, a2, .int (x + 1)] st h := pR_L rfl rfl
theorem rX3_twice_79 : pR 153 d 79 ls st h = pR 153 d 39 ls st h := pR_L rfl rfl
theorem rX3_twice_82 : pR 153 d 82 [.ref o, a1, a2, a3] st h = pR 153 d 83 [.ref o, a1, a2, a3] (.ref o :: st) h := pR_L rfl rfl
theorem rX3_twice_83 : pR 153 d 83 [a0, .int x, a2, a3] st h = pR 153 d 84 [a0, .int x, a2, a3] (.int x :: st) h := pR_L rfl rfl
theorem rX3_twice_84 : pR 153 (d + 1) 84 ls (b1 :: .ref o :: st) h = if (pok 3 (pcl h o) && pw st) = true then pK 153 (d + 1) 84 3 ls st (pCa 143 d [.ref o, b1] h) else none := r_callV rfl rfl rfl
theorem rX3_twice_87 : pR 153 d 87 [a0, a1, .int x, a3] st h = pR 153 d 88 [a0, a1, .int x, a3] (.int x :: st) h := pR_L rfl rfl
theorem rX3_twice_88 : pR 153 d 88 ls (.int x :: st) h = if x = 0 then pR 153 d 91 ls st h else pR 153 d 95 ls st h := r_ine rfl rfl
theorem rX3_twice_91 : pR 153 d 91 ls st h = pR 153 d 92 ls (.int 0 :: st) h := pR_L rfl rfl
theorem rX3_twice_92 : pR 153 d 92 ls st h = pR 153 d 106 ls st h := pR_L rfl rfl
theorem rX3_twice_95 : pR 153 d 95 [.ref o, a1, a2, a3] st h = pR 153 d 96 [.ref o, a1, a2, a3] (.ref o :: st) h := pR_L rfl rfl
theorem rX3_twice_96 : pR 153 d 96 ls st h = pR 153 d 97 ls (.int 1 :: st) h := pR_L rfl rfl
theorem rX3_twice_97 : pR 153 d 97 [a0, a1, .int x, a3] st h = pR 153 d 98 [a0, a1, .int x, a3] (.int x :: st) h := pR_L rfl rfl
theorem rX3_twice_98 : pR 153 d 98 ls (.int y :: .int x :: st) h = pR 153 d 99 ls (.int (x <<< (y &&& 31)) :: st) h := pR_L rfl rfl
theorem rX3_twice_99 : pR 153 d 99 ls st h = pR 153 d 100 ls (.int 1 :: st) h := pR_L rfl rfl
theorem rX3_twice_100 : pR 153 d 100 ls (.int y :: .int x :: st) h = pR 153 d 101 ls (.int (x - y) :: st) h := pR_L rfl rfl
theorem rX3_twice_101 : pR 153 d 101 [a0, a1, .int x, a3] st h = pR 153 d 102 [a0, a1, .int x, a3] (.int x :: st) h := pR_L rfl rfl
theorem rX3_twice_102 : pR 153 d 102 ls st h = pR 153 d 103 ls (.int 2 :: st) h := pR_L rfl rfl
theorem rX3_twice_103 : pR 153 (d + 1) 103 ls (b3 :: b2 :: b1 :: .ref o :: st) h = if (pok 3 (pcl h o) && pw st) = true then pK 153 (d + 1) 103 3 ls st (pCa 154 d [.ref o, b1, b2, b3] h) else none := r_callV rfl rfl rfl
theorem rX3_twice_106 : pR 153 d 106 ls [.int x] h = some (.inl (some (.int x)), h) := pR_E rfl rfl
-- 154 BalloonStallModel pairing (III)I
theorem eX3_pairing : pCa 154 d [.ref o, .int x0, .int x1, .int x2] h = pR 154 d 0 [.ref o, .int x0, .int x1, .int x2, pU, pU, pU, pU] [] h := rfl
theorem rX3_pairing_0 : pR 154 d 0 [a0, .int x, a2, a3, a4, a5, a6, a7] st h = pR 154 d 1 [a0, .int x, a2, a3, a4, a5, a6, a7] (.int x :: st) h := pR_L rfl rfl
theorem rX3_pairing_1 : pR 154 d 1 ls (.int x :: st) h = if x = 0 then pR 154 d 4 ls st h else pR 154 d 6 ls st h := r_ine rfl rfl
theorem rX3_pairing_4 : pR 154 d 4 ls st h = pR 154 d 5 ls (.int 0 :: st) h := pR_L rfl rfl
theorem rX3_pairing_5 : pR 154 d 5 ls [.int x] h = some (.inl (some (.int x)), h) := pR_E rfl rfl
theorem rX3_pairing_6 : pR 154 d 6 [a0, .int x, a2, a3, a4, a5, a6, a7] st h = pR 154 d 7 [a0, .int x, a2, a3, a4, a5, a6, a7] (.int x :: st) h := pR_L rfl rfl
theorem rX3_pairing_7 : pR 154 (d + 1) 7 ls (b0 :: st) h = if pw st = true then pK 154 (d + 1) 7 3 ls st (pCa 255 d [b0] h) else none := r_callS rfl rfl rfl
theorem rX3_pairing_10 : pR 154 d 10 [a0, a1, a2, a3, a4, a5, a6, a7] (.int x :: st) h = if p1 a4 = true then pR 154 d 12 [a0, a1, a2, a3, .int x, a5, a6, a7] st h else none := r_sto (n := 2) (k := 4) (v := .int x) (ls := [a0, a1, a2, a3, a4, a5, a6, a7]) rfl rfl rfl
theorem rX3_pairing_12 : pR 154 d 12 [a0, .int x, a2, a3, a4, a5, a6, a7] st h = pR 154 d 13 [a0, .int x, a2, a3, a4, a5, a6, a7] (.int x :: st) h := pR_L rfl rfl
theorem rX3_pairing_13 : pR 154 d 13 ls st h = pR 154 d 14 ls (.int 1 :: st) h := pR_L rfl rfl
theorem rX3_pairing_14 : pR 154 d 14 [a0, a1, a2, a3, .int x, a5, a6, a7] st h = pR 154 d 16 [a0, a1, a2, a3, .int x, a5, a6, a7] (.int x :: st) h := pR_L rfl rfl
theorem rX3_pairing_16 : pR 154 d 16 ls (.int y :: .int x :: st) h = pR 154 d 17 ls (.int (x <<< (y &&& 31)) :: st) h := pR_L rfl rfl
theorem rX3_pairing_17 : pR 154 d 17 ls st h = pR 154 d 18 ls (.int (-1) :: st) h := pR_L rfl rfl
theorem rX3_pairing_18 : pR 154 d 18 ls (.int y :: .int x :: st) h = pR 154 d 19 ls (.int (x ^^^ y) :: st) h := pR_L rfl rfl
theorem rX3_pairing_19 : pR 154 d 19 ls (.int y :: .int x :: st) h = pR 154 d 20 ls (.int (x &&& y) :: st) h := pR_L rfl rfl
theorem rX3_pairing_20 : pR 154 d 20 [a0, a1, a2, a3, a4, a5, a6, a7] (.int x :: st) h = if p1 a5 = true then pR 154 d 22 [a0, a1, a2, a3, a4, .int x, a6, a7] st h else none := r_sto (n := 2) (k := 5) (v := .int x) (ls := [a0, a1, a2, a3, a4, a5, a6, a7]) rfl rfl rfl
theorem rX3_pairing_22 : pR 154 d 22 [a0, a1, a2, .int x, a4, a5, a6, a7] st h = pR 154 d 23 [a0, a1, a2, .int x, a4, a5, a6, a7] (.int x :: st) h := pR_L rfl rfl
theorem rX3_pairing_23 : pR 154 d 23 ls (.int x :: st) h = if 0 < x then pR 154 d 26 ls st h else pR 154 d 39 ls st h := r_ile rfl rfl
theorem rX3_pairing_26 : pR 154 d 26 [.ref o, a1, a2, a3, a4, a5, a6, a7] st h = pR 154 d 27 [.ref o, a1, a2, a3, a4, a5, a6, a7] (.ref o :: st) h := pR_L rfl rfl
theorem rX3_pairing_27 : pR 154 d 27 [a0, a1, a2, a3, a4, .int x, a6, a7] st h = pR 154 d 29 [a0, a1, a2, a3, a4, .int x, a6, a7] (.int x :: st) h := pR_L rfl rfl
theorem rX3_pairing_29 : pR 154 d 29 [a0, a1, .int x, a3, a4, a5, a6, a7] st h = pR 154 d 30 [a0, a1, .int x, a3, a4, a5, a6, a7] (.int x :: st) h := pR_L rfl rfl
theorem rX3_pairing_30 : pR 154 d 30 [a0, a1, a2, .int x, a4, a5, a6, a7] st h = pR 154 d 31 [a0, a1, a2, .int x, a4, a5, a6, a7] (.int x :: st) h := pR_L rfl rfl
theorem rX3_pairing_31 : pR 154 d 31 ls st h = pR 154 d 32 ls (.int 1 :: st) h := pR_L rfl rfl
theorem rX3_pairing_32 : pR 154 d 32 ls (.int y :: .int x :: st) h = pR 154 d 33 ls (.int (x - y) :: st) h := pR_L rfl rfl
theorem rX3_pairing_33 : pR 154 (d + 1) 33 ls (b3 :: b2 :: b1 :: .ref o :: st) h = if (pok 3 (pcl h o) && pw st) = true then pK 154 (d + 1) 33 3 ls st (pCa 154 d [.ref o, b1, b2, b3] h) else none := r_callV rfl rfl rfl
theorem rX3_pairing_36 : pR 154 d 36 ls st h = pR 154 d 42 ls st h := pR_L rfl rfl
theorem rX3_pairing_39 : pR 154 d 39 ls st h = pR 154 d 42 ls (.int 1000000 :: st) h := pR_X rfl rfl
theorem rX3_pairing_42 : pR 154 d 42 [a0, a1, a2, a3, a4, a5, a6, a7] (.int x :: st) h = if p1 a6 = true then pR 154 d 44 [a0, a1, a2, a3, a4, a5, .int x, a7] st h else none := r_sto (n := 2) (k := 6) (v := .int x) (ls := [a0, a1, a2, a3, a4, a5, a6, a7]) rfl rfl rfl
theorem rX3_pairing_44 : pR 154 d 44 [a0, a1, a2, a3, .int x, a5, a6, a7] st h = pR 154 d 46 [a0, a1, a2, a3, .int x, a5, a6, a7] (.int x :: st) h := pR_L rfl rfl
theorem rX3_pairing_46 : pR 154 d 46 ls st h = pR 154 d 47 ls (.int 1 :: st) h := pR_L rfl rfl
theorem rX3_pairing_47 : pR 154 d 47 ls (.int y :: .int x :: st) h = pR 154 d 48 ls (.int (x + y) :: st) h := pR_L rfl rfl
theorem rX3_pairing_48 : pR 154 d 48 [a0, a1, a2, a3, a4, a5, a6, a7] (.int x :: st) h = if p1 a7 = true then pR 154 d 50 [a0, a1, a2, a3, a4, a5, a6, .int x] st h else none := r_sto (n := 2) (k := 7) (v := .int x) (ls := [a0, a1, a2, a3, a4, a5, a6, a7]) rfl rfl rfl
theorem rX3_pairing_50 : pR 154 d 50 [a0, a1, a2, a3, a4, a5, a6, .int x] st h = pR 154 d 52 [a0, a1, a2, a3, a4, a5, a6, .int x] (.int x :: st) h := pR_L rfl rfl
theorem rX3_pairing_52 : pR 154 d 52 [a0, a1, .int x, a3, a4, a5, a6, a7] st h = pR 154 d 53 [a0, a1, .int x, a3, a4, a5, a6, a7] (.int x :: st) h := pR_L rfl rfl
theorem rX3_pairing_53 : pR 154 d 53 ls (.int y :: .int x :: st) h = if x < y then pR 154 d 56 ls st h else pR 154 d 119 ls st h := r_cge rfl rfl
theorem rX3_pairing_56 : pR 154 d 56 [a0, a1, a2, a3, a4, .int x, a6, a7] st h = pR 154 d 58 [a0, a1, a2, a3, a4, .int x, a6, a7] (.int x :: st) h := pR_L rfl rfl
theorem rX3_pairing_58 : pR 154 d 58 [a0, a1, a2, a3, a4, a5, a6, .int x] st h = pR 154 d 60 [a0, a1, a2, a3, a4, a5, a6, .int x] (.int x :: st) h := pR_L rfl rfl
theorem rX3_pairing_60 : pR 154 d 60 ls (.int y :: .int x :: st) h = pR 154 d 61 ls (.int (x >>> (y &&& 31)) :: st) h := pR_L rfl rfl
theorem rX3_pairing_61 : pR 154 d 61 ls st h = pR 154 d 62 ls (.int 1 :: st) h := pR_L rfl rfl
theorem rX3_pairing_62 : pR 154 d 62 ls (.int y :: .int x :: st) h = pR 154 d 63 ls (.int (x &&& y) :: st) h := pR_L rfl rfl
theorem rX3_pairing_63 : pR 154 d 63 ls st h = pR 154 d 64 ls (.int 1 :: st) h := pR_L rfl rfl
theorem rX3_pairing_64 : pR 154 d 64 ls (.int y :: .int x :: st) h = if x = y then pR 154 d 67 ls st h else pR 154 d 113 ls st h := r_cne rfl rfl
theorem rX3_pairing_67 : pR 154 d 67 [a0, a1, a2, a3, a4, a5, .int x, a7] st h = pR 154 d 69 [a0, a1, a2, a3, a4, a5, .int x, a7] (.int x :: st) h := pR_L rfl rfl
theorem rX3_pairing_69 : pR 154 d 69 [.ref o, a1, a2, a3, a4, a5, a6, a7] st h = pR 154 d 70 [.ref o, a1, a2, a3, a4, a5, a6, a7] (.ref o :: st) h := pR_L rfl rfl
theorem rX3_pairing_70 : pR 154 d 70 ls (.ref o :: st) h = if pis (pfl h 3 o 36) = true then pR 154 d 73 ls (pfl h 3 o 36 :: st) h else none := r_get rfl
theorem rX3_pairing_73 : pR 154 d 73 ls st h = pR 154 d 75 ls (.int 60 :: st) h := pR_L rfl rfl
theorem rX3_pairing_75 : pR 154 d 75 [.ref o, a1, a2, a3, a4, a5, a6, a7] st h = pR 154 d 76 [.ref o, a1, a2, a3, a4, a5, a6, a7] (.ref o :: st) h := pR_L rfl rfl
theorem rX3_pairing_76 : pR 154 d 76 ls (.ref o :: st) h = if pis (pfl h 3 o 39) = true then pR 154 d 79 ls (pfl h 3 o 39 :: st) h else none := r_get rfl
theorem rX3_pairing_79 : pR 154 d 79 [a0, a1, a2, a3, .int x, a5, a6, a7] st h = pR 154 d 81 [a0, a1, a2, a3, .int x, a5, a6, a7] (.int x :: st) h := pR_L rfl rfl
theorem rX3_pairing_81 : pR 154 d 81 ls (.int x :: .ref o :: st) h = if (pin x (pln h 0 o) || pin x (pln h 9 o)) = true then pR 154 d 82 ls (.int (pct h o x.toNatClampNeg) :: st) h else none := pR_Lif rfl rfl
theorem rX3_pairing_82 : pR 154 d 82 ls (.int y :: .int x :: st) h = pR 154 d 83 ls (.int (x * y) :: st) h := pR_L rfl rfl
theorem rX3_pairing_83 : pR 154 d 83 [.ref o, a1, a2, a3, a4, a5, a6, a7] st h = pR 154 d 84 [.ref o, a1, a2, a3, a4, a5, a6, a7] (.ref o :: st) h := pR_L rfl rfl
theorem rX3_pairing_84 : pR 154 d 84 ls (.ref o :: st) h = if pis (pfl h 3 o 39) = true then pR 154 d 87 ls (pfl h 3 o 39 :: st) h else none := r_get rfl
theorem rX3_pairing_87 : pR 154 d 87 [a0, a1, a2, a3, a4, a5, a6, .int x] st h = pR 154 d 89 [a0, a1, a2, a3, a4, a5, a6, .int x] (.int x :: st) h := pR_L rfl rfl
theorem rX3_pairing_89 : pR 154 d 89 ls (.int x :: .ref o :: st) h = if (pin x (pln h 0 o) || pin x (pln h 9 o)) = true then pR 154 d 90 ls (.int (pct h o x.toNatClampNeg) :: st) h else none := pR_Lif rfl rfl
theorem rX3_pairing_90 : pR 154 d 90 ls (.int y :: .int x :: st) h = pR 154 d 91 ls (.int (x + y) :: st) h := pR_L rfl rfl
theorem rX3_pairing_91 : pR 154 d 91 ls (.int x :: .ref o :: st) h = if (pin x (pln h 0 o) || pin x (pln h 9 o)) = true then pR 154 d 92 ls (.int (pct h o x.toNatClampNeg) :: st) h else none := pR_Lif rfl rfl
theorem rX3_pairing_92 : pR 154 d 92 [.ref o, a1, a2, a3, a4, a5, a6, a7] st h = pR 154 d 93 [.ref o, a1, a2, a3, a4, a5, a6, a7] (.ref o :: st) h := pR_L rfl rfl
theorem rX3_pairing_93 : pR 154 d 93 [a0, a1, a2, a3, a4, .int x, a6, a7] st h = pR 154 d 95 [a0, a1, a2, a3, a4, .int x, a6, a7] (.int x :: st) h := pR_L rfl rfl
theorem rX3_pairing_95 : pR 154 d 95 ls st h = pR 154 d 96 ls (.int 1 :: st) h := pR_L rfl rfl
theorem rX3_pairing_96 : pR 154 d 96 [a0, a1, a2, a3, a4, a5, a6, .int x] st h = pR 154 d 98 [a0, a1, a2, a3, a4, a5, a6, .int x] (.int x :: st) h := pR_L rfl rfl
theorem rX3_pairing_98 : pR 154 d 98 ls (.int y :: .int x :: st) h = pR 154 d 99 ls (.int (x <<< (y &&& 31)) :: st) h := pR_L rfl rfl
theorem rX3_pairing_99 : pR 154 d 99 ls st h = pR 154 d 100 ls (.int (-1) :: st) h := pR_L rfl rfl
theorem rX3_pairing_100 : pR 154 d 100 ls (.int y :: .int x :: st) h = pR 154 d 101 ls (.int (x ^^^ y) :: st) h := pR_L rfl rfl
theorem rX3_pairing_101 : pR 154 d 101 ls (.int y :: .int x :: st) h = pR 154 d 102 ls (.int (x &&& y) :: st) h := pR_L rfl rfl
theorem rX3_pairing_102 : pR 154 d 102 [a0, a1, .int x, a3, a4, a5, a6, a7] st h = pR 154 d 103 [a0, a1, .int x, a3, a4, a5, a6, a7] (.int x :: st) h := pR_L rfl rfl
theorem rX3_pairing_103 : pR 154 d 103 [a0, a1, a2, .int x, a4, a5, a6, a7] st h = pR 154 d 104 [a0, a1, a2, .int x, a4, a5, a6, a7] (.int x :: st) h := pR_L rfl rfl
theorem rX3_pairing_104 : pR 154 (d + 1) 104 ls (b3 :: b2 :: b1 :: .ref o :: st) h = if (pok 3 (pcl h o) && pw st) = true then pK 154 (d + 1) 104 3 ls st (pCa 154 d [.ref o, b1, b2, b3] h) else none := r_callV rfl rfl rfl
theorem rX3_pairing_107 : pR 154 d 107 ls (.int y :: .int x :: st) h = pR 154 d 108 ls (.int (x + y) :: st) h := pR_L rfl rfl
theorem rX3_pairing_108 : pR 154 (d + 1) 108 ls (.int y :: .int x :: st) h = if pw st = true then pR 154 (d + 1) 111 ls (.int (if y < x then y else x) :: st) h else none := r_mn rfl
theorem rX3_pairing_111 : pR 154 d 111 [a0, a1, a2, a3, a4, a5, a6, a7] (.int x :: st) h = if p1 a6 = true then pR 154 d 113 [a0, a1, a2, a3, a4, a5, .int x, a7] st h else none := r_sto (n := 2) (k := 6) (v := .int x) (ls := [a0, a1, a2, a3, a4, a5, a6, a7]) rfl rfl rfl
theorem rX3_pairing_113 : pR 154 d 113 [a0, a1, a2, a3, a4, a5, a6, .int x] st h = pR 154 d 116 [a0, a1, a2, a3, a4, a5, a6, .int (x + 1)] st h := pR_L rfl rfl
theorem rX3_pairing_116 : pR 154 d 116 ls st h = pR 154 d 50 ls st h := pR_L rfl rfl
theorem rX3_pairing_119 : pR 154 d 119 [a0, a1, a2, a3, a4, a5, .int x, a7] st h = pR 154 d 121 [a0, a1, a2, a3, a4, a5, .int x, a7] (.int x :: st) h := pR_L rfl rfl
theorem rX3_pairing_121 : pR 154 d 121 ls [.int x] h = some (.inl (some (.int x)), h) := pR_E rfl rfl
-- 155 BalloonStallModel stock (II)Z
theorem eX3_stock : pCa 155 d [.ref o, .int x0, .int x1] h = pR 155 d 0 [.ref o, .int x0, .int x1] [] h := rfl
theorem rX3_stock_0 : pR 155 d 0 [.ref o, a1, a2] st h = pR 155 d 1 [.ref o, a1, a2] (.ref o :: st) h := pR_L rfl rfl
theorem rX3_stock_1 : pR 155 d 1 [a0, .int x, a2] st h = pR 155 d 2 [a0, .int x, a2] (.int x :: st) h := pR_L rfl rfl
theorem rX3_stock_2 : pR 155 (d + 1) 2 ls (b1 :: .ref o :: st) h = if (pok 3 (pcl h o) && pw st) = true then pK 155 (d + 1) 2 3 ls st (pCa 149 d [.ref o, b1] h) else none := r_callV rfl rfl rfl
theorem rX3_stock_5 : pR 155 d 5 ls (.int x :: st) h = if x = 0 then pR 155 d 18 ls st h else pR 155 d 8 ls st h := r_ieq rfl rfl
theorem rX3_stock_8 : pR 155 d 8 [a0, a1, .int x] st h = pR 155 d 9 [a0, a1, .int x] (.int x :: st) h := pR_L rfl rfl
theorem rX3_stock_9 : pR 155 d 9 ls st h = pR 155 d 10 ls (.int 0 :: st) h := pR_L rfl rfl
theorem rX3_stock_10 : pR 155 d 10 ls st h = pR 155 d 12 ls (.int 99 :: st) h := pR_L rfl rfl
theorem rX3_stock_12 : pR 155 (d + 1) 12 ls (b2 :: b1 :: b0 :: st) h = if pw st = true then pK 155 (d + 1) 12 3 ls st (pCa 69 d [b0, b1, b2] h) else none := r_callS rfl rfl rfl
theorem rX3_stock_15 : pR 155 d 15 ls (.int x :: st) h = if x = 0 then pR 155 d 18 ls st h else pR 155 d 20 ls st h := r_ine rfl rfl
theorem rX3_stock_18 : pR 155 d 18 ls st h = pR 155 d 19 ls (.int 0 :: st) h := pR_L rfl rfl
theorem rX3_stock_190 : pR 155 d 19 ls [.int 0] h = some (.inl (some (.int 0)), h) := pR_E rfl rfl
theorem rX3_stock_191 : pR 155 d 19 ls [.int 1] h = some (.inl (some (.int 1)), h) := pR_E rfl rfl
theorem rX3_stock_20 : pR 155 d 20 [.ref o, a1, a2] st h = pR 155 d 21 [.ref o, a1, a2] (.ref o :: st) h := pR_L rfl rfl
theorem rX3_stock_21 : pR 155 d 21 ls (.ref o :: st) h = if pis (pfl h 3 o 4) = true then pR 155 d 24 ls (pfl h 3 o 4 :: st) h else none := r_get rfl
theorem rX3_stock_24 : pR 155 d 24 [a0, .int x, a2] st h = pR 155 d 25 [a0, .int x, a2] (.int x :: st) h := pR_L rfl rfl
theorem rX3_stock_25 : pR 155 d 25 [a0, a1, .int x] st h = pR 155 d 26 [a0, a1, .int x] (.int x :: st) h := pR_L rfl rfl
theorem rX3_stock_26 : pR 155 d 26 ls (.int y :: .int x :: .ref o :: st) h = if pin x (pln h 0 o) = true then pR 155 d 27 ls st (pst h o x.toNatClampNeg y) else none := pR_Lif rfl rfl
theorem rX3_stock_27 : pR 155 d 27 ls st h = pR 155 d 28 ls (.int 1 :: st) h := pR_L rfl rfl
theorem rX3_stock_280 : pR 155 d 28 ls [.int 0] h = some (.inl (some (.int 0)), h) := pR_E rfl rfl
theorem rX3_stock_281 : pR 155 d 28 ls [.int 1] h = some (.inl (some (.int 1)), h) := pR_E rfl rfl
-- 156 BalloonStallModel pace (II)Z
theorem eX3_pace : pCa 156 d [.ref o, .int x0, .int x1] h = pR 156 d 0 [.ref o, .int x0, .int x1] [] h := rfl
theorem rX3_pace_0 : pR 156 d 0 [a0, .int x, a2] st h = pR 156 d 1 [a0, .int x, a2] (.int x :: st) h := pR_L rfl rfl
theorem rX3_pace_1 : pR 156 d 1 ls st h = pR 156 d 2 ls (.int 1 :: st) h := pR_L rfl rfl
theorem rX3_pace_2 : pR 156 d 2 ls st h = pR 156 d 4 ls (.int 9 :: st) h := pR_L rfl rfl
theorem rX3_pace_4 : pR 156 (d + 1) 4 ls (b2 :: b1 :: b0 :: st) h = if pw st = true then pK 156 (d + 1) 4 3 ls st (pCa 69 d [b0, b1, b2] h) else none := r_callS rfl rfl rfl
theorem rX3_pace_7 : pR 156 d 7 ls (.int x :: st) h = if x = 0 then pR 156 d 20 ls st h else pR 156 d 10 ls st h := r_ieq rfl rfl
theorem rX3_pace_10 : pR 156 d 10 [a0, a1, .int x] st h = pR 156 d 11 [a0, a1, .int x] (.int x :: st) h := pR_L rfl rfl
theorem rX3_pace_11 : pR 156 d 11 ls st h = pR 156 d 12 ls (.int 0 :: st) h := pR_L rfl rfl
theorem rX3_pace_12 : pR 156 d 12 ls st h = pR 156 d 14 ls (.int 9 :: st) h := pR_L rfl rfl
theorem rX3_pace_14 : pR 156 (d + 1) 14 ls (b2 :: b1 :: b0 :: st) h = if pw st = true then pK 156 (d + 1) 14 3 ls st (pCa 69 d [b0, b1, b2] h) else none := r_callS rfl rfl rfl
theorem rX3_pace_17 : pR 156 d 17 ls (.int x :: st) h = if x = 0 then pR 156 d 20 ls st h else pR 156 d 22 ls st h := r_ine rfl rfl
theorem rX3_pace_20 : pR 156 d 20 ls st h = pR 156 d 21 ls (.int 0 :: st) h := pR_L rfl rfl
theorem rX3_pace_210 : pR 156 d 21 ls [.int 0] h = some (.inl (some (.int 0)), h) := pR_E rfl rfl
theorem rX3_pace_211 : pR 156 d 21 ls [.int 1] h = some (.inl (some (.int 1)), h) := pR_E rfl rfl
theorem rX3_pace_22 : pR 156 d 22 [.ref o, a1, a2] st h = pR 156 d 23 [.ref o, a1, a2] (.ref o :: st) h := pR_L rfl rfl
theorem rX3_pace_23 : pR 156 d 23 [a0, .int x, a2] st h = pR 156 d 24 [a0, .int x, a2] (.int x :: st) h := pR_L rfl rfl
theorem rX3_pace_24 : pR 156 d 24 ls (.int x :: .ref o :: st) h = if pis (pfl h 3 o 47) = true then pR 156 d 27 ls st (psf h o 47 (.int x)) else none := r_put rfl rfl
theorem rX3_pace_27 : pR 156 d 27 [.ref o, a1, a2] st h = pR 156 d 28 [.ref o, a1, a2] (.ref o :: st) h := pR_L rfl rfl
theorem rX3_pace_28 : pR 156 d 28 [a0, a1, .int x] st h = pR 156 d 29 [a0, a1, .int x] (.int x :: st) h := pR_L rfl rfl
theorem rX3_pace_29 : pR 156 d 29 ls (.int x :: .ref o :: st) h = if pis (pfl h 3 o 48) = true then pR 156 d 32 ls st (psf h o 48 (.int x)) else none := r_put rfl rfl
theorem rX3_pace_32 : pR 156 d 32 ls st h = pR 156 d 33 ls (.int 1 :: st) h := pR_L rfl rfl
theorem rX3_pace_330 : pR 156 d 33 ls [.int 0] h = some (.inl (some (.int 0)), h) := pR_E rfl rfl
theorem rX3_pace_331 : pR 156 d 33 ls [.int 1] h = some (.inl (some (.int 1)), h) := pR_E rfl rfl
-- 157 BalloonStallModel comes (III)I
theorem eX3_comes : pCa 157 d [.ref o, .int x0, .int x1, .int x2] h = pR 157 d 0 [.ref o, .int x0, .int x1, .int x2] [] h := rfl
theorem rX3_comes_0 : pR 157 d 0 [.ref o, a1, a2, a3] st h = pR 157 d 1 [.ref o, a1, a2, a3] (.ref o :: st) h := pR_L rfl rfl
theorem rX3_comes_1 : pR 157 d 1 [a0, a1, .int x, a3] st h = pR 157 d 2 [a0, a1, .int x, a3] (.int x :: st) h := pR_L rfl rfl
theorem rX3_comes_2 : pR 157 (d + 1) 2 ls (b1 :: .ref o :: st) h = if (pok 3 (pcl h o) && pw st) = true then pK 157 (d + 1) 2 3 ls st (pCa 108 d [.ref o, b1] h) else none := r_callV rfl rfl rfl
theorem rX3_comes_5 : pR 157 d 5 ls (.int x :: st) h = if x = 0 then pR 157 d 60 ls st h else pR 157 d 8 ls st h := r_ieq rfl rfl
theorem rX3_comes_8 : pR 157 d 8 [a0, .int x, a2, a3] st h = pR 157 d 9 [a0, .int x, a2, a3] (.int x :: st) h := pR_L rfl rfl
theorem rX3_comes_9 : pR 157 d 9 [.ref o, a1, a2, a3] st h = pR 157 d 10 [.ref o, a1, a2, a3] (.ref o :: st) h := pR_L rfl rfl
theorem rX3_comes_10 : pR 157 d 10 ls (.ref o :: st) h = if pis (pfl h 3 o 45) = true then pR 157 d 13 ls (pfl h 3 o 45 :: st) h else none := r_get rfl
theorem rX3_comes_13 : pR 157 d 13 ls (.int x :: st) h = if x = 0 then pR 157 d 16 ls st h else pR 157 d 20 ls st h := r_ine rfl rfl
theorem rX3_comes_16 : pR 157 d 16 ls st h = pR 157 d 17 ls (.int 0 :: st) h := pR_L rfl rfl
theorem rX3_comes_17 : pR 157 d 17 ls st h = pR 157 d 31 ls st h := pR_L rfl rfl
theorem rX3_comes_20 : pR 157 d 20 [.ref o, a1, a2, a3] st h = pR 157 d 21 [.ref o, a1, a2, a3] (.ref o :: st) h := pR_L rfl rfl
theorem rX3_comes_21 : pR 157 d 21 ls (.ref o :: st) h = if pis (pfl h 3 o 40) = true then pR 157 d 24 ls (pfl h 3 o 40 :: st) h else none := r_get rfl
theorem rX3_comes_24 : pR 157 d 24 [.ref o, a1, a2, a3] st h = pR 157 d 25 [.ref o, a1, a2, a3] (.ref o :: st) h := pR_L rfl rfl
theorem rX3_comes_25 : pR 157 d 25 ls (.ref o :: st) h = if pis (pfl h 3 o 45) = true then pR 157 d 28 ls (pfl h 3 o 45 :: st) h else none := r_get rfl
theorem rX3_comes_28 : pR 157 d 28 ls st h = pR 157 d 29 ls (.int 1 :: st) h := pR_L rfl rfl
theorem rX3_comes_29 : pR 157 d 29 ls (.int y :: .int x :: st) h = pR 157 d 30 ls (.int (x - y) :: st) h := pR_L rfl rfl
theorem rX3_comes_30 : pR 157 d 30 ls (.int x :: .ref o :: st) h = if (pin x (pln h 0 o) || pin x (pln h 9 o)) = true then pR 157 d 31 ls (.int (pct h o x.toNatClampNeg) :: st) h else none := pR_Lif rfl rfl
theorem rX3_comes_31 : pR 157 d 31 ls st h = pR 157 d 34 ls (.int 9999 :: st) h := pR_L rfl rfl
theorem rX3_comes_34 : pR 157 (d + 1) 34 ls (b2 :: b1 :: b0 :: st) h = if pw st = true then pK 157 (d + 1) 34 3 ls st (pCa 69 d [b0, b1, b2] h) else none := r_callS rfl rfl rfl
theorem rX3_comes_37 : pR 157 d 37 ls (.int x :: st) h = if x = 0 then pR 157 d 60 ls st h else pR 157 d 40 ls st h := r_ieq rfl rfl
theorem rX3_comes_40 : pR 157 d 40 [a0, a1, a2, .int x] st h = pR 157 d 41 [a0, a1, a2, .int x] (.int x :: st) h := pR_L rfl rfl
theorem rX3_comes_41 : pR 157 d 41 ls st h = pR 157 d 42 ls (.int 0 :: st) h := pR_L rfl rfl
theorem rX3_comes_42 : pR 157 d 42 ls st h = pR 157 d 45 ls (.int 999 :: st) h := pR_L rfl rfl
theorem rX3_comes_45 : pR 157 (d + 1) 45 ls (b2 :: b1 :: b0 :: st) h = if pw st = true then pK 157 (d + 1) 45 3 ls st (pCa 69 d [b0, b1, b2] h) else none := r_callS rfl rfl rfl
theorem rX3_comes_48 : pR 157 d 48 ls (.int x :: st) h = if x = 0 then pR 157 d 60 ls st h else pR 157 d 51 ls st h := r_ieq rfl rfl
theorem rX3_comes_51 : pR 157 d 51 [.ref o, a1, a2, a3] st h = pR 157 d 52 [.ref o, a1, a2, a3] (.ref o :: st) h := pR_L rfl rfl
theorem rX3_comes_52 : pR 157 d 52 ls (.ref o :: st) h = if pis (pfl h 3 o 45) = true then pR 157 d 55 ls (pfl h 3 o 45 :: st) h else none := r_get rfl
theorem rX3_comes_55 : pR 157 d 55 ls st h = pR 157 d 57 ls (.int 30 :: st) h := pR_L rfl rfl
theorem rX3_comes_57 : pR 157 d 57 ls (.int y :: .int x :: st) h = if x = y then pR 157 d 60 ls st h else pR 157 d 62 ls st h := r_cne rfl rfl
theorem rX3_comes_60 : pR 157 d 60 ls st h = pR 157 d 61 ls (.int (-1) :: st) h := pR_L rfl rfl
theorem rX3_comes_61 : pR 157 d 61 ls [.int x] h = some (.inl (some (.int x)), h) := pR_E rfl rfl
theorem rX3_comes_62 : pR 157 d 62 [.ref o, a1, a2, a3] st h = pR 157 d 63 [.ref o, a1, a2, a3] (.ref o :: st) h := pR_L rfl rfl
theorem rX3_comes_63 : pR 157 d 63 ls (.ref o :: st) h = if pis (pfl h 3 o 40) = true then pR 157 d 66 ls (pfl h 3 o 40 :: st) h else none := r_get rfl
theorem rX3_comes_66 : pR 157 d 66 [.ref o, a1, a2, a3] st h = pR 157 d 67 [.ref o, a1, a2, a3] (.ref o :: st) h := pR_L rfl rfl
theorem rX3_comes_67 : pR 157 d 67 ls (.ref o :: st) h = if pis (pfl h 3 o 45) = true then pR 157 d 70 ls (pfl h 3 o 45 :: st) h else none := r_get rfl
theorem rX3_comes_70 : pR 157 d 70 [a0, .int x, a2, a3] st h = pR 157 d 71 [a0, .int x, a2, a3] (.int x :: st) h := pR_L rfl rfl
theorem rX3_comes_71 : pR 157 d 71 ls (.int y :: .int x :: .ref o :: st) h = if pin x (pln h 0 o) = true then pR 157 d 72 ls st (pst h o x.toNatClampNeg y) else none := pR_Lif rfl rfl
theorem rX3_comes_72 : pR 157 d 72 [.ref o, a1, a2, a3] st h = pR 157 d 73 [.ref o, a1, a2, a3] (.ref o :: st) h := pR_L rfl rfl
theorem rX3_comes_73 : pR 157 d 73 ls (.ref o :: st) h = if pis (pfl h 3 o 41) = true then pR 157 d 76 ls (pfl h 3 o 41 :: st) h else none := r_get rfl
theorem rX3_comes_76 : pR 157 d 76 [.ref o, a1, a2, a3] st h = pR 157 d 77 [.ref o, a1, a2, a3] (.ref o :: st) h := pR_L rfl rfl
theorem rX3_comes_77 : pR 157 d 77 ls (.ref o :: st) h = if pis (pfl h 3 o 45) = true then pR 157 d 80 ls (pfl h 3 o 45 :: st) h else none := r_get rfl
theorem rX3_comes_80 : pR 157 d 80 [a0, a1, .int x, a3] st h = pR 157 d 81 [a0, a1, .int x, a3] (.int x :: st) h := pR_L rfl rfl
theorem rX3_comes_81 : pR 157 d 81 ls (.int y :: .int x :: .ref o :: st) h = if pin x (pln h 0 o) = true then pR 157 d 82 ls st (pst h o x.toNatClampNeg y) else none := pR_Lif rfl rfl
theorem rX3_comes_82 : pR 157 d 82 [.ref o, a1, a2, a3] st h = pR 157 d 83 [.ref o, a1, a2, a3] (.ref o :: st) h := pR_L rfl rfl
theorem rX3_comes_83 : pR 157 d 83 ls (.ref o :: st) h = if pis (pfl h 3 o 42) = true then pR 157 d 86 ls (pfl h 3 o 42 :: st) h else none := r_get rfl
theorem rX3_comes_86 : pR 157 d 86 [.ref o, a1, a2, a3] st h = pR 157 d 87 [.ref o, a1, a2, a3] (.ref o :: st) h := pR_L rfl rfl
theorem rX3_comes_87 : pR 157 d 87 ls (.ref o :: st) h = if pis (pfl h 3 o 45) = true then pR 157 d 90 ls (pfl h 3 o 45 :: st) h else none := r_get rfl
theorem rX3_comes_90 : pR 157 d 90 [a0, a1, a2, .int x] st h = pR 157 d 91 [a0, a1, a2, .int x] (.int x :: st) h := pR_L rfl rfl
theorem rX3_comes_91 : pR 157 d 91 ls (.int y :: .int x :: .ref o :: st) h = if pin x (pln h 0 o) = true then pR 157 d 92 ls st (pst h o x.toNatClampNeg y) else none := pR_Lif rfl rfl
theorem rX3_comes_92 : pR 157 d 92 [.ref o, a1, a2, a3] st h = pR 157 d 93 [.ref o, a1, a2, a3] (.ref o :: st) h := pR_L rfl rfl
theorem rX3_comes_93 : pR 157 d 93 ls (.ref o :: st) h = pR 157 d 94 ls (.ref o :: .ref o :: st) h := pR_L rfl rfl
theorem rX3_comes_93i : pR 157 d 93 ls (.int x :: st) h = pR 157 d 94 ls (.int x :: .int x :: st) h := pR_L rfl rfl
theorem rX3_comes_94 : pR 157 d 94 ls (.ref o :: st) h = if pis (pfl h 3 o 45) = true then pR 157 d 97 ls (pfl h 3 o 45 :: st) h else none := r_get rfl
theorem rX3_comes_97 : pR 157 d 97 ls st h = pR 157 d 98 ls (.int 1 :: st) h := pR_L rfl rfl
theorem rX3_comes_98 : pR 157 d 98 ls (.int y :: .int x :: st) h = pR 157 d 99 ls (.int (x + y) :: st) h := pR_L rfl rfl
theorem rX3_comes_99 : pR 157 d 99 ls (.int x :: .ref o :: st) h = if pis (pfl h 3 o 45) = true then pR 157 d 102 ls st (psf h o 45 (.int x)) else none := r_put rfl rfl
theorem rX3_comes_102 : pR 157 d 102 [.ref o, a1, a2, a3] st h = pR 157 d 103 [.ref o, a1, a2, a3] (.ref o :: st) h := pR_L rfl rfl
theorem rX3_comes_103 : pR 157 d 103 ls (.ref o :: st) h = if pis (pfl h 3 o 45) = true then pR 157 d 106 ls (pfl h 3 o 45 :: st) h else none := r_get rfl
theorem rX3_comes_106 : pR 157 d 106 ls st h = pR 157 d 107 ls (.int 1 :: st) h := pR_L rfl rfl
theorem rX3_comes_107 : pR 157 d 107 ls (.int y :: .int x :: st) h = pR 157 d 108 ls (.int (x - y) :: st) h := pR_L rfl rfl
theorem rX3_comes_108 : pR 157 d 108 ls [.int x] h = some (.inl (some (.int x)), h) := pR_E rfl rfl
-- 158 BalloonStallModel close ()I
theorem eX3_close : pCa 158 d [.ref o] h = pR 158 d 0 [.ref o, pU] [] h := rfl
theorem rX3_close_0 : pR 158 d 0 [.ref o, a1] st h = pR 158 d 1 [.ref o, a1] (.ref o :: st) h := pR_L rfl rfl
theorem rX3_close_1 : pR 158 d 1 ls (.ref o :: st) h = if pis (pfl h 3 o 45) = true then pR 158 d 4 ls (pfl h 3 o 45 :: st) h else none := r_get rfl
theorem rX3_close_4 : pR 158 d 4 [a0, a1] (.int x :: st) h = if p1 a1 = true then pR 158 d 5 [a0, .int x] st h else none := r_sto (n := 1) (k := 1) (v := .int x) (ls := [a0, a1]) rfl rfl rfl
theorem rX3_close_5 : pR 158 d 5 [.ref o, a1] st h = pR 158 d 6 [.ref o, a1] (.ref o :: st) h := pR_L rfl rfl
theorem rX3_close_6 : pR 158 d 6 ls st h = pR 158 d 7 ls (.int 0 :: st) h := pR_L rfl rfl
theorem rX3_close_7 : pR 158 d 7 ls (.int x :: .ref o :: st) h = if pis (pfl h 3 o 45) = true then pR 158 d 10 ls st (psf h o 45 (.int x)) else none := r_put rfl rfl
theorem rX3_close_10 : pR 158 d 10 [.ref o, a1] st h = pR 158 d 11 [.ref o, a1] (.ref o :: st) h := pR_L rfl rfl
theorem rX3_close_11 : pR 158 d 11 ls st h = pR 158 d 12 ls (.int 0 :: st) h := pR_L rfl rfl
theorem rX3_close_12 : pR 158 d 12 ls (.int x :: .ref o :: st) h = if pis (pfl h 3 o 46) = true then pR 158 d 15 ls st (psf h o 46 (.int x)) else none := r_put rfl rfl
theorem rX3_close_15 : pR 158 d 15 [a0, .int x] st h = pR 158 d 16 [a0, .int x] (.int x :: st) h := pR_L rfl rfl
theorem rX3_close_16 : pR 158 d 16 ls [.int x] h = some (.inl (some (.int x)), h) := pR_E rfl rfl
-- 159 BalloonStallModel run (J)I
theorem eX3_run : pCa 159 d [.ref o, .long l0] h = pR 159 d 0 [.ref o, .long l0, pV, pU, pU, pU, pU, pU, pU, pU, pU, pU, pU, pU, pU] [] h := rfl
theorem rX3_run_0 : pR 159 d 0 ls st h = pR 159 d 1 ls (.int 0 :: st) h := pR_L rfl rfl
theorem rX3_run_1 : pR 159 d 1 [a0, a1, a2, a3, a4, a5, a6, a7, a8, a9, a10, a11, a12, a13, a14] (.int x :: st) h = if p1 a3 = true then pR 159 d 2 [a0, a1, a2, .int x, a4, a5, a6, a7, a8, a9, a10, a11, a12, a13, a14] st h else none := r_sto (n := 1) (k := 3) (v := .int x) (ls := [a0, a1, a2, a3, a4, a5, a6, a7, a8, a9, a10, a11, a12, a13, a14]) rfl rfl rfl
theorem rX3_run_2 : pR 159 d 2 [a0, a1, a2, .int x, a4, a5, a6, a7, a8, a9, a10, a11, a12, a13, a14] st h = pR 159 d 3 [a0, a1, a2, .int x, a4, a5, a6, a7, a8, a9, a10, a11, a12, a13, a14] (.int x :: st) h := pR_L rfl rfl
theorem rX3_run_3 : pR 159 d 3 [.ref o, a1, a2, a3, a4, a5, a6, a7, a8, a9, a10, a11, a12, a13, a14] st h = pR 159 d 4 [.ref o, a1, a2, a3, a4, a5, a6, a7, a8, a9, a10, a11, a12, a13, a14] (.ref o :: st) h := pR_L rfl rfl
theorem rX3_run_4 : pR 159 d 4 ls (.ref o :: st) h = if pis (pfl h 3 o 5) = true then pR 159 d 7 ls (pfl h 3 o 5 :: st) h else none := r_get rfl
theorem rX3_run_7 : pR 159 d 7 ls (.int y :: .int x :: st) h = if x < y then pR 159 d 10 ls st h else pR 159 d 28 ls st h := r_cge rfl rfl
theorem rX3_run_10 : pR 159 d 10 [.ref o, a1, a2, a3, a4, a5, a6, a7, a8, a9, a10, a11, a12, a13, a14] st h = pR 159 d 11 [.ref o, a1, a2, a3, a4, a5, a6, a7, a8, a9, a10, a11, a12, a13, a14] (.ref o :: st) h := pR_L rfl rfl
theorem rX3_run_11 : pR 159 d 11 ls (.ref o :: st) h = if pis (pfl h 3 o 44) = true then pR 159 d 14 ls (pfl h 3 o 44 :: st) h else none := r_get rfl
theorem rX3_run_14 : pR 159 d 14 [a0, a1, a2, .int x, a4, a5, a6, a7, a8, a9, a10, a11, a12, a13, a14] st h = pR 159 d 15 [a0, a1, a2, .int x, a4, a5, a6, a7, a8, a9, a10, a11, a12, a13, a14] (.int x :: st) h := pR_L rfl rfl
theorem rX3_run_15 : pR 159 d 15 [.ref o, a1, a2, a3, a4, a5, a6, a7, a8, a9, a10, a11, a12, a13, a14] st h = pR 159 d 16 [.ref o, a1, a2, a3, a4, a5, a6, a7, a8, a9, a10, a11, a12, a13, a14] (.ref o :: st) h := pR_L rfl rfl
theorem rX3_run_16 : pR 159 d 16 ls (.ref o :: st) h = if pis (pfl h 3 o 4) = true then pR 159 d 19 ls (pfl h 3 o 4 :: st) h else none := r_get rfl
theorem rX3_run_19 : pR 159 d 19 [a0, a1, a2, .int x, a4, a5, a6, a7, a8, a9, a10, a11, a12, a13, a14] st h = pR 159 d 20 [a0, a1, a2, .int x, a4, a5, a6, a7, a8, a9, a10, a11, a12, a13, a14] (.int x :: st) h := pR_L rfl rfl
theorem rX3_run_20 : pR 159 d 20 ls (.int x :: .ref o :: st) h = if (pin x (pln h 0 o) || pin x (pln h 9 o)) = true then pR 159 d 21 ls (.int (pct h o x.toNatClampNeg) :: st) h else none := pR_Lif rfl rfl
theorem rX3_run_21 : pR 159 d 21 ls (.int y :: .int x :: .ref o :: st) h = if pin x (pln h 0 o) = true then pR 159 d 22 ls st (pst h o x.toNatClampNeg y) else none := pR_Lif rfl rfl
theorem rX3_run_22 : pR 159 d 22 [a0, a1, a2, .int x, a4, a5, a6, a7, a8, a9, a10, a11, a12, a13, a14] st h = pR 159 d 25 [a0, a1, a2, .int (x + 1), a4, a5, a6, a7, a8, a9, a10, a11, a12, a13, a14] st h := pR_L rfl rfl
theorem rX3_run_25 : pR 159 d 25 ls st h = pR 159 d 2 ls st h := pR_L rfl rfl
theorem rX3_run_28 : pR 159 d 28 [a0, .long lx, a2, a3, a4, a5, a6, a7, a8, a9, a10, a11, a12, a13, a14] st h = pR 159 d 29 [a0, .long lx, a2, a3, a4, a5, a6, a7, a8, a9, a10, a11, a12, a13, a14] (.long lx :: st) h := pR_L rfl rfl
theorem rX3_run_29 : pR 159 d 29 [a0, a1, a2, a3, a4, a5, a6, a7, a8, a9, a10, a11, a12, a13, a14] (.long lx :: st) h = if p2 a3 a4 = true then pR 159 d 30 [a0, a1, a2, .long lx, pV, a5, a6, a7, a8, a9, a10, a11, a12, a13, a14] st h else none := r_stoL (n := 1) (k := 3) (x := lx) (ls := [a0, a1, a2, a3, a4, a5, a6, a7, a8, a9, a10, a11, a12, a13, a14]) rfl rfl rfl rfl
theorem rX3_run_30 : pR 159 d 30 ls st h = pR 159 d 31 ls (.int 0 :: st) h := pR_L rfl rfl
theorem rX3_run_31 : pR 159 d 31 [a0, a1, a2, a3, a4, a5, a6, a7, a8, a9, a10, a11, a12, a13, a14] (.int x :: st) h = if p1 a5 = true then pR 159 d 33 [a0, a1, a2, a3, a4, .int x, a6, a7, a8, a9, a10, a11, a12, a13, a14] st h else none := r_sto (n := 2) (k := 5) (v := .int x) (ls := [a0, a1, a2, a3, a4, a5, a6, a7, a8, a9, a10, a11, a12, a13, a14]) rfl rfl rfl
theorem rX3_run_33 : pR 159 d 33 ls st h = pR 159 d 34 ls (.int 0 :: st) h := pR_L rfl rfl
theorem rX3_run_34 : pR 159 d 34 [a0, a1, a2, a3, a4, a5, a6, a7, a8, a9, a10, a11, a12, a13, a14] (.int x :: st) h = if p1 a6 = true then pR 159 d 36 [a0, a1, a2, a3, a4, a5, .int x, a7, a8, a9, a10, a11, a12, a13, a14] st h else none := r_sto (n := 2) (k := 6) (v := .int x) (ls := [a0, a1, a2, a3, a4, a5, a6, a7, a8, a9, a10, a11, a12, a13, a14]) rfl rfl rfl
theorem rX3_run_36 : pR 159 d 36 ls st h = pR 159 d 37 ls (.int 0 :: st) h := pR_L rfl rfl
theorem rX3_run_37 : pR 159 d 37 [a0, a1, a2, a3, a4, a5, a6, a7, a8, a9, a10, a11, a12, a13, a14] (.int x :: st) h = if p1 a7 = true then pR 159 d 39 [a0, a1, a2, a3, a4, a5, a6, .int x, a8, a9, a10, a11, a12, a13, a14] st h else none := r_sto (n := 2) (k := 7) (v := .int x) (ls := [a0, a1, a2, a3, a4, a5, a6, a7, a8, a9, a10, a11, a12, a13, a14]) rfl rfl rfl
theorem rX3_run_39 : pR 159 d 39 [a0, a1, a2, a3, a4, a5, a6, .int x, a8, a9, a10, a11, a12, a13, a14] st h = pR 159 d 41 [a0, a1, a2, a3, a4, a5, a6, .int x, a8, a9, a10, a11, a12, a13, a14] (.int x :: st) h := pR_L rfl rfl
theorem rX3_run_41 : pR 159 d 41 [.ref o, a1, a2, a3, a4, a5, a6, a7, a8, a9, a10, a11, a12, a13, a14] st h = pR 159 d 42 [.ref o, a1, a2, a3, a4, a5, a6, a7, a8, a9, a10, a11, a12, a13, a14] (.ref o :: st) h := pR_L rfl rfl
theorem rX3_run_42 : pR 159 d 42 ls (.ref o :: st) h = if pis (pfl h 3 o 45) = true then pR 159 d 45 ls (pfl h 3 o 45 :: st) h else none := r_get rfl
theorem rX3_run_45 : pR 159 d 45 ls (.int y :: .int x :: st) h = if x < y then pR 159 d 48 ls st h else pR 159 d 336 ls st h := r_cge rfl rfl
theorem rX3_run_48 : pR 159 d 48 [.ref o, a1, a2, a3, a4, a5, a6, a7, a8, a9, a10, a11, a12, a13, a14] st h = pR 159 d 49 [.ref o, a1, a2, a3, a4, a5, a6, a7, a8, a9, a10, a11, a12, a13, a14] (.ref o :: st) h := pR_L rfl rfl
theorem rX3_run_49 : pR 159 d 49 ls (.ref o :: st) h = if pis (pfl h 3 o 41) = true then pR 159 d 52 ls (pfl h 3 o 41 :: st) h else none := r_get rfl
theorem rX3_run_52 : pR 159 d 52 [a0, a1, a2, a3, a4, a5, a6, .int x, a8, a9, a10, a11, a12, a13, a14] st h = pR 159 d 54 [a0, a1, a2, a3, a4, a5, a6, .int x, a8, a9, a10, a11, a12, a13, a14] (.int x :: st) h := pR_L rfl rfl
theorem rX3_run_54 : pR 159 d 54 ls (.int x :: .ref o :: st) h = if (pin x (pln h 0 o) || pin x (pln h 9 o)) = true then pR 159 d 55 ls (.int (pct h o x.toNatClampNeg) :: st) h else none := pR_Lif rfl rfl
theorem rX3_run_55 : pR 159 d 55 [a0, a1, a2, a3, a4, a5, a6, a7, a8, a9, a10, a11, a12, a13, a14] (.int x :: st) h = if p1 a8 = true then pR 159 d 57 [a0, a1, a2, a3, a4, a5, a6, a7, .int x, a9, a10, a11, a12, a13, a14] st h else none := r_sto (n := 2) (k := 8) (v := .int x) (ls := [a0, a1, a2, a3, a4, a5, a6, a7, a8, a9, a10, a11, a12, a13, a14]) rfl rfl rfl
theorem rX3_run_57 : pR 159 d 57 [a0, a1, a2, a3, a4, .int x, a6, a7, a8, a9, a10, a11, a12, a13, a14] st h = pR 159 d 59 [a0, a1, a2, a3, a4, .int x, a6, a7, a8, a9, a10, a11, a12, a13, a14] (.int x :: st) h := pR_L rfl rfl
theorem rX3_run_59 : pR 159 d 59 [.ref o, a1, a2, a3, a4, a5, a6, a7, a8, a9, a10, a11, a12, a13, a14] st h = pR 159 d 60 [.ref o, a1, a2, a3, a4, a5, a6, a7, a8, a9, a10, a11, a12, a13, a14] (.ref o :: st) h := pR_L rfl rfl
theorem rX3_run_60 : pR 159 d 60 ls (.ref o :: st) h = if pis (pfl h 3 o 40) = true then pR 159 d 63 ls (pfl h 3 o 40 :: st) h else none := r_get rfl
theorem rX3_run_63 : pR 159 d 63 [a0, a1, a2, a3, a4, a5, a6, .int x, a8, a9, a10, a11, a12, a13, a14] st h = pR 159 d 65 [a0, a1, a2, a3, a4, a5, a6, .int x, a8, a9, a10, a11, a12, a13, a14] (.int x :: st) h := pR_L rfl rfl
theorem rX3_run_65 : pR 159 d 65 ls (.int x :: .ref o :: st) h = if (pin x (pln h 0 o) || pin x (pln h 9 o)) = true then pR 159 d 66 ls (.int (pct h o x.toNatClampNeg) :: st) h else none := pR_Lif rfl rfl
theorem rX3_run_66 : pR 159 (d + 1) 66 ls (.int y :: .int x :: st) h = if pw st = true then pR 159 (d + 1) 69 ls (.int (if x < y then y else x) :: st) h else none := r_mx rfl
theorem rX3_run_69 : pR 159 d 69 [a0, a1, a2, a3, a4, a5, a6, a7, a8, a9, a10, a11, a12, a13, a14] (.int x :: st) h = if p1 a9 = true then pR 159 d 71 [a0, a1, a2, a3, a4, a5, a6, a7, a8, .int x, a10, a11, a12, a13, a14] st h else none := r_sto (n := 2) (k := 9) (v := .int x) (ls := [a0, a1, a2, a3, a4, a5, a6, a7, a8, a9, a10, a11, a12, a13, a14]) rfl rfl rfl
theorem rX3_run_71 : pR 159 d 71 [.ref o, a1, a2, a3, a4, a5, a6, a7, a8, a9, a10, a11, a12, a13, a14] st h = pR 159 d 72 [.ref o, a1, a2, a3, a4, a5, a6, a7, a8, a9, a10, a11, a12, a13, a14] (.ref o :: st) h := pR_L rfl rfl
theorem rX3_run_72 : pR 159 d 72 ls (.ref o :: st) h = if pis (pfl h 3 o 43) = true then pR 159 d 75 ls (pfl h 3 o 43 :: st) h else none := r_get rfl
theorem rX3_run_75 : pR 159 d 75 ls st h = pR 159 d 76 ls (.int 4 :: st) h := pR_L rfl rfl
theorem rX3_run_76 : pR 159 d 76 [a0, a1, a2, a3, a4, a5, a6, .int x, a8, a9, a10, a11, a12, a13, a14] st h = pR 159 d 78 [a0, a1, a2, a3, a4, a5, a6, .int x, a8, a9, a10, a11, a12, a13, a14] (.int x :: st) h := pR_L rfl rfl
theorem rX3_run_78 : pR 159 d 78 ls (.int y :: .int x :: st) h = pR 159 d 79 ls (.int (x * y) :: st) h := pR_L rfl rfl
theorem rX3_run_79 : pR 159 d 79 ls st h = pR 159 d 80 ls (.int 1 :: st) h := pR_L rfl rfl
theorem rX3_run_80 : pR 159 d 80 ls (.int y :: .int x :: st) h = pR 159 d 81 ls (.int (x + y) :: st) h := pR_L rfl rfl
theorem rX3_run_81 : pR 159 d 81 [a0, a1, a2, a3, a4, a5, a6, a7, a8, .int x, a10, a11, a12, a13, a14] st h = pR 159 d 83 [a0, a1, a2, a3, a4, a5, a6, a7, a8, .int x, a10, a11, a12, a13, a14] (.int x :: st) h := pR_L rfl rfl
theorem rX3_run_83 : pR 159 d 83 ls (.int y :: .int x :: .ref o :: st) h = if pin x (pln h 0 o) = true then pR 159 d 84 ls st (pst h o x.toNatClampNeg y) else none := pR_Lif rfl rfl
theorem rX3_run_84 : pR 159 d 84 [a0, a1, a2, a3, a4, a5, a6, a7, a8, .int x, a10, a11, a12, a13, a14] st h = pR 159 d 86 [a0, a1, a2, a3, a4, a5, a6, a7, a8, .int x, a10, a11, a12, a13, a14] (.int x :: st) h := pR_L rfl rfl
theorem rX3_run_86 : pR 159 d 86 [.ref o, a1, a2, a3, a4, a5, a6, a7, a8, a9, a10, a11, a12, a13, a14] st h = pR 159 d 87 [.ref o, a1, a2, a3, a4, a5, a6, a7, a8, a9, a10, a11, a12, a13, a14] (.ref o :: st) h := pR_L rfl rfl
theorem rX3_run_87 : pR 159 d 87 ls (.ref o :: st) h = if pis (pfl h 3 o 40) = true then pR 159 d 90 ls (pfl h 3 o 40 :: st) h else none := r_get rfl
theorem rX3_run_90 : pR 159 d 90 [a0, a1, a2, a3, a4, a5, a6, .int x, a8, a9, a10, a11, a12, a13, a14] st h = pR 159 d 92 [a0, a1, a2, a3, a4, a5, a6, .int x, a8, a9, a10, a11, a12, a13, a14] (.int x :: st) h := pR_L rfl rfl
theorem rX3_run_92 : pR 159 d 92 ls (.int x :: .ref o :: st) h = if (pin x (pln h 0 o) || pin x (pln h 9 o)) = true then pR 159 d 93 ls (.int (pct h o x.toNatClampNeg) :: st) h else none := pR_Lif rfl rfl
theorem rX3_run_93 : pR 159 d 93 ls (.int y :: .int x :: st) h = pR 159 d 94 ls (.int (x - y) :: st) h := pR_L rfl rfl
theorem rX3_run_94 : pR 159 d 94 [.ref o, a1, a2, a3, a4, a5, a6, a7, a8, a9, a10, a11, a12, a13, a14] st h = pR 159 d 95 [.ref o, a1, a2, a3, a4, a5, a6, a7, a8, a9, a10, a11, a12, a13, a14] (.ref o :: st) h := pR_L rfl rfl
theorem rX3_run_95 : pR 159 d 95 ls (.ref o :: st) h = if pis (pfl h 3 o 42) = true then pR 159 d 98 ls (pfl h 3 o 42 :: st) h else none := r_get rfl
theorem rX3_run_98 : pR 159 d 98 [a0, a1, a2, a3, a4, a5, a6, .int x, a8, a9, a10, a11, a12, a13, a14] st h = pR 159 d 100 [a0, a1, a2, a3, a4, a5, a6, .int x, a8, a9, a10, a11, a12, a13, a14] (.int x :: st) h := pR_L rfl rfl
theorem rX3_run_100 : pR 159 d 100 ls (.int x :: .ref o :: st) h = if (pin x (pln h 0 o) || pin x (pln h 9 o)) = true then pR 159 d 101 ls (.int (pct h o x.toNatClampNeg) :: st) h else none := pR_Lif rfl rfl
theorem rX3_run_101 : pR 159 d 101 ls (.int y :: .int x :: st) h = if y < x then pR 159 d 104 ls st h else pR 159 d 108 ls st h := r_cle rfl rfl
theorem rX3_run_104 : pR 159 d 104 ls st h = pR 159 d 105 ls (.int 1 :: st) h := pR_L rfl rfl
theorem rX3_run_105 : pR 159 d 105 ls st h = pR 159 d 122 ls st h := pR_L rfl rfl
theorem rX3_run_108 : pR 159 d 108 [.ref o, a1, a2, a3, a4, a5, a6, a7, a8, a9, a10, a11, a12, a13, a14] st h = pR 159 d 109 [.ref o, a1, a2, a3, a4, a5, a6, a7, a8, a9, a10, a11, a12, a13, a14] (.ref o :: st) h := pR_L rfl rfl
theorem rX3_run_109 : pR 159 d 109 [a0, a1, a2, a3, a4, a5, a6, a7, .int x, a9, a10, a11, a12, a13, a14] st h = pR 159 d 111 [a0, a1, a2, a3, a4, a5, a6, a7, .int x, a9, a10, a11, a12, a13, a14] (.int x :: st) h := pR_L rfl rfl
theorem rX3_run_111 : pR 159 (d + 1) 111 ls (b1 :: .ref o :: st) h = if (pok 3 (pcl h o) && pw st) = true then pK 159 (d + 1) 111 3 ls st (pCa 160 d [.ref o, b1] h) else none := r_callV rfl rfl rfl
theorem rX3_run_114 : pR 159 d 114 ls (.int x :: st) h = if x = 0 then pR 159 d 121 ls st h else pR 159 d 117 ls st h := r_ieq rfl rfl
theorem rX3_run_117 : pR 159 d 117 ls st h = pR 159 d 118 ls (.int 0 :: st) h := pR_L rfl rfl
theorem rX3_run_118 : pR 159 d 118 ls st h = pR 159 d 122 ls st h := pR_L rfl rfl
theorem rX3_run_121 : pR 159 d 121 ls st h = pR 159 d 122 ls (.int 2 :: st) h := pR_L rfl rfl
theorem rX3_run_122 : pR 159 d 122 [a0, a1, a2, a3, a4, a5, a6, a7, a8, a9, a10, a11, a12, a13, a14] (.int x :: st) h = if p1 a10 = true then pR 159 d 124 [a0, a1, a2, a3, a4, a5, a6, a7, a8, a9, .int x, a11, a12, a13, a14] st h else none := r_sto (n := 2) (k := 10) (v := .int x) (ls := [a0, a1, a2, a3, a4, a5, a6, a7, a8, a9, a10, a11, a12, a13, a14]) rfl rfl rfl
theorem rX3_run_124 : pR 159 d 124 ls st h = pR 159 d 125 ls (.int 0 :: st) h := pR_L rfl rfl
theorem rX3_run_125 : pR 159 d 125 [a0, a1, a2, a3, a4, a5, a6, a7, a8, a9, a10, a11, a12, a13, a14] (.int x :: st) h = if p1 a11 = true then pR 159 d 127 [a0, a1, a2, a3, a4, a5, a6, a7, a8, a9, a10, .int x, a12, a13, a14] st h else none := r_sto (n := 2) (k := 11) (v := .int x) (ls := [a0, a1, a2, a3, a4, a5, a6, a7, a8, a9, a10, a11, a12, a13, a14]) rfl rfl rfl
theorem rX3_run_127 : pR 159 d 127 ls st h = pR 159 d 128 ls (.int 0 :: st) h := pR_L rfl rfl
theorem rX3_run_128 : pR 159 d 128 [a0, a1, a2, a3, a4, a5, a6, a7, a8, a9, a10, a11, a12, a13, a14] (.int x :: st) h = if p1 a12 = true then pR 159 d 130 [a0, a1, a2, a3, a4, a5, a6, a7, a8, a9, a10, a11, .int x, a13, a14] st h else none := r_sto (n := 2) (k := 12) (v := .int x) (ls := [a0, a1, a2, a3, a4, a5, a6, a7, a8, a9, a10, a11, a12, a13, a14]) rfl rfl rfl
theorem rX3_run_130 : pR 159 d 130 [a0, a1, a2, a3, a4, a5, a6, a7, a8, a9, a10, a11, .int x, a13, a14] st h = pR 159 d 132 [a0, a1, a2, a3, a4, a5, a6, a7, a8, a9, a10, a11, .int x, a13, a14] (.int x :: st) h := pR_L rfl rfl
theorem rX3_run_132 : pR 159 d 132 [.ref o, a1, a2, a3, a4, a5, a6, a7, a8, a9, a10, a11, a12, a13, a14] st h = pR 159 d 133 [.ref o, a1, a2, a3, a4, a5, a6, a7, a8, a9, a10, a11, a12, a13, a14] (.ref o :: st) h := pR_L rfl rfl
theorem rX3_run_133 : pR 159 d 133 ls (.ref o :: st) h = if pis (pfl h 3 o 11) = true then pR 159 d 136 ls (pfl h 3 o 11 :: st) h else none := r_get rfl
theorem rX3_run_136 : pR 159 d 136 [a0, a1, a2, a3, a4, a5, a6, a7, .int x, a9, a10, a11, a12, a13, a14] st h = pR 159 d 138 [a0, a1, a2, a3, a4, a5, a6, a7, .int x, a9, a10, a11, a12, a13, a14] (.int x :: st) h := pR_L rfl rfl
theorem rX3_run_138 : pR 159 d 138 ls (.int x :: .ref o :: st) h = if (pin x (pln h 0 o) || pin x (pln h 9 o)) = true then pR 159 d 139 ls (.int (pct h o x.toNatClampNeg) :: st) h else none := pR_Lif rfl rfl
theorem rX3_run_139 : pR 159 d 139 ls (.int y :: .int x :: st) h = if x < y then pR 159 d 142 ls st h else pR 159 d 274 ls st h := r_cge rfl rfl
theorem rX3_run_142 : pR 159 d 142 [a0, a1, a2, a3, a4, a5, a6, a7, a8, a9, .int x, a11, a12, a13, a14] st h = pR 159 d 144 [a0, a1, a2, a3, a4, a5, a6, a7, a8, a9, .int x, a11, a12, a13, a14] (.int x :: st) h := pR_L rfl rfl
theorem rX3_run_144 : pR 159 d 144 ls (.int x :: st) h = if x = 0 then pR 159 d 147 ls st h else pR 159 d 274 ls st h := r_ine rfl rfl
theorem rX3_run_147 : pR 159 d 147 [.ref o, a1, a2, a3, a4, a5, a6, a7, a8, a9, a10, a11, a12, a13, a14] st h = pR 159 d 148 [.ref o, a1, a2, a3, a4, a5, a6, a7, a8, a9, a10, a11, a12, a13, a14] (.ref o :: st) h := pR_L rfl rfl
theorem rX3_run_148 : pR 159 d 148 ls (.ref o :: st) h = if pis (pfl h 3 o 12) = true then pR 159 d 151 ls (pfl h 3 o 12 :: st) h else none := r_get rfl
theorem rX3_run_151 : pR 159 d 151 ls st h = pR 159 d 153 ls (.int 6 :: st) h := pR_L rfl rfl
theorem rX3_run_153 : pR 159 d 153 [a0, a1, a2, a3, a4, a5, a6, a7, .int x, a9, a10, a11, a12, a13, a14] st h = pR 159 d 155 [a0, a1, a2, a3, a4, a5, a6, a7, .int x, a9, a10, a11, a12, a13, a14] (.int x :: st) h := pR_L rfl rfl
theorem rX3_run_155 : pR 159 d 155 ls (.int y :: .int x :: st) h = pR 159 d 156 ls (.int (x * y) :: st) h := pR_L rfl rfl
theorem rX3_run_156 : pR 159 d 156 [a0, a1, a2, a3, a4, a5, a6, a7, a8, a9, a10, a11, .int x, a13, a14] st h = pR 159 d 158 [a0, a1, a2, a3, a4, a5, a6, a7, a8, a9, a10, a11, .int x, a13, a14] (.int x :: st) h := pR_L rfl rfl
theorem rX3_run_158 : pR 159 d 158 ls (.int y :: .int x :: st) h = pR 159 d 159 ls (.int (x + y) :: st) h := pR_L rfl rfl
theorem rX3_run_159 : pR 159 d 159 ls (.int x :: .ref o :: st) h = if (pin x (pln h 0 o) || pin x (pln h 9 o)) = true then pR 159 d 160 ls (.int (pct h o x.toNatClampNeg) :: st) h else none := pR_Lif rfl rfl
theorem rX3_run_160 : pR 159 d 160 [a0, a1, a2, a3, a4, a5, a6, a7, a8, a9, a10, a11, a12, a13, a14] (.int x :: st) h = if p1 a13 = true then pR 159 d 162 [a0, a1, a2, a3, a4, a5, a6, a7, a8, a9, a10, a11, a12, .int x, a14] st h else none := r_sto (n := 2) (k := 13) (v := .int x) (ls := [a0, a1, a2, a3, a4, a5, a6, a7, a8, a9, a10, a11, a12, a13, a14]) rfl rfl rfl
theorem rX3_run_162 : pR 159 d 162 ls st h = pR 159 d 163 ls (.int 0 :: st) h := pR_L rfl rfl
theorem rX3_run_163 : pR 159 d 163 [a0, a1, a2, a3, a4, a5, a6, a7, a8, a9, a10, a11, a12, a13, a14] (.int x :: st) h = if p1 a14 = true then pR 159 d 165 [a0, a1, a2, a3, a4, a5, a6, a7, a8, a9, a10, a11, a12, a13, .int x] st h else none := r_sto (n := 2) (k := 14) (v := .int x) (ls := [a0, a1, a2, a3, a4, a5, a6, a7, a8, a9, a10, a11, a12, a13, a14]) rfl rfl rfl
theorem rX3_run_165 : pR 159 d 165 [a0, a1, a2, a3, a4, a5, a6, a7, a8, a9, a10, a11, a12, a13, .int x] st h = pR 159 d 167 [a0, a1, a2, a3, a4, a5, a6, a7, a8, a9, a10, a11, a12, a13, .int x] (.int x :: st) h := pR_L rfl rfl
theorem rX3_run_167 : pR 159 d 167 ls (.int x :: st) h = if x = 0 then pR 159 d 170 ls st h else pR 159 d 268 ls st h := r_ine rfl rfl
theorem rX3_run_170 : pR 159 d 170 [a0, a1, a2, a3, a4, a5, a6, a7, a8, a9, .int x, a11, a12, a13, a14] st h = pR 159 d 172 [a0, a1, a2, a3, a4, a5, a6, a7, a8, a9, .int x, a11, a12, a13, a14] (.int x :: st) h := pR_L rfl rfl
theorem rX3_run_172 : pR 159 d 172 ls (.int x :: st) h = if x = 0 then pR 159 d 175 ls st h else pR 159 d 268 ls st h := r_ine rfl rfl
theorem rX3_run_175 : pR 159 d 175 [.ref o, a1, a2, a3, a4, a5, a6, a7, a8, a9, a10, a11, a12, a13, a14] st h = pR 159 d 176 [.ref o, a1, a2, a3, a4, a5, a6, a7, a8, a9, a10, a11, a12, a13, a14] (.ref o :: st) h := pR_L rfl rfl
theorem rX3_run_176 : pR 159 d 176 ls (.ref o :: st) h = if pis (pfl h 3 o 44) = true then pR 159 d 179 ls (pfl h 3 o 44 :: st) h else none := r_get rfl
theorem rX3_run_179 : pR 159 d 179 [a0, a1, a2, a3, a4, a5, a6, a7, a8, a9, a10, a11, a12, .int x, a14] st h = pR 159 d 181 [a0, a1, a2, a3, a4, a5, a6, a7, a8, a9, a10, a11, a12, .int x, a14] (.int x :: st) h := pR_L rfl rfl
theorem rX3_run_181 : pR 159 d 181 ls (.int x :: .ref o :: st) h = if (pin x (pln h 0 o) || pin x (pln h 9 o)) = true then pR 159 d 182 ls (.int (pct h o x.toNatClampNeg) :: st) h else none := pR_Lif rfl rfl
theorem rX3_run_182 : pR 159 d 182 ls (.int x :: st) h = if x = 0 then pR 159 d 185 ls st h else pR 159 d 191 ls st h := r_ine rfl rfl
theorem rX3_run_185 : pR 159 d 185 ls st h = pR 159 d 186 ls (.int 3 :: st) h := pR_L rfl rfl
theorem rX3_run_186 : pR 159 d 186 [a0, a1, a2, a3, a4, a5, a6, a7, a8, a9, a10, a11, a12, a13, a14] (.int x :: st) h = if p1 a10 = true then pR 159 d 188 [a0, a1, a2, a3, a4, a5, a6, a7, a8, a9, .int x, a11, a12, a13, a14] st h else none := r_sto (n := 2) (k := 10) (v := .int x) (ls := [a0, a1, a2, a3, a4, a5, a6, a7, a8, a9, a10, a11, a12, a13, a14]) rfl rfl rfl
theorem rX3_run_188 : pR 159 d 188 ls st h = pR 159 d 165 ls st h := pR_L rfl rfl
theorem rX3_run_191 : pR 159 d 191 [.ref o, a1, a2, a3, a4, a5, a6, a7, a8, a9, a10, a11, a12, a13, a14] st h = pR 159 d 192 [.ref o, a1, a2, a3, a4, a5, a6, a7, a8, a9, a10, a11, a12, a13, a14] (.ref o :: st) h := pR_L rfl rfl
theorem rX3_run_192 : pR 159 d 192 ls (.ref o :: st) h = if pis (pfl h 3 o 44) = true then pR 159 d 195 ls (pfl h 3 o 44 :: st) h else none := r_get rfl
theorem rX3_run_195 : pR 159 d 195 [a0, a1, a2, a3, a4, a5, a6, a7, a8, a9, a10, a11, a12, .int x, a14] st h = pR 159 d 197 [a0, a1, a2, a3, a4, a5, a6, a7, a8, a9, a10, a11, a12, .int x, a14] (.int x :: st) h := pR_L rfl rfl
theorem rX3_run_197 : pR 159 d 197 ls (.int x :: .ref o :: st) h = pR 159 d 198 ls (.int x :: .ref o :: .int x :: .ref o :: st) h := pR_L rfl rfl
theorem rX3_run_198 : pR 159 d 198 ls (.int x :: .ref o :: st) h = if (pin x (pln h 0 o) || pin x (pln h 9 o)) = true then pR 159 d 199 ls (.int (pct h o x.toNatClampNeg) :: st) h else none := pR_Lif rfl rfl
theorem rX3_run_199 : pR 159 d 199 ls st h = pR 159 d 200 ls (.int 1 :: st) h := pR_L rfl rfl
theorem rX3_run_200 : pR 159 d 200 ls (.int y :: .int x :: st) h = pR 159 d 201 ls (.int (x - y) :: st) h := pR_L rfl rfl
theorem rX3_run_201 : pR 159 d 201 ls (.int y :: .int x :: .ref o :: st) h = if pin x (pln h 0 o) = true then pR 159 d 202 ls st (pst h o x.toNatClampNeg y) else none := pR_Lif rfl rfl
theorem rX3_run_202 : pR 159 d 202 [a0, a1, a2, a3, a4, a5, a6, a7, a8, a9, a10, .int x, a12, a13, a14] st h = pR 159 d 205 [a0, a1, a2, a3, a4, a5, a6, a7, a8, a9, a10, .int (x + 1), a12, a13, a14] st h := pR_L rfl rfl
theorem rX3_run_205 : pR 159 d 205 [a0, a1, a2, a3, a4, a5, a6, a7, a8, .int x, a10, a11, a12, a13, a14] st h = pR 159 d 207 [a0, a1, a2, a3, a4, a5, a6, a7, a8, .int x, a10, a11, a12, a13, a14] (.int x :: st) h := pR_L rfl rfl
theorem rX3_run_207 : pR 159 d 207 [.ref o, a1, a2, a3, a4, a5, a6, a7, a8, a9, a10, a11, a12, a13, a14] st h = pR 159 d 208 [.ref o, a1, a2, a3, a4, a5, a6, a7, a8, a9, a10, a11, a12, a13, a14] (.ref o :: st) h := pR_L rfl rfl
theorem rX3_run_208 : pR 159 d 208 ls (.ref o :: st) h = if pis (pfl h 3 o 48) = true then pR 159 d 211 ls (pfl h 3 o 48 :: st) h else none := r_get rfl
theorem rX3_run_211 : pR 159 d 211 [.ref o, a1, a2, a3, a4, a5, a6, a7, a8, a9, a10, a11, a12, a13, a14] st h = pR 159 d 212 [.ref o, a1, a2, a3, a4, a5, a6, a7, a8, a9, a10, a11, a12, a13, a14] (.ref o :: st) h := pR_L rfl rfl
theorem rX3_run_212 : pR 159 d 212 ls (.ref o :: st) h = if pis (pfl h 3 o 47) = true then pR 159 d 215 ls (pfl h 3 o 47 :: st) h else none := r_get rfl
theorem rX3_run_215 : pR 159 d 215 [.ref o, a1, a2, a3, a4, a5, a6, a7, a8, a9, a10, a11, a12, a13, a14] st h = pR 159 d 216 [.ref o, a1, a2, a3, a4, a5, a6, a7, a8, a9, a10, a11, a12, a13, a14] (.ref o :: st) h := pR_L rfl rfl
theorem rX3_run_216 : pR 159 d 216 [a0, a1, a2, a3, a4, a5, a6, a7, .int x, a9, a10, a11, a12, a13, a14] st h = pR 159 d 218 [a0, a1, a2, a3, a4, a5, a6, a7, .int x, a9, a10, a11, a12, a13, a14] (.int x :: st) h := pR_L rfl rfl
theorem rX3_run_218 : pR 159 d 218 [a0, a1, a2, a3, a4, a5, a6, a7, a8, a9, a10, a11, .int x, a13, a14] st h = pR 159 d 220 [a0, a1, a2, a3, a4, a5, a6, a7, a8, a9, a10, a11, .int x, a13, a14] (.int x :: st) h := pR_L rfl rfl
theorem rX3_run_220 : pR 159 (d + 1) 220 ls (b2 :: b1 :: .ref o :: st) h = if (pok 3 (pcl h o) && pw st) = true then pK 159 (d + 1) 220 3 ls st (pCa 161 d [.ref o, b1, b2] h) else none := r_callV rfl rfl rfl
theorem rX3_run_223 : pR 159 d 223 ls (.int y :: .int x :: st) h = pR 159 d 224 ls (.int (x * y) :: st) h := pR_L rfl rfl
theorem rX3_run_224 : pR 159 d 224 ls (.int y :: .int x :: st) h = pR 159 d 225 ls (.int (x + y) :: st) h := pR_L rfl rfl
theorem rX3_run_225 : pR 159 d 225 ls (.int y :: .int x :: st) h = pR 159 d 226 ls (.int (x + y) :: st) h := pR_L rfl rfl
theorem rX3_run_226 : pR 159 d 226 [a0, a1, a2, a3, a4, a5, a6, a7, a8, a9, a10, a11, a12, a13, a14] (.int x :: st) h = if p1 a9 = true then pR 159 d 228 [a0, a1, a2, a3, a4, a5, a6, a7, a8, .int x, a10, a11, a12, a13, a14] st h else none := r_sto (n := 2) (k := 9) (v := .int x) (ls := [a0, a1, a2, a3, a4, a5, a6, a7, a8, a9, a10, a11, a12, a13, a14]) rfl rfl rfl
theorem rX3_run_228 : pR 159 d 228 [a0, a1, a2, .long lx, a4, a5, a6, a7, a8, a9, a10, a11, a12, a13, a14] st h = pR 159 d 229 [a0, a1, a2, .long lx, a4, a5, a6, a7, a8, a9, a10, a11, a12, a13, a14] (.long lx :: st) h := pR_L rfl rfl
theorem rX3_run_229 : pR 159 d 229 ls st h = pR 159 d 232 ls (.long 6364136223846793005 :: st) h := pR_X rfl rfl
theorem rX3_run_232 : pR 159 d 232 ls (.long ly :: .long lx :: st) h = pR 159 d 233 ls (.long (lx * ly) :: st) h := pR_L rfl rfl
theorem rX3_run_233 : pR 159 d 233 ls st h = pR 159 d 236 ls (.long 1442695040888963407 :: st) h := pR_X rfl rfl
theorem rX3_run_236 : pR 159 d 236 ls (.long ly :: .long lx :: st) h = pR 159 d 237 ls (.long (lx + ly) :: st) h := pR_L rfl rfl
theorem rX3_run_237 : pR 159 d 237 [a0, a1, a2, a3, a4, a5, a6, a7, a8, a9, a10, a11, a12, a13, a14] (.long lx :: st) h = if p2 a3 a4 = true then pR 159 d 238 [a0, a1, a2, .long lx, pV, a5, a6, a7, a8, a9, a10, a11, a12, a13, a14] st h else none := r_stoL (n := 1) (k := 3) (x := lx) (ls := [a0, a1, a2, a3, a4, a5, a6, a7, a8, a9, a10, a11, a12, a13, a14]) rfl rfl rfl rfl
theorem rX3_run_238 : pR 159 d 238 [a0, a1, a2, .long lx, a4, a5, a6, a7, a8, a9, a10, a11, a12, a13, a14] st h = pR 159 d 239 [a0, a1, a2, .long lx, a4, a5, a6, a7, a8, a9, a10, a11, a12, a13, a14] (.long lx :: st) h := pR_L rfl rfl
theorem rX3_run_239 : pR 159 d 239 ls st h = pR 159 d 241 ls (.int 33 :: st) h := pR_L rfl rfl
theorem rX3_run_241 : pR 159 d 241 ls (.int y :: .long lx :: st) h = pR 159 d 242 ls (.long (lx.toUInt64 >>> (y.toInt64.toUInt64 &&& Int64.toUInt64 63)).toInt64 :: st) h := pR_L rfl rfl
theorem rX3_run_242 : pR 159 d 242 ls st h = pR 159 d 245 ls (.long 100 :: st) h := pR_X rfl rfl
theorem rX3_run_245 : pR 159 d 245 ls (.long ly :: .long lx :: st) h = if ly = 0 then none else pR 159 d 246 ls (.long (lx - lx / ly * ly) :: st) h := r_lrem rfl
theorem rX3_run_246 : pR 159 d 246 [.ref o, a1, a2, a3, a4, a5, a6, a7, a8, a9, a10, a11, a12, a13, a14] st h = pR 159 d 247 [.ref o, a1, a2, a3, a4, a5, a6, a7, a8, a9, a10, a11, a12, a13, a14] (.ref o :: st) h := pR_L rfl rfl
theorem rX3_run_247 : pR 159 d 247 ls (.ref o :: st) h = if pis (pfl h 3 o 3) = true then pR 159 d 250 ls (pfl h 3 o 3 :: st) h else none := r_get rfl
theorem rX3_run_250 : pR 159 d 250 [a0, a1, a2, a3, a4, a5, a6, a7, a8, a9, a10, a11, a12, .int x, a14] st h = pR 159 d 252 [a0, a1, a2, a3, a4, a5, a6, a7, a8, a9, a10, a11, a12, .int x, a14] (.int x :: st) h := pR_L rfl rfl
theorem rX3_run_252 : pR 159 d 252 ls (.int x :: .ref o :: st) h = if (pin x (pln h 0 o) || pin x (pln h 9 o)) = true then pR 159 d 253 ls (.int (pct h o x.toNatClampNeg) :: st) h else none := pR_Lif rfl rfl
theorem rX3_run_253 : pR 159 d 253 ls (.int x :: st) h = pR 159 d 254 ls (.long x.toInt64 :: st) h := pR_L rfl rfl
theorem rX3_run_254 : pR 159 d 254 ls (.long ly :: .long lx :: st) h = pR 159 d 255 ls (.int (lg_cmp lx ly) :: st) h := pR_L rfl rfl
theorem rX3_run_255 : pR 159 d 255 ls (.int x :: st) h = if x < 0 then pR 159 d 262 ls st h else pR 159 d 258 ls st h := r_ilt rfl rfl
theorem rX3_run_258 : pR 159 d 258 ls st h = pR 159 d 259 ls (.int 1 :: st) h := pR_L rfl rfl
theorem rX3_run_259 : pR 159 d 259 ls st h = pR 159 d 263 ls st h := pR_L rfl rfl
theorem rX3_run_262 : pR 159 d 262 ls st h = pR 159 d 263 ls (.int 0 :: st) h := pR_L rfl rfl
theorem rX3_run_263 : pR 159 d 263 [a0, a1, a2, a3, a4, a5, a6, a7, a8, a9, a10, a11, a12, a13, a14] (.int x :: st) h = if p1 a14 = true then pR 159 d 265 [a0, a1, a2, a3, a4, a5, a6, a7, a8, a9, a10, a11, a12, a13, .int x] st h else none := r_sto (n := 2) (k := 14) (v := .int x) (ls := [a0, a1, a2, a3, a4, a5, a6, a7, a8, a9, a10, a11, a12, a13, a14]) rfl rfl rfl
theorem rX3_run_265 : pR 159 d 265 ls st h = pR 159 d 165 ls st h := pR_L rfl rfl
theorem rX3_run_268 : pR 159 d 268 [a0, a1, a2, a3, a4, a5, a6, a7, a8, a9, a10, a11, .int x, a13, a14] st h = pR 159 d 271 [a0, a1, a2, a3, a4, a5, a6, a7, a8, a9, a10, a11, .int (x + 1), a13, a14] st h := pR_L rfl rfl
theorem rX3_run_271 : pR 159 d 271 ls st h = pR 159 d 130 ls st h := pR_L rfl rfl
theorem rX3_run_274 : pR 159 d 274 [.ref o, a1, a2, a3, a4, a5, a6, a7, a8, a9, a10, a11, a12, a13, a14] st h = pR 159 d 275 [.ref o, a1, a2, a3, a4, a5, a6, a7, a8, a9, a10, a11, a12, a13, a14] (.ref o :: st) h := pR_L rfl rfl
theorem rX3_run_275 : pR 159 d 275 ls (.ref o :: st) h = if pis (pfl h 3 o 43) = true then pR 159 d 278 ls (pfl h 3 o 43 :: st) h else none := r_get rfl
theorem rX3_run_278 : pR 159 d 278 ls st h = pR 159 d 279 ls (.int 4 :: st) h := pR_L rfl rfl
theorem rX3_run_279 : pR 159 d 279 [a0, a1, a2, a3, a4, a5, a6, .int x, a8, a9, a10, a11, a12, a13, a14] st h = pR 159 d 281 [a0, a1, a2, a3, a4, a5, a6, .int x, a8, a9, a10, a11, a12, a13, a14] (.int x :: st) h := pR_L rfl rfl
theorem rX3_run_281 : pR 159 d 281 ls (.int y :: .int x :: st) h = pR 159 d 282 ls (.int (x * y) :: st) h := pR_L rfl rfl
theorem rX3_run_282 : pR 159 d 282 [a0, a1, a2, a3, a4, a5, a6, a7, a8, a9, .int x, a11, a12, a13, a14] st h = pR 159 d 284 [a0, a1, a2, a3, a4, a5, a6, a7, a8, a9, .int x, a11, a12, a13, a14] (.int x :: st) h := pR_L rfl rfl
theorem rX3_run_284 : pR 159 d 284 ls (.int y :: .int x :: .ref o :: st) h = if pin x (pln h 0 o) = true then pR 159 d 285 ls st (pst h o x.toNatClampNeg y) else none := pR_Lif rfl rfl
theorem rX3_run_285 : pR 159 d 285 [.ref o, a1, a2, a3, a4, a5, a6, a7, a8, a9, a10, a11, a12, a13, a14] st h = pR 159 d 286 [.ref o, a1, a2, a3, a4, a5, a6, a7, a8, a9, a10, a11, a12, a13, a14] (.ref o :: st) h := pR_L rfl rfl
theorem rX3_run_286 : pR 159 d 286 ls (.ref o :: st) h = if pis (pfl h 3 o 43) = true then pR 159 d 289 ls (pfl h 3 o 43 :: st) h else none := r_get rfl
theorem rX3_run_289 : pR 159 d 289 ls st h = pR 159 d 290 ls (.int 4 :: st) h := pR_L rfl rfl
theorem rX3_run_290 : pR 159 d 290 [a0, a1, a2, a3, a4, a5, a6, .int x, a8, a9, a10, a11, a12, a13, a14] st h = pR 159 d 292 [a0, a1, a2, a3, a4, a5, a6, .int x, a8, a9, a10, a11, a12, a13, a14] (.int x :: st) h := pR_L rfl rfl
theorem rX3_run_292 : pR 159 d 292 ls (.int y :: .int x :: st) h = pR 159 d 293 ls (.int (x * y) :: st) h := pR_L rfl rfl
theorem rX3_run_293 : pR 159 d 293 ls st h = pR 159 d 294 ls (.int 2 :: st) h := pR_L rfl rfl
theorem rX3_run_294 : pR 159 d 294 ls (.int y :: .int x :: st) h = pR 159 d 295 ls (.int (x + y) :: st) h := pR_L rfl rfl
theorem rX3_run_295 : pR 159 d 295 [a0, a1, a2, a3, a4, a5, a6, a7, a8, .int x, a10, a11, a12, a13, a14] st h = pR 159 d 297 [a0, a1, a2, a3, a4, a5, a6, a7, a8, .int x, a10, a11, a12, a13, a14] (.int x :: st) h := pR_L rfl rfl
theorem rX3_run_297 : pR 159 d 297 ls (.int y :: .int x :: .ref o :: st) h = if pin x (pln h 0 o) = true then pR 159 d 298 ls st (pst h o x.toNatClampNeg y) else none := pR_Lif rfl rfl
theorem rX3_run_298 : pR 159 d 298 [.ref o, a1, a2, a3, a4, a5, a6, a7, a8, a9, a10, a11, a12, a13, a14] st h = pR 159 d 299 [.ref o, a1, a2, a3, a4, a5, a6, a7, a8, a9, a10, a11, a12, a13, a14] (.ref o :: st) h := pR_L rfl rfl
theorem rX3_run_299 : pR 159 d 299 ls (.ref o :: st) h = if pis (pfl h 3 o 43) = true then pR 159 d 302 ls (pfl h 3 o 43 :: st) h else none := r_get rfl
theorem rX3_run_302 : pR 159 d 302 ls st h = pR 159 d 303 ls (.int 4 :: st) h := pR_L rfl rfl
theorem rX3_run_303 : pR 159 d 303 [a0, a1, a2, a3, a4, a5, a6, .int x, a8, a9, a10, a11, a12, a13, a14] st h = pR 159 d 305 [a0, a1, a2, a3, a4, a5, a6, .int x, a8, a9, a10, a11, a12, a13, a14] (.int x :: st) h := pR_L rfl rfl
theorem rX3_run_305 : pR 159 d 305 ls (.int y :: .int x :: st) h = pR 159 d 306 ls (.int (x * y) :: st) h := pR_L rfl rfl
theorem rX3_run_306 : pR 159 d 306 ls st h = pR 159 d 307 ls (.int 3 :: st) h := pR_L rfl rfl
theorem rX3_run_307 : pR 159 d 307 ls (.int y :: .int x :: st) h = pR 159 d 308 ls (.int (x + y) :: st) h := pR_L rfl rfl
theorem rX3_run_308 : pR 159 d 308 [a0, a1, a2, a3, a4, a5, a6, a7, a8, a9, a10, .int x, a12, a13, a14] st h = pR 159 d 310 [a0, a1, a2, a3, a4, a5, a6, a7, a8, a9, a10, .int x, a12, a13, a14] (.int x :: st) h := pR_L rfl rfl
theorem rX3_run_310 : pR 159 d 310 ls (.int y :: .int x :: .ref o :: st) h = if pin x (pln h 0 o) = true then pR 159 d 311 ls st (pst h o x.toNatClampNeg y) else none := pR_Lif rfl rfl
theorem rX3_run_311 : pR 159 d 311 [a0, a1, a2, a3, a4, a5, .int x, a7, a8, a9, a10, a11, a12, a13, a14] st h = pR 159 d 313 [a0, a1, a2, a3, a4, a5, .int x, a7, a8, a9, a10, a11, a12, a13, a14] (.int x :: st) h := pR_L rfl rfl
theorem rX3_run_313 : pR 159 d 313 [a0, a1, a2, a3, a4, a5, a6, a7, a8, a9, .int x, a11, a12, a13, a14] st h = pR 159 d 315 [a0, a1, a2, a3, a4, a5, a6, a7, a8, a9, .int x, a11, a12, a13, a14] (.int x :: st) h := pR_L rfl rfl
theorem rX3_run_315 : pR 159 d 315 ls (.int x :: st) h = if x = 0 then pR 159 d 318 ls st h else pR 159 d 322 ls st h := r_ine rfl rfl
theorem rX3_run_318 : pR 159 d 318 ls st h = pR 159 d 319 ls (.int 1 :: st) h := pR_L rfl rfl
theorem rX3_run_319 : pR 159 d 319 ls st h = pR 159 d 323 ls st h := pR_L rfl rfl
theorem rX3_run_322 : pR 159 d 322 ls st h = pR 159 d 323 ls (.int 0 :: st) h := pR_L rfl rfl
theorem rX3_run_323 : pR 159 d 323 ls (.int y :: .int x :: st) h = pR 159 d 324 ls (.int (x + y) :: st) h := pR_L rfl rfl
theorem rX3_run_324 : pR 159 d 324 [a0, a1, a2, a3, a4, a5, a6, a7, a8, a9, a10, a11, a12, a13, a14] (.int x :: st) h = if p1 a6 = true then pR 159 d 326 [a0, a1, a2, a3, a4, a5, .int x, a7, a8, a9, a10, a11, a12, a13, a14] st h else none := r_sto (n := 2) (k := 6) (v := .int x) (ls := [a0, a1, a2, a3, a4, a5, a6, a7, a8, a9, a10, a11, a12, a13, a14]) rfl rfl rfl
theorem rX3_run_326 : pR 159 d 326 [a0, a1, a2, a3, a4, a5, a6, a7, a8, .int x, a10, a11, a12, a13, a14] st h = pR 159 d 328 [a0, a1, a2, a3, a4, a5, a6, a7, a8, .int x, a10, a11, a12, a13, a14] (.int x :: st) h := pR_L rfl rfl
theorem rX3_run_328 : pR 159 d 328 [a0, a1, a2, a3, a4, a5, a6, a7, a8, a9, a10, a11, a12, a13, a14] (.int x :: st) h = if p1 a5 = true then pR 159 d 330 [a0, a1, a2, a3, a4, .int x, a6, a7, a8, a9, a10, a11, a12, a13, a14] st h else none := r_sto (n := 2) (k := 5) (v := .int x) (ls := [a0, a1, a2, a3, a4, a5, a6, a7, a8, a9, a10, a11, a12, a13, a14]) rfl rfl rfl
theorem rX3_run_330 : pR 159 d 330 [a0, a1, a2, a3, a4, a5, a6, .int x, a8, a9, a10, a11, a12, a13, a14] st h = pR 159 d 333 [a0, a1, a2, a3, a4, a5, a6, .int (x + 1), a8, a9, a10, a11, a12, a13, a14] st h := pR_L rfl rfl
theorem rX3_run_333 : pR 159 d 333 ls st h = pR 159 d 39 ls st h := pR_L rfl rfl
theorem rX3_run_336 : pR 159 d 336 [.ref o, a1, a2, a3, a4, a5, a6, a7, a8, a9, a10, a11, a12, a13, a14] st h = pR 159 d 337 [.ref o, a1, a2, a3, a4, a5, a6, a7, a8, a9, a10, a11, a12, a13, a14] (.ref o :: st) h := pR_L rfl rfl
theorem rX3_run_337 : pR 159 d 337 [.ref o, a1, a2, a3, a4, a5, a6, a7, a8, a9, a10, a11, a12, a13, a14] st h = pR 159 d 338 [.ref o, a1, a2, a3, a4, a5, a6, a7, a8, a9, a10, a11, a12, a13, a14] (.ref o :: st) h := pR_L rfl rfl
theorem rX3_run_338 : pR 159 d 338 ls (.ref o :: st) h = if pis (pfl h 3 o 45) = true then pR 159 d 341 ls (pfl h 3 o 45 :: st) h else none := r_get rfl
theorem rX3_run_341 : pR 159 d 341 ls (.int x :: .ref o :: st) h = if pis (pfl h 3 o 46) = true then pR 159 d 344 ls st (psf h o 46 (.int x)) else none := r_put rfl rfl
theorem rX3_run_344 : pR 159 d 344 [a0, a1, a2, a3, a4, a5, .int x, a7, a8, a9, a10, a11, a12, a13, a14] st h = pR 159 d 346 [a0, a1, a2, a3, a4, a5, .int x, a7, a8, a9, a10, a11, a12, a13, a14] (.int x :: st) h := pR_L rfl rfl
theorem rX3_run_346 : pR 159 d 346 ls [.int x] h = some (.inl (some (.int x)), h) := pR_E rfl rfl
-- 160 BalloonStallModel isThere (I)Z
theorem eX3_isThere : pCa 160 d [.ref o, .int x0] h = pR 160 d 0 [.ref o, .int x0, pU, pU, pU] [] h := rfl
theorem rX3_isThere_0 : pR 160 d 0 ls st h = pR 160 d 1 ls (.int 0 :: st) h := pR_L rfl rfl
theorem rX3_isThere_1 : pR 160 d 1 [a0, a1, a2, a3, a4] (.int x :: st) h = if p1 a2 = true then pR 160 d 2 [a0, a1, .int x, a3, a4] st h else none := r_sto (n := 1) (k := 2) (v := .int x) (ls := [a0, a1, a2, a3, a4]) rfl rfl rfl
theorem rX3_isThere_2 : pR 160 d 2 [a0, a1, .int x, a3, a4] st h = pR 160 d 3 [a0, a1, .int x, a3, a4] (.int x :: st) h := pR_L rfl rfl
theorem rX3_isThere_3 : pR 160 d 3 [.ref o, a1, a2, a3, a4] st h = pR 160 d 4 [.ref o, a1, a2, a3, a4] (.ref o :: st) h := pR_L rfl rfl
theorem rX3_isThere_4 : pR 160 d 4 ls (.ref o :: st) h = if pis (pfl h 3 o 5) = true then pR 160 d 7 ls (pfl h 3 o 5 :: st) h else none := r_get rfl
theorem rX3_isThere_7 : pR 160 d 7 ls (.int y :: .int x :: st) h = if x < y then pR 160 d 10 ls st h else pR 160 d 74 ls st h := r_cge rfl rfl
theorem rX3_isThere_10 : pR 160 d 10 ls st h = pR 160 d 11 ls (.int 0 :: st) h := pR_L rfl rfl
theorem rX3_isThere_11 : pR 160 d 11 [a0, a1, a2, a3, a4] (.int x :: st) h = if p1 a3 = true then pR 160 d 12 [a0, a1, a2, .int x, a4] st h else none := r_sto (n := 1) (k := 3) (v := .int x) (ls := [a0, a1, a2, a3, a4]) rfl rfl rfl
theorem rX3_isThere_12 : pR 160 d 12 ls st h = pR 160 d 13 ls (.int 0 :: st) h := pR_L rfl rfl
theorem rX3_isThere_13 : pR 160 d 13 [a0, a1, a2, a3, a4] (.int x :: st) h = if p1 a4 = true then pR 160 d 15 [a0, a1, a2, a3, .int x] st h else none := r_sto (n := 2) (k := 4) (v := .int x) (ls := [a0, a1, a2, a3, a4]) rfl rfl rfl
theorem rX3_isThere_15 : pR 160 d 15 [a0, a1, a2, a3, .int x] st h = pR 160 d 17 [a0, a1, a2, a3, .int x] (.int x :: st) h := pR_L rfl rfl
theorem rX3_isThere_17 : pR 160 d 17 [.ref o, a1, a2, a3, a4] st h = pR 160 d 18 [.ref o, a1, a2, a3, a4] (.ref o :: st) h := pR_L rfl rfl
theorem rX3_isThere_18 : pR 160 d 18 ls (.ref o :: st) h = if pis (pfl h 3 o 11) = true then pR 160 d 21 ls (pfl h 3 o 11 :: st) h else none := r_get rfl
theorem rX3_isThere_21 : pR 160 d 21 [a0, .int x, a2, a3, a4] st h = pR 160 d 22 [a0, .int x, a2, a3, a4] (.int x :: st) h := pR_L rfl rfl
theorem rX3_isThere_22 : pR 160 d 22 ls (.int x :: .ref o :: st) h = if (pin x (pln h 0 o) || pin x (pln h 9 o)) = true then pR 160 d 23 ls (.int (pct h o x.toNatClampNeg) :: st) h else none := pR_Lif rfl rfl
theorem rX3_isThere_23 : pR 160 d 23 ls (.int y :: .int x :: st) h = if x < y then pR 160 d 26 ls st h else pR 160 d 56 ls st h := r_cge rfl rfl
theorem rX3_isThere_26 : pR 160 d 26 [a0, a1, a2, .int x, a4] st h = pR 160 d 27 [a0, a1, a2, .int x, a4] (.int x :: st) h := pR_L rfl rfl
theorem rX3_isThere_27 : pR 160 d 27 [.ref o, a1, a2, a3, a4] st h = pR 160 d 28 [.ref o, a1, a2, a3, a4] (.ref o :: st) h := pR_L rfl rfl
theorem rX3_isThere_28 : pR 160 d 28 ls (.ref o :: st) h = if pis (pfl h 3 o 12) = true then pR 160 d 31 ls (pfl h 3 o 12 :: st) h else none := r_get rfl
theorem rX3_isThere_31 : pR 160 d 31 ls st h = pR 160 d 33 ls (.int 6 :: st) h := pR_L rfl rfl
theorem rX3_isThere_33 : pR 160 d 33 [a0, .int x, a2, a3, a4] st h = pR 160 d 34 [a0, .int x, a2, a3, a4] (.int x :: st) h := pR_L rfl rfl
theorem rX3_isThere_34 : pR 160 d 34 ls (.int y :: .int x :: st) h = pR 160 d 35 ls (.int (x * y) :: st) h := pR_L rfl rfl
theorem rX3_isThere_35 : pR 160 d 35 [a0, a1, a2, a3, .int x] st h = pR 160 d 37 [a0, a1, a2, a3, .int x] (.int x :: st) h := pR_L rfl rfl
theorem rX3_isThere_37 : pR 160 d 37 ls (.int y :: .int x :: st) h = pR 160 d 38 ls (.int (x + y) :: st) h := pR_L rfl rfl
theorem rX3_isThere_38 : pR 160 d 38 ls (.int x :: .ref o :: st) h = if (pin x (pln h 0 o) || pin x (pln h 9 o)) = true then pR 160 d 39 ls (.int (pct h o x.toNatClampNeg) :: st) h else none := pR_Lif rfl rfl
theorem rX3_isThere_39 : pR 160 d 39 [a0, a1, .int x, a3, a4] st h = pR 160 d 40 [a0, a1, .int x, a3, a4] (.int x :: st) h := pR_L rfl rfl
theorem rX3_isThere_40 : pR 160 d 40 ls (.int y :: .int x :: st) h = if x = y then pR 160 d 43 ls st h else pR 160 d 47 ls st h := r_cne rfl rfl
theorem rX3_isThere_43 : pR 160 d 43 ls st h = pR 160 d 44 ls (.int 1 :: st) h := pR_L rfl rfl
theorem rX3_isThere_44 : pR 160 d 44 ls st h = pR 160 d 48 ls st h := pR_L rfl rfl
theorem rX3_isThere_47 : pR 160 d 47 ls st h = pR 160 d 48 ls (.int 0 :: st) h := pR_L rfl rfl
theorem rX3_isThere_48 : pR 160 d 48 ls (.int y :: .int x :: st) h = pR 160 d 49 ls (.int (x + y) :: st) h := pR_L rfl rfl
theorem rX3_isThere_49 : pR 160 d 49 [a0, a1, a2, a3, a4] (.int x :: st) h = if p1 a3 = true then pR 160 d 50 [a0, a1, a2, .int x, a4] st h else none := r_sto (n := 1) (k := 3) (v := .int x) (ls := [a0, a1, a2, a3, a4]) rfl rfl rfl
theorem rX3_isThere_50 : pR 160 d 50 [a0, a1, a2, a3, .int x] st h = pR 160 d 53 [a0, a1, a2, a3, .int (x + 1)] st h := pR_L rfl rfl
theorem rX3_isThere_53 : pR 160 d 53 ls st h = pR 160 d 15 ls st h := pR_L rfl rfl
theorem rX3_isThere_56 : pR 160 d 56 [.ref o, a1, a2, a3, a4] st h = pR 160 d 57 [.ref o, a1, a2, a3, a4] (.ref o :: st) h := pR_L rfl rfl
theorem rX3_isThere_57 : pR 160 d 57 ls (.ref o :: st) h = if pis (pfl h 3 o 44) = true then pR 160 d 60 ls (pfl h 3 o 44 :: st) h else none := r_get rfl
theorem rX3_isThere_60 : pR 160 d 60 [a0, a1, .int x, a3, a4] st h = pR 160 d 61 [a0, a1, .int x, a3, a4] (.int x :: st) h := pR_L rfl rfl
theorem rX3_isThere_61 : pR 160 d 61 ls (.int x :: .ref o :: st) h = if (pin x (pln h 0 o) || pin x (pln h 9 o)) = true then pR 160 d 62 ls (.int (pct h o x.toNatClampNeg) :: st) h else none := pR_Lif rfl rfl
theorem rX3_isThere_62 : pR 160 d 62 [a0, a1, a2, .int x, a4] st h = pR 160 d 63 [a0, a1, a2, .int x, a4] (.int x :: st) h := pR_L rfl rfl
theorem rX3_isThere_63 : pR 160 d 63 ls (.int y :: .int x :: st) h = if x < y then pR 160 d 66 ls st h else pR 160 d 68 ls st h := r_cge rfl rfl
theorem rX3_isThere_66 : pR 160 d 66 ls st h = pR 160 d 67 ls (.int 0 :: st) h := pR_L rfl rfl
theorem rX3_isThere_670 : pR 160 d 67 ls [.int 0] h = some (.inl (some (.int 0)), h) := pR_E rfl rfl
theorem rX3_isThere_671 : pR 160 d 67 ls [.int 1] h = some (.inl (some (.int 1)), h) := pR_E rfl rfl
theorem rX3_isThere_68 : pR 160 d 68 [a0, a1, .int x, a3, a4] st h = pR 160 d 71 [a0, a1, .int (x + 1), a3, a4] st h := pR_L rfl rfl
theorem rX3_isThere_71 : pR 160 d 71 ls st h = pR 160 d 2 ls st h := pR_L rfl rfl
theorem rX3_isThere_74 : pR 160 d 74 ls st h = pR 160 d 75 ls (.int 1 :: st) h := pR_L rfl rfl
theorem rX3_isThere_750 : pR 160 d 75 ls [.int 0] h = some (.inl (some (.int 0)), h) := pR_E rfl rfl
theorem rX3_isThere_751 : pR 160 d 75 ls [.int 1] h = some (.inl (some (.int 1)), h) := pR_E rfl rfl
-- 161 BalloonStallModel inBalloon (II)I
theorem eX3_inBalloon : pCa 161 d [.ref o, .int x0, .int x1] h = pR 161 d 0 [.ref o, .int x0, .int x1, pU, pU] [] h := rfl
theorem rX3_inBalloon_0 : pR 161 d 0 ls st h = pR 161 d 1 ls (.int 0 :: st) h := pR_L rfl rfl
theorem rX3_inBalloon_1 : pR 161 d 1 [a0, a1, a2, a3, a4] (.int x :: st) h = if p1 a3 = true then pR 161 d 2 [a0, a1, a2, .int x, a4] st h else none := r_sto (n := 1) (k := 3) (v := .int x) (ls := [a0, a1, a2, a3, a4]) rfl rfl rfl
theorem rX3_inBalloon_2 : pR 161 d 2 ls st h = pR 161 d 3 ls (.int 0 :: st) h := pR_L rfl rfl
theorem rX3_inBalloon_3 : pR 161 d 3 [a0, a1, a2, a3, a4] (.int x :: st) h = if p1 a4 = true then pR 161 d 5 [a0, a1, a2, a3, .int x] st h else none := r_sto (n := 2) (k := 4) (v := .int x) (ls := [a0, a1, a2, a3, a4]) rfl rfl rfl
theorem rX3_inBalloon_5 : pR 161 d 5 [a0, a1, a2, a3, .int x] st h = pR 161 d 7 [a0, a1, a2, a3, .int x] (.int x :: st) h := pR_L rfl rfl
theorem rX3_inBalloon_7 : pR 161 d 7 [.ref o, a1, a2, a3, a4] st h = pR 161 d 8 [.ref o, a1, a2, a3, a4] (.ref o :: st) h := pR_L rfl rfl
theorem rX3_inBalloon_8 : pR 161 d 8 ls (.ref o :: st) h = if pis (pfl h 3 o 13) = true then pR 161 d 11 ls (pfl h 3 o 13 :: st) h else none := r_get rfl
theorem rX3_inBalloon_11 : pR 161 d 11 [a0, .int x, a2, a3, a4] st h = pR 161 d 12 [a0, .int x, a2, a3, a4] (.int x :: st) h := pR_L rfl rfl
theorem rX3_inBalloon_12 : pR 161 d 12 ls (.int x :: .ref o :: st) h = if (pin x (pln h 0 o) || pin x (pln h 9 o)) = true then pR 161 d 13 ls (.int (pct h o x.toNatClampNeg) :: st) h else none := pR_Lif rfl rfl
theorem rX3_inBalloon_13 : pR 161 d 13 ls (.int y :: .int x :: st) h = if x < y then pR 161 d 16 ls st h else pR 161 d 46 ls st h := r_cge rfl rfl
theorem rX3_inBalloon_16 : pR 161 d 16 [a0, a1, a2, .int x, a4] st h = pR 161 d 17 [a0, a1, a2, .int x, a4] (.int x :: st) h := pR_L rfl rfl
theorem rX3_inBalloon_17 : pR 161 d 17 [.ref o, a1, a2, a3, a4] st h = pR 161 d 18 [.ref o, a1, a2, a3, a4] (.ref o :: st) h := pR_L rfl rfl
theorem rX3_inBalloon_18 : pR 161 d 18 ls (.ref o :: st) h = if pis (pfl h 3 o 18) = true then pR 161 d 21 ls (pfl h 3 o 18 :: st) h else none := r_get rfl
theorem rX3_inBalloon_21 : pR 161 d 21 ls st h = pR 161 d 23 ls (.int 24 :: st) h := pR_L rfl rfl
theorem rX3_inBalloon_23 : pR 161 d 23 [a0, .int x, a2, a3, a4] st h = pR 161 d 24 [a0, .int x, a2, a3, a4] (.int x :: st) h := pR_L rfl rfl
theorem rX3_inBalloon_24 : pR 161 d 24 ls (.int y :: .int x :: st) h = pR 161 d 25 ls (.int (x * y) :: st) h := pR_L rfl rfl
theorem rX3_inBalloon_25 : pR 161 d 25 [a0, a1, a2, a3, .int x] st h = pR 161 d 27 [a0, a1, a2, a3, .int x] (.int x :: st) h := pR_L rfl rfl
theorem rX3_inBalloon_27 : pR 161 d 27 ls (.int y :: .int x :: st) h = pR 161 d 28 ls (.int (x + y) :: st) h := pR_L rfl rfl
theorem rX3_inBalloon_28 : pR 161 d 28 ls (.int x :: .ref o :: st) h = if (pin x (pln h 0 o) || pin x (pln h 9 o)) = true then pR 161 d 29 ls (.int (pct h o x.toNatClampNeg) :: st) h else none := pR_Lif rfl rfl
theorem rX3_inBalloon_29 : pR 161 d 29 [a0, a1, .int x, a3, a4] st h = pR 161 d 30 [a0, a1, .int x, a3, a4] (.int x :: st) h := pR_L rfl rfl
theorem rX3_inBalloon_30 : pR 161 d 30 ls (.int y :: .int x :: st) h = if x = y then pR 161 d 33 ls st h else pR 161 d 37 ls st h := r_cne rfl rfl
theorem rX3_inBalloon_33 : pR 161 d 33 ls st h = pR 161 d 34 ls (.int 1 :: st) h := pR_L rfl rfl
theorem rX3_inBalloon_34 : pR 161 d 34 ls st h = pR 161 d 38 ls st h := pR_L rfl rfl
theorem rX3_inBalloon_37 : pR 161 d 37 ls st h = pR 161 d 38 ls (.int 0 :: st) h := pR_L rfl rfl
theorem rX3_inBalloon_38 : pR 161 d 38 ls (.int y :: .int x :: st) h = pR 161 d 39 ls (.int (x + y) :: st) h := pR_L rfl rfl
theorem rX3_inBalloon_39 : pR 161 d 39 [a0, a1, a2, a3, a4] (.int x :: st) h = if p1 a3 = true then pR 161 d 40 [a0, a1, a2, .int x, a4] st h else none := r_sto (n := 1) (k := 3) (v := .int x) (ls := [a0, a1, a2, a3, a4]) rfl rfl rfl
theorem rX3_inBalloon_40 : pR 161 d 40 [a0, a1, a2, a3, .int x] st h = pR 161 d 43 [a0, a1, a2, a3, .int (x + 1)] st h := pR_L rfl rfl
theorem rX3_inBalloon_43 : pR 161 d 43 ls st h = pR 161 d 5 ls st h := pR_L rfl rfl
theorem rX3_inBalloon_46 : pR 161 d 46 [a0, a1, a2, .int x, a4] st h = pR 161 d 47 [a0, a1, a2, .int x, a4] (.int x :: st) h := pR_L rfl rfl
theorem rX3_inBalloon_47 : pR 161 d 47 ls [.int x] h = some (.inl (some (.int x)), h) := pR_E rfl rfl
-- 162 BalloonStallModel guest (II)I
theorem eX3_guest : pCa 162 d [.ref o, .int x0, .int x1] h = pR 162 d 0 [.ref o, .int x0, .int x1] [] h := rfl
theorem rX3_guest_0 : pR 162 d 0 [.ref o, a1, a2] st h = pR 162 d 1 [.ref o, a1, a2] (.ref o :: st) h := pR_L rfl rfl
theorem rX3_guest_1 : pR 162 d 1 [a0, .int x, a2] st h = pR 162 d 2 [a0, .int x, a2] (.int x :: st) h := pR_L rfl rfl
theorem rX3_guest_2 : pR 162 d 2 ls st h = pR 162 d 3 ls (.int 0 :: st) h := pR_L rfl rfl
theorem rX3_guest_3 : pR 162 d 3 [.ref o, a1, a2] st h = pR 162 d 4 [.ref o, a1, a2] (.ref o :: st) h := pR_L rfl rfl
theorem rX3_guest_4 : pR 162 d 4 ls (.ref o :: st) h = if pis (pfl h 3 o 46) = true then pR 162 d 7 ls (pfl h 3 o 46 :: st) h else none := r_get rfl
theorem rX3_guest_7 : pR 162 d 7 ls st h = pR 162 d 8 ls (.int 1 :: st) h := pR_L rfl rfl
theorem rX3_guest_8 : pR 162 d 8 ls (.int y :: .int x :: st) h = pR 162 d 9 ls (.int (x - y) :: st) h := pR_L rfl rfl
theorem rX3_guest_9 : pR 162 (d + 1) 9 ls (b2 :: b1 :: b0 :: st) h = if pw st = true then pK 162 (d + 1) 9 3 ls st (pCa 69 d [b0, b1, b2] h) else none := r_callS rfl rfl rfl
theorem rX3_guest_12 : pR 162 d 12 ls (.int x :: st) h = if x = 0 then pR 162 d 28 ls st h else pR 162 d 15 ls st h := r_ieq rfl rfl
theorem rX3_guest_15 : pR 162 d 15 [a0, a1, .int x] st h = pR 162 d 16 [a0, a1, .int x] (.int x :: st) h := pR_L rfl rfl
theorem rX3_guest_16 : pR 162 d 16 ls st h = pR 162 d 17 ls (.int 0 :: st) h := pR_L rfl rfl
theorem rX3_guest_17 : pR 162 d 17 ls st h = pR 162 d 18 ls (.int 3 :: st) h := pR_L rfl rfl
theorem rX3_guest_18 : pR 162 (d + 1) 18 ls (b2 :: b1 :: b0 :: st) h = if pw st = true then pK 162 (d + 1) 18 3 ls st (pCa 69 d [b0, b1, b2] h) else none := r_callS rfl rfl rfl
theorem rX3_guest_21 : pR 162 d 21 ls (.int x :: st) h = if x = 0 then pR 162 d 28 ls st h else pR 162 d 24 ls st h := r_ieq rfl rfl
theorem rX3_guest_24 : pR 162 d 24 ls st h = pR 162 d 25 ls (.int 0 :: st) h := pR_L rfl rfl
theorem rX3_guest_25 : pR 162 d 25 ls st h = pR 162 d 29 ls st h := pR_L rfl rfl
theorem rX3_guest_28 : pR 162 d 28 ls st h = pR 162 d 29 ls (.int 1 :: st) h := pR_L rfl rfl
theorem rX3_guest_29 : pR 162 d 29 ls (.int x :: .ref o :: st) h = if pis (pfl h 3 o 0) = true then pR 162 d 32 ls st (psf h o 0 (.int x)) else none := r_put rfl rfl
theorem rX3_guest_32 : pR 162 d 32 [.ref o, a1, a2] st h = pR 162 d 33 [.ref o, a1, a2] (.ref o :: st) h := pR_L rfl rfl
theorem rX3_guest_33 : pR 162 d 33 ls (.ref o :: st) h = if pis (pfl h 3 o 0) = true then pR 162 d 36 ls (pfl h 3 o 0 :: st) h else none := r_get rfl
theorem rX3_guest_36 : pR 162 d 36 ls st h = pR 162 d 37 ls (.int 1 :: st) h := pR_L rfl rfl
theorem rX3_guest_37 : pR 162 d 37 ls (.int y :: .int x :: st) h = if x = y then pR 162 d 40 ls st h else pR 162 d 44 ls st h := r_cne rfl rfl
theorem rX3_guest_40 : pR 162 d 40 ls st h = pR 162 d 41 ls (.int 0 :: st) h := pR_L rfl rfl
theorem rX3_guest_41 : pR 162 d 41 ls st h = pR 162 d 54 ls st h := pR_L rfl rfl
theorem rX3_guest_44 : pR 162 d 44 [.ref o, a1, a2] st h = pR 162 d 45 [.ref o, a1, a2] (.ref o :: st) h := pR_L rfl rfl
theorem rX3_guest_45 : pR 162 d 45 ls (.ref o :: st) h = if pis (pfl h 3 o 43) = true then pR 162 d 48 ls (pfl h 3 o 43 :: st) h else none := r_get rfl
theorem rX3_guest_48 : pR 162 d 48 ls st h = pR 162 d 49 ls (.int 4 :: st) h := pR_L rfl rfl
theorem rX3_guest_49 : pR 162 d 49 [a0, .int x, a2] st h = pR 162 d 50 [a0, .int x, a2] (.int x :: st) h := pR_L rfl rfl
theorem rX3_guest_50 : pR 162 d 50 ls (.int y :: .int x :: st) h = pR 162 d 51 ls (.int (x * y) :: st) h := pR_L rfl rfl
theorem rX3_guest_51 : pR 162 d 51 [a0, a1, .int x] st h = pR 162 d 52 [a0, a1, .int x] (.int x :: st) h := pR_L rfl rfl
theorem rX3_guest_52 : pR 162 d 52 ls (.int y :: .int x :: st) h = pR 162 d 53 ls (.int (x + y) :: st) h := pR_L rfl rfl
theorem rX3_guest_53 : pR 162 d 53 ls (.int x :: .ref o :: st) h = if (pin x (pln h 0 o) || pin x (pln h 9 o)) = true then pR 162 d 54 ls (.int (pct h o x.toNatClampNeg) :: st) h else none := pR_Lif rfl rfl
theorem rX3_guest_54 : pR 162 d 54 ls [.int x] h = some (.inl (some (.int x)), h) := pR_E rfl rfl
-- 163 BalloonStallModel aged (IIII)I
theorem eX3_aged : pCa 163 d [.ref o, .int x0, .int x1, .int x2, .int x3] h = pR 163 d 0 [.ref o, .int x0, .int x1, .int x2, .int x3, pU] [] h := rfl
theorem rX3_aged_0 : pR 163 d 0 [.ref o, a1, a2, a3, a4, a5] st h = pR 163 d 1 [.ref o, a1, a2, a3, a4, a5] (.ref o :: st) h := pR_L rfl rfl
theorem rX3_aged_1 : pR 163 d 1 [a0, .int x, a2, a3, a4, a5] st h = pR 163 d 2 [a0, .int x, a2, a3, a4, a5] (.int x :: st) h := pR_L rfl rfl
theorem rX3_aged_2 : pR 163 d 2 [a0, a1, a2, a3, .int x, a5] st h = pR 163 d 4 [a0, a1, a2, a3, .int x, a5] (.int x :: st) h := pR_L rfl rfl
theorem rX3_aged_4 : pR 163 (d + 1) 4 ls (b2 :: b1 :: .ref o :: st) h = if (pok 3 (pcl h o) && pw st) = true then pK 163 (d + 1) 4 3 ls st (pCa 115 d [.ref o, b1, b2] h) else none := r_callV rfl rfl rfl
theorem rX3_aged_7 : pR 163 d 7 ls (.int x :: st) h = if x = 0 then pR 163 d 34 ls st h else pR 163 d 10 ls st h := r_ieq rfl rfl
theorem rX3_aged_10 : pR 163 d 10 [a0, a1, .int x, a3, a4, a5] st h = pR 163 d 11 [a0, a1, .int x, a3, a4, a5] (.int x :: st) h := pR_L rfl rfl
theorem rX3_aged_11 : pR 163 d 11 ls st h = pR 163 d 12 ls (.int 0 :: st) h := pR_L rfl rfl
theorem rX3_aged_12 : pR 163 d 12 [.ref o, a1, a2, a3, a4, a5] st h = pR 163 d 13 [.ref o, a1, a2, a3, a4, a5] (.ref o :: st) h := pR_L rfl rfl
theorem rX3_aged_13 : pR 163 d 13 ls (.ref o :: st) h = if pis (pfl h 3 o 31) = true then pR 163 d 16 ls (pfl h 3 o 31 :: st) h else none := r_get rfl
theorem rX3_aged_16 : pR 163 d 16 ls st h = pR 163 d 17 ls (.int 1 :: st) h := pR_L rfl rfl
theorem rX3_aged_17 : pR 163 d 17 ls (.int y :: .int x :: st) h = pR 163 d 18 ls (.int (x - y) :: st) h := pR_L rfl rfl
theorem rX3_aged_18 : pR 163 (d + 1) 18 ls (b2 :: b1 :: b0 :: st) h = if pw st = true then pK 163 (d + 1) 18 3 ls st (pCa 69 d [b0, b1, b2] h) else none := r_callS rfl rfl rfl
theorem rX3_aged_21 : pR 163 d 21 ls (.int x :: st) h = if x = 0 then pR 163 d 34 ls st h else pR 163 d 24 ls st h := r_ieq rfl rfl
theorem rX3_aged_24 : pR 163 d 24 [a0, a1, a2, .int x, a4, a5] st h = pR 163 d 25 [a0, a1, a2, .int x, a4, a5] (.int x :: st) h := pR_L rfl rfl
theorem rX3_aged_25 : pR 163 d 25 ls st h = pR 163 d 26 ls (.int 0 :: st) h := pR_L rfl rfl
theorem rX3_aged_26 : pR 163 d 26 ls st h = pR 163 d 28 ls (.int 60 :: st) h := pR_L rfl rfl
theorem rX3_aged_28 : pR 163 (d + 1) 28 ls (b2 :: b1 :: b0 :: st) h = if pw st = true then pK 163 (d + 1) 28 3 ls st (pCa 69 d [b0, b1, b2] h) else none := r_callS rfl rfl rfl
theorem rX3_aged_31 : pR 163 d 31 ls (.int x :: st) h = if x = 0 then pR 163 d 34 ls st h else pR 163 d 36 ls st h := r_ine rfl rfl
theorem rX3_aged_34 : pR 163 d 34 ls st h = pR 163 d 35 ls (.int (-1) :: st) h := pR_L rfl rfl
theorem rX3_aged_35 : pR 163 d 35 ls [.int x] h = some (.inl (some (.int x)), h) := pR_E rfl rfl
theorem rX3_aged_36 : pR 163 d 36 [.ref o, a1, a2, a3, a4, a5] st h = pR 163 d 37 [.ref o, a1, a2, a3, a4, a5] (.ref o :: st) h := pR_L rfl rfl
theorem rX3_aged_37 : pR 163 d 37 [a0, .int x, a2, a3, a4, a5] st h = pR 163 d 38 [a0, .int x, a2, a3, a4, a5] (.int x :: st) h := pR_L rfl rfl
theorem rX3_aged_38 : pR 163 (d + 1) 38 ls (b1 :: .ref o :: st) h = if (pok 3 (pcl h o) && pw st) = true then pK 163 (d + 1) 38 3 ls st (pCa 164 d [.ref o, b1] h) else none := r_callV rfl rfl rfl
theorem rX3_aged_41 : pR 163 d 41 ls st h = pR 163 d 42 ls (.int 1 :: st) h := pR_L rfl rfl
theorem rX3_aged_42 : pR 163 d 42 [a0, a1, a2, a3, a4, a5] (.int x :: st) h = if p1 a5 = true then pR 163 d 44 [a0, a1, a2, a3, a4, .int x] st h else none := r_sto (n := 2) (k := 5) (v := .int x) (ls := [a0, a1, a2, a3, a4, a5]) rfl rfl rfl
theorem rX3_aged_44 : pR 163 d 44 [a0, a1, a2, a3, a4, .int x] st h = pR 163 d 46 [a0, a1, a2, a3, a4, .int x] (.int x :: st) h := pR_L rfl rfl
theorem rX3_aged_46 : pR 163 d 46 [a0, a1, a2, .int x, a4, a5] st h = pR 163 d 47 [a0, a1, a2, .int x, a4, a5] (.int x :: st) h := pR_L rfl rfl
theorem rX3_aged_47 : pR 163 d 47 ls (.int y :: .int x :: st) h = if y < x then pR 163 d 64 ls st h else pR 163 d 50 ls st h := r_cgt rfl rfl
theorem rX3_aged_50 : pR 163 d 50 [.ref o, a1, a2, a3, a4, a5] st h = pR 163 d 51 [.ref o, a1, a2, a3, a4, a5] (.ref o :: st) h := pR_L rfl rfl
theorem rX3_aged_51 : pR 163 d 51 [a0, .int x, a2, a3, a4, a5] st h = pR 163 d 52 [a0, .int x, a2, a3, a4, a5] (.int x :: st) h := pR_L rfl rfl
theorem rX3_aged_52 : pR 163 d 52 [a0, a1, .int x, a3, a4, a5] st h = pR 163 d 53 [a0, a1, .int x, a3, a4, a5] (.int x :: st) h := pR_L rfl rfl
theorem rX3_aged_53 : pR 163 d 53 [a0, a1, a2, a3, a4, .int x] st h = pR 163 d 55 [a0, a1, a2, a3, a4, .int x] (.int x :: st) h := pR_L rfl rfl
theorem rX3_aged_55 : pR 163 (d + 1) 55 ls (b3 :: b2 :: b1 :: .ref o :: st) h = if (pok 3 (pcl h o) && pw st) = true then pK 163 (d + 1) 55 3 ls st (pCa 165 d [.ref o, b1, b2, b3] h) else none := r_callV rfl rfl rfl
theorem rX3_aged_58 : pR 163 d 58 [a0, a1, a2, a3, a4, .int x] st h = pR 163 d 61 [a0, a1, a2, a3, a4, .int (x + 1)] st h := pR_L rfl rfl
theorem rX3_aged_61 : pR 163 d 61 ls st h = pR 163 d 44 ls st h := pR_L rfl rfl
theorem rX3_aged_64 : pR 163 d 64 [.ref o, a1, a2, a3, a4, a5] st h = pR 163 d 65 [.ref o, a1, a2, a3, a4, a5] (.ref o :: st) h := pR_L rfl rfl
theorem rX3_aged_65 : pR 163 d 65 ls (.ref o :: st) h = if pis (pfl h 3 o 49) = true then pR 163 d 68 ls (pfl h 3 o 49 :: st) h else none := r_get rfl
theorem rX3_aged_68 : pR 163 d 68 [a0, a1, a2, a3, .int x, a5] st h = pR 163 d 70 [a0, a1, a2, a3, .int x, a5] (.int x :: st) h := pR_L rfl rfl
theorem rX3_aged_70 : pR 163 d 70 ls (.int x :: .ref o :: st) h = if (pin x (pln h 0 o) || pin x (pln h 9 o)) = true then pR 163 d 71 ls (.int (pct h o x.toNatClampNeg) :: st) h else none := pR_Lif rfl rfl
theorem rX3_aged_71 : pR 163 d 71 ls [.int x] h = some (.inl (some (.int x)), h) := pR_E rfl rfl
-- 164 BalloonStallModel startAging (I)V
theorem eX3_startAging : pCa 164 d [.ref o, .int x0] h = pR 164 d 0 [.ref o, .int x0, pU] [] h := rfl
theorem rX3_startAging_0 : pR 164 d 0 [.ref o, a1, a2] st h = pR 164 d 1 [.ref o, a1, a2] (.ref o :: st) h := pR_L rfl rfl
theorem rX3_startAging_1 : pR 164 d 1 [.ref o, a1, a2] st h = pR 164 d 2 [.ref o, a1, a2] (.ref o :: st) h := pR_L rfl rfl
theorem rX3_startAging_2 : pR 164 d 2 [a0, .int x, a2] st h = pR 164 d 3 [a0, .int x, a2] (.int x :: st) h := pR_L rfl rfl
theorem rX3_startAging_3 : pR 164 (d + 1) 3 ls (b1 :: .ref o :: st) h = if (pok 3 (pcl h o) && pw st) = true then pK 164 (d + 1) 3 3 ls st (pCa 111 d [.ref o, b1] h) else none := r_callV rfl rfl rfl
theorem rX3_startAging_6 : pR 164 d 6 ls (.int x :: .ref o :: st) h = if pis (pfl h 3 o 51) = true then pR 164 d 9 ls st (psf h o 51 (.int x)) else none := r_put rfl rfl
theorem rX3_startAging_9 : pR 164 d 9 ls st h = pR 164 d 10 ls (.int 0 :: st) h := pR_L rfl rfl
theorem rX3_startAging_10 : pR 164 d 10 [a0, a1, a2] (.int x :: st) h = if p1 a2 = true then pR 164 d 11 [a0, a1, .int x] st h else none := r_sto (n := 1) (k := 2) (v := .int x) (ls := [a0, a1, a2]) rfl rfl rfl
theorem rX3_startAging_11 : pR 164 d 11 [a0, a1, .int x] st h = pR 164 d 12 [a0, a1, .int x] (.int x :: st) h := pR_L rfl rfl
theorem rX3_startAging_12 : pR 164 d 12 [.ref o, a1, a2] st h = pR 164 d 13 [.ref o, a1, a2] (.ref o :: st) h := pR_L rfl rfl
theorem rX3_startAging_13 : pR 164 d 13 ls (.ref o :: st) h = if pis (pfl h 3 o 13) = true then pR 164 d 16 ls (pfl h 3 o 13 :: st) h else none := r_get rfl
theorem rX3_startAging_16 : pR 164 d 16 [a0, .int x, a2] st h = pR 164 d 17 [a0, .int x, a2] (.int x :: st) h := pR_L rfl rfl
theorem rX3_startAging_17 : pR 164 d 17 ls (.int x :: .ref o :: st) h = if (pin x (pln h 0 o) || pin x (pln h 9 o)) = true then pR 164 d 18 ls (.int (pct h o x.toNatClampNeg) :: st) h else none := pR_Lif rfl rfl
theorem rX3_startAging_18 : pR 164 d 18 ls (.int y :: .int x :: st) h = if x < y then pR 164 d 21 ls st h else pR 164 d 44 ls st h := r_cge rfl rfl
theorem rX3_startAging_21 : pR 164 d 21 [.ref o, a1, a2] st h = pR 164 d 22 [.ref o, a1, a2] (.ref o :: st) h := pR_L rfl rfl
theorem rX3_startAging_22 : pR 164 d 22 ls (.ref o :: st) h = if pis (pfl h 3 o 49) = true then pR 164 d 25 ls (pfl h 3 o 49 :: st) h else none := r_get rfl
theorem rX3_startAging_25 : pR 164 d 25 [a0, a1, .int x] st h = pR 164 d 26 [a0, a1, .int x] (.int x :: st) h := pR_L rfl rfl
theorem rX3_startAging_26 : pR 164 d 26 [.ref o, a1, a2] st h = pR 164 d 27 [.ref o, a1, a2] (.ref o :: st) h := pR_L rfl rfl
theorem rX3_startAging_27 : pR 164 d 27 ls (.ref o :: st) h = if pis (pfl h 3 o 15) = true then pR 164 d 30 ls (pfl h 3 o 15 :: st) h else none := r_get rfl
theorem rX3_startAging_30 : pR 164 d 30 ls st h = pR 164 d 32 ls (.int 24 :: st) h := pR_L rfl rfl
theorem rX3_startAging_32 : pR 164 d 32 [a0, .int x, a2] st h = pR 164 d 33 [a0, .int x, a2] (.int x :: st) h := pR_L rfl rfl
theorem rX3_startAging_33 : pR 164 d 33 ls (.int y :: .int x :: st) h = pR 164 d 34 ls (.int (x * y) :: st) h := pR_L rfl rfl
theorem rX3_startAging_34 : pR 164 d 34 [a0, a1, .int x] st h = pR 164 d 35 [a0, a1, .int x] (.int x :: st) h := pR_L rfl rfl
theorem rX3_startAging_35 : pR 164 d 35 ls (.int y :: .int x :: st) h = pR 164 d 36 ls (.int (x + y) :: st) h := pR_L rfl rfl
theorem rX3_startAging_36 : pR 164 d 36 ls (.int x :: .ref o :: st) h = if (pin x (pln h 0 o) || pin x (pln h 9 o)) = true then pR 164 d 37 ls (.int (pct h o x.toNatClampNeg) :: st) h else none := pR_Lif rfl rfl
theorem rX3_startAging_37 : pR 164 d 37 ls (.int y :: .int x :: .ref o :: st) h = if pin x (pln h 0 o) = true then pR 164 d 38 ls st (pst h o x.toNatClampNeg y) else none := pR_Lif rfl rfl
theorem rX3_startAging_38 : pR 164 d 38 [a0, a1, .int x] st h = pR 164 d 41 [a0, a1, .int (x + 1)] st h := pR_L rfl rfl
theorem rX3_startAging_41 : pR 164 d 41 ls st h = pR 164 d 11 ls st h := pR_L rfl rfl
theorem rX3_startAging_44 : pR 164 d 44 ls [] h = some (.inl none, h) := pR_E rfl rfl
-- 165 BalloonStallModel age (III)V
theorem eX3_age : pCa 165 d [.ref o, .int x0, .int x1, .int x2] h = pR 165 d 0 [.ref o, .int x0, .int x1, .int x2, pU, pU, pU, pU] [] h := rfl
theorem rX3_age_0 : pR 165 d 0 ls st h = pR 165 d 1 ls (.int 0 :: st) h := pR_L rfl rfl
theorem rX3_age_1 : pR 165 d 1 [a0, a1, a2, a3, a4, a5, a6, a7] (.int x :: st) h = if p1 a4 = true then pR 165 d 3 [a0, a1, a2, a3, .int x, a5, a6, a7] st h else none := r_sto (n := 2) (k := 4) (v := .int x) (ls := [a0, a1, a2, a3, a4, a5, a6, a7]) rfl rfl rfl
theorem rX3_age_3 : pR 165 d 3 [a0, a1, a2, a3, .int x, a5, a6, a7] st h = pR 165 d 5 [a0, a1, a2, a3, .int x, a5, a6, a7] (.int x :: st) h := pR_L rfl rfl
theorem rX3_age_5 : pR 165 d 5 [.ref o, a1, a2, a3, a4, a5, a6, a7] st h = pR 165 d 6 [.ref o, a1, a2, a3, a4, a5, a6, a7] (.ref o :: st) h := pR_L rfl rfl
theorem rX3_age_6 : pR 165 d 6 ls (.ref o :: st) h = if pis (pfl h 3 o 13) = true then pR 165 d 9 ls (pfl h 3 o 13 :: st) h else none := r_get rfl
theorem rX3_age_9 : pR 165 d 9 [a0, .int x, a2, a3, a4, a5, a6, a7] st h = pR 165 d 10 [a0, .int x, a2, a3, a4, a5, a6, a7] (.int x :: st) h := pR_L rfl rfl
theorem rX3_age_10 : pR 165 d 10 ls (.int x :: .ref o :: st) h = if (pin x (pln h 0 o) || pin x (pln h 9 o)) = true then pR 165 d 11 ls (.int (pct h o x.toNatClampNeg) :: st) h else none := pR_Lif rfl rfl
theorem rX3_age_11 : pR 165 d 11 ls (.int y :: .int x :: st) h = if x < y then pR 165 d 14 ls st h else pR 165 d 157 ls st h := r_cge rfl rfl
theorem rX3_age_14 : pR 165 d 14 [.ref o, a1, a2, a3, a4, a5, a6, a7] st h = pR 165 d 15 [.ref o, a1, a2, a3, a4, a5, a6, a7] (.ref o :: st) h := pR_L rfl rfl
theorem rX3_age_15 : pR 165 d 15 ls (.ref o :: st) h = if pis (pfl h 3 o 51) = true then pR 165 d 18 ls (pfl h 3 o 51 :: st) h else none := r_get rfl
theorem rX3_age_18 : pR 165 d 18 [a0, a1, a2, a3, .int x, a5, a6, a7] st h = pR 165 d 20 [a0, a1, a2, a3, .int x, a5, a6, a7] (.int x :: st) h := pR_L rfl rfl
theorem rX3_age_20 : pR 165 d 20 ls (.int y :: .int x :: st) h = pR 165 d 21 ls (.int (x >>> (y &&& 31)) :: st) h := pR_L rfl rfl
theorem rX3_age_21 : pR 165 d 21 ls st h = pR 165 d 22 ls (.int 1 :: st) h := pR_L rfl rfl
theorem rX3_age_22 : pR 165 d 22 ls (.int y :: .int x :: st) h = pR 165 d 23 ls (.int (x &&& y) :: st) h := pR_L rfl rfl
theorem rX3_age_23 : pR 165 d 23 ls st h = pR 165 d 24 ls (.int 1 :: st) h := pR_L rfl rfl
theorem rX3_age_24 : pR 165 d 24 ls (.int y :: .int x :: st) h = if x = y then pR 165 d 27 ls st h else pR 165 d 143 ls st h := r_cne rfl rfl
theorem rX3_age_27 : pR 165 d 27 ls st h = pR 165 d 29 ls (.int 24 :: st) h := pR_L rfl rfl
theorem rX3_age_29 : pR 165 d 29 [a0, .int x, a2, a3, a4, a5, a6, a7] st h = pR 165 d 30 [a0, .int x, a2, a3, a4, a5, a6, a7] (.int x :: st) h := pR_L rfl rfl
theorem rX3_age_30 : pR 165 d 30 ls (.int y :: .int x :: st) h = pR 165 d 31 ls (.int (x * y) :: st) h := pR_L rfl rfl
theorem rX3_age_31 : pR 165 d 31 [a0, a1, a2, a3, .int x, a5, a6, a7] st h = pR 165 d 33 [a0, a1, a2, a3, .int x, a5, a6, a7] (.int x :: st) h := pR_L rfl rfl
theorem rX3_age_33 : pR 165 d 33 ls (.int y :: .int x :: st) h = pR 165 d 34 ls (.int (x + y) :: st) h := pR_L rfl rfl
theorem rX3_age_34 : pR 165 d 34 [a0, a1, a2, a3, a4, a5, a6, a7] (.int x :: st) h = if p1 a5 = true then pR 165 d 36 [a0, a1, a2, a3, a4, .int x, a6, a7] st h else none := r_sto (n := 2) (k := 5) (v := .int x) (ls := [a0, a1, a2, a3, a4, a5, a6, a7]) rfl rfl rfl
theorem rX3_age_36 : pR 165 d 36 [.ref o, a1, a2, a3, a4, a5, a6, a7] st h = pR 165 d 37 [.ref o, a1, a2, a3, a4, a5, a6, a7] (.ref o :: st) h := pR_L rfl rfl
theorem rX3_age_37 : pR 165 d 37 ls (.ref o :: st) h = if pis (pfl h 3 o 12) = true then pR 165 d 40 ls (pfl h 3 o 12 :: st) h else none := r_get rfl
theorem rX3_age_40 : pR 165 d 40 ls st h = pR 165 d 42 ls (.int 6 :: st) h := pR_L rfl rfl
theorem rX3_age_42 : pR 165 d 42 [a0, .int x, a2, a3, a4, a5, a6, a7] st h = pR 165 d 43 [a0, .int x, a2, a3, a4, a5, a6, a7] (.int x :: st) h := pR_L rfl rfl
theorem rX3_age_43 : pR 165 d 43 ls (.int y :: .int x :: st) h = pR 165 d 44 ls (.int (x * y) :: st) h := pR_L rfl rfl
theorem rX3_age_44 : pR 165 d 44 [.ref o, a1, a2, a3, a4, a5, a6, a7] st h = pR 165 d 45 [.ref o, a1, a2, a3, a4, a5, a6, a7] (.ref o :: st) h := pR_L rfl rfl
theorem rX3_age_45 : pR 165 d 45 ls (.ref o :: st) h = if pis (pfl h 3 o 18) = true then pR 165 d 48 ls (pfl h 3 o 18 :: st) h else none := r_get rfl
theorem rX3_age_48 : pR 165 d 48 [a0, a1, a2, a3, a4, .int x, a6, a7] st h = pR 165 d 50 [a0, a1, a2, a3, a4, .int x, a6, a7] (.int x :: st) h := pR_L rfl rfl
theorem rX3_age_50 : pR 165 d 50 ls (.int x :: .ref o :: st) h = if (pin x (pln h 0 o) || pin x (pln h 9 o)) = true then pR 165 d 51 ls (.int (pct h o x.toNatClampNeg) :: st) h else none := pR_Lif rfl rfl
theorem rX3_age_51 : pR 165 d 51 ls (.int y :: .int x :: st) h = pR 165 d 52 ls (.int (x + y) :: st) h := pR_L rfl rfl
theorem rX3_age_52 : pR 165 d 52 ls (.int x :: .ref o :: st) h = if (pin x (pln h 0 o) || pin x (pln h 9 o)) = true then pR 165 d 53 ls (.int (pct h o x.toNatClampNeg) :: st) h else none := pR_Lif rfl rfl
theorem rX3_age_53 : pR 165 d 53 [a0, a1, a2, a3, a4, a5, a6, a7] (.int x :: st) h = if p1 a6 = true then pR 165 d 55 [a0, a1, a2, a3, a4, a5, .int x, a7] st h else none := r_sto (n := 2) (k := 6) (v := .int x) (ls := [a0, a1, a2, a3, a4, a5, a6, a7]) rfl rfl rfl
theorem rX3_age_55 : pR 165 d 55 [.ref o, a1, a2, a3, a4, a5, a6, a7] st h = pR 165 d 56 [.ref o, a1, a2, a3, a4, a5, a6, a7] (.ref o :: st) h := pR_L rfl rfl
theorem rX3_age_56 : pR 165 d 56 [a0, .int x, a2, a3, a4, a5, a6, a7] st h = pR 165 d 57 [a0, .int x, a2, a3, a4, a5, a6, a7] (.int x :: st) h := pR_L rfl rfl
theorem rX3_age_57 : pR 165 d 57 [.ref o, a1, a2, a3, a4, a5, a6, a7] st h = pR 165 d 58 [.ref o, a1, a2, a3, a4, a5, a6, a7] (.ref o :: st) h := pR_L rfl rfl
theorem rX3_age_58 : pR 165 d 58 ls (.ref o :: st) h = if pis (pfl h 3 o 16) = true then pR 165 d 61 ls (pfl h 3 o 16 :: st) h else none := r_get rfl
theorem rX3_age_61 : pR 165 d 61 [a0, a1, a2, a3, a4, .int x, a6, a7] st h = pR 165 d 63 [a0, a1, a2, a3, a4, .int x, a6, a7] (.int x :: st) h := pR_L rfl rfl
theorem rX3_age_63 : pR 165 d 63 ls (.int x :: .ref o :: st) h = if (pin x (pln h 0 o) || pin x (pln h 9 o)) = true then pR 165 d 64 ls (.int (pct h o x.toNatClampNeg) :: st) h else none := pR_Lif rfl rfl
theorem rX3_age_64 : pR 165 d 64 [.ref o, a1, a2, a3, a4, a5, a6, a7] st h = pR 165 d 65 [.ref o, a1, a2, a3, a4, a5, a6, a7] (.ref o :: st) h := pR_L rfl rfl
theorem rX3_age_65 : pR 165 d 65 ls (.ref o :: st) h = if pis (pfl h 3 o 51) = true then pR 165 d 68 ls (pfl h 3 o 51 :: st) h else none := r_get rfl
theorem rX3_age_68 : pR 165 (d + 1) 68 ls (b3 :: b2 :: b1 :: .ref o :: st) h = if (pok 3 (pcl h o) && pw st) = true then pK 165 (d + 1) 68 3 ls st (pCa 112 d [.ref o, b1, b2, b3] h) else none := r_callV rfl rfl rfl
theorem rX3_age_71 : pR 165 d 71 [.ref o, a1, a2, a3, a4, a5, a6, a7] st h = pR 165 d 72 [.ref o, a1, a2, a3, a4, a5, a6, a7] (.ref o :: st) h := pR_L rfl rfl
theorem rX3_age_72 : pR 165 d 72 [a0, .int x, a2, a3, a4, a5, a6, a7] st h = pR 165 d 73 [a0, .int x, a2, a3, a4, a5, a6, a7] (.int x :: st) h := pR_L rfl rfl
theorem rX3_age_73 : pR 165 d 73 [.ref o, a1, a2, a3, a4, a5, a6, a7] st h = pR 165 d 74 [.ref o, a1, a2, a3, a4, a5, a6, a7] (.ref o :: st) h := pR_L rfl rfl
theorem rX3_age_74 : pR 165 d 74 ls (.ref o :: st) h = if pis (pfl h 3 o 17) = true then pR 165 d 77 ls (pfl h 3 o 17 :: st) h else none := r_get rfl
theorem rX3_age_77 : pR 165 d 77 [a0, a1, a2, a3, a4, .int x, a6, a7] st h = pR 165 d 79 [a0, a1, a2, a3, a4, .int x, a6, a7] (.int x :: st) h := pR_L rfl rfl
theorem rX3_age_79 : pR 165 d 79 ls (.int x :: .ref o :: st) h = if (pin x (pln h 0 o) || pin x (pln h 9 o)) = true then pR 165 d 80 ls (.int (pct h o x.toNatClampNeg) :: st) h else none := pR_Lif rfl rfl
theorem rX3_age_80 : pR 165 d 80 [.ref o, a1, a2, a3, a4, a5, a6, a7] st h = pR 165 d 81 [.ref o, a1, a2, a3, a4, a5, a6, a7] (.ref o :: st) h := pR_L rfl rfl
theorem rX3_age_81 : pR 165 d 81 ls (.ref o :: st) h = if pis (pfl h 3 o 51) = true then pR 165 d 84 ls (pfl h 3 o 51 :: st) h else none := r_get rfl
theorem rX3_age_84 : pR 165 (d + 1) 84 ls (b3 :: b2 :: b1 :: .ref o :: st) h = if (pok 3 (pcl h o) && pw st) = true then pK 165 (d + 1) 84 3 ls st (pCa 112 d [.ref o, b1, b2, b3] h) else none := r_callV rfl rfl rfl
theorem rX3_age_87 : pR 165 d 87 ls (.int y :: .int x :: st) h = pR 165 d 88 ls (.int (x + y) :: st) h := pR_L rfl rfl
theorem rX3_age_88 : pR 165 d 88 [a0, a1, a2, a3, a4, a5, a6, a7] (.int x :: st) h = if p1 a7 = true then pR 165 d 90 [a0, a1, a2, a3, a4, a5, a6, .int x] st h else none := r_sto (n := 2) (k := 7) (v := .int x) (ls := [a0, a1, a2, a3, a4, a5, a6, a7]) rfl rfl rfl
theorem rX3_age_90 : pR 165 d 90 [.ref o, a1, a2, a3, a4, a5, a6, a7] st h = pR 165 d 91 [.ref o, a1, a2, a3, a4, a5, a6, a7] (.ref o :: st) h := pR_L rfl rfl
theorem rX3_age_91 : pR 165 d 91 ls (.ref o :: st) h = if pis (pfl h 3 o 50) = true then pR 165 d 94 ls (pfl h 3 o 50 :: st) h else none := r_get rfl
theorem rX3_age_94 : pR 165 d 94 [a0, a1, a2, a3, .int x, a5, a6, a7] st h = pR 165 d 96 [a0, a1, a2, a3, .int x, a5, a6, a7] (.int x :: st) h := pR_L rfl rfl
theorem rX3_age_96 : pR 165 d 96 ls st h = pR 165 d 97 ls (.int 0 :: st) h := pR_L rfl rfl
theorem rX3_age_97 : pR 165 d 97 [.ref o, a1, a2, a3, a4, a5, a6, a7] st h = pR 165 d 98 [.ref o, a1, a2, a3, a4, a5, a6, a7] (.ref o :: st) h := pR_L rfl rfl
theorem rX3_age_98 : pR 165 d 98 ls (.ref o :: st) h = if pis (pfl h 3 o 49) = true then pR 165 d 101 ls (pfl h 3 o 49 :: st) h else none := r_get rfl
theorem rX3_age_101 : pR 165 d 101 [a0, a1, a2, a3, .int x, a5, a6, a7] st h = pR 165 d 103 [a0, a1, a2, a3, .int x, a5, a6, a7] (.int x :: st) h := pR_L rfl rfl
theorem rX3_age_103 : pR 165 d 103 ls (.int x :: .ref o :: st) h = if (pin x (pln h 0 o) || pin x (pln h 9 o)) = true then pR 165 d 104 ls (.int (pct h o x.toNatClampNeg) :: st) h else none := pR_Lif rfl rfl
theorem rX3_age_104 : pR 165 d 104 [.ref o, a1, a2, a3, a4, a5, a6, a7] st h = pR 165 d 105 [.ref o, a1, a2, a3, a4, a5, a6, a7] (.ref o :: st) h := pR_L rfl rfl
theorem rX3_age_105 : pR 165 d 105 [a0, a1, .int x, a3, a4, a5, a6, a7] st h = pR 165 d 106 [a0, a1, .int x, a3, a4, a5, a6, a7] (.int x :: st) h := pR_L rfl rfl
theorem rX3_age_106 : pR 165 d 106 [.ref o, a1, a2, a3, a4, a5, a6, a7] st h = pR 165 d 107 [.ref o, a1, a2, a3, a4, a5, a6, a7] (.ref o :: st) h := pR_L rfl rfl
theorem rX3_age_107 : pR 165 d 107 ls (.ref o :: st) h = if pis (pfl h 3 o 49) = true then pR 165 d 110 ls (pfl h 3 o 49 :: st) h else none := r_get rfl
theorem rX3_age_110 : pR 165 d 110 [a0, a1, a2, a3, .int x, a5, a6, a7] st h = pR 165 d 112 [a0, a1, a2, a3, .int x, a5, a6, a7] (.int x :: st) h := pR_L rfl rfl
theorem rX3_age_112 : pR 165 d 112 ls (.int x :: .ref o :: st) h = if (pin x (pln h 0 o) || pin x (pln h 9 o)) = true then pR 165 d 113 ls (.int (pct h o x.toNatClampNeg) :: st) h else none := pR_Lif rfl rfl
theorem rX3_age_113 : pR 165 d 113 [a0, a1, a2, .int x, a4, a5, a6, a7] st h = pR 165 d 114 [a0, a1, a2, .int x, a4, a5, a6, a7] (.int x :: st) h := pR_L rfl rfl
theorem rX3_age_114 : pR 165 d 114 [a0, a1, a2, a3, a4, a5, a6, .int x] st h = pR 165 d 116 [a0, a1, a2, a3, a4, a5, a6, .int x] (.int x :: st) h := pR_L rfl rfl
theorem rX3_age_116 : pR 165 d 116 [.ref o, a1, a2, a3, a4, a5, a6, a7] st h = pR 165 d 117 [.ref o, a1, a2, a3, a4, a5, a6, a7] (.ref o :: st) h := pR_L rfl rfl
theorem rX3_age_117 : pR 165 d 117 ls (.ref o :: st) h = if pis (pfl h 3 o 2) = true then pR 165 d 120 ls (pfl h 3 o 2 :: st) h else none := r_get rfl
theorem rX3_age_120 : pR 165 d 120 [a0, a1, a2, a3, a4, a5, .int x, a7] st h = pR 165 d 122 [a0, a1, a2, a3, a4, a5, .int x, a7] (.int x :: st) h := pR_L rfl rfl
theorem rX3_age_122 : pR 165 d 122 ls (.int x :: .ref o :: st) h = if (pin x (pln h 0 o) || pin x (pln h 9 o)) = true then pR 165 d 123 ls (.int (pct h o x.toNatClampNeg) :: st) h else none := pR_Lif rfl rfl
theorem rX3_age_123 : pR 165 d 123 [.ref o, a1, a2, a3, a4, a5, a6, a7] st h = pR 165 d 124 [.ref o, a1, a2, a3, a4, a5, a6, a7] (.ref o :: st) h := pR_L rfl rfl
theorem rX3_age_124 : pR 165 d 124 ls (.ref o :: st) h = if pis (pfl h 3 o 1) = true then pR 165 d 127 ls (pfl h 3 o 1 :: st) h else none := r_get rfl
theorem rX3_age_127 : pR 165 d 127 [a0, a1, a2, a3, a4, a5, .int x, a7] st h = pR 165 d 129 [a0, a1, a2, a3, a4, a5, .int x, a7] (.int x :: st) h := pR_L rfl rfl
theorem rX3_age_129 : pR 165 d 129 ls (.int x :: .ref o :: st) h = if (pin x (pln h 0 o) || pin x (pln h 9 o)) = true then pR 165 d 130 ls (.int (pct h o x.toNatClampNeg) :: st) h else none := pR_Lif rfl rfl
theorem rX3_age_130 : pR 165 (d + 1) 130 ls (b6 :: b5 :: b4 :: b3 :: b2 :: b1 :: .ref o :: st) h = if (pok 3 (pcl h o) && pw st) = true then pK 165 (d + 1) 130 3 ls st (pCa 103 d [.ref o, b1, b2, b3, b4, b5, b6] h) else none := r_callV rfl rfl rfl
theorem rX3_age_133 : pR 165 (d + 1) 133 ls (.int y :: .int x :: st) h = if pw st = true then pR 165 (d + 1) 136 ls (.int (if y < x then y else x) :: st) h else none := r_mn rfl
theorem rX3_age_136 : pR 165 (d + 1) 136 ls (.int y :: .int x :: st) h = if pw st = true then pR 165 (d + 1) 139 ls (.int (if x < y then y else x) :: st) h else none := r_mx rfl
theorem rX3_age_139 : pR 165 d 139 ls (.int y :: .int x :: .ref o :: st) h = if pin x (pln h 0 o) = true then pR 165 d 140 ls st (pst h o x.toNatClampNeg y) else none := pR_Lif rfl rfl
theorem rX3_age_140 : pR 165 d 140 ls st h = pR 165 d 151 ls st h := pR_L rfl rfl
theorem rX3_age_143 : pR 165 d 143 [.ref o, a1, a2, a3, a4, a5, a6, a7] st h = pR 165 d 144 [.ref o, a1, a2, a3, a4, a5, a6, a7] (.ref o :: st) h := pR_L rfl rfl
theorem rX3_age_144 : pR 165 d 144 ls (.ref o :: st) h = if pis (pfl h 3 o 50) = true then pR 165 d 147 ls (pfl h 3 o 50 :: st) h else none := r_get rfl
theorem rX3_age_147 : pR 165 d 147 [a0, a1, a2, a3, .int x, a5, a6, a7] st h = pR 165 d 149 [a0, a1, a2, a3, .int x, a5, a6, a7] (.int x :: st) h := pR_L rfl rfl
theorem rX3_age_149 : pR 165 d 149 ls st h = pR 165 d 150 ls (.int 0 :: st) h := pR_L rfl rfl
theorem rX3_age_150 : pR 165 d 150 ls (.int y :: .int x :: .ref o :: st) h = if pin x (pln h 0 o) = true then pR 165 d 151 ls st (pst h o x.toNatClampNeg y) else none := pR_Lif rfl rfl
theorem rX3_age_151 : pR 165 d 151 [a0, a1, a2, a3, .int x, a5, a6, a7] st h = pR 165 d 154 [a0, a1, a2, a3, .int (x + 1), a5, a6, a7] st h := pR_L rfl rfl
theorem rX3_age_154 : pR 165 d 154 ls st h = pR 165 d 3 ls st h := pR_L rfl rfl
theorem rX3_age_157 : pR 165 d 157 [.ref o, a1, a2, a3, a4, a5, a6, a7] st h = pR 165 d 158 [.ref o, a1, a2, a3, a4, a5, a6, a7] (.ref o :: st) h := pR_L rfl rfl
theorem rX3_age_158 : pR 165 d 158 ls (.ref o :: st) h = if pis (pfl h 3 o 51) = true then pR 165 d 161 ls (pfl h 3 o 51 :: st) h else none := r_get rfl
theorem rX3_age_161 : pR 165 d 161 [a0, a1, a2, a3, a4, a5, a6, a7] (.int x :: st) h = if p1 a4 = true then pR 165 d 163 [a0, a1, a2, a3, .int x, a5, a6, a7] st h else none := r_sto (n := 2) (k := 4) (v := .int x) (ls := [a0, a1, a2, a3, a4, a5, a6, a7]) rfl rfl rfl
theorem rX3_age_163 : pR 165 d 163 ls st h = pR 165 d 164 ls (.int 0 :: st) h := pR_L rfl rfl
theorem rX3_age_164 : pR 165 d 164 [a0, a1, a2, a3, a4, a5, a6, a7] (.int x :: st) h = if p1 a5 = true then pR 165 d 166 [a0, a1, a2, a3, a4, .int x, a6, a7] st h else none := r_sto (n := 2) (k := 5) (v := .int x) (ls := [a0, a1, a2, a3, a4, a5, a6, a7]) rfl rfl rfl
theorem rX3_age_166 : pR 165 d 166 [a0, a1, a2, a3, a4, .int x, a6, a7] st h = pR 165 d 168 [a0, a1, a2, a3, a4, .int x, a6, a7] (.int x :: st) h := pR_L rfl rfl
theorem rX3_age_168 : pR 165 d 168 [.ref o, a1, a2, a3, a4, a5, a6, a7] st h = pR 165 d 169 [.ref o, a1, a2, a3, a4, a5, a6, a7] (.ref o :: st) h := pR_L rfl rfl
theorem rX3_age_169 : pR 165 d 169 ls (.ref o :: st) h = if pis (pfl h 3 o 13) = true then pR 165 d 172 ls (pfl h 3 o 13 :: st) h else none := r_get rfl
theorem rX3_age_172 : pR 165 d 172 [a0, .int x, a2, a3, a4, a5, a6, a7] st h = pR 165 d 173 [a0, .int x, a2, a3, a4, a5, a6, a7] (.int x :: st) h := pR_L rfl rfl
theorem rX3_age_173 : pR 165 d 173 ls (.int x :: .ref o :: st) h = if (pin x (pln h 0 o) || pin x (pln h 9 o)) = true then pR 165 d 174 ls (.int (pct h o x.toNatClampNeg) :: st) h else none := pR_Lif rfl rfl
theorem rX3_age_174 : pR 165 d 174 ls (.int y :: .int x :: st) h = if x < y then pR 165 d 177 ls st h else pR 165 d 225 ls st h := r_cge rfl rfl
theorem rX3_age_177 : pR 165 d 177 [.ref o, a1, a2, a3, a4, a5, a6, a7] st h = pR 165 d 178 [.ref o, a1, a2, a3, a4, a5, a6, a7] (.ref o :: st) h := pR_L rfl rfl
theorem rX3_age_178 : pR 165 d 178 ls (.ref o :: st) h = if pis (pfl h 3 o 49) = true then pR 165 d 181 ls (pfl h 3 o 49 :: st) h else none := r_get rfl
theorem rX3_age_181 : pR 165 d 181 [a0, a1, a2, a3, a4, .int x, a6, a7] st h = pR 165 d 183 [a0, a1, a2, a3, a4, .int x, a6, a7] (.int x :: st) h := pR_L rfl rfl
theorem rX3_age_183 : pR 165 d 183 ls (.int x :: .ref o :: st) h = pR 165 d 184 ls (.int x :: .ref o :: .int x :: .ref o :: st) h := pR_L rfl rfl
theorem rX3_age_184 : pR 165 d 184 ls (.int x :: .ref o :: st) h = if (pin x (pln h 0 o) || pin x (pln h 9 o)) = true then pR 165 d 185 ls (.int (pct h o x.toNatClampNeg) :: st) h else none := pR_Lif rfl rfl
theorem rX3_age_185 : pR 165 d 185 [.ref o, a1, a2, a3, a4, a5, a6, a7] st h = pR 165 d 186 [.ref o, a1, a2, a3, a4, a5, a6, a7] (.ref o :: st) h := pR_L rfl rfl
theorem rX3_age_186 : pR 165 d 186 ls (.ref o :: st) h = if pis (pfl h 3 o 50) = true then pR 165 d 189 ls (pfl h 3 o 50 :: st) h else none := r_get rfl
theorem rX3_age_189 : pR 165 d 189 [a0, a1, a2, a3, a4, .int x, a6, a7] st h = pR 165 d 191 [a0, a1, a2, a3, a4, .int x, a6, a7] (.int x :: st) h := pR_L rfl rfl
theorem rX3_age_191 : pR 165 d 191 ls (.int x :: .ref o :: st) h = if (pin x (pln h 0 o) || pin x (pln h 9 o)) = true then pR 165 d 192 ls (.int (pct h o x.toNatClampNeg) :: st) h else none := pR_Lif rfl rfl
theorem rX3_age_192 : pR 165 d 192 ls (.int y :: .int x :: st) h = pR 165 d 193 ls (.int (x - y) :: st) h := pR_L rfl rfl
theorem rX3_age_193 : pR 165 d 193 ls (.int y :: .int x :: .ref o :: st) h = if pin x (pln h 0 o) = true then pR 165 d 194 ls st (pst h o x.toNatClampNeg y) else none := pR_Lif rfl rfl
theorem rX3_age_194 : pR 165 d 194 [a0, a1, a2, a3, .int x, a5, a6, a7] st h = pR 165 d 196 [a0, a1, a2, a3, .int x, a5, a6, a7] (.int x :: st) h := pR_L rfl rfl
theorem rX3_age_196 : pR 165 d 196 [.ref o, a1, a2, a3, a4, a5, a6, a7] st h = pR 165 d 197 [.ref o, a1, a2, a3, a4, a5, a6, a7] (.ref o :: st) h := pR_L rfl rfl
theorem rX3_age_197 : pR 165 d 197 ls (.ref o :: st) h = if pis (pfl h 3 o 49) = true then pR 165 d 200 ls (pfl h 3 o 49 :: st) h else none := r_get rfl
theorem rX3_age_200 : pR 165 d 200 [a0, a1, a2, a3, a4, .int x, a6, a7] st h = pR 165 d 202 [a0, a1, a2, a3, a4, .int x, a6, a7] (.int x :: st) h := pR_L rfl rfl
theorem rX3_age_202 : pR 165 d 202 ls (.int x :: .ref o :: st) h = if (pin x (pln h 0 o) || pin x (pln h 9 o)) = true then pR 165 d 203 ls (.int (pct h o x.toNatClampNeg) :: st) h else none := pR_Lif rfl rfl
theorem rX3_age_203 : pR 165 d 203 ls (.int x :: st) h = if x = 0 then pR 165 d 206 ls st h else pR 165 d 215 ls st h := r_ine rfl rfl
theorem rX3_age_206 : pR 165 d 206 ls st h = pR 165 d 207 ls (.int 1 :: st) h := pR_L rfl rfl
theorem rX3_age_207 : pR 165 d 207 [a0, a1, a2, a3, a4, .int x, a6, a7] st h = pR 165 d 209 [a0, a1, a2, a3, a4, .int x, a6, a7] (.int x :: st) h := pR_L rfl rfl
theorem rX3_age_209 : pR 165 d 209 ls (.int y :: .int x :: st) h = pR 165 d 210 ls (.int (x <<< (y &&& 31)) :: st) h := pR_L rfl rfl
theorem rX3_age_210 : pR 165 d 210 ls st h = pR 165 d 211 ls (.int (-1) :: st) h := pR_L rfl rfl
theorem rX3_age_211 : pR 165 d 211 ls (.int y :: .int x :: st) h = pR 165 d 212 ls (.int (x ^^^ y) :: st) h := pR_L rfl rfl
theorem rX3_age_212 : pR 165 d 212 ls st h = pR 165 d 216 ls st h := pR_L rfl rfl
theorem rX3_age_215 : pR 165 d 215 ls st h = pR 165 d 216 ls (.int (-1) :: st) h := pR_L rfl rfl
theorem rX3_age_216 : pR 165 d 216 ls (.int y :: .int x :: st) h = pR 165 d 217 ls (.int (x &&& y) :: st) h := pR_L rfl rfl
theorem rX3_age_217 : pR 165 d 217 [a0, a1, a2, a3, a4, a5, a6, a7] (.int x :: st) h = if p1 a4 = true then pR 165 d 219 [a0, a1, a2, a3, .int x, a5, a6, a7] st h else none := r_sto (n := 2) (k := 4) (v := .int x) (ls := [a0, a1, a2, a3, a4, a5, a6, a7]) rfl rfl rfl
theorem rX3_age_219 : pR 165 d 219 [a0, a1, a2, a3, a4, .int x, a6, a7] st h = pR 165 d 222 [a0, a1, a2, a3, a4, .int (x + 1), a6, a7] st h := pR_L rfl rfl
theorem rX3_age_222 : pR 165 d 222 ls st h = pR 165 d 166 ls st h := pR_L rfl rfl
theorem rX3_age_225 : pR 165 d 225 [.ref o, a1, a2, a3, a4, a5, a6, a7] st h = pR 165 d 226 [.ref o, a1, a2, a3, a4, a5, a6, a7] (.ref o :: st) h := pR_L rfl rfl
theorem rX3_age_226 : pR 165 d 226 [.ref o, a1, a2, a3, a4, a5, a6, a7] st h = pR 165 d 227 [.ref o, a1, a2, a3, a4, a5, a6, a7] (.ref o :: st) h := pR_L rfl rfl
theorem rX3_age_227 : pR 165 d 227 [a0, .int x, a2, a3, a4, a5, a6, a7] st h = pR 165 d 228 [a0, .int x, a2, a3, a4, a5, a6, a7] (.int x :: st) h := pR_L rfl rfl
theorem rX3_age_228 : pR 165 d 228 [a0, a1, a2, a3, .int x, a5, a6, a7] st h = pR 165 d 230 [a0, a1, a2, a3, .int x, a5, a6, a7] (.int x :: st) h := pR_L rfl rfl
theorem rX3_age_230 : pR 165 (d + 1) 230 ls (b2 :: b1 :: .ref o :: st) h = if (pok 3 (pcl h o) && pw st) = true then pK 165 (d + 1) 230 3 ls st (pCa 131 d [.ref o, b1, b2] h) else none := r_callV rfl rfl rfl
theorem rX3_age_233 : pR 165 d 233 ls (.int x :: .ref o :: st) h = if pis (pfl h 3 o 51) = true then pR 165 d 236 ls st (psf h o 51 (.int x)) else none := r_put rfl rfl
theorem rX3_age_236 : pR 165 d 236 ls st h = pR 165 d 237 ls (.int 0 :: st) h := pR_L rfl rfl
theorem rX3_age_237 : pR 165 d 237 [a0, a1, a2, a3, a4, a5, a6, a7] (.int x :: st) h = if p1 a5 = true then pR 165 d 239 [a0, a1, a2, a3, a4, .int x, a6, a7] st h else none := r_sto (n := 2) (k := 5) (v := .int x) (ls := [a0, a1, a2, a3, a4, a5, a6, a7]) rfl rfl rfl
theorem rX3_age_239 : pR 165 d 239 [a0, a1, a2, a3, a4, .int x, a6, a7] st h = pR 165 d 241 [a0, a1, a2, a3, a4, .int x, a6, a7] (.int x :: st) h := pR_L rfl rfl
theorem rX3_age_241 : pR 165 d 241 [.ref o, a1, a2, a3, a4, a5, a6, a7] st h = pR 165 d 242 [.ref o, a1, a2, a3, a4, a5, a6, a7] (.ref o :: st) h := pR_L rfl rfl
theorem rX3_age_242 : pR 165 d 242 ls (.ref o :: st) h = if pis (pfl h 3 o 13) = true then pR 165 d 245 ls (pfl h 3 o 13 :: st) h else none := r_get rfl
theorem rX3_age_245 : pR 165 d 245 [a0, .int x, a2, a3, a4, a5, a6, a7] st h = pR 165 d 246 [a0, .int x, a2, a3, a4, a5, a6, a7] (.int x :: st) h := pR_L rfl rfl
theorem rX3_age_246 : pR 165 d 246 ls (.int x :: .ref o :: st) h = if (pin x (pln h 0 o) || pin x (pln h 9 o)) = true then pR 165 d 247 ls (.int (pct h o x.toNatClampNeg) :: st) h else none := pR_Lif rfl rfl
theorem rX3_age_247 : pR 165 d 247 ls (.int y :: .int x :: st) h = if x < y then pR 165 d 250 ls st h else pR 165 d 287 ls st h := r_cge rfl rfl
theorem rX3_age_250 : pR 165 d 250 [.ref o, a1, a2, a3, a4, a5, a6, a7] st h = pR 165 d 251 [.ref o, a1, a2, a3, a4, a5, a6, a7] (.ref o :: st) h := pR_L rfl rfl
theorem rX3_age_251 : pR 165 d 251 ls (.ref o :: st) h = if pis (pfl h 3 o 49) = true then pR 165 d 254 ls (pfl h 3 o 49 :: st) h else none := r_get rfl
theorem rX3_age_254 : pR 165 d 254 [a0, a1, a2, a3, a4, .int x, a6, a7] st h = pR 165 d 256 [a0, a1, a2, a3, a4, .int x, a6, a7] (.int x :: st) h := pR_L rfl rfl
theorem rX3_age_256 : pR 165 d 256 [.ref o, a1, a2, a3, a4, a5, a6, a7] st h = pR 165 d 257 [.ref o, a1, a2, a3, a4, a5, a6, a7] (.ref o :: st) h := pR_L rfl rfl
theorem rX3_age_257 : pR 165 d 257 ls (.ref o :: st) h = if pis (pfl h 3 o 51) = true then pR 165 d 260 ls (pfl h 3 o 51 :: st) h else none := r_get rfl
theorem rX3_age_260 : pR 165 d 260 [a0, a1, a2, a3, a4, .int x, a6, a7] st h = pR 165 d 262 [a0, a1, a2, a3, a4, .int x, a6, a7] (.int x :: st) h := pR_L rfl rfl
theorem rX3_age_262 : pR 165 d 262 ls (.int y :: .int x :: st) h = pR 165 d 263 ls (.int (x >>> (y &&& 31)) :: st) h := pR_L rfl rfl
theorem rX3_age_263 : pR 165 d 263 ls st h = pR 165 d 264 ls (.int 1 :: st) h := pR_L rfl rfl
theorem rX3_age_264 : pR 165 d 264 ls (.int y :: .int x :: st) h = pR 165 d 265 ls (.int (x &&& y) :: st) h := pR_L rfl rfl
theorem rX3_age_265 : pR 165 d 265 ls st h = pR 165 d 266 ls (.int 1 :: st) h := pR_L rfl rfl
theorem rX3_age_266 : pR 165 d 266 ls (.int y :: .int x :: st) h = if x = y then pR 165 d 269 ls st h else pR 165 d 279 ls st h := r_cne rfl rfl
theorem rX3_age_269 : pR 165 d 269 [.ref o, a1, a2, a3, a4, a5, a6, a7] st h = pR 165 d 270 [.ref o, a1, a2, a3, a4, a5, a6, a7] (.ref o :: st) h := pR_L rfl rfl
theorem rX3_age_270 : pR 165 d 270 ls (.ref o :: st) h = if pis (pfl h 3 o 49) = true then pR 165 d 273 ls (pfl h 3 o 49 :: st) h else none := r_get rfl
theorem rX3_age_273 : pR 165 d 273 [a0, a1, a2, a3, a4, .int x, a6, a7] st h = pR 165 d 275 [a0, a1, a2, a3, a4, .int x, a6, a7] (.int x :: st) h := pR_L rfl rfl
theorem rX3_age_275 : pR 165 d 275 ls (.int x :: .ref o :: st) h = if (pin x (pln h 0 o) || pin x (pln h 9 o)) = true then pR 165 d 276 ls (.int (pct h o x.toNatClampNeg) :: st) h else none := pR_Lif rfl rfl
theorem rX3_age_276 : pR 165 d 276 ls st h = pR 165 d 280 ls st h := pR_L rfl rfl
theorem rX3_age_279 : pR 165 d 279 ls st h = pR 165 d 280 ls (.int 0 :: st) h := pR_L rfl rfl
theorem rX3_age_280 : pR 165 d 280 ls (.int y :: .int x :: .ref o :: st) h = if pin x (pln h 0 o) = true then pR 165 d 281 ls st (pst h o x.toNatClampNeg y) else none := pR_Lif rfl rfl
theorem rX3_age_281 : pR 165 d 281 [a0, a1, a2, a3, a4, .int x, a6, a7] st h = pR 165 d 284 [a0, a1, a2, a3, a4, .int (x + 1), a6, a7] st h := pR_L rfl rfl
theorem rX3_age_284 : pR 165 d 284 ls st h = pR 165 d 239 ls st h := pR_L rfl rfl
theorem rX3_age_287 : pR 165 d 287 ls [] h = some (.inl none, h) := pR_E rfl rfl
-- 166 BalloonStallModel falls (III)I
theorem eX3_falls : pCa 166 d [.ref o, .int x0, .int x1, .int x2] h = pR 166 d 0 [.ref o, .int x0, .int x1, .int x2, pU] [] h := rfl
theorem rX3_falls_0 : pR 166 d 0 [.ref o, a1, a2, a3, a4] st h = pR 166 d 1 [.ref o, a1, a2, a3, a4] (.ref o :: st) h := pR_L rfl rfl
theorem rX3_falls_1 : pR 166 d 1 [a0, .int x, a2, a3, a4] st h = pR 166 d 2 [a0, .int x, a2, a3, a4] (.int x :: st) h := pR_L rfl rfl
theorem rX3_falls_2 : pR 166 (d + 1) 2 ls (b1 :: .ref o :: st) h = if (pok 3 (pcl h o) && pw st) = true then pK 166 (d + 1) 2 3 ls st (pCa 108 d [.ref o, b1] h) else none := r_callV rfl rfl rfl
theorem rX3_falls_5 : pR 166 d 5 ls (.int x :: st) h = if x = 0 then pR 166 d 40 ls st h else pR 166 d 8 ls st h := r_ieq rfl rfl
theorem rX3_falls_8 : pR 166 d 8 [a0, a1, .int x, a3, a4] st h = pR 166 d 9 [a0, a1, .int x, a3, a4] (.int x :: st) h := pR_L rfl rfl
theorem rX3_falls_9 : pR 166 d 9 ls st h = pR 166 d 10 ls (.int 0 :: st) h := pR_L rfl rfl
theorem rX3_falls_10 : pR 166 d 10 [.ref o, a1, a2, a3, a4] st h = pR 166 d 11 [.ref o, a1, a2, a3, a4] (.ref o :: st) h := pR_L rfl rfl
theorem rX3_falls_11 : pR 166 d 11 ls (.ref o :: st) h = if pis (pfl h 3 o 31) = true then pR 166 d 14 ls (pfl h 3 o 31 :: st) h else none := r_get rfl
theorem rX3_falls_14 : pR 166 d 14 ls st h = pR 166 d 15 ls (.int 1 :: st) h := pR_L rfl rfl
theorem rX3_falls_15 : pR 166 d 15 ls (.int y :: .int x :: st) h = pR 166 d 16 ls (.int (x - y) :: st) h := pR_L rfl rfl
theorem rX3_falls_16 : pR 166 (d + 1) 16 ls (b2 :: b1 :: b0 :: st) h = if pw st = true then pK 166 (d + 1) 16 3 ls st (pCa 69 d [b0, b1, b2] h) else none := r_callS rfl rfl rfl
theorem rX3_falls_19 : pR 166 d 19 ls (.int x :: st) h = if x = 0 then pR 166 d 40 ls st h else pR 166 d 22 ls st h := r_ieq rfl rfl
theorem rX3_falls_22 : pR 166 d 22 [a0, a1, a2, .int x, a4] st h = pR 166 d 23 [a0, a1, a2, .int x, a4] (.int x :: st) h := pR_L rfl rfl
theorem rX3_falls_23 : pR 166 d 23 ls st h = pR 166 d 24 ls (.int 0 :: st) h := pR_L rfl rfl
theorem rX3_falls_24 : pR 166 d 24 ls st h = pR 166 d 25 ls (.int 2 :: st) h := pR_L rfl rfl
theorem rX3_falls_25 : pR 166 (d + 1) 25 ls (b2 :: b1 :: b0 :: st) h = if pw st = true then pK 166 (d + 1) 25 3 ls st (pCa 69 d [b0, b1, b2] h) else none := r_callS rfl rfl rfl
theorem rX3_falls_28 : pR 166 d 28 ls (.int x :: st) h = if x = 0 then pR 166 d 40 ls st h else pR 166 d 31 ls st h := r_ieq rfl rfl
theorem rX3_falls_31 : pR 166 d 31 [.ref o, a1, a2, a3, a4] st h = pR 166 d 32 [.ref o, a1, a2, a3, a4] (.ref o :: st) h := pR_L rfl rfl
theorem rX3_falls_32 : pR 166 d 32 ls (.ref o :: st) h = if pis (pfl h 3 o 13) = true then pR 166 d 35 ls (pfl h 3 o 13 :: st) h else none := r_get rfl
theorem rX3_falls_35 : pR 166 d 35 [a0, .int x, a2, a3, a4] st h = pR 166 d 36 [a0, .int x, a2, a3, a4] (.int x :: st) h := pR_L rfl rfl
theorem rX3_falls_36 : pR 166 d 36 ls (.int x :: .ref o :: st) h = if (pin x (pln h 0 o) || pin x (pln h 9 o)) = true then pR 166 d 37 ls (.int (pct h o x.toNatClampNeg) :: st) h else none := pR_Lif rfl rfl
theorem rX3_falls_37 : pR 166 d 37 ls (.int x :: st) h = if x = 0 then pR 166 d 40 ls st h else pR 166 d 42 ls st h := r_ine rfl rfl
theorem rX3_falls_40 : pR 166 d 40 ls st h = pR 166 d 41 ls (.int (-1) :: st) h := pR_L rfl rfl
theorem rX3_falls_41 : pR 166 d 41 ls [.int x] h = some (.inl (some (.int x)), h) := pR_E rfl rfl
theorem rX3_falls_42 : pR 166 d 42 [.ref o, a1, a2, a3, a4] st h = pR 166 d 43 [.ref o, a1, a2, a3, a4] (.ref o :: st) h := pR_L rfl rfl
theorem rX3_falls_43 : pR 166 d 43 [a0, .int x, a2, a3, a4] st h = pR 166 d 44 [a0, .int x, a2, a3, a4] (.int x :: st) h := pR_L rfl rfl
theorem rX3_falls_44 : pR 166 (d + 1) 44 ls (b1 :: .ref o :: st) h = if (pok 3 (pcl h o) && pw st) = true then pK 166 (d + 1) 44 3 ls st (pCa 164 d [.ref o, b1] h) else none := r_callV rfl rfl rfl
theorem rX3_falls_47 : pR 166 d 47 ls st h = pR 166 d 48 ls (.int 1 :: st) h := pR_L rfl rfl
theorem rX3_falls_48 : pR 166 d 48 [a0, a1, a2, a3, a4] (.int x :: st) h = if p1 a4 = true then pR 166 d 50 [a0, a1, a2, a3, .int x] st h else none := r_sto (n := 2) (k := 4) (v := .int x) (ls := [a0, a1, a2, a3, a4]) rfl rfl rfl
theorem rX3_falls_50 : pR 166 d 50 [a0, a1, a2, a3, .int x] st h = pR 166 d 52 [a0, a1, a2, a3, .int x] (.int x :: st) h := pR_L rfl rfl
theorem rX3_falls_52 : pR 166 d 52 ls st h = pR 166 d 54 ls (.int 60 :: st) h := pR_L rfl rfl
theorem rX3_falls_54 : pR 166 d 54 ls (.int y :: .int x :: st) h = if y < x then pR 166 d 121 ls st h else pR 166 d 57 ls st h := r_cgt rfl rfl
theorem rX3_falls_57 : pR 166 d 57 [.ref o, a1, a2, a3, a4] st h = pR 166 d 58 [.ref o, a1, a2, a3, a4] (.ref o :: st) h := pR_L rfl rfl
theorem rX3_falls_58 : pR 166 d 58 [a0, .int x, a2, a3, a4] st h = pR 166 d 59 [a0, .int x, a2, a3, a4] (.int x :: st) h := pR_L rfl rfl
theorem rX3_falls_59 : pR 166 d 59 [a0, a1, .int x, a3, a4] st h = pR 166 d 60 [a0, a1, .int x, a3, a4] (.int x :: st) h := pR_L rfl rfl
theorem rX3_falls_60 : pR 166 d 60 [a0, a1, a2, a3, .int x] st h = pR 166 d 62 [a0, a1, a2, a3, .int x] (.int x :: st) h := pR_L rfl rfl
theorem rX3_falls_62 : pR 166 (d + 1) 62 ls (b3 :: b2 :: b1 :: .ref o :: st) h = if (pok 3 (pcl h o) && pw st) = true then pK 166 (d + 1) 62 3 ls st (pCa 165 d [.ref o, b1, b2, b3] h) else none := r_callV rfl rfl rfl
theorem rX3_falls_65 : pR 166 d 65 [a0, a1, a2, .int x, a4] st h = pR 166 d 66 [a0, a1, a2, .int x, a4] (.int x :: st) h := pR_L rfl rfl
theorem rX3_falls_66 : pR 166 d 66 ls (.int x :: st) h = if x = 0 then pR 166 d 69 ls st h else pR 166 d 84 ls st h := r_ine rfl rfl
theorem rX3_falls_69 : pR 166 d 69 [.ref o, a1, a2, a3, a4] st h = pR 166 d 70 [.ref o, a1, a2, a3, a4] (.ref o :: st) h := pR_L rfl rfl
theorem rX3_falls_70 : pR 166 d 70 ls (.ref o :: st) h = if pis (pfl h 3 o 51) = true then pR 166 d 73 ls (pfl h 3 o 51 :: st) h else none := r_get rfl
theorem rX3_falls_73 : pR 166 d 73 [.ref o, a1, a2, a3, a4] st h = pR 166 d 74 [.ref o, a1, a2, a3, a4] (.ref o :: st) h := pR_L rfl rfl
theorem rX3_falls_74 : pR 166 d 74 [a0, .int x, a2, a3, a4] st h = pR 166 d 75 [a0, .int x, a2, a3, a4] (.int x :: st) h := pR_L rfl rfl
theorem rX3_falls_75 : pR 166 (d + 1) 75 ls (b1 :: .ref o :: st) h = if (pok 3 (pcl h o) && pw st) = true then pK 166 (d + 1) 75 3 ls st (pCa 111 d [.ref o, b1] h) else none := r_callV rfl rfl rfl
theorem rX3_falls_78 : pR 166 d 78 ls (.int y :: .int x :: st) h = if x = y then pR 166 d 115 ls st h else pR 166 d 81 ls st h := r_ceq rfl rfl
theorem rX3_falls_81 : pR 166 d 81 ls st h = pR 166 d 112 ls st h := pR_L rfl rfl
theorem rX3_falls_84 : pR 166 d 84 [a0, a1, a2, .int x, a4] st h = pR 166 d 85 [a0, a1, a2, .int x, a4] (.int x :: st) h := pR_L rfl rfl
theorem rX3_falls_85 : pR 166 d 85 ls st h = pR 166 d 86 ls (.int 1 :: st) h := pR_L rfl rfl
theorem rX3_falls_86 : pR 166 d 86 ls (.int y :: .int x :: st) h = if x = y then pR 166 d 89 ls st h else pR 166 d 105 ls st h := r_cne rfl rfl
theorem rX3_falls_89 : pR 166 d 89 [.ref o, a1, a2, a3, a4] st h = pR 166 d 90 [.ref o, a1, a2, a3, a4] (.ref o :: st) h := pR_L rfl rfl
theorem rX3_falls_90 : pR 166 d 90 [a0, .int x, a2, a3, a4] st h = pR 166 d 91 [a0, .int x, a2, a3, a4] (.int x :: st) h := pR_L rfl rfl
theorem rX3_falls_91 : pR 166 d 91 [.ref o, a1, a2, a3, a4] st h = pR 166 d 92 [.ref o, a1, a2, a3, a4] (.ref o :: st) h := pR_L rfl rfl
theorem rX3_falls_92 : pR 166 d 92 ls (.ref o :: st) h = if pis (pfl h 3 o 51) = true then pR 166 d 95 ls (pfl h 3 o 51 :: st) h else none := r_get rfl
theorem rX3_falls_95 : pR 166 (d + 1) 95 ls (b2 :: b1 :: .ref o :: st) h = if (pok 3 (pcl h o) && pw st) = true then pK 166 (d + 1) 95 3 ls st (pCa 132 d [.ref o, b1, b2] h) else none := r_callV rfl rfl rfl
theorem rX3_falls_98 : pR 166 d 98 ls st h = pR 166 d 99 ls (.int 1 :: st) h := pR_L rfl rfl
theorem rX3_falls_99 : pR 166 d 99 ls (.int y :: .int x :: st) h = if y < x then pR 166 d 102 ls st h else pR 166 d 115 ls st h := r_cle rfl rfl
theorem rX3_falls_102 : pR 166 d 102 ls st h = pR 166 d 112 ls st h := pR_L rfl rfl
theorem rX3_falls_105 : pR 166 d 105 [.ref o, a1, a2, a3, a4] st h = pR 166 d 106 [.ref o, a1, a2, a3, a4] (.ref o :: st) h := pR_L rfl rfl
theorem rX3_falls_106 : pR 166 d 106 ls (.ref o :: st) h = if pis (pfl h 3 o 51) = true then pR 166 d 109 ls (pfl h 3 o 51 :: st) h else none := r_get rfl
theorem rX3_falls_109 : pR 166 d 109 ls (.int x :: st) h = if x = 0 then pR 166 d 112 ls st h else pR 166 d 115 ls st h := r_ine rfl rfl
theorem rX3_falls_112 : pR 166 d 112 [a0, a1, a2, a3, .int x] st h = pR 166 d 114 [a0, a1, a2, a3, .int x] (.int x :: st) h := pR_L rfl rfl
theorem rX3_falls_114 : pR 166 d 114 ls [.int x] h = some (.inl (some (.int x)), h) := pR_E rfl rfl
theorem rX3_falls_115 : pR 166 d 115 [a0, a1, a2, a3, .int x] st h = pR 166 d 118 [a0, a1, a2, a3, .int (x + 1)] st h := pR_L rfl rfl
theorem rX3_falls_118 : pR 166 d 118 ls st h = pR 166 d 50 ls st h := pR_L rfl rfl
theorem rX3_falls_121 : pR 166 d 121 ls st h = pR 166 d 122 ls (.int (-1) :: st) h := pR_L rfl rfl
theorem rX3_falls_122 : pR 166 d 122 ls [.int x] h = some (.inl (some (.int x)), h) := pR_E rfl rfl
-- 167 BalloonStallModel count (I)I
theorem eX3_count : pCa 167 d [.ref o, .int x0] h = pR 167 d 0 [.ref o, .int x0] [] h := rfl
theorem rX3_count_0 : pR 167 d 0 [a0, .int x] st h = pR 167 d 1 [a0, .int x] (.int x :: st) h := pR_L rfl rfl
theorem rX3_count_1k0 : pR 167 d 1 ls (.int 0 :: st) h = pR 167 d 36 ls st h := pR_L rfl rfl
theorem rX3_count_1k1 : pR 167 d 1 ls (.int 1 :: st) h = pR 167 d 41 ls st h := pR_L rfl rfl
theorem rX3_count_1k2 : pR 167 d 1 ls (.int 2 :: st) h = pR 167 d 46 ls st h := pR_L rfl rfl
theorem rX3_count_1k3 : pR 167 d 1 ls (.int 3 :: st) h = pR 167 d 51 ls st h := pR_L rfl rfl
theorem rX3_count_1k4 : pR 167 d 1 ls (.int 4 :: st) h = pR 167 d 56 ls st h := pR_L rfl rfl
theorem rX3_count_1d (hx : x.toInt < 0 ∨ 4 < x.toInt) : pR 167 d 1 ls (.int x :: st) h = pR 167 d 61 ls st h := r_sw rfl rfl hx
theorem rX3_count_36 : pR 167 d 36 [.ref o, a1] st h = pR 167 d 37 [.ref o, a1] (.ref o :: st) h := pR_L rfl rfl
theorem rX3_count_37 : pR 167 d 37 ls (.ref o :: st) h = if pis (pfl h 3 o 5) = true then pR 167 d 40 ls (pfl h 3 o 5 :: st) h else none := r_get rfl
theorem rX3_count_40 : pR 167 d 40 ls [.int x] h = some (.inl (some (.int x)), h) := pR_E rfl rfl
theorem rX3_count_41 : pR 167 d 41 [.ref o, a1] st h = pR 167 d 42 [.ref o, a1] (.ref o :: st) h := pR_L rfl rfl
theorem rX3_count_42 : pR 167 d 42 ls (.ref o :: st) h = if pis (pfl h 3 o 20) = true then pR 167 d 45 ls (pfl h 3 o 20 :: st) h else none := r_get rfl
theorem rX3_count_45 : pR 167 d 45 ls [.int x] h = some (.inl (some (.int x)), h) := pR_E rfl rfl
theorem rX3_count_46 : pR 167 d 46 [.ref o, a1] st h = pR 167 d 47 [.ref o, a1] (.ref o :: st) h := pR_L rfl rfl
theorem rX3_count_47 : pR 167 d 47 ls (.ref o :: st) h = if pis (pfl h 3 o 45) = true then pR 167 d 50 ls (pfl h 3 o 45 :: st) h else none := r_get rfl
theorem rX3_count_50 : pR 167 d 50 ls [.int x] h = some (.inl (some (.int x)), h) := pR_E rfl rfl
theorem rX3_count_51 : pR 167 d 51 [.ref o, a1] st h = pR 167 d 52 [.ref o, a1] (.ref o :: st) h := pR_L rfl rfl
theorem rX3_count_52 : pR 167 d 52 ls (.ref o :: st) h = if pis (pfl h 3 o 7) = true then pR 167 d 55 ls (pfl h 3 o 7 :: st) h else none := r_get rfl
theorem rX3_count_55 : pR 167 d 55 ls [.int x] h = some (.inl (some (.int x)), h) := pR_E rfl rfl
theorem rX3_count_56 : pR 167 d 56 [.ref o, a1] st h = pR 167 d 57 [.ref o, a1] (.ref o :: st) h := pR_L rfl rfl
theorem rX3_count_57 : pR 167 d 57 ls (.ref o :: st) h = if pis (pfl h 3 o 31) = true then pR 167 d 60 ls (pfl h 3 o 31 :: st) h else none := r_get rfl
theorem rX3_count_60 : pR 167 d 60 ls [.int x] h = some (.inl (some (.int x)), h) := pR_E rfl rfl
theorem rX3_count_61 : pR 167 d 61 ls st h = pR 167 d 62 ls (.int (-1) :: st) h := pR_L rfl rfl
theorem rX3_count_62 : pR 167 d 62 ls [.int x] h = some (.inl (some (.int x)), h) := pR_E rfl rfl
end
