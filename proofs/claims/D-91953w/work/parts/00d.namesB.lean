/-! BalloonStall -/
set_option maxRecDepth 100000
def RX1 : String := "BalloonStall"
def TX1 : u_T := fun k => match k with
  | 0 => ("BalloonStall", "sorts", "[LBalloonStall$Sort;", true)
  | 1 => ("BalloonStall", "sortMany", "I", false)
  | 2 => ("BalloonStall", "tape", "[B", true)
  | 3 => ("BalloonStall", "length", "I", false)
  | 4 => ("BalloonStall", "figures", "[LBalloonStall$Figure;", true)
  | 5 => ("BalloonStall", "figureMany", "I", false)
  | 6 => ("BalloonStall", "images", "[I", true)
  | 7 => ("BalloonStall", "fars", "[I", true)
  | 8 => ("BalloonStall", "fewest", "[I", true)
  | 9 => ("BalloonStall", "waysOf", "[I", true)
  | 10 => ("BalloonStall", "oddPoints", "[I", true)
  | 11 => ("BalloonStall", "guests", "[LBalloonStall$Guest;", true)
  | 12 => ("BalloonStall", "guestMany", "I", false)
  | 13 => ("BalloonStall", "ran", "I", false)
  | 14 => ("BalloonStall", "bubblePace", "I", false)
  | 15 => ("BalloonStall", "balloonPace", "I", false)
  | 16 => ("BalloonStall", "latest", "I", false)
  | 17 => ("BalloonStall", "x", "J", false)
  | 18 => ("BalloonStall", "rules", "[LBalloonStall$Clause;", true)
  | 19 => ("BalloonStall", "letters", "LBalloonStall$Letters;", true)
  | 20 => ("BalloonStall", "ruleMany", "I", false)
  | 21 => ("BalloonStall", "ages", "[I", true)
  | _ => ("BalloonStall", "lost", "I", false)
def tyX1 : Nat → FieldType := fun k => match k with
  | 0 => .array (.object "BalloonStall$Sort")
  | 1 => .int
  | 2 => .array .byte
  | 3 => .int
  | 4 => .array (.object "BalloonStall$Figure")
  | 5 => .int
  | 6 => .array .int
  | 7 => .array .int
  | 8 => .array .int
  | 9 => .array .int
  | 10 => .array .int
  | 11 => .array (.object "BalloonStall$Guest")
  | 12 => .int
  | 13 => .int
  | 14 => .int
  | 15 => .int
  | 16 => .int
  | 17 => .long
  | 18 => .array (.object "BalloonStall$Clause")
  | 19 => .object "BalloonStall$Letters"
  | 20 => .int
  | 21 => .array .int
  | _ => .int
abbrev wsX10 : List Cond := u_ws RX1 TX1 23
set_option maxRecDepth 100000 in
theorem nmX1 : ∀ a, a < 23 → ∀ b, b < 23 → a ≠ b → (TX1 a).2.1 ≠ (TX1 b).2.1 := by decide +kernel
set_option maxRecDepth 100000 in
theorem tyX1_ok : ∀ k, k < 23 → parseFieldDescriptor (TX1 k).2.2.1 = some (tyX1 k) := by decide +kernel
abbrev cX1_init : ByteArray := prog_1_method_2_code
def yX1_init : MethodName := ⟨RX1, "<init>", "()V"⟩
def dkwX1_init_5 : List UInt8 := [181, 0, 64, 177]
abbrev dktX1_init_5 : List UInt8 := dkwX1_init_5 ++ []
def dkwX1_init_4 : List UInt8 := [189, 0, 51, 181, 0, 53, 42, 187, 0, 57, 89, 183, 0, 59, 181, 0, 60, 42, 16, 24, 188, 10]
abbrev dktX1_init_4 : List UInt8 := dkwX1_init_4 ++ dktX1_init_5
def dkwX1_init_3 : List UInt8 := [188, 10, 181, 0, 38, 42, 16, 30, 189, 0, 41, 181, 0, 43, 42, 4, 181, 0, 47, 42, 16, 6]
abbrev dktX1_init_3 : List UInt8 := dkwX1_init_3 ++ dktX1_init_4
def dkwX1_init_2 : List UInt8 := [181, 0, 29, 42, 17, 4, 0, 188, 10, 181, 0, 32, 42, 17, 4, 0, 188, 10, 181, 0, 35, 42, 16, 32]
abbrev dktX1_init_2 : List UInt8 := dkwX1_init_2 ++ dktX1_init_3
def dkwX1_init_1 : List UInt8 := [16, 12, 189, 0, 19, 181, 0, 21, 42, 16, 8, 188, 10, 181, 0, 25, 42, 17, 4, 0, 188, 10]
abbrev dktX1_init_1 : List UInt8 := dkwX1_init_1 ++ dktX1_init_2
def dkwX1_init_0 : List UInt8 := [42, 183, 0, 1, 42, 16, 6, 189, 0, 9, 181, 0, 11, 42, 17, 0, 200, 188, 8, 181, 0, 15, 42]
abbrev dktX1_init_0 : List UInt8 := dkwX1_init_0 ++ dktX1_init_1
theorem dksX1_init_0 : cX1_init.data.toList.drop 0 = dktX1_init_0 := by decide +kernel
theorem dksX1_init_1 : cX1_init.data.toList.drop 23 = dktX1_init_1 := dk_seg dksX1_init_0 23 rfl rfl
theorem dksX1_init_2 : cX1_init.data.toList.drop 45 = dktX1_init_2 := dk_seg dksX1_init_1 22 rfl rfl
theorem dksX1_init_3 : cX1_init.data.toList.drop 69 = dktX1_init_3 := dk_seg dksX1_init_2 24 rfl rfl
theorem dksX1_init_4 : cX1_init.data.toList.drop 91 = dktX1_init_4 := dk_seg dksX1_init_3 22 rfl rfl
theorem dksX1_init_5 : cX1_init.data.toList.drop 113 = dktX1_init_5 := dk_seg dksX1_init_4 22 rfl rfl
theorem dX1_init_0 : decode cX1_init 0 = .ok (.aload_n 0, 1) := dk_42 (dk_at dksX1_init_0 0 rfl rfl)
theorem dX1_init_1 : decode cX1_init 1 = .ok (.invokespecial 1, 3) := dk_183 0 1 (dk_at dksX1_init_0 1 rfl rfl)
theorem dX1_init_4 : decode cX1_init 4 = .ok (.aload_n 0, 1) := dk_42 (dk_at dksX1_init_0 4 rfl rfl)
theorem dX1_init_5 : decode cX1_init 5 = .ok (.bipush 6, 2) := dk_16 6 (dk_at dksX1_init_0 5 rfl rfl)
theorem dX1_init_7 : decode cX1_init 7 = .ok (.anewarray 9, 3) := dk_189 0 9 (dk_at dksX1_init_0 7 rfl rfl)
theorem dX1_init_10 : decode cX1_init 10 = .ok (.putfield 11, 3) := dk_181 0 11 (dk_at dksX1_init_0 10 rfl rfl)
theorem dX1_init_13 : decode cX1_init 13 = .ok (.aload_n 0, 1) := dk_42 (dk_at dksX1_init_0 13 rfl rfl)
theorem dX1_init_14 : decode cX1_init 14 = .ok (.sipush 200, 3) := dk_17 0 200 (dk_at dksX1_init_0 14 rfl rfl)
theorem dX1_init_17 : decode cX1_init 17 = .ok (.newarray .byte, 2) := dk_188_8 (dk_at dksX1_init_0 17 rfl rfl)
theorem dX1_init_19 : decode cX1_init 19 = .ok (.putfield 15, 3) := dk_181 0 15 (dk_at dksX1_init_0 19 rfl rfl)
theorem dX1_init_22 : decode cX1_init 22 = .ok (.aload_n 0, 1) := dk_42 (dk_at dksX1_init_0 22 rfl rfl)
theorem dX1_init_23 : decode cX1_init 23 = .ok (.bipush 12, 2) := dk_16 12 (dk_at dksX1_init_1 0 rfl rfl)
theorem dX1_init_25 : decode cX1_init 25 = .ok (.anewarray 19, 3) := dk_189 0 19 (dk_at dksX1_init_1 2 rfl rfl)
theorem dX1_init_28 : decode cX1_init 28 = .ok (.putfield 21, 3) := dk_181 0 21 (dk_at dksX1_init_1 5 rfl rfl)
theorem dX1_init_31 : decode cX1_init 31 = .ok (.aload_n 0, 1) := dk_42 (dk_at dksX1_init_1 8 rfl rfl)
theorem dX1_init_32 : decode cX1_init 32 = .ok (.bipush 8, 2) := dk_16 8 (dk_at dksX1_init_1 9 rfl rfl)
theorem dX1_init_34 : decode cX1_init 34 = .ok (.newarray .int, 2) := dk_188_10 (dk_at dksX1_init_1 11 rfl rfl)
theorem dX1_init_36 : decode cX1_init 36 = .ok (.putfield 25, 3) := dk_181 0 25 (dk_at dksX1_init_1 13 rfl rfl)
theorem dX1_init_39 : decode cX1_init 39 = .ok (.aload_n 0, 1) := dk_42 (dk_at dksX1_init_1 16 rfl rfl)
theorem dX1_init_40 : decode cX1_init 40 = .ok (.sipush 1024, 3) := dk_17 4 0 (dk_at dksX1_init_1 17 rfl rfl)
theorem dX1_init_43 : decode cX1_init 43 = .ok (.newarray .int, 2) := dk_188_10 (dk_at dksX1_init_1 20 rfl rfl)
theorem dX1_init_45 : decode cX1_init 45 = .ok (.putfield 29, 3) := dk_181 0 29 (dk_at dksX1_init_2 0 rfl rfl)
theorem dX1_init_48 : decode cX1_init 48 = .ok (.aload_n 0, 1) := dk_42 (dk_at dksX1_init_2 3 rfl rfl)
theorem dX1_init_49 : decode cX1_init 49 = .ok (.sipush 1024, 3) := dk_17 4 0 (dk_at dksX1_init_2 4 rfl rfl)
theorem dX1_init_52 : decode cX1_init 52 = .ok (.newarray .int, 2) := dk_188_10 (dk_at dksX1_init_2 7 rfl rfl)
theorem dX1_init_54 : decode cX1_init 54 = .ok (.putfield 32, 3) := dk_181 0 32 (dk_at dksX1_init_2 9 rfl rfl)
theorem dX1_init_57 : decode cX1_init 57 = .ok (.aload_n 0, 1) := dk_42 (dk_at dksX1_init_2 12 rfl rfl)
theorem dX1_init_58 : decode cX1_init 58 = .ok (.sipush 1024, 3) := dk_17 4 0 (dk_at dksX1_init_2 13 rfl rfl)
theorem dX1_init_61 : decode cX1_init 61 = .ok (.newarray .int, 2) := dk_188_10 (dk_at dksX1_init_2 16 rfl rfl)
theorem dX1_init_63 : decode cX1_init 63 = .ok (.putfield 35, 3) := dk_181 0 35 (dk_at dksX1_init_2 18 rfl rfl)
theorem dX1_init_66 : decode cX1_init 66 = .ok (.aload_n 0, 1) := dk_42 (dk_at dksX1_init_2 21 rfl rfl)
theorem dX1_init_67 : decode cX1_init 67 = .ok (.bipush 32, 2) := dk_16 32 (dk_at dksX1_init_2 22 rfl rfl)
theorem dX1_init_69 : decode cX1_init 69 = .ok (.newarray .int, 2) := dk_188_10 (dk_at dksX1_init_3 0 rfl rfl)
theorem dX1_init_71 : decode cX1_init 71 = .ok (.putfield 38, 3) := dk_181 0 38 (dk_at dksX1_init_3 2 rfl rfl)
theorem dX1_init_74 : decode cX1_init 74 = .ok (.aload_n 0, 1) := dk_42 (dk_at dksX1_init_3 5 rfl rfl)
theorem dX1_init_75 : decode cX1_init 75 = .ok (.bipush 30, 2) := dk_16 30 (dk_at dksX1_init_3 6 rfl rfl)
theorem dX1_init_77 : decode cX1_init 77 = .ok (.anewarray 41, 3) := dk_189 0 41 (dk_at dksX1_init_3 8 rfl rfl)
theorem dX1_init_80 : decode cX1_init 80 = .ok (.putfield 43, 3) := dk_181 0 43 (dk_at dksX1_init_3 11 rfl rfl)
theorem dX1_init_83 : decode cX1_init 83 = .ok (.aload_n 0, 1) := dk_42 (dk_at dksX1_init_3 14 rfl rfl)
theorem dX1_init_84 : decode cX1_init 84 = .ok (.iconst 1, 1) := dk_4 (dk_at dksX1_init_3 15 rfl rfl)
theorem dX1_init_85 : decode cX1_init 85 = .ok (.putfield 47, 3) := dk_181 0 47 (dk_at dksX1_init_3 16 rfl rfl)
theorem dX1_init_88 : decode cX1_init 88 = .ok (.aload_n 0, 1) := dk_42 (dk_at dksX1_init_3 19 rfl rfl)
theorem dX1_init_89 : decode cX1_init 89 = .ok (.bipush 6, 2) := dk_16 6 (dk_at dksX1_init_3 20 rfl rfl)
theorem dX1_init_91 : decode cX1_init 91 = .ok (.anewarray 51, 3) := dk_189 0 51 (dk_at dksX1_init_4 0 rfl rfl)
theorem dX1_init_94 : decode cX1_init 94 = .ok (.putfield 53, 3) := dk_181 0 53 (dk_at dksX1_init_4 3 rfl rfl)
theorem dX1_init_97 : decode cX1_init 97 = .ok (.aload_n 0, 1) := dk_42 (dk_at dksX1_init_4 6 rfl rfl)
theorem dX1_init_98 : decode cX1_init 98 = .ok (.new 57, 3) := dk_187 0 57 (dk_at dksX1_init_4 7 rfl rfl)
theorem dX1_init_101 : decode cX1_init 101 = .ok (.dup, 1) := dk_89 (dk_at dksX1_init_4 10 rfl rfl)
theorem dX1_init_102 : decode cX1_init 102 = .ok (.invokespecial 59, 3) := dk_183 0 59 (dk_at dksX1_init_4 11 rfl rfl)
theorem dX1_init_105 : decode cX1_init 105 = .ok (.putfield 60, 3) := dk_181 0 60 (dk_at dksX1_init_4 14 rfl rfl)
theorem dX1_init_108 : decode cX1_init 108 = .ok (.aload_n 0, 1) := dk_42 (dk_at dksX1_init_4 17 rfl rfl)
theorem dX1_init_109 : decode cX1_init 109 = .ok (.bipush 24, 2) := dk_16 24 (dk_at dksX1_init_4 18 rfl rfl)
theorem dX1_init_111 : decode cX1_init 111 = .ok (.newarray .int, 2) := dk_188_10 (dk_at dksX1_init_4 20 rfl rfl)
theorem dX1_init_113 : decode cX1_init 113 = .ok (.putfield 64, 3) := dk_181 0 64 (dk_at dksX1_init_5 0 rfl rfl)
theorem dX1_init_116 : decode cX1_init 116 = .ok (.return_, 1) := dk_177 (dk_at dksX1_init_5 3 rfl rfl)
abbrev cX1_sort : ByteArray := prog_1_method_4_code
def yX1_sort : MethodName := ⟨RX1, "sort", "(III)I"⟩
def dkwX1_sort_3 : List UInt8 := [180, 0, 67, 4, 96, 181, 0, 67, 42, 180, 0, 67, 4, 100, 172]
abbrev dktX1_sort_3 : List UInt8 := dkwX1_sort_3 ++ []
def dkwX1_sort_2 : List UInt8 := [172, 42, 180, 0, 11, 42, 180, 0, 67, 187, 0, 9, 89, 27, 28, 29, 183, 0, 82, 83, 42, 89]
abbrev dktX1_sort_2 : List UInt8 := dkwX1_sort_2 ++ dktX1_sort_3
def dkwX1_sort_1 : List UInt8 := [133, 9, 20, 0, 78, 184, 0, 74, 153, 0, 15, 29, 133, 9, 20, 0, 80, 184, 0, 74, 154, 0, 5, 2]
abbrev dktX1_sort_1 : List UInt8 := dkwX1_sort_1 ++ dktX1_sort_2
def dkwX1_sort_0 : List UInt8 := [42, 180, 0, 67, 16, 6, 159, 0, 41, 27, 133, 20, 0, 70, 20, 0, 72, 184, 0, 74, 153, 0, 27, 28]
abbrev dktX1_sort_0 : List UInt8 := dkwX1_sort_0 ++ dktX1_sort_1
theorem dksX1_sort_0 : cX1_sort.data.toList.drop 0 = dktX1_sort_0 := by decide +kernel
theorem dksX1_sort_1 : cX1_sort.data.toList.drop 24 = dktX1_sort_1 := dk_seg dksX1_sort_0 24 rfl rfl
theorem dksX1_sort_2 : cX1_sort.data.toList.drop 48 = dktX1_sort_2 := dk_seg dksX1_sort_1 24 rfl rfl
theorem dksX1_sort_3 : cX1_sort.data.toList.drop 70 = dktX1_sort_3 := dk_seg dksX1_sort_2 22 rfl rfl
theorem dX1_sort_0 : decode cX1_sort 0 = .ok (.aload_n 0, 1) := dk_42 (dk_at dksX1_sort_0 0 rfl rfl)
theorem dX1_sort_1 : decode cX1_sort 1 = .ok (.getfield 67, 3) := dk_180 0 67 (dk_at dksX1_sort_0 1 rfl rfl)
theorem dX1_sort_4 : decode cX1_sort 4 = .ok (.bipush 6, 2) := dk_16 6 (dk_at dksX1_sort_0 4 rfl rfl)
theorem dX1_sort_6 : decode cX1_sort 6 = .ok (.if_icmp .eq 41, 3) := dk_159 0 41 (dk_at dksX1_sort_0 6 rfl rfl)
theorem dX1_sort_9 : decode cX1_sort 9 = .ok (.iload_n 1, 1) := dk_27 (dk_at dksX1_sort_0 9 rfl rfl)
theorem dX1_sort_10 : decode cX1_sort 10 = .ok (.i2l, 1) := dk_133 (dk_at dksX1_sort_0 10 rfl rfl)
theorem dX1_sort_11 : decode cX1_sort 11 = .ok (.ldc2_w 70, 3) := dk_20 0 70 (dk_at dksX1_sort_0 11 rfl rfl)
theorem dX1_sort_14 : decode cX1_sort 14 = .ok (.ldc2_w 72, 3) := dk_20 0 72 (dk_at dksX1_sort_0 14 rfl rfl)
theorem dX1_sort_17 : decode cX1_sort 17 = .ok (.invokestatic 74, 3) := dk_184 0 74 (dk_at dksX1_sort_0 17 rfl rfl)
theorem dX1_sort_20 : decode cX1_sort 20 = .ok (.ifCond .eq 27, 3) := dk_153 0 27 (dk_at dksX1_sort_0 20 rfl rfl)
theorem dX1_sort_23 : decode cX1_sort 23 = .ok (.iload_n 2, 1) := dk_28 (dk_at dksX1_sort_0 23 rfl rfl)
theorem dX1_sort_24 : decode cX1_sort 24 = .ok (.i2l, 1) := dk_133 (dk_at dksX1_sort_1 0 rfl rfl)
theorem dX1_sort_25 : decode cX1_sort 25 = .ok (.lconst 0, 1) := dk_9 (dk_at dksX1_sort_1 1 rfl rfl)
theorem dX1_sort_26 : decode cX1_sort 26 = .ok (.ldc2_w 78, 3) := dk_20 0 78 (dk_at dksX1_sort_1 2 rfl rfl)
theorem dX1_sort_29 : decode cX1_sort 29 = .ok (.invokestatic 74, 3) := dk_184 0 74 (dk_at dksX1_sort_1 5 rfl rfl)
theorem dX1_sort_32 : decode cX1_sort 32 = .ok (.ifCond .eq 15, 3) := dk_153 0 15 (dk_at dksX1_sort_1 8 rfl rfl)
theorem dX1_sort_35 : decode cX1_sort 35 = .ok (.iload_n 3, 1) := dk_29 (dk_at dksX1_sort_1 11 rfl rfl)
theorem dX1_sort_36 : decode cX1_sort 36 = .ok (.i2l, 1) := dk_133 (dk_at dksX1_sort_1 12 rfl rfl)
theorem dX1_sort_37 : decode cX1_sort 37 = .ok (.lconst 0, 1) := dk_9 (dk_at dksX1_sort_1 13 rfl rfl)
theorem dX1_sort_38 : decode cX1_sort 38 = .ok (.ldc2_w 80, 3) := dk_20 0 80 (dk_at dksX1_sort_1 14 rfl rfl)
theorem dX1_sort_41 : decode cX1_sort 41 = .ok (.invokestatic 74, 3) := dk_184 0 74 (dk_at dksX1_sort_1 17 rfl rfl)
theorem dX1_sort_44 : decode cX1_sort 44 = .ok (.ifCond .ne 5, 3) := dk_154 0 5 (dk_at dksX1_sort_1 20 rfl rfl)
theorem dX1_sort_47 : decode cX1_sort 47 = .ok (.iconst (-1), 1) := dk_2 (dk_at dksX1_sort_1 23 rfl rfl)
theorem dX1_sort_48 : decode cX1_sort 48 = .ok (.ireturn, 1) := dk_172 (dk_at dksX1_sort_2 0 rfl rfl)
theorem dX1_sort_49 : decode cX1_sort 49 = .ok (.aload_n 0, 1) := dk_42 (dk_at dksX1_sort_2 1 rfl rfl)
theorem dX1_sort_50 : decode cX1_sort 50 = .ok (.getfield 11, 3) := dk_180 0 11 (dk_at dksX1_sort_2 2 rfl rfl)
theorem dX1_sort_53 : decode cX1_sort 53 = .ok (.aload_n 0, 1) := dk_42 (dk_at dksX1_sort_2 5 rfl rfl)
theorem dX1_sort_54 : decode cX1_sort 54 = .ok (.getfield 67, 3) := dk_180 0 67 (dk_at dksX1_sort_2 6 rfl rfl)
theorem dX1_sort_57 : decode cX1_sort 57 = .ok (.new 9, 3) := dk_187 0 9 (dk_at dksX1_sort_2 9 rfl rfl)
theorem dX1_sort_60 : decode cX1_sort 60 = .ok (.dup, 1) := dk_89 (dk_at dksX1_sort_2 12 rfl rfl)
theorem dX1_sort_61 : decode cX1_sort 61 = .ok (.iload_n 1, 1) := dk_27 (dk_at dksX1_sort_2 13 rfl rfl)
theorem dX1_sort_62 : decode cX1_sort 62 = .ok (.iload_n 2, 1) := dk_28 (dk_at dksX1_sort_2 14 rfl rfl)
theorem dX1_sort_63 : decode cX1_sort 63 = .ok (.iload_n 3, 1) := dk_29 (dk_at dksX1_sort_2 15 rfl rfl)
theorem dX1_sort_64 : decode cX1_sort 64 = .ok (.invokespecial 82, 3) := dk_183 0 82 (dk_at dksX1_sort_2 16 rfl rfl)
theorem dX1_sort_67 : decode cX1_sort 67 = .ok (.aastore, 1) := dk_83 (dk_at dksX1_sort_2 19 rfl rfl)
theorem dX1_sort_68 : decode cX1_sort 68 = .ok (.aload_n 0, 1) := dk_42 (dk_at dksX1_sort_2 20 rfl rfl)
theorem dX1_sort_69 : decode cX1_sort 69 = .ok (.dup, 1) := dk_89 (dk_at dksX1_sort_2 21 rfl rfl)
theorem dX1_sort_70 : decode cX1_sort 70 = .ok (.getfield 67, 3) := dk_180 0 67 (dk_at dksX1_sort_3 0 rfl rfl)
theorem dX1_sort_73 : decode cX1_sort 73 = .ok (.iconst 1, 1) := dk_4 (dk_at dksX1_sort_3 3 rfl rfl)
theorem dX1_sort_74 : decode cX1_sort 74 = .ok (.iadd, 1) := dk_96 (dk_at dksX1_sort_3 4 rfl rfl)
theorem dX1_sort_75 : decode cX1_sort 75 = .ok (.putfield 67, 3) := dk_181 0 67 (dk_at dksX1_sort_3 5 rfl rfl)
theorem dX1_sort_78 : decode cX1_sort 78 = .ok (.aload_n 0, 1) := dk_42 (dk_at dksX1_sort_3 8 rfl rfl)
theorem dX1_sort_79 : decode cX1_sort 79 = .ok (.getfield 67, 3) := dk_180 0 67 (dk_at dksX1_sort_3 9 rfl rfl)
theorem dX1_sort_82 : decode cX1_sort 82 = .ok (.iconst 1, 1) := dk_4 (dk_at dksX1_sort_3 12 rfl rfl)
theorem dX1_sort_83 : decode cX1_sort 83 = .ok (.isub, 1) := dk_100 (dk_at dksX1_sort_3 13 rfl rfl)
theorem dX1_sort_84 : decode cX1_sort 84 = .ok (.ireturn, 1) := dk_172 (dk_at dksX1_sort_3 14 rfl rfl)
abbrev cX1_isIn : ByteArray := prog_1_method_1_code
def yX1_isIn : MethodName := ⟨RX1, "isIn", "(JJJ)Z"⟩
def dkwX1_isIn_0 : List UInt8 := [30, 32, 148, 155, 0, 14, 30, 22, 4, 148, 157, 0, 7, 4, 167, 0, 4, 3, 172]
abbrev dktX1_isIn_0 : List UInt8 := dkwX1_isIn_0 ++ []
theorem dksX1_isIn_0 : cX1_isIn.data.toList.drop 0 = dktX1_isIn_0 := by decide +kernel
theorem dX1_isIn_0 : decode cX1_isIn 0 = .ok (.lload_n 0, 1) := dk_30 (dk_at dksX1_isIn_0 0 rfl rfl)
theorem dX1_isIn_1 : decode cX1_isIn 1 = .ok (.lload_n 2, 1) := dk_32 (dk_at dksX1_isIn_0 1 rfl rfl)
theorem dX1_isIn_2 : decode cX1_isIn 2 = .ok (.lcmp, 1) := dk_148 (dk_at dksX1_isIn_0 2 rfl rfl)
theorem dX1_isIn_3 : decode cX1_isIn 3 = .ok (.ifCond .lt 14, 3) := dk_155 0 14 (dk_at dksX1_isIn_0 3 rfl rfl)
theorem dX1_isIn_6 : decode cX1_isIn 6 = .ok (.lload_n 0, 1) := dk_30 (dk_at dksX1_isIn_0 6 rfl rfl)
theorem dX1_isIn_7 : decode cX1_isIn 7 = .ok (.lload 4, 2) := dk_22 4 (dk_at dksX1_isIn_0 7 rfl rfl)
theorem dX1_isIn_9 : decode cX1_isIn 9 = .ok (.lcmp, 1) := dk_148 (dk_at dksX1_isIn_0 9 rfl rfl)
theorem dX1_isIn_10 : decode cX1_isIn 10 = .ok (.ifCond .gt 7, 3) := dk_157 0 7 (dk_at dksX1_isIn_0 10 rfl rfl)
theorem dX1_isIn_13 : decode cX1_isIn 13 = .ok (.iconst 1, 1) := dk_4 (dk_at dksX1_isIn_0 13 rfl rfl)
theorem dX1_isIn_14 : decode cX1_isIn 14 = .ok (.goto 4, 3) := dk_167 0 4 (dk_at dksX1_isIn_0 14 rfl rfl)
theorem dX1_isIn_17 : decode cX1_isIn 17 = .ok (.iconst 0, 1) := dk_3 (dk_at dksX1_isIn_0 17 rfl rfl)
theorem dX1_isIn_18 : decode cX1_isIn 18 = .ok (.ireturn, 1) := dk_172 (dk_at dksX1_isIn_0 18 rfl rfl)
abbrev cX1_feed : ByteArray := prog_1_method_5_code
def yX1_feed : MethodName := ⟨RX1, "feed", "(IIIII)I"⟩
def dkwX1_feed_3 : List UInt8 := [182, 0, 92, 42, 180, 0, 89, 172]
abbrev dktX1_feed_3 : List UInt8 := dkwX1_feed_3 ++ []
def dkwX1_feed_2 : List UInt8 := [182, 0, 92, 42, 28, 182, 0, 92, 42, 29, 182, 0, 92, 42, 21, 4, 182, 0, 92, 42, 21, 5]
abbrev dktX1_feed_2 : List UInt8 := dkwX1_feed_2 ++ dktX1_feed_3
def dkwX1_feed_1 : List UInt8 := [184, 0, 85, 96, 54, 6, 42, 180, 0, 89, 21, 6, 96, 17, 0, 200, 164, 0, 5, 2, 172, 42, 27]
abbrev dktX1_feed_1 : List UInt8 := dkwX1_feed_1 ++ dktX1_feed_2
def dkwX1_feed_0 : List UInt8 := [27, 184, 0, 85, 28, 184, 0, 85, 96, 29, 184, 0, 85, 96, 21, 4, 184, 0, 85, 96, 21, 5]
abbrev dktX1_feed_0 : List UInt8 := dkwX1_feed_0 ++ dktX1_feed_1
theorem dksX1_feed_0 : cX1_feed.data.toList.drop 0 = dktX1_feed_0 := by decide +kernel
theorem dksX1_feed_1 : cX1_feed.data.toList.drop 22 = dktX1_feed_1 := dk_seg dksX1_feed_0 22 rfl rfl
theorem dksX1_feed_2 : cX1_feed.data.toList.drop 45 = dktX1_feed_2 := dk_seg dksX1_feed_1 23 rfl rfl
theorem dksX1_feed_3 : cX1_feed.data.toList.drop 67 = dktX1_feed_3 := dk_seg dksX1_feed_2 22 rfl rfl
theorem dX1_feed_0 : decode cX1_feed 0 = .ok (.iload_n 1, 1) := dk_27 (dk_at dksX1_feed_0 0 rfl rfl)
theorem dX1_feed_1 : decode cX1_feed 1 = .ok (.invokestatic 85, 3) := dk_184 0 85 (dk_at dksX1_feed_0 1 rfl rfl)
theorem dX1_feed_4 : decode cX1_feed 4 = .ok (.iload_n 2, 1) := dk_28 (dk_at dksX1_feed_0 4 rfl rfl)
theorem dX1_feed_5 : decode cX1_feed 5 = .ok (.invokestatic 85, 3) := dk_184 0 85 (dk_at dksX1_feed_0 5 rfl rfl)
theorem dX1_feed_8 : decode cX1_feed 8 = .ok (.iadd, 1) := dk_96 (dk_at dksX1_feed_0 8 rfl rfl)
theorem dX1_feed_9 : decode cX1_feed 9 = .ok (.iload_n 3, 1) := dk_29 (dk_at dksX1_feed_0 9 rfl rfl)
theorem dX1_feed_10 : decode cX1_feed 10 = .ok (.invokestatic 85, 3) := dk_184 0 85 (dk_at dksX1_feed_0 10 rfl rfl)
theorem dX1_feed_13 : decode cX1_feed 13 = .ok (.iadd, 1) := dk_96 (dk_at dksX1_feed_0 13 rfl rfl)
theorem dX1_feed_14 : decode cX1_feed 14 = .ok (.iload 4, 2) := dk_21 4 (dk_at dksX1_feed_0 14 rfl rfl)
theorem dX1_feed_16 : decode cX1_feed 16 = .ok (.invokestatic 85, 3) := dk_184 0 85 (dk_at dksX1_feed_0 16 rfl rfl)
theorem dX1_feed_19 : decode cX1_feed 19 = .ok (.iadd, 1) := dk_96 (dk_at dksX1_feed_0 19 rfl rfl)
theorem dX1_feed_20 : decode cX1_feed 20 = .ok (.iload 5, 2) := dk_21 5 (dk_at dksX1_feed_0 20 rfl rfl)
theorem dX1_feed_22 : decode cX1_feed 22 = .ok (.invokestatic 85, 3) := dk_184 0 85 (dk_at dksX1_feed_1 0 rfl rfl)
theorem dX1_feed_25 : decode cX1_feed 25 = .ok (.iadd, 1) := dk_96 (dk_at dksX1_feed_1 3 rfl rfl)
theorem dX1_feed_26 : decode cX1_feed 26 = .ok (.istore 6, 2) := dk_54 6 (dk_at dksX1_feed_1 4 rfl rfl)
theorem dX1_feed_28 : decode cX1_feed 28 = .ok (.aload_n 0, 1) := dk_42 (dk_at dksX1_feed_1 6 rfl rfl)
theorem dX1_feed_29 : decode cX1_feed 29 = .ok (.getfield 89, 3) := dk_180 0 89 (dk_at dksX1_feed_1 7 rfl rfl)
theorem dX1_feed_32 : decode cX1_feed 32 = .ok (.iload 6, 2) := dk_21 6 (dk_at dksX1_feed_1 10 rfl rfl)
theorem dX1_feed_34 : decode cX1_feed 34 = .ok (.iadd, 1) := dk_96 (dk_at dksX1_feed_1 12 rfl rfl)
theorem dX1_feed_35 : decode cX1_feed 35 = .ok (.sipush 200, 3) := dk_17 0 200 (dk_at dksX1_feed_1 13 rfl rfl)
theorem dX1_feed_38 : decode cX1_feed 38 = .ok (.if_icmp .le 5, 3) := dk_164 0 5 (dk_at dksX1_feed_1 16 rfl rfl)
theorem dX1_feed_41 : decode cX1_feed 41 = .ok (.iconst (-1), 1) := dk_2 (dk_at dksX1_feed_1 19 rfl rfl)
theorem dX1_feed_42 : decode cX1_feed 42 = .ok (.ireturn, 1) := dk_172 (dk_at dksX1_feed_1 20 rfl rfl)
theorem dX1_feed_43 : decode cX1_feed 43 = .ok (.aload_n 0, 1) := dk_42 (dk_at dksX1_feed_1 21 rfl rfl)
theorem dX1_feed_44 : decode cX1_feed 44 = .ok (.iload_n 1, 1) := dk_27 (dk_at dksX1_feed_1 22 rfl rfl)
theorem dX1_feed_45 : decode cX1_feed 45 = .ok (.invokevirtual 92, 3) := dk_182 0 92 (dk_at dksX1_feed_2 0 rfl rfl)
theorem dX1_feed_48 : decode cX1_feed 48 = .ok (.aload_n 0, 1) := dk_42 (dk_at dksX1_feed_2 3 rfl rfl)
theorem dX1_feed_49 : decode cX1_feed 49 = .ok (.iload_n 2, 1) := dk_28 (dk_at dksX1_feed_2 4 rfl rfl)
theorem dX1_feed_50 : decode cX1_feed 50 = .ok (.invokevirtual 92, 3) := dk_182 0 92 (dk_at dksX1_feed_2 5 rfl rfl)
theorem dX1_feed_53 : decode cX1_feed 53 = .ok (.aload_n 0, 1) := dk_42 (dk_at dksX1_feed_2 8 rfl rfl)
theorem dX1_feed_54 : decode cX1_feed 54 = .ok (.iload_n 3, 1) := dk_29 (dk_at dksX1_feed_2 9 rfl rfl)
theorem dX1_feed_55 : decode cX1_feed 55 = .ok (.invokevirtual 92, 3) := dk_182 0 92 (dk_at dksX1_feed_2 10 rfl rfl)
theorem dX1_feed_58 : decode cX1_feed 58 = .ok (.aload_n 0, 1) := dk_42 (dk_at dksX1_feed_2 13 rfl rfl)
theorem dX1_feed_59 : decode cX1_feed 59 = .ok (.iload 4, 2) := dk_21 4 (dk_at dksX1_feed_2 14 rfl rfl)
theorem dX1_feed_61 : decode cX1_feed 61 = .ok (.invokevirtual 92, 3) := dk_182 0 92 (dk_at dksX1_feed_2 16 rfl rfl)
theorem dX1_feed_64 : decode cX1_feed 64 = .ok (.aload_n 0, 1) := dk_42 (dk_at dksX1_feed_2 19 rfl rfl)
theorem dX1_feed_65 : decode cX1_feed 65 = .ok (.iload 5, 2) := dk_21 5 (dk_at dksX1_feed_2 20 rfl rfl)
theorem dX1_feed_67 : decode cX1_feed 67 = .ok (.invokevirtual 92, 3) := dk_182 0 92 (dk_at dksX1_feed_3 0 rfl rfl)
theorem dX1_feed_70 : decode cX1_feed 70 = .ok (.aload_n 0, 1) := dk_42 (dk_at dksX1_feed_3 3 rfl rfl)
theorem dX1_feed_71 : decode cX1_feed 71 = .ok (.getfield 89, 3) := dk_180 0 89 (dk_at dksX1_feed_3 4 rfl rfl)
theorem dX1_feed_74 : decode cX1_feed 74 = .ok (.ireturn, 1) := dk_172 (dk_at dksX1_feed_3 7 rfl rfl)
abbrev cX1_bytes : ByteArray := prog_1_method_6_code
def yX1_bytes : MethodName := ⟨RX1, "bytes", "(I)I"⟩
def dkwX1_bytes_1 : List UInt8 := [3, 96, 60, 132, 2, 248, 167, 255, 231, 27, 172]
abbrev dktX1_bytes_1 : List UInt8 := dkwX1_bytes_1 ++ []
def dkwX1_bytes_0 : List UInt8 := [3, 60, 16, 24, 61, 28, 155, 0, 27, 27, 26, 28, 122, 17, 0, 255, 126, 153, 0, 7, 4, 167, 0, 4]
abbrev dktX1_bytes_0 : List UInt8 := dkwX1_bytes_0 ++ dktX1_bytes_1
theorem dksX1_bytes_0 : cX1_bytes.data.toList.drop 0 = dktX1_bytes_0 := by decide +kernel
theorem dksX1_bytes_1 : cX1_bytes.data.toList.drop 24 = dktX1_bytes_1 := dk_seg dksX1_bytes_0 24 rfl rfl
theorem dX1_bytes_0 : decode cX1_bytes 0 = .ok (.iconst 0, 1) := dk_3 (dk_at dksX1_bytes_0 0 rfl rfl)
theorem dX1_bytes_1 : decode cX1_bytes 1 = .ok (.istore_n 1, 1) := dk_60 (dk_at dksX1_bytes_0 1 rfl rfl)
theorem dX1_bytes_2 : decode cX1_bytes 2 = .ok (.bipush 24, 2) := dk_16 24 (dk_at dksX1_bytes_0 2 rfl rfl)
theorem dX1_bytes_4 : decode cX1_bytes 4 = .ok (.istore_n 2, 1) := dk_61 (dk_at dksX1_bytes_0 4 rfl rfl)
theorem dX1_bytes_5 : decode cX1_bytes 5 = .ok (.iload_n 2, 1) := dk_28 (dk_at dksX1_bytes_0 5 rfl rfl)
theorem dX1_bytes_6 : decode cX1_bytes 6 = .ok (.ifCond .lt 27, 3) := dk_155 0 27 (dk_at dksX1_bytes_0 6 rfl rfl)
theorem dX1_bytes_9 : decode cX1_bytes 9 = .ok (.iload_n 1, 1) := dk_27 (dk_at dksX1_bytes_0 9 rfl rfl)
theorem dX1_bytes_10 : decode cX1_bytes 10 = .ok (.iload_n 0, 1) := dk_26 (dk_at dksX1_bytes_0 10 rfl rfl)
theorem dX1_bytes_11 : decode cX1_bytes 11 = .ok (.iload_n 2, 1) := dk_28 (dk_at dksX1_bytes_0 11 rfl rfl)
theorem dX1_bytes_12 : decode cX1_bytes 12 = .ok (.ishr, 1) := dk_122 (dk_at dksX1_bytes_0 12 rfl rfl)
theorem dX1_bytes_13 : decode cX1_bytes 13 = .ok (.sipush 255, 3) := dk_17 0 255 (dk_at dksX1_bytes_0 13 rfl rfl)
theorem dX1_bytes_16 : decode cX1_bytes 16 = .ok (.iand, 1) := dk_126 (dk_at dksX1_bytes_0 16 rfl rfl)
theorem dX1_bytes_17 : decode cX1_bytes 17 = .ok (.ifCond .eq 7, 3) := dk_153 0 7 (dk_at dksX1_bytes_0 17 rfl rfl)
theorem dX1_bytes_20 : decode cX1_bytes 20 = .ok (.iconst 1, 1) := dk_4 (dk_at dksX1_bytes_0 20 rfl rfl)
theorem dX1_bytes_21 : decode cX1_bytes 21 = .ok (.goto 4, 3) := dk_167 0 4 (dk_at dksX1_bytes_0 21 rfl rfl)
theorem dX1_bytes_24 : decode cX1_bytes 24 = .ok (.iconst 0, 1) := dk_3 (dk_at dksX1_bytes_1 0 rfl rfl)
theorem dX1_bytes_25 : decode cX1_bytes 25 = .ok (.iadd, 1) := dk_96 (dk_at dksX1_bytes_1 1 rfl rfl)
theorem dX1_bytes_26 : decode cX1_bytes 26 = .ok (.istore_n 1, 1) := dk_60 (dk_at dksX1_bytes_1 2 rfl rfl)
theorem dX1_bytes_27 : decode cX1_bytes 27 = .ok (.iinc 2 (-8), 3) := dk_132 2 248 (dk_at dksX1_bytes_1 3 rfl rfl)
theorem dX1_bytes_30 : decode cX1_bytes 30 = .ok (.goto (-25), 3) := dk_167 255 231 (dk_at dksX1_bytes_1 6 rfl rfl)
theorem dX1_bytes_33 : decode cX1_bytes 33 = .ok (.iload_n 1, 1) := dk_27 (dk_at dksX1_bytes_1 9 rfl rfl)
theorem dX1_bytes_34 : decode cX1_bytes 34 = .ok (.ireturn, 1) := dk_172 (dk_at dksX1_bytes_1 10 rfl rfl)
abbrev cX1_bring : ByteArray := prog_1_method_7_code
def yX1_bring : MethodName := ⟨RX1, "bring", "(I)V"⟩
def dkwX1_bring_2 : List UInt8 := [167, 255, 213, 177]
abbrev dktX1_bring_2 : List UInt8 := dkwX1_bring_2 ++ []
def dkwX1_bring_1 : List UInt8 := [42, 180, 0, 89, 27, 28, 122, 145, 84, 42, 89, 180, 0, 89, 4, 96, 181, 0, 89, 132, 2, 248]
abbrev dktX1_bring_1 : List UInt8 := dkwX1_bring_1 ++ dktX1_bring_2
def dkwX1_bring_0 : List UInt8 := [16, 24, 61, 28, 155, 0, 45, 27, 28, 122, 17, 0, 255, 126, 154, 0, 6, 167, 0, 26, 42, 180, 0, 15]
abbrev dktX1_bring_0 : List UInt8 := dkwX1_bring_0 ++ dktX1_bring_1
theorem dksX1_bring_0 : cX1_bring.data.toList.drop 0 = dktX1_bring_0 := by decide +kernel
theorem dksX1_bring_1 : cX1_bring.data.toList.drop 24 = dktX1_bring_1 := dk_seg dksX1_bring_0 24 rfl rfl
theorem dksX1_bring_2 : cX1_bring.data.toList.drop 46 = dktX1_bring_2 := dk_seg dksX1_bring_1 22 rfl rfl
theorem dX1_bring_0 : decode cX1_bring 0 = .ok (.bipush 24, 2) := dk_16 24 (dk_at dksX1_bring_0 0 rfl rfl)
theorem dX1_bring_2 : decode cX1_bring 2 = .ok (.istore_n 2, 1) := dk_61 (dk_at dksX1_bring_0 2 rfl rfl)
theorem dX1_bring_3 : decode cX1_bring 3 = .ok (.iload_n 2, 1) := dk_28 (dk_at dksX1_bring_0 3 rfl rfl)
theorem dX1_bring_4 : decode cX1_bring 4 = .ok (.ifCond .lt 45, 3) := dk_155 0 45 (dk_at dksX1_bring_0 4 rfl rfl)
theorem dX1_bring_7 : decode cX1_bring 7 = .ok (.iload_n 1, 1) := dk_27 (dk_at dksX1_bring_0 7 rfl rfl)
theorem dX1_bring_8 : decode cX1_bring 8 = .ok (.iload_n 2, 1) := dk_28 (dk_at dksX1_bring_0 8 rfl rfl)
theorem dX1_bring_9 : decode cX1_bring 9 = .ok (.ishr, 1) := dk_122 (dk_at dksX1_bring_0 9 rfl rfl)
theorem dX1_bring_10 : decode cX1_bring 10 = .ok (.sipush 255, 3) := dk_17 0 255 (dk_at dksX1_bring_0 10 rfl rfl)
theorem dX1_bring_13 : decode cX1_bring 13 = .ok (.iand, 1) := dk_126 (dk_at dksX1_bring_0 13 rfl rfl)
theorem dX1_bring_14 : decode cX1_bring 14 = .ok (.ifCond .ne 6, 3) := dk_154 0 6 (dk_at dksX1_bring_0 14 rfl rfl)
theorem dX1_bring_17 : decode cX1_bring 17 = .ok (.goto 26, 3) := dk_167 0 26 (dk_at dksX1_bring_0 17 rfl rfl)
theorem dX1_bring_20 : decode cX1_bring 20 = .ok (.aload_n 0, 1) := dk_42 (dk_at dksX1_bring_0 20 rfl rfl)
theorem dX1_bring_21 : decode cX1_bring 21 = .ok (.getfield 15, 3) := dk_180 0 15 (dk_at dksX1_bring_0 21 rfl rfl)
theorem dX1_bring_24 : decode cX1_bring 24 = .ok (.aload_n 0, 1) := dk_42 (dk_at dksX1_bring_1 0 rfl rfl)
theorem dX1_bring_25 : decode cX1_bring 25 = .ok (.getfield 89, 3) := dk_180 0 89 (dk_at dksX1_bring_1 1 rfl rfl)
theorem dX1_bring_28 : decode cX1_bring 28 = .ok (.iload_n 1, 1) := dk_27 (dk_at dksX1_bring_1 4 rfl rfl)
theorem dX1_bring_29 : decode cX1_bring 29 = .ok (.iload_n 2, 1) := dk_28 (dk_at dksX1_bring_1 5 rfl rfl)
theorem dX1_bring_30 : decode cX1_bring 30 = .ok (.ishr, 1) := dk_122 (dk_at dksX1_bring_1 6 rfl rfl)
theorem dX1_bring_31 : decode cX1_bring 31 = .ok (.i2b, 1) := dk_145 (dk_at dksX1_bring_1 7 rfl rfl)
theorem dX1_bring_32 : decode cX1_bring 32 = .ok (.bastore, 1) := dk_84 (dk_at dksX1_bring_1 8 rfl rfl)
theorem dX1_bring_33 : decode cX1_bring 33 = .ok (.aload_n 0, 1) := dk_42 (dk_at dksX1_bring_1 9 rfl rfl)
theorem dX1_bring_34 : decode cX1_bring 34 = .ok (.dup, 1) := dk_89 (dk_at dksX1_bring_1 10 rfl rfl)
theorem dX1_bring_35 : decode cX1_bring 35 = .ok (.getfield 89, 3) := dk_180 0 89 (dk_at dksX1_bring_1 11 rfl rfl)
theorem dX1_bring_38 : decode cX1_bring 38 = .ok (.iconst 1, 1) := dk_4 (dk_at dksX1_bring_1 14 rfl rfl)
theorem dX1_bring_39 : decode cX1_bring 39 = .ok (.iadd, 1) := dk_96 (dk_at dksX1_bring_1 15 rfl rfl)
theorem dX1_bring_40 : decode cX1_bring 40 = .ok (.putfield 89, 3) := dk_181 0 89 (dk_at dksX1_bring_1 16 rfl rfl)
theorem dX1_bring_43 : decode cX1_bring 43 = .ok (.iinc 2 (-8), 3) := dk_132 2 248 (dk_at dksX1_bring_1 19 rfl rfl)
theorem dX1_bring_46 : decode cX1_bring 46 = .ok (.goto (-43), 3) := dk_167 255 213 (dk_at dksX1_bring_2 0 rfl rfl)
theorem dX1_bring_49 : decode cX1_bring 49 = .ok (.return_, 1) := dk_177 (dk_at dksX1_bring_2 3 rfl rfl)
abbrev cX1_end : ByteArray := prog_1_method_8_code
def yX1_end : MethodName := ⟨RX1, "end", "(I)Z"⟩
def dkwX1_end_0 : List UInt8 := [27, 155, 0, 11, 27, 42, 180, 0, 89, 164, 0, 5, 3, 172, 42, 27, 181, 0, 89, 4, 172]
abbrev dktX1_end_0 : List UInt8 := dkwX1_end_0 ++ []
theorem dksX1_end_0 : cX1_end.data.toList.drop 0 = dktX1_end_0 := by decide +kernel
theorem dX1_end_0 : decode cX1_end 0 = .ok (.iload_n 1, 1) := dk_27 (dk_at dksX1_end_0 0 rfl rfl)
theorem dX1_end_1 : decode cX1_end 1 = .ok (.ifCond .lt 11, 3) := dk_155 0 11 (dk_at dksX1_end_0 1 rfl rfl)
theorem dX1_end_4 : decode cX1_end 4 = .ok (.iload_n 1, 1) := dk_27 (dk_at dksX1_end_0 4 rfl rfl)
theorem dX1_end_5 : decode cX1_end 5 = .ok (.aload_n 0, 1) := dk_42 (dk_at dksX1_end_0 5 rfl rfl)
theorem dX1_end_6 : decode cX1_end 6 = .ok (.getfield 89, 3) := dk_180 0 89 (dk_at dksX1_end_0 6 rfl rfl)
theorem dX1_end_9 : decode cX1_end 9 = .ok (.if_icmp .le 5, 3) := dk_164 0 5 (dk_at dksX1_end_0 9 rfl rfl)
theorem dX1_end_12 : decode cX1_end 12 = .ok (.iconst 0, 1) := dk_3 (dk_at dksX1_end_0 12 rfl rfl)
theorem dX1_end_13 : decode cX1_end 13 = .ok (.ireturn, 1) := dk_172 (dk_at dksX1_end_0 13 rfl rfl)
theorem dX1_end_14 : decode cX1_end 14 = .ok (.aload_n 0, 1) := dk_42 (dk_at dksX1_end_0 14 rfl rfl)
theorem dX1_end_15 : decode cX1_end 15 = .ok (.iload_n 1, 1) := dk_27 (dk_at dksX1_end_0 15 rfl rfl)
theorem dX1_end_16 : decode cX1_end 16 = .ok (.putfield 89, 3) := dk_181 0 89 (dk_at dksX1_end_0 16 rfl rfl)
theorem dX1_end_19 : decode cX1_end 19 = .ok (.iconst 1, 1) := dk_4 (dk_at dksX1_end_0 19 rfl rfl)
theorem dX1_end_20 : decode cX1_end 20 = .ok (.ireturn, 1) := dk_172 (dk_at dksX1_end_0 20 rfl rfl)
abbrev cX1_fault : ByteArray := prog_1_method_9_code
def yX1_fault : MethodName := ⟨RX1, "fault", "(I)I"⟩
def dkwX1_fault_2 : List UInt8 := [77, 44, 180, 0, 113, 172]
abbrev dktX1_fault_2 : List UInt8 := dkwX1_fault_2 ++ []
def dkwX1_fault_1 : List UInt8 := [183, 0, 98, 182, 0, 101, 77, 167, 0, 15, 187, 0, 105, 89, 42, 183, 0, 107, 182, 0, 108, 77, 2, 172]
abbrev dktX1_fault_1 : List UInt8 := dkwX1_fault_1 ++ dktX1_fault_2
def dkwX1_fault_0 : List UInt8 := [27, 133, 9, 10, 184, 0, 74, 154, 0, 6, 16, 254, 172, 27, 154, 0, 18, 187, 0, 96, 89, 42]
abbrev dktX1_fault_0 : List UInt8 := dkwX1_fault_0 ++ dktX1_fault_1
theorem dksX1_fault_0 : cX1_fault.data.toList.drop 0 = dktX1_fault_0 := by decide +kernel
theorem dksX1_fault_1 : cX1_fault.data.toList.drop 22 = dktX1_fault_1 := dk_seg dksX1_fault_0 22 rfl rfl
theorem dksX1_fault_2 : cX1_fault.data.toList.drop 46 = dktX1_fault_2 := dk_seg dksX1_fault_1 24 rfl rfl
theorem dX1_fault_0 : decode cX1_fault 0 = .ok (.iload_n 1, 1) := dk_27 (dk_at dksX1_fault_0 0 rfl rfl)
theorem dX1_fault_1 : decode cX1_fault 1 = .ok (.i2l, 1) := dk_133 (dk_at dksX1_fault_0 1 rfl rfl)
theorem dX1_fault_2 : decode cX1_fault 2 = .ok (.lconst 0, 1) := dk_9 (dk_at dksX1_fault_0 2 rfl rfl)
theorem dX1_fault_3 : decode cX1_fault 3 = .ok (.lconst 1, 1) := dk_10 (dk_at dksX1_fault_0 3 rfl rfl)
theorem dX1_fault_4 : decode cX1_fault 4 = .ok (.invokestatic 74, 3) := dk_184 0 74 (dk_at dksX1_fault_0 4 rfl rfl)
theorem dX1_fault_7 : decode cX1_fault 7 = .ok (.ifCond .ne 6, 3) := dk_154 0 6 (dk_at dksX1_fault_0 7 rfl rfl)
theorem dX1_fault_10 : decode cX1_fault 10 = .ok (.bipush (-2), 2) := dk_16 254 (dk_at dksX1_fault_0 10 rfl rfl)
theorem dX1_fault_12 : decode cX1_fault 12 = .ok (.ireturn, 1) := dk_172 (dk_at dksX1_fault_0 12 rfl rfl)
theorem dX1_fault_13 : decode cX1_fault 13 = .ok (.iload_n 1, 1) := dk_27 (dk_at dksX1_fault_0 13 rfl rfl)
theorem dX1_fault_14 : decode cX1_fault 14 = .ok (.ifCond .ne 18, 3) := dk_154 0 18 (dk_at dksX1_fault_0 14 rfl rfl)
theorem dX1_fault_17 : decode cX1_fault 17 = .ok (.new 96, 3) := dk_187 0 96 (dk_at dksX1_fault_0 17 rfl rfl)
theorem dX1_fault_20 : decode cX1_fault 20 = .ok (.dup, 1) := dk_89 (dk_at dksX1_fault_0 20 rfl rfl)
theorem dX1_fault_21 : decode cX1_fault 21 = .ok (.aload_n 0, 1) := dk_42 (dk_at dksX1_fault_0 21 rfl rfl)
theorem dX1_fault_22 : decode cX1_fault 22 = .ok (.invokespecial 98, 3) := dk_183 0 98 (dk_at dksX1_fault_1 0 rfl rfl)
theorem dX1_fault_25 : decode cX1_fault 25 = .ok (.invokevirtual 101, 3) := dk_182 0 101 (dk_at dksX1_fault_1 3 rfl rfl)
theorem dX1_fault_28 : decode cX1_fault 28 = .ok (.astore_n 2, 1) := dk_77 (dk_at dksX1_fault_1 6 rfl rfl)
theorem dX1_fault_29 : decode cX1_fault 29 = .ok (.goto 15, 3) := dk_167 0 15 (dk_at dksX1_fault_1 7 rfl rfl)
theorem dX1_fault_32 : decode cX1_fault 32 = .ok (.new 105, 3) := dk_187 0 105 (dk_at dksX1_fault_1 10 rfl rfl)
theorem dX1_fault_35 : decode cX1_fault 35 = .ok (.dup, 1) := dk_89 (dk_at dksX1_fault_1 13 rfl rfl)
theorem dX1_fault_36 : decode cX1_fault 36 = .ok (.aload_n 0, 1) := dk_42 (dk_at dksX1_fault_1 14 rfl rfl)
theorem dX1_fault_37 : decode cX1_fault 37 = .ok (.invokespecial 107, 3) := dk_183 0 107 (dk_at dksX1_fault_1 15 rfl rfl)
theorem dX1_fault_40 : decode cX1_fault 40 = .ok (.invokevirtual 108, 3) := dk_182 0 108 (dk_at dksX1_fault_1 18 rfl rfl)
theorem dX1_fault_43 : decode cX1_fault 43 = .ok (.astore_n 2, 1) := dk_77 (dk_at dksX1_fault_1 21 rfl rfl)
theorem dX1_fault_44 : decode cX1_fault 44 = .ok (.iconst (-1), 1) := dk_2 (dk_at dksX1_fault_1 22 rfl rfl)
theorem dX1_fault_45 : decode cX1_fault 45 = .ok (.ireturn, 1) := dk_172 (dk_at dksX1_fault_1 23 rfl rfl)
theorem dX1_fault_46 : decode cX1_fault 46 = .ok (.astore_n 2, 1) := dk_77 (dk_at dksX1_fault_2 0 rfl rfl)
theorem dX1_fault_47 : decode cX1_fault 47 = .ok (.aload_n 2, 1) := dk_44 (dk_at dksX1_fault_2 1 rfl rfl)
theorem dX1_fault_48 : decode cX1_fault 48 = .ok (.getfield 113, 3) := dk_180 0 113 (dk_at dksX1_fault_2 2 rfl rfl)
theorem dX1_fault_51 : decode cX1_fault 51 = .ok (.ireturn, 1) := dk_172 (dk_at dksX1_fault_2 5 rfl rfl)
abbrev cX1_figure : ByteArray := prog_1_method_10_code
def yX1_figure : MethodName := ⟨RX1, "figure", "()I"⟩
def dkwX1_figure_2 : List UInt8 := [187, 0, 19, 89, 43, 183, 0, 128, 182, 0, 130, 172]
abbrev dktX1_figure_2 : List UInt8 := dkwX1_figure_2 ++ []
def dkwX1_figure_1 : List UInt8 := [183, 0, 98, 182, 0, 101, 43, 182, 0, 122, 167, 0, 6, 77, 2, 172, 42, 3, 181, 0, 89, 42]
abbrev dktX1_figure_1 : List UInt8 := dkwX1_figure_1 ++ dktX1_figure_2
def dkwX1_figure_0 : List UInt8 := [42, 180, 0, 116, 16, 12, 160, 0, 5, 2, 172, 187, 0, 119, 89, 183, 0, 121, 76, 187, 0, 96, 89, 42]
abbrev dktX1_figure_0 : List UInt8 := dkwX1_figure_0 ++ dktX1_figure_1
theorem dksX1_figure_0 : cX1_figure.data.toList.drop 0 = dktX1_figure_0 := by decide +kernel
theorem dksX1_figure_1 : cX1_figure.data.toList.drop 24 = dktX1_figure_1 := dk_seg dksX1_figure_0 24 rfl rfl
theorem dksX1_figure_2 : cX1_figure.data.toList.drop 46 = dktX1_figure_2 := dk_seg dksX1_figure_1 22 rfl rfl
theorem dX1_figure_0 : decode cX1_figure 0 = .ok (.aload_n 0, 1) := dk_42 (dk_at dksX1_figure_0 0 rfl rfl)
theorem dX1_figure_1 : decode cX1_figure 1 = .ok (.getfield 116, 3) := dk_180 0 116 (dk_at dksX1_figure_0 1 rfl rfl)
theorem dX1_figure_4 : decode cX1_figure 4 = .ok (.bipush 12, 2) := dk_16 12 (dk_at dksX1_figure_0 4 rfl rfl)
theorem dX1_figure_6 : decode cX1_figure 6 = .ok (.if_icmp .ne 5, 3) := dk_160 0 5 (dk_at dksX1_figure_0 6 rfl rfl)
theorem dX1_figure_9 : decode cX1_figure 9 = .ok (.iconst (-1), 1) := dk_2 (dk_at dksX1_figure_0 9 rfl rfl)
theorem dX1_figure_10 : decode cX1_figure 10 = .ok (.ireturn, 1) := dk_172 (dk_at dksX1_figure_0 10 rfl rfl)
theorem dX1_figure_11 : decode cX1_figure 11 = .ok (.new 119, 3) := dk_187 0 119 (dk_at dksX1_figure_0 11 rfl rfl)
theorem dX1_figure_14 : decode cX1_figure 14 = .ok (.dup, 1) := dk_89 (dk_at dksX1_figure_0 14 rfl rfl)
theorem dX1_figure_15 : decode cX1_figure 15 = .ok (.invokespecial 121, 3) := dk_183 0 121 (dk_at dksX1_figure_0 15 rfl rfl)
theorem dX1_figure_18 : decode cX1_figure 18 = .ok (.astore_n 1, 1) := dk_76 (dk_at dksX1_figure_0 18 rfl rfl)
theorem dX1_figure_19 : decode cX1_figure 19 = .ok (.new 96, 3) := dk_187 0 96 (dk_at dksX1_figure_0 19 rfl rfl)
theorem dX1_figure_22 : decode cX1_figure 22 = .ok (.dup, 1) := dk_89 (dk_at dksX1_figure_0 22 rfl rfl)
theorem dX1_figure_23 : decode cX1_figure 23 = .ok (.aload_n 0, 1) := dk_42 (dk_at dksX1_figure_0 23 rfl rfl)
theorem dX1_figure_24 : decode cX1_figure 24 = .ok (.invokespecial 98, 3) := dk_183 0 98 (dk_at dksX1_figure_1 0 rfl rfl)
theorem dX1_figure_27 : decode cX1_figure 27 = .ok (.invokevirtual 101, 3) := dk_182 0 101 (dk_at dksX1_figure_1 3 rfl rfl)
theorem dX1_figure_30 : decode cX1_figure 30 = .ok (.aload_n 1, 1) := dk_43 (dk_at dksX1_figure_1 6 rfl rfl)
theorem dX1_figure_31 : decode cX1_figure 31 = .ok (.invokevirtual 122, 3) := dk_182 0 122 (dk_at dksX1_figure_1 7 rfl rfl)
theorem dX1_figure_34 : decode cX1_figure 34 = .ok (.goto 6, 3) := dk_167 0 6 (dk_at dksX1_figure_1 10 rfl rfl)
theorem dX1_figure_37 : decode cX1_figure 37 = .ok (.astore_n 2, 1) := dk_77 (dk_at dksX1_figure_1 13 rfl rfl)
theorem dX1_figure_38 : decode cX1_figure 38 = .ok (.iconst (-1), 1) := dk_2 (dk_at dksX1_figure_1 14 rfl rfl)
theorem dX1_figure_39 : decode cX1_figure 39 = .ok (.ireturn, 1) := dk_172 (dk_at dksX1_figure_1 15 rfl rfl)
theorem dX1_figure_40 : decode cX1_figure 40 = .ok (.aload_n 0, 1) := dk_42 (dk_at dksX1_figure_1 16 rfl rfl)
theorem dX1_figure_41 : decode cX1_figure 41 = .ok (.iconst 0, 1) := dk_3 (dk_at dksX1_figure_1 17 rfl rfl)
theorem dX1_figure_42 : decode cX1_figure 42 = .ok (.putfield 89, 3) := dk_181 0 89 (dk_at dksX1_figure_1 18 rfl rfl)
theorem dX1_figure_45 : decode cX1_figure 45 = .ok (.aload_n 0, 1) := dk_42 (dk_at dksX1_figure_1 21 rfl rfl)
theorem dX1_figure_46 : decode cX1_figure 46 = .ok (.new 19, 3) := dk_187 0 19 (dk_at dksX1_figure_2 0 rfl rfl)
theorem dX1_figure_49 : decode cX1_figure 49 = .ok (.dup, 1) := dk_89 (dk_at dksX1_figure_2 3 rfl rfl)
theorem dX1_figure_50 : decode cX1_figure 50 = .ok (.aload_n 1, 1) := dk_43 (dk_at dksX1_figure_2 4 rfl rfl)
theorem dX1_figure_51 : decode cX1_figure 51 = .ok (.invokespecial 128, 3) := dk_183 0 128 (dk_at dksX1_figure_2 5 rfl rfl)
theorem dX1_figure_54 : decode cX1_figure 54 = .ok (.invokevirtual 130, 3) := dk_182 0 130 (dk_at dksX1_figure_2 8 rfl rfl)
theorem dX1_figure_57 : decode cX1_figure 57 = .ok (.ireturn, 1) := dk_172 (dk_at dksX1_figure_2 11 rfl rfl)
abbrev cX1_keep : ByteArray := prog_1_method_11_code
def yX1_keep : MethodName := ⟨RX1, "keep", "(LBalloonStall$Figure;)I"⟩
def dkwX1_keep_1 : List UInt8 := [4, 100, 172]
abbrev dktX1_keep_1 : List UInt8 := dkwX1_keep_1 ++ []
def dkwX1_keep_0 : List UInt8 := [42, 180, 0, 21, 42, 180, 0, 116, 43, 83, 42, 89, 180, 0, 116, 4, 96, 181, 0, 116, 42, 180, 0, 116]
abbrev dktX1_keep_0 : List UInt8 := dkwX1_keep_0 ++ dktX1_keep_1
theorem dksX1_keep_0 : cX1_keep.data.toList.drop 0 = dktX1_keep_0 := by decide +kernel
theorem dksX1_keep_1 : cX1_keep.data.toList.drop 24 = dktX1_keep_1 := dk_seg dksX1_keep_0 24 rfl rfl
theorem dX1_keep_0 : decode cX1_keep 0 = .ok (.aload_n 0, 1) := dk_42 (dk_at dksX1_keep_0 0 rfl rfl)
theorem dX1_keep_1 : decode cX1_keep 1 = .ok (.getfield 21, 3) := dk_180 0 21 (dk_at dksX1_keep_0 1 rfl rfl)
theorem dX1_keep_4 : decode cX1_keep 4 = .ok (.aload_n 0, 1) := dk_42 (dk_at dksX1_keep_0 4 rfl rfl)
theorem dX1_keep_5 : decode cX1_keep 5 = .ok (.getfield 116, 3) := dk_180 0 116 (dk_at dksX1_keep_0 5 rfl rfl)
theorem dX1_keep_8 : decode cX1_keep 8 = .ok (.aload_n 1, 1) := dk_43 (dk_at dksX1_keep_0 8 rfl rfl)
theorem dX1_keep_9 : decode cX1_keep 9 = .ok (.aastore, 1) := dk_83 (dk_at dksX1_keep_0 9 rfl rfl)
theorem dX1_keep_10 : decode cX1_keep 10 = .ok (.aload_n 0, 1) := dk_42 (dk_at dksX1_keep_0 10 rfl rfl)
theorem dX1_keep_11 : decode cX1_keep 11 = .ok (.dup, 1) := dk_89 (dk_at dksX1_keep_0 11 rfl rfl)
theorem dX1_keep_12 : decode cX1_keep 12 = .ok (.getfield 116, 3) := dk_180 0 116 (dk_at dksX1_keep_0 12 rfl rfl)
theorem dX1_keep_15 : decode cX1_keep 15 = .ok (.iconst 1, 1) := dk_4 (dk_at dksX1_keep_0 15 rfl rfl)
theorem dX1_keep_16 : decode cX1_keep 16 = .ok (.iadd, 1) := dk_96 (dk_at dksX1_keep_0 16 rfl rfl)
theorem dX1_keep_17 : decode cX1_keep 17 = .ok (.putfield 116, 3) := dk_181 0 116 (dk_at dksX1_keep_0 17 rfl rfl)
theorem dX1_keep_20 : decode cX1_keep 20 = .ok (.aload_n 0, 1) := dk_42 (dk_at dksX1_keep_0 20 rfl rfl)
theorem dX1_keep_21 : decode cX1_keep 21 = .ok (.getfield 116, 3) := dk_180 0 116 (dk_at dksX1_keep_0 21 rfl rfl)
theorem dX1_keep_24 : decode cX1_keep 24 = .ok (.iconst 1, 1) := dk_4 (dk_at dksX1_keep_1 0 rfl rfl)
theorem dX1_keep_25 : decode cX1_keep 25 = .ok (.isub, 1) := dk_100 (dk_at dksX1_keep_1 1 rfl rfl)
theorem dX1_keep_26 : decode cX1_keep 26 = .ok (.ireturn, 1) := dk_172 (dk_at dksX1_keep_1 2 rfl rfl)
abbrev cX1_many : ByteArray := prog_1_method_16_code
def yX1_many : MethodName := ⟨RX1, "many", "(II)I"⟩
def dkwX1_many_3 : List UInt8 := [172, 45, 182, 0, 154, 172, 2, 172]
abbrev dktX1_many_3 : List UInt8 := dkwX1_many_3 ++ []
def dkwX1_many_2 : List UInt8 := [45, 180, 0, 144, 172, 45, 180, 0, 138, 172, 45, 180, 0, 141, 172, 45, 182, 0, 147, 172, 45, 182, 0, 151]
abbrev dktX1_many_2 : List UInt8 := dkwX1_many_2 ++ dktX1_many_3
def dkwX1_many_1 : List UInt8 := [170, 0, 0, 0, 0, 68, 0, 0, 0, 0, 0, 0, 0, 5, 0, 0, 0, 38, 0, 0, 0, 43, 0, 0, 0, 48, 0, 0, 0, 53, 0, 0, 0, 58, 0, 0, 0, 63]
abbrev dktX1_many_1 : List UInt8 := dkwX1_many_1 ++ dktX1_many_2
def dkwX1_many_0 : List UInt8 := [42, 27, 182, 0, 134, 154, 0, 5, 2, 172, 42, 180, 0, 21, 27, 50, 78, 28]
abbrev dktX1_many_0 : List UInt8 := dkwX1_many_0 ++ dktX1_many_1
theorem dksX1_many_0 : cX1_many.data.toList.drop 0 = dktX1_many_0 := by decide +kernel
theorem dksX1_many_1 : cX1_many.data.toList.drop 18 = dktX1_many_1 := dk_seg dksX1_many_0 18 rfl rfl
theorem dksX1_many_2 : cX1_many.data.toList.drop 56 = dktX1_many_2 := dk_seg dksX1_many_1 38 rfl rfl
theorem dksX1_many_3 : cX1_many.data.toList.drop 80 = dktX1_many_3 := dk_seg dksX1_many_2 24 rfl rfl
theorem dX1_many_0 : decode cX1_many 0 = .ok (.aload_n 0, 1) := dk_42 (dk_at dksX1_many_0 0 rfl rfl)
theorem dX1_many_1 : decode cX1_many 1 = .ok (.iload_n 1, 1) := dk_27 (dk_at dksX1_many_0 1 rfl rfl)
theorem dX1_many_2 : decode cX1_many 2 = .ok (.invokevirtual 134, 3) := dk_182 0 134 (dk_at dksX1_many_0 2 rfl rfl)
theorem dX1_many_5 : decode cX1_many 5 = .ok (.ifCond .ne 5, 3) := dk_154 0 5 (dk_at dksX1_many_0 5 rfl rfl)
theorem dX1_many_8 : decode cX1_many 8 = .ok (.iconst (-1), 1) := dk_2 (dk_at dksX1_many_0 8 rfl rfl)
theorem dX1_many_9 : decode cX1_many 9 = .ok (.ireturn, 1) := dk_172 (dk_at dksX1_many_0 9 rfl rfl)
theorem dX1_many_10 : decode cX1_many 10 = .ok (.aload_n 0, 1) := dk_42 (dk_at dksX1_many_0 10 rfl rfl)
theorem dX1_many_11 : decode cX1_many 11 = .ok (.getfield 21, 3) := dk_180 0 21 (dk_at dksX1_many_0 11 rfl rfl)
theorem dX1_many_14 : decode cX1_many 14 = .ok (.iload_n 1, 1) := dk_27 (dk_at dksX1_many_0 14 rfl rfl)
theorem dX1_many_15 : decode cX1_many 15 = .ok (.aaload, 1) := dk_50 (dk_at dksX1_many_0 15 rfl rfl)
theorem dX1_many_16 : decode cX1_many 16 = .ok (.astore_n 3, 1) := dk_78 (dk_at dksX1_many_0 16 rfl rfl)
theorem dX1_many_17 : decode cX1_many 17 = .ok (.iload_n 2, 1) := dk_28 (dk_at dksX1_many_0 17 rfl rfl)
theorem dX1_many_18 : decode cX1_many 18 = .ok (.tableswitch 68 0 5 #[38, 43, 48, 53, 58, 63], 38) := by decide +kernel
theorem dX1_many_56 : decode cX1_many 56 = .ok (.aload_n 3, 1) := dk_45 (dk_at dksX1_many_2 0 rfl rfl)
theorem dX1_many_57 : decode cX1_many 57 = .ok (.getfield 144, 3) := dk_180 0 144 (dk_at dksX1_many_2 1 rfl rfl)
theorem dX1_many_60 : decode cX1_many 60 = .ok (.ireturn, 1) := dk_172 (dk_at dksX1_many_2 4 rfl rfl)
theorem dX1_many_61 : decode cX1_many 61 = .ok (.aload_n 3, 1) := dk_45 (dk_at dksX1_many_2 5 rfl rfl)
theorem dX1_many_62 : decode cX1_many 62 = .ok (.getfield 138, 3) := dk_180 0 138 (dk_at dksX1_many_2 6 rfl rfl)
theorem dX1_many_65 : decode cX1_many 65 = .ok (.ireturn, 1) := dk_172 (dk_at dksX1_many_2 9 rfl rfl)
theorem dX1_many_66 : decode cX1_many 66 = .ok (.aload_n 3, 1) := dk_45 (dk_at dksX1_many_2 10 rfl rfl)
theorem dX1_many_67 : decode cX1_many 67 = .ok (.getfield 141, 3) := dk_180 0 141 (dk_at dksX1_many_2 11 rfl rfl)
theorem dX1_many_70 : decode cX1_many 70 = .ok (.ireturn, 1) := dk_172 (dk_at dksX1_many_2 14 rfl rfl)
theorem dX1_many_71 : decode cX1_many 71 = .ok (.aload_n 3, 1) := dk_45 (dk_at dksX1_many_2 15 rfl rfl)
theorem dX1_many_72 : decode cX1_many 72 = .ok (.invokevirtual 147, 3) := dk_182 0 147 (dk_at dksX1_many_2 16 rfl rfl)
theorem dX1_many_75 : decode cX1_many 75 = .ok (.ireturn, 1) := dk_172 (dk_at dksX1_many_2 19 rfl rfl)
theorem dX1_many_76 : decode cX1_many 76 = .ok (.aload_n 3, 1) := dk_45 (dk_at dksX1_many_2 20 rfl rfl)
theorem dX1_many_77 : decode cX1_many 77 = .ok (.invokevirtual 151, 3) := dk_182 0 151 (dk_at dksX1_many_2 21 rfl rfl)
theorem dX1_many_80 : decode cX1_many 80 = .ok (.ireturn, 1) := dk_172 (dk_at dksX1_many_3 0 rfl rfl)
theorem dX1_many_81 : decode cX1_many 81 = .ok (.aload_n 3, 1) := dk_45 (dk_at dksX1_many_3 1 rfl rfl)
theorem dX1_many_82 : decode cX1_many 82 = .ok (.invokevirtual 154, 3) := dk_182 0 154 (dk_at dksX1_many_3 2 rfl rfl)
theorem dX1_many_85 : decode cX1_many 85 = .ok (.ireturn, 1) := dk_172 (dk_at dksX1_many_3 5 rfl rfl)
theorem dX1_many_86 : decode cX1_many 86 = .ok (.iconst (-1), 1) := dk_2 (dk_at dksX1_many_3 6 rfl rfl)
theorem dX1_many_87 : decode cX1_many 87 = .ok (.ireturn, 1) := dk_172 (dk_at dksX1_many_3 7 rfl rfl)
abbrev cX1_isFigure : ByteArray := prog_1_method_12_code
def yX1_isFigure : MethodName := ⟨RX1, "isFigure", "(I)Z"⟩
def dkwX1_isFigure_0 : List UInt8 := [27, 155, 0, 15, 27, 42, 180, 0, 116, 162, 0, 7, 4, 167, 0, 4, 3, 172]
abbrev dktX1_isFigure_0 : List UInt8 := dkwX1_isFigure_0 ++ []
theorem dksX1_isFigure_0 : cX1_isFigure.data.toList.drop 0 = dktX1_isFigure_0 := by decide +kernel
theorem dX1_isFigure_0 : decode cX1_isFigure 0 = .ok (.iload_n 1, 1) := dk_27 (dk_at dksX1_isFigure_0 0 rfl rfl)
theorem dX1_isFigure_1 : decode cX1_isFigure 1 = .ok (.ifCond .lt 15, 3) := dk_155 0 15 (dk_at dksX1_isFigure_0 1 rfl rfl)
theorem dX1_isFigure_4 : decode cX1_isFigure 4 = .ok (.iload_n 1, 1) := dk_27 (dk_at dksX1_isFigure_0 4 rfl rfl)
theorem dX1_isFigure_5 : decode cX1_isFigure 5 = .ok (.aload_n 0, 1) := dk_42 (dk_at dksX1_isFigure_0 5 rfl rfl)
theorem dX1_isFigure_6 : decode cX1_isFigure 6 = .ok (.getfield 116, 3) := dk_180 0 116 (dk_at dksX1_isFigure_0 6 rfl rfl)
theorem dX1_isFigure_9 : decode cX1_isFigure 9 = .ok (.if_icmp .ge 7, 3) := dk_162 0 7 (dk_at dksX1_isFigure_0 9 rfl rfl)
theorem dX1_isFigure_12 : decode cX1_isFigure 12 = .ok (.iconst 1, 1) := dk_4 (dk_at dksX1_isFigure_0 12 rfl rfl)
theorem dX1_isFigure_13 : decode cX1_isFigure 13 = .ok (.goto 4, 3) := dk_167 0 4 (dk_at dksX1_isFigure_0 13 rfl rfl)
theorem dX1_isFigure_16 : decode cX1_isFigure 16 = .ok (.iconst 0, 1) := dk_3 (dk_at dksX1_isFigure_0 16 rfl rfl)
theorem dX1_isFigure_17 : decode cX1_isFigure 17 = .ok (.ireturn, 1) := dk_172 (dk_at dksX1_isFigure_0 17 rfl rfl)
abbrev cX1_ends : ByteArray := prog_1_method_18_code
def yX1_ends : MethodName := ⟨RX1, "ends", "(II)I"⟩
def dkwX1_ends_1 : List UInt8 := [172]
abbrev dktX1_ends_1 : List UInt8 := dkwX1_ends_1 ++ []
def dkwX1_ends_0 : List UInt8 := [42, 27, 28, 182, 0, 181, 153, 0, 17, 42, 180, 0, 21, 27, 50, 180, 0, 184, 28, 46, 167, 0, 4, 2]
abbrev dktX1_ends_0 : List UInt8 := dkwX1_ends_0 ++ dktX1_ends_1
theorem dksX1_ends_0 : cX1_ends.data.toList.drop 0 = dktX1_ends_0 := by decide +kernel
theorem dksX1_ends_1 : cX1_ends.data.toList.drop 24 = dktX1_ends_1 := dk_seg dksX1_ends_0 24 rfl rfl
theorem dX1_ends_0 : decode cX1_ends 0 = .ok (.aload_n 0, 1) := dk_42 (dk_at dksX1_ends_0 0 rfl rfl)
theorem dX1_ends_1 : decode cX1_ends 1 = .ok (.iload_n 1, 1) := dk_27 (dk_at dksX1_ends_0 1 rfl rfl)
theorem dX1_ends_2 : decode cX1_ends 2 = .ok (.iload_n 2, 1) := dk_28 (dk_at dksX1_ends_0 2 rfl rfl)
theorem dX1_ends_3 : decode cX1_ends 3 = .ok (.invokevirtual 181, 3) := dk_182 0 181 (dk_at dksX1_ends_0 3 rfl rfl)
theorem dX1_ends_6 : decode cX1_ends 6 = .ok (.ifCond .eq 17, 3) := dk_153 0 17 (dk_at dksX1_ends_0 6 rfl rfl)
theorem dX1_ends_9 : decode cX1_ends 9 = .ok (.aload_n 0, 1) := dk_42 (dk_at dksX1_ends_0 9 rfl rfl)
theorem dX1_ends_10 : decode cX1_ends 10 = .ok (.getfield 21, 3) := dk_180 0 21 (dk_at dksX1_ends_0 10 rfl rfl)
theorem dX1_ends_13 : decode cX1_ends 13 = .ok (.iload_n 1, 1) := dk_27 (dk_at dksX1_ends_0 13 rfl rfl)
theorem dX1_ends_14 : decode cX1_ends 14 = .ok (.aaload, 1) := dk_50 (dk_at dksX1_ends_0 14 rfl rfl)
theorem dX1_ends_15 : decode cX1_ends 15 = .ok (.getfield 184, 3) := dk_180 0 184 (dk_at dksX1_ends_0 15 rfl rfl)
theorem dX1_ends_18 : decode cX1_ends 18 = .ok (.iload_n 2, 1) := dk_28 (dk_at dksX1_ends_0 18 rfl rfl)
theorem dX1_ends_19 : decode cX1_ends 19 = .ok (.iaload, 1) := dk_46 (dk_at dksX1_ends_0 19 rfl rfl)
theorem dX1_ends_20 : decode cX1_ends 20 = .ok (.goto 4, 3) := dk_167 0 4 (dk_at dksX1_ends_0 20 rfl rfl)
theorem dX1_ends_23 : decode cX1_ends 23 = .ok (.iconst (-1), 1) := dk_2 (dk_at dksX1_ends_0 23 rfl rfl)
theorem dX1_ends_24 : decode cX1_ends 24 = .ok (.ireturn, 1) := dk_172 (dk_at dksX1_ends_1 0 rfl rfl)
abbrev cX1_isPoint : ByteArray := prog_1_method_14_code
def yX1_isPoint : MethodName := ⟨RX1, "isPoint", "(II)Z"⟩
def dkwX1_isPoint_1 : List UInt8 := [184, 0, 74, 153, 0, 7, 4, 167, 0, 4, 3, 172]
abbrev dktX1_isPoint_1 : List UInt8 := dkwX1_isPoint_1 ++ []
def dkwX1_isPoint_0 : List UInt8 := [42, 27, 182, 0, 134, 153, 0, 28, 28, 133, 9, 42, 180, 0, 21, 27, 50, 180, 0, 141, 4, 100, 133]
abbrev dktX1_isPoint_0 : List UInt8 := dkwX1_isPoint_0 ++ dktX1_isPoint_1
theorem dksX1_isPoint_0 : cX1_isPoint.data.toList.drop 0 = dktX1_isPoint_0 := by decide +kernel
theorem dksX1_isPoint_1 : cX1_isPoint.data.toList.drop 23 = dktX1_isPoint_1 := dk_seg dksX1_isPoint_0 23 rfl rfl
theorem dX1_isPoint_0 : decode cX1_isPoint 0 = .ok (.aload_n 0, 1) := dk_42 (dk_at dksX1_isPoint_0 0 rfl rfl)
theorem dX1_isPoint_1 : decode cX1_isPoint 1 = .ok (.iload_n 1, 1) := dk_27 (dk_at dksX1_isPoint_0 1 rfl rfl)
theorem dX1_isPoint_2 : decode cX1_isPoint 2 = .ok (.invokevirtual 134, 3) := dk_182 0 134 (dk_at dksX1_isPoint_0 2 rfl rfl)
theorem dX1_isPoint_5 : decode cX1_isPoint 5 = .ok (.ifCond .eq 28, 3) := dk_153 0 28 (dk_at dksX1_isPoint_0 5 rfl rfl)
theorem dX1_isPoint_8 : decode cX1_isPoint 8 = .ok (.iload_n 2, 1) := dk_28 (dk_at dksX1_isPoint_0 8 rfl rfl)
theorem dX1_isPoint_9 : decode cX1_isPoint 9 = .ok (.i2l, 1) := dk_133 (dk_at dksX1_isPoint_0 9 rfl rfl)
theorem dX1_isPoint_10 : decode cX1_isPoint 10 = .ok (.lconst 0, 1) := dk_9 (dk_at dksX1_isPoint_0 10 rfl rfl)
theorem dX1_isPoint_11 : decode cX1_isPoint 11 = .ok (.aload_n 0, 1) := dk_42 (dk_at dksX1_isPoint_0 11 rfl rfl)
theorem dX1_isPoint_12 : decode cX1_isPoint 12 = .ok (.getfield 21, 3) := dk_180 0 21 (dk_at dksX1_isPoint_0 12 rfl rfl)
theorem dX1_isPoint_15 : decode cX1_isPoint 15 = .ok (.iload_n 1, 1) := dk_27 (dk_at dksX1_isPoint_0 15 rfl rfl)
theorem dX1_isPoint_16 : decode cX1_isPoint 16 = .ok (.aaload, 1) := dk_50 (dk_at dksX1_isPoint_0 16 rfl rfl)
theorem dX1_isPoint_17 : decode cX1_isPoint 17 = .ok (.getfield 141, 3) := dk_180 0 141 (dk_at dksX1_isPoint_0 17 rfl rfl)
theorem dX1_isPoint_20 : decode cX1_isPoint 20 = .ok (.iconst 1, 1) := dk_4 (dk_at dksX1_isPoint_0 20 rfl rfl)
theorem dX1_isPoint_21 : decode cX1_isPoint 21 = .ok (.isub, 1) := dk_100 (dk_at dksX1_isPoint_0 21 rfl rfl)
theorem dX1_isPoint_22 : decode cX1_isPoint 22 = .ok (.i2l, 1) := dk_133 (dk_at dksX1_isPoint_0 22 rfl rfl)
theorem dX1_isPoint_23 : decode cX1_isPoint 23 = .ok (.invokestatic 74, 3) := dk_184 0 74 (dk_at dksX1_isPoint_1 0 rfl rfl)
theorem dX1_isPoint_26 : decode cX1_isPoint 26 = .ok (.ifCond .eq 7, 3) := dk_153 0 7 (dk_at dksX1_isPoint_1 3 rfl rfl)
theorem dX1_isPoint_29 : decode cX1_isPoint 29 = .ok (.iconst 1, 1) := dk_4 (dk_at dksX1_isPoint_1 6 rfl rfl)
theorem dX1_isPoint_30 : decode cX1_isPoint 30 = .ok (.goto 4, 3) := dk_167 0 4 (dk_at dksX1_isPoint_1 7 rfl rfl)
theorem dX1_isPoint_33 : decode cX1_isPoint 33 = .ok (.iconst 0, 1) := dk_3 (dk_at dksX1_isPoint_1 10 rfl rfl)
theorem dX1_isPoint_34 : decode cX1_isPoint 34 = .ok (.ireturn, 1) := dk_172 (dk_at dksX1_isPoint_1 11 rfl rfl)
abbrev cX1_bursts : ByteArray := prog_1_method_19_code
def yX1_bursts : MethodName := ⟨RX1, "bursts", "(II)I"⟩
def dkwX1_bursts_3 : List UInt8 := [21, 5, 172, 132, 5, 1, 167, 255, 213, 2, 172]
abbrev dktX1_bursts_3 : List UInt8 := dkwX1_bursts_3 ++ []
def dkwX1_bursts_2 : List UInt8 := [21, 5, 46, 28, 160, 0, 23, 45, 28, 21, 5, 25, 4, 182, 0, 190, 25, 4, 180, 0, 194, 164, 0, 6]
abbrev dktX1_bursts_2 : List UInt8 := dkwX1_bursts_2 ++ dktX1_bursts_3
def dkwX1_bursts_1 : List UInt8 := [180, 0, 178, 28, 46, 50, 58, 4, 3, 54, 5, 21, 5, 45, 180, 0, 138, 162, 0, 40, 45, 180, 0, 175]
abbrev dktX1_bursts_1 : List UInt8 := dkwX1_bursts_1 ++ dktX1_bursts_2
def dkwX1_bursts_0 : List UInt8 := [42, 27, 28, 182, 0, 187, 154, 0, 5, 2, 172, 42, 180, 0, 21, 27, 50, 78, 42, 180, 0, 11, 45]
abbrev dktX1_bursts_0 : List UInt8 := dkwX1_bursts_0 ++ dktX1_bursts_1
theorem dksX1_bursts_0 : cX1_bursts.data.toList.drop 0 = dktX1_bursts_0 := by decide +kernel
theorem dksX1_bursts_1 : cX1_bursts.data.toList.drop 23 = dktX1_bursts_1 := dk_seg dksX1_bursts_0 23 rfl rfl
theorem dksX1_bursts_2 : cX1_bursts.data.toList.drop 47 = dktX1_bursts_2 := dk_seg dksX1_bursts_1 24 rfl rfl
theorem dksX1_bursts_3 : cX1_bursts.data.toList.drop 71 = dktX1_bursts_3 := dk_seg dksX1_bursts_2 24 rfl rfl
theorem dX1_bursts_0 : decode cX1_bursts 0 = .ok (.aload_n 0, 1) := dk_42 (dk_at dksX1_bursts_0 0 rfl rfl)
theorem dX1_bursts_1 : decode cX1_bursts 1 = .ok (.iload_n 1, 1) := dk_27 (dk_at dksX1_bursts_0 1 rfl rfl)
theorem dX1_bursts_2 : decode cX1_bursts 2 = .ok (.iload_n 2, 1) := dk_28 (dk_at dksX1_bursts_0 2 rfl rfl)
theorem dX1_bursts_3 : decode cX1_bursts 3 = .ok (.invokevirtual 187, 3) := dk_182 0 187 (dk_at dksX1_bursts_0 3 rfl rfl)
theorem dX1_bursts_6 : decode cX1_bursts 6 = .ok (.ifCond .ne 5, 3) := dk_154 0 5 (dk_at dksX1_bursts_0 6 rfl rfl)
theorem dX1_bursts_9 : decode cX1_bursts 9 = .ok (.iconst (-1), 1) := dk_2 (dk_at dksX1_bursts_0 9 rfl rfl)
theorem dX1_bursts_10 : decode cX1_bursts 10 = .ok (.ireturn, 1) := dk_172 (dk_at dksX1_bursts_0 10 rfl rfl)
theorem dX1_bursts_11 : decode cX1_bursts 11 = .ok (.aload_n 0, 1) := dk_42 (dk_at dksX1_bursts_0 11 rfl rfl)
theorem dX1_bursts_12 : decode cX1_bursts 12 = .ok (.getfield 21, 3) := dk_180 0 21 (dk_at dksX1_bursts_0 12 rfl rfl)
theorem dX1_bursts_15 : decode cX1_bursts 15 = .ok (.iload_n 1, 1) := dk_27 (dk_at dksX1_bursts_0 15 rfl rfl)
theorem dX1_bursts_16 : decode cX1_bursts 16 = .ok (.aaload, 1) := dk_50 (dk_at dksX1_bursts_0 16 rfl rfl)
theorem dX1_bursts_17 : decode cX1_bursts 17 = .ok (.astore_n 3, 1) := dk_78 (dk_at dksX1_bursts_0 17 rfl rfl)
theorem dX1_bursts_18 : decode cX1_bursts 18 = .ok (.aload_n 0, 1) := dk_42 (dk_at dksX1_bursts_0 18 rfl rfl)
theorem dX1_bursts_19 : decode cX1_bursts 19 = .ok (.getfield 11, 3) := dk_180 0 11 (dk_at dksX1_bursts_0 19 rfl rfl)
theorem dX1_bursts_22 : decode cX1_bursts 22 = .ok (.aload_n 3, 1) := dk_45 (dk_at dksX1_bursts_0 22 rfl rfl)
theorem dX1_bursts_23 : decode cX1_bursts 23 = .ok (.getfield 178, 3) := dk_180 0 178 (dk_at dksX1_bursts_1 0 rfl rfl)
theorem dX1_bursts_26 : decode cX1_bursts 26 = .ok (.iload_n 2, 1) := dk_28 (dk_at dksX1_bursts_1 3 rfl rfl)
theorem dX1_bursts_27 : decode cX1_bursts 27 = .ok (.iaload, 1) := dk_46 (dk_at dksX1_bursts_1 4 rfl rfl)
theorem dX1_bursts_28 : decode cX1_bursts 28 = .ok (.aaload, 1) := dk_50 (dk_at dksX1_bursts_1 5 rfl rfl)
theorem dX1_bursts_29 : decode cX1_bursts 29 = .ok (.astore 4, 2) := dk_58 4 (dk_at dksX1_bursts_1 6 rfl rfl)
theorem dX1_bursts_31 : decode cX1_bursts 31 = .ok (.iconst 0, 1) := dk_3 (dk_at dksX1_bursts_1 8 rfl rfl)
theorem dX1_bursts_32 : decode cX1_bursts 32 = .ok (.istore 5, 2) := dk_54 5 (dk_at dksX1_bursts_1 9 rfl rfl)
theorem dX1_bursts_34 : decode cX1_bursts 34 = .ok (.iload 5, 2) := dk_21 5 (dk_at dksX1_bursts_1 11 rfl rfl)
theorem dX1_bursts_36 : decode cX1_bursts 36 = .ok (.aload_n 3, 1) := dk_45 (dk_at dksX1_bursts_1 13 rfl rfl)
theorem dX1_bursts_37 : decode cX1_bursts 37 = .ok (.getfield 138, 3) := dk_180 0 138 (dk_at dksX1_bursts_1 14 rfl rfl)
theorem dX1_bursts_40 : decode cX1_bursts 40 = .ok (.if_icmp .ge 40, 3) := dk_162 0 40 (dk_at dksX1_bursts_1 17 rfl rfl)
theorem dX1_bursts_43 : decode cX1_bursts 43 = .ok (.aload_n 3, 1) := dk_45 (dk_at dksX1_bursts_1 20 rfl rfl)
theorem dX1_bursts_44 : decode cX1_bursts 44 = .ok (.getfield 175, 3) := dk_180 0 175 (dk_at dksX1_bursts_1 21 rfl rfl)
theorem dX1_bursts_47 : decode cX1_bursts 47 = .ok (.iload 5, 2) := dk_21 5 (dk_at dksX1_bursts_2 0 rfl rfl)
theorem dX1_bursts_49 : decode cX1_bursts 49 = .ok (.iaload, 1) := dk_46 (dk_at dksX1_bursts_2 2 rfl rfl)
theorem dX1_bursts_50 : decode cX1_bursts 50 = .ok (.iload_n 2, 1) := dk_28 (dk_at dksX1_bursts_2 3 rfl rfl)
theorem dX1_bursts_51 : decode cX1_bursts 51 = .ok (.if_icmp .ne 23, 3) := dk_160 0 23 (dk_at dksX1_bursts_2 4 rfl rfl)
theorem dX1_bursts_54 : decode cX1_bursts 54 = .ok (.aload_n 3, 1) := dk_45 (dk_at dksX1_bursts_2 7 rfl rfl)
theorem dX1_bursts_55 : decode cX1_bursts 55 = .ok (.iload_n 2, 1) := dk_28 (dk_at dksX1_bursts_2 8 rfl rfl)
theorem dX1_bursts_56 : decode cX1_bursts 56 = .ok (.iload 5, 2) := dk_21 5 (dk_at dksX1_bursts_2 9 rfl rfl)
theorem dX1_bursts_58 : decode cX1_bursts 58 = .ok (.aload 4, 2) := dk_25 4 (dk_at dksX1_bursts_2 11 rfl rfl)
theorem dX1_bursts_60 : decode cX1_bursts 60 = .ok (.invokevirtual 190, 3) := dk_182 0 190 (dk_at dksX1_bursts_2 13 rfl rfl)
theorem dX1_bursts_63 : decode cX1_bursts 63 = .ok (.aload 4, 2) := dk_25 4 (dk_at dksX1_bursts_2 16 rfl rfl)
theorem dX1_bursts_65 : decode cX1_bursts 65 = .ok (.getfield 194, 3) := dk_180 0 194 (dk_at dksX1_bursts_2 18 rfl rfl)
theorem dX1_bursts_68 : decode cX1_bursts 68 = .ok (.if_icmp .le 6, 3) := dk_164 0 6 (dk_at dksX1_bursts_2 21 rfl rfl)
theorem dX1_bursts_71 : decode cX1_bursts 71 = .ok (.iload 5, 2) := dk_21 5 (dk_at dksX1_bursts_3 0 rfl rfl)
theorem dX1_bursts_73 : decode cX1_bursts 73 = .ok (.ireturn, 1) := dk_172 (dk_at dksX1_bursts_3 2 rfl rfl)
theorem dX1_bursts_74 : decode cX1_bursts 74 = .ok (.iinc 5 1, 3) := dk_132 5 1 (dk_at dksX1_bursts_3 3 rfl rfl)
theorem dX1_bursts_77 : decode cX1_bursts 77 = .ok (.goto (-43), 3) := dk_167 255 213 (dk_at dksX1_bursts_3 6 rfl rfl)
theorem dX1_bursts_80 : decode cX1_bursts 80 = .ok (.iconst (-1), 1) := dk_2 (dk_at dksX1_bursts_3 9 rfl rfl)
theorem dX1_bursts_81 : decode cX1_bursts 81 = .ok (.ireturn, 1) := dk_172 (dk_at dksX1_bursts_3 10 rfl rfl)
abbrev cX1_isBalloon : ByteArray := prog_1_method_15_code
def yX1_isBalloon : MethodName := ⟨RX1, "isBalloon", "(II)Z"⟩
def dkwX1_isBalloon_1 : List UInt8 := [184, 0, 74, 153, 0, 7, 4, 167, 0, 4, 3, 172]
abbrev dktX1_isBalloon_1 : List UInt8 := dkwX1_isBalloon_1 ++ []
def dkwX1_isBalloon_0 : List UInt8 := [42, 27, 182, 0, 134, 153, 0, 28, 28, 133, 9, 42, 180, 0, 21, 27, 50, 180, 0, 144, 4, 100, 133]
abbrev dktX1_isBalloon_0 : List UInt8 := dkwX1_isBalloon_0 ++ dktX1_isBalloon_1
theorem dksX1_isBalloon_0 : cX1_isBalloon.data.toList.drop 0 = dktX1_isBalloon_0 := by decide +kernel
theorem dksX1_isBalloon_1 : cX1_isBalloon.data.toList.drop 23 = dktX1_isBalloon_1 := dk_seg dksX1_isBalloon_0 23 rfl rfl
theorem dX1_isBalloon_0 : decode cX1_isBalloon 0 = .ok (.aload_n 0, 1) := dk_42 (dk_at dksX1_isBalloon_0 0 rfl rfl)
theorem dX1_isBalloon_1 : decode cX1_isBalloon 1 = .ok (.iload_n 1, 1) := dk_27 (dk_at dksX1_isBalloon_0 1 rfl rfl)
theorem dX1_isBalloon_2 : decode cX1_isBalloon 2 = .ok (.invokevirtual 134, 3) := dk_182 0 134 (dk_at dksX1_isBalloon_0 2 rfl rfl)
theorem dX1_isBalloon_5 : decode cX1_isBalloon 5 = .ok (.ifCond .eq 28, 3) := dk_153 0 28 (dk_at dksX1_isBalloon_0 5 rfl rfl)
theorem dX1_isBalloon_8 : decode cX1_isBalloon 8 = .ok (.iload_n 2, 1) := dk_28 (dk_at dksX1_isBalloon_0 8 rfl rfl)
theorem dX1_isBalloon_9 : decode cX1_isBalloon 9 = .ok (.i2l, 1) := dk_133 (dk_at dksX1_isBalloon_0 9 rfl rfl)
theorem dX1_isBalloon_10 : decode cX1_isBalloon 10 = .ok (.lconst 0, 1) := dk_9 (dk_at dksX1_isBalloon_0 10 rfl rfl)
theorem dX1_isBalloon_11 : decode cX1_isBalloon 11 = .ok (.aload_n 0, 1) := dk_42 (dk_at dksX1_isBalloon_0 11 rfl rfl)
theorem dX1_isBalloon_12 : decode cX1_isBalloon 12 = .ok (.getfield 21, 3) := dk_180 0 21 (dk_at dksX1_isBalloon_0 12 rfl rfl)
theorem dX1_isBalloon_15 : decode cX1_isBalloon 15 = .ok (.iload_n 1, 1) := dk_27 (dk_at dksX1_isBalloon_0 15 rfl rfl)
theorem dX1_isBalloon_16 : decode cX1_isBalloon 16 = .ok (.aaload, 1) := dk_50 (dk_at dksX1_isBalloon_0 16 rfl rfl)
theorem dX1_isBalloon_17 : decode cX1_isBalloon 17 = .ok (.getfield 144, 3) := dk_180 0 144 (dk_at dksX1_isBalloon_0 17 rfl rfl)
theorem dX1_isBalloon_20 : decode cX1_isBalloon 20 = .ok (.iconst 1, 1) := dk_4 (dk_at dksX1_isBalloon_0 20 rfl rfl)
theorem dX1_isBalloon_21 : decode cX1_isBalloon 21 = .ok (.isub, 1) := dk_100 (dk_at dksX1_isBalloon_0 21 rfl rfl)
theorem dX1_isBalloon_22 : decode cX1_isBalloon 22 = .ok (.i2l, 1) := dk_133 (dk_at dksX1_isBalloon_0 22 rfl rfl)
theorem dX1_isBalloon_23 : decode cX1_isBalloon 23 = .ok (.invokestatic 74, 3) := dk_184 0 74 (dk_at dksX1_isBalloon_1 0 rfl rfl)
theorem dX1_isBalloon_26 : decode cX1_isBalloon 26 = .ok (.ifCond .eq 7, 3) := dk_153 0 7 (dk_at dksX1_isBalloon_1 3 rfl rfl)
theorem dX1_isBalloon_29 : decode cX1_isBalloon 29 = .ok (.iconst 1, 1) := dk_4 (dk_at dksX1_isBalloon_1 6 rfl rfl)
theorem dX1_isBalloon_30 : decode cX1_isBalloon 30 = .ok (.goto 4, 3) := dk_167 0 4 (dk_at dksX1_isBalloon_1 7 rfl rfl)
theorem dX1_isBalloon_33 : decode cX1_isBalloon 33 = .ok (.iconst 0, 1) := dk_3 (dk_at dksX1_isBalloon_1 10 rfl rfl)
theorem dX1_isBalloon_34 : decode cX1_isBalloon 34 = .ok (.ireturn, 1) := dk_172 (dk_at dksX1_isBalloon_1 11 rfl rfl)
abbrev cX1_rest : ByteArray := prog_1_method_20_code
def yX1_rest : MethodName := ⟨RX1, "rest", "(II)I"⟩
def dkwX1_rest_2 : List UInt8 := [182, 0, 190, 100, 184, 0, 197, 172]
abbrev dktX1_rest_2 : List UInt8 := dkwX1_rest_2 ++ []
def dkwX1_rest_1 : List UInt8 := [180, 0, 178, 28, 46, 50, 58, 4, 3, 25, 4, 180, 0, 194, 45, 28, 45, 180, 0, 138, 4, 100, 25, 4]
abbrev dktX1_rest_1 : List UInt8 := dkwX1_rest_1 ++ dktX1_rest_2
def dkwX1_rest_0 : List UInt8 := [42, 27, 28, 182, 0, 187, 154, 0, 5, 2, 172, 42, 180, 0, 21, 27, 50, 78, 42, 180, 0, 11, 45]
abbrev dktX1_rest_0 : List UInt8 := dkwX1_rest_0 ++ dktX1_rest_1
theorem dksX1_rest_0 : cX1_rest.data.toList.drop 0 = dktX1_rest_0 := by decide +kernel
theorem dksX1_rest_1 : cX1_rest.data.toList.drop 23 = dktX1_rest_1 := dk_seg dksX1_rest_0 23 rfl rfl
theorem dksX1_rest_2 : cX1_rest.data.toList.drop 47 = dktX1_rest_2 := dk_seg dksX1_rest_1 24 rfl rfl
theorem dX1_rest_0 : decode cX1_rest 0 = .ok (.aload_n 0, 1) := dk_42 (dk_at dksX1_rest_0 0 rfl rfl)
theorem dX1_rest_1 : decode cX1_rest 1 = .ok (.iload_n 1, 1) := dk_27 (dk_at dksX1_rest_0 1 rfl rfl)
theorem dX1_rest_2 : decode cX1_rest 2 = .ok (.iload_n 2, 1) := dk_28 (dk_at dksX1_rest_0 2 rfl rfl)
theorem dX1_rest_3 : decode cX1_rest 3 = .ok (.invokevirtual 187, 3) := dk_182 0 187 (dk_at dksX1_rest_0 3 rfl rfl)
theorem dX1_rest_6 : decode cX1_rest 6 = .ok (.ifCond .ne 5, 3) := dk_154 0 5 (dk_at dksX1_rest_0 6 rfl rfl)
theorem dX1_rest_9 : decode cX1_rest 9 = .ok (.iconst (-1), 1) := dk_2 (dk_at dksX1_rest_0 9 rfl rfl)
theorem dX1_rest_10 : decode cX1_rest 10 = .ok (.ireturn, 1) := dk_172 (dk_at dksX1_rest_0 10 rfl rfl)
theorem dX1_rest_11 : decode cX1_rest 11 = .ok (.aload_n 0, 1) := dk_42 (dk_at dksX1_rest_0 11 rfl rfl)
theorem dX1_rest_12 : decode cX1_rest 12 = .ok (.getfield 21, 3) := dk_180 0 21 (dk_at dksX1_rest_0 12 rfl rfl)
theorem dX1_rest_15 : decode cX1_rest 15 = .ok (.iload_n 1, 1) := dk_27 (dk_at dksX1_rest_0 15 rfl rfl)
theorem dX1_rest_16 : decode cX1_rest 16 = .ok (.aaload, 1) := dk_50 (dk_at dksX1_rest_0 16 rfl rfl)
theorem dX1_rest_17 : decode cX1_rest 17 = .ok (.astore_n 3, 1) := dk_78 (dk_at dksX1_rest_0 17 rfl rfl)
theorem dX1_rest_18 : decode cX1_rest 18 = .ok (.aload_n 0, 1) := dk_42 (dk_at dksX1_rest_0 18 rfl rfl)
theorem dX1_rest_19 : decode cX1_rest 19 = .ok (.getfield 11, 3) := dk_180 0 11 (dk_at dksX1_rest_0 19 rfl rfl)
theorem dX1_rest_22 : decode cX1_rest 22 = .ok (.aload_n 3, 1) := dk_45 (dk_at dksX1_rest_0 22 rfl rfl)
theorem dX1_rest_23 : decode cX1_rest 23 = .ok (.getfield 178, 3) := dk_180 0 178 (dk_at dksX1_rest_1 0 rfl rfl)
theorem dX1_rest_26 : decode cX1_rest 26 = .ok (.iload_n 2, 1) := dk_28 (dk_at dksX1_rest_1 3 rfl rfl)
theorem dX1_rest_27 : decode cX1_rest 27 = .ok (.iaload, 1) := dk_46 (dk_at dksX1_rest_1 4 rfl rfl)
theorem dX1_rest_28 : decode cX1_rest 28 = .ok (.aaload, 1) := dk_50 (dk_at dksX1_rest_1 5 rfl rfl)
theorem dX1_rest_29 : decode cX1_rest 29 = .ok (.astore 4, 2) := dk_58 4 (dk_at dksX1_rest_1 6 rfl rfl)
theorem dX1_rest_31 : decode cX1_rest 31 = .ok (.iconst 0, 1) := dk_3 (dk_at dksX1_rest_1 8 rfl rfl)
theorem dX1_rest_32 : decode cX1_rest 32 = .ok (.aload 4, 2) := dk_25 4 (dk_at dksX1_rest_1 9 rfl rfl)
theorem dX1_rest_34 : decode cX1_rest 34 = .ok (.getfield 194, 3) := dk_180 0 194 (dk_at dksX1_rest_1 11 rfl rfl)
theorem dX1_rest_37 : decode cX1_rest 37 = .ok (.aload_n 3, 1) := dk_45 (dk_at dksX1_rest_1 14 rfl rfl)
theorem dX1_rest_38 : decode cX1_rest 38 = .ok (.iload_n 2, 1) := dk_28 (dk_at dksX1_rest_1 15 rfl rfl)
theorem dX1_rest_39 : decode cX1_rest 39 = .ok (.aload_n 3, 1) := dk_45 (dk_at dksX1_rest_1 16 rfl rfl)
theorem dX1_rest_40 : decode cX1_rest 40 = .ok (.getfield 138, 3) := dk_180 0 138 (dk_at dksX1_rest_1 17 rfl rfl)
theorem dX1_rest_43 : decode cX1_rest 43 = .ok (.iconst 1, 1) := dk_4 (dk_at dksX1_rest_1 20 rfl rfl)
theorem dX1_rest_44 : decode cX1_rest 44 = .ok (.isub, 1) := dk_100 (dk_at dksX1_rest_1 21 rfl rfl)
theorem dX1_rest_45 : decode cX1_rest 45 = .ok (.aload 4, 2) := dk_25 4 (dk_at dksX1_rest_1 22 rfl rfl)
theorem dX1_rest_47 : decode cX1_rest 47 = .ok (.invokevirtual 190, 3) := dk_182 0 190 (dk_at dksX1_rest_2 0 rfl rfl)
theorem dX1_rest_50 : decode cX1_rest 50 = .ok (.isub, 1) := dk_100 (dk_at dksX1_rest_2 3 rfl rfl)
theorem dX1_rest_51 : decode cX1_rest 51 = .ok (.invokestatic 197, 3) := dk_184 0 197 (dk_at dksX1_rest_2 4 rfl rfl)
theorem dX1_rest_54 : decode cX1_rest 54 = .ok (.ireturn, 1) := dk_172 (dk_at dksX1_rest_2 7 rfl rfl)
abbrev cX1_hands : ByteArray := prog_1_method_21_code
def yX1_hands : MethodName := ⟨RX1, "hands", "(I)I"⟩
def dkwX1_hands_0 : List UInt8 := [42, 27, 182, 0, 134, 153, 0, 15, 42, 180, 0, 21, 27, 50, 180, 0, 203, 167, 0, 4, 2, 172]
abbrev dktX1_hands_0 : List UInt8 := dkwX1_hands_0 ++ []
theorem dksX1_hands_0 : cX1_hands.data.toList.drop 0 = dktX1_hands_0 := by decide +kernel
theorem dX1_hands_0 : decode cX1_hands 0 = .ok (.aload_n 0, 1) := dk_42 (dk_at dksX1_hands_0 0 rfl rfl)
theorem dX1_hands_1 : decode cX1_hands 1 = .ok (.iload_n 1, 1) := dk_27 (dk_at dksX1_hands_0 1 rfl rfl)
theorem dX1_hands_2 : decode cX1_hands 2 = .ok (.invokevirtual 134, 3) := dk_182 0 134 (dk_at dksX1_hands_0 2 rfl rfl)
theorem dX1_hands_5 : decode cX1_hands 5 = .ok (.ifCond .eq 15, 3) := dk_153 0 15 (dk_at dksX1_hands_0 5 rfl rfl)
theorem dX1_hands_8 : decode cX1_hands 8 = .ok (.aload_n 0, 1) := dk_42 (dk_at dksX1_hands_0 8 rfl rfl)
theorem dX1_hands_9 : decode cX1_hands 9 = .ok (.getfield 21, 3) := dk_180 0 21 (dk_at dksX1_hands_0 9 rfl rfl)
theorem dX1_hands_12 : decode cX1_hands 12 = .ok (.iload_n 1, 1) := dk_27 (dk_at dksX1_hands_0 12 rfl rfl)
theorem dX1_hands_13 : decode cX1_hands 13 = .ok (.aaload, 1) := dk_50 (dk_at dksX1_hands_0 13 rfl rfl)
theorem dX1_hands_14 : decode cX1_hands 14 = .ok (.getfield 203, 3) := dk_180 0 203 (dk_at dksX1_hands_0 14 rfl rfl)
theorem dX1_hands_17 : decode cX1_hands 17 = .ok (.goto 4, 3) := dk_167 0 4 (dk_at dksX1_hands_0 17 rfl rfl)
theorem dX1_hands_20 : decode cX1_hands 20 = .ok (.iconst (-1), 1) := dk_2 (dk_at dksX1_hands_0 20 rfl rfl)
theorem dX1_hands_21 : decode cX1_hands 21 = .ok (.ireturn, 1) := dk_172 (dk_at dksX1_hands_0 21 rfl rfl)
abbrev cX1_holds : ByteArray := prog_1_method_22_code
def yX1_holds : MethodName := ⟨RX1, "holds", "(II)I"⟩
def dkwX1_holds_1 : List UInt8 := [180, 0, 21, 27, 50, 28, 182, 0, 209, 153, 0, 7, 4, 167, 0, 8, 3, 167, 0, 4, 2, 172]
abbrev dktX1_holds_1 : List UInt8 := dkwX1_holds_1 ++ []
def dkwX1_holds_0 : List UInt8 := [42, 27, 28, 182, 0, 157, 153, 0, 37, 42, 180, 0, 21, 27, 50, 28, 182, 0, 206, 153, 0, 24, 42]
abbrev dktX1_holds_0 : List UInt8 := dkwX1_holds_0 ++ dktX1_holds_1
theorem dksX1_holds_0 : cX1_holds.data.toList.drop 0 = dktX1_holds_0 := by decide +kernel
theorem dksX1_holds_1 : cX1_holds.data.toList.drop 23 = dktX1_holds_1 := dk_seg dksX1_holds_0 23 rfl rfl
theorem dX1_holds_0 : decode cX1_holds 0 = .ok (.aload_n 0, 1) := dk_42 (dk_at dksX1_holds_0 0 rfl rfl)
theorem dX1_holds_1 : decode cX1_holds 1 = .ok (.iload_n 1, 1) := dk_27 (dk_at dksX1_holds_0 1 rfl rfl)
theorem dX1_holds_2 : decode cX1_holds 2 = .ok (.iload_n 2, 1) := dk_28 (dk_at dksX1_holds_0 2 rfl rfl)
theorem dX1_holds_3 : decode cX1_holds 3 = .ok (.invokevirtual 157, 3) := dk_182 0 157 (dk_at dksX1_holds_0 3 rfl rfl)
theorem dX1_holds_6 : decode cX1_holds 6 = .ok (.ifCond .eq 37, 3) := dk_153 0 37 (dk_at dksX1_holds_0 6 rfl rfl)
theorem dX1_holds_9 : decode cX1_holds 9 = .ok (.aload_n 0, 1) := dk_42 (dk_at dksX1_holds_0 9 rfl rfl)
theorem dX1_holds_10 : decode cX1_holds 10 = .ok (.getfield 21, 3) := dk_180 0 21 (dk_at dksX1_holds_0 10 rfl rfl)
theorem dX1_holds_13 : decode cX1_holds 13 = .ok (.iload_n 1, 1) := dk_27 (dk_at dksX1_holds_0 13 rfl rfl)
theorem dX1_holds_14 : decode cX1_holds 14 = .ok (.aaload, 1) := dk_50 (dk_at dksX1_holds_0 14 rfl rfl)
theorem dX1_holds_15 : decode cX1_holds 15 = .ok (.iload_n 2, 1) := dk_28 (dk_at dksX1_holds_0 15 rfl rfl)
theorem dX1_holds_16 : decode cX1_holds 16 = .ok (.invokevirtual 206, 3) := dk_182 0 206 (dk_at dksX1_holds_0 16 rfl rfl)
theorem dX1_holds_19 : decode cX1_holds 19 = .ok (.ifCond .eq 24, 3) := dk_153 0 24 (dk_at dksX1_holds_0 19 rfl rfl)
theorem dX1_holds_22 : decode cX1_holds 22 = .ok (.aload_n 0, 1) := dk_42 (dk_at dksX1_holds_0 22 rfl rfl)
theorem dX1_holds_23 : decode cX1_holds 23 = .ok (.getfield 21, 3) := dk_180 0 21 (dk_at dksX1_holds_1 0 rfl rfl)
theorem dX1_holds_26 : decode cX1_holds 26 = .ok (.iload_n 1, 1) := dk_27 (dk_at dksX1_holds_1 3 rfl rfl)
theorem dX1_holds_27 : decode cX1_holds 27 = .ok (.aaload, 1) := dk_50 (dk_at dksX1_holds_1 4 rfl rfl)
theorem dX1_holds_28 : decode cX1_holds 28 = .ok (.iload_n 2, 1) := dk_28 (dk_at dksX1_holds_1 5 rfl rfl)
theorem dX1_holds_29 : decode cX1_holds 29 = .ok (.invokevirtual 209, 3) := dk_182 0 209 (dk_at dksX1_holds_1 6 rfl rfl)
theorem dX1_holds_32 : decode cX1_holds 32 = .ok (.ifCond .eq 7, 3) := dk_153 0 7 (dk_at dksX1_holds_1 9 rfl rfl)
theorem dX1_holds_35 : decode cX1_holds 35 = .ok (.iconst 1, 1) := dk_4 (dk_at dksX1_holds_1 12 rfl rfl)
theorem dX1_holds_36 : decode cX1_holds 36 = .ok (.goto 8, 3) := dk_167 0 8 (dk_at dksX1_holds_1 13 rfl rfl)
theorem dX1_holds_39 : decode cX1_holds 39 = .ok (.iconst 0, 1) := dk_3 (dk_at dksX1_holds_1 16 rfl rfl)
theorem dX1_holds_40 : decode cX1_holds 40 = .ok (.goto 4, 3) := dk_167 0 4 (dk_at dksX1_holds_1 17 rfl rfl)
theorem dX1_holds_43 : decode cX1_holds 43 = .ok (.iconst (-1), 1) := dk_2 (dk_at dksX1_holds_1 20 rfl rfl)
theorem dX1_holds_44 : decode cX1_holds 44 = .ok (.ireturn, 1) := dk_172 (dk_at dksX1_holds_1 21 rfl rfl)
abbrev cX1_isBubble : ByteArray := prog_1_method_13_code
def yX1_isBubble : MethodName := ⟨RX1, "isBubble", "(II)Z"⟩
def dkwX1_isBubble_1 : List UInt8 := [184, 0, 74, 153, 0, 7, 4, 167, 0, 4, 3, 172]
abbrev dktX1_isBubble_1 : List UInt8 := dkwX1_isBubble_1 ++ []
def dkwX1_isBubble_0 : List UInt8 := [42, 27, 182, 0, 134, 153, 0, 28, 28, 133, 9, 42, 180, 0, 21, 27, 50, 180, 0, 138, 4, 100, 133]
abbrev dktX1_isBubble_0 : List UInt8 := dkwX1_isBubble_0 ++ dktX1_isBubble_1
theorem dksX1_isBubble_0 : cX1_isBubble.data.toList.drop 0 = dktX1_isBubble_0 := by decide +kernel
theorem dksX1_isBubble_1 : cX1_isBubble.data.toList.drop 23 = dktX1_isBubble_1 := dk_seg dksX1_isBubble_0 23 rfl rfl
theorem dX1_isBubble_0 : decode cX1_isBubble 0 = .ok (.aload_n 0, 1) := dk_42 (dk_at dksX1_isBubble_0 0 rfl rfl)
theorem dX1_isBubble_1 : decode cX1_isBubble 1 = .ok (.iload_n 1, 1) := dk_27 (dk_at dksX1_isBubble_0 1 rfl rfl)
theorem dX1_isBubble_2 : decode cX1_isBubble 2 = .ok (.invokevirtual 134, 3) := dk_182 0 134 (dk_at dksX1_isBubble_0 2 rfl rfl)
theorem dX1_isBubble_5 : decode cX1_isBubble 5 = .ok (.ifCond .eq 28, 3) := dk_153 0 28 (dk_at dksX1_isBubble_0 5 rfl rfl)
theorem dX1_isBubble_8 : decode cX1_isBubble 8 = .ok (.iload_n 2, 1) := dk_28 (dk_at dksX1_isBubble_0 8 rfl rfl)
theorem dX1_isBubble_9 : decode cX1_isBubble 9 = .ok (.i2l, 1) := dk_133 (dk_at dksX1_isBubble_0 9 rfl rfl)
theorem dX1_isBubble_10 : decode cX1_isBubble 10 = .ok (.lconst 0, 1) := dk_9 (dk_at dksX1_isBubble_0 10 rfl rfl)
theorem dX1_isBubble_11 : decode cX1_isBubble 11 = .ok (.aload_n 0, 1) := dk_42 (dk_at dksX1_isBubble_0 11 rfl rfl)
theorem dX1_isBubble_12 : decode cX1_isBubble 12 = .ok (.getfield 21, 3) := dk_180 0 21 (dk_at dksX1_isBubble_0 12 rfl rfl)
theorem dX1_isBubble_15 : decode cX1_isBubble 15 = .ok (.iload_n 1, 1) := dk_27 (dk_at dksX1_isBubble_0 15 rfl rfl)
theorem dX1_isBubble_16 : decode cX1_isBubble 16 = .ok (.aaload, 1) := dk_50 (dk_at dksX1_isBubble_0 16 rfl rfl)
theorem dX1_isBubble_17 : decode cX1_isBubble 17 = .ok (.getfield 138, 3) := dk_180 0 138 (dk_at dksX1_isBubble_0 17 rfl rfl)
theorem dX1_isBubble_20 : decode cX1_isBubble 20 = .ok (.iconst 1, 1) := dk_4 (dk_at dksX1_isBubble_0 20 rfl rfl)
theorem dX1_isBubble_21 : decode cX1_isBubble 21 = .ok (.isub, 1) := dk_100 (dk_at dksX1_isBubble_0 21 rfl rfl)
theorem dX1_isBubble_22 : decode cX1_isBubble 22 = .ok (.i2l, 1) := dk_133 (dk_at dksX1_isBubble_0 22 rfl rfl)
theorem dX1_isBubble_23 : decode cX1_isBubble 23 = .ok (.invokestatic 74, 3) := dk_184 0 74 (dk_at dksX1_isBubble_1 0 rfl rfl)
theorem dX1_isBubble_26 : decode cX1_isBubble 26 = .ok (.ifCond .eq 7, 3) := dk_153 0 7 (dk_at dksX1_isBubble_1 3 rfl rfl)
theorem dX1_isBubble_29 : decode cX1_isBubble 29 = .ok (.iconst 1, 1) := dk_4 (dk_at dksX1_isBubble_1 6 rfl rfl)
theorem dX1_isBubble_30 : decode cX1_isBubble 30 = .ok (.goto 4, 3) := dk_167 0 4 (dk_at dksX1_isBubble_1 7 rfl rfl)
theorem dX1_isBubble_33 : decode cX1_isBubble 33 = .ok (.iconst 0, 1) := dk_3 (dk_at dksX1_isBubble_1 10 rfl rfl)
theorem dX1_isBubble_34 : decode cX1_isBubble 34 = .ok (.ireturn, 1) := dk_172 (dk_at dksX1_isBubble_1 11 rfl rfl)
abbrev cX1_plain : ByteArray := prog_1_method_23_code
def yX1_plain : MethodName := ⟨RX1, "plain", "(I)I"⟩
def dkwX1_plain_11 : List UInt8 := [25, 4, 183, 0, 128, 182, 0, 130, 172]
abbrev dktX1_plain_11 : List UInt8 := dkwX1_plain_11 ++ []
def dkwX1_plain_10 : List UInt8 := [46, 182, 0, 223, 21, 8, 4, 96, 54, 6, 3, 54, 7, 132, 8, 1, 167, 255, 168, 42, 187, 0, 19, 89]
abbrev dktX1_plain_10 : List UInt8 := dkwX1_plain_10 ++ dktX1_plain_11
def dkwX1_plain_9 : List UInt8 := [44, 180, 0, 169, 21, 6, 46, 46, 25, 5, 44, 180, 0, 172, 21, 8, 46, 46, 44, 180, 0, 175, 21, 8]
abbrev dktX1_plain_9 : List UInt8 := dkwX1_plain_9 ++ dktX1_plain_10
def dkwX1_plain_8 : List UInt8 := [182, 0, 206, 153, 0, 15, 44, 21, 8, 182, 0, 209, 154, 0, 6, 167, 0, 46, 25, 4, 21, 7, 25, 5]
abbrev dktX1_plain_8 : List UInt8 := dkwX1_plain_8 ++ dktX1_plain_9
def dkwX1_plain_7 : List UInt8 := [21, 8, 44, 180, 0, 138, 162, 0, 85, 21, 7, 44, 180, 0, 166, 21, 8, 46, 96, 54, 7, 44, 21, 8]
abbrev dktX1_plain_7 : List UInt8 := dkwX1_plain_7 ++ dktX1_plain_8
def dkwX1_plain_6 : List UInt8 := [180, 0, 144, 184, 0, 216, 25, 4, 44, 180, 0, 144, 181, 0, 222, 3, 54, 6, 3, 54, 7, 3, 54, 8]
abbrev dktX1_plain_6 : List UInt8 := dkwX1_plain_6 ++ dktX1_plain_7
def dkwX1_plain_5 : List UInt8 := [182, 0, 212, 79, 132, 6, 1, 167, 255, 225, 44, 180, 0, 178, 3, 25, 4, 180, 0, 215, 3, 44]
abbrev dktX1_plain_5 : List UInt8 := dkwX1_plain_5 ++ dktX1_plain_6
def dkwX1_plain_4 : List UInt8 := [21, 6, 44, 180, 0, 141, 162, 0, 28, 29, 21, 6, 122, 4, 126, 154, 0, 13, 25, 5, 21, 6, 25, 4]
abbrev dktX1_plain_4 : List UInt8 := dkwX1_plain_4 ++ dktX1_plain_5
def dkwX1_plain_3 : List UInt8 := [132, 4, 1, 167, 255, 214, 187, 0, 119, 89, 183, 0, 121, 58, 4, 16, 32, 188, 10, 58, 5, 3, 54, 6]
abbrev dktX1_plain_3 : List UInt8 := dkwX1_plain_3 ++ dktX1_plain_4
def dkwX1_plain_2 : List UInt8 := [153, 0, 24, 44, 21, 4, 182, 0, 209, 154, 0, 15, 29, 4, 44, 180, 0, 172, 21, 4, 46, 120, 128, 62]
abbrev dktX1_plain_2 : List UInt8 := dkwX1_plain_2 ++ dktX1_plain_3
def dkwX1_plain_1 : List UInt8 := [50, 77, 3, 62, 3, 54, 4, 21, 4, 44, 180, 0, 138, 162, 0, 39, 44, 21, 4, 182, 0, 206]
abbrev dktX1_plain_1 : List UInt8 := dkwX1_plain_1 ++ dktX1_plain_2
def dkwX1_plain_0 : List UInt8 := [42, 27, 182, 0, 134, 153, 0, 12, 42, 180, 0, 116, 16, 12, 160, 0, 5, 2, 172, 42, 180, 0, 21, 27]
abbrev dktX1_plain_0 : List UInt8 := dkwX1_plain_0 ++ dktX1_plain_1
theorem dksX1_plain_0 : cX1_plain.data.toList.drop 0 = dktX1_plain_0 := by decide +kernel
theorem dksX1_plain_1 : cX1_plain.data.toList.drop 24 = dktX1_plain_1 := dk_seg dksX1_plain_0 24 rfl rfl
theorem dksX1_plain_2 : cX1_plain.data.toList.drop 46 = dktX1_plain_2 := dk_seg dksX1_plain_1 22 rfl rfl
theorem dksX1_plain_3 : cX1_plain.data.toList.drop 70 = dktX1_plain_3 := dk_seg dksX1_plain_2 24 rfl rfl
theorem dksX1_plain_4 : cX1_plain.data.toList.drop 94 = dktX1_plain_4 := dk_seg dksX1_plain_3 24 rfl rfl
theorem dksX1_plain_5 : cX1_plain.data.toList.drop 118 = dktX1_plain_5 := dk_seg dksX1_plain_4 24 rfl rfl
theorem dksX1_plain_6 : cX1_plain.data.toList.drop 140 = dktX1_plain_6 := dk_seg dksX1_plain_5 22 rfl rfl
theorem dksX1_plain_7 : cX1_plain.data.toList.drop 164 = dktX1_plain_7 := dk_seg dksX1_plain_6 24 rfl rfl
theorem dksX1_plain_8 : cX1_plain.data.toList.drop 188 = dktX1_plain_8 := dk_seg dksX1_plain_7 24 rfl rfl
theorem dksX1_plain_9 : cX1_plain.data.toList.drop 212 = dktX1_plain_9 := dk_seg dksX1_plain_8 24 rfl rfl
theorem dksX1_plain_10 : cX1_plain.data.toList.drop 236 = dktX1_plain_10 := dk_seg dksX1_plain_9 24 rfl rfl
theorem dksX1_plain_11 : cX1_plain.data.toList.drop 260 = dktX1_plain_11 := dk_seg dksX1_plain_10 24 rfl rfl
theorem dX1_plain_0 : decode cX1_plain 0 = .ok (.aload_n 0, 1) := dk_42 (dk_at dksX1_plain_0 0 rfl rfl)
theorem dX1_plain_1 : decode cX1_plain 1 = .ok (.iload_n 1, 1) := dk_27 (dk_at dksX1_plain_0 1 rfl rfl)
theorem dX1_plain_2 : decode cX1_plain 2 = .ok (.invokevirtual 134, 3) := dk_182 0 134 (dk_at dksX1_plain_0 2 rfl rfl)
theorem dX1_plain_5 : decode cX1_plain 5 = .ok (.ifCond .eq 12, 3) := dk_153 0 12 (dk_at dksX1_plain_0 5 rfl rfl)
theorem dX1_plain_8 : decode cX1_plain 8 = .ok (.aload_n 0, 1) := dk_42 (dk_at dksX1_plain_0 8 rfl rfl)
theorem dX1_plain_9 : decode cX1_plain 9 = .ok (.getfield 116, 3) := dk_180 0 116 (dk_at dksX1_plain_0 9 rfl rfl)
theorem dX1_plain_12 : decode cX1_plain 12 = .ok (.bipush 12, 2) := dk_16 12 (dk_at dksX1_plain_0 12 rfl rfl)
theorem dX1_plain_14 : decode cX1_plain 14 = .ok (.if_icmp .ne 5, 3) := dk_160 0 5 (dk_at dksX1_plain_0 14 rfl rfl)
theorem dX1_plain_17 : decode cX1_plain 17 = .ok (.iconst (-1), 1) := dk_2 (dk_at dksX1_plain_0 17 rfl rfl)
theorem dX1_plain_18 : decode cX1_plain 18 = .ok (.ireturn, 1) := dk_172 (dk_at dksX1_plain_0 18 rfl rfl)
theorem dX1_plain_19 : decode cX1_plain 19 = .ok (.aload_n 0, 1) := dk_42 (dk_at dksX1_plain_0 19 rfl rfl)
theorem dX1_plain_20 : decode cX1_plain 20 = .ok (.getfield 21, 3) := dk_180 0 21 (dk_at dksX1_plain_0 20 rfl rfl)
theorem dX1_plain_23 : decode cX1_plain 23 = .ok (.iload_n 1, 1) := dk_27 (dk_at dksX1_plain_0 23 rfl rfl)
theorem dX1_plain_24 : decode cX1_plain 24 = .ok (.aaload, 1) := dk_50 (dk_at dksX1_plain_1 0 rfl rfl)
theorem dX1_plain_25 : decode cX1_plain 25 = .ok (.astore_n 2, 1) := dk_77 (dk_at dksX1_plain_1 1 rfl rfl)
theorem dX1_plain_26 : decode cX1_plain 26 = .ok (.iconst 0, 1) := dk_3 (dk_at dksX1_plain_1 2 rfl rfl)
theorem dX1_plain_27 : decode cX1_plain 27 = .ok (.istore_n 3, 1) := dk_62 (dk_at dksX1_plain_1 3 rfl rfl)
theorem dX1_plain_28 : decode cX1_plain 28 = .ok (.iconst 0, 1) := dk_3 (dk_at dksX1_plain_1 4 rfl rfl)
theorem dX1_plain_29 : decode cX1_plain 29 = .ok (.istore 4, 2) := dk_54 4 (dk_at dksX1_plain_1 5 rfl rfl)
theorem dX1_plain_31 : decode cX1_plain 31 = .ok (.iload 4, 2) := dk_21 4 (dk_at dksX1_plain_1 7 rfl rfl)
theorem dX1_plain_33 : decode cX1_plain 33 = .ok (.aload_n 2, 1) := dk_44 (dk_at dksX1_plain_1 9 rfl rfl)
theorem dX1_plain_34 : decode cX1_plain 34 = .ok (.getfield 138, 3) := dk_180 0 138 (dk_at dksX1_plain_1 10 rfl rfl)
theorem dX1_plain_37 : decode cX1_plain 37 = .ok (.if_icmp .ge 39, 3) := dk_162 0 39 (dk_at dksX1_plain_1 13 rfl rfl)
theorem dX1_plain_40 : decode cX1_plain 40 = .ok (.aload_n 2, 1) := dk_44 (dk_at dksX1_plain_1 16 rfl rfl)
theorem dX1_plain_41 : decode cX1_plain 41 = .ok (.iload 4, 2) := dk_21 4 (dk_at dksX1_plain_1 17 rfl rfl)
theorem dX1_plain_43 : decode cX1_plain 43 = .ok (.invokevirtual 206, 3) := dk_182 0 206 (dk_at dksX1_plain_1 19 rfl rfl)
theorem dX1_plain_46 : decode cX1_plain 46 = .ok (.ifCond .eq 24, 3) := dk_153 0 24 (dk_at dksX1_plain_2 0 rfl rfl)
theorem dX1_plain_49 : decode cX1_plain 49 = .ok (.aload_n 2, 1) := dk_44 (dk_at dksX1_plain_2 3 rfl rfl)
theorem dX1_plain_50 : decode cX1_plain 50 = .ok (.iload 4, 2) := dk_21 4 (dk_at dksX1_plain_2 4 rfl rfl)
theorem dX1_plain_52 : decode cX1_plain 52 = .ok (.invokevirtual 209, 3) := dk_182 0 209 (dk_at dksX1_plain_2 6 rfl rfl)
theorem dX1_plain_55 : decode cX1_plain 55 = .ok (.ifCond .ne 15, 3) := dk_154 0 15 (dk_at dksX1_plain_2 9 rfl rfl)
theorem dX1_plain_58 : decode cX1_plain 58 = .ok (.iload_n 3, 1) := dk_29 (dk_at dksX1_plain_2 12 rfl rfl)
theorem dX1_plain_59 : decode cX1_plain 59 = .ok (.iconst 1, 1) := dk_4 (dk_at dksX1_plain_2 13 rfl rfl)
theorem dX1_plain_60 : decode cX1_plain 60 = .ok (.aload_n 2, 1) := dk_44 (dk_at dksX1_plain_2 14 rfl rfl)
theorem dX1_plain_61 : decode cX1_plain 61 = .ok (.getfield 172, 3) := dk_180 0 172 (dk_at dksX1_plain_2 15 rfl rfl)
theorem dX1_plain_64 : decode cX1_plain 64 = .ok (.iload 4, 2) := dk_21 4 (dk_at dksX1_plain_2 18 rfl rfl)
theorem dX1_plain_66 : decode cX1_plain 66 = .ok (.iaload, 1) := dk_46 (dk_at dksX1_plain_2 20 rfl rfl)
theorem dX1_plain_67 : decode cX1_plain 67 = .ok (.ishl, 1) := dk_120 (dk_at dksX1_plain_2 21 rfl rfl)
theorem dX1_plain_68 : decode cX1_plain 68 = .ok (.ior, 1) := dk_128 (dk_at dksX1_plain_2 22 rfl rfl)
theorem dX1_plain_69 : decode cX1_plain 69 = .ok (.istore_n 3, 1) := dk_62 (dk_at dksX1_plain_2 23 rfl rfl)
theorem dX1_plain_70 : decode cX1_plain 70 = .ok (.iinc 4 1, 3) := dk_132 4 1 (dk_at dksX1_plain_3 0 rfl rfl)
theorem dX1_plain_73 : decode cX1_plain 73 = .ok (.goto (-42), 3) := dk_167 255 214 (dk_at dksX1_plain_3 3 rfl rfl)
theorem dX1_plain_76 : decode cX1_plain 76 = .ok (.new 119, 3) := dk_187 0 119 (dk_at dksX1_plain_3 6 rfl rfl)
theorem dX1_plain_79 : decode cX1_plain 79 = .ok (.dup, 1) := dk_89 (dk_at dksX1_plain_3 9 rfl rfl)
theorem dX1_plain_80 : decode cX1_plain 80 = .ok (.invokespecial 121, 3) := dk_183 0 121 (dk_at dksX1_plain_3 10 rfl rfl)
theorem dX1_plain_83 : decode cX1_plain 83 = .ok (.astore 4, 2) := dk_58 4 (dk_at dksX1_plain_3 13 rfl rfl)
theorem dX1_plain_85 : decode cX1_plain 85 = .ok (.bipush 32, 2) := dk_16 32 (dk_at dksX1_plain_3 15 rfl rfl)
theorem dX1_plain_87 : decode cX1_plain 87 = .ok (.newarray .int, 2) := dk_188_10 (dk_at dksX1_plain_3 17 rfl rfl)
theorem dX1_plain_89 : decode cX1_plain 89 = .ok (.astore 5, 2) := dk_58 5 (dk_at dksX1_plain_3 19 rfl rfl)
theorem dX1_plain_91 : decode cX1_plain 91 = .ok (.iconst 0, 1) := dk_3 (dk_at dksX1_plain_3 21 rfl rfl)
theorem dX1_plain_92 : decode cX1_plain 92 = .ok (.istore 6, 2) := dk_54 6 (dk_at dksX1_plain_3 22 rfl rfl)
theorem dX1_plain_94 : decode cX1_plain 94 = .ok (.iload 6, 2) := dk_21 6 (dk_at dksX1_plain_4 0 rfl rfl)
theorem dX1_plain_96 : decode cX1_plain 96 = .ok (.aload_n 2, 1) := dk_44 (dk_at dksX1_plain_4 2 rfl rfl)
theorem dX1_plain_97 : decode cX1_plain 97 = .ok (.getfield 141, 3) := dk_180 0 141 (dk_at dksX1_plain_4 3 rfl rfl)
theorem dX1_plain_100 : decode cX1_plain 100 = .ok (.if_icmp .ge 28, 3) := dk_162 0 28 (dk_at dksX1_plain_4 6 rfl rfl)
theorem dX1_plain_103 : decode cX1_plain 103 = .ok (.iload_n 3, 1) := dk_29 (dk_at dksX1_plain_4 9 rfl rfl)
theorem dX1_plain_104 : decode cX1_plain 104 = .ok (.iload 6, 2) := dk_21 6 (dk_at dksX1_plain_4 10 rfl rfl)
theorem dX1_plain_106 : decode cX1_plain 106 = .ok (.ishr, 1) := dk_122 (dk_at dksX1_plain_4 12 rfl rfl)
theorem dX1_plain_107 : decode cX1_plain 107 = .ok (.iconst 1, 1) := dk_4 (dk_at dksX1_plain_4 13 rfl rfl)
theorem dX1_plain_108 : decode cX1_plain 108 = .ok (.iand, 1) := dk_126 (dk_at dksX1_plain_4 14 rfl rfl)
theorem dX1_plain_109 : decode cX1_plain 109 = .ok (.ifCond .ne 13, 3) := dk_154 0 13 (dk_at dksX1_plain_4 15 rfl rfl)
theorem dX1_plain_112 : decode cX1_plain 112 = .ok (.aload 5, 2) := dk_25 5 (dk_at dksX1_plain_4 18 rfl rfl)
theorem dX1_plain_114 : decode cX1_plain 114 = .ok (.iload 6, 2) := dk_21 6 (dk_at dksX1_plain_4 20 rfl rfl)
theorem dX1_plain_116 : decode cX1_plain 116 = .ok (.aload 4, 2) := dk_25 4 (dk_at dksX1_plain_4 22 rfl rfl)
theorem dX1_plain_118 : decode cX1_plain 118 = .ok (.invokevirtual 212, 3) := dk_182 0 212 (dk_at dksX1_plain_5 0 rfl rfl)
theorem dX1_plain_121 : decode cX1_plain 121 = .ok (.iastore, 1) := dk_79 (dk_at dksX1_plain_5 3 rfl rfl)
theorem dX1_plain_122 : decode cX1_plain 122 = .ok (.iinc 6 1, 3) := dk_132 6 1 (dk_at dksX1_plain_5 4 rfl rfl)
theorem dX1_plain_125 : decode cX1_plain 125 = .ok (.goto (-31), 3) := dk_167 255 225 (dk_at dksX1_plain_5 7 rfl rfl)
theorem dX1_plain_128 : decode cX1_plain 128 = .ok (.aload_n 2, 1) := dk_44 (dk_at dksX1_plain_5 10 rfl rfl)
theorem dX1_plain_129 : decode cX1_plain 129 = .ok (.getfield 178, 3) := dk_180 0 178 (dk_at dksX1_plain_5 11 rfl rfl)
theorem dX1_plain_132 : decode cX1_plain 132 = .ok (.iconst 0, 1) := dk_3 (dk_at dksX1_plain_5 14 rfl rfl)
theorem dX1_plain_133 : decode cX1_plain 133 = .ok (.aload 4, 2) := dk_25 4 (dk_at dksX1_plain_5 15 rfl rfl)
theorem dX1_plain_135 : decode cX1_plain 135 = .ok (.getfield 215, 3) := dk_180 0 215 (dk_at dksX1_plain_5 17 rfl rfl)
theorem dX1_plain_138 : decode cX1_plain 138 = .ok (.iconst 0, 1) := dk_3 (dk_at dksX1_plain_5 20 rfl rfl)
theorem dX1_plain_139 : decode cX1_plain 139 = .ok (.aload_n 2, 1) := dk_44 (dk_at dksX1_plain_5 21 rfl rfl)
theorem dX1_plain_140 : decode cX1_plain 140 = .ok (.getfield 144, 3) := dk_180 0 144 (dk_at dksX1_plain_6 0 rfl rfl)
theorem dX1_plain_143 : decode cX1_plain 143 = .ok (.invokestatic 216, 3) := dk_184 0 216 (dk_at dksX1_plain_6 3 rfl rfl)
theorem dX1_plain_146 : decode cX1_plain 146 = .ok (.aload 4, 2) := dk_25 4 (dk_at dksX1_plain_6 6 rfl rfl)
theorem dX1_plain_148 : decode cX1_plain 148 = .ok (.aload_n 2, 1) := dk_44 (dk_at dksX1_plain_6 8 rfl rfl)
theorem dX1_plain_149 : decode cX1_plain 149 = .ok (.getfield 144, 3) := dk_180 0 144 (dk_at dksX1_plain_6 9 rfl rfl)
theorem dX1_plain_152 : decode cX1_plain 152 = .ok (.putfield 222, 3) := dk_181 0 222 (dk_at dksX1_plain_6 12 rfl rfl)
theorem dX1_plain_155 : decode cX1_plain 155 = .ok (.iconst 0, 1) := dk_3 (dk_at dksX1_plain_6 15 rfl rfl)
theorem dX1_plain_156 : decode cX1_plain 156 = .ok (.istore 6, 2) := dk_54 6 (dk_at dksX1_plain_6 16 rfl rfl)
theorem dX1_plain_158 : decode cX1_plain 158 = .ok (.iconst 0, 1) := dk_3 (dk_at dksX1_plain_6 18 rfl rfl)
theorem dX1_plain_159 : decode cX1_plain 159 = .ok (.istore 7, 2) := dk_54 7 (dk_at dksX1_plain_6 19 rfl rfl)
theorem dX1_plain_161 : decode cX1_plain 161 = .ok (.iconst 0, 1) := dk_3 (dk_at dksX1_plain_6 21 rfl rfl)
theorem dX1_plain_162 : decode cX1_plain 162 = .ok (.istore 8, 2) := dk_54 8 (dk_at dksX1_plain_6 22 rfl rfl)
theorem dX1_plain_164 : decode cX1_plain 164 = .ok (.iload 8, 2) := dk_21 8 (dk_at dksX1_plain_7 0 rfl rfl)
theorem dX1_plain_166 : decode cX1_plain 166 = .ok (.aload_n 2, 1) := dk_44 (dk_at dksX1_plain_7 2 rfl rfl)
theorem dX1_plain_167 : decode cX1_plain 167 = .ok (.getfield 138, 3) := dk_180 0 138 (dk_at dksX1_plain_7 3 rfl rfl)
theorem dX1_plain_170 : decode cX1_plain 170 = .ok (.if_icmp .ge 85, 3) := dk_162 0 85 (dk_at dksX1_plain_7 6 rfl rfl)
theorem dX1_plain_173 : decode cX1_plain 173 = .ok (.iload 7, 2) := dk_21 7 (dk_at dksX1_plain_7 9 rfl rfl)
theorem dX1_plain_175 : decode cX1_plain 175 = .ok (.aload_n 2, 1) := dk_44 (dk_at dksX1_plain_7 11 rfl rfl)
theorem dX1_plain_176 : decode cX1_plain 176 = .ok (.getfield 166, 3) := dk_180 0 166 (dk_at dksX1_plain_7 12 rfl rfl)
theorem dX1_plain_179 : decode cX1_plain 179 = .ok (.iload 8, 2) := dk_21 8 (dk_at dksX1_plain_7 15 rfl rfl)
theorem dX1_plain_181 : decode cX1_plain 181 = .ok (.iaload, 1) := dk_46 (dk_at dksX1_plain_7 17 rfl rfl)
theorem dX1_plain_182 : decode cX1_plain 182 = .ok (.iadd, 1) := dk_96 (dk_at dksX1_plain_7 18 rfl rfl)
theorem dX1_plain_183 : decode cX1_plain 183 = .ok (.istore 7, 2) := dk_54 7 (dk_at dksX1_plain_7 19 rfl rfl)
theorem dX1_plain_185 : decode cX1_plain 185 = .ok (.aload_n 2, 1) := dk_44 (dk_at dksX1_plain_7 21 rfl rfl)
theorem dX1_plain_186 : decode cX1_plain 186 = .ok (.iload 8, 2) := dk_21 8 (dk_at dksX1_plain_7 22 rfl rfl)
theorem dX1_plain_188 : decode cX1_plain 188 = .ok (.invokevirtual 206, 3) := dk_182 0 206 (dk_at dksX1_plain_8 0 rfl rfl)
theorem dX1_plain_191 : decode cX1_plain 191 = .ok (.ifCond .eq 15, 3) := dk_153 0 15 (dk_at dksX1_plain_8 3 rfl rfl)
theorem dX1_plain_194 : decode cX1_plain 194 = .ok (.aload_n 2, 1) := dk_44 (dk_at dksX1_plain_8 6 rfl rfl)
theorem dX1_plain_195 : decode cX1_plain 195 = .ok (.iload 8, 2) := dk_21 8 (dk_at dksX1_plain_8 7 rfl rfl)
theorem dX1_plain_197 : decode cX1_plain 197 = .ok (.invokevirtual 209, 3) := dk_182 0 209 (dk_at dksX1_plain_8 9 rfl rfl)
theorem dX1_plain_200 : decode cX1_plain 200 = .ok (.ifCond .ne 6, 3) := dk_154 0 6 (dk_at dksX1_plain_8 12 rfl rfl)
theorem dX1_plain_203 : decode cX1_plain 203 = .ok (.goto 46, 3) := dk_167 0 46 (dk_at dksX1_plain_8 15 rfl rfl)
theorem dX1_plain_206 : decode cX1_plain 206 = .ok (.aload 4, 2) := dk_25 4 (dk_at dksX1_plain_8 18 rfl rfl)
theorem dX1_plain_208 : decode cX1_plain 208 = .ok (.iload 7, 2) := dk_21 7 (dk_at dksX1_plain_8 20 rfl rfl)
theorem dX1_plain_210 : decode cX1_plain 210 = .ok (.aload 5, 2) := dk_25 5 (dk_at dksX1_plain_8 22 rfl rfl)
theorem dX1_plain_212 : decode cX1_plain 212 = .ok (.aload_n 2, 1) := dk_44 (dk_at dksX1_plain_9 0 rfl rfl)
theorem dX1_plain_213 : decode cX1_plain 213 = .ok (.getfield 169, 3) := dk_180 0 169 (dk_at dksX1_plain_9 1 rfl rfl)
theorem dX1_plain_216 : decode cX1_plain 216 = .ok (.iload 6, 2) := dk_21 6 (dk_at dksX1_plain_9 4 rfl rfl)
theorem dX1_plain_218 : decode cX1_plain 218 = .ok (.iaload, 1) := dk_46 (dk_at dksX1_plain_9 6 rfl rfl)
theorem dX1_plain_219 : decode cX1_plain 219 = .ok (.iaload, 1) := dk_46 (dk_at dksX1_plain_9 7 rfl rfl)
theorem dX1_plain_220 : decode cX1_plain 220 = .ok (.aload 5, 2) := dk_25 5 (dk_at dksX1_plain_9 8 rfl rfl)
theorem dX1_plain_222 : decode cX1_plain 222 = .ok (.aload_n 2, 1) := dk_44 (dk_at dksX1_plain_9 10 rfl rfl)
theorem dX1_plain_223 : decode cX1_plain 223 = .ok (.getfield 172, 3) := dk_180 0 172 (dk_at dksX1_plain_9 11 rfl rfl)
theorem dX1_plain_226 : decode cX1_plain 226 = .ok (.iload 8, 2) := dk_21 8 (dk_at dksX1_plain_9 14 rfl rfl)
theorem dX1_plain_228 : decode cX1_plain 228 = .ok (.iaload, 1) := dk_46 (dk_at dksX1_plain_9 16 rfl rfl)
theorem dX1_plain_229 : decode cX1_plain 229 = .ok (.iaload, 1) := dk_46 (dk_at dksX1_plain_9 17 rfl rfl)
theorem dX1_plain_230 : decode cX1_plain 230 = .ok (.aload_n 2, 1) := dk_44 (dk_at dksX1_plain_9 18 rfl rfl)
theorem dX1_plain_231 : decode cX1_plain 231 = .ok (.getfield 175, 3) := dk_180 0 175 (dk_at dksX1_plain_9 19 rfl rfl)
theorem dX1_plain_234 : decode cX1_plain 234 = .ok (.iload 8, 2) := dk_21 8 (dk_at dksX1_plain_9 22 rfl rfl)
theorem dX1_plain_236 : decode cX1_plain 236 = .ok (.iaload, 1) := dk_46 (dk_at dksX1_plain_10 0 rfl rfl)
theorem dX1_plain_237 : decode cX1_plain 237 = .ok (.invokevirtual 223, 3) := dk_182 0 223 (dk_at dksX1_plain_10 1 rfl rfl)
theorem dX1_plain_240 : decode cX1_plain 240 = .ok (.iload 8, 2) := dk_21 8 (dk_at dksX1_plain_10 4 rfl rfl)
theorem dX1_plain_242 : decode cX1_plain 242 = .ok (.iconst 1, 1) := dk_4 (dk_at dksX1_plain_10 6 rfl rfl)
theorem dX1_plain_243 : decode cX1_plain 243 = .ok (.iadd, 1) := dk_96 (dk_at dksX1_plain_10 7 rfl rfl)
theorem dX1_plain_244 : decode cX1_plain 244 = .ok (.istore 6, 2) := dk_54 6 (dk_at dksX1_plain_10 8 rfl rfl)
theorem dX1_plain_246 : decode cX1_plain 246 = .ok (.iconst 0, 1) := dk_3 (dk_at dksX1_plain_10 10 rfl rfl)
theorem dX1_plain_247 : decode cX1_plain 247 = .ok (.istore 7, 2) := dk_54 7 (dk_at dksX1_plain_10 11 rfl rfl)
theorem dX1_plain_249 : decode cX1_plain 249 = .ok (.iinc 8 1, 3) := dk_132 8 1 (dk_at dksX1_plain_10 13 rfl rfl)
theorem dX1_plain_252 : decode cX1_plain 252 = .ok (.goto (-88), 3) := dk_167 255 168 (dk_at dksX1_plain_10 16 rfl rfl)
theorem dX1_plain_255 : decode cX1_plain 255 = .ok (.aload_n 0, 1) := dk_42 (dk_at dksX1_plain_10 19 rfl rfl)
theorem dX1_plain_256 : decode cX1_plain 256 = .ok (.new 19, 3) := dk_187 0 19 (dk_at dksX1_plain_10 20 rfl rfl)
theorem dX1_plain_259 : decode cX1_plain 259 = .ok (.dup, 1) := dk_89 (dk_at dksX1_plain_10 23 rfl rfl)
theorem dX1_plain_260 : decode cX1_plain 260 = .ok (.aload 4, 2) := dk_25 4 (dk_at dksX1_plain_11 0 rfl rfl)
theorem dX1_plain_262 : decode cX1_plain 262 = .ok (.invokespecial 128, 3) := dk_183 0 128 (dk_at dksX1_plain_11 2 rfl rfl)
theorem dX1_plain_265 : decode cX1_plain 265 = .ok (.invokevirtual 130, 3) := dk_182 0 130 (dk_at dksX1_plain_11 5 rfl rfl)
theorem dX1_plain_268 : decode cX1_plain 268 = .ok (.ireturn, 1) := dk_172 (dk_at dksX1_plain_11 8 rfl rfl)
abbrev cX1_pop : ByteArray := prog_1_method_24_code
def yX1_pop : MethodName := ⟨RX1, "pop", "(III)I"⟩
def dkwX1_pop_3 : List UInt8 := [126, 182, 0, 240, 172]
abbrev dktX1_pop_3 : List UInt8 := dkwX1_pop_3 ++ []
def dkwX1_pop_2 : List UInt8 := [29, 4, 160, 0, 11, 21, 5, 184, 0, 232, 167, 0, 18, 25, 4, 25, 4, 182, 0, 237, 21, 5, 2, 130]
abbrev dktX1_pop_2 : List UInt8 := dkwX1_pop_2 ++ dktX1_pop_3
def dkwX1_pop_1 : List UInt8 := [180, 0, 21, 27, 50, 58, 4, 25, 4, 28, 182, 0, 229, 54, 5, 29, 154, 0, 8, 21, 5, 167, 0, 31]
abbrev dktX1_pop_1 : List UInt8 := dkwX1_pop_1 ++ dktX1_pop_2
def dkwX1_pop_0 : List UInt8 := [42, 27, 28, 182, 0, 157, 153, 0, 15, 29, 133, 9, 20, 0, 227, 184, 0, 74, 154, 0, 5, 2, 172, 42]
abbrev dktX1_pop_0 : List UInt8 := dkwX1_pop_0 ++ dktX1_pop_1
theorem dksX1_pop_0 : cX1_pop.data.toList.drop 0 = dktX1_pop_0 := by decide +kernel
theorem dksX1_pop_1 : cX1_pop.data.toList.drop 24 = dktX1_pop_1 := dk_seg dksX1_pop_0 24 rfl rfl
theorem dksX1_pop_2 : cX1_pop.data.toList.drop 48 = dktX1_pop_2 := dk_seg dksX1_pop_1 24 rfl rfl
theorem dksX1_pop_3 : cX1_pop.data.toList.drop 72 = dktX1_pop_3 := dk_seg dksX1_pop_2 24 rfl rfl
theorem dX1_pop_0 : decode cX1_pop 0 = .ok (.aload_n 0, 1) := dk_42 (dk_at dksX1_pop_0 0 rfl rfl)
theorem dX1_pop_1 : decode cX1_pop 1 = .ok (.iload_n 1, 1) := dk_27 (dk_at dksX1_pop_0 1 rfl rfl)
theorem dX1_pop_2 : decode cX1_pop 2 = .ok (.iload_n 2, 1) := dk_28 (dk_at dksX1_pop_0 2 rfl rfl)
theorem dX1_pop_3 : decode cX1_pop 3 = .ok (.invokevirtual 157, 3) := dk_182 0 157 (dk_at dksX1_pop_0 3 rfl rfl)
theorem dX1_pop_6 : decode cX1_pop 6 = .ok (.ifCond .eq 15, 3) := dk_153 0 15 (dk_at dksX1_pop_0 6 rfl rfl)
theorem dX1_pop_9 : decode cX1_pop 9 = .ok (.iload_n 3, 1) := dk_29 (dk_at dksX1_pop_0 9 rfl rfl)
theorem dX1_pop_10 : decode cX1_pop 10 = .ok (.i2l, 1) := dk_133 (dk_at dksX1_pop_0 10 rfl rfl)
theorem dX1_pop_11 : decode cX1_pop 11 = .ok (.lconst 0, 1) := dk_9 (dk_at dksX1_pop_0 11 rfl rfl)
theorem dX1_pop_12 : decode cX1_pop 12 = .ok (.ldc2_w 227, 3) := dk_20 0 227 (dk_at dksX1_pop_0 12 rfl rfl)
theorem dX1_pop_15 : decode cX1_pop 15 = .ok (.invokestatic 74, 3) := dk_184 0 74 (dk_at dksX1_pop_0 15 rfl rfl)
theorem dX1_pop_18 : decode cX1_pop 18 = .ok (.ifCond .ne 5, 3) := dk_154 0 5 (dk_at dksX1_pop_0 18 rfl rfl)
theorem dX1_pop_21 : decode cX1_pop 21 = .ok (.iconst (-1), 1) := dk_2 (dk_at dksX1_pop_0 21 rfl rfl)
theorem dX1_pop_22 : decode cX1_pop 22 = .ok (.ireturn, 1) := dk_172 (dk_at dksX1_pop_0 22 rfl rfl)
theorem dX1_pop_23 : decode cX1_pop 23 = .ok (.aload_n 0, 1) := dk_42 (dk_at dksX1_pop_0 23 rfl rfl)
theorem dX1_pop_24 : decode cX1_pop 24 = .ok (.getfield 21, 3) := dk_180 0 21 (dk_at dksX1_pop_1 0 rfl rfl)
theorem dX1_pop_27 : decode cX1_pop 27 = .ok (.iload_n 1, 1) := dk_27 (dk_at dksX1_pop_1 3 rfl rfl)
theorem dX1_pop_28 : decode cX1_pop 28 = .ok (.aaload, 1) := dk_50 (dk_at dksX1_pop_1 4 rfl rfl)
theorem dX1_pop_29 : decode cX1_pop 29 = .ok (.astore 4, 2) := dk_58 4 (dk_at dksX1_pop_1 5 rfl rfl)
theorem dX1_pop_31 : decode cX1_pop 31 = .ok (.aload 4, 2) := dk_25 4 (dk_at dksX1_pop_1 7 rfl rfl)
theorem dX1_pop_33 : decode cX1_pop 33 = .ok (.iload_n 2, 1) := dk_28 (dk_at dksX1_pop_1 9 rfl rfl)
theorem dX1_pop_34 : decode cX1_pop 34 = .ok (.invokevirtual 229, 3) := dk_182 0 229 (dk_at dksX1_pop_1 10 rfl rfl)
theorem dX1_pop_37 : decode cX1_pop 37 = .ok (.istore 5, 2) := dk_54 5 (dk_at dksX1_pop_1 13 rfl rfl)
theorem dX1_pop_39 : decode cX1_pop 39 = .ok (.iload_n 3, 1) := dk_29 (dk_at dksX1_pop_1 15 rfl rfl)
theorem dX1_pop_40 : decode cX1_pop 40 = .ok (.ifCond .ne 8, 3) := dk_154 0 8 (dk_at dksX1_pop_1 16 rfl rfl)
theorem dX1_pop_43 : decode cX1_pop 43 = .ok (.iload 5, 2) := dk_21 5 (dk_at dksX1_pop_1 19 rfl rfl)
theorem dX1_pop_45 : decode cX1_pop 45 = .ok (.goto 31, 3) := dk_167 0 31 (dk_at dksX1_pop_1 21 rfl rfl)
theorem dX1_pop_48 : decode cX1_pop 48 = .ok (.iload_n 3, 1) := dk_29 (dk_at dksX1_pop_2 0 rfl rfl)
theorem dX1_pop_49 : decode cX1_pop 49 = .ok (.iconst 1, 1) := dk_4 (dk_at dksX1_pop_2 1 rfl rfl)
theorem dX1_pop_50 : decode cX1_pop 50 = .ok (.if_icmp .ne 11, 3) := dk_160 0 11 (dk_at dksX1_pop_2 2 rfl rfl)
theorem dX1_pop_53 : decode cX1_pop 53 = .ok (.iload 5, 2) := dk_21 5 (dk_at dksX1_pop_2 5 rfl rfl)
theorem dX1_pop_55 : decode cX1_pop 55 = .ok (.invokestatic 232, 3) := dk_184 0 232 (dk_at dksX1_pop_2 7 rfl rfl)
theorem dX1_pop_58 : decode cX1_pop 58 = .ok (.goto 18, 3) := dk_167 0 18 (dk_at dksX1_pop_2 10 rfl rfl)
theorem dX1_pop_61 : decode cX1_pop 61 = .ok (.aload 4, 2) := dk_25 4 (dk_at dksX1_pop_2 13 rfl rfl)
theorem dX1_pop_63 : decode cX1_pop 63 = .ok (.aload 4, 2) := dk_25 4 (dk_at dksX1_pop_2 15 rfl rfl)
theorem dX1_pop_65 : decode cX1_pop 65 = .ok (.invokevirtual 237, 3) := dk_182 0 237 (dk_at dksX1_pop_2 17 rfl rfl)
theorem dX1_pop_68 : decode cX1_pop 68 = .ok (.iload 5, 2) := dk_21 5 (dk_at dksX1_pop_2 20 rfl rfl)
theorem dX1_pop_70 : decode cX1_pop 70 = .ok (.iconst (-1), 1) := dk_2 (dk_at dksX1_pop_2 22 rfl rfl)
theorem dX1_pop_71 : decode cX1_pop 71 = .ok (.ixor, 1) := dk_130 (dk_at dksX1_pop_2 23 rfl rfl)
theorem dX1_pop_72 : decode cX1_pop 72 = .ok (.iand, 1) := dk_126 (dk_at dksX1_pop_3 0 rfl rfl)
theorem dX1_pop_73 : decode cX1_pop 73 = .ok (.invokevirtual 240, 3) := dk_182 0 240 (dk_at dksX1_pop_3 1 rfl rfl)
theorem dX1_pop_76 : decode cX1_pop 76 = .ok (.ireturn, 1) := dk_172 (dk_at dksX1_pop_3 4 rfl rfl)
abbrev cX1_weakest : ByteArray := prog_1_method_25_code
def yX1_weakest : MethodName := ⟨RX1, "weakest", "(I)I"⟩
def dkwX1_weakest_2 : List UInt8 := [21, 4, 163, 0, 6, 167, 0, 10, 21, 6, 54, 4, 21, 5, 62, 132, 5, 1, 167, 255, 216, 29, 172]
abbrev dktX1_weakest_2 : List UInt8 := dkwX1_weakest_2 ++ []
def dkwX1_weakest_1 : List UInt8 := [54, 5, 21, 5, 44, 180, 0, 138, 162, 0, 37, 44, 21, 5, 182, 0, 229, 184, 0, 232, 54, 6, 21, 6]
abbrev dktX1_weakest_1 : List UInt8 := dkwX1_weakest_1 ++ dktX1_weakest_2
def dkwX1_weakest_0 : List UInt8 := [42, 27, 182, 0, 134, 154, 0, 5, 2, 172, 42, 180, 0, 21, 27, 50, 77, 2, 62, 3, 54, 4, 3]
abbrev dktX1_weakest_0 : List UInt8 := dkwX1_weakest_0 ++ dktX1_weakest_1
theorem dksX1_weakest_0 : cX1_weakest.data.toList.drop 0 = dktX1_weakest_0 := by decide +kernel
theorem dksX1_weakest_1 : cX1_weakest.data.toList.drop 23 = dktX1_weakest_1 := dk_seg dksX1_weakest_0 23 rfl rfl
theorem dksX1_weakest_2 : cX1_weakest.data.toList.drop 47 = dktX1_weakest_2 := dk_seg dksX1_weakest_1 24 rfl rfl
theorem dX1_weakest_0 : decode cX1_weakest 0 = .ok (.aload_n 0, 1) := dk_42 (dk_at dksX1_weakest_0 0 rfl rfl)
theorem dX1_weakest_1 : decode cX1_weakest 1 = .ok (.iload_n 1, 1) := dk_27 (dk_at dksX1_weakest_0 1 rfl rfl)
theorem dX1_weakest_2 : decode cX1_weakest 2 = .ok (.invokevirtual 134, 3) := dk_182 0 134 (dk_at dksX1_weakest_0 2 rfl rfl)
theorem dX1_weakest_5 : decode cX1_weakest 5 = .ok (.ifCond .ne 5, 3) := dk_154 0 5 (dk_at dksX1_weakest_0 5 rfl rfl)
theorem dX1_weakest_8 : decode cX1_weakest 8 = .ok (.iconst (-1), 1) := dk_2 (dk_at dksX1_weakest_0 8 rfl rfl)
theorem dX1_weakest_9 : decode cX1_weakest 9 = .ok (.ireturn, 1) := dk_172 (dk_at dksX1_weakest_0 9 rfl rfl)
theorem dX1_weakest_10 : decode cX1_weakest 10 = .ok (.aload_n 0, 1) := dk_42 (dk_at dksX1_weakest_0 10 rfl rfl)
theorem dX1_weakest_11 : decode cX1_weakest 11 = .ok (.getfield 21, 3) := dk_180 0 21 (dk_at dksX1_weakest_0 11 rfl rfl)
theorem dX1_weakest_14 : decode cX1_weakest 14 = .ok (.iload_n 1, 1) := dk_27 (dk_at dksX1_weakest_0 14 rfl rfl)
theorem dX1_weakest_15 : decode cX1_weakest 15 = .ok (.aaload, 1) := dk_50 (dk_at dksX1_weakest_0 15 rfl rfl)
theorem dX1_weakest_16 : decode cX1_weakest 16 = .ok (.astore_n 2, 1) := dk_77 (dk_at dksX1_weakest_0 16 rfl rfl)
theorem dX1_weakest_17 : decode cX1_weakest 17 = .ok (.iconst (-1), 1) := dk_2 (dk_at dksX1_weakest_0 17 rfl rfl)
theorem dX1_weakest_18 : decode cX1_weakest 18 = .ok (.istore_n 3, 1) := dk_62 (dk_at dksX1_weakest_0 18 rfl rfl)
theorem dX1_weakest_19 : decode cX1_weakest 19 = .ok (.iconst 0, 1) := dk_3 (dk_at dksX1_weakest_0 19 rfl rfl)
theorem dX1_weakest_20 : decode cX1_weakest 20 = .ok (.istore 4, 2) := dk_54 4 (dk_at dksX1_weakest_0 20 rfl rfl)
theorem dX1_weakest_22 : decode cX1_weakest 22 = .ok (.iconst 0, 1) := dk_3 (dk_at dksX1_weakest_0 22 rfl rfl)
theorem dX1_weakest_23 : decode cX1_weakest 23 = .ok (.istore 5, 2) := dk_54 5 (dk_at dksX1_weakest_1 0 rfl rfl)
theorem dX1_weakest_25 : decode cX1_weakest 25 = .ok (.iload 5, 2) := dk_21 5 (dk_at dksX1_weakest_1 2 rfl rfl)
theorem dX1_weakest_27 : decode cX1_weakest 27 = .ok (.aload_n 2, 1) := dk_44 (dk_at dksX1_weakest_1 4 rfl rfl)
theorem dX1_weakest_28 : decode cX1_weakest 28 = .ok (.getfield 138, 3) := dk_180 0 138 (dk_at dksX1_weakest_1 5 rfl rfl)
theorem dX1_weakest_31 : decode cX1_weakest 31 = .ok (.if_icmp .ge 37, 3) := dk_162 0 37 (dk_at dksX1_weakest_1 8 rfl rfl)
theorem dX1_weakest_34 : decode cX1_weakest 34 = .ok (.aload_n 2, 1) := dk_44 (dk_at dksX1_weakest_1 11 rfl rfl)
theorem dX1_weakest_35 : decode cX1_weakest 35 = .ok (.iload 5, 2) := dk_21 5 (dk_at dksX1_weakest_1 12 rfl rfl)
theorem dX1_weakest_37 : decode cX1_weakest 37 = .ok (.invokevirtual 229, 3) := dk_182 0 229 (dk_at dksX1_weakest_1 14 rfl rfl)
theorem dX1_weakest_40 : decode cX1_weakest 40 = .ok (.invokestatic 232, 3) := dk_184 0 232 (dk_at dksX1_weakest_1 17 rfl rfl)
theorem dX1_weakest_43 : decode cX1_weakest 43 = .ok (.istore 6, 2) := dk_54 6 (dk_at dksX1_weakest_1 20 rfl rfl)
theorem dX1_weakest_45 : decode cX1_weakest 45 = .ok (.iload 6, 2) := dk_21 6 (dk_at dksX1_weakest_1 22 rfl rfl)
theorem dX1_weakest_47 : decode cX1_weakest 47 = .ok (.iload 4, 2) := dk_21 4 (dk_at dksX1_weakest_2 0 rfl rfl)
theorem dX1_weakest_49 : decode cX1_weakest 49 = .ok (.if_icmp .gt 6, 3) := dk_163 0 6 (dk_at dksX1_weakest_2 2 rfl rfl)
theorem dX1_weakest_52 : decode cX1_weakest 52 = .ok (.goto 10, 3) := dk_167 0 10 (dk_at dksX1_weakest_2 5 rfl rfl)
theorem dX1_weakest_55 : decode cX1_weakest 55 = .ok (.iload 6, 2) := dk_21 6 (dk_at dksX1_weakest_2 8 rfl rfl)
theorem dX1_weakest_57 : decode cX1_weakest 57 = .ok (.istore 4, 2) := dk_54 4 (dk_at dksX1_weakest_2 10 rfl rfl)
theorem dX1_weakest_59 : decode cX1_weakest 59 = .ok (.iload 5, 2) := dk_21 5 (dk_at dksX1_weakest_2 12 rfl rfl)
theorem dX1_weakest_61 : decode cX1_weakest 61 = .ok (.istore_n 3, 1) := dk_62 (dk_at dksX1_weakest_2 14 rfl rfl)
theorem dX1_weakest_62 : decode cX1_weakest 62 = .ok (.iinc 5 1, 3) := dk_132 5 1 (dk_at dksX1_weakest_2 15 rfl rfl)
theorem dX1_weakest_65 : decode cX1_weakest 65 = .ok (.goto (-40), 3) := dk_167 255 216 (dk_at dksX1_weakest_2 18 rfl rfl)
theorem dX1_weakest_68 : decode cX1_weakest 68 = .ok (.iload_n 3, 1) := dk_29 (dk_at dksX1_weakest_2 21 rfl rfl)
theorem dX1_weakest_69 : decode cX1_weakest 69 = .ok (.ireturn, 1) := dk_172 (dk_at dksX1_weakest_2 22 rfl rfl)
abbrev cX1_add : ByteArray := prog_1_method_26_code
def yX1_add : MethodName := ⟨RX1, "add", "(IIII)I"⟩
def dkwX1_add_7 : List UInt8 := [183, 0, 128, 182, 0, 130, 172]
abbrev dktX1_add_7 : List UInt8 := dkwX1_add_7 ++ []
def dkwX1_add_6 : List UInt8 := [3, 182, 0, 247, 25, 7, 25, 6, 25, 5, 180, 0, 141, 182, 0, 247, 42, 187, 0, 19, 89, 25, 7]
abbrev dktX1_add_6 : List UInt8 := dkwX1_add_6 ++ dktX1_add_7
def dkwX1_add_5 : List UInt8 := [132, 8, 1, 167, 255, 230, 25, 7, 29, 25, 5, 180, 0, 141, 21, 4, 96, 182, 0, 243, 25, 7, 25, 5]
abbrev dktX1_add_5 : List UInt8 := dkwX1_add_5 ++ dktX1_add_6
def dkwX1_add_4 : List UInt8 := [21, 8, 25, 5, 180, 0, 141, 25, 6, 180, 0, 141, 96, 162, 0, 16, 25, 7, 182, 0, 212, 54, 9]
abbrev dktX1_add_4 : List UInt8 := dkwX1_add_4 ++ dktX1_add_5
def dkwX1_add_3 : List UInt8 := [180, 0, 144, 96, 16, 6, 164, 0, 5, 2, 172, 187, 0, 119, 89, 183, 0, 121, 58, 7, 3, 54, 8]
abbrev dktX1_add_3 : List UInt8 := dkwX1_add_3 ++ dktX1_add_4
def dkwX1_add_2 : List UInt8 := [25, 5, 180, 0, 138, 25, 6, 180, 0, 138, 96, 16, 24, 163, 0, 19, 25, 5, 180, 0, 144, 25, 6]
abbrev dktX1_add_2 : List UInt8 := dkwX1_add_2 ++ dktX1_add_3
def dkwX1_add_1 : List UInt8 := [16, 12, 160, 0, 5, 2, 172, 42, 180, 0, 21, 27, 50, 58, 5, 42, 180, 0, 21, 28, 50, 58, 6]
abbrev dktX1_add_1 : List UInt8 := dkwX1_add_1 ++ dktX1_add_2
def dkwX1_add_0 : List UInt8 := [42, 27, 29, 182, 0, 181, 153, 0, 22, 42, 28, 21, 4, 182, 0, 181, 153, 0, 12, 42, 180, 0, 116]
abbrev dktX1_add_0 : List UInt8 := dkwX1_add_0 ++ dktX1_add_1
theorem dksX1_add_0 : cX1_add.data.toList.drop 0 = dktX1_add_0 := by decide +kernel
theorem dksX1_add_1 : cX1_add.data.toList.drop 23 = dktX1_add_1 := dk_seg dksX1_add_0 23 rfl rfl
theorem dksX1_add_2 : cX1_add.data.toList.drop 46 = dktX1_add_2 := dk_seg dksX1_add_1 23 rfl rfl
theorem dksX1_add_3 : cX1_add.data.toList.drop 69 = dktX1_add_3 := dk_seg dksX1_add_2 23 rfl rfl
theorem dksX1_add_4 : cX1_add.data.toList.drop 92 = dktX1_add_4 := dk_seg dksX1_add_3 23 rfl rfl
theorem dksX1_add_5 : cX1_add.data.toList.drop 115 = dktX1_add_5 := dk_seg dksX1_add_4 23 rfl rfl
theorem dksX1_add_6 : cX1_add.data.toList.drop 139 = dktX1_add_6 := dk_seg dksX1_add_5 24 rfl rfl
theorem dksX1_add_7 : cX1_add.data.toList.drop 162 = dktX1_add_7 := dk_seg dksX1_add_6 23 rfl rfl
theorem dX1_add_0 : decode cX1_add 0 = .ok (.aload_n 0, 1) := dk_42 (dk_at dksX1_add_0 0 rfl rfl)
theorem dX1_add_1 : decode cX1_add 1 = .ok (.iload_n 1, 1) := dk_27 (dk_at dksX1_add_0 1 rfl rfl)
theorem dX1_add_2 : decode cX1_add 2 = .ok (.iload_n 3, 1) := dk_29 (dk_at dksX1_add_0 2 rfl rfl)
theorem dX1_add_3 : decode cX1_add 3 = .ok (.invokevirtual 181, 3) := dk_182 0 181 (dk_at dksX1_add_0 3 rfl rfl)
theorem dX1_add_6 : decode cX1_add 6 = .ok (.ifCond .eq 22, 3) := dk_153 0 22 (dk_at dksX1_add_0 6 rfl rfl)
theorem dX1_add_9 : decode cX1_add 9 = .ok (.aload_n 0, 1) := dk_42 (dk_at dksX1_add_0 9 rfl rfl)
theorem dX1_add_10 : decode cX1_add 10 = .ok (.iload_n 2, 1) := dk_28 (dk_at dksX1_add_0 10 rfl rfl)
theorem dX1_add_11 : decode cX1_add 11 = .ok (.iload 4, 2) := dk_21 4 (dk_at dksX1_add_0 11 rfl rfl)
theorem dX1_add_13 : decode cX1_add 13 = .ok (.invokevirtual 181, 3) := dk_182 0 181 (dk_at dksX1_add_0 13 rfl rfl)
theorem dX1_add_16 : decode cX1_add 16 = .ok (.ifCond .eq 12, 3) := dk_153 0 12 (dk_at dksX1_add_0 16 rfl rfl)
theorem dX1_add_19 : decode cX1_add 19 = .ok (.aload_n 0, 1) := dk_42 (dk_at dksX1_add_0 19 rfl rfl)
theorem dX1_add_20 : decode cX1_add 20 = .ok (.getfield 116, 3) := dk_180 0 116 (dk_at dksX1_add_0 20 rfl rfl)
theorem dX1_add_23 : decode cX1_add 23 = .ok (.bipush 12, 2) := dk_16 12 (dk_at dksX1_add_1 0 rfl rfl)
theorem dX1_add_25 : decode cX1_add 25 = .ok (.if_icmp .ne 5, 3) := dk_160 0 5 (dk_at dksX1_add_1 2 rfl rfl)
theorem dX1_add_28 : decode cX1_add 28 = .ok (.iconst (-1), 1) := dk_2 (dk_at dksX1_add_1 5 rfl rfl)
theorem dX1_add_29 : decode cX1_add 29 = .ok (.ireturn, 1) := dk_172 (dk_at dksX1_add_1 6 rfl rfl)
theorem dX1_add_30 : decode cX1_add 30 = .ok (.aload_n 0, 1) := dk_42 (dk_at dksX1_add_1 7 rfl rfl)
theorem dX1_add_31 : decode cX1_add 31 = .ok (.getfield 21, 3) := dk_180 0 21 (dk_at dksX1_add_1 8 rfl rfl)
theorem dX1_add_34 : decode cX1_add 34 = .ok (.iload_n 1, 1) := dk_27 (dk_at dksX1_add_1 11 rfl rfl)
theorem dX1_add_35 : decode cX1_add 35 = .ok (.aaload, 1) := dk_50 (dk_at dksX1_add_1 12 rfl rfl)
theorem dX1_add_36 : decode cX1_add 36 = .ok (.astore 5, 2) := dk_58 5 (dk_at dksX1_add_1 13 rfl rfl)
theorem dX1_add_38 : decode cX1_add 38 = .ok (.aload_n 0, 1) := dk_42 (dk_at dksX1_add_1 15 rfl rfl)
theorem dX1_add_39 : decode cX1_add 39 = .ok (.getfield 21, 3) := dk_180 0 21 (dk_at dksX1_add_1 16 rfl rfl)
theorem dX1_add_42 : decode cX1_add 42 = .ok (.iload_n 2, 1) := dk_28 (dk_at dksX1_add_1 19 rfl rfl)
theorem dX1_add_43 : decode cX1_add 43 = .ok (.aaload, 1) := dk_50 (dk_at dksX1_add_1 20 rfl rfl)
theorem dX1_add_44 : decode cX1_add 44 = .ok (.astore 6, 2) := dk_58 6 (dk_at dksX1_add_1 21 rfl rfl)
theorem dX1_add_46 : decode cX1_add 46 = .ok (.aload 5, 2) := dk_25 5 (dk_at dksX1_add_2 0 rfl rfl)
theorem dX1_add_48 : decode cX1_add 48 = .ok (.getfield 138, 3) := dk_180 0 138 (dk_at dksX1_add_2 2 rfl rfl)
theorem dX1_add_51 : decode cX1_add 51 = .ok (.aload 6, 2) := dk_25 6 (dk_at dksX1_add_2 5 rfl rfl)
theorem dX1_add_53 : decode cX1_add 53 = .ok (.getfield 138, 3) := dk_180 0 138 (dk_at dksX1_add_2 7 rfl rfl)
theorem dX1_add_56 : decode cX1_add 56 = .ok (.iadd, 1) := dk_96 (dk_at dksX1_add_2 10 rfl rfl)
theorem dX1_add_57 : decode cX1_add 57 = .ok (.bipush 24, 2) := dk_16 24 (dk_at dksX1_add_2 11 rfl rfl)
theorem dX1_add_59 : decode cX1_add 59 = .ok (.if_icmp .gt 19, 3) := dk_163 0 19 (dk_at dksX1_add_2 13 rfl rfl)
theorem dX1_add_62 : decode cX1_add 62 = .ok (.aload 5, 2) := dk_25 5 (dk_at dksX1_add_2 16 rfl rfl)
theorem dX1_add_64 : decode cX1_add 64 = .ok (.getfield 144, 3) := dk_180 0 144 (dk_at dksX1_add_2 18 rfl rfl)
theorem dX1_add_67 : decode cX1_add 67 = .ok (.aload 6, 2) := dk_25 6 (dk_at dksX1_add_2 21 rfl rfl)
theorem dX1_add_69 : decode cX1_add 69 = .ok (.getfield 144, 3) := dk_180 0 144 (dk_at dksX1_add_3 0 rfl rfl)
theorem dX1_add_72 : decode cX1_add 72 = .ok (.iadd, 1) := dk_96 (dk_at dksX1_add_3 3 rfl rfl)
theorem dX1_add_73 : decode cX1_add 73 = .ok (.bipush 6, 2) := dk_16 6 (dk_at dksX1_add_3 4 rfl rfl)
theorem dX1_add_75 : decode cX1_add 75 = .ok (.if_icmp .le 5, 3) := dk_164 0 5 (dk_at dksX1_add_3 6 rfl rfl)
theorem dX1_add_78 : decode cX1_add 78 = .ok (.iconst (-1), 1) := dk_2 (dk_at dksX1_add_3 9 rfl rfl)
theorem dX1_add_79 : decode cX1_add 79 = .ok (.ireturn, 1) := dk_172 (dk_at dksX1_add_3 10 rfl rfl)
theorem dX1_add_80 : decode cX1_add 80 = .ok (.new 119, 3) := dk_187 0 119 (dk_at dksX1_add_3 11 rfl rfl)
theorem dX1_add_83 : decode cX1_add 83 = .ok (.dup, 1) := dk_89 (dk_at dksX1_add_3 14 rfl rfl)
theorem dX1_add_84 : decode cX1_add 84 = .ok (.invokespecial 121, 3) := dk_183 0 121 (dk_at dksX1_add_3 15 rfl rfl)
theorem dX1_add_87 : decode cX1_add 87 = .ok (.astore 7, 2) := dk_58 7 (dk_at dksX1_add_3 18 rfl rfl)
theorem dX1_add_89 : decode cX1_add 89 = .ok (.iconst 0, 1) := dk_3 (dk_at dksX1_add_3 20 rfl rfl)
theorem dX1_add_90 : decode cX1_add 90 = .ok (.istore 8, 2) := dk_54 8 (dk_at dksX1_add_3 21 rfl rfl)
theorem dX1_add_92 : decode cX1_add 92 = .ok (.iload 8, 2) := dk_21 8 (dk_at dksX1_add_4 0 rfl rfl)
theorem dX1_add_94 : decode cX1_add 94 = .ok (.aload 5, 2) := dk_25 5 (dk_at dksX1_add_4 2 rfl rfl)
theorem dX1_add_96 : decode cX1_add 96 = .ok (.getfield 141, 3) := dk_180 0 141 (dk_at dksX1_add_4 4 rfl rfl)
theorem dX1_add_99 : decode cX1_add 99 = .ok (.aload 6, 2) := dk_25 6 (dk_at dksX1_add_4 7 rfl rfl)
theorem dX1_add_101 : decode cX1_add 101 = .ok (.getfield 141, 3) := dk_180 0 141 (dk_at dksX1_add_4 9 rfl rfl)
theorem dX1_add_104 : decode cX1_add 104 = .ok (.iadd, 1) := dk_96 (dk_at dksX1_add_4 12 rfl rfl)
theorem dX1_add_105 : decode cX1_add 105 = .ok (.if_icmp .ge 16, 3) := dk_162 0 16 (dk_at dksX1_add_4 13 rfl rfl)
theorem dX1_add_108 : decode cX1_add 108 = .ok (.aload 7, 2) := dk_25 7 (dk_at dksX1_add_4 16 rfl rfl)
theorem dX1_add_110 : decode cX1_add 110 = .ok (.invokevirtual 212, 3) := dk_182 0 212 (dk_at dksX1_add_4 18 rfl rfl)
theorem dX1_add_113 : decode cX1_add 113 = .ok (.istore 9, 2) := dk_54 9 (dk_at dksX1_add_4 21 rfl rfl)
theorem dX1_add_115 : decode cX1_add 115 = .ok (.iinc 8 1, 3) := dk_132 8 1 (dk_at dksX1_add_5 0 rfl rfl)
theorem dX1_add_118 : decode cX1_add 118 = .ok (.goto (-26), 3) := dk_167 255 230 (dk_at dksX1_add_5 3 rfl rfl)
theorem dX1_add_121 : decode cX1_add 121 = .ok (.aload 7, 2) := dk_25 7 (dk_at dksX1_add_5 6 rfl rfl)
theorem dX1_add_123 : decode cX1_add 123 = .ok (.iload_n 3, 1) := dk_29 (dk_at dksX1_add_5 8 rfl rfl)
theorem dX1_add_124 : decode cX1_add 124 = .ok (.aload 5, 2) := dk_25 5 (dk_at dksX1_add_5 9 rfl rfl)
theorem dX1_add_126 : decode cX1_add 126 = .ok (.getfield 141, 3) := dk_180 0 141 (dk_at dksX1_add_5 11 rfl rfl)
theorem dX1_add_129 : decode cX1_add 129 = .ok (.iload 4, 2) := dk_21 4 (dk_at dksX1_add_5 14 rfl rfl)
theorem dX1_add_131 : decode cX1_add 131 = .ok (.iadd, 1) := dk_96 (dk_at dksX1_add_5 16 rfl rfl)
theorem dX1_add_132 : decode cX1_add 132 = .ok (.invokevirtual 243, 3) := dk_182 0 243 (dk_at dksX1_add_5 17 rfl rfl)
theorem dX1_add_135 : decode cX1_add 135 = .ok (.aload 7, 2) := dk_25 7 (dk_at dksX1_add_5 20 rfl rfl)
theorem dX1_add_137 : decode cX1_add 137 = .ok (.aload 5, 2) := dk_25 5 (dk_at dksX1_add_5 22 rfl rfl)
theorem dX1_add_139 : decode cX1_add 139 = .ok (.iconst 0, 1) := dk_3 (dk_at dksX1_add_6 0 rfl rfl)
theorem dX1_add_140 : decode cX1_add 140 = .ok (.invokevirtual 247, 3) := dk_182 0 247 (dk_at dksX1_add_6 1 rfl rfl)
theorem dX1_add_143 : decode cX1_add 143 = .ok (.aload 7, 2) := dk_25 7 (dk_at dksX1_add_6 4 rfl rfl)
theorem dX1_add_145 : decode cX1_add 145 = .ok (.aload 6, 2) := dk_25 6 (dk_at dksX1_add_6 6 rfl rfl)
theorem dX1_add_147 : decode cX1_add 147 = .ok (.aload 5, 2) := dk_25 5 (dk_at dksX1_add_6 8 rfl rfl)
theorem dX1_add_149 : decode cX1_add 149 = .ok (.getfield 141, 3) := dk_180 0 141 (dk_at dksX1_add_6 10 rfl rfl)
theorem dX1_add_152 : decode cX1_add 152 = .ok (.invokevirtual 247, 3) := dk_182 0 247 (dk_at dksX1_add_6 13 rfl rfl)
theorem dX1_add_155 : decode cX1_add 155 = .ok (.aload_n 0, 1) := dk_42 (dk_at dksX1_add_6 16 rfl rfl)
theorem dX1_add_156 : decode cX1_add 156 = .ok (.new 19, 3) := dk_187 0 19 (dk_at dksX1_add_6 17 rfl rfl)
theorem dX1_add_159 : decode cX1_add 159 = .ok (.dup, 1) := dk_89 (dk_at dksX1_add_6 20 rfl rfl)
theorem dX1_add_160 : decode cX1_add 160 = .ok (.aload 7, 2) := dk_25 7 (dk_at dksX1_add_6 21 rfl rfl)
theorem dX1_add_162 : decode cX1_add 162 = .ok (.invokespecial 128, 3) := dk_183 0 128 (dk_at dksX1_add_7 0 rfl rfl)
theorem dX1_add_165 : decode cX1_add 165 = .ok (.invokevirtual 130, 3) := dk_182 0 130 (dk_at dksX1_add_7 3 rfl rfl)
theorem dX1_add_168 : decode cX1_add 168 = .ok (.ireturn, 1) := dk_172 (dk_at dksX1_add_7 6 rfl rfl)
abbrev cX1_alike : ByteArray := prog_1_method_31_code
def yX1_alike : MethodName := ⟨RX1, "alike", "(II)I"⟩
def dkwX1_alike_1 : List UInt8 := [153, 0, 7, 4, 167, 0, 8, 3, 167, 0, 4, 2, 172]
abbrev dktX1_alike_1 : List UInt8 := dkwX1_alike_1 ++ []
def dkwX1_alike_0 : List UInt8 := [42, 27, 182, 1, 6, 153, 0, 28, 42, 28, 182, 1, 6, 153, 0, 20, 42, 27, 28, 182, 1, 9]
abbrev dktX1_alike_0 : List UInt8 := dkwX1_alike_0 ++ dktX1_alike_1
theorem dksX1_alike_0 : cX1_alike.data.toList.drop 0 = dktX1_alike_0 := by decide +kernel
theorem dksX1_alike_1 : cX1_alike.data.toList.drop 22 = dktX1_alike_1 := dk_seg dksX1_alike_0 22 rfl rfl
theorem dX1_alike_0 : decode cX1_alike 0 = .ok (.aload_n 0, 1) := dk_42 (dk_at dksX1_alike_0 0 rfl rfl)
theorem dX1_alike_1 : decode cX1_alike 1 = .ok (.iload_n 1, 1) := dk_27 (dk_at dksX1_alike_0 1 rfl rfl)
theorem dX1_alike_2 : decode cX1_alike 2 = .ok (.invokevirtual 262, 3) := dk_182 1 6 (dk_at dksX1_alike_0 2 rfl rfl)
theorem dX1_alike_5 : decode cX1_alike 5 = .ok (.ifCond .eq 28, 3) := dk_153 0 28 (dk_at dksX1_alike_0 5 rfl rfl)
theorem dX1_alike_8 : decode cX1_alike 8 = .ok (.aload_n 0, 1) := dk_42 (dk_at dksX1_alike_0 8 rfl rfl)
theorem dX1_alike_9 : decode cX1_alike 9 = .ok (.iload_n 2, 1) := dk_28 (dk_at dksX1_alike_0 9 rfl rfl)
theorem dX1_alike_10 : decode cX1_alike 10 = .ok (.invokevirtual 262, 3) := dk_182 1 6 (dk_at dksX1_alike_0 10 rfl rfl)
theorem dX1_alike_13 : decode cX1_alike 13 = .ok (.ifCond .eq 20, 3) := dk_153 0 20 (dk_at dksX1_alike_0 13 rfl rfl)
theorem dX1_alike_16 : decode cX1_alike 16 = .ok (.aload_n 0, 1) := dk_42 (dk_at dksX1_alike_0 16 rfl rfl)
theorem dX1_alike_17 : decode cX1_alike 17 = .ok (.iload_n 1, 1) := dk_27 (dk_at dksX1_alike_0 17 rfl rfl)
theorem dX1_alike_18 : decode cX1_alike 18 = .ok (.iload_n 2, 1) := dk_28 (dk_at dksX1_alike_0 18 rfl rfl)
theorem dX1_alike_19 : decode cX1_alike 19 = .ok (.invokevirtual 265, 3) := dk_182 1 9 (dk_at dksX1_alike_0 19 rfl rfl)
theorem dX1_alike_22 : decode cX1_alike 22 = .ok (.ifCond .eq 7, 3) := dk_153 0 7 (dk_at dksX1_alike_1 0 rfl rfl)
theorem dX1_alike_25 : decode cX1_alike 25 = .ok (.iconst 1, 1) := dk_4 (dk_at dksX1_alike_1 3 rfl rfl)
theorem dX1_alike_26 : decode cX1_alike 26 = .ok (.goto 8, 3) := dk_167 0 8 (dk_at dksX1_alike_1 4 rfl rfl)
theorem dX1_alike_29 : decode cX1_alike 29 = .ok (.iconst 0, 1) := dk_3 (dk_at dksX1_alike_1 7 rfl rfl)
theorem dX1_alike_30 : decode cX1_alike 30 = .ok (.goto 4, 3) := dk_167 0 4 (dk_at dksX1_alike_1 8 rfl rfl)
theorem dX1_alike_33 : decode cX1_alike 33 = .ok (.iconst (-1), 1) := dk_2 (dk_at dksX1_alike_1 11 rfl rfl)
theorem dX1_alike_34 : decode cX1_alike 34 = .ok (.ireturn, 1) := dk_172 (dk_at dksX1_alike_1 12 rfl rfl)
abbrev cX1_isMatched : ByteArray := prog_1_method_30_code
def yX1_isMatched : MethodName := ⟨RX1, "isMatched", "(I)Z"⟩
def dkwX1_isMatched_1 : List UInt8 := [167, 0, 4, 3, 172]
abbrev dktX1_isMatched_1 : List UInt8 := dkwX1_isMatched_1 ++ []
def dkwX1_isMatched_0 : List UInt8 := [42, 27, 182, 0, 134, 153, 0, 21, 42, 180, 0, 21, 27, 50, 180, 0, 141, 16, 8, 163, 0, 7, 4]
abbrev dktX1_isMatched_0 : List UInt8 := dkwX1_isMatched_0 ++ dktX1_isMatched_1
theorem dksX1_isMatched_0 : cX1_isMatched.data.toList.drop 0 = dktX1_isMatched_0 := by decide +kernel
theorem dksX1_isMatched_1 : cX1_isMatched.data.toList.drop 23 = dktX1_isMatched_1 := dk_seg dksX1_isMatched_0 23 rfl rfl
theorem dX1_isMatched_0 : decode cX1_isMatched 0 = .ok (.aload_n 0, 1) := dk_42 (dk_at dksX1_isMatched_0 0 rfl rfl)
theorem dX1_isMatched_1 : decode cX1_isMatched 1 = .ok (.iload_n 1, 1) := dk_27 (dk_at dksX1_isMatched_0 1 rfl rfl)
theorem dX1_isMatched_2 : decode cX1_isMatched 2 = .ok (.invokevirtual 134, 3) := dk_182 0 134 (dk_at dksX1_isMatched_0 2 rfl rfl)
theorem dX1_isMatched_5 : decode cX1_isMatched 5 = .ok (.ifCond .eq 21, 3) := dk_153 0 21 (dk_at dksX1_isMatched_0 5 rfl rfl)
theorem dX1_isMatched_8 : decode cX1_isMatched 8 = .ok (.aload_n 0, 1) := dk_42 (dk_at dksX1_isMatched_0 8 rfl rfl)
theorem dX1_isMatched_9 : decode cX1_isMatched 9 = .ok (.getfield 21, 3) := dk_180 0 21 (dk_at dksX1_isMatched_0 9 rfl rfl)
theorem dX1_isMatched_12 : decode cX1_isMatched 12 = .ok (.iload_n 1, 1) := dk_27 (dk_at dksX1_isMatched_0 12 rfl rfl)
theorem dX1_isMatched_13 : decode cX1_isMatched 13 = .ok (.aaload, 1) := dk_50 (dk_at dksX1_isMatched_0 13 rfl rfl)
theorem dX1_isMatched_14 : decode cX1_isMatched 14 = .ok (.getfield 141, 3) := dk_180 0 141 (dk_at dksX1_isMatched_0 14 rfl rfl)
theorem dX1_isMatched_17 : decode cX1_isMatched 17 = .ok (.bipush 8, 2) := dk_16 8 (dk_at dksX1_isMatched_0 17 rfl rfl)
theorem dX1_isMatched_19 : decode cX1_isMatched 19 = .ok (.if_icmp .gt 7, 3) := dk_163 0 7 (dk_at dksX1_isMatched_0 19 rfl rfl)
theorem dX1_isMatched_22 : decode cX1_isMatched 22 = .ok (.iconst 1, 1) := dk_4 (dk_at dksX1_isMatched_0 22 rfl rfl)
theorem dX1_isMatched_23 : decode cX1_isMatched 23 = .ok (.goto 4, 3) := dk_167 0 4 (dk_at dksX1_isMatched_1 0 rfl rfl)
theorem dX1_isMatched_26 : decode cX1_isMatched 26 = .ok (.iconst 0, 1) := dk_3 (dk_at dksX1_isMatched_1 3 rfl rfl)
theorem dX1_isMatched_27 : decode cX1_isMatched 27 = .ok (.ireturn, 1) := dk_172 (dk_at dksX1_isMatched_1 4 rfl rfl)
abbrev cX1_areAlike : ByteArray := prog_1_method_29_code
def yX1_areAlike : MethodName := ⟨RX1, "areAlike", "(II)Z"⟩
def dkwX1_areAlike_2 : List UInt8 := [153, 0, 7, 4, 167, 0, 4, 3, 172]
abbrev dktX1_areAlike_2 : List UInt8 := dkwX1_areAlike_2 ++ []
def dkwX1_areAlike_1 : List UInt8 := [160, 0, 31, 45, 180, 0, 138, 25, 4, 180, 0, 138, 160, 0, 19, 42, 45, 25, 4, 3, 3, 182, 1, 3]
abbrev dktX1_areAlike_1 : List UInt8 := dkwX1_areAlike_1 ++ dktX1_areAlike_2
def dkwX1_areAlike_0 : List UInt8 := [42, 180, 0, 21, 27, 50, 78, 42, 180, 0, 21, 28, 50, 58, 4, 45, 180, 0, 141, 25, 4, 180, 0, 141]
abbrev dktX1_areAlike_0 : List UInt8 := dkwX1_areAlike_0 ++ dktX1_areAlike_1
theorem dksX1_areAlike_0 : cX1_areAlike.data.toList.drop 0 = dktX1_areAlike_0 := by decide +kernel
theorem dksX1_areAlike_1 : cX1_areAlike.data.toList.drop 24 = dktX1_areAlike_1 := dk_seg dksX1_areAlike_0 24 rfl rfl
theorem dksX1_areAlike_2 : cX1_areAlike.data.toList.drop 48 = dktX1_areAlike_2 := dk_seg dksX1_areAlike_1 24 rfl rfl
theorem dX1_areAlike_0 : decode cX1_areAlike 0 = .ok (.aload_n 0, 1) := dk_42 (dk_at dksX1_areAlike_0 0 rfl rfl)
theorem dX1_areAlike_1 : decode cX1_areAlike 1 = .ok (.getfield 21, 3) := dk_180 0 21 (dk_at dksX1_areAlike_0 1 rfl rfl)
theorem dX1_areAlike_4 : decode cX1_areAlike 4 = .ok (.iload_n 1, 1) := dk_27 (dk_at dksX1_areAlike_0 4 rfl rfl)
theorem dX1_areAlike_5 : decode cX1_areAlike 5 = .ok (.aaload, 1) := dk_50 (dk_at dksX1_areAlike_0 5 rfl rfl)
theorem dX1_areAlike_6 : decode cX1_areAlike 6 = .ok (.astore_n 3, 1) := dk_78 (dk_at dksX1_areAlike_0 6 rfl rfl)
theorem dX1_areAlike_7 : decode cX1_areAlike 7 = .ok (.aload_n 0, 1) := dk_42 (dk_at dksX1_areAlike_0 7 rfl rfl)
theorem dX1_areAlike_8 : decode cX1_areAlike 8 = .ok (.getfield 21, 3) := dk_180 0 21 (dk_at dksX1_areAlike_0 8 rfl rfl)
theorem dX1_areAlike_11 : decode cX1_areAlike 11 = .ok (.iload_n 2, 1) := dk_28 (dk_at dksX1_areAlike_0 11 rfl rfl)
theorem dX1_areAlike_12 : decode cX1_areAlike 12 = .ok (.aaload, 1) := dk_50 (dk_at dksX1_areAlike_0 12 rfl rfl)
theorem dX1_areAlike_13 : decode cX1_areAlike 13 = .ok (.astore 4, 2) := dk_58 4 (dk_at dksX1_areAlike_0 13 rfl rfl)
theorem dX1_areAlike_15 : decode cX1_areAlike 15 = .ok (.aload_n 3, 1) := dk_45 (dk_at dksX1_areAlike_0 15 rfl rfl)
theorem dX1_areAlike_16 : decode cX1_areAlike 16 = .ok (.getfield 141, 3) := dk_180 0 141 (dk_at dksX1_areAlike_0 16 rfl rfl)
theorem dX1_areAlike_19 : decode cX1_areAlike 19 = .ok (.aload 4, 2) := dk_25 4 (dk_at dksX1_areAlike_0 19 rfl rfl)
theorem dX1_areAlike_21 : decode cX1_areAlike 21 = .ok (.getfield 141, 3) := dk_180 0 141 (dk_at dksX1_areAlike_0 21 rfl rfl)
theorem dX1_areAlike_24 : decode cX1_areAlike 24 = .ok (.if_icmp .ne 31, 3) := dk_160 0 31 (dk_at dksX1_areAlike_1 0 rfl rfl)
theorem dX1_areAlike_27 : decode cX1_areAlike 27 = .ok (.aload_n 3, 1) := dk_45 (dk_at dksX1_areAlike_1 3 rfl rfl)
theorem dX1_areAlike_28 : decode cX1_areAlike 28 = .ok (.getfield 138, 3) := dk_180 0 138 (dk_at dksX1_areAlike_1 4 rfl rfl)
theorem dX1_areAlike_31 : decode cX1_areAlike 31 = .ok (.aload 4, 2) := dk_25 4 (dk_at dksX1_areAlike_1 7 rfl rfl)
theorem dX1_areAlike_33 : decode cX1_areAlike 33 = .ok (.getfield 138, 3) := dk_180 0 138 (dk_at dksX1_areAlike_1 9 rfl rfl)
theorem dX1_areAlike_36 : decode cX1_areAlike 36 = .ok (.if_icmp .ne 19, 3) := dk_160 0 19 (dk_at dksX1_areAlike_1 12 rfl rfl)
theorem dX1_areAlike_39 : decode cX1_areAlike 39 = .ok (.aload_n 0, 1) := dk_42 (dk_at dksX1_areAlike_1 15 rfl rfl)
theorem dX1_areAlike_40 : decode cX1_areAlike 40 = .ok (.aload_n 3, 1) := dk_45 (dk_at dksX1_areAlike_1 16 rfl rfl)
theorem dX1_areAlike_41 : decode cX1_areAlike 41 = .ok (.aload 4, 2) := dk_25 4 (dk_at dksX1_areAlike_1 17 rfl rfl)
theorem dX1_areAlike_43 : decode cX1_areAlike 43 = .ok (.iconst 0, 1) := dk_3 (dk_at dksX1_areAlike_1 19 rfl rfl)
theorem dX1_areAlike_44 : decode cX1_areAlike 44 = .ok (.iconst 0, 1) := dk_3 (dk_at dksX1_areAlike_1 20 rfl rfl)
theorem dX1_areAlike_45 : decode cX1_areAlike 45 = .ok (.invokevirtual 259, 3) := dk_182 1 3 (dk_at dksX1_areAlike_1 21 rfl rfl)
theorem dX1_areAlike_48 : decode cX1_areAlike 48 = .ok (.ifCond .eq 7, 3) := dk_153 0 7 (dk_at dksX1_areAlike_2 0 rfl rfl)
theorem dX1_areAlike_51 : decode cX1_areAlike 51 = .ok (.iconst 1, 1) := dk_4 (dk_at dksX1_areAlike_2 3 rfl rfl)
theorem dX1_areAlike_52 : decode cX1_areAlike 52 = .ok (.goto 4, 3) := dk_167 0 4 (dk_at dksX1_areAlike_2 4 rfl rfl)
theorem dX1_areAlike_55 : decode cX1_areAlike 55 = .ok (.iconst 0, 1) := dk_3 (dk_at dksX1_areAlike_2 7 rfl rfl)
theorem dX1_areAlike_56 : decode cX1_areAlike 56 = .ok (.ireturn, 1) := dk_172 (dk_at dksX1_areAlike_2 8 rfl rfl)
abbrev cX1_matches : ByteArray := prog_1_method_28_code
def yX1_matches : MethodName := ⟨RX1, "matches", "(LBalloonStall$Figure;LBalloonStall$Figure;II)Z"⟩
def dkwX1_matches_3 : List UInt8 := [128, 182, 1, 3, 153, 0, 5, 4, 172, 132, 5, 1, 167, 255, 185, 3, 172]
abbrev dktX1_matches_3 : List UInt8 := dkwX1_matches_3 ++ []
def dkwX1_matches_2 : List UInt8 := [42, 43, 44, 29, 21, 5, 182, 0, 255, 153, 0, 24, 42, 43, 44, 29, 4, 96, 21, 4, 4, 21, 5, 120]
abbrev dktX1_matches_2 : List UInt8 := dkwX1_matches_2 ++ dktX1_matches_3
def dkwX1_matches_1 : List UInt8 := [21, 5, 122, 4, 126, 154, 0, 52, 43, 180, 0, 184, 29, 46, 44, 180, 0, 184, 21, 5, 46, 160, 0, 36]
abbrev dktX1_matches_1 : List UInt8 := dkwX1_matches_1 ++ dktX1_matches_2
def dkwX1_matches_0 : List UInt8 := [29, 43, 180, 0, 141, 160, 0, 5, 4, 172, 3, 54, 5, 21, 5, 43, 180, 0, 141, 162, 0, 68, 21, 4]
abbrev dktX1_matches_0 : List UInt8 := dkwX1_matches_0 ++ dktX1_matches_1
theorem dksX1_matches_0 : cX1_matches.data.toList.drop 0 = dktX1_matches_0 := by decide +kernel
theorem dksX1_matches_1 : cX1_matches.data.toList.drop 24 = dktX1_matches_1 := dk_seg dksX1_matches_0 24 rfl rfl
theorem dksX1_matches_2 : cX1_matches.data.toList.drop 48 = dktX1_matches_2 := dk_seg dksX1_matches_1 24 rfl rfl
theorem dksX1_matches_3 : cX1_matches.data.toList.drop 72 = dktX1_matches_3 := dk_seg dksX1_matches_2 24 rfl rfl
theorem dX1_matches_0 : decode cX1_matches 0 = .ok (.iload_n 3, 1) := dk_29 (dk_at dksX1_matches_0 0 rfl rfl)
theorem dX1_matches_1 : decode cX1_matches 1 = .ok (.aload_n 1, 1) := dk_43 (dk_at dksX1_matches_0 1 rfl rfl)
theorem dX1_matches_2 : decode cX1_matches 2 = .ok (.getfield 141, 3) := dk_180 0 141 (dk_at dksX1_matches_0 2 rfl rfl)
theorem dX1_matches_5 : decode cX1_matches 5 = .ok (.if_icmp .ne 5, 3) := dk_160 0 5 (dk_at dksX1_matches_0 5 rfl rfl)
theorem dX1_matches_8 : decode cX1_matches 8 = .ok (.iconst 1, 1) := dk_4 (dk_at dksX1_matches_0 8 rfl rfl)
theorem dX1_matches_9 : decode cX1_matches 9 = .ok (.ireturn, 1) := dk_172 (dk_at dksX1_matches_0 9 rfl rfl)
theorem dX1_matches_10 : decode cX1_matches 10 = .ok (.iconst 0, 1) := dk_3 (dk_at dksX1_matches_0 10 rfl rfl)
theorem dX1_matches_11 : decode cX1_matches 11 = .ok (.istore 5, 2) := dk_54 5 (dk_at dksX1_matches_0 11 rfl rfl)
theorem dX1_matches_13 : decode cX1_matches 13 = .ok (.iload 5, 2) := dk_21 5 (dk_at dksX1_matches_0 13 rfl rfl)
theorem dX1_matches_15 : decode cX1_matches 15 = .ok (.aload_n 1, 1) := dk_43 (dk_at dksX1_matches_0 15 rfl rfl)
theorem dX1_matches_16 : decode cX1_matches 16 = .ok (.getfield 141, 3) := dk_180 0 141 (dk_at dksX1_matches_0 16 rfl rfl)
theorem dX1_matches_19 : decode cX1_matches 19 = .ok (.if_icmp .ge 68, 3) := dk_162 0 68 (dk_at dksX1_matches_0 19 rfl rfl)
theorem dX1_matches_22 : decode cX1_matches 22 = .ok (.iload 4, 2) := dk_21 4 (dk_at dksX1_matches_0 22 rfl rfl)
theorem dX1_matches_24 : decode cX1_matches 24 = .ok (.iload 5, 2) := dk_21 5 (dk_at dksX1_matches_1 0 rfl rfl)
theorem dX1_matches_26 : decode cX1_matches 26 = .ok (.ishr, 1) := dk_122 (dk_at dksX1_matches_1 2 rfl rfl)
theorem dX1_matches_27 : decode cX1_matches 27 = .ok (.iconst 1, 1) := dk_4 (dk_at dksX1_matches_1 3 rfl rfl)
theorem dX1_matches_28 : decode cX1_matches 28 = .ok (.iand, 1) := dk_126 (dk_at dksX1_matches_1 4 rfl rfl)
theorem dX1_matches_29 : decode cX1_matches 29 = .ok (.ifCond .ne 52, 3) := dk_154 0 52 (dk_at dksX1_matches_1 5 rfl rfl)
theorem dX1_matches_32 : decode cX1_matches 32 = .ok (.aload_n 1, 1) := dk_43 (dk_at dksX1_matches_1 8 rfl rfl)
theorem dX1_matches_33 : decode cX1_matches 33 = .ok (.getfield 184, 3) := dk_180 0 184 (dk_at dksX1_matches_1 9 rfl rfl)
theorem dX1_matches_36 : decode cX1_matches 36 = .ok (.iload_n 3, 1) := dk_29 (dk_at dksX1_matches_1 12 rfl rfl)
theorem dX1_matches_37 : decode cX1_matches 37 = .ok (.iaload, 1) := dk_46 (dk_at dksX1_matches_1 13 rfl rfl)
theorem dX1_matches_38 : decode cX1_matches 38 = .ok (.aload_n 2, 1) := dk_44 (dk_at dksX1_matches_1 14 rfl rfl)
theorem dX1_matches_39 : decode cX1_matches 39 = .ok (.getfield 184, 3) := dk_180 0 184 (dk_at dksX1_matches_1 15 rfl rfl)
theorem dX1_matches_42 : decode cX1_matches 42 = .ok (.iload 5, 2) := dk_21 5 (dk_at dksX1_matches_1 18 rfl rfl)
theorem dX1_matches_44 : decode cX1_matches 44 = .ok (.iaload, 1) := dk_46 (dk_at dksX1_matches_1 20 rfl rfl)
theorem dX1_matches_45 : decode cX1_matches 45 = .ok (.if_icmp .ne 36, 3) := dk_160 0 36 (dk_at dksX1_matches_1 21 rfl rfl)
theorem dX1_matches_48 : decode cX1_matches 48 = .ok (.aload_n 0, 1) := dk_42 (dk_at dksX1_matches_2 0 rfl rfl)
theorem dX1_matches_49 : decode cX1_matches 49 = .ok (.aload_n 1, 1) := dk_43 (dk_at dksX1_matches_2 1 rfl rfl)
theorem dX1_matches_50 : decode cX1_matches 50 = .ok (.aload_n 2, 1) := dk_44 (dk_at dksX1_matches_2 2 rfl rfl)
theorem dX1_matches_51 : decode cX1_matches 51 = .ok (.iload_n 3, 1) := dk_29 (dk_at dksX1_matches_2 3 rfl rfl)
theorem dX1_matches_52 : decode cX1_matches 52 = .ok (.iload 5, 2) := dk_21 5 (dk_at dksX1_matches_2 4 rfl rfl)
theorem dX1_matches_54 : decode cX1_matches 54 = .ok (.invokevirtual 255, 3) := dk_182 0 255 (dk_at dksX1_matches_2 6 rfl rfl)
theorem dX1_matches_57 : decode cX1_matches 57 = .ok (.ifCond .eq 24, 3) := dk_153 0 24 (dk_at dksX1_matches_2 9 rfl rfl)
theorem dX1_matches_60 : decode cX1_matches 60 = .ok (.aload_n 0, 1) := dk_42 (dk_at dksX1_matches_2 12 rfl rfl)
theorem dX1_matches_61 : decode cX1_matches 61 = .ok (.aload_n 1, 1) := dk_43 (dk_at dksX1_matches_2 13 rfl rfl)
theorem dX1_matches_62 : decode cX1_matches 62 = .ok (.aload_n 2, 1) := dk_44 (dk_at dksX1_matches_2 14 rfl rfl)
theorem dX1_matches_63 : decode cX1_matches 63 = .ok (.iload_n 3, 1) := dk_29 (dk_at dksX1_matches_2 15 rfl rfl)
theorem dX1_matches_64 : decode cX1_matches 64 = .ok (.iconst 1, 1) := dk_4 (dk_at dksX1_matches_2 16 rfl rfl)
theorem dX1_matches_65 : decode cX1_matches 65 = .ok (.iadd, 1) := dk_96 (dk_at dksX1_matches_2 17 rfl rfl)
theorem dX1_matches_66 : decode cX1_matches 66 = .ok (.iload 4, 2) := dk_21 4 (dk_at dksX1_matches_2 18 rfl rfl)
theorem dX1_matches_68 : decode cX1_matches 68 = .ok (.iconst 1, 1) := dk_4 (dk_at dksX1_matches_2 20 rfl rfl)
theorem dX1_matches_69 : decode cX1_matches 69 = .ok (.iload 5, 2) := dk_21 5 (dk_at dksX1_matches_2 21 rfl rfl)
theorem dX1_matches_71 : decode cX1_matches 71 = .ok (.ishl, 1) := dk_120 (dk_at dksX1_matches_2 23 rfl rfl)
theorem dX1_matches_72 : decode cX1_matches 72 = .ok (.ior, 1) := dk_128 (dk_at dksX1_matches_3 0 rfl rfl)
theorem dX1_matches_73 : decode cX1_matches 73 = .ok (.invokevirtual 259, 3) := dk_182 1 3 (dk_at dksX1_matches_3 1 rfl rfl)
theorem dX1_matches_76 : decode cX1_matches 76 = .ok (.ifCond .eq 5, 3) := dk_153 0 5 (dk_at dksX1_matches_3 4 rfl rfl)
theorem dX1_matches_79 : decode cX1_matches 79 = .ok (.iconst 1, 1) := dk_4 (dk_at dksX1_matches_3 7 rfl rfl)
theorem dX1_matches_80 : decode cX1_matches 80 = .ok (.ireturn, 1) := dk_172 (dk_at dksX1_matches_3 8 rfl rfl)
theorem dX1_matches_81 : decode cX1_matches 81 = .ok (.iinc 5 1, 3) := dk_132 5 1 (dk_at dksX1_matches_3 9 rfl rfl)
theorem dX1_matches_84 : decode cX1_matches 84 = .ok (.goto (-71), 3) := dk_167 255 185 (dk_at dksX1_matches_3 12 rfl rfl)
theorem dX1_matches_87 : decode cX1_matches 87 = .ok (.iconst 0, 1) := dk_3 (dk_at dksX1_matches_3 15 rfl rfl)
theorem dX1_matches_88 : decode cX1_matches 88 = .ok (.ireturn, 1) := dk_172 (dk_at dksX1_matches_3 16 rfl rfl)
abbrev cX1_fits : ByteArray := prog_1_method_27_code
def yX1_fits : MethodName := ⟨RX1, "fits", "(LBalloonStall$Figure;LBalloonStall$Figure;II)Z"⟩
def dkwX1_fits_3 : List UInt8 := [132, 6, 1, 167, 255, 208, 132, 5, 1, 167, 255, 190, 4, 172]
abbrev dktX1_fits_3 : List UInt8 := dkwX1_fits_3 ++ []
def dkwX1_fits_2 : List UInt8 := [180, 0, 25, 21, 6, 46, 21, 4, 43, 180, 0, 166, 21, 5, 46, 182, 0, 251, 159, 0, 5, 3, 172]
abbrev dktX1_fits_2 : List UInt8 := dkwX1_fits_2 ++ dktX1_fits_3
def dkwX1_fits_1 : List UInt8 := [21, 6, 29, 163, 0, 48, 43, 21, 6, 29, 43, 180, 0, 166, 21, 5, 46, 182, 0, 251, 44, 42]
abbrev dktX1_fits_1 : List UInt8 := dkwX1_fits_1 ++ dktX1_fits_2
def dkwX1_fits_0 : List UInt8 := [42, 180, 0, 25, 29, 21, 4, 79, 3, 54, 5, 21, 5, 43, 180, 0, 138, 162, 0, 63, 3, 54, 6]
abbrev dktX1_fits_0 : List UInt8 := dkwX1_fits_0 ++ dktX1_fits_1
theorem dksX1_fits_0 : cX1_fits.data.toList.drop 0 = dktX1_fits_0 := by decide +kernel
theorem dksX1_fits_1 : cX1_fits.data.toList.drop 23 = dktX1_fits_1 := dk_seg dksX1_fits_0 23 rfl rfl
theorem dksX1_fits_2 : cX1_fits.data.toList.drop 45 = dktX1_fits_2 := dk_seg dksX1_fits_1 22 rfl rfl
theorem dksX1_fits_3 : cX1_fits.data.toList.drop 68 = dktX1_fits_3 := dk_seg dksX1_fits_2 23 rfl rfl
theorem dX1_fits_0 : decode cX1_fits 0 = .ok (.aload_n 0, 1) := dk_42 (dk_at dksX1_fits_0 0 rfl rfl)
theorem dX1_fits_1 : decode cX1_fits 1 = .ok (.getfield 25, 3) := dk_180 0 25 (dk_at dksX1_fits_0 1 rfl rfl)
theorem dX1_fits_4 : decode cX1_fits 4 = .ok (.iload_n 3, 1) := dk_29 (dk_at dksX1_fits_0 4 rfl rfl)
theorem dX1_fits_5 : decode cX1_fits 5 = .ok (.iload 4, 2) := dk_21 4 (dk_at dksX1_fits_0 5 rfl rfl)
theorem dX1_fits_7 : decode cX1_fits 7 = .ok (.iastore, 1) := dk_79 (dk_at dksX1_fits_0 7 rfl rfl)
theorem dX1_fits_8 : decode cX1_fits 8 = .ok (.iconst 0, 1) := dk_3 (dk_at dksX1_fits_0 8 rfl rfl)
theorem dX1_fits_9 : decode cX1_fits 9 = .ok (.istore 5, 2) := dk_54 5 (dk_at dksX1_fits_0 9 rfl rfl)
theorem dX1_fits_11 : decode cX1_fits 11 = .ok (.iload 5, 2) := dk_21 5 (dk_at dksX1_fits_0 11 rfl rfl)
theorem dX1_fits_13 : decode cX1_fits 13 = .ok (.aload_n 1, 1) := dk_43 (dk_at dksX1_fits_0 13 rfl rfl)
theorem dX1_fits_14 : decode cX1_fits 14 = .ok (.getfield 138, 3) := dk_180 0 138 (dk_at dksX1_fits_0 14 rfl rfl)
theorem dX1_fits_17 : decode cX1_fits 17 = .ok (.if_icmp .ge 63, 3) := dk_162 0 63 (dk_at dksX1_fits_0 17 rfl rfl)
theorem dX1_fits_20 : decode cX1_fits 20 = .ok (.iconst 0, 1) := dk_3 (dk_at dksX1_fits_0 20 rfl rfl)
theorem dX1_fits_21 : decode cX1_fits 21 = .ok (.istore 6, 2) := dk_54 6 (dk_at dksX1_fits_0 21 rfl rfl)
theorem dX1_fits_23 : decode cX1_fits 23 = .ok (.iload 6, 2) := dk_21 6 (dk_at dksX1_fits_1 0 rfl rfl)
theorem dX1_fits_25 : decode cX1_fits 25 = .ok (.iload_n 3, 1) := dk_29 (dk_at dksX1_fits_1 2 rfl rfl)
theorem dX1_fits_26 : decode cX1_fits 26 = .ok (.if_icmp .gt 48, 3) := dk_163 0 48 (dk_at dksX1_fits_1 3 rfl rfl)
theorem dX1_fits_29 : decode cX1_fits 29 = .ok (.aload_n 1, 1) := dk_43 (dk_at dksX1_fits_1 6 rfl rfl)
theorem dX1_fits_30 : decode cX1_fits 30 = .ok (.iload 6, 2) := dk_21 6 (dk_at dksX1_fits_1 7 rfl rfl)
theorem dX1_fits_32 : decode cX1_fits 32 = .ok (.iload_n 3, 1) := dk_29 (dk_at dksX1_fits_1 9 rfl rfl)
theorem dX1_fits_33 : decode cX1_fits 33 = .ok (.aload_n 1, 1) := dk_43 (dk_at dksX1_fits_1 10 rfl rfl)
theorem dX1_fits_34 : decode cX1_fits 34 = .ok (.getfield 166, 3) := dk_180 0 166 (dk_at dksX1_fits_1 11 rfl rfl)
theorem dX1_fits_37 : decode cX1_fits 37 = .ok (.iload 5, 2) := dk_21 5 (dk_at dksX1_fits_1 14 rfl rfl)
theorem dX1_fits_39 : decode cX1_fits 39 = .ok (.iaload, 1) := dk_46 (dk_at dksX1_fits_1 16 rfl rfl)
theorem dX1_fits_40 : decode cX1_fits 40 = .ok (.invokevirtual 251, 3) := dk_182 0 251 (dk_at dksX1_fits_1 17 rfl rfl)
theorem dX1_fits_43 : decode cX1_fits 43 = .ok (.aload_n 2, 1) := dk_44 (dk_at dksX1_fits_1 20 rfl rfl)
theorem dX1_fits_44 : decode cX1_fits 44 = .ok (.aload_n 0, 1) := dk_42 (dk_at dksX1_fits_1 21 rfl rfl)
theorem dX1_fits_45 : decode cX1_fits 45 = .ok (.getfield 25, 3) := dk_180 0 25 (dk_at dksX1_fits_2 0 rfl rfl)
theorem dX1_fits_48 : decode cX1_fits 48 = .ok (.iload 6, 2) := dk_21 6 (dk_at dksX1_fits_2 3 rfl rfl)
theorem dX1_fits_50 : decode cX1_fits 50 = .ok (.iaload, 1) := dk_46 (dk_at dksX1_fits_2 5 rfl rfl)
theorem dX1_fits_51 : decode cX1_fits 51 = .ok (.iload 4, 2) := dk_21 4 (dk_at dksX1_fits_2 6 rfl rfl)
theorem dX1_fits_53 : decode cX1_fits 53 = .ok (.aload_n 1, 1) := dk_43 (dk_at dksX1_fits_2 8 rfl rfl)
theorem dX1_fits_54 : decode cX1_fits 54 = .ok (.getfield 166, 3) := dk_180 0 166 (dk_at dksX1_fits_2 9 rfl rfl)
theorem dX1_fits_57 : decode cX1_fits 57 = .ok (.iload 5, 2) := dk_21 5 (dk_at dksX1_fits_2 12 rfl rfl)
theorem dX1_fits_59 : decode cX1_fits 59 = .ok (.iaload, 1) := dk_46 (dk_at dksX1_fits_2 14 rfl rfl)
theorem dX1_fits_60 : decode cX1_fits 60 = .ok (.invokevirtual 251, 3) := dk_182 0 251 (dk_at dksX1_fits_2 15 rfl rfl)
theorem dX1_fits_63 : decode cX1_fits 63 = .ok (.if_icmp .eq 5, 3) := dk_159 0 5 (dk_at dksX1_fits_2 18 rfl rfl)
theorem dX1_fits_66 : decode cX1_fits 66 = .ok (.iconst 0, 1) := dk_3 (dk_at dksX1_fits_2 21 rfl rfl)
theorem dX1_fits_67 : decode cX1_fits 67 = .ok (.ireturn, 1) := dk_172 (dk_at dksX1_fits_2 22 rfl rfl)
theorem dX1_fits_68 : decode cX1_fits 68 = .ok (.iinc 6 1, 3) := dk_132 6 1 (dk_at dksX1_fits_3 0 rfl rfl)
theorem dX1_fits_71 : decode cX1_fits 71 = .ok (.goto (-48), 3) := dk_167 255 208 (dk_at dksX1_fits_3 3 rfl rfl)
theorem dX1_fits_74 : decode cX1_fits 74 = .ok (.iinc 5 1, 3) := dk_132 5 1 (dk_at dksX1_fits_3 6 rfl rfl)
theorem dX1_fits_77 : decode cX1_fits 77 = .ok (.goto (-66), 3) := dk_167 255 190 (dk_at dksX1_fits_3 9 rfl rfl)
theorem dX1_fits_80 : decode cX1_fits 80 = .ok (.iconst 1, 1) := dk_4 (dk_at dksX1_fits_3 12 rfl rfl)
theorem dX1_fits_81 : decode cX1_fits 81 = .ok (.ireturn, 1) := dk_172 (dk_at dksX1_fits_3 13 rfl rfl)
abbrev cX1_match : ByteArray := prog_1_method_32_code
def yX1_match : MethodName := ⟨RX1, "match", "(III)I"⟩
def dkwX1_match_1 : List UInt8 := [153, 0, 21, 42, 27, 28, 182, 1, 9, 153, 0, 12, 42, 180, 0, 25, 29, 46, 167, 0, 4, 2, 172]
abbrev dktX1_match_1 : List UInt8 := dkwX1_match_1 ++ []
def dkwX1_match_0 : List UInt8 := [42, 27, 182, 1, 6, 153, 0, 38, 42, 28, 182, 1, 6, 153, 0, 30, 42, 27, 29, 182, 0, 181]
abbrev dktX1_match_0 : List UInt8 := dkwX1_match_0 ++ dktX1_match_1
theorem dksX1_match_0 : cX1_match.data.toList.drop 0 = dktX1_match_0 := by decide +kernel
theorem dksX1_match_1 : cX1_match.data.toList.drop 22 = dktX1_match_1 := dk_seg dksX1_match_0 22 rfl rfl
theorem dX1_match_0 : decode cX1_match 0 = .ok (.aload_n 0, 1) := dk_42 (dk_at dksX1_match_0 0 rfl rfl)
theorem dX1_match_1 : decode cX1_match 1 = .ok (.iload_n 1, 1) := dk_27 (dk_at dksX1_match_0 1 rfl rfl)
theorem dX1_match_2 : decode cX1_match 2 = .ok (.invokevirtual 262, 3) := dk_182 1 6 (dk_at dksX1_match_0 2 rfl rfl)
theorem dX1_match_5 : decode cX1_match 5 = .ok (.ifCond .eq 38, 3) := dk_153 0 38 (dk_at dksX1_match_0 5 rfl rfl)
theorem dX1_match_8 : decode cX1_match 8 = .ok (.aload_n 0, 1) := dk_42 (dk_at dksX1_match_0 8 rfl rfl)
theorem dX1_match_9 : decode cX1_match 9 = .ok (.iload_n 2, 1) := dk_28 (dk_at dksX1_match_0 9 rfl rfl)
theorem dX1_match_10 : decode cX1_match 10 = .ok (.invokevirtual 262, 3) := dk_182 1 6 (dk_at dksX1_match_0 10 rfl rfl)
theorem dX1_match_13 : decode cX1_match 13 = .ok (.ifCond .eq 30, 3) := dk_153 0 30 (dk_at dksX1_match_0 13 rfl rfl)
theorem dX1_match_16 : decode cX1_match 16 = .ok (.aload_n 0, 1) := dk_42 (dk_at dksX1_match_0 16 rfl rfl)
theorem dX1_match_17 : decode cX1_match 17 = .ok (.iload_n 1, 1) := dk_27 (dk_at dksX1_match_0 17 rfl rfl)
theorem dX1_match_18 : decode cX1_match 18 = .ok (.iload_n 3, 1) := dk_29 (dk_at dksX1_match_0 18 rfl rfl)
theorem dX1_match_19 : decode cX1_match 19 = .ok (.invokevirtual 181, 3) := dk_182 0 181 (dk_at dksX1_match_0 19 rfl rfl)
theorem dX1_match_22 : decode cX1_match 22 = .ok (.ifCond .eq 21, 3) := dk_153 0 21 (dk_at dksX1_match_1 0 rfl rfl)
theorem dX1_match_25 : decode cX1_match 25 = .ok (.aload_n 0, 1) := dk_42 (dk_at dksX1_match_1 3 rfl rfl)
theorem dX1_match_26 : decode cX1_match 26 = .ok (.iload_n 1, 1) := dk_27 (dk_at dksX1_match_1 4 rfl rfl)
theorem dX1_match_27 : decode cX1_match 27 = .ok (.iload_n 2, 1) := dk_28 (dk_at dksX1_match_1 5 rfl rfl)
theorem dX1_match_28 : decode cX1_match 28 = .ok (.invokevirtual 265, 3) := dk_182 1 9 (dk_at dksX1_match_1 6 rfl rfl)
theorem dX1_match_31 : decode cX1_match 31 = .ok (.ifCond .eq 12, 3) := dk_153 0 12 (dk_at dksX1_match_1 9 rfl rfl)
theorem dX1_match_34 : decode cX1_match 34 = .ok (.aload_n 0, 1) := dk_42 (dk_at dksX1_match_1 12 rfl rfl)
theorem dX1_match_35 : decode cX1_match 35 = .ok (.getfield 25, 3) := dk_180 0 25 (dk_at dksX1_match_1 13 rfl rfl)
theorem dX1_match_38 : decode cX1_match 38 = .ok (.iload_n 3, 1) := dk_29 (dk_at dksX1_match_1 16 rfl rfl)
theorem dX1_match_39 : decode cX1_match 39 = .ok (.iaload, 1) := dk_46 (dk_at dksX1_match_1 17 rfl rfl)
theorem dX1_match_40 : decode cX1_match 40 = .ok (.goto 4, 3) := dk_167 0 4 (dk_at dksX1_match_1 18 rfl rfl)
theorem dX1_match_43 : decode cX1_match 43 = .ok (.iconst (-1), 1) := dk_2 (dk_at dksX1_match_1 21 rfl rfl)
theorem dX1_match_44 : decode cX1_match 44 = .ok (.ireturn, 1) := dk_172 (dk_at dksX1_match_1 22 rfl rfl)
abbrev cX1_far : ByteArray := prog_1_method_34_code
def yX1_far : MethodName := ⟨RX1, "far", "(III)I"⟩
def dkwX1_far_2 : List UInt8 := [162, 0, 17, 42, 180, 0, 29, 16, 32, 28, 104, 29, 96, 46, 167, 0, 4, 2, 172]
abbrev dktX1_far_2 : List UInt8 := dkwX1_far_2 ++ []
def dkwX1_far_1 : List UInt8 := [180, 0, 21, 27, 50, 182, 1, 16, 42, 180, 0, 29, 16, 32, 28, 104, 29, 96, 46, 19, 1, 12]
abbrev dktX1_far_1 : List UInt8 := dkwX1_far_1 ++ dktX1_far_2
def dkwX1_far_0 : List UInt8 := [42, 27, 28, 182, 0, 181, 153, 0, 12, 42, 27, 29, 182, 0, 181, 154, 0, 5, 2, 172, 42, 42]
abbrev dktX1_far_0 : List UInt8 := dkwX1_far_0 ++ dktX1_far_1
theorem dksX1_far_0 : cX1_far.data.toList.drop 0 = dktX1_far_0 := by decide +kernel
theorem dksX1_far_1 : cX1_far.data.toList.drop 22 = dktX1_far_1 := dk_seg dksX1_far_0 22 rfl rfl
theorem dksX1_far_2 : cX1_far.data.toList.drop 44 = dktX1_far_2 := dk_seg dksX1_far_1 22 rfl rfl
theorem dX1_far_0 : decode cX1_far 0 = .ok (.aload_n 0, 1) := dk_42 (dk_at dksX1_far_0 0 rfl rfl)
theorem dX1_far_1 : decode cX1_far 1 = .ok (.iload_n 1, 1) := dk_27 (dk_at dksX1_far_0 1 rfl rfl)
theorem dX1_far_2 : decode cX1_far 2 = .ok (.iload_n 2, 1) := dk_28 (dk_at dksX1_far_0 2 rfl rfl)
theorem dX1_far_3 : decode cX1_far 3 = .ok (.invokevirtual 181, 3) := dk_182 0 181 (dk_at dksX1_far_0 3 rfl rfl)
theorem dX1_far_6 : decode cX1_far 6 = .ok (.ifCond .eq 12, 3) := dk_153 0 12 (dk_at dksX1_far_0 6 rfl rfl)
theorem dX1_far_9 : decode cX1_far 9 = .ok (.aload_n 0, 1) := dk_42 (dk_at dksX1_far_0 9 rfl rfl)
theorem dX1_far_10 : decode cX1_far 10 = .ok (.iload_n 1, 1) := dk_27 (dk_at dksX1_far_0 10 rfl rfl)
theorem dX1_far_11 : decode cX1_far 11 = .ok (.iload_n 3, 1) := dk_29 (dk_at dksX1_far_0 11 rfl rfl)
theorem dX1_far_12 : decode cX1_far 12 = .ok (.invokevirtual 181, 3) := dk_182 0 181 (dk_at dksX1_far_0 12 rfl rfl)
theorem dX1_far_15 : decode cX1_far 15 = .ok (.ifCond .ne 5, 3) := dk_154 0 5 (dk_at dksX1_far_0 15 rfl rfl)
theorem dX1_far_18 : decode cX1_far 18 = .ok (.iconst (-1), 1) := dk_2 (dk_at dksX1_far_0 18 rfl rfl)
theorem dX1_far_19 : decode cX1_far 19 = .ok (.ireturn, 1) := dk_172 (dk_at dksX1_far_0 19 rfl rfl)
theorem dX1_far_20 : decode cX1_far 20 = .ok (.aload_n 0, 1) := dk_42 (dk_at dksX1_far_0 20 rfl rfl)
theorem dX1_far_21 : decode cX1_far 21 = .ok (.aload_n 0, 1) := dk_42 (dk_at dksX1_far_0 21 rfl rfl)
theorem dX1_far_22 : decode cX1_far 22 = .ok (.getfield 21, 3) := dk_180 0 21 (dk_at dksX1_far_1 0 rfl rfl)
theorem dX1_far_25 : decode cX1_far 25 = .ok (.iload_n 1, 1) := dk_27 (dk_at dksX1_far_1 3 rfl rfl)
theorem dX1_far_26 : decode cX1_far 26 = .ok (.aaload, 1) := dk_50 (dk_at dksX1_far_1 4 rfl rfl)
theorem dX1_far_27 : decode cX1_far 27 = .ok (.invokevirtual 272, 3) := dk_182 1 16 (dk_at dksX1_far_1 5 rfl rfl)
theorem dX1_far_30 : decode cX1_far 30 = .ok (.aload_n 0, 1) := dk_42 (dk_at dksX1_far_1 8 rfl rfl)
theorem dX1_far_31 : decode cX1_far 31 = .ok (.getfield 29, 3) := dk_180 0 29 (dk_at dksX1_far_1 9 rfl rfl)
theorem dX1_far_34 : decode cX1_far 34 = .ok (.bipush 32, 2) := dk_16 32 (dk_at dksX1_far_1 12 rfl rfl)
theorem dX1_far_36 : decode cX1_far 36 = .ok (.iload_n 2, 1) := dk_28 (dk_at dksX1_far_1 14 rfl rfl)
theorem dX1_far_37 : decode cX1_far 37 = .ok (.imul, 1) := dk_104 (dk_at dksX1_far_1 15 rfl rfl)
theorem dX1_far_38 : decode cX1_far 38 = .ok (.iload_n 3, 1) := dk_29 (dk_at dksX1_far_1 16 rfl rfl)
theorem dX1_far_39 : decode cX1_far 39 = .ok (.iadd, 1) := dk_96 (dk_at dksX1_far_1 17 rfl rfl)
theorem dX1_far_40 : decode cX1_far 40 = .ok (.iaload, 1) := dk_46 (dk_at dksX1_far_1 18 rfl rfl)
theorem dX1_far_41 : decode cX1_far 41 = .ok (.ldc_w 268, 3) := dk_19 1 12 (dk_at dksX1_far_1 19 rfl rfl)
theorem dX1_far_44 : decode cX1_far 44 = .ok (.if_icmp .ge 17, 3) := dk_162 0 17 (dk_at dksX1_far_2 0 rfl rfl)
theorem dX1_far_47 : decode cX1_far 47 = .ok (.aload_n 0, 1) := dk_42 (dk_at dksX1_far_2 3 rfl rfl)
theorem dX1_far_48 : decode cX1_far 48 = .ok (.getfield 29, 3) := dk_180 0 29 (dk_at dksX1_far_2 4 rfl rfl)
theorem dX1_far_51 : decode cX1_far 51 = .ok (.bipush 32, 2) := dk_16 32 (dk_at dksX1_far_2 7 rfl rfl)
theorem dX1_far_53 : decode cX1_far 53 = .ok (.iload_n 2, 1) := dk_28 (dk_at dksX1_far_2 9 rfl rfl)
theorem dX1_far_54 : decode cX1_far 54 = .ok (.imul, 1) := dk_104 (dk_at dksX1_far_2 10 rfl rfl)
theorem dX1_far_55 : decode cX1_far 55 = .ok (.iload_n 3, 1) := dk_29 (dk_at dksX1_far_2 11 rfl rfl)
theorem dX1_far_56 : decode cX1_far 56 = .ok (.iadd, 1) := dk_96 (dk_at dksX1_far_2 12 rfl rfl)
theorem dX1_far_57 : decode cX1_far 57 = .ok (.iaload, 1) := dk_46 (dk_at dksX1_far_2 13 rfl rfl)
theorem dX1_far_58 : decode cX1_far 58 = .ok (.goto 4, 3) := dk_167 0 4 (dk_at dksX1_far_2 14 rfl rfl)
theorem dX1_far_61 : decode cX1_far 61 = .ok (.iconst (-1), 1) := dk_2 (dk_at dksX1_far_2 17 rfl rfl)
theorem dX1_far_62 : decode cX1_far 62 = .ok (.ireturn, 1) := dk_172 (dk_at dksX1_far_2 18 rfl rfl)
abbrev cX1_layFars : ByteArray := prog_1_method_33_code
def yX1_layFars : MethodName := ⟨RX1, "layFars", "(LBalloonStall$Figure;)V"⟩
def dkwX1_layFars_10 : List UInt8 := [167, 255, 176, 132, 2, 1, 167, 255, 160, 177]
abbrev dktX1_layFars_10 : List UInt8 := dkwX1_layFars_10 ++ []
def dkwX1_layFars_9 : List UInt8 := [16, 32, 28, 104, 21, 4, 96, 46, 96, 184, 1, 13, 79, 132, 4, 1, 167, 255, 193, 132, 3, 1]
abbrev dktX1_layFars_9 : List UInt8 := dkwX1_layFars_9 ++ dktX1_layFars_10
def dkwX1_layFars_8 : List UInt8 := [16, 32, 29, 104, 21, 4, 96, 46, 42, 180, 0, 29, 16, 32, 29, 104, 28, 96, 46, 42, 180, 0, 29]
abbrev dktX1_layFars_8 : List UInt8 := dkwX1_layFars_8 ++ dktX1_layFars_9
def dkwX1_layFars_7 : List UInt8 := [21, 4, 43, 180, 0, 141, 162, 0, 60, 42, 180, 0, 29, 16, 32, 29, 104, 21, 4, 96, 42, 180, 0, 29]
abbrev dktX1_layFars_7 : List UInt8 := dkwX1_layFars_7 ++ dktX1_layFars_8
def dkwX1_layFars_6 : List UInt8 := [3, 61, 28, 43, 180, 0, 141, 162, 0, 94, 3, 62, 29, 43, 180, 0, 141, 162, 0, 78, 3, 54, 4]
abbrev dktX1_layFars_6 : List UInt8 := dkwX1_layFars_6 ++ dktX1_layFars_7
def dkwX1_layFars_5 : List UInt8 := [46, 184, 1, 13, 79, 42, 180, 0, 29, 21, 4, 42, 180, 0, 29, 29, 46, 79, 132, 2, 1, 167, 255, 176]
abbrev dktX1_layFars_5 : List UInt8 := dkwX1_layFars_5 ++ dktX1_layFars_6
def dkwX1_layFars_4 : List UInt8 := [180, 0, 169, 28, 46, 96, 54, 4, 42, 180, 0, 29, 29, 42, 180, 0, 29, 29, 46, 43, 180, 0, 166, 28]
abbrev dktX1_layFars_4 : List UInt8 := dkwX1_layFars_4 ++ dktX1_layFars_5
def dkwX1_layFars_3 : List UInt8 := [180, 0, 169, 28, 46, 104, 43, 180, 0, 172, 28, 46, 96, 62, 16, 32, 43, 180, 0, 172, 28, 46, 104, 43]
abbrev dktX1_layFars_3 : List UInt8 := dkwX1_layFars_3 ++ dktX1_layFars_4
def dkwX1_layFars_2 : List UInt8 := [167, 255, 222, 132, 2, 1, 167, 255, 206, 3, 61, 28, 43, 180, 0, 138, 162, 0, 78, 16, 32, 43]
abbrev dktX1_layFars_2 : List UInt8 := dkwX1_layFars_2 ++ dktX1_layFars_3
def dkwX1_layFars_1 : List UInt8 := [16, 32, 28, 104, 29, 96, 28, 29, 160, 0, 7, 3, 167, 0, 6, 19, 1, 12, 79, 132, 3, 1]
abbrev dktX1_layFars_1 : List UInt8 := dkwX1_layFars_1 ++ dktX1_layFars_2
def dkwX1_layFars_0 : List UInt8 := [3, 61, 28, 43, 180, 0, 141, 162, 0, 48, 3, 62, 29, 43, 180, 0, 141, 162, 0, 32, 42, 180, 0, 29]
abbrev dktX1_layFars_0 : List UInt8 := dkwX1_layFars_0 ++ dktX1_layFars_1
theorem dksX1_layFars_0 : cX1_layFars.data.toList.drop 0 = dktX1_layFars_0 := by decide +kernel
theorem dksX1_layFars_1 : cX1_layFars.data.toList.drop 24 = dktX1_layFars_1 := dk_seg dksX1_layFars_0 24 rfl rfl
theorem dksX1_layFars_2 : cX1_layFars.data.toList.drop 46 = dktX1_layFars_2 := dk_seg dksX1_layFars_1 22 rfl rfl
theorem dksX1_layFars_3 : cX1_layFars.data.toList.drop 68 = dktX1_layFars_3 := dk_seg dksX1_layFars_2 22 rfl rfl
theorem dksX1_layFars_4 : cX1_layFars.data.toList.drop 92 = dktX1_layFars_4 := dk_seg dksX1_layFars_3 24 rfl rfl
theorem dksX1_layFars_5 : cX1_layFars.data.toList.drop 116 = dktX1_layFars_5 := dk_seg dksX1_layFars_4 24 rfl rfl
theorem dksX1_layFars_6 : cX1_layFars.data.toList.drop 140 = dktX1_layFars_6 := dk_seg dksX1_layFars_5 24 rfl rfl
theorem dksX1_layFars_7 : cX1_layFars.data.toList.drop 163 = dktX1_layFars_7 := dk_seg dksX1_layFars_6 23 rfl rfl
theorem dksX1_layFars_8 : cX1_layFars.data.toList.drop 187 = dktX1_layFars_8 := dk_seg dksX1_layFars_7 24 rfl rfl
theorem dksX1_layFars_9 : cX1_layFars.data.toList.drop 210 = dktX1_layFars_9 := dk_seg dksX1_layFars_8 23 rfl rfl
theorem dksX1_layFars_10 : cX1_layFars.data.toList.drop 232 = dktX1_layFars_10 := dk_seg dksX1_layFars_9 22 rfl rfl
theorem dX1_layFars_0 : decode cX1_layFars 0 = .ok (.iconst 0, 1) := dk_3 (dk_at dksX1_layFars_0 0 rfl rfl)
theorem dX1_layFars_1 : decode cX1_layFars 1 = .ok (.istore_n 2, 1) := dk_61 (dk_at dksX1_layFars_0 1 rfl rfl)
theorem dX1_layFars_2 : decode cX1_layFars 2 = .ok (.iload_n 2, 1) := dk_28 (dk_at dksX1_layFars_0 2 rfl rfl)
theorem dX1_layFars_3 : decode cX1_layFars 3 = .ok (.aload_n 1, 1) := dk_43 (dk_at dksX1_layFars_0 3 rfl rfl)
theorem dX1_layFars_4 : decode cX1_layFars 4 = .ok (.getfield 141, 3) := dk_180 0 141 (dk_at dksX1_layFars_0 4 rfl rfl)
theorem dX1_layFars_7 : decode cX1_layFars 7 = .ok (.if_icmp .ge 48, 3) := dk_162 0 48 (dk_at dksX1_layFars_0 7 rfl rfl)
theorem dX1_layFars_10 : decode cX1_layFars 10 = .ok (.iconst 0, 1) := dk_3 (dk_at dksX1_layFars_0 10 rfl rfl)
theorem dX1_layFars_11 : decode cX1_layFars 11 = .ok (.istore_n 3, 1) := dk_62 (dk_at dksX1_layFars_0 11 rfl rfl)
theorem dX1_layFars_12 : decode cX1_layFars 12 = .ok (.iload_n 3, 1) := dk_29 (dk_at dksX1_layFars_0 12 rfl rfl)
theorem dX1_layFars_13 : decode cX1_layFars 13 = .ok (.aload_n 1, 1) := dk_43 (dk_at dksX1_layFars_0 13 rfl rfl)
theorem dX1_layFars_14 : decode cX1_layFars 14 = .ok (.getfield 141, 3) := dk_180 0 141 (dk_at dksX1_layFars_0 14 rfl rfl)
theorem dX1_layFars_17 : decode cX1_layFars 17 = .ok (.if_icmp .ge 32, 3) := dk_162 0 32 (dk_at dksX1_layFars_0 17 rfl rfl)
theorem dX1_layFars_20 : decode cX1_layFars 20 = .ok (.aload_n 0, 1) := dk_42 (dk_at dksX1_layFars_0 20 rfl rfl)
theorem dX1_layFars_21 : decode cX1_layFars 21 = .ok (.getfield 29, 3) := dk_180 0 29 (dk_at dksX1_layFars_0 21 rfl rfl)
theorem dX1_layFars_24 : decode cX1_layFars 24 = .ok (.bipush 32, 2) := dk_16 32 (dk_at dksX1_layFars_1 0 rfl rfl)
theorem dX1_layFars_26 : decode cX1_layFars 26 = .ok (.iload_n 2, 1) := dk_28 (dk_at dksX1_layFars_1 2 rfl rfl)
theorem dX1_layFars_27 : decode cX1_layFars 27 = .ok (.imul, 1) := dk_104 (dk_at dksX1_layFars_1 3 rfl rfl)
theorem dX1_layFars_28 : decode cX1_layFars 28 = .ok (.iload_n 3, 1) := dk_29 (dk_at dksX1_layFars_1 4 rfl rfl)
theorem dX1_layFars_29 : decode cX1_layFars 29 = .ok (.iadd, 1) := dk_96 (dk_at dksX1_layFars_1 5 rfl rfl)
theorem dX1_layFars_30 : decode cX1_layFars 30 = .ok (.iload_n 2, 1) := dk_28 (dk_at dksX1_layFars_1 6 rfl rfl)
theorem dX1_layFars_31 : decode cX1_layFars 31 = .ok (.iload_n 3, 1) := dk_29 (dk_at dksX1_layFars_1 7 rfl rfl)
theorem dX1_layFars_32 : decode cX1_layFars 32 = .ok (.if_icmp .ne 7, 3) := dk_160 0 7 (dk_at dksX1_layFars_1 8 rfl rfl)
theorem dX1_layFars_35 : decode cX1_layFars 35 = .ok (.iconst 0, 1) := dk_3 (dk_at dksX1_layFars_1 11 rfl rfl)
theorem dX1_layFars_36 : decode cX1_layFars 36 = .ok (.goto 6, 3) := dk_167 0 6 (dk_at dksX1_layFars_1 12 rfl rfl)
theorem dX1_layFars_39 : decode cX1_layFars 39 = .ok (.ldc_w 268, 3) := dk_19 1 12 (dk_at dksX1_layFars_1 15 rfl rfl)
theorem dX1_layFars_42 : decode cX1_layFars 42 = .ok (.iastore, 1) := dk_79 (dk_at dksX1_layFars_1 18 rfl rfl)
theorem dX1_layFars_43 : decode cX1_layFars 43 = .ok (.iinc 3 1, 3) := dk_132 3 1 (dk_at dksX1_layFars_1 19 rfl rfl)
theorem dX1_layFars_46 : decode cX1_layFars 46 = .ok (.goto (-34), 3) := dk_167 255 222 (dk_at dksX1_layFars_2 0 rfl rfl)
theorem dX1_layFars_49 : decode cX1_layFars 49 = .ok (.iinc 2 1, 3) := dk_132 2 1 (dk_at dksX1_layFars_2 3 rfl rfl)
theorem dX1_layFars_52 : decode cX1_layFars 52 = .ok (.goto (-50), 3) := dk_167 255 206 (dk_at dksX1_layFars_2 6 rfl rfl)
theorem dX1_layFars_55 : decode cX1_layFars 55 = .ok (.iconst 0, 1) := dk_3 (dk_at dksX1_layFars_2 9 rfl rfl)
theorem dX1_layFars_56 : decode cX1_layFars 56 = .ok (.istore_n 2, 1) := dk_61 (dk_at dksX1_layFars_2 10 rfl rfl)
theorem dX1_layFars_57 : decode cX1_layFars 57 = .ok (.iload_n 2, 1) := dk_28 (dk_at dksX1_layFars_2 11 rfl rfl)
theorem dX1_layFars_58 : decode cX1_layFars 58 = .ok (.aload_n 1, 1) := dk_43 (dk_at dksX1_layFars_2 12 rfl rfl)
theorem dX1_layFars_59 : decode cX1_layFars 59 = .ok (.getfield 138, 3) := dk_180 0 138 (dk_at dksX1_layFars_2 13 rfl rfl)
theorem dX1_layFars_62 : decode cX1_layFars 62 = .ok (.if_icmp .ge 78, 3) := dk_162 0 78 (dk_at dksX1_layFars_2 16 rfl rfl)
theorem dX1_layFars_65 : decode cX1_layFars 65 = .ok (.bipush 32, 2) := dk_16 32 (dk_at dksX1_layFars_2 19 rfl rfl)
theorem dX1_layFars_67 : decode cX1_layFars 67 = .ok (.aload_n 1, 1) := dk_43 (dk_at dksX1_layFars_2 21 rfl rfl)
theorem dX1_layFars_68 : decode cX1_layFars 68 = .ok (.getfield 169, 3) := dk_180 0 169 (dk_at dksX1_layFars_3 0 rfl rfl)
theorem dX1_layFars_71 : decode cX1_layFars 71 = .ok (.iload_n 2, 1) := dk_28 (dk_at dksX1_layFars_3 3 rfl rfl)
theorem dX1_layFars_72 : decode cX1_layFars 72 = .ok (.iaload, 1) := dk_46 (dk_at dksX1_layFars_3 4 rfl rfl)
theorem dX1_layFars_73 : decode cX1_layFars 73 = .ok (.imul, 1) := dk_104 (dk_at dksX1_layFars_3 5 rfl rfl)
theorem dX1_layFars_74 : decode cX1_layFars 74 = .ok (.aload_n 1, 1) := dk_43 (dk_at dksX1_layFars_3 6 rfl rfl)
theorem dX1_layFars_75 : decode cX1_layFars 75 = .ok (.getfield 172, 3) := dk_180 0 172 (dk_at dksX1_layFars_3 7 rfl rfl)
theorem dX1_layFars_78 : decode cX1_layFars 78 = .ok (.iload_n 2, 1) := dk_28 (dk_at dksX1_layFars_3 10 rfl rfl)
theorem dX1_layFars_79 : decode cX1_layFars 79 = .ok (.iaload, 1) := dk_46 (dk_at dksX1_layFars_3 11 rfl rfl)
theorem dX1_layFars_80 : decode cX1_layFars 80 = .ok (.iadd, 1) := dk_96 (dk_at dksX1_layFars_3 12 rfl rfl)
theorem dX1_layFars_81 : decode cX1_layFars 81 = .ok (.istore_n 3, 1) := dk_62 (dk_at dksX1_layFars_3 13 rfl rfl)
theorem dX1_layFars_82 : decode cX1_layFars 82 = .ok (.bipush 32, 2) := dk_16 32 (dk_at dksX1_layFars_3 14 rfl rfl)
theorem dX1_layFars_84 : decode cX1_layFars 84 = .ok (.aload_n 1, 1) := dk_43 (dk_at dksX1_layFars_3 16 rfl rfl)
theorem dX1_layFars_85 : decode cX1_layFars 85 = .ok (.getfield 172, 3) := dk_180 0 172 (dk_at dksX1_layFars_3 17 rfl rfl)
theorem dX1_layFars_88 : decode cX1_layFars 88 = .ok (.iload_n 2, 1) := dk_28 (dk_at dksX1_layFars_3 20 rfl rfl)
theorem dX1_layFars_89 : decode cX1_layFars 89 = .ok (.iaload, 1) := dk_46 (dk_at dksX1_layFars_3 21 rfl rfl)
theorem dX1_layFars_90 : decode cX1_layFars 90 = .ok (.imul, 1) := dk_104 (dk_at dksX1_layFars_3 22 rfl rfl)
theorem dX1_layFars_91 : decode cX1_layFars 91 = .ok (.aload_n 1, 1) := dk_43 (dk_at dksX1_layFars_3 23 rfl rfl)
theorem dX1_layFars_92 : decode cX1_layFars 92 = .ok (.getfield 169, 3) := dk_180 0 169 (dk_at dksX1_layFars_4 0 rfl rfl)
theorem dX1_layFars_95 : decode cX1_layFars 95 = .ok (.iload_n 2, 1) := dk_28 (dk_at dksX1_layFars_4 3 rfl rfl)
theorem dX1_layFars_96 : decode cX1_layFars 96 = .ok (.iaload, 1) := dk_46 (dk_at dksX1_layFars_4 4 rfl rfl)
theorem dX1_layFars_97 : decode cX1_layFars 97 = .ok (.iadd, 1) := dk_96 (dk_at dksX1_layFars_4 5 rfl rfl)
theorem dX1_layFars_98 : decode cX1_layFars 98 = .ok (.istore 4, 2) := dk_54 4 (dk_at dksX1_layFars_4 6 rfl rfl)
theorem dX1_layFars_100 : decode cX1_layFars 100 = .ok (.aload_n 0, 1) := dk_42 (dk_at dksX1_layFars_4 8 rfl rfl)
theorem dX1_layFars_101 : decode cX1_layFars 101 = .ok (.getfield 29, 3) := dk_180 0 29 (dk_at dksX1_layFars_4 9 rfl rfl)
theorem dX1_layFars_104 : decode cX1_layFars 104 = .ok (.iload_n 3, 1) := dk_29 (dk_at dksX1_layFars_4 12 rfl rfl)
theorem dX1_layFars_105 : decode cX1_layFars 105 = .ok (.aload_n 0, 1) := dk_42 (dk_at dksX1_layFars_4 13 rfl rfl)
theorem dX1_layFars_106 : decode cX1_layFars 106 = .ok (.getfield 29, 3) := dk_180 0 29 (dk_at dksX1_layFars_4 14 rfl rfl)
theorem dX1_layFars_109 : decode cX1_layFars 109 = .ok (.iload_n 3, 1) := dk_29 (dk_at dksX1_layFars_4 17 rfl rfl)
theorem dX1_layFars_110 : decode cX1_layFars 110 = .ok (.iaload, 1) := dk_46 (dk_at dksX1_layFars_4 18 rfl rfl)
theorem dX1_layFars_111 : decode cX1_layFars 111 = .ok (.aload_n 1, 1) := dk_43 (dk_at dksX1_layFars_4 19 rfl rfl)
theorem dX1_layFars_112 : decode cX1_layFars 112 = .ok (.getfield 166, 3) := dk_180 0 166 (dk_at dksX1_layFars_4 20 rfl rfl)
theorem dX1_layFars_115 : decode cX1_layFars 115 = .ok (.iload_n 2, 1) := dk_28 (dk_at dksX1_layFars_4 23 rfl rfl)
theorem dX1_layFars_116 : decode cX1_layFars 116 = .ok (.iaload, 1) := dk_46 (dk_at dksX1_layFars_5 0 rfl rfl)
theorem dX1_layFars_117 : decode cX1_layFars 117 = .ok (.invokestatic 269, 3) := dk_184 1 13 (dk_at dksX1_layFars_5 1 rfl rfl)
theorem dX1_layFars_120 : decode cX1_layFars 120 = .ok (.iastore, 1) := dk_79 (dk_at dksX1_layFars_5 4 rfl rfl)
theorem dX1_layFars_121 : decode cX1_layFars 121 = .ok (.aload_n 0, 1) := dk_42 (dk_at dksX1_layFars_5 5 rfl rfl)
theorem dX1_layFars_122 : decode cX1_layFars 122 = .ok (.getfield 29, 3) := dk_180 0 29 (dk_at dksX1_layFars_5 6 rfl rfl)
theorem dX1_layFars_125 : decode cX1_layFars 125 = .ok (.iload 4, 2) := dk_21 4 (dk_at dksX1_layFars_5 9 rfl rfl)
theorem dX1_layFars_127 : decode cX1_layFars 127 = .ok (.aload_n 0, 1) := dk_42 (dk_at dksX1_layFars_5 11 rfl rfl)
theorem dX1_layFars_128 : decode cX1_layFars 128 = .ok (.getfield 29, 3) := dk_180 0 29 (dk_at dksX1_layFars_5 12 rfl rfl)
theorem dX1_layFars_131 : decode cX1_layFars 131 = .ok (.iload_n 3, 1) := dk_29 (dk_at dksX1_layFars_5 15 rfl rfl)
theorem dX1_layFars_132 : decode cX1_layFars 132 = .ok (.iaload, 1) := dk_46 (dk_at dksX1_layFars_5 16 rfl rfl)
theorem dX1_layFars_133 : decode cX1_layFars 133 = .ok (.iastore, 1) := dk_79 (dk_at dksX1_layFars_5 17 rfl rfl)
theorem dX1_layFars_134 : decode cX1_layFars 134 = .ok (.iinc 2 1, 3) := dk_132 2 1 (dk_at dksX1_layFars_5 18 rfl rfl)
theorem dX1_layFars_137 : decode cX1_layFars 137 = .ok (.goto (-80), 3) := dk_167 255 176 (dk_at dksX1_layFars_5 21 rfl rfl)
theorem dX1_layFars_140 : decode cX1_layFars 140 = .ok (.iconst 0, 1) := dk_3 (dk_at dksX1_layFars_6 0 rfl rfl)
theorem dX1_layFars_141 : decode cX1_layFars 141 = .ok (.istore_n 2, 1) := dk_61 (dk_at dksX1_layFars_6 1 rfl rfl)
theorem dX1_layFars_142 : decode cX1_layFars 142 = .ok (.iload_n 2, 1) := dk_28 (dk_at dksX1_layFars_6 2 rfl rfl)
theorem dX1_layFars_143 : decode cX1_layFars 143 = .ok (.aload_n 1, 1) := dk_43 (dk_at dksX1_layFars_6 3 rfl rfl)
theorem dX1_layFars_144 : decode cX1_layFars 144 = .ok (.getfield 141, 3) := dk_180 0 141 (dk_at dksX1_layFars_6 4 rfl rfl)
theorem dX1_layFars_147 : decode cX1_layFars 147 = .ok (.if_icmp .ge 94, 3) := dk_162 0 94 (dk_at dksX1_layFars_6 7 rfl rfl)
theorem dX1_layFars_150 : decode cX1_layFars 150 = .ok (.iconst 0, 1) := dk_3 (dk_at dksX1_layFars_6 10 rfl rfl)
theorem dX1_layFars_151 : decode cX1_layFars 151 = .ok (.istore_n 3, 1) := dk_62 (dk_at dksX1_layFars_6 11 rfl rfl)
theorem dX1_layFars_152 : decode cX1_layFars 152 = .ok (.iload_n 3, 1) := dk_29 (dk_at dksX1_layFars_6 12 rfl rfl)
theorem dX1_layFars_153 : decode cX1_layFars 153 = .ok (.aload_n 1, 1) := dk_43 (dk_at dksX1_layFars_6 13 rfl rfl)
theorem dX1_layFars_154 : decode cX1_layFars 154 = .ok (.getfield 141, 3) := dk_180 0 141 (dk_at dksX1_layFars_6 14 rfl rfl)
theorem dX1_layFars_157 : decode cX1_layFars 157 = .ok (.if_icmp .ge 78, 3) := dk_162 0 78 (dk_at dksX1_layFars_6 17 rfl rfl)
theorem dX1_layFars_160 : decode cX1_layFars 160 = .ok (.iconst 0, 1) := dk_3 (dk_at dksX1_layFars_6 20 rfl rfl)
theorem dX1_layFars_161 : decode cX1_layFars 161 = .ok (.istore 4, 2) := dk_54 4 (dk_at dksX1_layFars_6 21 rfl rfl)
theorem dX1_layFars_163 : decode cX1_layFars 163 = .ok (.iload 4, 2) := dk_21 4 (dk_at dksX1_layFars_7 0 rfl rfl)
theorem dX1_layFars_165 : decode cX1_layFars 165 = .ok (.aload_n 1, 1) := dk_43 (dk_at dksX1_layFars_7 2 rfl rfl)
theorem dX1_layFars_166 : decode cX1_layFars 166 = .ok (.getfield 141, 3) := dk_180 0 141 (dk_at dksX1_layFars_7 3 rfl rfl)
theorem dX1_layFars_169 : decode cX1_layFars 169 = .ok (.if_icmp .ge 60, 3) := dk_162 0 60 (dk_at dksX1_layFars_7 6 rfl rfl)
theorem dX1_layFars_172 : decode cX1_layFars 172 = .ok (.aload_n 0, 1) := dk_42 (dk_at dksX1_layFars_7 9 rfl rfl)
theorem dX1_layFars_173 : decode cX1_layFars 173 = .ok (.getfield 29, 3) := dk_180 0 29 (dk_at dksX1_layFars_7 10 rfl rfl)
theorem dX1_layFars_176 : decode cX1_layFars 176 = .ok (.bipush 32, 2) := dk_16 32 (dk_at dksX1_layFars_7 13 rfl rfl)
theorem dX1_layFars_178 : decode cX1_layFars 178 = .ok (.iload_n 3, 1) := dk_29 (dk_at dksX1_layFars_7 15 rfl rfl)
theorem dX1_layFars_179 : decode cX1_layFars 179 = .ok (.imul, 1) := dk_104 (dk_at dksX1_layFars_7 16 rfl rfl)
theorem dX1_layFars_180 : decode cX1_layFars 180 = .ok (.iload 4, 2) := dk_21 4 (dk_at dksX1_layFars_7 17 rfl rfl)
theorem dX1_layFars_182 : decode cX1_layFars 182 = .ok (.iadd, 1) := dk_96 (dk_at dksX1_layFars_7 19 rfl rfl)
theorem dX1_layFars_183 : decode cX1_layFars 183 = .ok (.aload_n 0, 1) := dk_42 (dk_at dksX1_layFars_7 20 rfl rfl)
theorem dX1_layFars_184 : decode cX1_layFars 184 = .ok (.getfield 29, 3) := dk_180 0 29 (dk_at dksX1_layFars_7 21 rfl rfl)
theorem dX1_layFars_187 : decode cX1_layFars 187 = .ok (.bipush 32, 2) := dk_16 32 (dk_at dksX1_layFars_8 0 rfl rfl)
theorem dX1_layFars_189 : decode cX1_layFars 189 = .ok (.iload_n 3, 1) := dk_29 (dk_at dksX1_layFars_8 2 rfl rfl)
theorem dX1_layFars_190 : decode cX1_layFars 190 = .ok (.imul, 1) := dk_104 (dk_at dksX1_layFars_8 3 rfl rfl)
theorem dX1_layFars_191 : decode cX1_layFars 191 = .ok (.iload 4, 2) := dk_21 4 (dk_at dksX1_layFars_8 4 rfl rfl)
theorem dX1_layFars_193 : decode cX1_layFars 193 = .ok (.iadd, 1) := dk_96 (dk_at dksX1_layFars_8 6 rfl rfl)
theorem dX1_layFars_194 : decode cX1_layFars 194 = .ok (.iaload, 1) := dk_46 (dk_at dksX1_layFars_8 7 rfl rfl)
theorem dX1_layFars_195 : decode cX1_layFars 195 = .ok (.aload_n 0, 1) := dk_42 (dk_at dksX1_layFars_8 8 rfl rfl)
theorem dX1_layFars_196 : decode cX1_layFars 196 = .ok (.getfield 29, 3) := dk_180 0 29 (dk_at dksX1_layFars_8 9 rfl rfl)
theorem dX1_layFars_199 : decode cX1_layFars 199 = .ok (.bipush 32, 2) := dk_16 32 (dk_at dksX1_layFars_8 12 rfl rfl)
theorem dX1_layFars_201 : decode cX1_layFars 201 = .ok (.iload_n 3, 1) := dk_29 (dk_at dksX1_layFars_8 14 rfl rfl)
theorem dX1_layFars_202 : decode cX1_layFars 202 = .ok (.imul, 1) := dk_104 (dk_at dksX1_layFars_8 15 rfl rfl)
theorem dX1_layFars_203 : decode cX1_layFars 203 = .ok (.iload_n 2, 1) := dk_28 (dk_at dksX1_layFars_8 16 rfl rfl)
theorem dX1_layFars_204 : decode cX1_layFars 204 = .ok (.iadd, 1) := dk_96 (dk_at dksX1_layFars_8 17 rfl rfl)
theorem dX1_layFars_205 : decode cX1_layFars 205 = .ok (.iaload, 1) := dk_46 (dk_at dksX1_layFars_8 18 rfl rfl)
theorem dX1_layFars_206 : decode cX1_layFars 206 = .ok (.aload_n 0, 1) := dk_42 (dk_at dksX1_layFars_8 19 rfl rfl)
theorem dX1_layFars_207 : decode cX1_layFars 207 = .ok (.getfield 29, 3) := dk_180 0 29 (dk_at dksX1_layFars_8 20 rfl rfl)
theorem dX1_layFars_210 : decode cX1_layFars 210 = .ok (.bipush 32, 2) := dk_16 32 (dk_at dksX1_layFars_9 0 rfl rfl)
theorem dX1_layFars_212 : decode cX1_layFars 212 = .ok (.iload_n 2, 1) := dk_28 (dk_at dksX1_layFars_9 2 rfl rfl)
theorem dX1_layFars_213 : decode cX1_layFars 213 = .ok (.imul, 1) := dk_104 (dk_at dksX1_layFars_9 3 rfl rfl)
theorem dX1_layFars_214 : decode cX1_layFars 214 = .ok (.iload 4, 2) := dk_21 4 (dk_at dksX1_layFars_9 4 rfl rfl)
theorem dX1_layFars_216 : decode cX1_layFars 216 = .ok (.iadd, 1) := dk_96 (dk_at dksX1_layFars_9 6 rfl rfl)
theorem dX1_layFars_217 : decode cX1_layFars 217 = .ok (.iaload, 1) := dk_46 (dk_at dksX1_layFars_9 7 rfl rfl)
theorem dX1_layFars_218 : decode cX1_layFars 218 = .ok (.iadd, 1) := dk_96 (dk_at dksX1_layFars_9 8 rfl rfl)
theorem dX1_layFars_219 : decode cX1_layFars 219 = .ok (.invokestatic 269, 3) := dk_184 1 13 (dk_at dksX1_layFars_9 9 rfl rfl)
theorem dX1_layFars_222 : decode cX1_layFars 222 = .ok (.iastore, 1) := dk_79 (dk_at dksX1_layFars_9 12 rfl rfl)
theorem dX1_layFars_223 : decode cX1_layFars 223 = .ok (.iinc 4 1, 3) := dk_132 4 1 (dk_at dksX1_layFars_9 13 rfl rfl)
theorem dX1_layFars_226 : decode cX1_layFars 226 = .ok (.goto (-63), 3) := dk_167 255 193 (dk_at dksX1_layFars_9 16 rfl rfl)
theorem dX1_layFars_229 : decode cX1_layFars 229 = .ok (.iinc 3 1, 3) := dk_132 3 1 (dk_at dksX1_layFars_9 19 rfl rfl)
theorem dX1_layFars_232 : decode cX1_layFars 232 = .ok (.goto (-80), 3) := dk_167 255 176 (dk_at dksX1_layFars_10 0 rfl rfl)
theorem dX1_layFars_235 : decode cX1_layFars 235 = .ok (.iinc 2 1, 3) := dk_132 2 1 (dk_at dksX1_layFars_10 3 rfl rfl)
theorem dX1_layFars_238 : decode cX1_layFars 238 = .ok (.goto (-96), 3) := dk_167 255 160 (dk_at dksX1_layFars_10 6 rfl rfl)
theorem dX1_layFars_241 : decode cX1_layFars 241 = .ok (.return_, 1) := dk_177 (dk_at dksX1_layFars_10 9 rfl rfl)
abbrev cX1_span : ByteArray := prog_1_method_35_code
def yX1_span : MethodName := ⟨RX1, "span", "(I)I"⟩
def dkwX1_span_4 : List UInt8 := [167, 255, 189, 29, 172]
abbrev dktX1_span_4 : List UInt8 := dkwX1_span_4 ++ []
def dkwX1_span_3 : List UInt8 := [16, 32, 21, 4, 104, 21, 5, 96, 46, 184, 0, 197, 62, 132, 5, 1, 167, 255, 207, 132, 4, 1]
abbrev dktX1_span_3 : List UInt8 := dkwX1_span_3 ++ dktX1_span_4
def dkwX1_span_2 : List UInt8 := [42, 180, 0, 29, 16, 32, 21, 4, 104, 21, 5, 96, 46, 19, 1, 12, 162, 0, 21, 29, 42, 180, 0, 29]
abbrev dktX1_span_2 : List UInt8 := dkwX1_span_2 ++ dktX1_span_3
def dkwX1_span_1 : List UInt8 := [3, 54, 4, 21, 4, 44, 180, 0, 141, 162, 0, 64, 3, 54, 5, 21, 5, 44, 180, 0, 141, 162, 0, 46]
abbrev dktX1_span_1 : List UInt8 := dkwX1_span_1 ++ dktX1_span_2
def dkwX1_span_0 : List UInt8 := [42, 27, 182, 0, 134, 154, 0, 5, 2, 172, 42, 180, 0, 21, 27, 50, 77, 42, 44, 182, 1, 16, 3, 62]
abbrev dktX1_span_0 : List UInt8 := dkwX1_span_0 ++ dktX1_span_1
theorem dksX1_span_0 : cX1_span.data.toList.drop 0 = dktX1_span_0 := by decide +kernel
theorem dksX1_span_1 : cX1_span.data.toList.drop 24 = dktX1_span_1 := dk_seg dksX1_span_0 24 rfl rfl
theorem dksX1_span_2 : cX1_span.data.toList.drop 48 = dktX1_span_2 := dk_seg dksX1_span_1 24 rfl rfl
theorem dksX1_span_3 : cX1_span.data.toList.drop 72 = dktX1_span_3 := dk_seg dksX1_span_2 24 rfl rfl
theorem dksX1_span_4 : cX1_span.data.toList.drop 94 = dktX1_span_4 := dk_seg dksX1_span_3 22 rfl rfl
theorem dX1_span_0 : decode cX1_span 0 = .ok (.aload_n 0, 1) := dk_42 (dk_at dksX1_span_0 0 rfl rfl)
theorem dX1_span_1 : decode cX1_span 1 = .ok (.iload_n 1, 1) := dk_27 (dk_at dksX1_span_0 1 rfl rfl)
theorem dX1_span_2 : decode cX1_span 2 = .ok (.invokevirtual 134, 3) := dk_182 0 134 (dk_at dksX1_span_0 2 rfl rfl)
theorem dX1_span_5 : decode cX1_span 5 = .ok (.ifCond .ne 5, 3) := dk_154 0 5 (dk_at dksX1_span_0 5 rfl rfl)
theorem dX1_span_8 : decode cX1_span 8 = .ok (.iconst (-1), 1) := dk_2 (dk_at dksX1_span_0 8 rfl rfl)
theorem dX1_span_9 : decode cX1_span 9 = .ok (.ireturn, 1) := dk_172 (dk_at dksX1_span_0 9 rfl rfl)
theorem dX1_span_10 : decode cX1_span 10 = .ok (.aload_n 0, 1) := dk_42 (dk_at dksX1_span_0 10 rfl rfl)
theorem dX1_span_11 : decode cX1_span 11 = .ok (.getfield 21, 3) := dk_180 0 21 (dk_at dksX1_span_0 11 rfl rfl)
theorem dX1_span_14 : decode cX1_span 14 = .ok (.iload_n 1, 1) := dk_27 (dk_at dksX1_span_0 14 rfl rfl)
theorem dX1_span_15 : decode cX1_span 15 = .ok (.aaload, 1) := dk_50 (dk_at dksX1_span_0 15 rfl rfl)
theorem dX1_span_16 : decode cX1_span 16 = .ok (.astore_n 2, 1) := dk_77 (dk_at dksX1_span_0 16 rfl rfl)
theorem dX1_span_17 : decode cX1_span 17 = .ok (.aload_n 0, 1) := dk_42 (dk_at dksX1_span_0 17 rfl rfl)
theorem dX1_span_18 : decode cX1_span 18 = .ok (.aload_n 2, 1) := dk_44 (dk_at dksX1_span_0 18 rfl rfl)
theorem dX1_span_19 : decode cX1_span 19 = .ok (.invokevirtual 272, 3) := dk_182 1 16 (dk_at dksX1_span_0 19 rfl rfl)
theorem dX1_span_22 : decode cX1_span 22 = .ok (.iconst 0, 1) := dk_3 (dk_at dksX1_span_0 22 rfl rfl)
theorem dX1_span_23 : decode cX1_span 23 = .ok (.istore_n 3, 1) := dk_62 (dk_at dksX1_span_0 23 rfl rfl)
theorem dX1_span_24 : decode cX1_span 24 = .ok (.iconst 0, 1) := dk_3 (dk_at dksX1_span_1 0 rfl rfl)
theorem dX1_span_25 : decode cX1_span 25 = .ok (.istore 4, 2) := dk_54 4 (dk_at dksX1_span_1 1 rfl rfl)
theorem dX1_span_27 : decode cX1_span 27 = .ok (.iload 4, 2) := dk_21 4 (dk_at dksX1_span_1 3 rfl rfl)
theorem dX1_span_29 : decode cX1_span 29 = .ok (.aload_n 2, 1) := dk_44 (dk_at dksX1_span_1 5 rfl rfl)
theorem dX1_span_30 : decode cX1_span 30 = .ok (.getfield 141, 3) := dk_180 0 141 (dk_at dksX1_span_1 6 rfl rfl)
theorem dX1_span_33 : decode cX1_span 33 = .ok (.if_icmp .ge 64, 3) := dk_162 0 64 (dk_at dksX1_span_1 9 rfl rfl)
theorem dX1_span_36 : decode cX1_span 36 = .ok (.iconst 0, 1) := dk_3 (dk_at dksX1_span_1 12 rfl rfl)
theorem dX1_span_37 : decode cX1_span 37 = .ok (.istore 5, 2) := dk_54 5 (dk_at dksX1_span_1 13 rfl rfl)
theorem dX1_span_39 : decode cX1_span 39 = .ok (.iload 5, 2) := dk_21 5 (dk_at dksX1_span_1 15 rfl rfl)
theorem dX1_span_41 : decode cX1_span 41 = .ok (.aload_n 2, 1) := dk_44 (dk_at dksX1_span_1 17 rfl rfl)
theorem dX1_span_42 : decode cX1_span 42 = .ok (.getfield 141, 3) := dk_180 0 141 (dk_at dksX1_span_1 18 rfl rfl)
theorem dX1_span_45 : decode cX1_span 45 = .ok (.if_icmp .ge 46, 3) := dk_162 0 46 (dk_at dksX1_span_1 21 rfl rfl)
theorem dX1_span_48 : decode cX1_span 48 = .ok (.aload_n 0, 1) := dk_42 (dk_at dksX1_span_2 0 rfl rfl)
theorem dX1_span_49 : decode cX1_span 49 = .ok (.getfield 29, 3) := dk_180 0 29 (dk_at dksX1_span_2 1 rfl rfl)
theorem dX1_span_52 : decode cX1_span 52 = .ok (.bipush 32, 2) := dk_16 32 (dk_at dksX1_span_2 4 rfl rfl)
theorem dX1_span_54 : decode cX1_span 54 = .ok (.iload 4, 2) := dk_21 4 (dk_at dksX1_span_2 6 rfl rfl)
theorem dX1_span_56 : decode cX1_span 56 = .ok (.imul, 1) := dk_104 (dk_at dksX1_span_2 8 rfl rfl)
theorem dX1_span_57 : decode cX1_span 57 = .ok (.iload 5, 2) := dk_21 5 (dk_at dksX1_span_2 9 rfl rfl)
theorem dX1_span_59 : decode cX1_span 59 = .ok (.iadd, 1) := dk_96 (dk_at dksX1_span_2 11 rfl rfl)
theorem dX1_span_60 : decode cX1_span 60 = .ok (.iaload, 1) := dk_46 (dk_at dksX1_span_2 12 rfl rfl)
theorem dX1_span_61 : decode cX1_span 61 = .ok (.ldc_w 268, 3) := dk_19 1 12 (dk_at dksX1_span_2 13 rfl rfl)
theorem dX1_span_64 : decode cX1_span 64 = .ok (.if_icmp .ge 21, 3) := dk_162 0 21 (dk_at dksX1_span_2 16 rfl rfl)
theorem dX1_span_67 : decode cX1_span 67 = .ok (.iload_n 3, 1) := dk_29 (dk_at dksX1_span_2 19 rfl rfl)
theorem dX1_span_68 : decode cX1_span 68 = .ok (.aload_n 0, 1) := dk_42 (dk_at dksX1_span_2 20 rfl rfl)
theorem dX1_span_69 : decode cX1_span 69 = .ok (.getfield 29, 3) := dk_180 0 29 (dk_at dksX1_span_2 21 rfl rfl)
theorem dX1_span_72 : decode cX1_span 72 = .ok (.bipush 32, 2) := dk_16 32 (dk_at dksX1_span_3 0 rfl rfl)
theorem dX1_span_74 : decode cX1_span 74 = .ok (.iload 4, 2) := dk_21 4 (dk_at dksX1_span_3 2 rfl rfl)
theorem dX1_span_76 : decode cX1_span 76 = .ok (.imul, 1) := dk_104 (dk_at dksX1_span_3 4 rfl rfl)
theorem dX1_span_77 : decode cX1_span 77 = .ok (.iload 5, 2) := dk_21 5 (dk_at dksX1_span_3 5 rfl rfl)
theorem dX1_span_79 : decode cX1_span 79 = .ok (.iadd, 1) := dk_96 (dk_at dksX1_span_3 7 rfl rfl)
theorem dX1_span_80 : decode cX1_span 80 = .ok (.iaload, 1) := dk_46 (dk_at dksX1_span_3 8 rfl rfl)
theorem dX1_span_81 : decode cX1_span 81 = .ok (.invokestatic 197, 3) := dk_184 0 197 (dk_at dksX1_span_3 9 rfl rfl)
theorem dX1_span_84 : decode cX1_span 84 = .ok (.istore_n 3, 1) := dk_62 (dk_at dksX1_span_3 12 rfl rfl)
theorem dX1_span_85 : decode cX1_span 85 = .ok (.iinc 5 1, 3) := dk_132 5 1 (dk_at dksX1_span_3 13 rfl rfl)
theorem dX1_span_88 : decode cX1_span 88 = .ok (.goto (-49), 3) := dk_167 255 207 (dk_at dksX1_span_3 16 rfl rfl)
theorem dX1_span_91 : decode cX1_span 91 = .ok (.iinc 4 1, 3) := dk_132 4 1 (dk_at dksX1_span_3 19 rfl rfl)
theorem dX1_span_94 : decode cX1_span 94 = .ok (.goto (-67), 3) := dk_167 255 189 (dk_at dksX1_span_4 0 rfl rfl)
theorem dX1_span_97 : decode cX1_span 97 = .ok (.iload_n 3, 1) := dk_29 (dk_at dksX1_span_4 3 rfl rfl)
theorem dX1_span_98 : decode cX1_span 98 = .ok (.ireturn, 1) := dk_172 (dk_at dksX1_span_4 4 rfl rfl)
abbrev cX1_strokes : ByteArray := prog_1_method_36_code
def yX1_strokes : MethodName := ⟨RX1, "strokes", "(I)I"⟩
def dkwX1_strokes_0 : List UInt8 := [42, 27, 182, 0, 134, 153, 0, 15, 42, 180, 0, 21, 27, 50, 182, 1, 20, 167, 0, 4, 2, 172]
abbrev dktX1_strokes_0 : List UInt8 := dkwX1_strokes_0 ++ []
theorem dksX1_strokes_0 : cX1_strokes.data.toList.drop 0 = dktX1_strokes_0 := by decide +kernel
theorem dX1_strokes_0 : decode cX1_strokes 0 = .ok (.aload_n 0, 1) := dk_42 (dk_at dksX1_strokes_0 0 rfl rfl)
theorem dX1_strokes_1 : decode cX1_strokes 1 = .ok (.iload_n 1, 1) := dk_27 (dk_at dksX1_strokes_0 1 rfl rfl)
theorem dX1_strokes_2 : decode cX1_strokes 2 = .ok (.invokevirtual 134, 3) := dk_182 0 134 (dk_at dksX1_strokes_0 2 rfl rfl)
theorem dX1_strokes_5 : decode cX1_strokes 5 = .ok (.ifCond .eq 15, 3) := dk_153 0 15 (dk_at dksX1_strokes_0 5 rfl rfl)
theorem dX1_strokes_8 : decode cX1_strokes 8 = .ok (.aload_n 0, 1) := dk_42 (dk_at dksX1_strokes_0 8 rfl rfl)
theorem dX1_strokes_9 : decode cX1_strokes 9 = .ok (.getfield 21, 3) := dk_180 0 21 (dk_at dksX1_strokes_0 9 rfl rfl)
theorem dX1_strokes_12 : decode cX1_strokes 12 = .ok (.iload_n 1, 1) := dk_27 (dk_at dksX1_strokes_0 12 rfl rfl)
theorem dX1_strokes_13 : decode cX1_strokes 13 = .ok (.aaload, 1) := dk_50 (dk_at dksX1_strokes_0 13 rfl rfl)
theorem dX1_strokes_14 : decode cX1_strokes 14 = .ok (.invokevirtual 276, 3) := dk_182 1 20 (dk_at dksX1_strokes_0 14 rfl rfl)
theorem dX1_strokes_17 : decode cX1_strokes 17 = .ok (.goto 4, 3) := dk_167 0 4 (dk_at dksX1_strokes_0 17 rfl rfl)
theorem dX1_strokes_20 : decode cX1_strokes 20 = .ok (.iconst (-1), 1) := dk_2 (dk_at dksX1_strokes_0 20 rfl rfl)
theorem dX1_strokes_21 : decode cX1_strokes 21 = .ok (.ireturn, 1) := dk_172 (dk_at dksX1_strokes_0 21 rfl rfl)
abbrev cX1_made : ByteArray := prog_1_method_39_code
def yX1_made : MethodName := ⟨RX1, "made", "(II)I"⟩
def dkwX1_made_2 : List UInt8 := [182, 0, 237, 46, 167, 0, 4, 2, 172]
abbrev dktX1_made_2 : List UInt8 := dkwX1_made_2 ++ []
def dkwX1_made_1 : List UInt8 := [28, 50, 182, 1, 38, 42, 180, 0, 32, 45, 182, 0, 237, 46, 16, 24, 163, 0, 15, 42, 180, 0, 32, 45]
abbrev dktX1_made_1 : List UInt8 := dkwX1_made_1 ++ dktX1_made_2
def dkwX1_made_0 : List UInt8 := [42, 27, 28, 182, 1, 35, 154, 0, 5, 2, 172, 42, 180, 0, 21, 27, 50, 78, 42, 45, 42, 180, 0, 11]
abbrev dktX1_made_0 : List UInt8 := dkwX1_made_0 ++ dktX1_made_1
theorem dksX1_made_0 : cX1_made.data.toList.drop 0 = dktX1_made_0 := by decide +kernel
theorem dksX1_made_1 : cX1_made.data.toList.drop 24 = dktX1_made_1 := dk_seg dksX1_made_0 24 rfl rfl
theorem dksX1_made_2 : cX1_made.data.toList.drop 48 = dktX1_made_2 := dk_seg dksX1_made_1 24 rfl rfl
theorem dX1_made_0 : decode cX1_made 0 = .ok (.aload_n 0, 1) := dk_42 (dk_at dksX1_made_0 0 rfl rfl)
theorem dX1_made_1 : decode cX1_made 1 = .ok (.iload_n 1, 1) := dk_27 (dk_at dksX1_made_0 1 rfl rfl)
theorem dX1_made_2 : decode cX1_made 2 = .ok (.iload_n 2, 1) := dk_28 (dk_at dksX1_made_0 2 rfl rfl)
theorem dX1_made_3 : decode cX1_made 3 = .ok (.invokevirtual 291, 3) := dk_182 1 35 (dk_at dksX1_made_0 3 rfl rfl)
theorem dX1_made_6 : decode cX1_made 6 = .ok (.ifCond .ne 5, 3) := dk_154 0 5 (dk_at dksX1_made_0 6 rfl rfl)
theorem dX1_made_9 : decode cX1_made 9 = .ok (.iconst (-1), 1) := dk_2 (dk_at dksX1_made_0 9 rfl rfl)
theorem dX1_made_10 : decode cX1_made 10 = .ok (.ireturn, 1) := dk_172 (dk_at dksX1_made_0 10 rfl rfl)
theorem dX1_made_11 : decode cX1_made 11 = .ok (.aload_n 0, 1) := dk_42 (dk_at dksX1_made_0 11 rfl rfl)
theorem dX1_made_12 : decode cX1_made 12 = .ok (.getfield 21, 3) := dk_180 0 21 (dk_at dksX1_made_0 12 rfl rfl)
theorem dX1_made_15 : decode cX1_made 15 = .ok (.iload_n 1, 1) := dk_27 (dk_at dksX1_made_0 15 rfl rfl)
theorem dX1_made_16 : decode cX1_made 16 = .ok (.aaload, 1) := dk_50 (dk_at dksX1_made_0 16 rfl rfl)
theorem dX1_made_17 : decode cX1_made 17 = .ok (.astore_n 3, 1) := dk_78 (dk_at dksX1_made_0 17 rfl rfl)
theorem dX1_made_18 : decode cX1_made 18 = .ok (.aload_n 0, 1) := dk_42 (dk_at dksX1_made_0 18 rfl rfl)
theorem dX1_made_19 : decode cX1_made 19 = .ok (.aload_n 3, 1) := dk_45 (dk_at dksX1_made_0 19 rfl rfl)
theorem dX1_made_20 : decode cX1_made 20 = .ok (.aload_n 0, 1) := dk_42 (dk_at dksX1_made_0 20 rfl rfl)
theorem dX1_made_21 : decode cX1_made 21 = .ok (.getfield 11, 3) := dk_180 0 11 (dk_at dksX1_made_0 21 rfl rfl)
theorem dX1_made_24 : decode cX1_made 24 = .ok (.iload_n 2, 1) := dk_28 (dk_at dksX1_made_1 0 rfl rfl)
theorem dX1_made_25 : decode cX1_made 25 = .ok (.aaload, 1) := dk_50 (dk_at dksX1_made_1 1 rfl rfl)
theorem dX1_made_26 : decode cX1_made 26 = .ok (.invokevirtual 294, 3) := dk_182 1 38 (dk_at dksX1_made_1 2 rfl rfl)
theorem dX1_made_29 : decode cX1_made 29 = .ok (.aload_n 0, 1) := dk_42 (dk_at dksX1_made_1 5 rfl rfl)
theorem dX1_made_30 : decode cX1_made 30 = .ok (.getfield 32, 3) := dk_180 0 32 (dk_at dksX1_made_1 6 rfl rfl)
theorem dX1_made_33 : decode cX1_made 33 = .ok (.aload_n 3, 1) := dk_45 (dk_at dksX1_made_1 9 rfl rfl)
theorem dX1_made_34 : decode cX1_made 34 = .ok (.invokevirtual 237, 3) := dk_182 0 237 (dk_at dksX1_made_1 10 rfl rfl)
theorem dX1_made_37 : decode cX1_made 37 = .ok (.iaload, 1) := dk_46 (dk_at dksX1_made_1 13 rfl rfl)
theorem dX1_made_38 : decode cX1_made 38 = .ok (.bipush 24, 2) := dk_16 24 (dk_at dksX1_made_1 14 rfl rfl)
theorem dX1_made_40 : decode cX1_made 40 = .ok (.if_icmp .gt 15, 3) := dk_163 0 15 (dk_at dksX1_made_1 16 rfl rfl)
theorem dX1_made_43 : decode cX1_made 43 = .ok (.aload_n 0, 1) := dk_42 (dk_at dksX1_made_1 19 rfl rfl)
theorem dX1_made_44 : decode cX1_made 44 = .ok (.getfield 32, 3) := dk_180 0 32 (dk_at dksX1_made_1 20 rfl rfl)
theorem dX1_made_47 : decode cX1_made 47 = .ok (.aload_n 3, 1) := dk_45 (dk_at dksX1_made_1 23 rfl rfl)
theorem dX1_made_48 : decode cX1_made 48 = .ok (.invokevirtual 237, 3) := dk_182 0 237 (dk_at dksX1_made_2 0 rfl rfl)
theorem dX1_made_51 : decode cX1_made 51 = .ok (.iaload, 1) := dk_46 (dk_at dksX1_made_2 3 rfl rfl)
theorem dX1_made_52 : decode cX1_made 52 = .ok (.goto 4, 3) := dk_167 0 4 (dk_at dksX1_made_2 4 rfl rfl)
theorem dX1_made_55 : decode cX1_made 55 = .ok (.iconst (-1), 1) := dk_2 (dk_at dksX1_made_2 7 rfl rfl)
theorem dX1_made_56 : decode cX1_made 56 = .ok (.ireturn, 1) := dk_172 (dk_at dksX1_made_2 8 rfl rfl)
abbrev cX1_isMaking : ByteArray := prog_1_method_37_code
def yX1_isMaking : MethodName := ⟨RX1, "isMaking", "(II)Z"⟩
def dkwX1_isMaking_1 : List UInt8 := [180, 0, 138, 16, 10, 163, 0, 7, 4, 167, 0, 4, 3, 172]
abbrev dktX1_isMaking_1 : List UInt8 := dkwX1_isMaking_1 ++ []
def dkwX1_isMaking_0 : List UInt8 := [42, 27, 182, 0, 134, 153, 0, 29, 42, 28, 182, 1, 23, 153, 0, 21, 42, 180, 0, 21, 27, 50]
abbrev dktX1_isMaking_0 : List UInt8 := dkwX1_isMaking_0 ++ dktX1_isMaking_1
theorem dksX1_isMaking_0 : cX1_isMaking.data.toList.drop 0 = dktX1_isMaking_0 := by decide +kernel
theorem dksX1_isMaking_1 : cX1_isMaking.data.toList.drop 22 = dktX1_isMaking_1 := dk_seg dksX1_isMaking_0 22 rfl rfl
theorem dX1_isMaking_0 : decode cX1_isMaking 0 = .ok (.aload_n 0, 1) := dk_42 (dk_at dksX1_isMaking_0 0 rfl rfl)
theorem dX1_isMaking_1 : decode cX1_isMaking 1 = .ok (.iload_n 1, 1) := dk_27 (dk_at dksX1_isMaking_0 1 rfl rfl)
theorem dX1_isMaking_2 : decode cX1_isMaking 2 = .ok (.invokevirtual 134, 3) := dk_182 0 134 (dk_at dksX1_isMaking_0 2 rfl rfl)
theorem dX1_isMaking_5 : decode cX1_isMaking 5 = .ok (.ifCond .eq 29, 3) := dk_153 0 29 (dk_at dksX1_isMaking_0 5 rfl rfl)
theorem dX1_isMaking_8 : decode cX1_isMaking 8 = .ok (.aload_n 0, 1) := dk_42 (dk_at dksX1_isMaking_0 8 rfl rfl)
theorem dX1_isMaking_9 : decode cX1_isMaking 9 = .ok (.iload_n 2, 1) := dk_28 (dk_at dksX1_isMaking_0 9 rfl rfl)
theorem dX1_isMaking_10 : decode cX1_isMaking 10 = .ok (.invokevirtual 279, 3) := dk_182 1 23 (dk_at dksX1_isMaking_0 10 rfl rfl)
theorem dX1_isMaking_13 : decode cX1_isMaking 13 = .ok (.ifCond .eq 21, 3) := dk_153 0 21 (dk_at dksX1_isMaking_0 13 rfl rfl)
theorem dX1_isMaking_16 : decode cX1_isMaking 16 = .ok (.aload_n 0, 1) := dk_42 (dk_at dksX1_isMaking_0 16 rfl rfl)
theorem dX1_isMaking_17 : decode cX1_isMaking 17 = .ok (.getfield 21, 3) := dk_180 0 21 (dk_at dksX1_isMaking_0 17 rfl rfl)
theorem dX1_isMaking_20 : decode cX1_isMaking 20 = .ok (.iload_n 1, 1) := dk_27 (dk_at dksX1_isMaking_0 20 rfl rfl)
theorem dX1_isMaking_21 : decode cX1_isMaking 21 = .ok (.aaload, 1) := dk_50 (dk_at dksX1_isMaking_0 21 rfl rfl)
theorem dX1_isMaking_22 : decode cX1_isMaking 22 = .ok (.getfield 138, 3) := dk_180 0 138 (dk_at dksX1_isMaking_1 0 rfl rfl)
theorem dX1_isMaking_25 : decode cX1_isMaking 25 = .ok (.bipush 10, 2) := dk_16 10 (dk_at dksX1_isMaking_1 3 rfl rfl)
theorem dX1_isMaking_27 : decode cX1_isMaking 27 = .ok (.if_icmp .gt 7, 3) := dk_163 0 7 (dk_at dksX1_isMaking_1 5 rfl rfl)
theorem dX1_isMaking_30 : decode cX1_isMaking 30 = .ok (.iconst 1, 1) := dk_4 (dk_at dksX1_isMaking_1 8 rfl rfl)
theorem dX1_isMaking_31 : decode cX1_isMaking 31 = .ok (.goto 4, 3) := dk_167 0 4 (dk_at dksX1_isMaking_1 9 rfl rfl)
theorem dX1_isMaking_34 : decode cX1_isMaking 34 = .ok (.iconst 0, 1) := dk_3 (dk_at dksX1_isMaking_1 12 rfl rfl)
theorem dX1_isMaking_35 : decode cX1_isMaking 35 = .ok (.ireturn, 1) := dk_172 (dk_at dksX1_isMaking_1 13 rfl rfl)
abbrev cX1_isSort : ByteArray := prog_1_method_3_code
def yX1_isSort : MethodName := ⟨RX1, "isSort", "(I)Z"⟩
def dkwX1_isSort_0 : List UInt8 := [27, 155, 0, 15, 27, 42, 180, 0, 67, 162, 0, 7, 4, 167, 0, 4, 3, 172]
abbrev dktX1_isSort_0 : List UInt8 := dkwX1_isSort_0 ++ []
theorem dksX1_isSort_0 : cX1_isSort.data.toList.drop 0 = dktX1_isSort_0 := by decide +kernel
theorem dX1_isSort_0 : decode cX1_isSort 0 = .ok (.iload_n 1, 1) := dk_27 (dk_at dksX1_isSort_0 0 rfl rfl)
theorem dX1_isSort_1 : decode cX1_isSort 1 = .ok (.ifCond .lt 15, 3) := dk_155 0 15 (dk_at dksX1_isSort_0 1 rfl rfl)
theorem dX1_isSort_4 : decode cX1_isSort 4 = .ok (.iload_n 1, 1) := dk_27 (dk_at dksX1_isSort_0 4 rfl rfl)
theorem dX1_isSort_5 : decode cX1_isSort 5 = .ok (.aload_n 0, 1) := dk_42 (dk_at dksX1_isSort_0 5 rfl rfl)
theorem dX1_isSort_6 : decode cX1_isSort 6 = .ok (.getfield 67, 3) := dk_180 0 67 (dk_at dksX1_isSort_0 6 rfl rfl)
theorem dX1_isSort_9 : decode cX1_isSort 9 = .ok (.if_icmp .ge 7, 3) := dk_162 0 7 (dk_at dksX1_isSort_0 9 rfl rfl)
theorem dX1_isSort_12 : decode cX1_isSort 12 = .ok (.iconst 1, 1) := dk_4 (dk_at dksX1_isSort_0 12 rfl rfl)
theorem dX1_isSort_13 : decode cX1_isSort 13 = .ok (.goto 4, 3) := dk_167 0 4 (dk_at dksX1_isSort_0 13 rfl rfl)
theorem dX1_isSort_16 : decode cX1_isSort 16 = .ok (.iconst 0, 1) := dk_3 (dk_at dksX1_isSort_0 16 rfl rfl)
theorem dX1_isSort_17 : decode cX1_isSort 17 = .ok (.ireturn, 1) := dk_172 (dk_at dksX1_isSort_0 17 rfl rfl)
abbrev cX1_layMade : ByteArray := prog_1_method_38_code
def yX1_layMade : MethodName := ⟨RX1, "layMade", "(LBalloonStall$Figure;LBalloonStall$Sort;)V"⟩
def dkwX1_layMade_6 : List UInt8 := [184, 1, 13, 79, 21, 5, 4, 100, 29, 126, 54, 5, 167, 255, 196, 132, 3, 1, 167, 255, 165, 177]
abbrev dktX1_layMade_6 : List UInt8 := dkwX1_layMade_6 ++ []
def dkwX1_layMade_5 : List UInt8 := [42, 180, 0, 32, 29, 42, 180, 0, 32, 29, 46, 4, 42, 180, 0, 32, 29, 21, 5, 2, 130, 126, 46, 96]
abbrev dktX1_layMade_5 : List UInt8 := dkwX1_layMade_5 ++ dktX1_layMade_6
def dkwX1_layMade_4 : List UInt8 := [21, 5, 158, 0, 61, 21, 5, 21, 4, 126, 153, 0, 42, 42, 180, 0, 35, 21, 5, 46, 4, 160, 0, 31]
abbrev dktX1_layMade_4 : List UInt8 := dkwX1_layMade_4 ++ dktX1_layMade_5
def dkwX1_layMade_3 : List UInt8 := [182, 0, 237, 163, 0, 89, 42, 180, 0, 32, 29, 16, 25, 79, 29, 29, 116, 126, 54, 4, 29, 54, 5]
abbrev dktX1_layMade_3 : List UInt8 := dkwX1_layMade_3 ++ dktX1_layMade_4
def dkwX1_layMade_2 : List UInt8 := [167, 0, 4, 3, 79, 132, 3, 1, 167, 255, 205, 42, 180, 0, 32, 3, 3, 79, 4, 62, 29, 43]
abbrev dktX1_layMade_2 : List UInt8 := dkwX1_layMade_2 ++ dktX1_layMade_3
def dkwX1_layMade_1 : List UInt8 := [184, 0, 232, 182, 1, 29, 96, 44, 180, 0, 194, 163, 0, 15, 43, 29, 182, 1, 32, 153, 0, 7, 4]
abbrev dktX1_layMade_1 : List UInt8 := dkwX1_layMade_1 ++ dktX1_layMade_2
def dkwX1_layMade_0 : List UInt8 := [4, 62, 29, 43, 182, 0, 237, 163, 0, 49, 42, 180, 0, 35, 29, 43, 29, 182, 1, 26, 44, 29]
abbrev dktX1_layMade_0 : List UInt8 := dkwX1_layMade_0 ++ dktX1_layMade_1
theorem dksX1_layMade_0 : cX1_layMade.data.toList.drop 0 = dktX1_layMade_0 := by decide +kernel
theorem dksX1_layMade_1 : cX1_layMade.data.toList.drop 22 = dktX1_layMade_1 := dk_seg dksX1_layMade_0 22 rfl rfl
theorem dksX1_layMade_2 : cX1_layMade.data.toList.drop 45 = dktX1_layMade_2 := dk_seg dksX1_layMade_1 23 rfl rfl
theorem dksX1_layMade_3 : cX1_layMade.data.toList.drop 67 = dktX1_layMade_3 := dk_seg dksX1_layMade_2 22 rfl rfl
theorem dksX1_layMade_4 : cX1_layMade.data.toList.drop 90 = dktX1_layMade_4 := dk_seg dksX1_layMade_3 23 rfl rfl
theorem dksX1_layMade_5 : cX1_layMade.data.toList.drop 114 = dktX1_layMade_5 := dk_seg dksX1_layMade_4 24 rfl rfl
theorem dksX1_layMade_6 : cX1_layMade.data.toList.drop 138 = dktX1_layMade_6 := dk_seg dksX1_layMade_5 24 rfl rfl
theorem dX1_layMade_0 : decode cX1_layMade 0 = .ok (.iconst 1, 1) := dk_4 (dk_at dksX1_layMade_0 0 rfl rfl)
theorem dX1_layMade_1 : decode cX1_layMade 1 = .ok (.istore_n 3, 1) := dk_62 (dk_at dksX1_layMade_0 1 rfl rfl)
theorem dX1_layMade_2 : decode cX1_layMade 2 = .ok (.iload_n 3, 1) := dk_29 (dk_at dksX1_layMade_0 2 rfl rfl)
theorem dX1_layMade_3 : decode cX1_layMade 3 = .ok (.aload_n 1, 1) := dk_43 (dk_at dksX1_layMade_0 3 rfl rfl)
theorem dX1_layMade_4 : decode cX1_layMade 4 = .ok (.invokevirtual 237, 3) := dk_182 0 237 (dk_at dksX1_layMade_0 4 rfl rfl)
theorem dX1_layMade_7 : decode cX1_layMade 7 = .ok (.if_icmp .gt 49, 3) := dk_163 0 49 (dk_at dksX1_layMade_0 7 rfl rfl)
theorem dX1_layMade_10 : decode cX1_layMade 10 = .ok (.aload_n 0, 1) := dk_42 (dk_at dksX1_layMade_0 10 rfl rfl)
theorem dX1_layMade_11 : decode cX1_layMade 11 = .ok (.getfield 35, 3) := dk_180 0 35 (dk_at dksX1_layMade_0 11 rfl rfl)
theorem dX1_layMade_14 : decode cX1_layMade 14 = .ok (.iload_n 3, 1) := dk_29 (dk_at dksX1_layMade_0 14 rfl rfl)
theorem dX1_layMade_15 : decode cX1_layMade 15 = .ok (.aload_n 1, 1) := dk_43 (dk_at dksX1_layMade_0 15 rfl rfl)
theorem dX1_layMade_16 : decode cX1_layMade 16 = .ok (.iload_n 3, 1) := dk_29 (dk_at dksX1_layMade_0 16 rfl rfl)
theorem dX1_layMade_17 : decode cX1_layMade 17 = .ok (.invokevirtual 282, 3) := dk_182 1 26 (dk_at dksX1_layMade_0 17 rfl rfl)
theorem dX1_layMade_20 : decode cX1_layMade 20 = .ok (.aload_n 2, 1) := dk_44 (dk_at dksX1_layMade_0 20 rfl rfl)
theorem dX1_layMade_21 : decode cX1_layMade 21 = .ok (.iload_n 3, 1) := dk_29 (dk_at dksX1_layMade_0 21 rfl rfl)
theorem dX1_layMade_22 : decode cX1_layMade 22 = .ok (.invokestatic 232, 3) := dk_184 0 232 (dk_at dksX1_layMade_1 0 rfl rfl)
theorem dX1_layMade_25 : decode cX1_layMade 25 = .ok (.invokevirtual 285, 3) := dk_182 1 29 (dk_at dksX1_layMade_1 3 rfl rfl)
theorem dX1_layMade_28 : decode cX1_layMade 28 = .ok (.iadd, 1) := dk_96 (dk_at dksX1_layMade_1 6 rfl rfl)
theorem dX1_layMade_29 : decode cX1_layMade 29 = .ok (.aload_n 2, 1) := dk_44 (dk_at dksX1_layMade_1 7 rfl rfl)
theorem dX1_layMade_30 : decode cX1_layMade 30 = .ok (.getfield 194, 3) := dk_180 0 194 (dk_at dksX1_layMade_1 8 rfl rfl)
theorem dX1_layMade_33 : decode cX1_layMade 33 = .ok (.if_icmp .gt 15, 3) := dk_163 0 15 (dk_at dksX1_layMade_1 11 rfl rfl)
theorem dX1_layMade_36 : decode cX1_layMade 36 = .ok (.aload_n 1, 1) := dk_43 (dk_at dksX1_layMade_1 14 rfl rfl)
theorem dX1_layMade_37 : decode cX1_layMade 37 = .ok (.iload_n 3, 1) := dk_29 (dk_at dksX1_layMade_1 15 rfl rfl)
theorem dX1_layMade_38 : decode cX1_layMade 38 = .ok (.invokevirtual 288, 3) := dk_182 1 32 (dk_at dksX1_layMade_1 16 rfl rfl)
theorem dX1_layMade_41 : decode cX1_layMade 41 = .ok (.ifCond .eq 7, 3) := dk_153 0 7 (dk_at dksX1_layMade_1 19 rfl rfl)
theorem dX1_layMade_44 : decode cX1_layMade 44 = .ok (.iconst 1, 1) := dk_4 (dk_at dksX1_layMade_1 22 rfl rfl)
theorem dX1_layMade_45 : decode cX1_layMade 45 = .ok (.goto 4, 3) := dk_167 0 4 (dk_at dksX1_layMade_2 0 rfl rfl)
theorem dX1_layMade_48 : decode cX1_layMade 48 = .ok (.iconst 0, 1) := dk_3 (dk_at dksX1_layMade_2 3 rfl rfl)
theorem dX1_layMade_49 : decode cX1_layMade 49 = .ok (.iastore, 1) := dk_79 (dk_at dksX1_layMade_2 4 rfl rfl)
theorem dX1_layMade_50 : decode cX1_layMade 50 = .ok (.iinc 3 1, 3) := dk_132 3 1 (dk_at dksX1_layMade_2 5 rfl rfl)
theorem dX1_layMade_53 : decode cX1_layMade 53 = .ok (.goto (-51), 3) := dk_167 255 205 (dk_at dksX1_layMade_2 8 rfl rfl)
theorem dX1_layMade_56 : decode cX1_layMade 56 = .ok (.aload_n 0, 1) := dk_42 (dk_at dksX1_layMade_2 11 rfl rfl)
theorem dX1_layMade_57 : decode cX1_layMade 57 = .ok (.getfield 32, 3) := dk_180 0 32 (dk_at dksX1_layMade_2 12 rfl rfl)
theorem dX1_layMade_60 : decode cX1_layMade 60 = .ok (.iconst 0, 1) := dk_3 (dk_at dksX1_layMade_2 15 rfl rfl)
theorem dX1_layMade_61 : decode cX1_layMade 61 = .ok (.iconst 0, 1) := dk_3 (dk_at dksX1_layMade_2 16 rfl rfl)
theorem dX1_layMade_62 : decode cX1_layMade 62 = .ok (.iastore, 1) := dk_79 (dk_at dksX1_layMade_2 17 rfl rfl)
theorem dX1_layMade_63 : decode cX1_layMade 63 = .ok (.iconst 1, 1) := dk_4 (dk_at dksX1_layMade_2 18 rfl rfl)
theorem dX1_layMade_64 : decode cX1_layMade 64 = .ok (.istore_n 3, 1) := dk_62 (dk_at dksX1_layMade_2 19 rfl rfl)
theorem dX1_layMade_65 : decode cX1_layMade 65 = .ok (.iload_n 3, 1) := dk_29 (dk_at dksX1_layMade_2 20 rfl rfl)
theorem dX1_layMade_66 : decode cX1_layMade 66 = .ok (.aload_n 1, 1) := dk_43 (dk_at dksX1_layMade_2 21 rfl rfl)
theorem dX1_layMade_67 : decode cX1_layMade 67 = .ok (.invokevirtual 237, 3) := dk_182 0 237 (dk_at dksX1_layMade_3 0 rfl rfl)
theorem dX1_layMade_70 : decode cX1_layMade 70 = .ok (.if_icmp .gt 89, 3) := dk_163 0 89 (dk_at dksX1_layMade_3 3 rfl rfl)
theorem dX1_layMade_73 : decode cX1_layMade 73 = .ok (.aload_n 0, 1) := dk_42 (dk_at dksX1_layMade_3 6 rfl rfl)
theorem dX1_layMade_74 : decode cX1_layMade 74 = .ok (.getfield 32, 3) := dk_180 0 32 (dk_at dksX1_layMade_3 7 rfl rfl)
theorem dX1_layMade_77 : decode cX1_layMade 77 = .ok (.iload_n 3, 1) := dk_29 (dk_at dksX1_layMade_3 10 rfl rfl)
theorem dX1_layMade_78 : decode cX1_layMade 78 = .ok (.bipush 25, 2) := dk_16 25 (dk_at dksX1_layMade_3 11 rfl rfl)
theorem dX1_layMade_80 : decode cX1_layMade 80 = .ok (.iastore, 1) := dk_79 (dk_at dksX1_layMade_3 13 rfl rfl)
theorem dX1_layMade_81 : decode cX1_layMade 81 = .ok (.iload_n 3, 1) := dk_29 (dk_at dksX1_layMade_3 14 rfl rfl)
theorem dX1_layMade_82 : decode cX1_layMade 82 = .ok (.iload_n 3, 1) := dk_29 (dk_at dksX1_layMade_3 15 rfl rfl)
theorem dX1_layMade_83 : decode cX1_layMade 83 = .ok (.ineg, 1) := dk_116 (dk_at dksX1_layMade_3 16 rfl rfl)
theorem dX1_layMade_84 : decode cX1_layMade 84 = .ok (.iand, 1) := dk_126 (dk_at dksX1_layMade_3 17 rfl rfl)
theorem dX1_layMade_85 : decode cX1_layMade 85 = .ok (.istore 4, 2) := dk_54 4 (dk_at dksX1_layMade_3 18 rfl rfl)
theorem dX1_layMade_87 : decode cX1_layMade 87 = .ok (.iload_n 3, 1) := dk_29 (dk_at dksX1_layMade_3 20 rfl rfl)
theorem dX1_layMade_88 : decode cX1_layMade 88 = .ok (.istore 5, 2) := dk_54 5 (dk_at dksX1_layMade_3 21 rfl rfl)
theorem dX1_layMade_90 : decode cX1_layMade 90 = .ok (.iload 5, 2) := dk_21 5 (dk_at dksX1_layMade_4 0 rfl rfl)
theorem dX1_layMade_92 : decode cX1_layMade 92 = .ok (.ifCond .le 61, 3) := dk_158 0 61 (dk_at dksX1_layMade_4 2 rfl rfl)
theorem dX1_layMade_95 : decode cX1_layMade 95 = .ok (.iload 5, 2) := dk_21 5 (dk_at dksX1_layMade_4 5 rfl rfl)
theorem dX1_layMade_97 : decode cX1_layMade 97 = .ok (.iload 4, 2) := dk_21 4 (dk_at dksX1_layMade_4 7 rfl rfl)
theorem dX1_layMade_99 : decode cX1_layMade 99 = .ok (.iand, 1) := dk_126 (dk_at dksX1_layMade_4 9 rfl rfl)
theorem dX1_layMade_100 : decode cX1_layMade 100 = .ok (.ifCond .eq 42, 3) := dk_153 0 42 (dk_at dksX1_layMade_4 10 rfl rfl)
theorem dX1_layMade_103 : decode cX1_layMade 103 = .ok (.aload_n 0, 1) := dk_42 (dk_at dksX1_layMade_4 13 rfl rfl)
theorem dX1_layMade_104 : decode cX1_layMade 104 = .ok (.getfield 35, 3) := dk_180 0 35 (dk_at dksX1_layMade_4 14 rfl rfl)
theorem dX1_layMade_107 : decode cX1_layMade 107 = .ok (.iload 5, 2) := dk_21 5 (dk_at dksX1_layMade_4 17 rfl rfl)
theorem dX1_layMade_109 : decode cX1_layMade 109 = .ok (.iaload, 1) := dk_46 (dk_at dksX1_layMade_4 19 rfl rfl)
theorem dX1_layMade_110 : decode cX1_layMade 110 = .ok (.iconst 1, 1) := dk_4 (dk_at dksX1_layMade_4 20 rfl rfl)
theorem dX1_layMade_111 : decode cX1_layMade 111 = .ok (.if_icmp .ne 31, 3) := dk_160 0 31 (dk_at dksX1_layMade_4 21 rfl rfl)
theorem dX1_layMade_114 : decode cX1_layMade 114 = .ok (.aload_n 0, 1) := dk_42 (dk_at dksX1_layMade_5 0 rfl rfl)
theorem dX1_layMade_115 : decode cX1_layMade 115 = .ok (.getfield 32, 3) := dk_180 0 32 (dk_at dksX1_layMade_5 1 rfl rfl)
theorem dX1_layMade_118 : decode cX1_layMade 118 = .ok (.iload_n 3, 1) := dk_29 (dk_at dksX1_layMade_5 4 rfl rfl)
theorem dX1_layMade_119 : decode cX1_layMade 119 = .ok (.aload_n 0, 1) := dk_42 (dk_at dksX1_layMade_5 5 rfl rfl)
theorem dX1_layMade_120 : decode cX1_layMade 120 = .ok (.getfield 32, 3) := dk_180 0 32 (dk_at dksX1_layMade_5 6 rfl rfl)
theorem dX1_layMade_123 : decode cX1_layMade 123 = .ok (.iload_n 3, 1) := dk_29 (dk_at dksX1_layMade_5 9 rfl rfl)
theorem dX1_layMade_124 : decode cX1_layMade 124 = .ok (.iaload, 1) := dk_46 (dk_at dksX1_layMade_5 10 rfl rfl)
theorem dX1_layMade_125 : decode cX1_layMade 125 = .ok (.iconst 1, 1) := dk_4 (dk_at dksX1_layMade_5 11 rfl rfl)
theorem dX1_layMade_126 : decode cX1_layMade 126 = .ok (.aload_n 0, 1) := dk_42 (dk_at dksX1_layMade_5 12 rfl rfl)
theorem dX1_layMade_127 : decode cX1_layMade 127 = .ok (.getfield 32, 3) := dk_180 0 32 (dk_at dksX1_layMade_5 13 rfl rfl)
theorem dX1_layMade_130 : decode cX1_layMade 130 = .ok (.iload_n 3, 1) := dk_29 (dk_at dksX1_layMade_5 16 rfl rfl)
theorem dX1_layMade_131 : decode cX1_layMade 131 = .ok (.iload 5, 2) := dk_21 5 (dk_at dksX1_layMade_5 17 rfl rfl)
theorem dX1_layMade_133 : decode cX1_layMade 133 = .ok (.iconst (-1), 1) := dk_2 (dk_at dksX1_layMade_5 19 rfl rfl)
theorem dX1_layMade_134 : decode cX1_layMade 134 = .ok (.ixor, 1) := dk_130 (dk_at dksX1_layMade_5 20 rfl rfl)
theorem dX1_layMade_135 : decode cX1_layMade 135 = .ok (.iand, 1) := dk_126 (dk_at dksX1_layMade_5 21 rfl rfl)
theorem dX1_layMade_136 : decode cX1_layMade 136 = .ok (.iaload, 1) := dk_46 (dk_at dksX1_layMade_5 22 rfl rfl)
theorem dX1_layMade_137 : decode cX1_layMade 137 = .ok (.iadd, 1) := dk_96 (dk_at dksX1_layMade_5 23 rfl rfl)
theorem dX1_layMade_138 : decode cX1_layMade 138 = .ok (.invokestatic 269, 3) := dk_184 1 13 (dk_at dksX1_layMade_6 0 rfl rfl)
theorem dX1_layMade_141 : decode cX1_layMade 141 = .ok (.iastore, 1) := dk_79 (dk_at dksX1_layMade_6 3 rfl rfl)
theorem dX1_layMade_142 : decode cX1_layMade 142 = .ok (.iload 5, 2) := dk_21 5 (dk_at dksX1_layMade_6 4 rfl rfl)
theorem dX1_layMade_144 : decode cX1_layMade 144 = .ok (.iconst 1, 1) := dk_4 (dk_at dksX1_layMade_6 6 rfl rfl)
theorem dX1_layMade_145 : decode cX1_layMade 145 = .ok (.isub, 1) := dk_100 (dk_at dksX1_layMade_6 7 rfl rfl)
theorem dX1_layMade_146 : decode cX1_layMade 146 = .ok (.iload_n 3, 1) := dk_29 (dk_at dksX1_layMade_6 8 rfl rfl)
theorem dX1_layMade_147 : decode cX1_layMade 147 = .ok (.iand, 1) := dk_126 (dk_at dksX1_layMade_6 9 rfl rfl)
theorem dX1_layMade_148 : decode cX1_layMade 148 = .ok (.istore 5, 2) := dk_54 5 (dk_at dksX1_layMade_6 10 rfl rfl)
theorem dX1_layMade_150 : decode cX1_layMade 150 = .ok (.goto (-60), 3) := dk_167 255 196 (dk_at dksX1_layMade_6 12 rfl rfl)
theorem dX1_layMade_153 : decode cX1_layMade 153 = .ok (.iinc 3 1, 3) := dk_132 3 1 (dk_at dksX1_layMade_6 15 rfl rfl)
theorem dX1_layMade_156 : decode cX1_layMade 156 = .ok (.goto (-91), 3) := dk_167 255 165 (dk_at dksX1_layMade_6 18 rfl rfl)
theorem dX1_layMade_159 : decode cX1_layMade 159 = .ok (.return_, 1) := dk_177 (dk_at dksX1_layMade_6 21 rfl rfl)
abbrev cX1_set : ByteArray := prog_1_method_41_code
def yX1_set : MethodName := ⟨RX1, "set", "(III)I"⟩
def dkwX1_set_3 : List UInt8 := [21, 5, 182, 1, 45, 172]
abbrev dktX1_set_3 : List UInt8 := dkwX1_set_3 ++ []
def dkwX1_set_2 : List UInt8 := [29, 162, 0, 22, 21, 5, 42, 21, 5, 182, 1, 45, 2, 130, 126, 54, 5, 132, 6, 1, 167, 255, 234, 42]
abbrev dktX1_set_2 : List UInt8 := dkwX1_set_2 ++ dktX1_set_3
def dkwX1_set_1 : List UInt8 := [184, 0, 74, 154, 0, 5, 2, 172, 42, 180, 0, 21, 27, 50, 182, 0, 237, 54, 5, 3, 54, 6, 21, 6]
abbrev dktX1_set_1 : List UInt8 := dkwX1_set_1 ++ dktX1_set_2
def dkwX1_set_0 : List UInt8 := [42, 27, 28, 182, 1, 42, 54, 4, 21, 4, 2, 159, 0, 17, 29, 133, 9, 21, 4, 4, 100, 133]
abbrev dktX1_set_0 : List UInt8 := dkwX1_set_0 ++ dktX1_set_1
theorem dksX1_set_0 : cX1_set.data.toList.drop 0 = dktX1_set_0 := by decide +kernel
theorem dksX1_set_1 : cX1_set.data.toList.drop 22 = dktX1_set_1 := dk_seg dksX1_set_0 22 rfl rfl
theorem dksX1_set_2 : cX1_set.data.toList.drop 46 = dktX1_set_2 := dk_seg dksX1_set_1 24 rfl rfl
theorem dksX1_set_3 : cX1_set.data.toList.drop 70 = dktX1_set_3 := dk_seg dksX1_set_2 24 rfl rfl
theorem dX1_set_0 : decode cX1_set 0 = .ok (.aload_n 0, 1) := dk_42 (dk_at dksX1_set_0 0 rfl rfl)
theorem dX1_set_1 : decode cX1_set 1 = .ok (.iload_n 1, 1) := dk_27 (dk_at dksX1_set_0 1 rfl rfl)
theorem dX1_set_2 : decode cX1_set 2 = .ok (.iload_n 2, 1) := dk_28 (dk_at dksX1_set_0 2 rfl rfl)
theorem dX1_set_3 : decode cX1_set 3 = .ok (.invokevirtual 298, 3) := dk_182 1 42 (dk_at dksX1_set_0 3 rfl rfl)
theorem dX1_set_6 : decode cX1_set 6 = .ok (.istore 4, 2) := dk_54 4 (dk_at dksX1_set_0 6 rfl rfl)
theorem dX1_set_8 : decode cX1_set 8 = .ok (.iload 4, 2) := dk_21 4 (dk_at dksX1_set_0 8 rfl rfl)
theorem dX1_set_10 : decode cX1_set 10 = .ok (.iconst (-1), 1) := dk_2 (dk_at dksX1_set_0 10 rfl rfl)
theorem dX1_set_11 : decode cX1_set 11 = .ok (.if_icmp .eq 17, 3) := dk_159 0 17 (dk_at dksX1_set_0 11 rfl rfl)
theorem dX1_set_14 : decode cX1_set 14 = .ok (.iload_n 3, 1) := dk_29 (dk_at dksX1_set_0 14 rfl rfl)
theorem dX1_set_15 : decode cX1_set 15 = .ok (.i2l, 1) := dk_133 (dk_at dksX1_set_0 15 rfl rfl)
theorem dX1_set_16 : decode cX1_set 16 = .ok (.lconst 0, 1) := dk_9 (dk_at dksX1_set_0 16 rfl rfl)
theorem dX1_set_17 : decode cX1_set 17 = .ok (.iload 4, 2) := dk_21 4 (dk_at dksX1_set_0 17 rfl rfl)
theorem dX1_set_19 : decode cX1_set 19 = .ok (.iconst 1, 1) := dk_4 (dk_at dksX1_set_0 19 rfl rfl)
theorem dX1_set_20 : decode cX1_set 20 = .ok (.isub, 1) := dk_100 (dk_at dksX1_set_0 20 rfl rfl)
theorem dX1_set_21 : decode cX1_set 21 = .ok (.i2l, 1) := dk_133 (dk_at dksX1_set_0 21 rfl rfl)
theorem dX1_set_22 : decode cX1_set 22 = .ok (.invokestatic 74, 3) := dk_184 0 74 (dk_at dksX1_set_1 0 rfl rfl)
theorem dX1_set_25 : decode cX1_set 25 = .ok (.ifCond .ne 5, 3) := dk_154 0 5 (dk_at dksX1_set_1 3 rfl rfl)
theorem dX1_set_28 : decode cX1_set 28 = .ok (.iconst (-1), 1) := dk_2 (dk_at dksX1_set_1 6 rfl rfl)
theorem dX1_set_29 : decode cX1_set 29 = .ok (.ireturn, 1) := dk_172 (dk_at dksX1_set_1 7 rfl rfl)
theorem dX1_set_30 : decode cX1_set 30 = .ok (.aload_n 0, 1) := dk_42 (dk_at dksX1_set_1 8 rfl rfl)
theorem dX1_set_31 : decode cX1_set 31 = .ok (.getfield 21, 3) := dk_180 0 21 (dk_at dksX1_set_1 9 rfl rfl)
theorem dX1_set_34 : decode cX1_set 34 = .ok (.iload_n 1, 1) := dk_27 (dk_at dksX1_set_1 12 rfl rfl)
theorem dX1_set_35 : decode cX1_set 35 = .ok (.aaload, 1) := dk_50 (dk_at dksX1_set_1 13 rfl rfl)
theorem dX1_set_36 : decode cX1_set 36 = .ok (.invokevirtual 237, 3) := dk_182 0 237 (dk_at dksX1_set_1 14 rfl rfl)
theorem dX1_set_39 : decode cX1_set 39 = .ok (.istore 5, 2) := dk_54 5 (dk_at dksX1_set_1 17 rfl rfl)
theorem dX1_set_41 : decode cX1_set 41 = .ok (.iconst 0, 1) := dk_3 (dk_at dksX1_set_1 19 rfl rfl)
theorem dX1_set_42 : decode cX1_set 42 = .ok (.istore 6, 2) := dk_54 6 (dk_at dksX1_set_1 20 rfl rfl)
theorem dX1_set_44 : decode cX1_set 44 = .ok (.iload 6, 2) := dk_21 6 (dk_at dksX1_set_1 22 rfl rfl)
theorem dX1_set_46 : decode cX1_set 46 = .ok (.iload_n 3, 1) := dk_29 (dk_at dksX1_set_2 0 rfl rfl)
theorem dX1_set_47 : decode cX1_set 47 = .ok (.if_icmp .ge 22, 3) := dk_162 0 22 (dk_at dksX1_set_2 1 rfl rfl)
theorem dX1_set_50 : decode cX1_set 50 = .ok (.iload 5, 2) := dk_21 5 (dk_at dksX1_set_2 4 rfl rfl)
theorem dX1_set_52 : decode cX1_set 52 = .ok (.aload_n 0, 1) := dk_42 (dk_at dksX1_set_2 6 rfl rfl)
theorem dX1_set_53 : decode cX1_set 53 = .ok (.iload 5, 2) := dk_21 5 (dk_at dksX1_set_2 7 rfl rfl)
theorem dX1_set_55 : decode cX1_set 55 = .ok (.invokevirtual 301, 3) := dk_182 1 45 (dk_at dksX1_set_2 9 rfl rfl)
theorem dX1_set_58 : decode cX1_set 58 = .ok (.iconst (-1), 1) := dk_2 (dk_at dksX1_set_2 12 rfl rfl)
theorem dX1_set_59 : decode cX1_set 59 = .ok (.ixor, 1) := dk_130 (dk_at dksX1_set_2 13 rfl rfl)
theorem dX1_set_60 : decode cX1_set 60 = .ok (.iand, 1) := dk_126 (dk_at dksX1_set_2 14 rfl rfl)
theorem dX1_set_61 : decode cX1_set 61 = .ok (.istore 5, 2) := dk_54 5 (dk_at dksX1_set_2 15 rfl rfl)
theorem dX1_set_63 : decode cX1_set 63 = .ok (.iinc 6 1, 3) := dk_132 6 1 (dk_at dksX1_set_2 17 rfl rfl)
theorem dX1_set_66 : decode cX1_set 66 = .ok (.goto (-22), 3) := dk_167 255 234 (dk_at dksX1_set_2 20 rfl rfl)
theorem dX1_set_69 : decode cX1_set 69 = .ok (.aload_n 0, 1) := dk_42 (dk_at dksX1_set_2 23 rfl rfl)
theorem dX1_set_70 : decode cX1_set 70 = .ok (.iload 5, 2) := dk_21 5 (dk_at dksX1_set_3 0 rfl rfl)
theorem dX1_set_72 : decode cX1_set 72 = .ok (.invokevirtual 301, 3) := dk_182 1 45 (dk_at dksX1_set_3 2 rfl rfl)
theorem dX1_set_75 : decode cX1_set 75 = .ok (.ireturn, 1) := dk_172 (dk_at dksX1_set_3 5 rfl rfl)
abbrev cX1_firstOf : ByteArray := prog_1_method_40_code
def yX1_firstOf : MethodName := ⟨RX1, "firstOf", "(I)I"⟩
def dkwX1_firstOf_2 : List UInt8 := [96, 42, 180, 0, 32, 27, 46, 160, 0, 5, 29, 172, 132, 3, 1, 167, 255, 201, 27, 172]
abbrev dktX1_firstOf_2 : List UInt8 := dkwX1_firstOf_2 ++ []
def dkwX1_firstOf_1 : List UInt8 := [153, 0, 36, 42, 180, 0, 35, 29, 46, 4, 160, 0, 26, 4, 42, 180, 0, 32, 27, 29, 2, 130, 126, 46]
abbrev dktX1_firstOf_1 : List UInt8 := dkwX1_firstOf_1 ++ dktX1_firstOf_2
def dkwX1_firstOf_0 : List UInt8 := [27, 27, 116, 126, 61, 28, 62, 29, 27, 163, 0, 56, 29, 27, 2, 130, 126, 154, 0, 42, 29, 28, 126]
abbrev dktX1_firstOf_0 : List UInt8 := dkwX1_firstOf_0 ++ dktX1_firstOf_1
theorem dksX1_firstOf_0 : cX1_firstOf.data.toList.drop 0 = dktX1_firstOf_0 := by decide +kernel
theorem dksX1_firstOf_1 : cX1_firstOf.data.toList.drop 23 = dktX1_firstOf_1 := dk_seg dksX1_firstOf_0 23 rfl rfl
theorem dksX1_firstOf_2 : cX1_firstOf.data.toList.drop 47 = dktX1_firstOf_2 := dk_seg dksX1_firstOf_1 24 rfl rfl
theorem dX1_firstOf_0 : decode cX1_firstOf 0 = .ok (.iload_n 1, 1) := dk_27 (dk_at dksX1_firstOf_0 0 rfl rfl)
theorem dX1_firstOf_1 : decode cX1_firstOf 1 = .ok (.iload_n 1, 1) := dk_27 (dk_at dksX1_firstOf_0 1 rfl rfl)
theorem dX1_firstOf_2 : decode cX1_firstOf 2 = .ok (.ineg, 1) := dk_116 (dk_at dksX1_firstOf_0 2 rfl rfl)
theorem dX1_firstOf_3 : decode cX1_firstOf 3 = .ok (.iand, 1) := dk_126 (dk_at dksX1_firstOf_0 3 rfl rfl)
theorem dX1_firstOf_4 : decode cX1_firstOf 4 = .ok (.istore_n 2, 1) := dk_61 (dk_at dksX1_firstOf_0 4 rfl rfl)
theorem dX1_firstOf_5 : decode cX1_firstOf 5 = .ok (.iload_n 2, 1) := dk_28 (dk_at dksX1_firstOf_0 5 rfl rfl)
theorem dX1_firstOf_6 : decode cX1_firstOf 6 = .ok (.istore_n 3, 1) := dk_62 (dk_at dksX1_firstOf_0 6 rfl rfl)
theorem dX1_firstOf_7 : decode cX1_firstOf 7 = .ok (.iload_n 3, 1) := dk_29 (dk_at dksX1_firstOf_0 7 rfl rfl)
theorem dX1_firstOf_8 : decode cX1_firstOf 8 = .ok (.iload_n 1, 1) := dk_27 (dk_at dksX1_firstOf_0 8 rfl rfl)
theorem dX1_firstOf_9 : decode cX1_firstOf 9 = .ok (.if_icmp .gt 56, 3) := dk_163 0 56 (dk_at dksX1_firstOf_0 9 rfl rfl)
theorem dX1_firstOf_12 : decode cX1_firstOf 12 = .ok (.iload_n 3, 1) := dk_29 (dk_at dksX1_firstOf_0 12 rfl rfl)
theorem dX1_firstOf_13 : decode cX1_firstOf 13 = .ok (.iload_n 1, 1) := dk_27 (dk_at dksX1_firstOf_0 13 rfl rfl)
theorem dX1_firstOf_14 : decode cX1_firstOf 14 = .ok (.iconst (-1), 1) := dk_2 (dk_at dksX1_firstOf_0 14 rfl rfl)
theorem dX1_firstOf_15 : decode cX1_firstOf 15 = .ok (.ixor, 1) := dk_130 (dk_at dksX1_firstOf_0 15 rfl rfl)
theorem dX1_firstOf_16 : decode cX1_firstOf 16 = .ok (.iand, 1) := dk_126 (dk_at dksX1_firstOf_0 16 rfl rfl)
theorem dX1_firstOf_17 : decode cX1_firstOf 17 = .ok (.ifCond .ne 42, 3) := dk_154 0 42 (dk_at dksX1_firstOf_0 17 rfl rfl)
theorem dX1_firstOf_20 : decode cX1_firstOf 20 = .ok (.iload_n 3, 1) := dk_29 (dk_at dksX1_firstOf_0 20 rfl rfl)
theorem dX1_firstOf_21 : decode cX1_firstOf 21 = .ok (.iload_n 2, 1) := dk_28 (dk_at dksX1_firstOf_0 21 rfl rfl)
theorem dX1_firstOf_22 : decode cX1_firstOf 22 = .ok (.iand, 1) := dk_126 (dk_at dksX1_firstOf_0 22 rfl rfl)
theorem dX1_firstOf_23 : decode cX1_firstOf 23 = .ok (.ifCond .eq 36, 3) := dk_153 0 36 (dk_at dksX1_firstOf_1 0 rfl rfl)
theorem dX1_firstOf_26 : decode cX1_firstOf 26 = .ok (.aload_n 0, 1) := dk_42 (dk_at dksX1_firstOf_1 3 rfl rfl)
theorem dX1_firstOf_27 : decode cX1_firstOf 27 = .ok (.getfield 35, 3) := dk_180 0 35 (dk_at dksX1_firstOf_1 4 rfl rfl)
theorem dX1_firstOf_30 : decode cX1_firstOf 30 = .ok (.iload_n 3, 1) := dk_29 (dk_at dksX1_firstOf_1 7 rfl rfl)
theorem dX1_firstOf_31 : decode cX1_firstOf 31 = .ok (.iaload, 1) := dk_46 (dk_at dksX1_firstOf_1 8 rfl rfl)
theorem dX1_firstOf_32 : decode cX1_firstOf 32 = .ok (.iconst 1, 1) := dk_4 (dk_at dksX1_firstOf_1 9 rfl rfl)
theorem dX1_firstOf_33 : decode cX1_firstOf 33 = .ok (.if_icmp .ne 26, 3) := dk_160 0 26 (dk_at dksX1_firstOf_1 10 rfl rfl)
theorem dX1_firstOf_36 : decode cX1_firstOf 36 = .ok (.iconst 1, 1) := dk_4 (dk_at dksX1_firstOf_1 13 rfl rfl)
theorem dX1_firstOf_37 : decode cX1_firstOf 37 = .ok (.aload_n 0, 1) := dk_42 (dk_at dksX1_firstOf_1 14 rfl rfl)
theorem dX1_firstOf_38 : decode cX1_firstOf 38 = .ok (.getfield 32, 3) := dk_180 0 32 (dk_at dksX1_firstOf_1 15 rfl rfl)
theorem dX1_firstOf_41 : decode cX1_firstOf 41 = .ok (.iload_n 1, 1) := dk_27 (dk_at dksX1_firstOf_1 18 rfl rfl)
theorem dX1_firstOf_42 : decode cX1_firstOf 42 = .ok (.iload_n 3, 1) := dk_29 (dk_at dksX1_firstOf_1 19 rfl rfl)
theorem dX1_firstOf_43 : decode cX1_firstOf 43 = .ok (.iconst (-1), 1) := dk_2 (dk_at dksX1_firstOf_1 20 rfl rfl)
theorem dX1_firstOf_44 : decode cX1_firstOf 44 = .ok (.ixor, 1) := dk_130 (dk_at dksX1_firstOf_1 21 rfl rfl)
theorem dX1_firstOf_45 : decode cX1_firstOf 45 = .ok (.iand, 1) := dk_126 (dk_at dksX1_firstOf_1 22 rfl rfl)
theorem dX1_firstOf_46 : decode cX1_firstOf 46 = .ok (.iaload, 1) := dk_46 (dk_at dksX1_firstOf_1 23 rfl rfl)
theorem dX1_firstOf_47 : decode cX1_firstOf 47 = .ok (.iadd, 1) := dk_96 (dk_at dksX1_firstOf_2 0 rfl rfl)
theorem dX1_firstOf_48 : decode cX1_firstOf 48 = .ok (.aload_n 0, 1) := dk_42 (dk_at dksX1_firstOf_2 1 rfl rfl)
theorem dX1_firstOf_49 : decode cX1_firstOf 49 = .ok (.getfield 32, 3) := dk_180 0 32 (dk_at dksX1_firstOf_2 2 rfl rfl)
theorem dX1_firstOf_52 : decode cX1_firstOf 52 = .ok (.iload_n 1, 1) := dk_27 (dk_at dksX1_firstOf_2 5 rfl rfl)
theorem dX1_firstOf_53 : decode cX1_firstOf 53 = .ok (.iaload, 1) := dk_46 (dk_at dksX1_firstOf_2 6 rfl rfl)
theorem dX1_firstOf_54 : decode cX1_firstOf 54 = .ok (.if_icmp .ne 5, 3) := dk_160 0 5 (dk_at dksX1_firstOf_2 7 rfl rfl)
theorem dX1_firstOf_57 : decode cX1_firstOf 57 = .ok (.iload_n 3, 1) := dk_29 (dk_at dksX1_firstOf_2 10 rfl rfl)
theorem dX1_firstOf_58 : decode cX1_firstOf 58 = .ok (.ireturn, 1) := dk_172 (dk_at dksX1_firstOf_2 11 rfl rfl)
theorem dX1_firstOf_59 : decode cX1_firstOf 59 = .ok (.iinc 3 1, 3) := dk_132 3 1 (dk_at dksX1_firstOf_2 12 rfl rfl)
theorem dX1_firstOf_62 : decode cX1_firstOf 62 = .ok (.goto (-55), 3) := dk_167 255 201 (dk_at dksX1_firstOf_2 15 rfl rfl)
theorem dX1_firstOf_65 : decode cX1_firstOf 65 = .ok (.iload_n 1, 1) := dk_27 (dk_at dksX1_firstOf_2 18 rfl rfl)
theorem dX1_firstOf_66 : decode cX1_firstOf 66 = .ok (.ireturn, 1) := dk_172 (dk_at dksX1_firstOf_2 19 rfl rfl)
abbrev cX1_twice : ByteArray := prog_1_method_43_code
def yX1_twice : MethodName := ⟨RX1, "twice", "(I)I"⟩
def dkwX1_twice_4 : List UInt8 := [21, 4, 79, 132, 3, 1, 132, 4, 1, 167, 255, 218, 42, 29, 3, 5, 29, 184, 1, 13, 182, 1, 48, 172]
abbrev dktX1_twice_4 : List UInt8 := dkwX1_twice_4 ++ []
def dkwX1_twice_3 : List UInt8 := [162, 0, 35, 44, 180, 0, 184, 21, 4, 46, 5, 112, 154, 0, 6, 167, 0, 14, 42, 180, 0, 38, 29]
abbrev dktX1_twice_3 : List UInt8 := dkwX1_twice_3 ++ dktX1_twice_4
def dkwX1_twice_2 : List UInt8 := [180, 0, 21, 27, 50, 77, 42, 44, 182, 1, 16, 3, 62, 3, 54, 4, 21, 4, 44, 180, 0, 141]
abbrev dktX1_twice_2 : List UInt8 := dkwX1_twice_2 ++ dktX1_twice_3
def dkwX1_twice_1 : List UInt8 := [180, 0, 21, 27, 50, 42, 180, 0, 21, 27, 50, 182, 0, 237, 182, 0, 240, 4, 164, 0, 5, 2, 172, 42]
abbrev dktX1_twice_1 : List UInt8 := dkwX1_twice_1 ++ dktX1_twice_2
def dkwX1_twice_0 : List UInt8 := [42, 27, 182, 0, 134, 153, 0, 39, 42, 180, 0, 21, 27, 50, 180, 0, 138, 16, 12, 163, 0, 25, 42]
abbrev dktX1_twice_0 : List UInt8 := dkwX1_twice_0 ++ dktX1_twice_1
theorem dksX1_twice_0 : cX1_twice.data.toList.drop 0 = dktX1_twice_0 := by decide +kernel
theorem dksX1_twice_1 : cX1_twice.data.toList.drop 23 = dktX1_twice_1 := dk_seg dksX1_twice_0 23 rfl rfl
theorem dksX1_twice_2 : cX1_twice.data.toList.drop 47 = dktX1_twice_2 := dk_seg dksX1_twice_1 24 rfl rfl
theorem dksX1_twice_3 : cX1_twice.data.toList.drop 69 = dktX1_twice_3 := dk_seg dksX1_twice_2 22 rfl rfl
theorem dksX1_twice_4 : cX1_twice.data.toList.drop 92 = dktX1_twice_4 := dk_seg dksX1_twice_3 23 rfl rfl
theorem dX1_twice_0 : decode cX1_twice 0 = .ok (.aload_n 0, 1) := dk_42 (dk_at dksX1_twice_0 0 rfl rfl)
theorem dX1_twice_1 : decode cX1_twice 1 = .ok (.iload_n 1, 1) := dk_27 (dk_at dksX1_twice_0 1 rfl rfl)
theorem dX1_twice_2 : decode cX1_twice 2 = .ok (.invokevirtual 134, 3) := dk_182 0 134 (dk_at dksX1_twice_0 2 rfl rfl)
theorem dX1_twice_5 : decode cX1_twice 5 = .ok (.ifCond .eq 39, 3) := dk_153 0 39 (dk_at dksX1_twice_0 5 rfl rfl)
theorem dX1_twice_8 : decode cX1_twice 8 = .ok (.aload_n 0, 1) := dk_42 (dk_at dksX1_twice_0 8 rfl rfl)
theorem dX1_twice_9 : decode cX1_twice 9 = .ok (.getfield 21, 3) := dk_180 0 21 (dk_at dksX1_twice_0 9 rfl rfl)
theorem dX1_twice_12 : decode cX1_twice 12 = .ok (.iload_n 1, 1) := dk_27 (dk_at dksX1_twice_0 12 rfl rfl)
theorem dX1_twice_13 : decode cX1_twice 13 = .ok (.aaload, 1) := dk_50 (dk_at dksX1_twice_0 13 rfl rfl)
theorem dX1_twice_14 : decode cX1_twice 14 = .ok (.getfield 138, 3) := dk_180 0 138 (dk_at dksX1_twice_0 14 rfl rfl)
theorem dX1_twice_17 : decode cX1_twice 17 = .ok (.bipush 12, 2) := dk_16 12 (dk_at dksX1_twice_0 17 rfl rfl)
theorem dX1_twice_19 : decode cX1_twice 19 = .ok (.if_icmp .gt 25, 3) := dk_163 0 25 (dk_at dksX1_twice_0 19 rfl rfl)
theorem dX1_twice_22 : decode cX1_twice 22 = .ok (.aload_n 0, 1) := dk_42 (dk_at dksX1_twice_0 22 rfl rfl)
theorem dX1_twice_23 : decode cX1_twice 23 = .ok (.getfield 21, 3) := dk_180 0 21 (dk_at dksX1_twice_1 0 rfl rfl)
theorem dX1_twice_26 : decode cX1_twice 26 = .ok (.iload_n 1, 1) := dk_27 (dk_at dksX1_twice_1 3 rfl rfl)
theorem dX1_twice_27 : decode cX1_twice 27 = .ok (.aaload, 1) := dk_50 (dk_at dksX1_twice_1 4 rfl rfl)
theorem dX1_twice_28 : decode cX1_twice 28 = .ok (.aload_n 0, 1) := dk_42 (dk_at dksX1_twice_1 5 rfl rfl)
theorem dX1_twice_29 : decode cX1_twice 29 = .ok (.getfield 21, 3) := dk_180 0 21 (dk_at dksX1_twice_1 6 rfl rfl)
theorem dX1_twice_32 : decode cX1_twice 32 = .ok (.iload_n 1, 1) := dk_27 (dk_at dksX1_twice_1 9 rfl rfl)
theorem dX1_twice_33 : decode cX1_twice 33 = .ok (.aaload, 1) := dk_50 (dk_at dksX1_twice_1 10 rfl rfl)
theorem dX1_twice_34 : decode cX1_twice 34 = .ok (.invokevirtual 237, 3) := dk_182 0 237 (dk_at dksX1_twice_1 11 rfl rfl)
theorem dX1_twice_37 : decode cX1_twice 37 = .ok (.invokevirtual 240, 3) := dk_182 0 240 (dk_at dksX1_twice_1 14 rfl rfl)
theorem dX1_twice_40 : decode cX1_twice 40 = .ok (.iconst 1, 1) := dk_4 (dk_at dksX1_twice_1 17 rfl rfl)
theorem dX1_twice_41 : decode cX1_twice 41 = .ok (.if_icmp .le 5, 3) := dk_164 0 5 (dk_at dksX1_twice_1 18 rfl rfl)
theorem dX1_twice_44 : decode cX1_twice 44 = .ok (.iconst (-1), 1) := dk_2 (dk_at dksX1_twice_1 21 rfl rfl)
theorem dX1_twice_45 : decode cX1_twice 45 = .ok (.ireturn, 1) := dk_172 (dk_at dksX1_twice_1 22 rfl rfl)
theorem dX1_twice_46 : decode cX1_twice 46 = .ok (.aload_n 0, 1) := dk_42 (dk_at dksX1_twice_1 23 rfl rfl)
theorem dX1_twice_47 : decode cX1_twice 47 = .ok (.getfield 21, 3) := dk_180 0 21 (dk_at dksX1_twice_2 0 rfl rfl)
theorem dX1_twice_50 : decode cX1_twice 50 = .ok (.iload_n 1, 1) := dk_27 (dk_at dksX1_twice_2 3 rfl rfl)
theorem dX1_twice_51 : decode cX1_twice 51 = .ok (.aaload, 1) := dk_50 (dk_at dksX1_twice_2 4 rfl rfl)
theorem dX1_twice_52 : decode cX1_twice 52 = .ok (.astore_n 2, 1) := dk_77 (dk_at dksX1_twice_2 5 rfl rfl)
theorem dX1_twice_53 : decode cX1_twice 53 = .ok (.aload_n 0, 1) := dk_42 (dk_at dksX1_twice_2 6 rfl rfl)
theorem dX1_twice_54 : decode cX1_twice 54 = .ok (.aload_n 2, 1) := dk_44 (dk_at dksX1_twice_2 7 rfl rfl)
theorem dX1_twice_55 : decode cX1_twice 55 = .ok (.invokevirtual 272, 3) := dk_182 1 16 (dk_at dksX1_twice_2 8 rfl rfl)
theorem dX1_twice_58 : decode cX1_twice 58 = .ok (.iconst 0, 1) := dk_3 (dk_at dksX1_twice_2 11 rfl rfl)
theorem dX1_twice_59 : decode cX1_twice 59 = .ok (.istore_n 3, 1) := dk_62 (dk_at dksX1_twice_2 12 rfl rfl)
theorem dX1_twice_60 : decode cX1_twice 60 = .ok (.iconst 0, 1) := dk_3 (dk_at dksX1_twice_2 13 rfl rfl)
theorem dX1_twice_61 : decode cX1_twice 61 = .ok (.istore 4, 2) := dk_54 4 (dk_at dksX1_twice_2 14 rfl rfl)
theorem dX1_twice_63 : decode cX1_twice 63 = .ok (.iload 4, 2) := dk_21 4 (dk_at dksX1_twice_2 16 rfl rfl)
theorem dX1_twice_65 : decode cX1_twice 65 = .ok (.aload_n 2, 1) := dk_44 (dk_at dksX1_twice_2 18 rfl rfl)
theorem dX1_twice_66 : decode cX1_twice 66 = .ok (.getfield 141, 3) := dk_180 0 141 (dk_at dksX1_twice_2 19 rfl rfl)
theorem dX1_twice_69 : decode cX1_twice 69 = .ok (.if_icmp .ge 35, 3) := dk_162 0 35 (dk_at dksX1_twice_3 0 rfl rfl)
theorem dX1_twice_72 : decode cX1_twice 72 = .ok (.aload_n 2, 1) := dk_44 (dk_at dksX1_twice_3 3 rfl rfl)
theorem dX1_twice_73 : decode cX1_twice 73 = .ok (.getfield 184, 3) := dk_180 0 184 (dk_at dksX1_twice_3 4 rfl rfl)
theorem dX1_twice_76 : decode cX1_twice 76 = .ok (.iload 4, 2) := dk_21 4 (dk_at dksX1_twice_3 7 rfl rfl)
theorem dX1_twice_78 : decode cX1_twice 78 = .ok (.iaload, 1) := dk_46 (dk_at dksX1_twice_3 9 rfl rfl)
theorem dX1_twice_79 : decode cX1_twice 79 = .ok (.iconst 2, 1) := dk_5 (dk_at dksX1_twice_3 10 rfl rfl)
theorem dX1_twice_80 : decode cX1_twice 80 = .ok (.irem, 1) := dk_112 (dk_at dksX1_twice_3 11 rfl rfl)
theorem dX1_twice_81 : decode cX1_twice 81 = .ok (.ifCond .ne 6, 3) := dk_154 0 6 (dk_at dksX1_twice_3 12 rfl rfl)
theorem dX1_twice_84 : decode cX1_twice 84 = .ok (.goto 14, 3) := dk_167 0 14 (dk_at dksX1_twice_3 15 rfl rfl)
theorem dX1_twice_87 : decode cX1_twice 87 = .ok (.aload_n 0, 1) := dk_42 (dk_at dksX1_twice_3 18 rfl rfl)
theorem dX1_twice_88 : decode cX1_twice 88 = .ok (.getfield 38, 3) := dk_180 0 38 (dk_at dksX1_twice_3 19 rfl rfl)
theorem dX1_twice_91 : decode cX1_twice 91 = .ok (.iload_n 3, 1) := dk_29 (dk_at dksX1_twice_3 22 rfl rfl)
theorem dX1_twice_92 : decode cX1_twice 92 = .ok (.iload 4, 2) := dk_21 4 (dk_at dksX1_twice_4 0 rfl rfl)
theorem dX1_twice_94 : decode cX1_twice 94 = .ok (.iastore, 1) := dk_79 (dk_at dksX1_twice_4 2 rfl rfl)
theorem dX1_twice_95 : decode cX1_twice 95 = .ok (.iinc 3 1, 3) := dk_132 3 1 (dk_at dksX1_twice_4 3 rfl rfl)
theorem dX1_twice_98 : decode cX1_twice 98 = .ok (.iinc 4 1, 3) := dk_132 4 1 (dk_at dksX1_twice_4 6 rfl rfl)
theorem dX1_twice_101 : decode cX1_twice 101 = .ok (.goto (-38), 3) := dk_167 255 218 (dk_at dksX1_twice_4 9 rfl rfl)
theorem dX1_twice_104 : decode cX1_twice 104 = .ok (.aload_n 0, 1) := dk_42 (dk_at dksX1_twice_4 12 rfl rfl)
theorem dX1_twice_105 : decode cX1_twice 105 = .ok (.iload_n 3, 1) := dk_29 (dk_at dksX1_twice_4 13 rfl rfl)
theorem dX1_twice_106 : decode cX1_twice 106 = .ok (.iconst 0, 1) := dk_3 (dk_at dksX1_twice_4 14 rfl rfl)
theorem dX1_twice_107 : decode cX1_twice 107 = .ok (.iconst 2, 1) := dk_5 (dk_at dksX1_twice_4 15 rfl rfl)
theorem dX1_twice_108 : decode cX1_twice 108 = .ok (.iload_n 3, 1) := dk_29 (dk_at dksX1_twice_4 16 rfl rfl)
theorem dX1_twice_109 : decode cX1_twice 109 = .ok (.invokestatic 269, 3) := dk_184 1 13 (dk_at dksX1_twice_4 17 rfl rfl)
theorem dX1_twice_112 : decode cX1_twice 112 = .ok (.invokevirtual 304, 3) := dk_182 1 48 (dk_at dksX1_twice_4 20 rfl rfl)
theorem dX1_twice_115 : decode cX1_twice 115 = .ok (.ireturn, 1) := dk_172 (dk_at dksX1_twice_4 23 rfl rfl)
abbrev cX1_paired : ByteArray := prog_1_method_42_code
def yX1_paired : MethodName := ⟨RX1, "paired", "(III)I"⟩
def dkwX1_paired_5 : List UInt8 := [120, 128, 29, 182, 1, 48, 96, 184, 1, 13, 54, 5, 132, 6, 1, 167, 255, 190, 21, 5, 172]
abbrev dktX1_paired_5 : List UInt8 := dkwX1_paired_5 ++ []
def dkwX1_paired_4 : List UInt8 := [21, 4, 46, 104, 42, 180, 0, 38, 21, 6, 46, 96, 46, 42, 27, 28, 4, 21, 4, 120, 128, 4, 21, 6]
abbrev dktX1_paired_4 : List UInt8 := dkwX1_paired_4 ++ dktX1_paired_5
def dkwX1_paired_3 : List UInt8 := [162, 0, 66, 28, 21, 6, 122, 4, 126, 154, 0, 51, 21, 5, 42, 180, 0, 29, 16, 32, 42, 180, 0, 38]
abbrev dktX1_paired_3 : List UInt8 := dkwX1_paired_3 ++ dktX1_paired_4
def dkwX1_paired_2 : List UInt8 := [4, 100, 182, 1, 48, 167, 0, 6, 19, 1, 12, 54, 5, 21, 4, 4, 96, 54, 6, 21, 6, 27]
abbrev dktX1_paired_2 : List UInt8 := dkwX1_paired_2 ++ dktX1_paired_3
def dkwX1_paired_1 : List UInt8 := [167, 255, 237, 21, 4, 27, 160, 0, 5, 3, 172, 29, 158, 0, 20, 42, 27, 28, 4, 21, 4, 120, 128, 29]
abbrev dktX1_paired_1 : List UInt8 := dkwX1_paired_1 ++ dktX1_paired_2
def dkwX1_paired_0 : List UInt8 := [3, 54, 4, 21, 4, 27, 162, 0, 19, 28, 21, 4, 122, 4, 126, 4, 160, 0, 9, 132, 4, 1]
abbrev dktX1_paired_0 : List UInt8 := dkwX1_paired_0 ++ dktX1_paired_1
theorem dksX1_paired_0 : cX1_paired.data.toList.drop 0 = dktX1_paired_0 := by decide +kernel
theorem dksX1_paired_1 : cX1_paired.data.toList.drop 22 = dktX1_paired_1 := dk_seg dksX1_paired_0 22 rfl rfl
theorem dksX1_paired_2 : cX1_paired.data.toList.drop 46 = dktX1_paired_2 := dk_seg dksX1_paired_1 24 rfl rfl
theorem dksX1_paired_3 : cX1_paired.data.toList.drop 68 = dktX1_paired_3 := dk_seg dksX1_paired_2 22 rfl rfl
theorem dksX1_paired_4 : cX1_paired.data.toList.drop 92 = dktX1_paired_4 := dk_seg dksX1_paired_3 24 rfl rfl
theorem dksX1_paired_5 : cX1_paired.data.toList.drop 116 = dktX1_paired_5 := dk_seg dksX1_paired_4 24 rfl rfl
theorem dX1_paired_0 : decode cX1_paired 0 = .ok (.iconst 0, 1) := dk_3 (dk_at dksX1_paired_0 0 rfl rfl)
theorem dX1_paired_1 : decode cX1_paired 1 = .ok (.istore 4, 2) := dk_54 4 (dk_at dksX1_paired_0 1 rfl rfl)
theorem dX1_paired_3 : decode cX1_paired 3 = .ok (.iload 4, 2) := dk_21 4 (dk_at dksX1_paired_0 3 rfl rfl)
theorem dX1_paired_5 : decode cX1_paired 5 = .ok (.iload_n 1, 1) := dk_27 (dk_at dksX1_paired_0 5 rfl rfl)
theorem dX1_paired_6 : decode cX1_paired 6 = .ok (.if_icmp .ge 19, 3) := dk_162 0 19 (dk_at dksX1_paired_0 6 rfl rfl)
theorem dX1_paired_9 : decode cX1_paired 9 = .ok (.iload_n 2, 1) := dk_28 (dk_at dksX1_paired_0 9 rfl rfl)
theorem dX1_paired_10 : decode cX1_paired 10 = .ok (.iload 4, 2) := dk_21 4 (dk_at dksX1_paired_0 10 rfl rfl)
theorem dX1_paired_12 : decode cX1_paired 12 = .ok (.ishr, 1) := dk_122 (dk_at dksX1_paired_0 12 rfl rfl)
theorem dX1_paired_13 : decode cX1_paired 13 = .ok (.iconst 1, 1) := dk_4 (dk_at dksX1_paired_0 13 rfl rfl)
theorem dX1_paired_14 : decode cX1_paired 14 = .ok (.iand, 1) := dk_126 (dk_at dksX1_paired_0 14 rfl rfl)
theorem dX1_paired_15 : decode cX1_paired 15 = .ok (.iconst 1, 1) := dk_4 (dk_at dksX1_paired_0 15 rfl rfl)
theorem dX1_paired_16 : decode cX1_paired 16 = .ok (.if_icmp .ne 9, 3) := dk_160 0 9 (dk_at dksX1_paired_0 16 rfl rfl)
theorem dX1_paired_19 : decode cX1_paired 19 = .ok (.iinc 4 1, 3) := dk_132 4 1 (dk_at dksX1_paired_0 19 rfl rfl)
theorem dX1_paired_22 : decode cX1_paired 22 = .ok (.goto (-19), 3) := dk_167 255 237 (dk_at dksX1_paired_1 0 rfl rfl)
theorem dX1_paired_25 : decode cX1_paired 25 = .ok (.iload 4, 2) := dk_21 4 (dk_at dksX1_paired_1 3 rfl rfl)
theorem dX1_paired_27 : decode cX1_paired 27 = .ok (.iload_n 1, 1) := dk_27 (dk_at dksX1_paired_1 5 rfl rfl)
theorem dX1_paired_28 : decode cX1_paired 28 = .ok (.if_icmp .ne 5, 3) := dk_160 0 5 (dk_at dksX1_paired_1 6 rfl rfl)
theorem dX1_paired_31 : decode cX1_paired 31 = .ok (.iconst 0, 1) := dk_3 (dk_at dksX1_paired_1 9 rfl rfl)
theorem dX1_paired_32 : decode cX1_paired 32 = .ok (.ireturn, 1) := dk_172 (dk_at dksX1_paired_1 10 rfl rfl)
theorem dX1_paired_33 : decode cX1_paired 33 = .ok (.iload_n 3, 1) := dk_29 (dk_at dksX1_paired_1 11 rfl rfl)
theorem dX1_paired_34 : decode cX1_paired 34 = .ok (.ifCond .le 20, 3) := dk_158 0 20 (dk_at dksX1_paired_1 12 rfl rfl)
theorem dX1_paired_37 : decode cX1_paired 37 = .ok (.aload_n 0, 1) := dk_42 (dk_at dksX1_paired_1 15 rfl rfl)
theorem dX1_paired_38 : decode cX1_paired 38 = .ok (.iload_n 1, 1) := dk_27 (dk_at dksX1_paired_1 16 rfl rfl)
theorem dX1_paired_39 : decode cX1_paired 39 = .ok (.iload_n 2, 1) := dk_28 (dk_at dksX1_paired_1 17 rfl rfl)
theorem dX1_paired_40 : decode cX1_paired 40 = .ok (.iconst 1, 1) := dk_4 (dk_at dksX1_paired_1 18 rfl rfl)
theorem dX1_paired_41 : decode cX1_paired 41 = .ok (.iload 4, 2) := dk_21 4 (dk_at dksX1_paired_1 19 rfl rfl)
theorem dX1_paired_43 : decode cX1_paired 43 = .ok (.ishl, 1) := dk_120 (dk_at dksX1_paired_1 21 rfl rfl)
theorem dX1_paired_44 : decode cX1_paired 44 = .ok (.ior, 1) := dk_128 (dk_at dksX1_paired_1 22 rfl rfl)
theorem dX1_paired_45 : decode cX1_paired 45 = .ok (.iload_n 3, 1) := dk_29 (dk_at dksX1_paired_1 23 rfl rfl)
theorem dX1_paired_46 : decode cX1_paired 46 = .ok (.iconst 1, 1) := dk_4 (dk_at dksX1_paired_2 0 rfl rfl)
theorem dX1_paired_47 : decode cX1_paired 47 = .ok (.isub, 1) := dk_100 (dk_at dksX1_paired_2 1 rfl rfl)
theorem dX1_paired_48 : decode cX1_paired 48 = .ok (.invokevirtual 304, 3) := dk_182 1 48 (dk_at dksX1_paired_2 2 rfl rfl)
theorem dX1_paired_51 : decode cX1_paired 51 = .ok (.goto 6, 3) := dk_167 0 6 (dk_at dksX1_paired_2 5 rfl rfl)
theorem dX1_paired_54 : decode cX1_paired 54 = .ok (.ldc_w 268, 3) := dk_19 1 12 (dk_at dksX1_paired_2 8 rfl rfl)
theorem dX1_paired_57 : decode cX1_paired 57 = .ok (.istore 5, 2) := dk_54 5 (dk_at dksX1_paired_2 11 rfl rfl)
theorem dX1_paired_59 : decode cX1_paired 59 = .ok (.iload 4, 2) := dk_21 4 (dk_at dksX1_paired_2 13 rfl rfl)
theorem dX1_paired_61 : decode cX1_paired 61 = .ok (.iconst 1, 1) := dk_4 (dk_at dksX1_paired_2 15 rfl rfl)
theorem dX1_paired_62 : decode cX1_paired 62 = .ok (.iadd, 1) := dk_96 (dk_at dksX1_paired_2 16 rfl rfl)
theorem dX1_paired_63 : decode cX1_paired 63 = .ok (.istore 6, 2) := dk_54 6 (dk_at dksX1_paired_2 17 rfl rfl)
theorem dX1_paired_65 : decode cX1_paired 65 = .ok (.iload 6, 2) := dk_21 6 (dk_at dksX1_paired_2 19 rfl rfl)
theorem dX1_paired_67 : decode cX1_paired 67 = .ok (.iload_n 1, 1) := dk_27 (dk_at dksX1_paired_2 21 rfl rfl)
theorem dX1_paired_68 : decode cX1_paired 68 = .ok (.if_icmp .ge 66, 3) := dk_162 0 66 (dk_at dksX1_paired_3 0 rfl rfl)
theorem dX1_paired_71 : decode cX1_paired 71 = .ok (.iload_n 2, 1) := dk_28 (dk_at dksX1_paired_3 3 rfl rfl)
theorem dX1_paired_72 : decode cX1_paired 72 = .ok (.iload 6, 2) := dk_21 6 (dk_at dksX1_paired_3 4 rfl rfl)
theorem dX1_paired_74 : decode cX1_paired 74 = .ok (.ishr, 1) := dk_122 (dk_at dksX1_paired_3 6 rfl rfl)
theorem dX1_paired_75 : decode cX1_paired 75 = .ok (.iconst 1, 1) := dk_4 (dk_at dksX1_paired_3 7 rfl rfl)
theorem dX1_paired_76 : decode cX1_paired 76 = .ok (.iand, 1) := dk_126 (dk_at dksX1_paired_3 8 rfl rfl)
theorem dX1_paired_77 : decode cX1_paired 77 = .ok (.ifCond .ne 51, 3) := dk_154 0 51 (dk_at dksX1_paired_3 9 rfl rfl)
theorem dX1_paired_80 : decode cX1_paired 80 = .ok (.iload 5, 2) := dk_21 5 (dk_at dksX1_paired_3 12 rfl rfl)
theorem dX1_paired_82 : decode cX1_paired 82 = .ok (.aload_n 0, 1) := dk_42 (dk_at dksX1_paired_3 14 rfl rfl)
theorem dX1_paired_83 : decode cX1_paired 83 = .ok (.getfield 29, 3) := dk_180 0 29 (dk_at dksX1_paired_3 15 rfl rfl)
theorem dX1_paired_86 : decode cX1_paired 86 = .ok (.bipush 32, 2) := dk_16 32 (dk_at dksX1_paired_3 18 rfl rfl)
theorem dX1_paired_88 : decode cX1_paired 88 = .ok (.aload_n 0, 1) := dk_42 (dk_at dksX1_paired_3 20 rfl rfl)
theorem dX1_paired_89 : decode cX1_paired 89 = .ok (.getfield 38, 3) := dk_180 0 38 (dk_at dksX1_paired_3 21 rfl rfl)
theorem dX1_paired_92 : decode cX1_paired 92 = .ok (.iload 4, 2) := dk_21 4 (dk_at dksX1_paired_4 0 rfl rfl)
theorem dX1_paired_94 : decode cX1_paired 94 = .ok (.iaload, 1) := dk_46 (dk_at dksX1_paired_4 2 rfl rfl)
theorem dX1_paired_95 : decode cX1_paired 95 = .ok (.imul, 1) := dk_104 (dk_at dksX1_paired_4 3 rfl rfl)
theorem dX1_paired_96 : decode cX1_paired 96 = .ok (.aload_n 0, 1) := dk_42 (dk_at dksX1_paired_4 4 rfl rfl)
theorem dX1_paired_97 : decode cX1_paired 97 = .ok (.getfield 38, 3) := dk_180 0 38 (dk_at dksX1_paired_4 5 rfl rfl)
theorem dX1_paired_100 : decode cX1_paired 100 = .ok (.iload 6, 2) := dk_21 6 (dk_at dksX1_paired_4 8 rfl rfl)
theorem dX1_paired_102 : decode cX1_paired 102 = .ok (.iaload, 1) := dk_46 (dk_at dksX1_paired_4 10 rfl rfl)
theorem dX1_paired_103 : decode cX1_paired 103 = .ok (.iadd, 1) := dk_96 (dk_at dksX1_paired_4 11 rfl rfl)
theorem dX1_paired_104 : decode cX1_paired 104 = .ok (.iaload, 1) := dk_46 (dk_at dksX1_paired_4 12 rfl rfl)
theorem dX1_paired_105 : decode cX1_paired 105 = .ok (.aload_n 0, 1) := dk_42 (dk_at dksX1_paired_4 13 rfl rfl)
theorem dX1_paired_106 : decode cX1_paired 106 = .ok (.iload_n 1, 1) := dk_27 (dk_at dksX1_paired_4 14 rfl rfl)
theorem dX1_paired_107 : decode cX1_paired 107 = .ok (.iload_n 2, 1) := dk_28 (dk_at dksX1_paired_4 15 rfl rfl)
theorem dX1_paired_108 : decode cX1_paired 108 = .ok (.iconst 1, 1) := dk_4 (dk_at dksX1_paired_4 16 rfl rfl)
theorem dX1_paired_109 : decode cX1_paired 109 = .ok (.iload 4, 2) := dk_21 4 (dk_at dksX1_paired_4 17 rfl rfl)
theorem dX1_paired_111 : decode cX1_paired 111 = .ok (.ishl, 1) := dk_120 (dk_at dksX1_paired_4 19 rfl rfl)
theorem dX1_paired_112 : decode cX1_paired 112 = .ok (.ior, 1) := dk_128 (dk_at dksX1_paired_4 20 rfl rfl)
theorem dX1_paired_113 : decode cX1_paired 113 = .ok (.iconst 1, 1) := dk_4 (dk_at dksX1_paired_4 21 rfl rfl)
theorem dX1_paired_114 : decode cX1_paired 114 = .ok (.iload 6, 2) := dk_21 6 (dk_at dksX1_paired_4 22 rfl rfl)
theorem dX1_paired_116 : decode cX1_paired 116 = .ok (.ishl, 1) := dk_120 (dk_at dksX1_paired_5 0 rfl rfl)
theorem dX1_paired_117 : decode cX1_paired 117 = .ok (.ior, 1) := dk_128 (dk_at dksX1_paired_5 1 rfl rfl)
theorem dX1_paired_118 : decode cX1_paired 118 = .ok (.iload_n 3, 1) := dk_29 (dk_at dksX1_paired_5 2 rfl rfl)
theorem dX1_paired_119 : decode cX1_paired 119 = .ok (.invokevirtual 304, 3) := dk_182 1 48 (dk_at dksX1_paired_5 3 rfl rfl)
theorem dX1_paired_122 : decode cX1_paired 122 = .ok (.iadd, 1) := dk_96 (dk_at dksX1_paired_5 6 rfl rfl)
theorem dX1_paired_123 : decode cX1_paired 123 = .ok (.invokestatic 269, 3) := dk_184 1 13 (dk_at dksX1_paired_5 7 rfl rfl)
theorem dX1_paired_126 : decode cX1_paired 126 = .ok (.istore 5, 2) := dk_54 5 (dk_at dksX1_paired_5 10 rfl rfl)
theorem dX1_paired_128 : decode cX1_paired 128 = .ok (.iinc 6 1, 3) := dk_132 6 1 (dk_at dksX1_paired_5 12 rfl rfl)
theorem dX1_paired_131 : decode cX1_paired 131 = .ok (.goto (-66), 3) := dk_167 255 190 (dk_at dksX1_paired_5 15 rfl rfl)
theorem dX1_paired_134 : decode cX1_paired 134 = .ok (.iload 5, 2) := dk_21 5 (dk_at dksX1_paired_5 18 rfl rfl)
theorem dX1_paired_136 : decode cX1_paired 136 = .ok (.ireturn, 1) := dk_172 (dk_at dksX1_paired_5 20 rfl rfl)
abbrev cX1_stock : ByteArray := prog_1_method_44_code
def yX1_stock : MethodName := ⟨RX1, "stock", "(II)Z"⟩
def dkwX1_stock_1 : List UInt8 := [180, 0, 11, 27, 50, 28, 181, 1, 51, 4, 172]
abbrev dktX1_stock_1 : List UInt8 := dkwX1_stock_1 ++ []
def dkwX1_stock_0 : List UInt8 := [42, 27, 182, 1, 23, 153, 0, 15, 28, 133, 9, 20, 0, 80, 184, 0, 74, 154, 0, 5, 3, 172, 42]
abbrev dktX1_stock_0 : List UInt8 := dkwX1_stock_0 ++ dktX1_stock_1
theorem dksX1_stock_0 : cX1_stock.data.toList.drop 0 = dktX1_stock_0 := by decide +kernel
theorem dksX1_stock_1 : cX1_stock.data.toList.drop 23 = dktX1_stock_1 := dk_seg dksX1_stock_0 23 rfl rfl
theorem dX1_stock_0 : decode cX1_stock 0 = .ok (.aload_n 0, 1) := dk_42 (dk_at dksX1_stock_0 0 rfl rfl)
theorem dX1_stock_1 : decode cX1_stock 1 = .ok (.iload_n 1, 1) := dk_27 (dk_at dksX1_stock_0 1 rfl rfl)
theorem dX1_stock_2 : decode cX1_stock 2 = .ok (.invokevirtual 279, 3) := dk_182 1 23 (dk_at dksX1_stock_0 2 rfl rfl)
theorem dX1_stock_5 : decode cX1_stock 5 = .ok (.ifCond .eq 15, 3) := dk_153 0 15 (dk_at dksX1_stock_0 5 rfl rfl)
theorem dX1_stock_8 : decode cX1_stock 8 = .ok (.iload_n 2, 1) := dk_28 (dk_at dksX1_stock_0 8 rfl rfl)
theorem dX1_stock_9 : decode cX1_stock 9 = .ok (.i2l, 1) := dk_133 (dk_at dksX1_stock_0 9 rfl rfl)
theorem dX1_stock_10 : decode cX1_stock 10 = .ok (.lconst 0, 1) := dk_9 (dk_at dksX1_stock_0 10 rfl rfl)
theorem dX1_stock_11 : decode cX1_stock 11 = .ok (.ldc2_w 80, 3) := dk_20 0 80 (dk_at dksX1_stock_0 11 rfl rfl)
theorem dX1_stock_14 : decode cX1_stock 14 = .ok (.invokestatic 74, 3) := dk_184 0 74 (dk_at dksX1_stock_0 14 rfl rfl)
theorem dX1_stock_17 : decode cX1_stock 17 = .ok (.ifCond .ne 5, 3) := dk_154 0 5 (dk_at dksX1_stock_0 17 rfl rfl)
theorem dX1_stock_20 : decode cX1_stock 20 = .ok (.iconst 0, 1) := dk_3 (dk_at dksX1_stock_0 20 rfl rfl)
theorem dX1_stock_21 : decode cX1_stock 21 = .ok (.ireturn, 1) := dk_172 (dk_at dksX1_stock_0 21 rfl rfl)
theorem dX1_stock_22 : decode cX1_stock 22 = .ok (.aload_n 0, 1) := dk_42 (dk_at dksX1_stock_0 22 rfl rfl)
theorem dX1_stock_23 : decode cX1_stock 23 = .ok (.getfield 11, 3) := dk_180 0 11 (dk_at dksX1_stock_1 0 rfl rfl)
theorem dX1_stock_26 : decode cX1_stock 26 = .ok (.iload_n 1, 1) := dk_27 (dk_at dksX1_stock_1 3 rfl rfl)
theorem dX1_stock_27 : decode cX1_stock 27 = .ok (.aaload, 1) := dk_50 (dk_at dksX1_stock_1 4 rfl rfl)
theorem dX1_stock_28 : decode cX1_stock 28 = .ok (.iload_n 2, 1) := dk_28 (dk_at dksX1_stock_1 5 rfl rfl)
theorem dX1_stock_29 : decode cX1_stock 29 = .ok (.putfield 307, 3) := dk_181 1 51 (dk_at dksX1_stock_1 6 rfl rfl)
theorem dX1_stock_32 : decode cX1_stock 32 = .ok (.iconst 1, 1) := dk_4 (dk_at dksX1_stock_1 9 rfl rfl)
theorem dX1_stock_33 : decode cX1_stock 33 = .ok (.ireturn, 1) := dk_172 (dk_at dksX1_stock_1 10 rfl rfl)
abbrev cX1_pace : ByteArray := prog_1_method_45_code
def yX1_pace : MethodName := ⟨RX1, "pace", "(II)Z"⟩
def dkwX1_pace_1 : List UInt8 := [3, 172, 42, 27, 181, 0, 47, 42, 28, 181, 1, 54, 4, 172]
abbrev dktX1_pace_1 : List UInt8 := dkwX1_pace_1 ++ []
def dkwX1_pace_0 : List UInt8 := [27, 133, 10, 20, 0, 78, 184, 0, 74, 153, 0, 15, 28, 133, 9, 20, 0, 78, 184, 0, 74, 154, 0, 5]
abbrev dktX1_pace_0 : List UInt8 := dkwX1_pace_0 ++ dktX1_pace_1
theorem dksX1_pace_0 : cX1_pace.data.toList.drop 0 = dktX1_pace_0 := by decide +kernel
theorem dksX1_pace_1 : cX1_pace.data.toList.drop 24 = dktX1_pace_1 := dk_seg dksX1_pace_0 24 rfl rfl
theorem dX1_pace_0 : decode cX1_pace 0 = .ok (.iload_n 1, 1) := dk_27 (dk_at dksX1_pace_0 0 rfl rfl)
theorem dX1_pace_1 : decode cX1_pace 1 = .ok (.i2l, 1) := dk_133 (dk_at dksX1_pace_0 1 rfl rfl)
theorem dX1_pace_2 : decode cX1_pace 2 = .ok (.lconst 1, 1) := dk_10 (dk_at dksX1_pace_0 2 rfl rfl)
theorem dX1_pace_3 : decode cX1_pace 3 = .ok (.ldc2_w 78, 3) := dk_20 0 78 (dk_at dksX1_pace_0 3 rfl rfl)
theorem dX1_pace_6 : decode cX1_pace 6 = .ok (.invokestatic 74, 3) := dk_184 0 74 (dk_at dksX1_pace_0 6 rfl rfl)
theorem dX1_pace_9 : decode cX1_pace 9 = .ok (.ifCond .eq 15, 3) := dk_153 0 15 (dk_at dksX1_pace_0 9 rfl rfl)
theorem dX1_pace_12 : decode cX1_pace 12 = .ok (.iload_n 2, 1) := dk_28 (dk_at dksX1_pace_0 12 rfl rfl)
theorem dX1_pace_13 : decode cX1_pace 13 = .ok (.i2l, 1) := dk_133 (dk_at dksX1_pace_0 13 rfl rfl)
theorem dX1_pace_14 : decode cX1_pace 14 = .ok (.lconst 0, 1) := dk_9 (dk_at dksX1_pace_0 14 rfl rfl)
theorem dX1_pace_15 : decode cX1_pace 15 = .ok (.ldc2_w 78, 3) := dk_20 0 78 (dk_at dksX1_pace_0 15 rfl rfl)
theorem dX1_pace_18 : decode cX1_pace 18 = .ok (.invokestatic 74, 3) := dk_184 0 74 (dk_at dksX1_pace_0 18 rfl rfl)
theorem dX1_pace_21 : decode cX1_pace 21 = .ok (.ifCond .ne 5, 3) := dk_154 0 5 (dk_at dksX1_pace_0 21 rfl rfl)
theorem dX1_pace_24 : decode cX1_pace 24 = .ok (.iconst 0, 1) := dk_3 (dk_at dksX1_pace_1 0 rfl rfl)
theorem dX1_pace_25 : decode cX1_pace 25 = .ok (.ireturn, 1) := dk_172 (dk_at dksX1_pace_1 1 rfl rfl)
theorem dX1_pace_26 : decode cX1_pace 26 = .ok (.aload_n 0, 1) := dk_42 (dk_at dksX1_pace_1 2 rfl rfl)
theorem dX1_pace_27 : decode cX1_pace 27 = .ok (.iload_n 1, 1) := dk_27 (dk_at dksX1_pace_1 3 rfl rfl)
theorem dX1_pace_28 : decode cX1_pace 28 = .ok (.putfield 47, 3) := dk_181 0 47 (dk_at dksX1_pace_1 4 rfl rfl)
theorem dX1_pace_31 : decode cX1_pace 31 = .ok (.aload_n 0, 1) := dk_42 (dk_at dksX1_pace_1 7 rfl rfl)
theorem dX1_pace_32 : decode cX1_pace 32 = .ok (.iload_n 2, 1) := dk_28 (dk_at dksX1_pace_1 8 rfl rfl)
theorem dX1_pace_33 : decode cX1_pace 33 = .ok (.putfield 310, 3) := dk_181 1 54 (dk_at dksX1_pace_1 9 rfl rfl)
theorem dX1_pace_36 : decode cX1_pace 36 = .ok (.iconst 1, 1) := dk_4 (dk_at dksX1_pace_1 12 rfl rfl)
theorem dX1_pace_37 : decode cX1_pace 37 = .ok (.ireturn, 1) := dk_172 (dk_at dksX1_pace_1 13 rfl rfl)
abbrev cX1_comes : ByteArray := prog_1_method_46_code
def yX1_comes : MethodName := ⟨RX1, "comes", "(III)I"⟩
def dkwX1_comes_3 : List UInt8 := [27, 181, 1, 60, 42, 89, 180, 1, 57, 4, 96, 181, 1, 57, 42, 180, 1, 57, 4, 100, 172]
abbrev dktX1_comes_3 : List UInt8 := dkwX1_comes_3 ++ []
def dkwX1_comes_2 : List UInt8 := [180, 0, 43, 42, 180, 1, 57, 187, 0, 41, 89, 42, 180, 0, 21, 28, 50, 27, 29, 183, 1, 67, 83, 42]
abbrev dktX1_comes_2 : List UInt8 := dkwX1_comes_2 ++ dktX1_comes_3
def dkwX1_comes_1 : List UInt8 := [20, 1, 63, 184, 0, 74, 153, 0, 15, 29, 133, 9, 20, 1, 65, 184, 0, 74, 154, 0, 5, 2, 172, 42]
abbrev dktX1_comes_1 : List UInt8 := dkwX1_comes_1 ++ dktX1_comes_2
def dkwX1_comes_0 : List UInt8 := [42, 180, 1, 57, 16, 30, 159, 0, 39, 42, 28, 182, 0, 134, 153, 0, 31, 27, 133, 42, 180, 1, 60, 133]
abbrev dktX1_comes_0 : List UInt8 := dkwX1_comes_0 ++ dktX1_comes_1
theorem dksX1_comes_0 : cX1_comes.data.toList.drop 0 = dktX1_comes_0 := by decide +kernel
theorem dksX1_comes_1 : cX1_comes.data.toList.drop 24 = dktX1_comes_1 := dk_seg dksX1_comes_0 24 rfl rfl
theorem dksX1_comes_2 : cX1_comes.data.toList.drop 48 = dktX1_comes_2 := dk_seg dksX1_comes_1 24 rfl rfl
theorem dksX1_comes_3 : cX1_comes.data.toList.drop 72 = dktX1_comes_3 := dk_seg dksX1_comes_2 24 rfl rfl
theorem dX1_comes_0 : decode cX1_comes 0 = .ok (.aload_n 0, 1) := dk_42 (dk_at dksX1_comes_0 0 rfl rfl)
theorem dX1_comes_1 : decode cX1_comes 1 = .ok (.getfield 313, 3) := dk_180 1 57 (dk_at dksX1_comes_0 1 rfl rfl)
theorem dX1_comes_4 : decode cX1_comes 4 = .ok (.bipush 30, 2) := dk_16 30 (dk_at dksX1_comes_0 4 rfl rfl)
theorem dX1_comes_6 : decode cX1_comes 6 = .ok (.if_icmp .eq 39, 3) := dk_159 0 39 (dk_at dksX1_comes_0 6 rfl rfl)
theorem dX1_comes_9 : decode cX1_comes 9 = .ok (.aload_n 0, 1) := dk_42 (dk_at dksX1_comes_0 9 rfl rfl)
theorem dX1_comes_10 : decode cX1_comes 10 = .ok (.iload_n 2, 1) := dk_28 (dk_at dksX1_comes_0 10 rfl rfl)
theorem dX1_comes_11 : decode cX1_comes 11 = .ok (.invokevirtual 134, 3) := dk_182 0 134 (dk_at dksX1_comes_0 11 rfl rfl)
theorem dX1_comes_14 : decode cX1_comes 14 = .ok (.ifCond .eq 31, 3) := dk_153 0 31 (dk_at dksX1_comes_0 14 rfl rfl)
theorem dX1_comes_17 : decode cX1_comes 17 = .ok (.iload_n 1, 1) := dk_27 (dk_at dksX1_comes_0 17 rfl rfl)
theorem dX1_comes_18 : decode cX1_comes 18 = .ok (.i2l, 1) := dk_133 (dk_at dksX1_comes_0 18 rfl rfl)
theorem dX1_comes_19 : decode cX1_comes 19 = .ok (.aload_n 0, 1) := dk_42 (dk_at dksX1_comes_0 19 rfl rfl)
theorem dX1_comes_20 : decode cX1_comes 20 = .ok (.getfield 316, 3) := dk_180 1 60 (dk_at dksX1_comes_0 20 rfl rfl)
theorem dX1_comes_23 : decode cX1_comes 23 = .ok (.i2l, 1) := dk_133 (dk_at dksX1_comes_0 23 rfl rfl)
theorem dX1_comes_24 : decode cX1_comes 24 = .ok (.ldc2_w 319, 3) := dk_20 1 63 (dk_at dksX1_comes_1 0 rfl rfl)
theorem dX1_comes_27 : decode cX1_comes 27 = .ok (.invokestatic 74, 3) := dk_184 0 74 (dk_at dksX1_comes_1 3 rfl rfl)
theorem dX1_comes_30 : decode cX1_comes 30 = .ok (.ifCond .eq 15, 3) := dk_153 0 15 (dk_at dksX1_comes_1 6 rfl rfl)
theorem dX1_comes_33 : decode cX1_comes 33 = .ok (.iload_n 3, 1) := dk_29 (dk_at dksX1_comes_1 9 rfl rfl)
theorem dX1_comes_34 : decode cX1_comes 34 = .ok (.i2l, 1) := dk_133 (dk_at dksX1_comes_1 10 rfl rfl)
theorem dX1_comes_35 : decode cX1_comes 35 = .ok (.lconst 0, 1) := dk_9 (dk_at dksX1_comes_1 11 rfl rfl)
theorem dX1_comes_36 : decode cX1_comes 36 = .ok (.ldc2_w 321, 3) := dk_20 1 65 (dk_at dksX1_comes_1 12 rfl rfl)
theorem dX1_comes_39 : decode cX1_comes 39 = .ok (.invokestatic 74, 3) := dk_184 0 74 (dk_at dksX1_comes_1 15 rfl rfl)
theorem dX1_comes_42 : decode cX1_comes 42 = .ok (.ifCond .ne 5, 3) := dk_154 0 5 (dk_at dksX1_comes_1 18 rfl rfl)
theorem dX1_comes_45 : decode cX1_comes 45 = .ok (.iconst (-1), 1) := dk_2 (dk_at dksX1_comes_1 21 rfl rfl)
theorem dX1_comes_46 : decode cX1_comes 46 = .ok (.ireturn, 1) := dk_172 (dk_at dksX1_comes_1 22 rfl rfl)
theorem dX1_comes_47 : decode cX1_comes 47 = .ok (.aload_n 0, 1) := dk_42 (dk_at dksX1_comes_1 23 rfl rfl)
theorem dX1_comes_48 : decode cX1_comes 48 = .ok (.getfield 43, 3) := dk_180 0 43 (dk_at dksX1_comes_2 0 rfl rfl)
theorem dX1_comes_51 : decode cX1_comes 51 = .ok (.aload_n 0, 1) := dk_42 (dk_at dksX1_comes_2 3 rfl rfl)
theorem dX1_comes_52 : decode cX1_comes 52 = .ok (.getfield 313, 3) := dk_180 1 57 (dk_at dksX1_comes_2 4 rfl rfl)
theorem dX1_comes_55 : decode cX1_comes 55 = .ok (.new 41, 3) := dk_187 0 41 (dk_at dksX1_comes_2 7 rfl rfl)
theorem dX1_comes_58 : decode cX1_comes 58 = .ok (.dup, 1) := dk_89 (dk_at dksX1_comes_2 10 rfl rfl)
theorem dX1_comes_59 : decode cX1_comes 59 = .ok (.aload_n 0, 1) := dk_42 (dk_at dksX1_comes_2 11 rfl rfl)
theorem dX1_comes_60 : decode cX1_comes 60 = .ok (.getfield 21, 3) := dk_180 0 21 (dk_at dksX1_comes_2 12 rfl rfl)
theorem dX1_comes_63 : decode cX1_comes 63 = .ok (.iload_n 2, 1) := dk_28 (dk_at dksX1_comes_2 15 rfl rfl)
theorem dX1_comes_64 : decode cX1_comes 64 = .ok (.aaload, 1) := dk_50 (dk_at dksX1_comes_2 16 rfl rfl)
theorem dX1_comes_65 : decode cX1_comes 65 = .ok (.iload_n 1, 1) := dk_27 (dk_at dksX1_comes_2 17 rfl rfl)
theorem dX1_comes_66 : decode cX1_comes 66 = .ok (.iload_n 3, 1) := dk_29 (dk_at dksX1_comes_2 18 rfl rfl)
theorem dX1_comes_67 : decode cX1_comes 67 = .ok (.invokespecial 323, 3) := dk_183 1 67 (dk_at dksX1_comes_2 19 rfl rfl)
theorem dX1_comes_70 : decode cX1_comes 70 = .ok (.aastore, 1) := dk_83 (dk_at dksX1_comes_2 22 rfl rfl)
theorem dX1_comes_71 : decode cX1_comes 71 = .ok (.aload_n 0, 1) := dk_42 (dk_at dksX1_comes_2 23 rfl rfl)
theorem dX1_comes_72 : decode cX1_comes 72 = .ok (.iload_n 1, 1) := dk_27 (dk_at dksX1_comes_3 0 rfl rfl)
theorem dX1_comes_73 : decode cX1_comes 73 = .ok (.putfield 316, 3) := dk_181 1 60 (dk_at dksX1_comes_3 1 rfl rfl)
theorem dX1_comes_76 : decode cX1_comes 76 = .ok (.aload_n 0, 1) := dk_42 (dk_at dksX1_comes_3 4 rfl rfl)
theorem dX1_comes_77 : decode cX1_comes 77 = .ok (.dup, 1) := dk_89 (dk_at dksX1_comes_3 5 rfl rfl)
theorem dX1_comes_78 : decode cX1_comes 78 = .ok (.getfield 313, 3) := dk_180 1 57 (dk_at dksX1_comes_3 6 rfl rfl)
theorem dX1_comes_81 : decode cX1_comes 81 = .ok (.iconst 1, 1) := dk_4 (dk_at dksX1_comes_3 9 rfl rfl)
theorem dX1_comes_82 : decode cX1_comes 82 = .ok (.iadd, 1) := dk_96 (dk_at dksX1_comes_3 10 rfl rfl)
theorem dX1_comes_83 : decode cX1_comes 83 = .ok (.putfield 313, 3) := dk_181 1 57 (dk_at dksX1_comes_3 11 rfl rfl)
theorem dX1_comes_86 : decode cX1_comes 86 = .ok (.aload_n 0, 1) := dk_42 (dk_at dksX1_comes_3 14 rfl rfl)
theorem dX1_comes_87 : decode cX1_comes 87 = .ok (.getfield 313, 3) := dk_180 1 57 (dk_at dksX1_comes_3 15 rfl rfl)
theorem dX1_comes_90 : decode cX1_comes 90 = .ok (.iconst 1, 1) := dk_4 (dk_at dksX1_comes_3 18 rfl rfl)
theorem dX1_comes_91 : decode cX1_comes 91 = .ok (.isub, 1) := dk_100 (dk_at dksX1_comes_3 19 rfl rfl)
theorem dX1_comes_92 : decode cX1_comes 92 = .ok (.ireturn, 1) := dk_172 (dk_at dksX1_comes_3 20 rfl rfl)
abbrev cX1_close : ByteArray := prog_1_method_47_code
def yX1_close : MethodName := ⟨RX1, "close", "()I"⟩
def dkwX1_close_0 : List UInt8 := [42, 180, 1, 57, 60, 42, 3, 181, 1, 57, 42, 3, 181, 1, 70, 42, 3, 181, 1, 60, 27, 172]
abbrev dktX1_close_0 : List UInt8 := dkwX1_close_0 ++ []
theorem dksX1_close_0 : cX1_close.data.toList.drop 0 = dktX1_close_0 := by decide +kernel
theorem dX1_close_0 : decode cX1_close 0 = .ok (.aload_n 0, 1) := dk_42 (dk_at dksX1_close_0 0 rfl rfl)
theorem dX1_close_1 : decode cX1_close 1 = .ok (.getfield 313, 3) := dk_180 1 57 (dk_at dksX1_close_0 1 rfl rfl)
theorem dX1_close_4 : decode cX1_close 4 = .ok (.istore_n 1, 1) := dk_60 (dk_at dksX1_close_0 4 rfl rfl)
theorem dX1_close_5 : decode cX1_close 5 = .ok (.aload_n 0, 1) := dk_42 (dk_at dksX1_close_0 5 rfl rfl)
theorem dX1_close_6 : decode cX1_close 6 = .ok (.iconst 0, 1) := dk_3 (dk_at dksX1_close_0 6 rfl rfl)
theorem dX1_close_7 : decode cX1_close 7 = .ok (.putfield 313, 3) := dk_181 1 57 (dk_at dksX1_close_0 7 rfl rfl)
theorem dX1_close_10 : decode cX1_close 10 = .ok (.aload_n 0, 1) := dk_42 (dk_at dksX1_close_0 10 rfl rfl)
theorem dX1_close_11 : decode cX1_close 11 = .ok (.iconst 0, 1) := dk_3 (dk_at dksX1_close_0 11 rfl rfl)
theorem dX1_close_12 : decode cX1_close 12 = .ok (.putfield 326, 3) := dk_181 1 70 (dk_at dksX1_close_0 12 rfl rfl)
theorem dX1_close_15 : decode cX1_close 15 = .ok (.aload_n 0, 1) := dk_42 (dk_at dksX1_close_0 15 rfl rfl)
theorem dX1_close_16 : decode cX1_close 16 = .ok (.iconst 0, 1) := dk_3 (dk_at dksX1_close_0 16 rfl rfl)
theorem dX1_close_17 : decode cX1_close 17 = .ok (.putfield 316, 3) := dk_181 1 60 (dk_at dksX1_close_0 17 rfl rfl)
theorem dX1_close_20 : decode cX1_close 20 = .ok (.iload_n 1, 1) := dk_27 (dk_at dksX1_close_0 20 rfl rfl)
theorem dX1_close_21 : decode cX1_close 21 = .ok (.ireturn, 1) := dk_172 (dk_at dksX1_close_0 21 rfl rfl)
abbrev cX1_run : ByteArray := prog_1_method_51_code
def yX1_run : MethodName := ⟨RX1, "run", "(J)I"⟩
def dkwX1_run_5 : List UInt8 := [181, 1, 70, 21, 4, 172]
abbrev dktX1_run_5 : List UInt8 := dkwX1_run_5 ++ []
def dkwX1_run_4 : List UInt8 := [154, 0, 7, 4, 167, 0, 4, 3, 96, 54, 4, 132, 5, 1, 167, 255, 198, 42, 42, 180, 1, 57]
abbrev dktX1_run_4 : List UInt8 := dkwX1_run_4 ++ dktX1_run_5
def dkwX1_run_3 : List UInt8 := [180, 0, 43, 21, 5, 50, 180, 1, 86, 62, 21, 4, 42, 180, 0, 43, 21, 5, 50, 180, 1, 117]
abbrev dktX1_run_3 : List UInt8 := dkwX1_run_3 ++ dktX1_run_4
def dkwX1_run_2 : List UInt8 := [54, 5, 21, 5, 42, 180, 1, 57, 162, 0, 55, 42, 42, 180, 0, 43, 21, 5, 50, 29, 182, 1, 124, 42]
abbrev dktX1_run_2 : List UInt8 := dkwX1_run_2 ++ dktX1_run_3
def dkwX1_run_1 : List UInt8 := [180, 0, 11, 29, 50, 180, 1, 51, 181, 1, 76, 132, 3, 1, 167, 255, 227, 3, 62, 3, 54, 4, 3]
abbrev dktX1_run_1 : List UInt8 := dkwX1_run_1 ++ dktX1_run_2
def dkwX1_run_0 : List UInt8 := [42, 31, 181, 1, 91, 3, 62, 29, 42, 180, 0, 67, 162, 0, 27, 42, 180, 0, 11, 29, 50, 42]
abbrev dktX1_run_0 : List UInt8 := dkwX1_run_0 ++ dktX1_run_1
theorem dksX1_run_0 : cX1_run.data.toList.drop 0 = dktX1_run_0 := by decide +kernel
theorem dksX1_run_1 : cX1_run.data.toList.drop 22 = dktX1_run_1 := dk_seg dksX1_run_0 22 rfl rfl
theorem dksX1_run_2 : cX1_run.data.toList.drop 45 = dktX1_run_2 := dk_seg dksX1_run_1 23 rfl rfl
theorem dksX1_run_3 : cX1_run.data.toList.drop 69 = dktX1_run_3 := dk_seg dksX1_run_2 24 rfl rfl
theorem dksX1_run_4 : cX1_run.data.toList.drop 91 = dktX1_run_4 := dk_seg dksX1_run_3 22 rfl rfl
theorem dksX1_run_5 : cX1_run.data.toList.drop 113 = dktX1_run_5 := dk_seg dksX1_run_4 22 rfl rfl
theorem dX1_run_0 : decode cX1_run 0 = .ok (.aload_n 0, 1) := dk_42 (dk_at dksX1_run_0 0 rfl rfl)
theorem dX1_run_1 : decode cX1_run 1 = .ok (.lload_n 1, 1) := dk_31 (dk_at dksX1_run_0 1 rfl rfl)
theorem dX1_run_2 : decode cX1_run 2 = .ok (.putfield 347, 3) := dk_181 1 91 (dk_at dksX1_run_0 2 rfl rfl)
theorem dX1_run_5 : decode cX1_run 5 = .ok (.iconst 0, 1) := dk_3 (dk_at dksX1_run_0 5 rfl rfl)
theorem dX1_run_6 : decode cX1_run 6 = .ok (.istore_n 3, 1) := dk_62 (dk_at dksX1_run_0 6 rfl rfl)
theorem dX1_run_7 : decode cX1_run 7 = .ok (.iload_n 3, 1) := dk_29 (dk_at dksX1_run_0 7 rfl rfl)
theorem dX1_run_8 : decode cX1_run 8 = .ok (.aload_n 0, 1) := dk_42 (dk_at dksX1_run_0 8 rfl rfl)
theorem dX1_run_9 : decode cX1_run 9 = .ok (.getfield 67, 3) := dk_180 0 67 (dk_at dksX1_run_0 9 rfl rfl)
theorem dX1_run_12 : decode cX1_run 12 = .ok (.if_icmp .ge 27, 3) := dk_162 0 27 (dk_at dksX1_run_0 12 rfl rfl)
theorem dX1_run_15 : decode cX1_run 15 = .ok (.aload_n 0, 1) := dk_42 (dk_at dksX1_run_0 15 rfl rfl)
theorem dX1_run_16 : decode cX1_run 16 = .ok (.getfield 11, 3) := dk_180 0 11 (dk_at dksX1_run_0 16 rfl rfl)
theorem dX1_run_19 : decode cX1_run 19 = .ok (.iload_n 3, 1) := dk_29 (dk_at dksX1_run_0 19 rfl rfl)
theorem dX1_run_20 : decode cX1_run 20 = .ok (.aaload, 1) := dk_50 (dk_at dksX1_run_0 20 rfl rfl)
theorem dX1_run_21 : decode cX1_run 21 = .ok (.aload_n 0, 1) := dk_42 (dk_at dksX1_run_0 21 rfl rfl)
theorem dX1_run_22 : decode cX1_run 22 = .ok (.getfield 11, 3) := dk_180 0 11 (dk_at dksX1_run_1 0 rfl rfl)
theorem dX1_run_25 : decode cX1_run 25 = .ok (.iload_n 3, 1) := dk_29 (dk_at dksX1_run_1 3 rfl rfl)
theorem dX1_run_26 : decode cX1_run 26 = .ok (.aaload, 1) := dk_50 (dk_at dksX1_run_1 4 rfl rfl)
theorem dX1_run_27 : decode cX1_run 27 = .ok (.getfield 307, 3) := dk_180 1 51 (dk_at dksX1_run_1 5 rfl rfl)
theorem dX1_run_30 : decode cX1_run 30 = .ok (.putfield 332, 3) := dk_181 1 76 (dk_at dksX1_run_1 8 rfl rfl)
theorem dX1_run_33 : decode cX1_run 33 = .ok (.iinc 3 1, 3) := dk_132 3 1 (dk_at dksX1_run_1 11 rfl rfl)
theorem dX1_run_36 : decode cX1_run 36 = .ok (.goto (-29), 3) := dk_167 255 227 (dk_at dksX1_run_1 14 rfl rfl)
theorem dX1_run_39 : decode cX1_run 39 = .ok (.iconst 0, 1) := dk_3 (dk_at dksX1_run_1 17 rfl rfl)
theorem dX1_run_40 : decode cX1_run 40 = .ok (.istore_n 3, 1) := dk_62 (dk_at dksX1_run_1 18 rfl rfl)
theorem dX1_run_41 : decode cX1_run 41 = .ok (.iconst 0, 1) := dk_3 (dk_at dksX1_run_1 19 rfl rfl)
theorem dX1_run_42 : decode cX1_run 42 = .ok (.istore 4, 2) := dk_54 4 (dk_at dksX1_run_1 20 rfl rfl)
theorem dX1_run_44 : decode cX1_run 44 = .ok (.iconst 0, 1) := dk_3 (dk_at dksX1_run_1 22 rfl rfl)
theorem dX1_run_45 : decode cX1_run 45 = .ok (.istore 5, 2) := dk_54 5 (dk_at dksX1_run_2 0 rfl rfl)
theorem dX1_run_47 : decode cX1_run 47 = .ok (.iload 5, 2) := dk_21 5 (dk_at dksX1_run_2 2 rfl rfl)
theorem dX1_run_49 : decode cX1_run 49 = .ok (.aload_n 0, 1) := dk_42 (dk_at dksX1_run_2 4 rfl rfl)
theorem dX1_run_50 : decode cX1_run 50 = .ok (.getfield 313, 3) := dk_180 1 57 (dk_at dksX1_run_2 5 rfl rfl)
theorem dX1_run_53 : decode cX1_run 53 = .ok (.if_icmp .ge 55, 3) := dk_162 0 55 (dk_at dksX1_run_2 8 rfl rfl)
theorem dX1_run_56 : decode cX1_run 56 = .ok (.aload_n 0, 1) := dk_42 (dk_at dksX1_run_2 11 rfl rfl)
theorem dX1_run_57 : decode cX1_run 57 = .ok (.aload_n 0, 1) := dk_42 (dk_at dksX1_run_2 12 rfl rfl)
theorem dX1_run_58 : decode cX1_run 58 = .ok (.getfield 43, 3) := dk_180 0 43 (dk_at dksX1_run_2 13 rfl rfl)
theorem dX1_run_61 : decode cX1_run 61 = .ok (.iload 5, 2) := dk_21 5 (dk_at dksX1_run_2 16 rfl rfl)
theorem dX1_run_63 : decode cX1_run 63 = .ok (.aaload, 1) := dk_50 (dk_at dksX1_run_2 18 rfl rfl)
theorem dX1_run_64 : decode cX1_run 64 = .ok (.iload_n 3, 1) := dk_29 (dk_at dksX1_run_2 19 rfl rfl)
theorem dX1_run_65 : decode cX1_run 65 = .ok (.invokevirtual 380, 3) := dk_182 1 124 (dk_at dksX1_run_2 20 rfl rfl)
theorem dX1_run_68 : decode cX1_run 68 = .ok (.aload_n 0, 1) := dk_42 (dk_at dksX1_run_2 23 rfl rfl)
theorem dX1_run_69 : decode cX1_run 69 = .ok (.getfield 43, 3) := dk_180 0 43 (dk_at dksX1_run_3 0 rfl rfl)
theorem dX1_run_72 : decode cX1_run 72 = .ok (.iload 5, 2) := dk_21 5 (dk_at dksX1_run_3 3 rfl rfl)
theorem dX1_run_74 : decode cX1_run 74 = .ok (.aaload, 1) := dk_50 (dk_at dksX1_run_3 5 rfl rfl)
theorem dX1_run_75 : decode cX1_run 75 = .ok (.getfield 342, 3) := dk_180 1 86 (dk_at dksX1_run_3 6 rfl rfl)
theorem dX1_run_78 : decode cX1_run 78 = .ok (.istore_n 3, 1) := dk_62 (dk_at dksX1_run_3 9 rfl rfl)
theorem dX1_run_79 : decode cX1_run 79 = .ok (.iload 4, 2) := dk_21 4 (dk_at dksX1_run_3 10 rfl rfl)
theorem dX1_run_81 : decode cX1_run 81 = .ok (.aload_n 0, 1) := dk_42 (dk_at dksX1_run_3 12 rfl rfl)
theorem dX1_run_82 : decode cX1_run 82 = .ok (.getfield 43, 3) := dk_180 0 43 (dk_at dksX1_run_3 13 rfl rfl)
theorem dX1_run_85 : decode cX1_run 85 = .ok (.iload 5, 2) := dk_21 5 (dk_at dksX1_run_3 16 rfl rfl)
theorem dX1_run_87 : decode cX1_run 87 = .ok (.aaload, 1) := dk_50 (dk_at dksX1_run_3 18 rfl rfl)
theorem dX1_run_88 : decode cX1_run 88 = .ok (.getfield 373, 3) := dk_180 1 117 (dk_at dksX1_run_3 19 rfl rfl)
theorem dX1_run_91 : decode cX1_run 91 = .ok (.ifCond .ne 7, 3) := dk_154 0 7 (dk_at dksX1_run_4 0 rfl rfl)
theorem dX1_run_94 : decode cX1_run 94 = .ok (.iconst 1, 1) := dk_4 (dk_at dksX1_run_4 3 rfl rfl)
theorem dX1_run_95 : decode cX1_run 95 = .ok (.goto 4, 3) := dk_167 0 4 (dk_at dksX1_run_4 4 rfl rfl)
theorem dX1_run_98 : decode cX1_run 98 = .ok (.iconst 0, 1) := dk_3 (dk_at dksX1_run_4 7 rfl rfl)
theorem dX1_run_99 : decode cX1_run 99 = .ok (.iadd, 1) := dk_96 (dk_at dksX1_run_4 8 rfl rfl)
theorem dX1_run_100 : decode cX1_run 100 = .ok (.istore 4, 2) := dk_54 4 (dk_at dksX1_run_4 9 rfl rfl)
theorem dX1_run_102 : decode cX1_run 102 = .ok (.iinc 5 1, 3) := dk_132 5 1 (dk_at dksX1_run_4 11 rfl rfl)
theorem dX1_run_105 : decode cX1_run 105 = .ok (.goto (-58), 3) := dk_167 255 198 (dk_at dksX1_run_4 14 rfl rfl)
theorem dX1_run_108 : decode cX1_run 108 = .ok (.aload_n 0, 1) := dk_42 (dk_at dksX1_run_4 17 rfl rfl)
theorem dX1_run_109 : decode cX1_run 109 = .ok (.aload_n 0, 1) := dk_42 (dk_at dksX1_run_4 18 rfl rfl)
theorem dX1_run_110 : decode cX1_run 110 = .ok (.getfield 313, 3) := dk_180 1 57 (dk_at dksX1_run_4 19 rfl rfl)
theorem dX1_run_113 : decode cX1_run 113 = .ok (.putfield 326, 3) := dk_181 1 70 (dk_at dksX1_run_5 0 rfl rfl)
theorem dX1_run_116 : decode cX1_run 116 = .ok (.iload 4, 2) := dk_21 4 (dk_at dksX1_run_5 3 rfl rfl)
theorem dX1_run_118 : decode cX1_run 118 = .ok (.ireturn, 1) := dk_172 (dk_at dksX1_run_5 5 rfl rfl)
abbrev cX1_serves : ByteArray := prog_1_method_50_code
def yX1_serves : MethodName := ⟨RX1, "serves", "(LBalloonStall$Guest;I)V"⟩
def dkwX1_serves_4 : List UInt8 := [154, 0, 8, 43, 6, 181, 1, 117, 132, 3, 1, 167, 255, 221, 177]
abbrev dktX1_serves_4 : List UInt8 := dkwX1_serves_4 ++ []
def dkwX1_serves_3 : List UInt8 := [180, 1, 79, 180, 0, 144, 162, 0, 30, 43, 180, 1, 117, 154, 0, 23, 42, 43, 29, 182, 1, 120]
abbrev dktX1_serves_3 : List UInt8 := dkwX1_serves_3 ++ dktX1_serves_4
def dkwX1_serves_2 : List UInt8 := [42, 43, 180, 1, 79, 182, 1, 113, 154, 0, 7, 5, 167, 0, 4, 3, 181, 1, 117, 3, 62, 29, 43]
abbrev dktX1_serves_2 : List UInt8 := dkwX1_serves_2 ++ dktX1_serves_3
def dkwX1_serves_1 : List UInt8 := [181, 1, 83, 43, 43, 180, 1, 107, 43, 180, 1, 104, 100, 43, 180, 1, 110, 164, 0, 7, 4, 167, 0, 19]
abbrev dktX1_serves_1 : List UInt8 := dkwX1_serves_1 ++ dktX1_serves_2
def dkwX1_serves_0 : List UInt8 := [43, 28, 43, 180, 1, 104, 184, 0, 197, 181, 1, 107, 43, 43, 180, 1, 107, 181, 1, 86, 43, 3]
abbrev dktX1_serves_0 : List UInt8 := dkwX1_serves_0 ++ dktX1_serves_1
theorem dksX1_serves_0 : cX1_serves.data.toList.drop 0 = dktX1_serves_0 := by decide +kernel
theorem dksX1_serves_1 : cX1_serves.data.toList.drop 22 = dktX1_serves_1 := dk_seg dksX1_serves_0 22 rfl rfl
theorem dksX1_serves_2 : cX1_serves.data.toList.drop 46 = dktX1_serves_2 := dk_seg dksX1_serves_1 24 rfl rfl
theorem dksX1_serves_3 : cX1_serves.data.toList.drop 69 = dktX1_serves_3 := dk_seg dksX1_serves_2 23 rfl rfl
theorem dksX1_serves_4 : cX1_serves.data.toList.drop 91 = dktX1_serves_4 := dk_seg dksX1_serves_3 22 rfl rfl
theorem dX1_serves_0 : decode cX1_serves 0 = .ok (.aload_n 1, 1) := dk_43 (dk_at dksX1_serves_0 0 rfl rfl)
theorem dX1_serves_1 : decode cX1_serves 1 = .ok (.iload_n 2, 1) := dk_28 (dk_at dksX1_serves_0 1 rfl rfl)
theorem dX1_serves_2 : decode cX1_serves 2 = .ok (.aload_n 1, 1) := dk_43 (dk_at dksX1_serves_0 2 rfl rfl)
theorem dX1_serves_3 : decode cX1_serves 3 = .ok (.getfield 360, 3) := dk_180 1 104 (dk_at dksX1_serves_0 3 rfl rfl)
theorem dX1_serves_6 : decode cX1_serves 6 = .ok (.invokestatic 197, 3) := dk_184 0 197 (dk_at dksX1_serves_0 6 rfl rfl)
theorem dX1_serves_9 : decode cX1_serves 9 = .ok (.putfield 363, 3) := dk_181 1 107 (dk_at dksX1_serves_0 9 rfl rfl)
theorem dX1_serves_12 : decode cX1_serves 12 = .ok (.aload_n 1, 1) := dk_43 (dk_at dksX1_serves_0 12 rfl rfl)
theorem dX1_serves_13 : decode cX1_serves 13 = .ok (.aload_n 1, 1) := dk_43 (dk_at dksX1_serves_0 13 rfl rfl)
theorem dX1_serves_14 : decode cX1_serves 14 = .ok (.getfield 363, 3) := dk_180 1 107 (dk_at dksX1_serves_0 14 rfl rfl)
theorem dX1_serves_17 : decode cX1_serves 17 = .ok (.putfield 342, 3) := dk_181 1 86 (dk_at dksX1_serves_0 17 rfl rfl)
theorem dX1_serves_20 : decode cX1_serves 20 = .ok (.aload_n 1, 1) := dk_43 (dk_at dksX1_serves_0 20 rfl rfl)
theorem dX1_serves_21 : decode cX1_serves 21 = .ok (.iconst 0, 1) := dk_3 (dk_at dksX1_serves_0 21 rfl rfl)
theorem dX1_serves_22 : decode cX1_serves 22 = .ok (.putfield 339, 3) := dk_181 1 83 (dk_at dksX1_serves_1 0 rfl rfl)
theorem dX1_serves_25 : decode cX1_serves 25 = .ok (.aload_n 1, 1) := dk_43 (dk_at dksX1_serves_1 3 rfl rfl)
theorem dX1_serves_26 : decode cX1_serves 26 = .ok (.aload_n 1, 1) := dk_43 (dk_at dksX1_serves_1 4 rfl rfl)
theorem dX1_serves_27 : decode cX1_serves 27 = .ok (.getfield 363, 3) := dk_180 1 107 (dk_at dksX1_serves_1 5 rfl rfl)
theorem dX1_serves_30 : decode cX1_serves 30 = .ok (.aload_n 1, 1) := dk_43 (dk_at dksX1_serves_1 8 rfl rfl)
theorem dX1_serves_31 : decode cX1_serves 31 = .ok (.getfield 360, 3) := dk_180 1 104 (dk_at dksX1_serves_1 9 rfl rfl)
theorem dX1_serves_34 : decode cX1_serves 34 = .ok (.isub, 1) := dk_100 (dk_at dksX1_serves_1 12 rfl rfl)
theorem dX1_serves_35 : decode cX1_serves 35 = .ok (.aload_n 1, 1) := dk_43 (dk_at dksX1_serves_1 13 rfl rfl)
theorem dX1_serves_36 : decode cX1_serves 36 = .ok (.getfield 366, 3) := dk_180 1 110 (dk_at dksX1_serves_1 14 rfl rfl)
theorem dX1_serves_39 : decode cX1_serves 39 = .ok (.if_icmp .le 7, 3) := dk_164 0 7 (dk_at dksX1_serves_1 17 rfl rfl)
theorem dX1_serves_42 : decode cX1_serves 42 = .ok (.iconst 1, 1) := dk_4 (dk_at dksX1_serves_1 20 rfl rfl)
theorem dX1_serves_43 : decode cX1_serves 43 = .ok (.goto 19, 3) := dk_167 0 19 (dk_at dksX1_serves_1 21 rfl rfl)
theorem dX1_serves_46 : decode cX1_serves 46 = .ok (.aload_n 0, 1) := dk_42 (dk_at dksX1_serves_2 0 rfl rfl)
theorem dX1_serves_47 : decode cX1_serves 47 = .ok (.aload_n 1, 1) := dk_43 (dk_at dksX1_serves_2 1 rfl rfl)
theorem dX1_serves_48 : decode cX1_serves 48 = .ok (.getfield 335, 3) := dk_180 1 79 (dk_at dksX1_serves_2 2 rfl rfl)
theorem dX1_serves_51 : decode cX1_serves 51 = .ok (.invokevirtual 369, 3) := dk_182 1 113 (dk_at dksX1_serves_2 5 rfl rfl)
theorem dX1_serves_54 : decode cX1_serves 54 = .ok (.ifCond .ne 7, 3) := dk_154 0 7 (dk_at dksX1_serves_2 8 rfl rfl)
theorem dX1_serves_57 : decode cX1_serves 57 = .ok (.iconst 2, 1) := dk_5 (dk_at dksX1_serves_2 11 rfl rfl)
theorem dX1_serves_58 : decode cX1_serves 58 = .ok (.goto 4, 3) := dk_167 0 4 (dk_at dksX1_serves_2 12 rfl rfl)
theorem dX1_serves_61 : decode cX1_serves 61 = .ok (.iconst 0, 1) := dk_3 (dk_at dksX1_serves_2 15 rfl rfl)
theorem dX1_serves_62 : decode cX1_serves 62 = .ok (.putfield 373, 3) := dk_181 1 117 (dk_at dksX1_serves_2 16 rfl rfl)
theorem dX1_serves_65 : decode cX1_serves 65 = .ok (.iconst 0, 1) := dk_3 (dk_at dksX1_serves_2 19 rfl rfl)
theorem dX1_serves_66 : decode cX1_serves 66 = .ok (.istore_n 3, 1) := dk_62 (dk_at dksX1_serves_2 20 rfl rfl)
theorem dX1_serves_67 : decode cX1_serves 67 = .ok (.iload_n 3, 1) := dk_29 (dk_at dksX1_serves_2 21 rfl rfl)
theorem dX1_serves_68 : decode cX1_serves 68 = .ok (.aload_n 1, 1) := dk_43 (dk_at dksX1_serves_2 22 rfl rfl)
theorem dX1_serves_69 : decode cX1_serves 69 = .ok (.getfield 335, 3) := dk_180 1 79 (dk_at dksX1_serves_3 0 rfl rfl)
theorem dX1_serves_72 : decode cX1_serves 72 = .ok (.getfield 144, 3) := dk_180 0 144 (dk_at dksX1_serves_3 3 rfl rfl)
theorem dX1_serves_75 : decode cX1_serves 75 = .ok (.if_icmp .ge 30, 3) := dk_162 0 30 (dk_at dksX1_serves_3 6 rfl rfl)
theorem dX1_serves_78 : decode cX1_serves 78 = .ok (.aload_n 1, 1) := dk_43 (dk_at dksX1_serves_3 9 rfl rfl)
theorem dX1_serves_79 : decode cX1_serves 79 = .ok (.getfield 373, 3) := dk_180 1 117 (dk_at dksX1_serves_3 10 rfl rfl)
theorem dX1_serves_82 : decode cX1_serves 82 = .ok (.ifCond .ne 23, 3) := dk_154 0 23 (dk_at dksX1_serves_3 13 rfl rfl)
theorem dX1_serves_85 : decode cX1_serves 85 = .ok (.aload_n 0, 1) := dk_42 (dk_at dksX1_serves_3 16 rfl rfl)
theorem dX1_serves_86 : decode cX1_serves 86 = .ok (.aload_n 1, 1) := dk_43 (dk_at dksX1_serves_3 17 rfl rfl)
theorem dX1_serves_87 : decode cX1_serves 87 = .ok (.iload_n 3, 1) := dk_29 (dk_at dksX1_serves_3 18 rfl rfl)
theorem dX1_serves_88 : decode cX1_serves 88 = .ok (.invokevirtual 376, 3) := dk_182 1 120 (dk_at dksX1_serves_3 19 rfl rfl)
theorem dX1_serves_91 : decode cX1_serves 91 = .ok (.ifCond .ne 8, 3) := dk_154 0 8 (dk_at dksX1_serves_4 0 rfl rfl)
theorem dX1_serves_94 : decode cX1_serves 94 = .ok (.aload_n 1, 1) := dk_43 (dk_at dksX1_serves_4 3 rfl rfl)
theorem dX1_serves_95 : decode cX1_serves 95 = .ok (.iconst 3, 1) := dk_6 (dk_at dksX1_serves_4 4 rfl rfl)
theorem dX1_serves_96 : decode cX1_serves 96 = .ok (.putfield 373, 3) := dk_181 1 117 (dk_at dksX1_serves_4 5 rfl rfl)
theorem dX1_serves_99 : decode cX1_serves 99 = .ok (.iinc 3 1, 3) := dk_132 3 1 (dk_at dksX1_serves_4 8 rfl rfl)
theorem dX1_serves_102 : decode cX1_serves 102 = .ok (.goto (-35), 3) := dk_167 255 221 (dk_at dksX1_serves_4 11 rfl rfl)
theorem dX1_serves_105 : decode cX1_serves 105 = .ok (.return_, 1) := dk_177 (dk_at dksX1_serves_4 14 rfl rfl)
abbrev cX1_hasFor : ByteArray := prog_1_method_48_code
def yX1_hasFor : MethodName := ⟨RX1, "hasFor", "(LBalloonStall$Figure;)Z"⟩
def dkwX1_hasFor_4 : List UInt8 := [3, 172, 132, 2, 1, 167, 255, 222, 4, 172]
abbrev dktX1_hasFor_4 : List UInt8 := dkwX1_hasFor_4 ++ []
def dkwX1_hasFor_3 : List UInt8 := [162, 0, 32, 42, 180, 0, 11, 28, 50, 180, 1, 76, 42, 180, 0, 11, 28, 50, 180, 1, 73, 162, 0, 5]
abbrev dktX1_hasFor_3 : List UInt8 := dkwX1_hasFor_3 ++ dktX1_hasFor_4
def dkwX1_hasFor_2 : List UInt8 := [89, 180, 1, 73, 4, 96, 181, 1, 73, 132, 2, 1, 167, 255, 225, 3, 61, 28, 42, 180, 0, 67]
abbrev dktX1_hasFor_2 : List UInt8 := dkwX1_hasFor_2 ++ dktX1_hasFor_3
def dkwX1_hasFor_1 : List UInt8 := [167, 255, 235, 3, 61, 28, 43, 180, 0, 144, 162, 0, 29, 42, 180, 0, 11, 43, 180, 0, 178, 28, 46, 50]
abbrev dktX1_hasFor_1 : List UInt8 := dkwX1_hasFor_1 ++ dktX1_hasFor_2
def dkwX1_hasFor_0 : List UInt8 := [3, 61, 28, 42, 180, 0, 67, 162, 0, 19, 42, 180, 0, 11, 28, 50, 3, 181, 1, 73, 132, 2, 1]
abbrev dktX1_hasFor_0 : List UInt8 := dkwX1_hasFor_0 ++ dktX1_hasFor_1
theorem dksX1_hasFor_0 : cX1_hasFor.data.toList.drop 0 = dktX1_hasFor_0 := by decide +kernel
theorem dksX1_hasFor_1 : cX1_hasFor.data.toList.drop 23 = dktX1_hasFor_1 := dk_seg dksX1_hasFor_0 23 rfl rfl
theorem dksX1_hasFor_2 : cX1_hasFor.data.toList.drop 47 = dktX1_hasFor_2 := dk_seg dksX1_hasFor_1 24 rfl rfl
theorem dksX1_hasFor_3 : cX1_hasFor.data.toList.drop 69 = dktX1_hasFor_3 := dk_seg dksX1_hasFor_2 22 rfl rfl
theorem dksX1_hasFor_4 : cX1_hasFor.data.toList.drop 93 = dktX1_hasFor_4 := dk_seg dksX1_hasFor_3 24 rfl rfl
theorem dX1_hasFor_0 : decode cX1_hasFor 0 = .ok (.iconst 0, 1) := dk_3 (dk_at dksX1_hasFor_0 0 rfl rfl)
theorem dX1_hasFor_1 : decode cX1_hasFor 1 = .ok (.istore_n 2, 1) := dk_61 (dk_at dksX1_hasFor_0 1 rfl rfl)
theorem dX1_hasFor_2 : decode cX1_hasFor 2 = .ok (.iload_n 2, 1) := dk_28 (dk_at dksX1_hasFor_0 2 rfl rfl)
theorem dX1_hasFor_3 : decode cX1_hasFor 3 = .ok (.aload_n 0, 1) := dk_42 (dk_at dksX1_hasFor_0 3 rfl rfl)
theorem dX1_hasFor_4 : decode cX1_hasFor 4 = .ok (.getfield 67, 3) := dk_180 0 67 (dk_at dksX1_hasFor_0 4 rfl rfl)
theorem dX1_hasFor_7 : decode cX1_hasFor 7 = .ok (.if_icmp .ge 19, 3) := dk_162 0 19 (dk_at dksX1_hasFor_0 7 rfl rfl)
theorem dX1_hasFor_10 : decode cX1_hasFor 10 = .ok (.aload_n 0, 1) := dk_42 (dk_at dksX1_hasFor_0 10 rfl rfl)
theorem dX1_hasFor_11 : decode cX1_hasFor 11 = .ok (.getfield 11, 3) := dk_180 0 11 (dk_at dksX1_hasFor_0 11 rfl rfl)
theorem dX1_hasFor_14 : decode cX1_hasFor 14 = .ok (.iload_n 2, 1) := dk_28 (dk_at dksX1_hasFor_0 14 rfl rfl)
theorem dX1_hasFor_15 : decode cX1_hasFor 15 = .ok (.aaload, 1) := dk_50 (dk_at dksX1_hasFor_0 15 rfl rfl)
theorem dX1_hasFor_16 : decode cX1_hasFor 16 = .ok (.iconst 0, 1) := dk_3 (dk_at dksX1_hasFor_0 16 rfl rfl)
theorem dX1_hasFor_17 : decode cX1_hasFor 17 = .ok (.putfield 329, 3) := dk_181 1 73 (dk_at dksX1_hasFor_0 17 rfl rfl)
theorem dX1_hasFor_20 : decode cX1_hasFor 20 = .ok (.iinc 2 1, 3) := dk_132 2 1 (dk_at dksX1_hasFor_0 20 rfl rfl)
theorem dX1_hasFor_23 : decode cX1_hasFor 23 = .ok (.goto (-21), 3) := dk_167 255 235 (dk_at dksX1_hasFor_1 0 rfl rfl)
theorem dX1_hasFor_26 : decode cX1_hasFor 26 = .ok (.iconst 0, 1) := dk_3 (dk_at dksX1_hasFor_1 3 rfl rfl)
theorem dX1_hasFor_27 : decode cX1_hasFor 27 = .ok (.istore_n 2, 1) := dk_61 (dk_at dksX1_hasFor_1 4 rfl rfl)
theorem dX1_hasFor_28 : decode cX1_hasFor 28 = .ok (.iload_n 2, 1) := dk_28 (dk_at dksX1_hasFor_1 5 rfl rfl)
theorem dX1_hasFor_29 : decode cX1_hasFor 29 = .ok (.aload_n 1, 1) := dk_43 (dk_at dksX1_hasFor_1 6 rfl rfl)
theorem dX1_hasFor_30 : decode cX1_hasFor 30 = .ok (.getfield 144, 3) := dk_180 0 144 (dk_at dksX1_hasFor_1 7 rfl rfl)
theorem dX1_hasFor_33 : decode cX1_hasFor 33 = .ok (.if_icmp .ge 29, 3) := dk_162 0 29 (dk_at dksX1_hasFor_1 10 rfl rfl)
theorem dX1_hasFor_36 : decode cX1_hasFor 36 = .ok (.aload_n 0, 1) := dk_42 (dk_at dksX1_hasFor_1 13 rfl rfl)
theorem dX1_hasFor_37 : decode cX1_hasFor 37 = .ok (.getfield 11, 3) := dk_180 0 11 (dk_at dksX1_hasFor_1 14 rfl rfl)
theorem dX1_hasFor_40 : decode cX1_hasFor 40 = .ok (.aload_n 1, 1) := dk_43 (dk_at dksX1_hasFor_1 17 rfl rfl)
theorem dX1_hasFor_41 : decode cX1_hasFor 41 = .ok (.getfield 178, 3) := dk_180 0 178 (dk_at dksX1_hasFor_1 18 rfl rfl)
theorem dX1_hasFor_44 : decode cX1_hasFor 44 = .ok (.iload_n 2, 1) := dk_28 (dk_at dksX1_hasFor_1 21 rfl rfl)
theorem dX1_hasFor_45 : decode cX1_hasFor 45 = .ok (.iaload, 1) := dk_46 (dk_at dksX1_hasFor_1 22 rfl rfl)
theorem dX1_hasFor_46 : decode cX1_hasFor 46 = .ok (.aaload, 1) := dk_50 (dk_at dksX1_hasFor_1 23 rfl rfl)
theorem dX1_hasFor_47 : decode cX1_hasFor 47 = .ok (.dup, 1) := dk_89 (dk_at dksX1_hasFor_2 0 rfl rfl)
theorem dX1_hasFor_48 : decode cX1_hasFor 48 = .ok (.getfield 329, 3) := dk_180 1 73 (dk_at dksX1_hasFor_2 1 rfl rfl)
theorem dX1_hasFor_51 : decode cX1_hasFor 51 = .ok (.iconst 1, 1) := dk_4 (dk_at dksX1_hasFor_2 4 rfl rfl)
theorem dX1_hasFor_52 : decode cX1_hasFor 52 = .ok (.iadd, 1) := dk_96 (dk_at dksX1_hasFor_2 5 rfl rfl)
theorem dX1_hasFor_53 : decode cX1_hasFor 53 = .ok (.putfield 329, 3) := dk_181 1 73 (dk_at dksX1_hasFor_2 6 rfl rfl)
theorem dX1_hasFor_56 : decode cX1_hasFor 56 = .ok (.iinc 2 1, 3) := dk_132 2 1 (dk_at dksX1_hasFor_2 9 rfl rfl)
theorem dX1_hasFor_59 : decode cX1_hasFor 59 = .ok (.goto (-31), 3) := dk_167 255 225 (dk_at dksX1_hasFor_2 12 rfl rfl)
theorem dX1_hasFor_62 : decode cX1_hasFor 62 = .ok (.iconst 0, 1) := dk_3 (dk_at dksX1_hasFor_2 15 rfl rfl)
theorem dX1_hasFor_63 : decode cX1_hasFor 63 = .ok (.istore_n 2, 1) := dk_61 (dk_at dksX1_hasFor_2 16 rfl rfl)
theorem dX1_hasFor_64 : decode cX1_hasFor 64 = .ok (.iload_n 2, 1) := dk_28 (dk_at dksX1_hasFor_2 17 rfl rfl)
theorem dX1_hasFor_65 : decode cX1_hasFor 65 = .ok (.aload_n 0, 1) := dk_42 (dk_at dksX1_hasFor_2 18 rfl rfl)
theorem dX1_hasFor_66 : decode cX1_hasFor 66 = .ok (.getfield 67, 3) := dk_180 0 67 (dk_at dksX1_hasFor_2 19 rfl rfl)
theorem dX1_hasFor_69 : decode cX1_hasFor 69 = .ok (.if_icmp .ge 32, 3) := dk_162 0 32 (dk_at dksX1_hasFor_3 0 rfl rfl)
theorem dX1_hasFor_72 : decode cX1_hasFor 72 = .ok (.aload_n 0, 1) := dk_42 (dk_at dksX1_hasFor_3 3 rfl rfl)
theorem dX1_hasFor_73 : decode cX1_hasFor 73 = .ok (.getfield 11, 3) := dk_180 0 11 (dk_at dksX1_hasFor_3 4 rfl rfl)
theorem dX1_hasFor_76 : decode cX1_hasFor 76 = .ok (.iload_n 2, 1) := dk_28 (dk_at dksX1_hasFor_3 7 rfl rfl)
theorem dX1_hasFor_77 : decode cX1_hasFor 77 = .ok (.aaload, 1) := dk_50 (dk_at dksX1_hasFor_3 8 rfl rfl)
theorem dX1_hasFor_78 : decode cX1_hasFor 78 = .ok (.getfield 332, 3) := dk_180 1 76 (dk_at dksX1_hasFor_3 9 rfl rfl)
theorem dX1_hasFor_81 : decode cX1_hasFor 81 = .ok (.aload_n 0, 1) := dk_42 (dk_at dksX1_hasFor_3 12 rfl rfl)
theorem dX1_hasFor_82 : decode cX1_hasFor 82 = .ok (.getfield 11, 3) := dk_180 0 11 (dk_at dksX1_hasFor_3 13 rfl rfl)
theorem dX1_hasFor_85 : decode cX1_hasFor 85 = .ok (.iload_n 2, 1) := dk_28 (dk_at dksX1_hasFor_3 16 rfl rfl)
theorem dX1_hasFor_86 : decode cX1_hasFor 86 = .ok (.aaload, 1) := dk_50 (dk_at dksX1_hasFor_3 17 rfl rfl)
theorem dX1_hasFor_87 : decode cX1_hasFor 87 = .ok (.getfield 329, 3) := dk_180 1 73 (dk_at dksX1_hasFor_3 18 rfl rfl)
theorem dX1_hasFor_90 : decode cX1_hasFor 90 = .ok (.if_icmp .ge 5, 3) := dk_162 0 5 (dk_at dksX1_hasFor_3 21 rfl rfl)
theorem dX1_hasFor_93 : decode cX1_hasFor 93 = .ok (.iconst 0, 1) := dk_3 (dk_at dksX1_hasFor_4 0 rfl rfl)
theorem dX1_hasFor_94 : decode cX1_hasFor 94 = .ok (.ireturn, 1) := dk_172 (dk_at dksX1_hasFor_4 1 rfl rfl)
theorem dX1_hasFor_95 : decode cX1_hasFor 95 = .ok (.iinc 2 1, 3) := dk_132 2 1 (dk_at dksX1_hasFor_4 2 rfl rfl)
theorem dX1_hasFor_98 : decode cX1_hasFor 98 = .ok (.goto (-34), 3) := dk_167 255 222 (dk_at dksX1_hasFor_4 5 rfl rfl)
theorem dX1_hasFor_101 : decode cX1_hasFor 101 = .ok (.iconst 1, 1) := dk_4 (dk_at dksX1_hasFor_4 8 rfl rfl)
theorem dX1_hasFor_102 : decode cX1_hasFor 102 = .ok (.ireturn, 1) := dk_172 (dk_at dksX1_hasFor_4 9 rfl rfl)
abbrev cX1_makes : ByteArray := prog_1_method_49_code
def yX1_makes : MethodName := ⟨RX1, "makes", "(LBalloonStall$Guest;I)Z"⟩
def dkwX1_makes_5 : List UInt8 := [167, 0, 4, 3, 54, 4, 167, 255, 152, 4, 172]
abbrev dktX1_makes_5 : List UInt8 := dkwX1_makes_5 ++ []
def dkwX1_makes_4 : List UInt8 := [181, 1, 91, 42, 180, 1, 91, 16, 33, 125, 20, 1, 99, 113, 45, 180, 1, 101, 133, 148, 156, 0, 7, 4]
abbrev dktX1_makes_4 : List UInt8 := dkwX1_makes_4 ++ dktX1_makes_5
def dkwX1_makes_3 : List UInt8 := [182, 1, 88, 104, 96, 96, 181, 1, 86, 42, 42, 180, 1, 91, 20, 1, 95, 105, 20, 1, 97, 97]
abbrev dktX1_makes_3 : List UInt8 := dkwX1_makes_3 ++ dktX1_makes_4
def dkwX1_makes_2 : List UInt8 := [96, 181, 1, 83, 43, 89, 180, 1, 86, 42, 180, 1, 54, 42, 180, 0, 47, 43, 180, 1, 79, 28]
abbrev dktX1_makes_2 : List UInt8 := dkwX1_makes_2 ++ dktX1_makes_3
def dkwX1_makes_1 : List UInt8 := [180, 1, 76, 154, 0, 5, 3, 172, 45, 89, 180, 1, 76, 4, 100, 181, 1, 76, 43, 89, 180, 1, 83, 4]
abbrev dktX1_makes_1 : List UInt8 := dkwX1_makes_1 ++ dktX1_makes_2
def dkwX1_makes_0 : List UInt8 := [42, 180, 0, 11, 43, 180, 1, 79, 180, 0, 178, 28, 46, 50, 78, 4, 54, 4, 21, 4, 153, 0, 105, 45]
abbrev dktX1_makes_0 : List UInt8 := dkwX1_makes_0 ++ dktX1_makes_1
theorem dksX1_makes_0 : cX1_makes.data.toList.drop 0 = dktX1_makes_0 := by decide +kernel
theorem dksX1_makes_1 : cX1_makes.data.toList.drop 24 = dktX1_makes_1 := dk_seg dksX1_makes_0 24 rfl rfl
theorem dksX1_makes_2 : cX1_makes.data.toList.drop 48 = dktX1_makes_2 := dk_seg dksX1_makes_1 24 rfl rfl
theorem dksX1_makes_3 : cX1_makes.data.toList.drop 70 = dktX1_makes_3 := dk_seg dksX1_makes_2 22 rfl rfl
theorem dksX1_makes_4 : cX1_makes.data.toList.drop 92 = dktX1_makes_4 := dk_seg dksX1_makes_3 22 rfl rfl
theorem dksX1_makes_5 : cX1_makes.data.toList.drop 116 = dktX1_makes_5 := dk_seg dksX1_makes_4 24 rfl rfl
theorem dX1_makes_0 : decode cX1_makes 0 = .ok (.aload_n 0, 1) := dk_42 (dk_at dksX1_makes_0 0 rfl rfl)
theorem dX1_makes_1 : decode cX1_makes 1 = .ok (.getfield 11, 3) := dk_180 0 11 (dk_at dksX1_makes_0 1 rfl rfl)
theorem dX1_makes_4 : decode cX1_makes 4 = .ok (.aload_n 1, 1) := dk_43 (dk_at dksX1_makes_0 4 rfl rfl)
theorem dX1_makes_5 : decode cX1_makes 5 = .ok (.getfield 335, 3) := dk_180 1 79 (dk_at dksX1_makes_0 5 rfl rfl)
theorem dX1_makes_8 : decode cX1_makes 8 = .ok (.getfield 178, 3) := dk_180 0 178 (dk_at dksX1_makes_0 8 rfl rfl)
theorem dX1_makes_11 : decode cX1_makes 11 = .ok (.iload_n 2, 1) := dk_28 (dk_at dksX1_makes_0 11 rfl rfl)
theorem dX1_makes_12 : decode cX1_makes 12 = .ok (.iaload, 1) := dk_46 (dk_at dksX1_makes_0 12 rfl rfl)
theorem dX1_makes_13 : decode cX1_makes 13 = .ok (.aaload, 1) := dk_50 (dk_at dksX1_makes_0 13 rfl rfl)
theorem dX1_makes_14 : decode cX1_makes 14 = .ok (.astore_n 3, 1) := dk_78 (dk_at dksX1_makes_0 14 rfl rfl)
theorem dX1_makes_15 : decode cX1_makes 15 = .ok (.iconst 1, 1) := dk_4 (dk_at dksX1_makes_0 15 rfl rfl)
theorem dX1_makes_16 : decode cX1_makes 16 = .ok (.istore 4, 2) := dk_54 4 (dk_at dksX1_makes_0 16 rfl rfl)
theorem dX1_makes_18 : decode cX1_makes 18 = .ok (.iload 4, 2) := dk_21 4 (dk_at dksX1_makes_0 18 rfl rfl)
theorem dX1_makes_20 : decode cX1_makes 20 = .ok (.ifCond .eq 105, 3) := dk_153 0 105 (dk_at dksX1_makes_0 20 rfl rfl)
theorem dX1_makes_23 : decode cX1_makes 23 = .ok (.aload_n 3, 1) := dk_45 (dk_at dksX1_makes_0 23 rfl rfl)
theorem dX1_makes_24 : decode cX1_makes 24 = .ok (.getfield 332, 3) := dk_180 1 76 (dk_at dksX1_makes_1 0 rfl rfl)
theorem dX1_makes_27 : decode cX1_makes 27 = .ok (.ifCond .ne 5, 3) := dk_154 0 5 (dk_at dksX1_makes_1 3 rfl rfl)
theorem dX1_makes_30 : decode cX1_makes 30 = .ok (.iconst 0, 1) := dk_3 (dk_at dksX1_makes_1 6 rfl rfl)
theorem dX1_makes_31 : decode cX1_makes 31 = .ok (.ireturn, 1) := dk_172 (dk_at dksX1_makes_1 7 rfl rfl)
theorem dX1_makes_32 : decode cX1_makes 32 = .ok (.aload_n 3, 1) := dk_45 (dk_at dksX1_makes_1 8 rfl rfl)
theorem dX1_makes_33 : decode cX1_makes 33 = .ok (.dup, 1) := dk_89 (dk_at dksX1_makes_1 9 rfl rfl)
theorem dX1_makes_34 : decode cX1_makes 34 = .ok (.getfield 332, 3) := dk_180 1 76 (dk_at dksX1_makes_1 10 rfl rfl)
theorem dX1_makes_37 : decode cX1_makes 37 = .ok (.iconst 1, 1) := dk_4 (dk_at dksX1_makes_1 13 rfl rfl)
theorem dX1_makes_38 : decode cX1_makes 38 = .ok (.isub, 1) := dk_100 (dk_at dksX1_makes_1 14 rfl rfl)
theorem dX1_makes_39 : decode cX1_makes 39 = .ok (.putfield 332, 3) := dk_181 1 76 (dk_at dksX1_makes_1 15 rfl rfl)
theorem dX1_makes_42 : decode cX1_makes 42 = .ok (.aload_n 1, 1) := dk_43 (dk_at dksX1_makes_1 18 rfl rfl)
theorem dX1_makes_43 : decode cX1_makes 43 = .ok (.dup, 1) := dk_89 (dk_at dksX1_makes_1 19 rfl rfl)
theorem dX1_makes_44 : decode cX1_makes 44 = .ok (.getfield 339, 3) := dk_180 1 83 (dk_at dksX1_makes_1 20 rfl rfl)
theorem dX1_makes_47 : decode cX1_makes 47 = .ok (.iconst 1, 1) := dk_4 (dk_at dksX1_makes_1 23 rfl rfl)
theorem dX1_makes_48 : decode cX1_makes 48 = .ok (.iadd, 1) := dk_96 (dk_at dksX1_makes_2 0 rfl rfl)
theorem dX1_makes_49 : decode cX1_makes 49 = .ok (.putfield 339, 3) := dk_181 1 83 (dk_at dksX1_makes_2 1 rfl rfl)
theorem dX1_makes_52 : decode cX1_makes 52 = .ok (.aload_n 1, 1) := dk_43 (dk_at dksX1_makes_2 4 rfl rfl)
theorem dX1_makes_53 : decode cX1_makes 53 = .ok (.dup, 1) := dk_89 (dk_at dksX1_makes_2 5 rfl rfl)
theorem dX1_makes_54 : decode cX1_makes 54 = .ok (.getfield 342, 3) := dk_180 1 86 (dk_at dksX1_makes_2 6 rfl rfl)
theorem dX1_makes_57 : decode cX1_makes 57 = .ok (.aload_n 0, 1) := dk_42 (dk_at dksX1_makes_2 9 rfl rfl)
theorem dX1_makes_58 : decode cX1_makes 58 = .ok (.getfield 310, 3) := dk_180 1 54 (dk_at dksX1_makes_2 10 rfl rfl)
theorem dX1_makes_61 : decode cX1_makes 61 = .ok (.aload_n 0, 1) := dk_42 (dk_at dksX1_makes_2 13 rfl rfl)
theorem dX1_makes_62 : decode cX1_makes 62 = .ok (.getfield 47, 3) := dk_180 0 47 (dk_at dksX1_makes_2 14 rfl rfl)
theorem dX1_makes_65 : decode cX1_makes 65 = .ok (.aload_n 1, 1) := dk_43 (dk_at dksX1_makes_2 17 rfl rfl)
theorem dX1_makes_66 : decode cX1_makes 66 = .ok (.getfield 335, 3) := dk_180 1 79 (dk_at dksX1_makes_2 18 rfl rfl)
theorem dX1_makes_69 : decode cX1_makes 69 = .ok (.iload_n 2, 1) := dk_28 (dk_at dksX1_makes_2 21 rfl rfl)
theorem dX1_makes_70 : decode cX1_makes 70 = .ok (.invokevirtual 344, 3) := dk_182 1 88 (dk_at dksX1_makes_3 0 rfl rfl)
theorem dX1_makes_73 : decode cX1_makes 73 = .ok (.imul, 1) := dk_104 (dk_at dksX1_makes_3 3 rfl rfl)
theorem dX1_makes_74 : decode cX1_makes 74 = .ok (.iadd, 1) := dk_96 (dk_at dksX1_makes_3 4 rfl rfl)
theorem dX1_makes_75 : decode cX1_makes 75 = .ok (.iadd, 1) := dk_96 (dk_at dksX1_makes_3 5 rfl rfl)
theorem dX1_makes_76 : decode cX1_makes 76 = .ok (.putfield 342, 3) := dk_181 1 86 (dk_at dksX1_makes_3 6 rfl rfl)
theorem dX1_makes_79 : decode cX1_makes 79 = .ok (.aload_n 0, 1) := dk_42 (dk_at dksX1_makes_3 9 rfl rfl)
theorem dX1_makes_80 : decode cX1_makes 80 = .ok (.aload_n 0, 1) := dk_42 (dk_at dksX1_makes_3 10 rfl rfl)
theorem dX1_makes_81 : decode cX1_makes 81 = .ok (.getfield 347, 3) := dk_180 1 91 (dk_at dksX1_makes_3 11 rfl rfl)
theorem dX1_makes_84 : decode cX1_makes 84 = .ok (.ldc2_w 351, 3) := dk_20 1 95 (dk_at dksX1_makes_3 14 rfl rfl)
theorem dX1_makes_87 : decode cX1_makes 87 = .ok (.lmul, 1) := dk_105 (dk_at dksX1_makes_3 17 rfl rfl)
theorem dX1_makes_88 : decode cX1_makes 88 = .ok (.ldc2_w 353, 3) := dk_20 1 97 (dk_at dksX1_makes_3 18 rfl rfl)
theorem dX1_makes_91 : decode cX1_makes 91 = .ok (.ladd, 1) := dk_97 (dk_at dksX1_makes_3 21 rfl rfl)
theorem dX1_makes_92 : decode cX1_makes 92 = .ok (.putfield 347, 3) := dk_181 1 91 (dk_at dksX1_makes_4 0 rfl rfl)
theorem dX1_makes_95 : decode cX1_makes 95 = .ok (.aload_n 0, 1) := dk_42 (dk_at dksX1_makes_4 3 rfl rfl)
theorem dX1_makes_96 : decode cX1_makes 96 = .ok (.getfield 347, 3) := dk_180 1 91 (dk_at dksX1_makes_4 4 rfl rfl)
theorem dX1_makes_99 : decode cX1_makes 99 = .ok (.bipush 33, 2) := dk_16 33 (dk_at dksX1_makes_4 7 rfl rfl)
theorem dX1_makes_101 : decode cX1_makes 101 = .ok (.lushr, 1) := dk_125 (dk_at dksX1_makes_4 9 rfl rfl)
theorem dX1_makes_102 : decode cX1_makes 102 = .ok (.ldc2_w 355, 3) := dk_20 1 99 (dk_at dksX1_makes_4 10 rfl rfl)
theorem dX1_makes_105 : decode cX1_makes 105 = .ok (.lrem, 1) := dk_113 (dk_at dksX1_makes_4 13 rfl rfl)
theorem dX1_makes_106 : decode cX1_makes 106 = .ok (.aload_n 3, 1) := dk_45 (dk_at dksX1_makes_4 14 rfl rfl)
theorem dX1_makes_107 : decode cX1_makes 107 = .ok (.getfield 357, 3) := dk_180 1 101 (dk_at dksX1_makes_4 15 rfl rfl)
theorem dX1_makes_110 : decode cX1_makes 110 = .ok (.i2l, 1) := dk_133 (dk_at dksX1_makes_4 18 rfl rfl)
theorem dX1_makes_111 : decode cX1_makes 111 = .ok (.lcmp, 1) := dk_148 (dk_at dksX1_makes_4 19 rfl rfl)
theorem dX1_makes_112 : decode cX1_makes 112 = .ok (.ifCond .ge 7, 3) := dk_156 0 7 (dk_at dksX1_makes_4 20 rfl rfl)
theorem dX1_makes_115 : decode cX1_makes 115 = .ok (.iconst 1, 1) := dk_4 (dk_at dksX1_makes_4 23 rfl rfl)
theorem dX1_makes_116 : decode cX1_makes 116 = .ok (.goto 4, 3) := dk_167 0 4 (dk_at dksX1_makes_5 0 rfl rfl)
theorem dX1_makes_119 : decode cX1_makes 119 = .ok (.iconst 0, 1) := dk_3 (dk_at dksX1_makes_5 3 rfl rfl)
theorem dX1_makes_120 : decode cX1_makes 120 = .ok (.istore 4, 2) := dk_54 4 (dk_at dksX1_makes_5 4 rfl rfl)
theorem dX1_makes_122 : decode cX1_makes 122 = .ok (.goto (-104), 3) := dk_167 255 152 (dk_at dksX1_makes_5 6 rfl rfl)
theorem dX1_makes_125 : decode cX1_makes 125 = .ok (.iconst 1, 1) := dk_4 (dk_at dksX1_makes_5 9 rfl rfl)
theorem dX1_makes_126 : decode cX1_makes 126 = .ok (.ireturn, 1) := dk_172 (dk_at dksX1_makes_5 10 rfl rfl)
abbrev cX1_rule : ByteArray := prog_1_method_54_code
def yX1_rule : MethodName := ⟨RX1, "rule", "()I"⟩
def dkwX1_rule_2 : List UInt8 := [96, 181, 1, 149, 42, 180, 1, 149, 4, 100, 172]
abbrev dktX1_rule_2 : List UInt8 := dkwX1_rule_2 ++ []
def dkwX1_rule_1 : List UInt8 := [183, 0, 107, 182, 0, 108, 83, 167, 0, 6, 76, 2, 172, 42, 3, 181, 0, 89, 42, 89, 180, 1, 149, 4]
abbrev dktX1_rule_1 : List UInt8 := dkwX1_rule_1 ++ dktX1_rule_2
def dkwX1_rule_0 : List UInt8 := [42, 180, 1, 149, 16, 6, 160, 0, 5, 2, 172, 42, 180, 0, 53, 42, 180, 1, 149, 187, 0, 105, 89, 42]
abbrev dktX1_rule_0 : List UInt8 := dkwX1_rule_0 ++ dktX1_rule_1
theorem dksX1_rule_0 : cX1_rule.data.toList.drop 0 = dktX1_rule_0 := by decide +kernel
theorem dksX1_rule_1 : cX1_rule.data.toList.drop 24 = dktX1_rule_1 := dk_seg dksX1_rule_0 24 rfl rfl
theorem dksX1_rule_2 : cX1_rule.data.toList.drop 48 = dktX1_rule_2 := dk_seg dksX1_rule_1 24 rfl rfl
theorem dX1_rule_0 : decode cX1_rule 0 = .ok (.aload_n 0, 1) := dk_42 (dk_at dksX1_rule_0 0 rfl rfl)
theorem dX1_rule_1 : decode cX1_rule 1 = .ok (.getfield 405, 3) := dk_180 1 149 (dk_at dksX1_rule_0 1 rfl rfl)
theorem dX1_rule_4 : decode cX1_rule 4 = .ok (.bipush 6, 2) := dk_16 6 (dk_at dksX1_rule_0 4 rfl rfl)
theorem dX1_rule_6 : decode cX1_rule 6 = .ok (.if_icmp .ne 5, 3) := dk_160 0 5 (dk_at dksX1_rule_0 6 rfl rfl)
theorem dX1_rule_9 : decode cX1_rule 9 = .ok (.iconst (-1), 1) := dk_2 (dk_at dksX1_rule_0 9 rfl rfl)
theorem dX1_rule_10 : decode cX1_rule 10 = .ok (.ireturn, 1) := dk_172 (dk_at dksX1_rule_0 10 rfl rfl)
theorem dX1_rule_11 : decode cX1_rule 11 = .ok (.aload_n 0, 1) := dk_42 (dk_at dksX1_rule_0 11 rfl rfl)
theorem dX1_rule_12 : decode cX1_rule 12 = .ok (.getfield 53, 3) := dk_180 0 53 (dk_at dksX1_rule_0 12 rfl rfl)
theorem dX1_rule_15 : decode cX1_rule 15 = .ok (.aload_n 0, 1) := dk_42 (dk_at dksX1_rule_0 15 rfl rfl)
theorem dX1_rule_16 : decode cX1_rule 16 = .ok (.getfield 405, 3) := dk_180 1 149 (dk_at dksX1_rule_0 16 rfl rfl)
theorem dX1_rule_19 : decode cX1_rule 19 = .ok (.new 105, 3) := dk_187 0 105 (dk_at dksX1_rule_0 19 rfl rfl)
theorem dX1_rule_22 : decode cX1_rule 22 = .ok (.dup, 1) := dk_89 (dk_at dksX1_rule_0 22 rfl rfl)
theorem dX1_rule_23 : decode cX1_rule 23 = .ok (.aload_n 0, 1) := dk_42 (dk_at dksX1_rule_0 23 rfl rfl)
theorem dX1_rule_24 : decode cX1_rule 24 = .ok (.invokespecial 107, 3) := dk_183 0 107 (dk_at dksX1_rule_1 0 rfl rfl)
theorem dX1_rule_27 : decode cX1_rule 27 = .ok (.invokevirtual 108, 3) := dk_182 0 108 (dk_at dksX1_rule_1 3 rfl rfl)
theorem dX1_rule_30 : decode cX1_rule 30 = .ok (.aastore, 1) := dk_83 (dk_at dksX1_rule_1 6 rfl rfl)
theorem dX1_rule_31 : decode cX1_rule 31 = .ok (.goto 6, 3) := dk_167 0 6 (dk_at dksX1_rule_1 7 rfl rfl)
theorem dX1_rule_34 : decode cX1_rule 34 = .ok (.astore_n 1, 1) := dk_76 (dk_at dksX1_rule_1 10 rfl rfl)
theorem dX1_rule_35 : decode cX1_rule 35 = .ok (.iconst (-1), 1) := dk_2 (dk_at dksX1_rule_1 11 rfl rfl)
theorem dX1_rule_36 : decode cX1_rule 36 = .ok (.ireturn, 1) := dk_172 (dk_at dksX1_rule_1 12 rfl rfl)
theorem dX1_rule_37 : decode cX1_rule 37 = .ok (.aload_n 0, 1) := dk_42 (dk_at dksX1_rule_1 13 rfl rfl)
theorem dX1_rule_38 : decode cX1_rule 38 = .ok (.iconst 0, 1) := dk_3 (dk_at dksX1_rule_1 14 rfl rfl)
theorem dX1_rule_39 : decode cX1_rule 39 = .ok (.putfield 89, 3) := dk_181 0 89 (dk_at dksX1_rule_1 15 rfl rfl)
theorem dX1_rule_42 : decode cX1_rule 42 = .ok (.aload_n 0, 1) := dk_42 (dk_at dksX1_rule_1 18 rfl rfl)
theorem dX1_rule_43 : decode cX1_rule 43 = .ok (.dup, 1) := dk_89 (dk_at dksX1_rule_1 19 rfl rfl)
theorem dX1_rule_44 : decode cX1_rule 44 = .ok (.getfield 405, 3) := dk_180 1 149 (dk_at dksX1_rule_1 20 rfl rfl)
theorem dX1_rule_47 : decode cX1_rule 47 = .ok (.iconst 1, 1) := dk_4 (dk_at dksX1_rule_1 23 rfl rfl)
theorem dX1_rule_48 : decode cX1_rule 48 = .ok (.iadd, 1) := dk_96 (dk_at dksX1_rule_2 0 rfl rfl)
theorem dX1_rule_49 : decode cX1_rule 49 = .ok (.putfield 405, 3) := dk_181 1 149 (dk_at dksX1_rule_2 1 rfl rfl)
theorem dX1_rule_52 : decode cX1_rule 52 = .ok (.aload_n 0, 1) := dk_42 (dk_at dksX1_rule_2 4 rfl rfl)
theorem dX1_rule_53 : decode cX1_rule 53 = .ok (.getfield 405, 3) := dk_180 1 149 (dk_at dksX1_rule_2 5 rfl rfl)
theorem dX1_rule_56 : decode cX1_rule 56 = .ok (.iconst 1, 1) := dk_4 (dk_at dksX1_rule_2 8 rfl rfl)
theorem dX1_rule_57 : decode cX1_rule 57 = .ok (.isub, 1) := dk_100 (dk_at dksX1_rule_2 9 rfl rfl)
theorem dX1_rule_58 : decode cX1_rule 58 = .ok (.ireturn, 1) := dk_172 (dk_at dksX1_rule_2 10 rfl rfl)
abbrev cX1_aged : ByteArray := prog_1_method_59_code
def yX1_aged : MethodName := ⟨RX1, "aged", "(IIII)I"⟩
def dkwX1_aged_4 : List UInt8 := [180, 0, 64, 21, 4, 46, 172]
abbrev dktX1_aged_4 : List UInt8 := dkwX1_aged_4 ++ []
def dkwX1_aged_3 : List UInt8 := [132, 6, 1, 167, 255, 233, 42, 180, 1, 159, 21, 4, 122, 4, 126, 4, 160, 0, 7, 3, 167, 0, 10, 42]
abbrev dktX1_aged_3 : List UInt8 := dkwX1_aged_3 ++ dktX1_aged_4
def dkwX1_aged_2 : List UInt8 := [54, 6, 21, 6, 29, 163, 0, 23, 42, 25, 5, 42, 180, 0, 53, 28, 50, 21, 6, 182, 1, 175]
abbrev dktX1_aged_2 : List UInt8 := dkwX1_aged_2 ++ dktX1_aged_3
def dkwX1_aged_1 : List UInt8 := [184, 0, 74, 154, 0, 5, 2, 172, 42, 180, 0, 21, 27, 50, 58, 5, 42, 25, 5, 182, 1, 172, 4]
abbrev dktX1_aged_1 : List UInt8 := dkwX1_aged_1 ++ dktX1_aged_2
def dkwX1_aged_0 : List UInt8 := [42, 27, 21, 4, 182, 0, 157, 153, 0, 23, 42, 28, 182, 1, 152, 153, 0, 15, 29, 133, 9, 20, 1, 170]
abbrev dktX1_aged_0 : List UInt8 := dkwX1_aged_0 ++ dktX1_aged_1
theorem dksX1_aged_0 : cX1_aged.data.toList.drop 0 = dktX1_aged_0 := by decide +kernel
theorem dksX1_aged_1 : cX1_aged.data.toList.drop 24 = dktX1_aged_1 := dk_seg dksX1_aged_0 24 rfl rfl
theorem dksX1_aged_2 : cX1_aged.data.toList.drop 47 = dktX1_aged_2 := dk_seg dksX1_aged_1 23 rfl rfl
theorem dksX1_aged_3 : cX1_aged.data.toList.drop 69 = dktX1_aged_3 := dk_seg dksX1_aged_2 22 rfl rfl
theorem dksX1_aged_4 : cX1_aged.data.toList.drop 93 = dktX1_aged_4 := dk_seg dksX1_aged_3 24 rfl rfl
theorem dX1_aged_0 : decode cX1_aged 0 = .ok (.aload_n 0, 1) := dk_42 (dk_at dksX1_aged_0 0 rfl rfl)
theorem dX1_aged_1 : decode cX1_aged 1 = .ok (.iload_n 1, 1) := dk_27 (dk_at dksX1_aged_0 1 rfl rfl)
theorem dX1_aged_2 : decode cX1_aged 2 = .ok (.iload 4, 2) := dk_21 4 (dk_at dksX1_aged_0 2 rfl rfl)
theorem dX1_aged_4 : decode cX1_aged 4 = .ok (.invokevirtual 157, 3) := dk_182 0 157 (dk_at dksX1_aged_0 4 rfl rfl)
theorem dX1_aged_7 : decode cX1_aged 7 = .ok (.ifCond .eq 23, 3) := dk_153 0 23 (dk_at dksX1_aged_0 7 rfl rfl)
theorem dX1_aged_10 : decode cX1_aged 10 = .ok (.aload_n 0, 1) := dk_42 (dk_at dksX1_aged_0 10 rfl rfl)
theorem dX1_aged_11 : decode cX1_aged 11 = .ok (.iload_n 2, 1) := dk_28 (dk_at dksX1_aged_0 11 rfl rfl)
theorem dX1_aged_12 : decode cX1_aged 12 = .ok (.invokevirtual 408, 3) := dk_182 1 152 (dk_at dksX1_aged_0 12 rfl rfl)
theorem dX1_aged_15 : decode cX1_aged 15 = .ok (.ifCond .eq 15, 3) := dk_153 0 15 (dk_at dksX1_aged_0 15 rfl rfl)
theorem dX1_aged_18 : decode cX1_aged 18 = .ok (.iload_n 3, 1) := dk_29 (dk_at dksX1_aged_0 18 rfl rfl)
theorem dX1_aged_19 : decode cX1_aged 19 = .ok (.i2l, 1) := dk_133 (dk_at dksX1_aged_0 19 rfl rfl)
theorem dX1_aged_20 : decode cX1_aged 20 = .ok (.lconst 0, 1) := dk_9 (dk_at dksX1_aged_0 20 rfl rfl)
theorem dX1_aged_21 : decode cX1_aged 21 = .ok (.ldc2_w 426, 3) := dk_20 1 170 (dk_at dksX1_aged_0 21 rfl rfl)
theorem dX1_aged_24 : decode cX1_aged 24 = .ok (.invokestatic 74, 3) := dk_184 0 74 (dk_at dksX1_aged_1 0 rfl rfl)
theorem dX1_aged_27 : decode cX1_aged 27 = .ok (.ifCond .ne 5, 3) := dk_154 0 5 (dk_at dksX1_aged_1 3 rfl rfl)
theorem dX1_aged_30 : decode cX1_aged 30 = .ok (.iconst (-1), 1) := dk_2 (dk_at dksX1_aged_1 6 rfl rfl)
theorem dX1_aged_31 : decode cX1_aged 31 = .ok (.ireturn, 1) := dk_172 (dk_at dksX1_aged_1 7 rfl rfl)
theorem dX1_aged_32 : decode cX1_aged 32 = .ok (.aload_n 0, 1) := dk_42 (dk_at dksX1_aged_1 8 rfl rfl)
theorem dX1_aged_33 : decode cX1_aged 33 = .ok (.getfield 21, 3) := dk_180 0 21 (dk_at dksX1_aged_1 9 rfl rfl)
theorem dX1_aged_36 : decode cX1_aged 36 = .ok (.iload_n 1, 1) := dk_27 (dk_at dksX1_aged_1 12 rfl rfl)
theorem dX1_aged_37 : decode cX1_aged 37 = .ok (.aaload, 1) := dk_50 (dk_at dksX1_aged_1 13 rfl rfl)
theorem dX1_aged_38 : decode cX1_aged 38 = .ok (.astore 5, 2) := dk_58 5 (dk_at dksX1_aged_1 14 rfl rfl)
theorem dX1_aged_40 : decode cX1_aged 40 = .ok (.aload_n 0, 1) := dk_42 (dk_at dksX1_aged_1 16 rfl rfl)
theorem dX1_aged_41 : decode cX1_aged 41 = .ok (.aload 5, 2) := dk_25 5 (dk_at dksX1_aged_1 17 rfl rfl)
theorem dX1_aged_43 : decode cX1_aged 43 = .ok (.invokevirtual 428, 3) := dk_182 1 172 (dk_at dksX1_aged_1 19 rfl rfl)
theorem dX1_aged_46 : decode cX1_aged 46 = .ok (.iconst 1, 1) := dk_4 (dk_at dksX1_aged_1 22 rfl rfl)
theorem dX1_aged_47 : decode cX1_aged 47 = .ok (.istore 6, 2) := dk_54 6 (dk_at dksX1_aged_2 0 rfl rfl)
theorem dX1_aged_49 : decode cX1_aged 49 = .ok (.iload 6, 2) := dk_21 6 (dk_at dksX1_aged_2 2 rfl rfl)
theorem dX1_aged_51 : decode cX1_aged 51 = .ok (.iload_n 3, 1) := dk_29 (dk_at dksX1_aged_2 4 rfl rfl)
theorem dX1_aged_52 : decode cX1_aged 52 = .ok (.if_icmp .gt 23, 3) := dk_163 0 23 (dk_at dksX1_aged_2 5 rfl rfl)
theorem dX1_aged_55 : decode cX1_aged 55 = .ok (.aload_n 0, 1) := dk_42 (dk_at dksX1_aged_2 8 rfl rfl)
theorem dX1_aged_56 : decode cX1_aged 56 = .ok (.aload 5, 2) := dk_25 5 (dk_at dksX1_aged_2 9 rfl rfl)
theorem dX1_aged_58 : decode cX1_aged 58 = .ok (.aload_n 0, 1) := dk_42 (dk_at dksX1_aged_2 11 rfl rfl)
theorem dX1_aged_59 : decode cX1_aged 59 = .ok (.getfield 53, 3) := dk_180 0 53 (dk_at dksX1_aged_2 12 rfl rfl)
theorem dX1_aged_62 : decode cX1_aged 62 = .ok (.iload_n 2, 1) := dk_28 (dk_at dksX1_aged_2 15 rfl rfl)
theorem dX1_aged_63 : decode cX1_aged 63 = .ok (.aaload, 1) := dk_50 (dk_at dksX1_aged_2 16 rfl rfl)
theorem dX1_aged_64 : decode cX1_aged 64 = .ok (.iload 6, 2) := dk_21 6 (dk_at dksX1_aged_2 17 rfl rfl)
theorem dX1_aged_66 : decode cX1_aged 66 = .ok (.invokevirtual 431, 3) := dk_182 1 175 (dk_at dksX1_aged_2 19 rfl rfl)
theorem dX1_aged_69 : decode cX1_aged 69 = .ok (.iinc 6 1, 3) := dk_132 6 1 (dk_at dksX1_aged_3 0 rfl rfl)
theorem dX1_aged_72 : decode cX1_aged 72 = .ok (.goto (-23), 3) := dk_167 255 233 (dk_at dksX1_aged_3 3 rfl rfl)
theorem dX1_aged_75 : decode cX1_aged 75 = .ok (.aload_n 0, 1) := dk_42 (dk_at dksX1_aged_3 6 rfl rfl)
theorem dX1_aged_76 : decode cX1_aged 76 = .ok (.getfield 415, 3) := dk_180 1 159 (dk_at dksX1_aged_3 7 rfl rfl)
theorem dX1_aged_79 : decode cX1_aged 79 = .ok (.iload 4, 2) := dk_21 4 (dk_at dksX1_aged_3 10 rfl rfl)
theorem dX1_aged_81 : decode cX1_aged 81 = .ok (.ishr, 1) := dk_122 (dk_at dksX1_aged_3 12 rfl rfl)
theorem dX1_aged_82 : decode cX1_aged 82 = .ok (.iconst 1, 1) := dk_4 (dk_at dksX1_aged_3 13 rfl rfl)
theorem dX1_aged_83 : decode cX1_aged 83 = .ok (.iand, 1) := dk_126 (dk_at dksX1_aged_3 14 rfl rfl)
theorem dX1_aged_84 : decode cX1_aged 84 = .ok (.iconst 1, 1) := dk_4 (dk_at dksX1_aged_3 15 rfl rfl)
theorem dX1_aged_85 : decode cX1_aged 85 = .ok (.if_icmp .ne 7, 3) := dk_160 0 7 (dk_at dksX1_aged_3 16 rfl rfl)
theorem dX1_aged_88 : decode cX1_aged 88 = .ok (.iconst 0, 1) := dk_3 (dk_at dksX1_aged_3 19 rfl rfl)
theorem dX1_aged_89 : decode cX1_aged 89 = .ok (.goto 10, 3) := dk_167 0 10 (dk_at dksX1_aged_3 20 rfl rfl)
theorem dX1_aged_92 : decode cX1_aged 92 = .ok (.aload_n 0, 1) := dk_42 (dk_at dksX1_aged_3 23 rfl rfl)
theorem dX1_aged_93 : decode cX1_aged 93 = .ok (.getfield 64, 3) := dk_180 0 64 (dk_at dksX1_aged_4 0 rfl rfl)
theorem dX1_aged_96 : decode cX1_aged 96 = .ok (.iload 4, 2) := dk_21 4 (dk_at dksX1_aged_4 3 rfl rfl)
theorem dX1_aged_98 : decode cX1_aged 98 = .ok (.iaload, 1) := dk_46 (dk_at dksX1_aged_4 5 rfl rfl)
theorem dX1_aged_99 : decode cX1_aged 99 = .ok (.ireturn, 1) := dk_172 (dk_at dksX1_aged_4 6 rfl rfl)
abbrev cX1_isRule : ByteArray := prog_1_method_55_code
def yX1_isRule : MethodName := ⟨RX1, "isRule", "(I)Z"⟩
def dkwX1_isRule_0 : List UInt8 := [27, 155, 0, 15, 27, 42, 180, 1, 149, 162, 0, 7, 4, 167, 0, 4, 3, 172]
abbrev dktX1_isRule_0 : List UInt8 := dkwX1_isRule_0 ++ []
theorem dksX1_isRule_0 : cX1_isRule.data.toList.drop 0 = dktX1_isRule_0 := by decide +kernel
theorem dX1_isRule_0 : decode cX1_isRule 0 = .ok (.iload_n 1, 1) := dk_27 (dk_at dksX1_isRule_0 0 rfl rfl)
theorem dX1_isRule_1 : decode cX1_isRule 1 = .ok (.ifCond .lt 15, 3) := dk_155 0 15 (dk_at dksX1_isRule_0 1 rfl rfl)
theorem dX1_isRule_4 : decode cX1_isRule 4 = .ok (.iload_n 1, 1) := dk_27 (dk_at dksX1_isRule_0 4 rfl rfl)
theorem dX1_isRule_5 : decode cX1_isRule 5 = .ok (.aload_n 0, 1) := dk_42 (dk_at dksX1_isRule_0 5 rfl rfl)
theorem dX1_isRule_6 : decode cX1_isRule 6 = .ok (.getfield 405, 3) := dk_180 1 149 (dk_at dksX1_isRule_0 6 rfl rfl)
theorem dX1_isRule_9 : decode cX1_isRule 9 = .ok (.if_icmp .ge 7, 3) := dk_162 0 7 (dk_at dksX1_isRule_0 9 rfl rfl)
theorem dX1_isRule_12 : decode cX1_isRule 12 = .ok (.iconst 1, 1) := dk_4 (dk_at dksX1_isRule_0 12 rfl rfl)
theorem dX1_isRule_13 : decode cX1_isRule 13 = .ok (.goto 4, 3) := dk_167 0 4 (dk_at dksX1_isRule_0 13 rfl rfl)
theorem dX1_isRule_16 : decode cX1_isRule 16 = .ok (.iconst 0, 1) := dk_3 (dk_at dksX1_isRule_0 16 rfl rfl)
theorem dX1_isRule_17 : decode cX1_isRule 17 = .ok (.ireturn, 1) := dk_172 (dk_at dksX1_isRule_0 17 rfl rfl)
abbrev cX1_fresh : ByteArray := prog_1_method_57_code
def yX1_fresh : MethodName := ⟨RX1, "fresh", "(LBalloonStall$Figure;)V"⟩
def dkwX1_fresh_0 : List UInt8 := [43, 180, 0, 166, 3, 42, 180, 0, 64, 3, 43, 180, 0, 138, 184, 0, 216, 42, 3, 181, 1, 159, 177]
abbrev dktX1_fresh_0 : List UInt8 := dkwX1_fresh_0 ++ []
theorem dksX1_fresh_0 : cX1_fresh.data.toList.drop 0 = dktX1_fresh_0 := by decide +kernel
theorem dX1_fresh_0 : decode cX1_fresh 0 = .ok (.aload_n 1, 1) := dk_43 (dk_at dksX1_fresh_0 0 rfl rfl)
theorem dX1_fresh_1 : decode cX1_fresh 1 = .ok (.getfield 166, 3) := dk_180 0 166 (dk_at dksX1_fresh_0 1 rfl rfl)
theorem dX1_fresh_4 : decode cX1_fresh 4 = .ok (.iconst 0, 1) := dk_3 (dk_at dksX1_fresh_0 4 rfl rfl)
theorem dX1_fresh_5 : decode cX1_fresh 5 = .ok (.aload_n 0, 1) := dk_42 (dk_at dksX1_fresh_0 5 rfl rfl)
theorem dX1_fresh_6 : decode cX1_fresh 6 = .ok (.getfield 64, 3) := dk_180 0 64 (dk_at dksX1_fresh_0 6 rfl rfl)
theorem dX1_fresh_9 : decode cX1_fresh 9 = .ok (.iconst 0, 1) := dk_3 (dk_at dksX1_fresh_0 9 rfl rfl)
theorem dX1_fresh_10 : decode cX1_fresh 10 = .ok (.aload_n 1, 1) := dk_43 (dk_at dksX1_fresh_0 10 rfl rfl)
theorem dX1_fresh_11 : decode cX1_fresh 11 = .ok (.getfield 138, 3) := dk_180 0 138 (dk_at dksX1_fresh_0 11 rfl rfl)
theorem dX1_fresh_14 : decode cX1_fresh 14 = .ok (.invokestatic 216, 3) := dk_184 0 216 (dk_at dksX1_fresh_0 14 rfl rfl)
theorem dX1_fresh_17 : decode cX1_fresh 17 = .ok (.aload_n 0, 1) := dk_42 (dk_at dksX1_fresh_0 17 rfl rfl)
theorem dX1_fresh_18 : decode cX1_fresh 18 = .ok (.iconst 0, 1) := dk_3 (dk_at dksX1_fresh_0 18 rfl rfl)
theorem dX1_fresh_19 : decode cX1_fresh 19 = .ok (.putfield 415, 3) := dk_181 1 159 (dk_at dksX1_fresh_0 19 rfl rfl)
theorem dX1_fresh_22 : decode cX1_fresh 22 = .ok (.return_, 1) := dk_177 (dk_at dksX1_fresh_0 22 rfl rfl)
abbrev cX1_hour : ByteArray := prog_1_method_58_code
def yX1_hour : MethodName := ⟨RX1, "hour", "(LBalloonStall$Figure;LBalloonStall$Clause;I)V"⟩
def dkwX1_hour_7 : List UInt8 := [182, 1, 167, 181, 1, 159, 177]
abbrev dktX1_hour_7 : List UInt8 := dkwX1_hour_7 ++ []
def dkwX1_hour_6 : List UInt8 := [180, 1, 159, 4, 21, 5, 120, 128, 181, 1, 159, 132, 5, 1, 167, 255, 110, 42, 43, 42, 180, 1, 159]
abbrev dktX1_hour_6 : List UInt8 := dkwX1_hour_6 ++ dktX1_hour_7
def dkwX1_hour_5 : List UInt8 := [21, 7, 184, 1, 13, 184, 0, 197, 100, 79, 42, 180, 0, 64, 21, 5, 46, 154, 0, 16, 42, 89]
abbrev dktX1_hour_5 : List UInt8 := dkwX1_hour_5 ++ dktX1_hour_6
def dkwX1_hour_4 : List UInt8 := [180, 0, 194, 182, 1, 155, 54, 7, 42, 180, 0, 64, 21, 5, 92, 46, 3, 42, 180, 0, 64, 21, 5, 46]
abbrev dktX1_hour_4 : List UInt8 := dkwX1_hour_4 ++ dktX1_hour_5
def dkwX1_hour_3 : List UInt8 := [182, 1, 161, 43, 21, 4, 43, 180, 0, 172, 21, 5, 46, 182, 1, 161, 96, 25, 6, 180, 1, 164, 25, 6]
abbrev dktX1_hour_3 : List UInt8 := dkwX1_hour_3 ++ dktX1_hour_4
def dkwX1_hour_2 : List UInt8 := [50, 58, 6, 42, 44, 42, 180, 0, 64, 21, 5, 46, 29, 43, 21, 4, 43, 180, 0, 169, 21, 5, 46]
abbrev dktX1_hour_2 : List UInt8 := dkwX1_hour_2 ++ dktX1_hour_3
def dkwX1_hour_1 : List UInt8 := [126, 4, 160, 0, 6, 167, 0, 123, 42, 180, 0, 11, 43, 180, 0, 178, 43, 180, 0, 175, 21, 5, 46, 46]
abbrev dktX1_hour_1 : List UInt8 := dkwX1_hour_1 ++ dktX1_hour_2
def dkwX1_hour_0 : List UInt8 := [42, 180, 1, 159, 54, 4, 3, 54, 5, 21, 5, 43, 180, 0, 138, 162, 0, 143, 21, 4, 21, 5, 122, 4]
abbrev dktX1_hour_0 : List UInt8 := dkwX1_hour_0 ++ dktX1_hour_1
theorem dksX1_hour_0 : cX1_hour.data.toList.drop 0 = dktX1_hour_0 := by decide +kernel
theorem dksX1_hour_1 : cX1_hour.data.toList.drop 24 = dktX1_hour_1 := dk_seg dksX1_hour_0 24 rfl rfl
theorem dksX1_hour_2 : cX1_hour.data.toList.drop 48 = dktX1_hour_2 := dk_seg dksX1_hour_1 24 rfl rfl
theorem dksX1_hour_3 : cX1_hour.data.toList.drop 71 = dktX1_hour_3 := dk_seg dksX1_hour_2 23 rfl rfl
theorem dksX1_hour_4 : cX1_hour.data.toList.drop 95 = dktX1_hour_4 := dk_seg dksX1_hour_3 24 rfl rfl
theorem dksX1_hour_5 : cX1_hour.data.toList.drop 119 = dktX1_hour_5 := dk_seg dksX1_hour_4 24 rfl rfl
theorem dksX1_hour_6 : cX1_hour.data.toList.drop 141 = dktX1_hour_6 := dk_seg dksX1_hour_5 22 rfl rfl
theorem dksX1_hour_7 : cX1_hour.data.toList.drop 164 = dktX1_hour_7 := dk_seg dksX1_hour_6 23 rfl rfl
theorem dX1_hour_0 : decode cX1_hour 0 = .ok (.aload_n 0, 1) := dk_42 (dk_at dksX1_hour_0 0 rfl rfl)
theorem dX1_hour_1 : decode cX1_hour 1 = .ok (.getfield 415, 3) := dk_180 1 159 (dk_at dksX1_hour_0 1 rfl rfl)
theorem dX1_hour_4 : decode cX1_hour 4 = .ok (.istore 4, 2) := dk_54 4 (dk_at dksX1_hour_0 4 rfl rfl)
theorem dX1_hour_6 : decode cX1_hour 6 = .ok (.iconst 0, 1) := dk_3 (dk_at dksX1_hour_0 6 rfl rfl)
theorem dX1_hour_7 : decode cX1_hour 7 = .ok (.istore 5, 2) := dk_54 5 (dk_at dksX1_hour_0 7 rfl rfl)
theorem dX1_hour_9 : decode cX1_hour 9 = .ok (.iload 5, 2) := dk_21 5 (dk_at dksX1_hour_0 9 rfl rfl)
theorem dX1_hour_11 : decode cX1_hour 11 = .ok (.aload_n 1, 1) := dk_43 (dk_at dksX1_hour_0 11 rfl rfl)
theorem dX1_hour_12 : decode cX1_hour 12 = .ok (.getfield 138, 3) := dk_180 0 138 (dk_at dksX1_hour_0 12 rfl rfl)
theorem dX1_hour_15 : decode cX1_hour 15 = .ok (.if_icmp .ge 143, 3) := dk_162 0 143 (dk_at dksX1_hour_0 15 rfl rfl)
theorem dX1_hour_18 : decode cX1_hour 18 = .ok (.iload 4, 2) := dk_21 4 (dk_at dksX1_hour_0 18 rfl rfl)
theorem dX1_hour_20 : decode cX1_hour 20 = .ok (.iload 5, 2) := dk_21 5 (dk_at dksX1_hour_0 20 rfl rfl)
theorem dX1_hour_22 : decode cX1_hour 22 = .ok (.ishr, 1) := dk_122 (dk_at dksX1_hour_0 22 rfl rfl)
theorem dX1_hour_23 : decode cX1_hour 23 = .ok (.iconst 1, 1) := dk_4 (dk_at dksX1_hour_0 23 rfl rfl)
theorem dX1_hour_24 : decode cX1_hour 24 = .ok (.iand, 1) := dk_126 (dk_at dksX1_hour_1 0 rfl rfl)
theorem dX1_hour_25 : decode cX1_hour 25 = .ok (.iconst 1, 1) := dk_4 (dk_at dksX1_hour_1 1 rfl rfl)
theorem dX1_hour_26 : decode cX1_hour 26 = .ok (.if_icmp .ne 6, 3) := dk_160 0 6 (dk_at dksX1_hour_1 2 rfl rfl)
theorem dX1_hour_29 : decode cX1_hour 29 = .ok (.goto 123, 3) := dk_167 0 123 (dk_at dksX1_hour_1 5 rfl rfl)
theorem dX1_hour_32 : decode cX1_hour 32 = .ok (.aload_n 0, 1) := dk_42 (dk_at dksX1_hour_1 8 rfl rfl)
theorem dX1_hour_33 : decode cX1_hour 33 = .ok (.getfield 11, 3) := dk_180 0 11 (dk_at dksX1_hour_1 9 rfl rfl)
theorem dX1_hour_36 : decode cX1_hour 36 = .ok (.aload_n 1, 1) := dk_43 (dk_at dksX1_hour_1 12 rfl rfl)
theorem dX1_hour_37 : decode cX1_hour 37 = .ok (.getfield 178, 3) := dk_180 0 178 (dk_at dksX1_hour_1 13 rfl rfl)
theorem dX1_hour_40 : decode cX1_hour 40 = .ok (.aload_n 1, 1) := dk_43 (dk_at dksX1_hour_1 16 rfl rfl)
theorem dX1_hour_41 : decode cX1_hour 41 = .ok (.getfield 175, 3) := dk_180 0 175 (dk_at dksX1_hour_1 17 rfl rfl)
theorem dX1_hour_44 : decode cX1_hour 44 = .ok (.iload 5, 2) := dk_21 5 (dk_at dksX1_hour_1 20 rfl rfl)
theorem dX1_hour_46 : decode cX1_hour 46 = .ok (.iaload, 1) := dk_46 (dk_at dksX1_hour_1 22 rfl rfl)
theorem dX1_hour_47 : decode cX1_hour 47 = .ok (.iaload, 1) := dk_46 (dk_at dksX1_hour_1 23 rfl rfl)
theorem dX1_hour_48 : decode cX1_hour 48 = .ok (.aaload, 1) := dk_50 (dk_at dksX1_hour_2 0 rfl rfl)
theorem dX1_hour_49 : decode cX1_hour 49 = .ok (.astore 6, 2) := dk_58 6 (dk_at dksX1_hour_2 1 rfl rfl)
theorem dX1_hour_51 : decode cX1_hour 51 = .ok (.aload_n 0, 1) := dk_42 (dk_at dksX1_hour_2 3 rfl rfl)
theorem dX1_hour_52 : decode cX1_hour 52 = .ok (.aload_n 2, 1) := dk_44 (dk_at dksX1_hour_2 4 rfl rfl)
theorem dX1_hour_53 : decode cX1_hour 53 = .ok (.aload_n 0, 1) := dk_42 (dk_at dksX1_hour_2 5 rfl rfl)
theorem dX1_hour_54 : decode cX1_hour 54 = .ok (.getfield 64, 3) := dk_180 0 64 (dk_at dksX1_hour_2 6 rfl rfl)
theorem dX1_hour_57 : decode cX1_hour 57 = .ok (.iload 5, 2) := dk_21 5 (dk_at dksX1_hour_2 9 rfl rfl)
theorem dX1_hour_59 : decode cX1_hour 59 = .ok (.iaload, 1) := dk_46 (dk_at dksX1_hour_2 11 rfl rfl)
theorem dX1_hour_60 : decode cX1_hour 60 = .ok (.iload_n 3, 1) := dk_29 (dk_at dksX1_hour_2 12 rfl rfl)
theorem dX1_hour_61 : decode cX1_hour 61 = .ok (.aload_n 1, 1) := dk_43 (dk_at dksX1_hour_2 13 rfl rfl)
theorem dX1_hour_62 : decode cX1_hour 62 = .ok (.iload 4, 2) := dk_21 4 (dk_at dksX1_hour_2 14 rfl rfl)
theorem dX1_hour_64 : decode cX1_hour 64 = .ok (.aload_n 1, 1) := dk_43 (dk_at dksX1_hour_2 16 rfl rfl)
theorem dX1_hour_65 : decode cX1_hour 65 = .ok (.getfield 169, 3) := dk_180 0 169 (dk_at dksX1_hour_2 17 rfl rfl)
theorem dX1_hour_68 : decode cX1_hour 68 = .ok (.iload 5, 2) := dk_21 5 (dk_at dksX1_hour_2 20 rfl rfl)
theorem dX1_hour_70 : decode cX1_hour 70 = .ok (.iaload, 1) := dk_46 (dk_at dksX1_hour_2 22 rfl rfl)
theorem dX1_hour_71 : decode cX1_hour 71 = .ok (.invokevirtual 417, 3) := dk_182 1 161 (dk_at dksX1_hour_3 0 rfl rfl)
theorem dX1_hour_74 : decode cX1_hour 74 = .ok (.aload_n 1, 1) := dk_43 (dk_at dksX1_hour_3 3 rfl rfl)
theorem dX1_hour_75 : decode cX1_hour 75 = .ok (.iload 4, 2) := dk_21 4 (dk_at dksX1_hour_3 4 rfl rfl)
theorem dX1_hour_77 : decode cX1_hour 77 = .ok (.aload_n 1, 1) := dk_43 (dk_at dksX1_hour_3 6 rfl rfl)
theorem dX1_hour_78 : decode cX1_hour 78 = .ok (.getfield 172, 3) := dk_180 0 172 (dk_at dksX1_hour_3 7 rfl rfl)
theorem dX1_hour_81 : decode cX1_hour 81 = .ok (.iload 5, 2) := dk_21 5 (dk_at dksX1_hour_3 10 rfl rfl)
theorem dX1_hour_83 : decode cX1_hour 83 = .ok (.iaload, 1) := dk_46 (dk_at dksX1_hour_3 12 rfl rfl)
theorem dX1_hour_84 : decode cX1_hour 84 = .ok (.invokevirtual 417, 3) := dk_182 1 161 (dk_at dksX1_hour_3 13 rfl rfl)
theorem dX1_hour_87 : decode cX1_hour 87 = .ok (.iadd, 1) := dk_96 (dk_at dksX1_hour_3 16 rfl rfl)
theorem dX1_hour_88 : decode cX1_hour 88 = .ok (.aload 6, 2) := dk_25 6 (dk_at dksX1_hour_3 17 rfl rfl)
theorem dX1_hour_90 : decode cX1_hour 90 = .ok (.getfield 420, 3) := dk_180 1 164 (dk_at dksX1_hour_3 19 rfl rfl)
theorem dX1_hour_93 : decode cX1_hour 93 = .ok (.aload 6, 2) := dk_25 6 (dk_at dksX1_hour_3 22 rfl rfl)
theorem dX1_hour_95 : decode cX1_hour 95 = .ok (.getfield 194, 3) := dk_180 0 194 (dk_at dksX1_hour_4 0 rfl rfl)
theorem dX1_hour_98 : decode cX1_hour 98 = .ok (.invokevirtual 411, 3) := dk_182 1 155 (dk_at dksX1_hour_4 3 rfl rfl)
theorem dX1_hour_101 : decode cX1_hour 101 = .ok (.istore 7, 2) := dk_54 7 (dk_at dksX1_hour_4 6 rfl rfl)
theorem dX1_hour_103 : decode cX1_hour 103 = .ok (.aload_n 0, 1) := dk_42 (dk_at dksX1_hour_4 8 rfl rfl)
theorem dX1_hour_104 : decode cX1_hour 104 = .ok (.getfield 64, 3) := dk_180 0 64 (dk_at dksX1_hour_4 9 rfl rfl)
theorem dX1_hour_107 : decode cX1_hour 107 = .ok (.iload 5, 2) := dk_21 5 (dk_at dksX1_hour_4 12 rfl rfl)
theorem dX1_hour_109 : decode cX1_hour 109 = .ok (.dup2, 1) := dk_92 (dk_at dksX1_hour_4 14 rfl rfl)
theorem dX1_hour_110 : decode cX1_hour 110 = .ok (.iaload, 1) := dk_46 (dk_at dksX1_hour_4 15 rfl rfl)
theorem dX1_hour_111 : decode cX1_hour 111 = .ok (.iconst 0, 1) := dk_3 (dk_at dksX1_hour_4 16 rfl rfl)
theorem dX1_hour_112 : decode cX1_hour 112 = .ok (.aload_n 0, 1) := dk_42 (dk_at dksX1_hour_4 17 rfl rfl)
theorem dX1_hour_113 : decode cX1_hour 113 = .ok (.getfield 64, 3) := dk_180 0 64 (dk_at dksX1_hour_4 18 rfl rfl)
theorem dX1_hour_116 : decode cX1_hour 116 = .ok (.iload 5, 2) := dk_21 5 (dk_at dksX1_hour_4 21 rfl rfl)
theorem dX1_hour_118 : decode cX1_hour 118 = .ok (.iaload, 1) := dk_46 (dk_at dksX1_hour_4 23 rfl rfl)
theorem dX1_hour_119 : decode cX1_hour 119 = .ok (.iload 7, 2) := dk_21 7 (dk_at dksX1_hour_5 0 rfl rfl)
theorem dX1_hour_121 : decode cX1_hour 121 = .ok (.invokestatic 269, 3) := dk_184 1 13 (dk_at dksX1_hour_5 2 rfl rfl)
theorem dX1_hour_124 : decode cX1_hour 124 = .ok (.invokestatic 197, 3) := dk_184 0 197 (dk_at dksX1_hour_5 5 rfl rfl)
theorem dX1_hour_127 : decode cX1_hour 127 = .ok (.isub, 1) := dk_100 (dk_at dksX1_hour_5 8 rfl rfl)
theorem dX1_hour_128 : decode cX1_hour 128 = .ok (.iastore, 1) := dk_79 (dk_at dksX1_hour_5 9 rfl rfl)
theorem dX1_hour_129 : decode cX1_hour 129 = .ok (.aload_n 0, 1) := dk_42 (dk_at dksX1_hour_5 10 rfl rfl)
theorem dX1_hour_130 : decode cX1_hour 130 = .ok (.getfield 64, 3) := dk_180 0 64 (dk_at dksX1_hour_5 11 rfl rfl)
theorem dX1_hour_133 : decode cX1_hour 133 = .ok (.iload 5, 2) := dk_21 5 (dk_at dksX1_hour_5 14 rfl rfl)
theorem dX1_hour_135 : decode cX1_hour 135 = .ok (.iaload, 1) := dk_46 (dk_at dksX1_hour_5 16 rfl rfl)
theorem dX1_hour_136 : decode cX1_hour 136 = .ok (.ifCond .ne 16, 3) := dk_154 0 16 (dk_at dksX1_hour_5 17 rfl rfl)
theorem dX1_hour_139 : decode cX1_hour 139 = .ok (.aload_n 0, 1) := dk_42 (dk_at dksX1_hour_5 20 rfl rfl)
theorem dX1_hour_140 : decode cX1_hour 140 = .ok (.dup, 1) := dk_89 (dk_at dksX1_hour_5 21 rfl rfl)
theorem dX1_hour_141 : decode cX1_hour 141 = .ok (.getfield 415, 3) := dk_180 1 159 (dk_at dksX1_hour_6 0 rfl rfl)
theorem dX1_hour_144 : decode cX1_hour 144 = .ok (.iconst 1, 1) := dk_4 (dk_at dksX1_hour_6 3 rfl rfl)
theorem dX1_hour_145 : decode cX1_hour 145 = .ok (.iload 5, 2) := dk_21 5 (dk_at dksX1_hour_6 4 rfl rfl)
theorem dX1_hour_147 : decode cX1_hour 147 = .ok (.ishl, 1) := dk_120 (dk_at dksX1_hour_6 6 rfl rfl)
theorem dX1_hour_148 : decode cX1_hour 148 = .ok (.ior, 1) := dk_128 (dk_at dksX1_hour_6 7 rfl rfl)
theorem dX1_hour_149 : decode cX1_hour 149 = .ok (.putfield 415, 3) := dk_181 1 159 (dk_at dksX1_hour_6 8 rfl rfl)
theorem dX1_hour_152 : decode cX1_hour 152 = .ok (.iinc 5 1, 3) := dk_132 5 1 (dk_at dksX1_hour_6 11 rfl rfl)
theorem dX1_hour_155 : decode cX1_hour 155 = .ok (.goto (-146), 3) := dk_167 255 110 (dk_at dksX1_hour_6 14 rfl rfl)
theorem dX1_hour_158 : decode cX1_hour 158 = .ok (.aload_n 0, 1) := dk_42 (dk_at dksX1_hour_6 17 rfl rfl)
theorem dX1_hour_159 : decode cX1_hour 159 = .ok (.aload_n 1, 1) := dk_43 (dk_at dksX1_hour_6 18 rfl rfl)
theorem dX1_hour_160 : decode cX1_hour 160 = .ok (.aload_n 0, 1) := dk_42 (dk_at dksX1_hour_6 19 rfl rfl)
theorem dX1_hour_161 : decode cX1_hour 161 = .ok (.getfield 415, 3) := dk_180 1 159 (dk_at dksX1_hour_6 20 rfl rfl)
theorem dX1_hour_164 : decode cX1_hour 164 = .ok (.invokevirtual 423, 3) := dk_182 1 167 (dk_at dksX1_hour_7 0 rfl rfl)
theorem dX1_hour_167 : decode cX1_hour 167 = .ok (.putfield 415, 3) := dk_181 1 159 (dk_at dksX1_hour_7 3 rfl rfl)
theorem dX1_hour_170 : decode cX1_hour 170 = .ok (.return_, 1) := dk_177 (dk_at dksX1_hour_7 6 rfl rfl)
abbrev cX1_worthOf : ByteArray := prog_1_method_53_code
def yX1_worthOf : MethodName := ⟨RX1, "worthOf", "(LBalloonStall$Clause;IIIII)I"⟩
def dkwX1_worthOf_4 : List UInt8 := [180, 1, 145, 58, 7, 167, 255, 219, 3, 172]
abbrev dktX1_worthOf_4 : List UInt8 := dkwX1_worthOf_4 ++ []
def dkwX1_worthOf_3 : List UInt8 := [180, 0, 60, 182, 1, 133, 153, 0, 16, 25, 7, 180, 1, 136, 42, 180, 0, 60, 182, 1, 140, 172, 25, 7]
abbrev dktX1_worthOf_3 : List UInt8 := dkwX1_worthOf_3 ++ dktX1_worthOf_4
def dkwX1_worthOf_2 : List UInt8 := [180, 0, 60, 180, 1, 130, 16, 97, 21, 6, 79, 43, 58, 7, 25, 7, 198, 0, 38, 25, 7, 42]
abbrev dktX1_worthOf_2 : List UInt8 := dkwX1_worthOf_2 ++ dktX1_worthOf_3
def dkwX1_worthOf_1 : List UInt8 := [180, 0, 60, 180, 1, 130, 16, 107, 21, 4, 79, 42, 180, 0, 60, 180, 1, 130, 16, 115, 21, 5, 79, 42]
abbrev dktX1_worthOf_1 : List UInt8 := dkwX1_worthOf_1 ++ dktX1_worthOf_2
def dkwX1_worthOf_0 : List UInt8 := [42, 180, 0, 60, 180, 1, 130, 16, 108, 28, 79, 42, 180, 0, 60, 180, 1, 130, 16, 104, 29, 79, 42]
abbrev dktX1_worthOf_0 : List UInt8 := dkwX1_worthOf_0 ++ dktX1_worthOf_1
theorem dksX1_worthOf_0 : cX1_worthOf.data.toList.drop 0 = dktX1_worthOf_0 := by decide +kernel
theorem dksX1_worthOf_1 : cX1_worthOf.data.toList.drop 23 = dktX1_worthOf_1 := dk_seg dksX1_worthOf_0 23 rfl rfl
theorem dksX1_worthOf_2 : cX1_worthOf.data.toList.drop 47 = dktX1_worthOf_2 := dk_seg dksX1_worthOf_1 24 rfl rfl
theorem dksX1_worthOf_3 : cX1_worthOf.data.toList.drop 69 = dktX1_worthOf_3 := dk_seg dksX1_worthOf_2 22 rfl rfl
theorem dksX1_worthOf_4 : cX1_worthOf.data.toList.drop 93 = dktX1_worthOf_4 := dk_seg dksX1_worthOf_3 24 rfl rfl
theorem dX1_worthOf_0 : decode cX1_worthOf 0 = .ok (.aload_n 0, 1) := dk_42 (dk_at dksX1_worthOf_0 0 rfl rfl)
theorem dX1_worthOf_1 : decode cX1_worthOf 1 = .ok (.getfield 60, 3) := dk_180 0 60 (dk_at dksX1_worthOf_0 1 rfl rfl)
theorem dX1_worthOf_4 : decode cX1_worthOf 4 = .ok (.getfield 386, 3) := dk_180 1 130 (dk_at dksX1_worthOf_0 4 rfl rfl)
theorem dX1_worthOf_7 : decode cX1_worthOf 7 = .ok (.bipush 108, 2) := dk_16 108 (dk_at dksX1_worthOf_0 7 rfl rfl)
theorem dX1_worthOf_9 : decode cX1_worthOf 9 = .ok (.iload_n 2, 1) := dk_28 (dk_at dksX1_worthOf_0 9 rfl rfl)
theorem dX1_worthOf_10 : decode cX1_worthOf 10 = .ok (.iastore, 1) := dk_79 (dk_at dksX1_worthOf_0 10 rfl rfl)
theorem dX1_worthOf_11 : decode cX1_worthOf 11 = .ok (.aload_n 0, 1) := dk_42 (dk_at dksX1_worthOf_0 11 rfl rfl)
theorem dX1_worthOf_12 : decode cX1_worthOf 12 = .ok (.getfield 60, 3) := dk_180 0 60 (dk_at dksX1_worthOf_0 12 rfl rfl)
theorem dX1_worthOf_15 : decode cX1_worthOf 15 = .ok (.getfield 386, 3) := dk_180 1 130 (dk_at dksX1_worthOf_0 15 rfl rfl)
theorem dX1_worthOf_18 : decode cX1_worthOf 18 = .ok (.bipush 104, 2) := dk_16 104 (dk_at dksX1_worthOf_0 18 rfl rfl)
theorem dX1_worthOf_20 : decode cX1_worthOf 20 = .ok (.iload_n 3, 1) := dk_29 (dk_at dksX1_worthOf_0 20 rfl rfl)
theorem dX1_worthOf_21 : decode cX1_worthOf 21 = .ok (.iastore, 1) := dk_79 (dk_at dksX1_worthOf_0 21 rfl rfl)
theorem dX1_worthOf_22 : decode cX1_worthOf 22 = .ok (.aload_n 0, 1) := dk_42 (dk_at dksX1_worthOf_0 22 rfl rfl)
theorem dX1_worthOf_23 : decode cX1_worthOf 23 = .ok (.getfield 60, 3) := dk_180 0 60 (dk_at dksX1_worthOf_1 0 rfl rfl)
theorem dX1_worthOf_26 : decode cX1_worthOf 26 = .ok (.getfield 386, 3) := dk_180 1 130 (dk_at dksX1_worthOf_1 3 rfl rfl)
theorem dX1_worthOf_29 : decode cX1_worthOf 29 = .ok (.bipush 107, 2) := dk_16 107 (dk_at dksX1_worthOf_1 6 rfl rfl)
theorem dX1_worthOf_31 : decode cX1_worthOf 31 = .ok (.iload 4, 2) := dk_21 4 (dk_at dksX1_worthOf_1 8 rfl rfl)
theorem dX1_worthOf_33 : decode cX1_worthOf 33 = .ok (.iastore, 1) := dk_79 (dk_at dksX1_worthOf_1 10 rfl rfl)
theorem dX1_worthOf_34 : decode cX1_worthOf 34 = .ok (.aload_n 0, 1) := dk_42 (dk_at dksX1_worthOf_1 11 rfl rfl)
theorem dX1_worthOf_35 : decode cX1_worthOf 35 = .ok (.getfield 60, 3) := dk_180 0 60 (dk_at dksX1_worthOf_1 12 rfl rfl)
theorem dX1_worthOf_38 : decode cX1_worthOf 38 = .ok (.getfield 386, 3) := dk_180 1 130 (dk_at dksX1_worthOf_1 15 rfl rfl)
theorem dX1_worthOf_41 : decode cX1_worthOf 41 = .ok (.bipush 115, 2) := dk_16 115 (dk_at dksX1_worthOf_1 18 rfl rfl)
theorem dX1_worthOf_43 : decode cX1_worthOf 43 = .ok (.iload 5, 2) := dk_21 5 (dk_at dksX1_worthOf_1 20 rfl rfl)
theorem dX1_worthOf_45 : decode cX1_worthOf 45 = .ok (.iastore, 1) := dk_79 (dk_at dksX1_worthOf_1 22 rfl rfl)
theorem dX1_worthOf_46 : decode cX1_worthOf 46 = .ok (.aload_n 0, 1) := dk_42 (dk_at dksX1_worthOf_1 23 rfl rfl)
theorem dX1_worthOf_47 : decode cX1_worthOf 47 = .ok (.getfield 60, 3) := dk_180 0 60 (dk_at dksX1_worthOf_2 0 rfl rfl)
theorem dX1_worthOf_50 : decode cX1_worthOf 50 = .ok (.getfield 386, 3) := dk_180 1 130 (dk_at dksX1_worthOf_2 3 rfl rfl)
theorem dX1_worthOf_53 : decode cX1_worthOf 53 = .ok (.bipush 97, 2) := dk_16 97 (dk_at dksX1_worthOf_2 6 rfl rfl)
theorem dX1_worthOf_55 : decode cX1_worthOf 55 = .ok (.iload 6, 2) := dk_21 6 (dk_at dksX1_worthOf_2 8 rfl rfl)
theorem dX1_worthOf_57 : decode cX1_worthOf 57 = .ok (.iastore, 1) := dk_79 (dk_at dksX1_worthOf_2 10 rfl rfl)
theorem dX1_worthOf_58 : decode cX1_worthOf 58 = .ok (.aload_n 1, 1) := dk_43 (dk_at dksX1_worthOf_2 11 rfl rfl)
theorem dX1_worthOf_59 : decode cX1_worthOf 59 = .ok (.astore 7, 2) := dk_58 7 (dk_at dksX1_worthOf_2 12 rfl rfl)
theorem dX1_worthOf_61 : decode cX1_worthOf 61 = .ok (.aload 7, 2) := dk_25 7 (dk_at dksX1_worthOf_2 14 rfl rfl)
theorem dX1_worthOf_63 : decode cX1_worthOf 63 = .ok (.ifnull 38, 3) := dk_198 0 38 (dk_at dksX1_worthOf_2 16 rfl rfl)
theorem dX1_worthOf_66 : decode cX1_worthOf 66 = .ok (.aload 7, 2) := dk_25 7 (dk_at dksX1_worthOf_2 19 rfl rfl)
theorem dX1_worthOf_68 : decode cX1_worthOf 68 = .ok (.aload_n 0, 1) := dk_42 (dk_at dksX1_worthOf_2 21 rfl rfl)
theorem dX1_worthOf_69 : decode cX1_worthOf 69 = .ok (.getfield 60, 3) := dk_180 0 60 (dk_at dksX1_worthOf_3 0 rfl rfl)
theorem dX1_worthOf_72 : decode cX1_worthOf 72 = .ok (.invokevirtual 389, 3) := dk_182 1 133 (dk_at dksX1_worthOf_3 3 rfl rfl)
theorem dX1_worthOf_75 : decode cX1_worthOf 75 = .ok (.ifCond .eq 16, 3) := dk_153 0 16 (dk_at dksX1_worthOf_3 6 rfl rfl)
theorem dX1_worthOf_78 : decode cX1_worthOf 78 = .ok (.aload 7, 2) := dk_25 7 (dk_at dksX1_worthOf_3 9 rfl rfl)
theorem dX1_worthOf_80 : decode cX1_worthOf 80 = .ok (.getfield 392, 3) := dk_180 1 136 (dk_at dksX1_worthOf_3 11 rfl rfl)
theorem dX1_worthOf_83 : decode cX1_worthOf 83 = .ok (.aload_n 0, 1) := dk_42 (dk_at dksX1_worthOf_3 14 rfl rfl)
theorem dX1_worthOf_84 : decode cX1_worthOf 84 = .ok (.getfield 60, 3) := dk_180 0 60 (dk_at dksX1_worthOf_3 15 rfl rfl)
theorem dX1_worthOf_87 : decode cX1_worthOf 87 = .ok (.invokevirtual 396, 3) := dk_182 1 140 (dk_at dksX1_worthOf_3 18 rfl rfl)
theorem dX1_worthOf_90 : decode cX1_worthOf 90 = .ok (.ireturn, 1) := dk_172 (dk_at dksX1_worthOf_3 21 rfl rfl)
theorem dX1_worthOf_91 : decode cX1_worthOf 91 = .ok (.aload 7, 2) := dk_25 7 (dk_at dksX1_worthOf_3 22 rfl rfl)
theorem dX1_worthOf_93 : decode cX1_worthOf 93 = .ok (.getfield 401, 3) := dk_180 1 145 (dk_at dksX1_worthOf_4 0 rfl rfl)
theorem dX1_worthOf_96 : decode cX1_worthOf 96 = .ok (.astore 7, 2) := dk_58 7 (dk_at dksX1_worthOf_4 3 rfl rfl)
theorem dX1_worthOf_98 : decode cX1_worthOf 98 = .ok (.goto (-37), 3) := dk_167 255 219 (dk_at dksX1_worthOf_4 5 rfl rfl)
theorem dX1_worthOf_101 : decode cX1_worthOf 101 = .ok (.iconst 0, 1) := dk_3 (dk_at dksX1_worthOf_4 8 rfl rfl)
theorem dX1_worthOf_102 : decode cX1_worthOf 102 = .ok (.ireturn, 1) := dk_172 (dk_at dksX1_worthOf_4 9 rfl rfl)
abbrev cX1_falls : ByteArray := prog_1_method_60_code
def yX1_falls : MethodName := ⟨RX1, "falls", "(III)I"⟩
def dkwX1_falls_7 : List UInt8 := [167, 255, 152, 2, 172]
abbrev dktX1_falls_7 : List UInt8 := dkwX1_falls_7 ++ []
def dkwX1_falls_6 : List UInt8 := [182, 0, 237, 160, 0, 7, 4, 167, 0, 4, 3, 54, 6, 21, 6, 153, 0, 6, 21, 5, 172, 132, 5, 1]
abbrev dktX1_falls_6 : List UInt8 := dkwX1_falls_6 ++ dktX1_falls_7
def dkwX1_falls_5 : List UInt8 := [130, 126, 182, 0, 240, 4, 164, 0, 7, 4, 167, 0, 24, 3, 167, 0, 20, 42, 180, 1, 159, 25, 4]
abbrev dktX1_falls_5 : List UInt8 := dkwX1_falls_5 ++ dktX1_falls_6
def dkwX1_falls_4 : List UInt8 := [167, 0, 58, 3, 167, 0, 54, 29, 4, 160, 0, 32, 25, 4, 25, 4, 182, 0, 237, 42, 180, 1, 159, 2]
abbrev dktX1_falls_4 : List UInt8 := dkwX1_falls_4 ++ dktX1_falls_5
def dkwX1_falls_3 : List UInt8 := [180, 0, 53, 28, 50, 21, 5, 182, 1, 175, 29, 154, 0, 18, 42, 180, 1, 159, 153, 0, 7, 4]
abbrev dktX1_falls_3 : List UInt8 := dkwX1_falls_3 ++ dktX1_falls_4
def dkwX1_falls_2 : List UInt8 := [27, 50, 58, 4, 42, 25, 4, 182, 1, 172, 4, 54, 5, 21, 5, 16, 60, 163, 0, 103, 42, 25, 4, 42]
abbrev dktX1_falls_2 : List UInt8 := dkwX1_falls_2 ++ dktX1_falls_3
def dkwX1_falls_1 : List UInt8 := [184, 0, 74, 153, 0, 15, 42, 180, 0, 21, 27, 50, 180, 0, 138, 154, 0, 5, 2, 172, 42, 180, 0, 21]
abbrev dktX1_falls_1 : List UInt8 := dkwX1_falls_1 ++ dktX1_falls_2
def dkwX1_falls_0 : List UInt8 := [42, 27, 182, 0, 134, 153, 0, 35, 42, 28, 182, 1, 152, 153, 0, 27, 29, 133, 9, 20, 0, 227]
abbrev dktX1_falls_0 : List UInt8 := dkwX1_falls_0 ++ dktX1_falls_1
theorem dksX1_falls_0 : cX1_falls.data.toList.drop 0 = dktX1_falls_0 := by decide +kernel
theorem dksX1_falls_1 : cX1_falls.data.toList.drop 22 = dktX1_falls_1 := dk_seg dksX1_falls_0 22 rfl rfl
theorem dksX1_falls_2 : cX1_falls.data.toList.drop 46 = dktX1_falls_2 := dk_seg dksX1_falls_1 24 rfl rfl
theorem dksX1_falls_3 : cX1_falls.data.toList.drop 70 = dktX1_falls_3 := dk_seg dksX1_falls_2 24 rfl rfl
theorem dksX1_falls_4 : cX1_falls.data.toList.drop 92 = dktX1_falls_4 := dk_seg dksX1_falls_3 22 rfl rfl
theorem dksX1_falls_5 : cX1_falls.data.toList.drop 116 = dktX1_falls_5 := dk_seg dksX1_falls_4 24 rfl rfl
theorem dksX1_falls_6 : cX1_falls.data.toList.drop 139 = dktX1_falls_6 := dk_seg dksX1_falls_5 23 rfl rfl
theorem dksX1_falls_7 : cX1_falls.data.toList.drop 163 = dktX1_falls_7 := dk_seg dksX1_falls_6 24 rfl rfl
theorem dX1_falls_0 : decode cX1_falls 0 = .ok (.aload_n 0, 1) := dk_42 (dk_at dksX1_falls_0 0 rfl rfl)
theorem dX1_falls_1 : decode cX1_falls 1 = .ok (.iload_n 1, 1) := dk_27 (dk_at dksX1_falls_0 1 rfl rfl)
theorem dX1_falls_2 : decode cX1_falls 2 = .ok (.invokevirtual 134, 3) := dk_182 0 134 (dk_at dksX1_falls_0 2 rfl rfl)
theorem dX1_falls_5 : decode cX1_falls 5 = .ok (.ifCond .eq 35, 3) := dk_153 0 35 (dk_at dksX1_falls_0 5 rfl rfl)
theorem dX1_falls_8 : decode cX1_falls 8 = .ok (.aload_n 0, 1) := dk_42 (dk_at dksX1_falls_0 8 rfl rfl)
theorem dX1_falls_9 : decode cX1_falls 9 = .ok (.iload_n 2, 1) := dk_28 (dk_at dksX1_falls_0 9 rfl rfl)
theorem dX1_falls_10 : decode cX1_falls 10 = .ok (.invokevirtual 408, 3) := dk_182 1 152 (dk_at dksX1_falls_0 10 rfl rfl)
theorem dX1_falls_13 : decode cX1_falls 13 = .ok (.ifCond .eq 27, 3) := dk_153 0 27 (dk_at dksX1_falls_0 13 rfl rfl)
theorem dX1_falls_16 : decode cX1_falls 16 = .ok (.iload_n 3, 1) := dk_29 (dk_at dksX1_falls_0 16 rfl rfl)
theorem dX1_falls_17 : decode cX1_falls 17 = .ok (.i2l, 1) := dk_133 (dk_at dksX1_falls_0 17 rfl rfl)
theorem dX1_falls_18 : decode cX1_falls 18 = .ok (.lconst 0, 1) := dk_9 (dk_at dksX1_falls_0 18 rfl rfl)
theorem dX1_falls_19 : decode cX1_falls 19 = .ok (.ldc2_w 227, 3) := dk_20 0 227 (dk_at dksX1_falls_0 19 rfl rfl)
theorem dX1_falls_22 : decode cX1_falls 22 = .ok (.invokestatic 74, 3) := dk_184 0 74 (dk_at dksX1_falls_1 0 rfl rfl)
theorem dX1_falls_25 : decode cX1_falls 25 = .ok (.ifCond .eq 15, 3) := dk_153 0 15 (dk_at dksX1_falls_1 3 rfl rfl)
theorem dX1_falls_28 : decode cX1_falls 28 = .ok (.aload_n 0, 1) := dk_42 (dk_at dksX1_falls_1 6 rfl rfl)
theorem dX1_falls_29 : decode cX1_falls 29 = .ok (.getfield 21, 3) := dk_180 0 21 (dk_at dksX1_falls_1 7 rfl rfl)
theorem dX1_falls_32 : decode cX1_falls 32 = .ok (.iload_n 1, 1) := dk_27 (dk_at dksX1_falls_1 10 rfl rfl)
theorem dX1_falls_33 : decode cX1_falls 33 = .ok (.aaload, 1) := dk_50 (dk_at dksX1_falls_1 11 rfl rfl)
theorem dX1_falls_34 : decode cX1_falls 34 = .ok (.getfield 138, 3) := dk_180 0 138 (dk_at dksX1_falls_1 12 rfl rfl)
theorem dX1_falls_37 : decode cX1_falls 37 = .ok (.ifCond .ne 5, 3) := dk_154 0 5 (dk_at dksX1_falls_1 15 rfl rfl)
theorem dX1_falls_40 : decode cX1_falls 40 = .ok (.iconst (-1), 1) := dk_2 (dk_at dksX1_falls_1 18 rfl rfl)
theorem dX1_falls_41 : decode cX1_falls 41 = .ok (.ireturn, 1) := dk_172 (dk_at dksX1_falls_1 19 rfl rfl)
theorem dX1_falls_42 : decode cX1_falls 42 = .ok (.aload_n 0, 1) := dk_42 (dk_at dksX1_falls_1 20 rfl rfl)
theorem dX1_falls_43 : decode cX1_falls 43 = .ok (.getfield 21, 3) := dk_180 0 21 (dk_at dksX1_falls_1 21 rfl rfl)
theorem dX1_falls_46 : decode cX1_falls 46 = .ok (.iload_n 1, 1) := dk_27 (dk_at dksX1_falls_2 0 rfl rfl)
theorem dX1_falls_47 : decode cX1_falls 47 = .ok (.aaload, 1) := dk_50 (dk_at dksX1_falls_2 1 rfl rfl)
theorem dX1_falls_48 : decode cX1_falls 48 = .ok (.astore 4, 2) := dk_58 4 (dk_at dksX1_falls_2 2 rfl rfl)
theorem dX1_falls_50 : decode cX1_falls 50 = .ok (.aload_n 0, 1) := dk_42 (dk_at dksX1_falls_2 4 rfl rfl)
theorem dX1_falls_51 : decode cX1_falls 51 = .ok (.aload 4, 2) := dk_25 4 (dk_at dksX1_falls_2 5 rfl rfl)
theorem dX1_falls_53 : decode cX1_falls 53 = .ok (.invokevirtual 428, 3) := dk_182 1 172 (dk_at dksX1_falls_2 7 rfl rfl)
theorem dX1_falls_56 : decode cX1_falls 56 = .ok (.iconst 1, 1) := dk_4 (dk_at dksX1_falls_2 10 rfl rfl)
theorem dX1_falls_57 : decode cX1_falls 57 = .ok (.istore 5, 2) := dk_54 5 (dk_at dksX1_falls_2 11 rfl rfl)
theorem dX1_falls_59 : decode cX1_falls 59 = .ok (.iload 5, 2) := dk_21 5 (dk_at dksX1_falls_2 13 rfl rfl)
theorem dX1_falls_61 : decode cX1_falls 61 = .ok (.bipush 60, 2) := dk_16 60 (dk_at dksX1_falls_2 15 rfl rfl)
theorem dX1_falls_63 : decode cX1_falls 63 = .ok (.if_icmp .gt 103, 3) := dk_163 0 103 (dk_at dksX1_falls_2 17 rfl rfl)
theorem dX1_falls_66 : decode cX1_falls 66 = .ok (.aload_n 0, 1) := dk_42 (dk_at dksX1_falls_2 20 rfl rfl)
theorem dX1_falls_67 : decode cX1_falls 67 = .ok (.aload 4, 2) := dk_25 4 (dk_at dksX1_falls_2 21 rfl rfl)
theorem dX1_falls_69 : decode cX1_falls 69 = .ok (.aload_n 0, 1) := dk_42 (dk_at dksX1_falls_2 23 rfl rfl)
theorem dX1_falls_70 : decode cX1_falls 70 = .ok (.getfield 53, 3) := dk_180 0 53 (dk_at dksX1_falls_3 0 rfl rfl)
theorem dX1_falls_73 : decode cX1_falls 73 = .ok (.iload_n 2, 1) := dk_28 (dk_at dksX1_falls_3 3 rfl rfl)
theorem dX1_falls_74 : decode cX1_falls 74 = .ok (.aaload, 1) := dk_50 (dk_at dksX1_falls_3 4 rfl rfl)
theorem dX1_falls_75 : decode cX1_falls 75 = .ok (.iload 5, 2) := dk_21 5 (dk_at dksX1_falls_3 5 rfl rfl)
theorem dX1_falls_77 : decode cX1_falls 77 = .ok (.invokevirtual 431, 3) := dk_182 1 175 (dk_at dksX1_falls_3 7 rfl rfl)
theorem dX1_falls_80 : decode cX1_falls 80 = .ok (.iload_n 3, 1) := dk_29 (dk_at dksX1_falls_3 10 rfl rfl)
theorem dX1_falls_81 : decode cX1_falls 81 = .ok (.ifCond .ne 18, 3) := dk_154 0 18 (dk_at dksX1_falls_3 11 rfl rfl)
theorem dX1_falls_84 : decode cX1_falls 84 = .ok (.aload_n 0, 1) := dk_42 (dk_at dksX1_falls_3 14 rfl rfl)
theorem dX1_falls_85 : decode cX1_falls 85 = .ok (.getfield 415, 3) := dk_180 1 159 (dk_at dksX1_falls_3 15 rfl rfl)
theorem dX1_falls_88 : decode cX1_falls 88 = .ok (.ifCond .eq 7, 3) := dk_153 0 7 (dk_at dksX1_falls_3 18 rfl rfl)
theorem dX1_falls_91 : decode cX1_falls 91 = .ok (.iconst 1, 1) := dk_4 (dk_at dksX1_falls_3 21 rfl rfl)
theorem dX1_falls_92 : decode cX1_falls 92 = .ok (.goto 58, 3) := dk_167 0 58 (dk_at dksX1_falls_4 0 rfl rfl)
theorem dX1_falls_95 : decode cX1_falls 95 = .ok (.iconst 0, 1) := dk_3 (dk_at dksX1_falls_4 3 rfl rfl)
theorem dX1_falls_96 : decode cX1_falls 96 = .ok (.goto 54, 3) := dk_167 0 54 (dk_at dksX1_falls_4 4 rfl rfl)
theorem dX1_falls_99 : decode cX1_falls 99 = .ok (.iload_n 3, 1) := dk_29 (dk_at dksX1_falls_4 7 rfl rfl)
theorem dX1_falls_100 : decode cX1_falls 100 = .ok (.iconst 1, 1) := dk_4 (dk_at dksX1_falls_4 8 rfl rfl)
theorem dX1_falls_101 : decode cX1_falls 101 = .ok (.if_icmp .ne 32, 3) := dk_160 0 32 (dk_at dksX1_falls_4 9 rfl rfl)
theorem dX1_falls_104 : decode cX1_falls 104 = .ok (.aload 4, 2) := dk_25 4 (dk_at dksX1_falls_4 12 rfl rfl)
theorem dX1_falls_106 : decode cX1_falls 106 = .ok (.aload 4, 2) := dk_25 4 (dk_at dksX1_falls_4 14 rfl rfl)
theorem dX1_falls_108 : decode cX1_falls 108 = .ok (.invokevirtual 237, 3) := dk_182 0 237 (dk_at dksX1_falls_4 16 rfl rfl)
theorem dX1_falls_111 : decode cX1_falls 111 = .ok (.aload_n 0, 1) := dk_42 (dk_at dksX1_falls_4 19 rfl rfl)
theorem dX1_falls_112 : decode cX1_falls 112 = .ok (.getfield 415, 3) := dk_180 1 159 (dk_at dksX1_falls_4 20 rfl rfl)
theorem dX1_falls_115 : decode cX1_falls 115 = .ok (.iconst (-1), 1) := dk_2 (dk_at dksX1_falls_4 23 rfl rfl)
theorem dX1_falls_116 : decode cX1_falls 116 = .ok (.ixor, 1) := dk_130 (dk_at dksX1_falls_5 0 rfl rfl)
theorem dX1_falls_117 : decode cX1_falls 117 = .ok (.iand, 1) := dk_126 (dk_at dksX1_falls_5 1 rfl rfl)
theorem dX1_falls_118 : decode cX1_falls 118 = .ok (.invokevirtual 240, 3) := dk_182 0 240 (dk_at dksX1_falls_5 2 rfl rfl)
theorem dX1_falls_121 : decode cX1_falls 121 = .ok (.iconst 1, 1) := dk_4 (dk_at dksX1_falls_5 5 rfl rfl)
theorem dX1_falls_122 : decode cX1_falls 122 = .ok (.if_icmp .le 7, 3) := dk_164 0 7 (dk_at dksX1_falls_5 6 rfl rfl)
theorem dX1_falls_125 : decode cX1_falls 125 = .ok (.iconst 1, 1) := dk_4 (dk_at dksX1_falls_5 9 rfl rfl)
theorem dX1_falls_126 : decode cX1_falls 126 = .ok (.goto 24, 3) := dk_167 0 24 (dk_at dksX1_falls_5 10 rfl rfl)
theorem dX1_falls_129 : decode cX1_falls 129 = .ok (.iconst 0, 1) := dk_3 (dk_at dksX1_falls_5 13 rfl rfl)
theorem dX1_falls_130 : decode cX1_falls 130 = .ok (.goto 20, 3) := dk_167 0 20 (dk_at dksX1_falls_5 14 rfl rfl)
theorem dX1_falls_133 : decode cX1_falls 133 = .ok (.aload_n 0, 1) := dk_42 (dk_at dksX1_falls_5 17 rfl rfl)
theorem dX1_falls_134 : decode cX1_falls 134 = .ok (.getfield 415, 3) := dk_180 1 159 (dk_at dksX1_falls_5 18 rfl rfl)
theorem dX1_falls_137 : decode cX1_falls 137 = .ok (.aload 4, 2) := dk_25 4 (dk_at dksX1_falls_5 21 rfl rfl)
theorem dX1_falls_139 : decode cX1_falls 139 = .ok (.invokevirtual 237, 3) := dk_182 0 237 (dk_at dksX1_falls_6 0 rfl rfl)
theorem dX1_falls_142 : decode cX1_falls 142 = .ok (.if_icmp .ne 7, 3) := dk_160 0 7 (dk_at dksX1_falls_6 3 rfl rfl)
theorem dX1_falls_145 : decode cX1_falls 145 = .ok (.iconst 1, 1) := dk_4 (dk_at dksX1_falls_6 6 rfl rfl)
theorem dX1_falls_146 : decode cX1_falls 146 = .ok (.goto 4, 3) := dk_167 0 4 (dk_at dksX1_falls_6 7 rfl rfl)
theorem dX1_falls_149 : decode cX1_falls 149 = .ok (.iconst 0, 1) := dk_3 (dk_at dksX1_falls_6 10 rfl rfl)
theorem dX1_falls_150 : decode cX1_falls 150 = .ok (.istore 6, 2) := dk_54 6 (dk_at dksX1_falls_6 11 rfl rfl)
theorem dX1_falls_152 : decode cX1_falls 152 = .ok (.iload 6, 2) := dk_21 6 (dk_at dksX1_falls_6 13 rfl rfl)
theorem dX1_falls_154 : decode cX1_falls 154 = .ok (.ifCond .eq 6, 3) := dk_153 0 6 (dk_at dksX1_falls_6 15 rfl rfl)
theorem dX1_falls_157 : decode cX1_falls 157 = .ok (.iload 5, 2) := dk_21 5 (dk_at dksX1_falls_6 18 rfl rfl)
theorem dX1_falls_159 : decode cX1_falls 159 = .ok (.ireturn, 1) := dk_172 (dk_at dksX1_falls_6 20 rfl rfl)
theorem dX1_falls_160 : decode cX1_falls 160 = .ok (.iinc 5 1, 3) := dk_132 5 1 (dk_at dksX1_falls_6 21 rfl rfl)
theorem dX1_falls_163 : decode cX1_falls 163 = .ok (.goto (-104), 3) := dk_167 255 152 (dk_at dksX1_falls_7 0 rfl rfl)
theorem dX1_falls_166 : decode cX1_falls 166 = .ok (.iconst (-1), 1) := dk_2 (dk_at dksX1_falls_7 3 rfl rfl)
theorem dX1_falls_167 : decode cX1_falls 167 = .ok (.ireturn, 1) := dk_172 (dk_at dksX1_falls_7 4 rfl rfl)
abbrev cX1_count : ByteArray := prog_1_method_61_code
def yX1_count : MethodName := ⟨RX1, "count", "(I)I"⟩
def dkwX1_count_3 : List UInt8 := [172, 2, 172]
abbrev dktX1_count_3 : List UInt8 := dkwX1_count_3 ++ []
def dkwX1_count_2 : List UInt8 := [42, 180, 0, 67, 172, 42, 180, 0, 116, 172, 42, 180, 1, 57, 172, 42, 180, 0, 89, 172, 42, 180, 1, 149]
abbrev dktX1_count_2 : List UInt8 := dkwX1_count_2 ++ dktX1_count_3
def dkwX1_count_1 : List UInt8 := [170, 0, 0, 0, 0, 0, 60, 0, 0, 0, 0, 0, 0, 0, 4, 0, 0, 0, 35, 0, 0, 0, 40, 0, 0, 0, 45, 0, 0, 0, 50, 0, 0, 0, 55]
abbrev dktX1_count_1 : List UInt8 := dkwX1_count_1 ++ dktX1_count_2
def dkwX1_count_0 : List UInt8 := [27]
abbrev dktX1_count_0 : List UInt8 := dkwX1_count_0 ++ dktX1_count_1
theorem dksX1_count_0 : cX1_count.data.toList.drop 0 = dktX1_count_0 := by decide +kernel
theorem dksX1_count_1 : cX1_count.data.toList.drop 1 = dktX1_count_1 := dk_seg dksX1_count_0 1 rfl rfl
theorem dksX1_count_2 : cX1_count.data.toList.drop 36 = dktX1_count_2 := dk_seg dksX1_count_1 35 rfl rfl
theorem dksX1_count_3 : cX1_count.data.toList.drop 60 = dktX1_count_3 := dk_seg dksX1_count_2 24 rfl rfl
theorem dX1_count_0 : decode cX1_count 0 = .ok (.iload_n 1, 1) := dk_27 (dk_at dksX1_count_0 0 rfl rfl)
theorem dX1_count_1 : decode cX1_count 1 = .ok (.tableswitch 60 0 4 #[35, 40, 45, 50, 55], 35) := by decide +kernel
theorem dX1_count_36 : decode cX1_count 36 = .ok (.aload_n 0, 1) := dk_42 (dk_at dksX1_count_2 0 rfl rfl)
theorem dX1_count_37 : decode cX1_count 37 = .ok (.getfield 67, 3) := dk_180 0 67 (dk_at dksX1_count_2 1 rfl rfl)
theorem dX1_count_40 : decode cX1_count 40 = .ok (.ireturn, 1) := dk_172 (dk_at dksX1_count_2 4 rfl rfl)
theorem dX1_count_41 : decode cX1_count 41 = .ok (.aload_n 0, 1) := dk_42 (dk_at dksX1_count_2 5 rfl rfl)
theorem dX1_count_42 : decode cX1_count 42 = .ok (.getfield 116, 3) := dk_180 0 116 (dk_at dksX1_count_2 6 rfl rfl)
theorem dX1_count_45 : decode cX1_count 45 = .ok (.ireturn, 1) := dk_172 (dk_at dksX1_count_2 9 rfl rfl)
theorem dX1_count_46 : decode cX1_count 46 = .ok (.aload_n 0, 1) := dk_42 (dk_at dksX1_count_2 10 rfl rfl)
theorem dX1_count_47 : decode cX1_count 47 = .ok (.getfield 313, 3) := dk_180 1 57 (dk_at dksX1_count_2 11 rfl rfl)
theorem dX1_count_50 : decode cX1_count 50 = .ok (.ireturn, 1) := dk_172 (dk_at dksX1_count_2 14 rfl rfl)
theorem dX1_count_51 : decode cX1_count 51 = .ok (.aload_n 0, 1) := dk_42 (dk_at dksX1_count_2 15 rfl rfl)
theorem dX1_count_52 : decode cX1_count 52 = .ok (.getfield 89, 3) := dk_180 0 89 (dk_at dksX1_count_2 16 rfl rfl)
theorem dX1_count_55 : decode cX1_count 55 = .ok (.ireturn, 1) := dk_172 (dk_at dksX1_count_2 19 rfl rfl)
theorem dX1_count_56 : decode cX1_count 56 = .ok (.aload_n 0, 1) := dk_42 (dk_at dksX1_count_2 20 rfl rfl)
theorem dX1_count_57 : decode cX1_count 57 = .ok (.getfield 405, 3) := dk_180 1 149 (dk_at dksX1_count_2 21 rfl rfl)
theorem dX1_count_60 : decode cX1_count 60 = .ok (.ireturn, 1) := dk_172 (dk_at dksX1_count_3 0 rfl rfl)
theorem dX1_count_61 : decode cX1_count 61 = .ok (.iconst (-1), 1) := dk_2 (dk_at dksX1_count_3 1 rfl rfl)
theorem dX1_count_62 : decode cX1_count 62 = .ok (.ireturn, 1) := dk_172 (dk_at dksX1_count_3 2 rfl rfl)
abbrev cX1_bubble : ByteArray := prog_1_method_17_code
def yX1_bubble : MethodName := ⟨RX1, "bubble", "(III)I"⟩
def dkwX1_bubble_4 : List UInt8 := [25, 4, 180, 0, 175, 28, 46, 172, 25, 4, 180, 0, 178, 25, 4, 180, 0, 175, 28, 46, 46, 172]
abbrev dktX1_bubble_4 : List UInt8 := dkwX1_bubble_4 ++ []
def dkwX1_bubble_3 : List UInt8 := [25, 4, 180, 0, 166, 28, 46, 172, 25, 4, 180, 0, 169, 28, 46, 172, 25, 4, 180, 0, 172, 28, 46, 172]
abbrev dktX1_bubble_3 : List UInt8 := dkwX1_bubble_3 ++ dktX1_bubble_4
def dkwX1_bubble_2 : List UInt8 := [170, 0, 0, 0, 0, 62, 0, 0, 0, 0, 0, 0, 0, 3, 0, 0, 0, 30, 0, 0, 0, 38, 0, 0, 0, 46, 0, 0, 0, 54]
abbrev dktX1_bubble_2 : List UInt8 := dkwX1_bubble_2 ++ dktX1_bubble_3
def dkwX1_bubble_1 : List UInt8 := [89, 183, 0, 165, 191, 42, 180, 0, 21, 27, 50, 58, 4, 29]
abbrev dktX1_bubble_1 : List UInt8 := dkwX1_bubble_1 ++ dktX1_bubble_2
def dkwX1_bubble_0 : List UInt8 := [42, 27, 28, 182, 0, 157, 153, 0, 15, 29, 133, 9, 20, 0, 161, 184, 0, 74, 154, 0, 11, 187, 0, 163]
abbrev dktX1_bubble_0 : List UInt8 := dkwX1_bubble_0 ++ dktX1_bubble_1
theorem dksX1_bubble_0 : cX1_bubble.data.toList.drop 0 = dktX1_bubble_0 := by decide +kernel
theorem dksX1_bubble_1 : cX1_bubble.data.toList.drop 24 = dktX1_bubble_1 := dk_seg dksX1_bubble_0 24 rfl rfl
theorem dksX1_bubble_2 : cX1_bubble.data.toList.drop 38 = dktX1_bubble_2 := dk_seg dksX1_bubble_1 14 rfl rfl
theorem dksX1_bubble_3 : cX1_bubble.data.toList.drop 68 = dktX1_bubble_3 := dk_seg dksX1_bubble_2 30 rfl rfl
theorem dksX1_bubble_4 : cX1_bubble.data.toList.drop 92 = dktX1_bubble_4 := dk_seg dksX1_bubble_3 24 rfl rfl
theorem dX1_bubble_0 : decode cX1_bubble 0 = .ok (.aload_n 0, 1) := dk_42 (dk_at dksX1_bubble_0 0 rfl rfl)
theorem dX1_bubble_1 : decode cX1_bubble 1 = .ok (.iload_n 1, 1) := dk_27 (dk_at dksX1_bubble_0 1 rfl rfl)
theorem dX1_bubble_2 : decode cX1_bubble 2 = .ok (.iload_n 2, 1) := dk_28 (dk_at dksX1_bubble_0 2 rfl rfl)
theorem dX1_bubble_3 : decode cX1_bubble 3 = .ok (.invokevirtual 157, 3) := dk_182 0 157 (dk_at dksX1_bubble_0 3 rfl rfl)
theorem dX1_bubble_6 : decode cX1_bubble 6 = .ok (.ifCond .eq 15, 3) := dk_153 0 15 (dk_at dksX1_bubble_0 6 rfl rfl)
theorem dX1_bubble_9 : decode cX1_bubble 9 = .ok (.iload_n 3, 1) := dk_29 (dk_at dksX1_bubble_0 9 rfl rfl)
theorem dX1_bubble_10 : decode cX1_bubble 10 = .ok (.i2l, 1) := dk_133 (dk_at dksX1_bubble_0 10 rfl rfl)
theorem dX1_bubble_11 : decode cX1_bubble 11 = .ok (.lconst 0, 1) := dk_9 (dk_at dksX1_bubble_0 11 rfl rfl)
theorem dX1_bubble_12 : decode cX1_bubble 12 = .ok (.ldc2_w 161, 3) := dk_20 0 161 (dk_at dksX1_bubble_0 12 rfl rfl)
theorem dX1_bubble_15 : decode cX1_bubble 15 = .ok (.invokestatic 74, 3) := dk_184 0 74 (dk_at dksX1_bubble_0 15 rfl rfl)
theorem dX1_bubble_18 : decode cX1_bubble 18 = .ok (.ifCond .ne 11, 3) := dk_154 0 11 (dk_at dksX1_bubble_0 18 rfl rfl)
theorem dX1_bubble_21 : decode cX1_bubble 21 = .ok (.new 163, 3) := dk_187 0 163 (dk_at dksX1_bubble_0 21 rfl rfl)
theorem dX1_bubble_24 : decode cX1_bubble 24 = .ok (.dup, 1) := dk_89 (dk_at dksX1_bubble_1 0 rfl rfl)
theorem dX1_bubble_25 : decode cX1_bubble 25 = .ok (.invokespecial 165, 3) := dk_183 0 165 (dk_at dksX1_bubble_1 1 rfl rfl)
theorem dX1_bubble_28 : decode cX1_bubble 28 = .ok (.athrow, 1) := dk_191 (dk_at dksX1_bubble_1 4 rfl rfl)
theorem dX1_bubble_29 : decode cX1_bubble 29 = .ok (.aload_n 0, 1) := dk_42 (dk_at dksX1_bubble_1 5 rfl rfl)
theorem dX1_bubble_30 : decode cX1_bubble 30 = .ok (.getfield 21, 3) := dk_180 0 21 (dk_at dksX1_bubble_1 6 rfl rfl)
theorem dX1_bubble_33 : decode cX1_bubble 33 = .ok (.iload_n 1, 1) := dk_27 (dk_at dksX1_bubble_1 9 rfl rfl)
theorem dX1_bubble_34 : decode cX1_bubble 34 = .ok (.aaload, 1) := dk_50 (dk_at dksX1_bubble_1 10 rfl rfl)
theorem dX1_bubble_35 : decode cX1_bubble 35 = .ok (.astore 4, 2) := dk_58 4 (dk_at dksX1_bubble_1 11 rfl rfl)
theorem dX1_bubble_37 : decode cX1_bubble 37 = .ok (.iload_n 3, 1) := dk_29 (dk_at dksX1_bubble_1 13 rfl rfl)
theorem dX1_bubble_38 : decode cX1_bubble 38 = .ok (.tableswitch 62 0 3 #[30, 38, 46, 54], 30) := by decide +kernel
theorem dX1_bubble_68 : decode cX1_bubble 68 = .ok (.aload 4, 2) := dk_25 4 (dk_at dksX1_bubble_3 0 rfl rfl)
theorem dX1_bubble_70 : decode cX1_bubble 70 = .ok (.getfield 166, 3) := dk_180 0 166 (dk_at dksX1_bubble_3 2 rfl rfl)
theorem dX1_bubble_73 : decode cX1_bubble 73 = .ok (.iload_n 2, 1) := dk_28 (dk_at dksX1_bubble_3 5 rfl rfl)
theorem dX1_bubble_74 : decode cX1_bubble 74 = .ok (.iaload, 1) := dk_46 (dk_at dksX1_bubble_3 6 rfl rfl)
theorem dX1_bubble_75 : decode cX1_bubble 75 = .ok (.ireturn, 1) := dk_172 (dk_at dksX1_bubble_3 7 rfl rfl)
theorem dX1_bubble_76 : decode cX1_bubble 76 = .ok (.aload 4, 2) := dk_25 4 (dk_at dksX1_bubble_3 8 rfl rfl)
theorem dX1_bubble_78 : decode cX1_bubble 78 = .ok (.getfield 169, 3) := dk_180 0 169 (dk_at dksX1_bubble_3 10 rfl rfl)
theorem dX1_bubble_81 : decode cX1_bubble 81 = .ok (.iload_n 2, 1) := dk_28 (dk_at dksX1_bubble_3 13 rfl rfl)
theorem dX1_bubble_82 : decode cX1_bubble 82 = .ok (.iaload, 1) := dk_46 (dk_at dksX1_bubble_3 14 rfl rfl)
theorem dX1_bubble_83 : decode cX1_bubble 83 = .ok (.ireturn, 1) := dk_172 (dk_at dksX1_bubble_3 15 rfl rfl)
theorem dX1_bubble_84 : decode cX1_bubble 84 = .ok (.aload 4, 2) := dk_25 4 (dk_at dksX1_bubble_3 16 rfl rfl)
theorem dX1_bubble_86 : decode cX1_bubble 86 = .ok (.getfield 172, 3) := dk_180 0 172 (dk_at dksX1_bubble_3 18 rfl rfl)
theorem dX1_bubble_89 : decode cX1_bubble 89 = .ok (.iload_n 2, 1) := dk_28 (dk_at dksX1_bubble_3 21 rfl rfl)
theorem dX1_bubble_90 : decode cX1_bubble 90 = .ok (.iaload, 1) := dk_46 (dk_at dksX1_bubble_3 22 rfl rfl)
theorem dX1_bubble_91 : decode cX1_bubble 91 = .ok (.ireturn, 1) := dk_172 (dk_at dksX1_bubble_3 23 rfl rfl)
theorem dX1_bubble_92 : decode cX1_bubble 92 = .ok (.aload 4, 2) := dk_25 4 (dk_at dksX1_bubble_4 0 rfl rfl)
theorem dX1_bubble_94 : decode cX1_bubble 94 = .ok (.getfield 175, 3) := dk_180 0 175 (dk_at dksX1_bubble_4 2 rfl rfl)
theorem dX1_bubble_97 : decode cX1_bubble 97 = .ok (.iload_n 2, 1) := dk_28 (dk_at dksX1_bubble_4 5 rfl rfl)
theorem dX1_bubble_98 : decode cX1_bubble 98 = .ok (.iaload, 1) := dk_46 (dk_at dksX1_bubble_4 6 rfl rfl)
theorem dX1_bubble_99 : decode cX1_bubble 99 = .ok (.ireturn, 1) := dk_172 (dk_at dksX1_bubble_4 7 rfl rfl)
theorem dX1_bubble_100 : decode cX1_bubble 100 = .ok (.aload 4, 2) := dk_25 4 (dk_at dksX1_bubble_4 8 rfl rfl)
theorem dX1_bubble_102 : decode cX1_bubble 102 = .ok (.getfield 178, 3) := dk_180 0 178 (dk_at dksX1_bubble_4 10 rfl rfl)
theorem dX1_bubble_105 : decode cX1_bubble 105 = .ok (.aload 4, 2) := dk_25 4 (dk_at dksX1_bubble_4 13 rfl rfl)
theorem dX1_bubble_107 : decode cX1_bubble 107 = .ok (.getfield 175, 3) := dk_180 0 175 (dk_at dksX1_bubble_4 15 rfl rfl)
theorem dX1_bubble_110 : decode cX1_bubble 110 = .ok (.iload_n 2, 1) := dk_28 (dk_at dksX1_bubble_4 18 rfl rfl)
theorem dX1_bubble_111 : decode cX1_bubble 111 = .ok (.iaload, 1) := dk_46 (dk_at dksX1_bubble_4 19 rfl rfl)
theorem dX1_bubble_112 : decode cX1_bubble 112 = .ok (.iaload, 1) := dk_46 (dk_at dksX1_bubble_4 20 rfl rfl)
theorem dX1_bubble_113 : decode cX1_bubble 113 = .ok (.ireturn, 1) := dk_172 (dk_at dksX1_bubble_4 21 rfl rfl)
abbrev cX1_guest : ByteArray := prog_1_method_52_code
def yX1_guest : MethodName := ⟨RX1, "guest", "(II)I"⟩
def dkwX1_guest_3 : List UInt8 := [160, 0, 10, 45, 180, 1, 86, 167, 0, 7, 45, 180, 1, 83, 172]
abbrev dktX1_guest_3 : List UInt8 := dkwX1_guest_3 ++ []
def dkwX1_guest_2 : List UInt8 := [154, 0, 10, 45, 180, 1, 117, 167, 0, 31, 28, 4, 160, 0, 10, 45, 180, 1, 107, 167, 0, 19, 28, 5]
abbrev dktX1_guest_2 : List UInt8 := dkwX1_guest_2 ++ dktX1_guest_3
def dkwX1_guest_1 : List UInt8 := [184, 0, 74, 154, 0, 11, 187, 0, 163, 89, 183, 0, 165, 191, 42, 180, 0, 43, 27, 50, 78, 28]
abbrev dktX1_guest_1 : List UInt8 := dkwX1_guest_1 ++ dktX1_guest_2
def dkwX1_guest_0 : List UInt8 := [27, 133, 9, 42, 180, 1, 70, 4, 100, 133, 184, 0, 74, 153, 0, 15, 28, 133, 9, 20, 1, 128]
abbrev dktX1_guest_0 : List UInt8 := dkwX1_guest_0 ++ dktX1_guest_1
theorem dksX1_guest_0 : cX1_guest.data.toList.drop 0 = dktX1_guest_0 := by decide +kernel
theorem dksX1_guest_1 : cX1_guest.data.toList.drop 22 = dktX1_guest_1 := dk_seg dksX1_guest_0 22 rfl rfl
theorem dksX1_guest_2 : cX1_guest.data.toList.drop 44 = dktX1_guest_2 := dk_seg dksX1_guest_1 22 rfl rfl
theorem dksX1_guest_3 : cX1_guest.data.toList.drop 68 = dktX1_guest_3 := dk_seg dksX1_guest_2 24 rfl rfl
theorem dX1_guest_0 : decode cX1_guest 0 = .ok (.iload_n 1, 1) := dk_27 (dk_at dksX1_guest_0 0 rfl rfl)
theorem dX1_guest_1 : decode cX1_guest 1 = .ok (.i2l, 1) := dk_133 (dk_at dksX1_guest_0 1 rfl rfl)
theorem dX1_guest_2 : decode cX1_guest 2 = .ok (.lconst 0, 1) := dk_9 (dk_at dksX1_guest_0 2 rfl rfl)
theorem dX1_guest_3 : decode cX1_guest 3 = .ok (.aload_n 0, 1) := dk_42 (dk_at dksX1_guest_0 3 rfl rfl)
theorem dX1_guest_4 : decode cX1_guest 4 = .ok (.getfield 326, 3) := dk_180 1 70 (dk_at dksX1_guest_0 4 rfl rfl)
theorem dX1_guest_7 : decode cX1_guest 7 = .ok (.iconst 1, 1) := dk_4 (dk_at dksX1_guest_0 7 rfl rfl)
theorem dX1_guest_8 : decode cX1_guest 8 = .ok (.isub, 1) := dk_100 (dk_at dksX1_guest_0 8 rfl rfl)
theorem dX1_guest_9 : decode cX1_guest 9 = .ok (.i2l, 1) := dk_133 (dk_at dksX1_guest_0 9 rfl rfl)
theorem dX1_guest_10 : decode cX1_guest 10 = .ok (.invokestatic 74, 3) := dk_184 0 74 (dk_at dksX1_guest_0 10 rfl rfl)
theorem dX1_guest_13 : decode cX1_guest 13 = .ok (.ifCond .eq 15, 3) := dk_153 0 15 (dk_at dksX1_guest_0 13 rfl rfl)
theorem dX1_guest_16 : decode cX1_guest 16 = .ok (.iload_n 2, 1) := dk_28 (dk_at dksX1_guest_0 16 rfl rfl)
theorem dX1_guest_17 : decode cX1_guest 17 = .ok (.i2l, 1) := dk_133 (dk_at dksX1_guest_0 17 rfl rfl)
theorem dX1_guest_18 : decode cX1_guest 18 = .ok (.lconst 0, 1) := dk_9 (dk_at dksX1_guest_0 18 rfl rfl)
theorem dX1_guest_19 : decode cX1_guest 19 = .ok (.ldc2_w 384, 3) := dk_20 1 128 (dk_at dksX1_guest_0 19 rfl rfl)
theorem dX1_guest_22 : decode cX1_guest 22 = .ok (.invokestatic 74, 3) := dk_184 0 74 (dk_at dksX1_guest_1 0 rfl rfl)
theorem dX1_guest_25 : decode cX1_guest 25 = .ok (.ifCond .ne 11, 3) := dk_154 0 11 (dk_at dksX1_guest_1 3 rfl rfl)
theorem dX1_guest_28 : decode cX1_guest 28 = .ok (.new 163, 3) := dk_187 0 163 (dk_at dksX1_guest_1 6 rfl rfl)
theorem dX1_guest_31 : decode cX1_guest 31 = .ok (.dup, 1) := dk_89 (dk_at dksX1_guest_1 9 rfl rfl)
theorem dX1_guest_32 : decode cX1_guest 32 = .ok (.invokespecial 165, 3) := dk_183 0 165 (dk_at dksX1_guest_1 10 rfl rfl)
theorem dX1_guest_35 : decode cX1_guest 35 = .ok (.athrow, 1) := dk_191 (dk_at dksX1_guest_1 13 rfl rfl)
theorem dX1_guest_36 : decode cX1_guest 36 = .ok (.aload_n 0, 1) := dk_42 (dk_at dksX1_guest_1 14 rfl rfl)
theorem dX1_guest_37 : decode cX1_guest 37 = .ok (.getfield 43, 3) := dk_180 0 43 (dk_at dksX1_guest_1 15 rfl rfl)
theorem dX1_guest_40 : decode cX1_guest 40 = .ok (.iload_n 1, 1) := dk_27 (dk_at dksX1_guest_1 18 rfl rfl)
theorem dX1_guest_41 : decode cX1_guest 41 = .ok (.aaload, 1) := dk_50 (dk_at dksX1_guest_1 19 rfl rfl)
theorem dX1_guest_42 : decode cX1_guest 42 = .ok (.astore_n 3, 1) := dk_78 (dk_at dksX1_guest_1 20 rfl rfl)
theorem dX1_guest_43 : decode cX1_guest 43 = .ok (.iload_n 2, 1) := dk_28 (dk_at dksX1_guest_1 21 rfl rfl)
theorem dX1_guest_44 : decode cX1_guest 44 = .ok (.ifCond .ne 10, 3) := dk_154 0 10 (dk_at dksX1_guest_2 0 rfl rfl)
theorem dX1_guest_47 : decode cX1_guest 47 = .ok (.aload_n 3, 1) := dk_45 (dk_at dksX1_guest_2 3 rfl rfl)
theorem dX1_guest_48 : decode cX1_guest 48 = .ok (.getfield 373, 3) := dk_180 1 117 (dk_at dksX1_guest_2 4 rfl rfl)
theorem dX1_guest_51 : decode cX1_guest 51 = .ok (.goto 31, 3) := dk_167 0 31 (dk_at dksX1_guest_2 7 rfl rfl)
theorem dX1_guest_54 : decode cX1_guest 54 = .ok (.iload_n 2, 1) := dk_28 (dk_at dksX1_guest_2 10 rfl rfl)
theorem dX1_guest_55 : decode cX1_guest 55 = .ok (.iconst 1, 1) := dk_4 (dk_at dksX1_guest_2 11 rfl rfl)
theorem dX1_guest_56 : decode cX1_guest 56 = .ok (.if_icmp .ne 10, 3) := dk_160 0 10 (dk_at dksX1_guest_2 12 rfl rfl)
theorem dX1_guest_59 : decode cX1_guest 59 = .ok (.aload_n 3, 1) := dk_45 (dk_at dksX1_guest_2 15 rfl rfl)
theorem dX1_guest_60 : decode cX1_guest 60 = .ok (.getfield 363, 3) := dk_180 1 107 (dk_at dksX1_guest_2 16 rfl rfl)
theorem dX1_guest_63 : decode cX1_guest 63 = .ok (.goto 19, 3) := dk_167 0 19 (dk_at dksX1_guest_2 19 rfl rfl)
theorem dX1_guest_66 : decode cX1_guest 66 = .ok (.iload_n 2, 1) := dk_28 (dk_at dksX1_guest_2 22 rfl rfl)
theorem dX1_guest_67 : decode cX1_guest 67 = .ok (.iconst 2, 1) := dk_5 (dk_at dksX1_guest_2 23 rfl rfl)
theorem dX1_guest_68 : decode cX1_guest 68 = .ok (.if_icmp .ne 10, 3) := dk_160 0 10 (dk_at dksX1_guest_3 0 rfl rfl)
theorem dX1_guest_71 : decode cX1_guest 71 = .ok (.aload_n 3, 1) := dk_45 (dk_at dksX1_guest_3 3 rfl rfl)
theorem dX1_guest_72 : decode cX1_guest 72 = .ok (.getfield 342, 3) := dk_180 1 86 (dk_at dksX1_guest_3 4 rfl rfl)
theorem dX1_guest_75 : decode cX1_guest 75 = .ok (.goto 7, 3) := dk_167 0 7 (dk_at dksX1_guest_3 7 rfl rfl)
theorem dX1_guest_78 : decode cX1_guest 78 = .ok (.aload_n 3, 1) := dk_45 (dk_at dksX1_guest_3 10 rfl rfl)
theorem dX1_guest_79 : decode cX1_guest 79 = .ok (.getfield 339, 3) := dk_180 1 83 (dk_at dksX1_guest_3 11 rfl rfl)
theorem dX1_guest_82 : decode cX1_guest 82 = .ok (.ireturn, 1) := dk_172 (dk_at dksX1_guest_3 14 rfl rfl)
abbrev cX1_worth : ByteArray := prog_1_method_56_code
def yX1_worth : MethodName := ⟨RX1, "worth", "(IIIIII)I"⟩
def dkwX1_worth_1 : List UInt8 := [29, 21, 4, 21, 5, 21, 6, 182, 1, 155, 172]
abbrev dktX1_worth_1 : List UInt8 := dkwX1_worth_1 ++ []
def dkwX1_worth_0 : List UInt8 := [42, 27, 182, 1, 152, 154, 0, 11, 187, 0, 163, 89, 183, 0, 165, 191, 42, 42, 180, 0, 53, 27, 50, 28]
abbrev dktX1_worth_0 : List UInt8 := dkwX1_worth_0 ++ dktX1_worth_1
theorem dksX1_worth_0 : cX1_worth.data.toList.drop 0 = dktX1_worth_0 := by decide +kernel
theorem dksX1_worth_1 : cX1_worth.data.toList.drop 24 = dktX1_worth_1 := dk_seg dksX1_worth_0 24 rfl rfl
theorem dX1_worth_0 : decode cX1_worth 0 = .ok (.aload_n 0, 1) := dk_42 (dk_at dksX1_worth_0 0 rfl rfl)
theorem dX1_worth_1 : decode cX1_worth 1 = .ok (.iload_n 1, 1) := dk_27 (dk_at dksX1_worth_0 1 rfl rfl)
theorem dX1_worth_2 : decode cX1_worth 2 = .ok (.invokevirtual 408, 3) := dk_182 1 152 (dk_at dksX1_worth_0 2 rfl rfl)
theorem dX1_worth_5 : decode cX1_worth 5 = .ok (.ifCond .ne 11, 3) := dk_154 0 11 (dk_at dksX1_worth_0 5 rfl rfl)
theorem dX1_worth_8 : decode cX1_worth 8 = .ok (.new 163, 3) := dk_187 0 163 (dk_at dksX1_worth_0 8 rfl rfl)
theorem dX1_worth_11 : decode cX1_worth 11 = .ok (.dup, 1) := dk_89 (dk_at dksX1_worth_0 11 rfl rfl)
theorem dX1_worth_12 : decode cX1_worth 12 = .ok (.invokespecial 165, 3) := dk_183 0 165 (dk_at dksX1_worth_0 12 rfl rfl)
theorem dX1_worth_15 : decode cX1_worth 15 = .ok (.athrow, 1) := dk_191 (dk_at dksX1_worth_0 15 rfl rfl)
theorem dX1_worth_16 : decode cX1_worth 16 = .ok (.aload_n 0, 1) := dk_42 (dk_at dksX1_worth_0 16 rfl rfl)
theorem dX1_worth_17 : decode cX1_worth 17 = .ok (.aload_n 0, 1) := dk_42 (dk_at dksX1_worth_0 17 rfl rfl)
theorem dX1_worth_18 : decode cX1_worth 18 = .ok (.getfield 53, 3) := dk_180 0 53 (dk_at dksX1_worth_0 18 rfl rfl)
theorem dX1_worth_21 : decode cX1_worth 21 = .ok (.iload_n 1, 1) := dk_27 (dk_at dksX1_worth_0 21 rfl rfl)
theorem dX1_worth_22 : decode cX1_worth 22 = .ok (.aaload, 1) := dk_50 (dk_at dksX1_worth_0 22 rfl rfl)
theorem dX1_worth_23 : decode cX1_worth 23 = .ok (.iload_n 2, 1) := dk_28 (dk_at dksX1_worth_0 23 rfl rfl)
theorem dX1_worth_24 : decode cX1_worth 24 = .ok (.iload_n 3, 1) := dk_29 (dk_at dksX1_worth_1 0 rfl rfl)
theorem dX1_worth_25 : decode cX1_worth 25 = .ok (.iload 4, 2) := dk_21 4 (dk_at dksX1_worth_1 1 rfl rfl)
theorem dX1_worth_27 : decode cX1_worth 27 = .ok (.iload 5, 2) := dk_21 5 (dk_at dksX1_worth_1 3 rfl rfl)
theorem dX1_worth_29 : decode cX1_worth 29 = .ok (.iload 6, 2) := dk_21 6 (dk_at dksX1_worth_1 5 rfl rfl)
theorem dX1_worth_31 : decode cX1_worth 31 = .ok (.invokevirtual 411, 3) := dk_182 1 155 (dk_at dksX1_worth_1 7 rfl rfl)
theorem dX1_worth_34 : decode cX1_worth 34 = .ok (.ireturn, 1) := dk_172 (dk_at dksX1_worth_1 10 rfl rfl)
theorem q103 : (Jvm.Cond.initialized "BalloonStall") ∈ lw_all := lw_g (lw_at lw_m1 1 rfl) rfl
theorem q136 : (Jvm.Cond.instantiable "BalloonStall" (23 : Nat)) ∈ lw_all := lw_g (lw_at lw_m1 34 rfl) rfl
theorem q138 : (Jvm.Cond.instanceMethod ({ cls := "BalloonStall", name := "<init>", desc := "()V" } : Jvm.MethodName)) ∈ lw_all := lw_g (lw_at lw_m1 36 rfl) rfl
theorem q139 : (Jvm.Cond.code ({ cls := "BalloonStall", name := "<init>", desc := "()V" } : Jvm.MethodName) prog_1_method_2_code (1 : Nat) (Option.none : Option Jvm.ClassFile.FieldType)) ∈ lw_all := lw_g (lw_at lw_m1 37 rfl) rfl
theorem q140 : (Jvm.Cond.methodLink "BalloonStall" (1 : Nat) ({ cls := "java/lang/Object", name := "<init>", desc := "()V" } : Jvm.MethodName)) ∈ lw_all := lw_g (lw_at lw_m1 38 rfl) rfl
theorem q143 : (Jvm.Cond.classLink "BalloonStall" (9 : Nat) "BalloonStall$Sort") ∈ lw_all := lw_g (lw_at lw_m1 41 rfl) rfl
theorem q145 : (Jvm.Cond.classLink "BalloonStall" (19 : Nat) "BalloonStall$Figure") ∈ lw_all := lw_g (lw_at lw_m1 43 rfl) rfl
theorem q147 : (Jvm.Cond.classLink "BalloonStall" (41 : Nat) "BalloonStall$Guest") ∈ lw_all := lw_g (lw_at lw_m1 45 rfl) rfl
theorem q149 : (Jvm.Cond.classLink "BalloonStall" (51 : Nat) "BalloonStall$Clause") ∈ lw_all := lw_g (lw_at lw_m1 47 rfl) rfl
theorem q151 : (Jvm.Cond.classLink "BalloonStall" (57 : Nat) "BalloonStall$Letters") ∈ lw_all := lw_g (lw_at lw_m1 49 rfl) rfl
theorem q153 : (Jvm.Cond.methodLinkNest "BalloonStall" (59 : Nat) ({ cls := "BalloonStall$Letters", name := "<init>", desc := "()V" } : Jvm.MethodName) "BalloonStall") ∈ lw_tbl := lw_at lw_m1 51 rfl
theorem q159 : (Jvm.Cond.fieldLinkNest "BalloonStall" (386 : Nat) "BalloonStall$Letters" "of" "[I" "BalloonStall") ∈ lw_tbl := lw_at lw_m1 57 rfl
theorem q165 : (Jvm.Cond.fieldLink "BalloonStall" (11 : Nat) "BalloonStall" "sorts" "[LBalloonStall$Sort;") ∈ lw_all := lw_g (lw_at lw_m1 63 rfl) rfl
theorem q166 : (Jvm.Cond.fieldLink "BalloonStall" (67 : Nat) "BalloonStall" "sortMany" "I") ∈ lw_all := lw_g (lw_at lw_m1 64 rfl) rfl
theorem q169 : (Jvm.Cond.fieldLink "BalloonStall" (15 : Nat) "BalloonStall" "tape" "[B") ∈ lw_all := lw_g (lw_at lw_m1 67 rfl) rfl
theorem q171 : (Jvm.Cond.fieldLink "BalloonStall" (89 : Nat) "BalloonStall" "length" "I") ∈ lw_all := lw_g (lw_at lw_m1 69 rfl) rfl
theorem q172 : (Jvm.Cond.fieldLink "BalloonStall" (21 : Nat) "BalloonStall" "figures" "[LBalloonStall$Figure;") ∈ lw_all := lw_g (lw_at lw_m1 70 rfl) rfl
theorem q173 : (Jvm.Cond.fieldLink "BalloonStall" (116 : Nat) "BalloonStall" "figureMany" "I") ∈ lw_all := lw_g (lw_at lw_m1 71 rfl) rfl
theorem q174 : (Jvm.Cond.fieldLink "BalloonStall" (25 : Nat) "BalloonStall" "images" "[I") ∈ lw_all := lw_g (lw_at lw_m1 72 rfl) rfl
theorem q175 : (Jvm.Cond.fieldLink "BalloonStall" (29 : Nat) "BalloonStall" "fars" "[I") ∈ lw_all := lw_g (lw_at lw_m1 73 rfl) rfl
theorem q176 : (Jvm.Cond.fieldLink "BalloonStall" (32 : Nat) "BalloonStall" "fewest" "[I") ∈ lw_all := lw_g (lw_at lw_m1 74 rfl) rfl
theorem q177 : (Jvm.Cond.fieldLink "BalloonStall" (35 : Nat) "BalloonStall" "waysOf" "[I") ∈ lw_all := lw_g (lw_at lw_m1 75 rfl) rfl
theorem q178 : (Jvm.Cond.fieldLink "BalloonStall" (38 : Nat) "BalloonStall" "oddPoints" "[I") ∈ lw_all := lw_g (lw_at lw_m1 76 rfl) rfl
theorem q179 : (Jvm.Cond.fieldLink "BalloonStall" (43 : Nat) "BalloonStall" "guests" "[LBalloonStall$Guest;") ∈ lw_all := lw_g (lw_at lw_m1 77 rfl) rfl
theorem q180 : (Jvm.Cond.fieldLink "BalloonStall" (313 : Nat) "BalloonStall" "guestMany" "I") ∈ lw_all := lw_g (lw_at lw_m1 78 rfl) rfl
theorem q181 : (Jvm.Cond.fieldLink "BalloonStall" (326 : Nat) "BalloonStall" "ran" "I") ∈ lw_all := lw_g (lw_at lw_m1 79 rfl) rfl
theorem q182 : (Jvm.Cond.fieldLink "BalloonStall" (47 : Nat) "BalloonStall" "bubblePace" "I") ∈ lw_all := lw_g (lw_at lw_m1 80 rfl) rfl
theorem q183 : (Jvm.Cond.fieldLink "BalloonStall" (310 : Nat) "BalloonStall" "balloonPace" "I") ∈ lw_all := lw_g (lw_at lw_m1 81 rfl) rfl
theorem q184 : (Jvm.Cond.fieldLink "BalloonStall" (316 : Nat) "BalloonStall" "latest" "I") ∈ lw_all := lw_g (lw_at lw_m1 82 rfl) rfl
theorem q185 : (Jvm.Cond.fieldLink "BalloonStall" (347 : Nat) "BalloonStall" "x" "J") ∈ lw_all := lw_g (lw_at lw_m1 83 rfl) rfl
theorem q186 : (Jvm.Cond.fieldLink "BalloonStall" (53 : Nat) "BalloonStall" "rules" "[LBalloonStall$Clause;") ∈ lw_all := lw_g (lw_at lw_m1 84 rfl) rfl
theorem q187 : (Jvm.Cond.fieldLink "BalloonStall" (60 : Nat) "BalloonStall" "letters" "LBalloonStall$Letters;") ∈ lw_all := lw_g (lw_at lw_m1 85 rfl) rfl
theorem q188 : (Jvm.Cond.fieldLink "BalloonStall" (405 : Nat) "BalloonStall" "ruleMany" "I") ∈ lw_all := lw_g (lw_at lw_m1 86 rfl) rfl
theorem q189 : (Jvm.Cond.fieldLink "BalloonStall" (64 : Nat) "BalloonStall" "ages" "[I") ∈ lw_all := lw_g (lw_at lw_m1 87 rfl) rfl
theorem q190 : (Jvm.Cond.fieldLink "BalloonStall" (415 : Nat) "BalloonStall" "lost" "I") ∈ lw_all := lw_g (lw_at lw_m1 88 rfl) rfl
theorem q191 : (Jvm.Cond.laysFinal "BalloonStall" "BalloonStall" "sorts" "[LBalloonStall$Sort;") ∈ lw_all := lw_g (lw_at lw_m1 89 rfl) rfl
theorem q192 : (Jvm.Cond.soleField "BalloonStall" "sorts") ∈ lw_all := lw_g (lw_at lw_m1 90 rfl) rfl
theorem q193 : (Jvm.Cond.lays "BalloonStall" "BalloonStall" "sortMany" "I") ∈ lw_all := lw_g (lw_at lw_m1 91 rfl) rfl
theorem q194 : (Jvm.Cond.soleField "BalloonStall" "sortMany") ∈ lw_all := lw_g (lw_at lw_m1 92 rfl) rfl
theorem q195 : (Jvm.Cond.laysFinal "BalloonStall" "BalloonStall" "tape" "[B") ∈ lw_all := lw_g (lw_at lw_m1 93 rfl) rfl
theorem q196 : (Jvm.Cond.soleField "BalloonStall" "tape") ∈ lw_all := lw_g (lw_at lw_m1 94 rfl) rfl
theorem q197 : (Jvm.Cond.lays "BalloonStall" "BalloonStall" "length" "I") ∈ lw_all := lw_g (lw_at lw_m1 95 rfl) rfl
theorem q198 : (Jvm.Cond.soleField "BalloonStall" "length") ∈ lw_all := lw_g (lw_at lw_m1 96 rfl) rfl
theorem q199 : (Jvm.Cond.laysFinal "BalloonStall" "BalloonStall" "figures" "[LBalloonStall$Figure;") ∈ lw_all := lw_g (lw_at lw_m1 97 rfl) rfl
theorem q200 : (Jvm.Cond.soleField "BalloonStall" "figures") ∈ lw_all := lw_g (lw_at lw_m1 98 rfl) rfl
theorem q201 : (Jvm.Cond.lays "BalloonStall" "BalloonStall" "figureMany" "I") ∈ lw_all := lw_g (lw_at lw_m1 99 rfl) rfl
theorem q202 : (Jvm.Cond.soleField "BalloonStall" "figureMany") ∈ lw_all := lw_g (lw_at lw_m1 100 rfl) rfl
theorem q203 : (Jvm.Cond.laysFinal "BalloonStall" "BalloonStall" "images" "[I") ∈ lw_all := lw_g (lw_at lw_m1 101 rfl) rfl
theorem q204 : (Jvm.Cond.soleField "BalloonStall" "images") ∈ lw_all := lw_g (lw_at lw_m1 102 rfl) rfl
theorem q205 : (Jvm.Cond.laysFinal "BalloonStall" "BalloonStall" "fars" "[I") ∈ lw_all := lw_g (lw_at lw_m1 103 rfl) rfl
theorem q206 : (Jvm.Cond.soleField "BalloonStall" "fars") ∈ lw_all := lw_g (lw_at lw_m1 104 rfl) rfl
theorem q207 : (Jvm.Cond.laysFinal "BalloonStall" "BalloonStall" "fewest" "[I") ∈ lw_all := lw_g (lw_at lw_m1 105 rfl) rfl
theorem q208 : (Jvm.Cond.soleField "BalloonStall" "fewest") ∈ lw_all := lw_g (lw_at lw_m1 106 rfl) rfl
theorem q209 : (Jvm.Cond.laysFinal "BalloonStall" "BalloonStall" "waysOf" "[I") ∈ lw_all := lw_g (lw_at lw_m1 107 rfl) rfl
theorem q210 : (Jvm.Cond.soleField "BalloonStall" "waysOf") ∈ lw_all := lw_g (lw_at lw_m1 108 rfl) rfl
theorem q211 : (Jvm.Cond.laysFinal "BalloonStall" "BalloonStall" "oddPoints" "[I") ∈ lw_all := lw_g (lw_at lw_m1 109 rfl) rfl
theorem q212 : (Jvm.Cond.soleField "BalloonStall" "oddPoints") ∈ lw_all := lw_g (lw_at lw_m1 110 rfl) rfl
theorem q213 : (Jvm.Cond.laysFinal "BalloonStall" "BalloonStall" "guests" "[LBalloonStall$Guest;") ∈ lw_all := lw_g (lw_at lw_m1 111 rfl) rfl
theorem q214 : (Jvm.Cond.soleField "BalloonStall" "guests") ∈ lw_all := lw_g (lw_at lw_m1 112 rfl) rfl
theorem q215 : (Jvm.Cond.lays "BalloonStall" "BalloonStall" "guestMany" "I") ∈ lw_all := lw_g (lw_at lw_m1 113 rfl) rfl
theorem q216 : (Jvm.Cond.soleField "BalloonStall" "guestMany") ∈ lw_all := lw_g (lw_at lw_m1 114 rfl) rfl
theorem q217 : (Jvm.Cond.lays "BalloonStall" "BalloonStall" "ran" "I") ∈ lw_all := lw_g (lw_at lw_m1 115 rfl) rfl
theorem q218 : (Jvm.Cond.soleField "BalloonStall" "ran") ∈ lw_all := lw_g (lw_at lw_m1 116 rfl) rfl
theorem q219 : (Jvm.Cond.lays "BalloonStall" "BalloonStall" "bubblePace" "I") ∈ lw_all := lw_g (lw_at lw_m1 117 rfl) rfl
theorem q220 : (Jvm.Cond.soleField "BalloonStall" "bubblePace") ∈ lw_all := lw_g (lw_at lw_m1 118 rfl) rfl
theorem q221 : (Jvm.Cond.lays "BalloonStall" "BalloonStall" "balloonPace" "I") ∈ lw_all := lw_g (lw_at lw_m1 119 rfl) rfl
theorem q222 : (Jvm.Cond.soleField "BalloonStall" "balloonPace") ∈ lw_all := lw_g (lw_at lw_m1 120 rfl) rfl
theorem q223 : (Jvm.Cond.lays "BalloonStall" "BalloonStall" "latest" "I") ∈ lw_all := lw_g (lw_at lw_m1 121 rfl) rfl
theorem q224 : (Jvm.Cond.soleField "BalloonStall" "latest") ∈ lw_all := lw_g (lw_at lw_m1 122 rfl) rfl
theorem q225 : (Jvm.Cond.lays "BalloonStall" "BalloonStall" "x" "J") ∈ lw_all := lw_g (lw_at lw_m1 123 rfl) rfl
theorem q226 : (Jvm.Cond.soleField "BalloonStall" "x") ∈ lw_all := lw_g (lw_at lw_m1 124 rfl) rfl
theorem q227 : (Jvm.Cond.laysFinal "BalloonStall" "BalloonStall" "rules" "[LBalloonStall$Clause;") ∈ lw_all := lw_g (lw_at lw_m1 125 rfl) rfl
theorem q228 : (Jvm.Cond.soleField "BalloonStall" "rules") ∈ lw_all := lw_g (lw_at lw_m1 126 rfl) rfl
theorem q229 : (Jvm.Cond.laysFinal "BalloonStall" "BalloonStall" "letters" "LBalloonStall$Letters;") ∈ lw_all := lw_g (lw_at lw_m1 127 rfl) rfl
theorem q230 : (Jvm.Cond.soleField "BalloonStall" "letters") ∈ lw_all := lw_g (lw_at lw_m1 128 rfl) rfl
theorem q231 : (Jvm.Cond.lays "BalloonStall" "BalloonStall" "ruleMany" "I") ∈ lw_all := lw_g (lw_at lw_m1 129 rfl) rfl
theorem q232 : (Jvm.Cond.soleField "BalloonStall" "ruleMany") ∈ lw_all := lw_g (lw_at lw_m1 130 rfl) rfl
theorem q233 : (Jvm.Cond.laysFinal "BalloonStall" "BalloonStall" "ages" "[I") ∈ lw_all := lw_g (lw_at lw_m1 131 rfl) rfl
theorem q234 : (Jvm.Cond.soleField "BalloonStall" "ages") ∈ lw_all := lw_g (lw_at lw_m1 132 rfl) rfl
theorem q235 : (Jvm.Cond.lays "BalloonStall" "BalloonStall" "lost" "I") ∈ lw_all := lw_g (lw_at lw_m1 133 rfl) rfl
theorem q236 : (Jvm.Cond.soleField "BalloonStall" "lost") ∈ lw_all := lw_g (lw_at lw_m1 134 rfl) rfl
theorem q237 : (Jvm.Cond.superclass "BalloonStall" "java/lang/Object") ∈ lw_all := lw_g (lw_at lw_m1 135 rfl) rfl
theorem q239 : (Jvm.Cond.instanceMethod ({ cls := "BalloonStall", name := "sort", desc := "(III)I" } : Jvm.MethodName)) ∈ lw_all := lw_g (lw_at lw_m1 137 rfl) rfl
theorem q240 : (Jvm.Cond.selects "BalloonStall" ({ cls := "BalloonStall", name := "sort", desc := "(III)I" } : Jvm.MethodName) ({ cls := "BalloonStall", name := "sort", desc := "(III)I" } : Jvm.MethodName)) ∈ lw_all := lw_g (lw_at lw_m1 138 rfl) rfl
theorem q241 : (Jvm.Cond.code ({ cls := "BalloonStall", name := "sort", desc := "(III)I" } : Jvm.MethodName) prog_1_method_4_code (4 : Nat) (Option.some Jvm.ClassFile.FieldType.int)) ∈ lw_all := lw_g (lw_at lw_m1 139 rfl) rfl
theorem q242 : (Jvm.Cond.constantLong "BalloonStall" (70 : Nat) (5 : Int64)) ∈ lw_all := lw_g (lw_at lw_m1 140 rfl) rfl
theorem q243 : (Jvm.Cond.constantLong "BalloonStall" (72 : Nat) (200 : Int64)) ∈ lw_all := lw_g (lw_at lw_m1 141 rfl) rfl
theorem q244 : (Jvm.Cond.methodLink "BalloonStall" (74 : Nat) ({ cls := "BalloonStall", name := "isIn", desc := "(JJJ)Z" } : Jvm.MethodName)) ∈ lw_all := lw_g (lw_at lw_m1 142 rfl) rfl
theorem q245 : (Jvm.Cond.static ({ cls := "BalloonStall", name := "isIn", desc := "(JJJ)Z" } : Jvm.MethodName)) ∈ lw_all := lw_g (lw_at lw_m1 143 rfl) rfl
theorem q246 : (Jvm.Cond.code ({ cls := "BalloonStall", name := "isIn", desc := "(JJJ)Z" } : Jvm.MethodName) prog_1_method_1_code (6 : Nat) (Option.some Jvm.ClassFile.FieldType.boolean)) ∈ lw_all := lw_g (lw_at lw_m1 144 rfl) rfl
theorem q247 : (Jvm.Cond.constantLong "BalloonStall" (78 : Nat) (9 : Int64)) ∈ lw_all := lw_g (lw_at lw_m1 145 rfl) rfl
theorem q248 : (Jvm.Cond.constantLong "BalloonStall" (80 : Nat) (99 : Int64)) ∈ lw_all := lw_g (lw_at lw_m1 146 rfl) rfl
theorem q250 : (Jvm.Cond.methodLink "BalloonStall" (82 : Nat) ({ cls := "BalloonStall$Sort", name := "<init>", desc := "(III)V" } : Jvm.MethodName)) ∈ lw_all := lw_g (lw_at lw_m1 148 rfl) rfl
theorem q255 : (Jvm.Cond.fieldLinkNest "BalloonStall" (194 : Nat) "BalloonStall$Sort" "air" "I" "BalloonStall") ∈ lw_tbl := lw_at lw_m1 153 rfl
theorem q257 : (Jvm.Cond.fieldLinkNest "BalloonStall" (420 : Nat) "BalloonStall$Sort" "strain" "I" "BalloonStall") ∈ lw_tbl := lw_at lw_m1 155 rfl
theorem q259 : (Jvm.Cond.fieldLinkNest "BalloonStall" (357 : Nat) "BalloonStall$Sort" "chance" "I" "BalloonStall") ∈ lw_tbl := lw_at lw_m1 157 rfl
theorem q260 : (Jvm.Cond.fieldLinkNest "BalloonStall" (307 : Nat) "BalloonStall$Sort" "stock" "I" "BalloonStall") ∈ lw_tbl := lw_at lw_m1 158 rfl
theorem q261 : (Jvm.Cond.fieldLinkNest "BalloonStall" (332 : Nat) "BalloonStall$Sort" "there" "I" "BalloonStall") ∈ lw_tbl := lw_at lw_m1 159 rfl
theorem q262 : (Jvm.Cond.fieldLinkNest "BalloonStall" (329 : Nat) "BalloonStall$Sort" "needed" "I" "BalloonStall") ∈ lw_tbl := lw_at lw_m1 160 rfl
theorem q277 : (Jvm.Cond.instanceMethod ({ cls := "BalloonStall", name := "feed", desc := "(IIIII)I" } : Jvm.MethodName)) ∈ lw_all := lw_g (lw_at lw_m1 175 rfl) rfl
theorem q278 : (Jvm.Cond.selects "BalloonStall" ({ cls := "BalloonStall", name := "feed", desc := "(IIIII)I" } : Jvm.MethodName) ({ cls := "BalloonStall", name := "feed", desc := "(IIIII)I" } : Jvm.MethodName)) ∈ lw_all := lw_g (lw_at lw_m1 176 rfl) rfl
theorem q279 : (Jvm.Cond.code ({ cls := "BalloonStall", name := "feed", desc := "(IIIII)I" } : Jvm.MethodName) prog_1_method_5_code (7 : Nat) (Option.some Jvm.ClassFile.FieldType.int)) ∈ lw_all := lw_g (lw_at lw_m1 177 rfl) rfl
theorem q280 : (Jvm.Cond.methodLink "BalloonStall" (85 : Nat) ({ cls := "BalloonStall", name := "bytes", desc := "(I)I" } : Jvm.MethodName)) ∈ lw_all := lw_g (lw_at lw_m1 178 rfl) rfl
theorem q281 : (Jvm.Cond.static ({ cls := "BalloonStall", name := "bytes", desc := "(I)I" } : Jvm.MethodName)) ∈ lw_all := lw_g (lw_at lw_m1 179 rfl) rfl
theorem q282 : (Jvm.Cond.code ({ cls := "BalloonStall", name := "bytes", desc := "(I)I" } : Jvm.MethodName) prog_1_method_6_code (3 : Nat) (Option.some Jvm.ClassFile.FieldType.int)) ∈ lw_all := lw_g (lw_at lw_m1 180 rfl) rfl
theorem q283 : (Jvm.Cond.methodLink "BalloonStall" (92 : Nat) ({ cls := "BalloonStall", name := "bring", desc := "(I)V" } : Jvm.MethodName)) ∈ lw_all := lw_g (lw_at lw_m1 181 rfl) rfl
theorem q284 : (Jvm.Cond.privateMethod ({ cls := "BalloonStall", name := "bring", desc := "(I)V" } : Jvm.MethodName)) ∈ lw_tbl := lw_at lw_m1 182 rfl
theorem q285 : (Jvm.Cond.instanceMethod ({ cls := "BalloonStall", name := "bring", desc := "(I)V" } : Jvm.MethodName)) ∈ lw_all := lw_g (lw_at lw_m1 183 rfl) rfl
theorem q286 : (Jvm.Cond.code ({ cls := "BalloonStall", name := "bring", desc := "(I)V" } : Jvm.MethodName) prog_1_method_7_code (3 : Nat) (Option.none : Option Jvm.ClassFile.FieldType)) ∈ lw_all := lw_g (lw_at lw_m1 184 rfl) rfl
theorem q288 : (Jvm.Cond.instanceMethod ({ cls := "BalloonStall", name := "end", desc := "(I)Z" } : Jvm.MethodName)) ∈ lw_all := lw_g (lw_at lw_m1 186 rfl) rfl
theorem q289 : (Jvm.Cond.selects "BalloonStall" ({ cls := "BalloonStall", name := "end", desc := "(I)Z" } : Jvm.MethodName) ({ cls := "BalloonStall", name := "end", desc := "(I)Z" } : Jvm.MethodName)) ∈ lw_all := lw_g (lw_at lw_m1 187 rfl) rfl
theorem q290 : (Jvm.Cond.code ({ cls := "BalloonStall", name := "end", desc := "(I)Z" } : Jvm.MethodName) prog_1_method_8_code (2 : Nat) (Option.some Jvm.ClassFile.FieldType.boolean)) ∈ lw_all := lw_g (lw_at lw_m1 188 rfl) rfl
theorem q292 : (Jvm.Cond.instanceMethod ({ cls := "BalloonStall", name := "fault", desc := "(I)I" } : Jvm.MethodName)) ∈ lw_all := lw_g (lw_at lw_m1 190 rfl) rfl
theorem q293 : (Jvm.Cond.selects "BalloonStall" ({ cls := "BalloonStall", name := "fault", desc := "(I)I" } : Jvm.MethodName) ({ cls := "BalloonStall", name := "fault", desc := "(I)I" } : Jvm.MethodName)) ∈ lw_all := lw_g (lw_at lw_m1 191 rfl) rfl
theorem q294 : (Jvm.Cond.codeWith ({ cls := "BalloonStall", name := "fault", desc := "(I)I" } : Jvm.MethodName) prog_1_method_9_code (3 : Nat) (Option.some Jvm.ClassFile.FieldType.int) [((13 : Nat), (45 : Nat), (46 : Nat), (111 : Nat))]) ∈ lw_all := lw_g (lw_at lw_m1 192 rfl) rfl
theorem q295 : (Jvm.Cond.classLink "BalloonStall" (111 : Nat) "BalloonStall$Wrong") ∈ lw_all := lw_g (lw_at lw_m1 193 rfl) rfl
theorem q296 : (Jvm.Cond.classLink "BalloonStall" (96 : Nat) "BalloonStall$FigureReader") ∈ lw_all := lw_g (lw_at lw_m1 194 rfl) rfl
theorem q298 : (Jvm.Cond.methodLinkNest "BalloonStall" (98 : Nat) ({ cls := "BalloonStall$FigureReader", name := "<init>", desc := "(LBalloonStall;)V" } : Jvm.MethodName) "BalloonStall") ∈ lw_tbl := lw_at lw_m1 196 rfl
theorem q328 : (Jvm.Cond.methodLink "BalloonStall" (101 : Nat) ({ cls := "BalloonStall$FigureReader", name := "whole", desc := "()LBalloonStall$Move;" } : Jvm.MethodName)) ∈ lw_all := lw_g (lw_at lw_m1 226 rfl) rfl
theorem q407 : (Jvm.Cond.fieldLinkNest "BalloonStall" (113 : Nat) "BalloonStall$Wrong" "at" "I" "BalloonStall") ∈ lw_tbl := lw_at lw_m2 65 rfl
theorem q516 : (Jvm.Cond.classLink "BalloonStall" (105 : Nat) "BalloonStall$RuleReader") ∈ lw_all := lw_g (lw_at lw_m2 174 rfl) rfl
theorem q518 : (Jvm.Cond.methodLinkNest "BalloonStall" (107 : Nat) ({ cls := "BalloonStall$RuleReader", name := "<init>", desc := "(LBalloonStall;)V" } : Jvm.MethodName) "BalloonStall") ∈ lw_tbl := lw_at lw_m2 176 rfl
theorem q529 : (Jvm.Cond.methodLink "BalloonStall" (108 : Nat) ({ cls := "BalloonStall$RuleReader", name := "whole", desc := "()LBalloonStall$Clause;" } : Jvm.MethodName)) ∈ lw_all := lw_g (lw_at lw_m2 187 rfl) rfl
theorem q682 : (Jvm.Cond.fieldLinkNest "BalloonStall" (392 : Nat) "BalloonStall$Clause" "sum" "LBalloonStall$Sum;" "BalloonStall") ∈ lw_tbl := lw_at lw_m3 100 rfl
theorem q684 : (Jvm.Cond.fieldLinkNest "BalloonStall" (401 : Nat) "BalloonStall$Clause" "next" "LBalloonStall$Clause;" "BalloonStall") ∈ lw_tbl := lw_at lw_m3 102 rfl
theorem q695 : (Jvm.Cond.instanceMethod ({ cls := "BalloonStall", name := "figure", desc := "()I" } : Jvm.MethodName)) ∈ lw_all := lw_g (lw_at lw_m3 113 rfl) rfl
theorem q696 : (Jvm.Cond.selects "BalloonStall" ({ cls := "BalloonStall", name := "figure", desc := "()I" } : Jvm.MethodName) ({ cls := "BalloonStall", name := "figure", desc := "()I" } : Jvm.MethodName)) ∈ lw_all := lw_g (lw_at lw_m3 114 rfl) rfl
theorem q697 : (Jvm.Cond.codeWith ({ cls := "BalloonStall", name := "figure", desc := "()I" } : Jvm.MethodName) prog_1_method_10_code (3 : Nat) (Option.some Jvm.ClassFile.FieldType.int) [((19 : Nat), (34 : Nat), (37 : Nat), (111 : Nat))]) ∈ lw_all := lw_g (lw_at lw_m3 115 rfl) rfl
theorem q698 : (Jvm.Cond.classLink "BalloonStall" (119 : Nat) "BalloonStall$Hand") ∈ lw_all := lw_g (lw_at lw_m3 116 rfl) rfl
theorem q700 : (Jvm.Cond.methodLink "BalloonStall" (121 : Nat) ({ cls := "BalloonStall$Hand", name := "<init>", desc := "()V" } : Jvm.MethodName)) ∈ lw_all := lw_g (lw_at lw_m3 118 rfl) rfl
theorem q717 : (Jvm.Cond.fieldLinkNest "BalloonStall" (215 : Nat) "BalloonStall$Hand" "sort" "[I" "BalloonStall") ∈ lw_tbl := lw_at lw_m3 135 rfl
theorem q727 : (Jvm.Cond.fieldLinkNest "BalloonStall" (222 : Nat) "BalloonStall$Hand" "balloons" "I" "BalloonStall") ∈ lw_tbl := lw_at lw_m3 145 rfl
theorem q755 : (Jvm.Cond.methodLink "BalloonStall" (122 : Nat) ({ cls := "BalloonStall$Move", name := "all", desc := "(LBalloonStall$Hand;)V" } : Jvm.MethodName)) ∈ lw_all := lw_g (lw_at lw_m3 173 rfl) rfl
theorem q820 : (Jvm.Cond.methodLink "BalloonStall" (128 : Nat) ({ cls := "BalloonStall$Figure", name := "<init>", desc := "(LBalloonStall$Hand;)V" } : Jvm.MethodName)) ∈ lw_all := lw_g (lw_at lw_m3 238 rfl) rfl
theorem q830 : (Jvm.Cond.fieldLinkNest "BalloonStall" (169 : Nat) "BalloonStall$Figure" "from" "[I" "BalloonStall") ∈ lw_tbl := lw_at lw_m4 8 rfl
theorem q833 : (Jvm.Cond.fieldLinkNest "BalloonStall" (172 : Nat) "BalloonStall$Figure" "to" "[I" "BalloonStall") ∈ lw_tbl := lw_at lw_m4 11 rfl
theorem q836 : (Jvm.Cond.fieldLinkNest "BalloonStall" (166 : Nat) "BalloonStall$Figure" "lengths" "[I" "BalloonStall") ∈ lw_tbl := lw_at lw_m4 14 rfl
theorem q839 : (Jvm.Cond.fieldLinkNest "BalloonStall" (175 : Nat) "BalloonStall$Figure" "balloon" "[I" "BalloonStall") ∈ lw_tbl := lw_at lw_m4 17 rfl
theorem q842 : (Jvm.Cond.fieldLinkNest "BalloonStall" (178 : Nat) "BalloonStall$Figure" "sort" "[I" "BalloonStall") ∈ lw_tbl := lw_at lw_m4 20 rfl
theorem q844 : (Jvm.Cond.fieldLinkNest "BalloonStall" (184 : Nat) "BalloonStall$Figure" "ends" "[I" "BalloonStall") ∈ lw_tbl := lw_at lw_m4 22 rfl
theorem q847 : (Jvm.Cond.fieldLinkNest "BalloonStall" (138 : Nat) "BalloonStall$Figure" "bubbles" "I" "BalloonStall") ∈ lw_tbl := lw_at lw_m4 25 rfl
theorem q850 : (Jvm.Cond.fieldLinkNest "BalloonStall" (144 : Nat) "BalloonStall$Figure" "balloons" "I" "BalloonStall") ∈ lw_tbl := lw_at lw_m4 28 rfl
theorem q852 : (Jvm.Cond.fieldLinkNest "BalloonStall" (141 : Nat) "BalloonStall$Figure" "points" "I" "BalloonStall") ∈ lw_tbl := lw_at lw_m4 30 rfl
theorem q854 : (Jvm.Cond.fieldLinkNest "BalloonStall" (203 : Nat) "BalloonStall$Figure" "hands" "I" "BalloonStall") ∈ lw_tbl := lw_at lw_m4 32 rfl
theorem q876 : (Jvm.Cond.methodLink "BalloonStall" (130 : Nat) ({ cls := "BalloonStall", name := "keep", desc := "(LBalloonStall$Figure;)I" } : Jvm.MethodName)) ∈ lw_all := lw_g (lw_at lw_m4 54 rfl) rfl
theorem q877 : (Jvm.Cond.privateMethod ({ cls := "BalloonStall", name := "keep", desc := "(LBalloonStall$Figure;)I" } : Jvm.MethodName)) ∈ lw_tbl := lw_at lw_m4 55 rfl
theorem q878 : (Jvm.Cond.instanceMethod ({ cls := "BalloonStall", name := "keep", desc := "(LBalloonStall$Figure;)I" } : Jvm.MethodName)) ∈ lw_all := lw_g (lw_at lw_m4 56 rfl) rfl
theorem q879 : (Jvm.Cond.code ({ cls := "BalloonStall", name := "keep", desc := "(LBalloonStall$Figure;)I" } : Jvm.MethodName) prog_1_method_11_code (2 : Nat) (Option.some Jvm.ClassFile.FieldType.int)) ∈ lw_all := lw_g (lw_at lw_m4 57 rfl) rfl
theorem q881 : (Jvm.Cond.instanceMethod ({ cls := "BalloonStall", name := "many", desc := "(II)I" } : Jvm.MethodName)) ∈ lw_all := lw_g (lw_at lw_m4 59 rfl) rfl
theorem q882 : (Jvm.Cond.selects "BalloonStall" ({ cls := "BalloonStall", name := "many", desc := "(II)I" } : Jvm.MethodName) ({ cls := "BalloonStall", name := "many", desc := "(II)I" } : Jvm.MethodName)) ∈ lw_all := lw_g (lw_at lw_m4 60 rfl) rfl
theorem q883 : (Jvm.Cond.code ({ cls := "BalloonStall", name := "many", desc := "(II)I" } : Jvm.MethodName) prog_1_method_16_code (4 : Nat) (Option.some Jvm.ClassFile.FieldType.int)) ∈ lw_all := lw_g (lw_at lw_m4 61 rfl) rfl
theorem q884 : (Jvm.Cond.methodLink "BalloonStall" (134 : Nat) ({ cls := "BalloonStall", name := "isFigure", desc := "(I)Z" } : Jvm.MethodName)) ∈ lw_all := lw_g (lw_at lw_m4 62 rfl) rfl
theorem q885 : (Jvm.Cond.privateMethod ({ cls := "BalloonStall", name := "isFigure", desc := "(I)Z" } : Jvm.MethodName)) ∈ lw_tbl := lw_at lw_m4 63 rfl
theorem q886 : (Jvm.Cond.instanceMethod ({ cls := "BalloonStall", name := "isFigure", desc := "(I)Z" } : Jvm.MethodName)) ∈ lw_all := lw_g (lw_at lw_m4 64 rfl) rfl
theorem q887 : (Jvm.Cond.code ({ cls := "BalloonStall", name := "isFigure", desc := "(I)Z" } : Jvm.MethodName) prog_1_method_12_code (2 : Nat) (Option.some Jvm.ClassFile.FieldType.boolean)) ∈ lw_all := lw_g (lw_at lw_m4 65 rfl) rfl
theorem q888 : (Jvm.Cond.methodLink "BalloonStall" (147 : Nat) ({ cls := "BalloonStall$Figure", name := "twists", desc := "()I" } : Jvm.MethodName)) ∈ lw_all := lw_g (lw_at lw_m4 66 rfl) rfl
theorem q896 : (Jvm.Cond.methodLink "BalloonStall" (151 : Nat) ({ cls := "BalloonStall$Figure", name := "slack", desc := "()I" } : Jvm.MethodName)) ∈ lw_all := lw_g (lw_at lw_m4 74 rfl) rfl
theorem q904 : (Jvm.Cond.methodLink "BalloonStall" (154 : Nat) ({ cls := "BalloonStall$Figure", name := "odd", desc := "()I" } : Jvm.MethodName)) ∈ lw_all := lw_g (lw_at lw_m4 82 rfl) rfl
theorem q909 : (Jvm.Cond.instanceMethod ({ cls := "BalloonStall", name := "ends", desc := "(II)I" } : Jvm.MethodName)) ∈ lw_all := lw_g (lw_at lw_m4 87 rfl) rfl
theorem q910 : (Jvm.Cond.selects "BalloonStall" ({ cls := "BalloonStall", name := "ends", desc := "(II)I" } : Jvm.MethodName) ({ cls := "BalloonStall", name := "ends", desc := "(II)I" } : Jvm.MethodName)) ∈ lw_all := lw_g (lw_at lw_m4 88 rfl) rfl
theorem q911 : (Jvm.Cond.code ({ cls := "BalloonStall", name := "ends", desc := "(II)I" } : Jvm.MethodName) prog_1_method_18_code (3 : Nat) (Option.some Jvm.ClassFile.FieldType.int)) ∈ lw_all := lw_g (lw_at lw_m4 89 rfl) rfl
theorem q912 : (Jvm.Cond.methodLink "BalloonStall" (181 : Nat) ({ cls := "BalloonStall", name := "isPoint", desc := "(II)Z" } : Jvm.MethodName)) ∈ lw_all := lw_g (lw_at lw_m4 90 rfl) rfl
theorem q913 : (Jvm.Cond.privateMethod ({ cls := "BalloonStall", name := "isPoint", desc := "(II)Z" } : Jvm.MethodName)) ∈ lw_tbl := lw_at lw_m4 91 rfl
theorem q914 : (Jvm.Cond.instanceMethod ({ cls := "BalloonStall", name := "isPoint", desc := "(II)Z" } : Jvm.MethodName)) ∈ lw_all := lw_g (lw_at lw_m4 92 rfl) rfl
theorem q915 : (Jvm.Cond.code ({ cls := "BalloonStall", name := "isPoint", desc := "(II)Z" } : Jvm.MethodName) prog_1_method_14_code (3 : Nat) (Option.some Jvm.ClassFile.FieldType.boolean)) ∈ lw_all := lw_g (lw_at lw_m4 93 rfl) rfl
theorem q917 : (Jvm.Cond.instanceMethod ({ cls := "BalloonStall", name := "bursts", desc := "(II)I" } : Jvm.MethodName)) ∈ lw_all := lw_g (lw_at lw_m4 95 rfl) rfl
theorem q918 : (Jvm.Cond.selects "BalloonStall" ({ cls := "BalloonStall", name := "bursts", desc := "(II)I" } : Jvm.MethodName) ({ cls := "BalloonStall", name := "bursts", desc := "(II)I" } : Jvm.MethodName)) ∈ lw_all := lw_g (lw_at lw_m4 96 rfl) rfl
theorem q919 : (Jvm.Cond.code ({ cls := "BalloonStall", name := "bursts", desc := "(II)I" } : Jvm.MethodName) prog_1_method_19_code (6 : Nat) (Option.some Jvm.ClassFile.FieldType.int)) ∈ lw_all := lw_g (lw_at lw_m4 97 rfl) rfl
theorem q920 : (Jvm.Cond.methodLink "BalloonStall" (187 : Nat) ({ cls := "BalloonStall", name := "isBalloon", desc := "(II)Z" } : Jvm.MethodName)) ∈ lw_all := lw_g (lw_at lw_m4 98 rfl) rfl
theorem q921 : (Jvm.Cond.privateMethod ({ cls := "BalloonStall", name := "isBalloon", desc := "(II)Z" } : Jvm.MethodName)) ∈ lw_tbl := lw_at lw_m4 99 rfl
theorem q922 : (Jvm.Cond.instanceMethod ({ cls := "BalloonStall", name := "isBalloon", desc := "(II)Z" } : Jvm.MethodName)) ∈ lw_all := lw_g (lw_at lw_m4 100 rfl) rfl
theorem q923 : (Jvm.Cond.code ({ cls := "BalloonStall", name := "isBalloon", desc := "(II)Z" } : Jvm.MethodName) prog_1_method_15_code (3 : Nat) (Option.some Jvm.ClassFile.FieldType.boolean)) ∈ lw_all := lw_g (lw_at lw_m4 101 rfl) rfl
theorem q924 : (Jvm.Cond.methodLink "BalloonStall" (190 : Nat) ({ cls := "BalloonStall$Figure", name := "needs", desc := "(IILBalloonStall$Sort;)I" } : Jvm.MethodName)) ∈ lw_all := lw_g (lw_at lw_m4 102 rfl) rfl
theorem q933 : (Jvm.Cond.instanceMethod ({ cls := "BalloonStall", name := "rest", desc := "(II)I" } : Jvm.MethodName)) ∈ lw_all := lw_g (lw_at lw_m4 111 rfl) rfl
theorem q934 : (Jvm.Cond.selects "BalloonStall" ({ cls := "BalloonStall", name := "rest", desc := "(II)I" } : Jvm.MethodName) ({ cls := "BalloonStall", name := "rest", desc := "(II)I" } : Jvm.MethodName)) ∈ lw_all := lw_g (lw_at lw_m4 112 rfl) rfl
theorem q935 : (Jvm.Cond.code ({ cls := "BalloonStall", name := "rest", desc := "(II)I" } : Jvm.MethodName) prog_1_method_20_code (5 : Nat) (Option.some Jvm.ClassFile.FieldType.int)) ∈ lw_all := lw_g (lw_at lw_m4 113 rfl) rfl
theorem q936 : (Jvm.Cond.methodLink "BalloonStall" (197 : Nat) ({ cls := "java/lang/Math", name := "max", desc := "(II)I" } : Jvm.MethodName)) ∈ lw_all := lw_g (lw_at lw_m4 114 rfl) rfl
theorem q938 : (Jvm.Cond.instanceMethod ({ cls := "BalloonStall", name := "hands", desc := "(I)I" } : Jvm.MethodName)) ∈ lw_all := lw_g (lw_at lw_m4 116 rfl) rfl
theorem q939 : (Jvm.Cond.selects "BalloonStall" ({ cls := "BalloonStall", name := "hands", desc := "(I)I" } : Jvm.MethodName) ({ cls := "BalloonStall", name := "hands", desc := "(I)I" } : Jvm.MethodName)) ∈ lw_all := lw_g (lw_at lw_m4 117 rfl) rfl
theorem q940 : (Jvm.Cond.code ({ cls := "BalloonStall", name := "hands", desc := "(I)I" } : Jvm.MethodName) prog_1_method_21_code (2 : Nat) (Option.some Jvm.ClassFile.FieldType.int)) ∈ lw_all := lw_g (lw_at lw_m4 118 rfl) rfl
theorem q942 : (Jvm.Cond.instanceMethod ({ cls := "BalloonStall", name := "holds", desc := "(II)I" } : Jvm.MethodName)) ∈ lw_all := lw_g (lw_at lw_m4 120 rfl) rfl
theorem q943 : (Jvm.Cond.selects "BalloonStall" ({ cls := "BalloonStall", name := "holds", desc := "(II)I" } : Jvm.MethodName) ({ cls := "BalloonStall", name := "holds", desc := "(II)I" } : Jvm.MethodName)) ∈ lw_all := lw_g (lw_at lw_m4 121 rfl) rfl
theorem q944 : (Jvm.Cond.code ({ cls := "BalloonStall", name := "holds", desc := "(II)I" } : Jvm.MethodName) prog_1_method_22_code (3 : Nat) (Option.some Jvm.ClassFile.FieldType.int)) ∈ lw_all := lw_g (lw_at lw_m4 122 rfl) rfl
theorem q945 : (Jvm.Cond.methodLink "BalloonStall" (157 : Nat) ({ cls := "BalloonStall", name := "isBubble", desc := "(II)Z" } : Jvm.MethodName)) ∈ lw_all := lw_g (lw_at lw_m4 123 rfl) rfl
theorem q946 : (Jvm.Cond.privateMethod ({ cls := "BalloonStall", name := "isBubble", desc := "(II)Z" } : Jvm.MethodName)) ∈ lw_tbl := lw_at lw_m4 124 rfl
theorem q947 : (Jvm.Cond.instanceMethod ({ cls := "BalloonStall", name := "isBubble", desc := "(II)Z" } : Jvm.MethodName)) ∈ lw_all := lw_g (lw_at lw_m4 125 rfl) rfl
theorem q948 : (Jvm.Cond.code ({ cls := "BalloonStall", name := "isBubble", desc := "(II)Z" } : Jvm.MethodName) prog_1_method_13_code (3 : Nat) (Option.some Jvm.ClassFile.FieldType.boolean)) ∈ lw_all := lw_g (lw_at lw_m4 126 rfl) rfl
theorem q949 : (Jvm.Cond.methodLink "BalloonStall" (206 : Nat) ({ cls := "BalloonStall$Figure", name := "isTwist", desc := "(I)Z" } : Jvm.MethodName)) ∈ lw_all := lw_g (lw_at lw_m4 127 rfl) rfl
theorem q950 : (Jvm.Cond.methodLink "BalloonStall" (209 : Nat) ({ cls := "BalloonStall$Figure", name := "holds", desc := "(I)Z" } : Jvm.MethodName)) ∈ lw_all := lw_g (lw_at lw_m4 128 rfl) rfl
theorem q952 : (Jvm.Cond.instanceMethod ({ cls := "BalloonStall", name := "plain", desc := "(I)I" } : Jvm.MethodName)) ∈ lw_all := lw_g (lw_at lw_m4 130 rfl) rfl
theorem q953 : (Jvm.Cond.selects "BalloonStall" ({ cls := "BalloonStall", name := "plain", desc := "(I)I" } : Jvm.MethodName) ({ cls := "BalloonStall", name := "plain", desc := "(I)I" } : Jvm.MethodName)) ∈ lw_all := lw_g (lw_at lw_m4 131 rfl) rfl
theorem q954 : (Jvm.Cond.code ({ cls := "BalloonStall", name := "plain", desc := "(I)I" } : Jvm.MethodName) prog_1_method_23_code (9 : Nat) (Option.some Jvm.ClassFile.FieldType.int)) ∈ lw_all := lw_g (lw_at lw_m4 132 rfl) rfl
theorem q955 : (Jvm.Cond.methodLink "BalloonStall" (212 : Nat) ({ cls := "BalloonStall$Hand", name := "point", desc := "()I" } : Jvm.MethodName)) ∈ lw_all := lw_g (lw_at lw_m4 133 rfl) rfl
theorem q956 : (Jvm.Cond.methodLink "BalloonStall" (216 : Nat) ({ cls := "java/lang/System", name := "arraycopy", desc := "(Ljava/lang/Object;ILjava/lang/Object;II)V" } : Jvm.MethodName)) ∈ lw_all := lw_g (lw_at lw_m4 134 rfl) rfl
theorem q957 : (Jvm.Cond.methodLink "BalloonStall" (223 : Nat) ({ cls := "BalloonStall$Hand", name := "adds", desc := "(IIII)V" } : Jvm.MethodName)) ∈ lw_all := lw_g (lw_at lw_m4 135 rfl) rfl
theorem q959 : (Jvm.Cond.instanceMethod ({ cls := "BalloonStall", name := "pop", desc := "(III)I" } : Jvm.MethodName)) ∈ lw_all := lw_g (lw_at lw_m4 137 rfl) rfl
theorem q960 : (Jvm.Cond.selects "BalloonStall" ({ cls := "BalloonStall", name := "pop", desc := "(III)I" } : Jvm.MethodName) ({ cls := "BalloonStall", name := "pop", desc := "(III)I" } : Jvm.MethodName)) ∈ lw_all := lw_g (lw_at lw_m4 138 rfl) rfl
theorem q961 : (Jvm.Cond.code ({ cls := "BalloonStall", name := "pop", desc := "(III)I" } : Jvm.MethodName) prog_1_method_24_code (6 : Nat) (Option.some Jvm.ClassFile.FieldType.int)) ∈ lw_all := lw_g (lw_at lw_m4 139 rfl) rfl
theorem q962 : (Jvm.Cond.constantLong "BalloonStall" (227 : Nat) (2 : Int64)) ∈ lw_all := lw_g (lw_at lw_m4 140 rfl) rfl
theorem q963 : (Jvm.Cond.methodLink "BalloonStall" (229 : Nat) ({ cls := "BalloonStall$Figure", name := "lost", desc := "(I)I" } : Jvm.MethodName)) ∈ lw_all := lw_g (lw_at lw_m4 141 rfl) rfl
theorem q975 : (Jvm.Cond.methodLink "BalloonStall" (232 : Nat) ({ cls := "java/lang/Integer", name := "bitCount", desc := "(I)I" } : Jvm.MethodName)) ∈ lw_all := lw_g (lw_at lw_m4 153 rfl) rfl
theorem q981 : (Jvm.Cond.methodLink "BalloonStall" (237 : Nat) ({ cls := "BalloonStall$Figure", name := "every", desc := "()I" } : Jvm.MethodName)) ∈ lw_all := lw_g (lw_at lw_m4 159 rfl) rfl
theorem q985 : (Jvm.Cond.methodLink "BalloonStall" (240 : Nat) ({ cls := "BalloonStall$Figure", name := "parts", desc := "(I)I" } : Jvm.MethodName)) ∈ lw_all := lw_g (lw_at lw_m4 163 rfl) rfl
theorem q1002 : (Jvm.Cond.instanceMethod ({ cls := "BalloonStall", name := "weakest", desc := "(I)I" } : Jvm.MethodName)) ∈ lw_all := lw_g (lw_at lw_m4 180 rfl) rfl
theorem q1003 : (Jvm.Cond.selects "BalloonStall" ({ cls := "BalloonStall", name := "weakest", desc := "(I)I" } : Jvm.MethodName) ({ cls := "BalloonStall", name := "weakest", desc := "(I)I" } : Jvm.MethodName)) ∈ lw_all := lw_g (lw_at lw_m4 181 rfl) rfl
theorem q1004 : (Jvm.Cond.code ({ cls := "BalloonStall", name := "weakest", desc := "(I)I" } : Jvm.MethodName) prog_1_method_25_code (7 : Nat) (Option.some Jvm.ClassFile.FieldType.int)) ∈ lw_all := lw_g (lw_at lw_m4 182 rfl) rfl
theorem q1006 : (Jvm.Cond.instanceMethod ({ cls := "BalloonStall", name := "add", desc := "(IIII)I" } : Jvm.MethodName)) ∈ lw_all := lw_g (lw_at lw_m4 184 rfl) rfl
theorem q1007 : (Jvm.Cond.selects "BalloonStall" ({ cls := "BalloonStall", name := "add", desc := "(IIII)I" } : Jvm.MethodName) ({ cls := "BalloonStall", name := "add", desc := "(IIII)I" } : Jvm.MethodName)) ∈ lw_all := lw_g (lw_at lw_m4 185 rfl) rfl
theorem q1008 : (Jvm.Cond.code ({ cls := "BalloonStall", name := "add", desc := "(IIII)I" } : Jvm.MethodName) prog_1_method_26_code (10 : Nat) (Option.some Jvm.ClassFile.FieldType.int)) ∈ lw_all := lw_g (lw_at lw_m4 186 rfl) rfl
theorem q1009 : (Jvm.Cond.methodLink "BalloonStall" (243 : Nat) ({ cls := "BalloonStall$Hand", name := "joins", desc := "(II)V" } : Jvm.MethodName)) ∈ lw_all := lw_g (lw_at lw_m4 187 rfl) rfl
theorem q1010 : (Jvm.Cond.methodLink "BalloonStall" (247 : Nat) ({ cls := "BalloonStall$Hand", name := "takes", desc := "(LBalloonStall$Figure;I)V" } : Jvm.MethodName)) ∈ lw_all := lw_g (lw_at lw_m4 188 rfl) rfl
theorem q1016 : (Jvm.Cond.instanceMethod ({ cls := "BalloonStall", name := "alike", desc := "(II)I" } : Jvm.MethodName)) ∈ lw_all := lw_g (lw_at lw_m4 194 rfl) rfl
theorem q1017 : (Jvm.Cond.selects "BalloonStall" ({ cls := "BalloonStall", name := "alike", desc := "(II)I" } : Jvm.MethodName) ({ cls := "BalloonStall", name := "alike", desc := "(II)I" } : Jvm.MethodName)) ∈ lw_all := lw_g (lw_at lw_m4 195 rfl) rfl
theorem q1018 : (Jvm.Cond.code ({ cls := "BalloonStall", name := "alike", desc := "(II)I" } : Jvm.MethodName) prog_1_method_31_code (3 : Nat) (Option.some Jvm.ClassFile.FieldType.int)) ∈ lw_all := lw_g (lw_at lw_m4 196 rfl) rfl
theorem q1019 : (Jvm.Cond.methodLink "BalloonStall" (262 : Nat) ({ cls := "BalloonStall", name := "isMatched", desc := "(I)Z" } : Jvm.MethodName)) ∈ lw_all := lw_g (lw_at lw_m4 197 rfl) rfl
theorem q1020 : (Jvm.Cond.privateMethod ({ cls := "BalloonStall", name := "isMatched", desc := "(I)Z" } : Jvm.MethodName)) ∈ lw_tbl := lw_at lw_m4 198 rfl
theorem q1021 : (Jvm.Cond.instanceMethod ({ cls := "BalloonStall", name := "isMatched", desc := "(I)Z" } : Jvm.MethodName)) ∈ lw_all := lw_g (lw_at lw_m4 199 rfl) rfl
theorem q1022 : (Jvm.Cond.code ({ cls := "BalloonStall", name := "isMatched", desc := "(I)Z" } : Jvm.MethodName) prog_1_method_30_code (2 : Nat) (Option.some Jvm.ClassFile.FieldType.boolean)) ∈ lw_all := lw_g (lw_at lw_m4 200 rfl) rfl
theorem q1023 : (Jvm.Cond.methodLink "BalloonStall" (265 : Nat) ({ cls := "BalloonStall", name := "areAlike", desc := "(II)Z" } : Jvm.MethodName)) ∈ lw_all := lw_g (lw_at lw_m4 201 rfl) rfl
theorem q1024 : (Jvm.Cond.privateMethod ({ cls := "BalloonStall", name := "areAlike", desc := "(II)Z" } : Jvm.MethodName)) ∈ lw_tbl := lw_at lw_m4 202 rfl
theorem q1025 : (Jvm.Cond.instanceMethod ({ cls := "BalloonStall", name := "areAlike", desc := "(II)Z" } : Jvm.MethodName)) ∈ lw_all := lw_g (lw_at lw_m4 203 rfl) rfl
theorem q1026 : (Jvm.Cond.code ({ cls := "BalloonStall", name := "areAlike", desc := "(II)Z" } : Jvm.MethodName) prog_1_method_29_code (5 : Nat) (Option.some Jvm.ClassFile.FieldType.boolean)) ∈ lw_all := lw_g (lw_at lw_m4 204 rfl) rfl
theorem q1027 : (Jvm.Cond.methodLink "BalloonStall" (259 : Nat) ({ cls := "BalloonStall", name := "matches", desc := "(LBalloonStall$Figure;LBalloonStall$Figure;II)Z" } : Jvm.MethodName)) ∈ lw_all := lw_g (lw_at lw_m4 205 rfl) rfl
theorem q1028 : (Jvm.Cond.privateMethod ({ cls := "BalloonStall", name := "matches", desc := "(LBalloonStall$Figure;LBalloonStall$Figure;II)Z" } : Jvm.MethodName)) ∈ lw_tbl := lw_at lw_m4 206 rfl
theorem q1029 : (Jvm.Cond.instanceMethod ({ cls := "BalloonStall", name := "matches", desc := "(LBalloonStall$Figure;LBalloonStall$Figure;II)Z" } : Jvm.MethodName)) ∈ lw_all := lw_g (lw_at lw_m4 207 rfl) rfl
theorem q1030 : (Jvm.Cond.code ({ cls := "BalloonStall", name := "matches", desc := "(LBalloonStall$Figure;LBalloonStall$Figure;II)Z" } : Jvm.MethodName) prog_1_method_28_code (6 : Nat) (Option.some Jvm.ClassFile.FieldType.boolean)) ∈ lw_all := lw_g (lw_at lw_m4 208 rfl) rfl
theorem q1031 : (Jvm.Cond.methodLink "BalloonStall" (255 : Nat) ({ cls := "BalloonStall", name := "fits", desc := "(LBalloonStall$Figure;LBalloonStall$Figure;II)Z" } : Jvm.MethodName)) ∈ lw_all := lw_g (lw_at lw_m4 209 rfl) rfl
theorem q1032 : (Jvm.Cond.privateMethod ({ cls := "BalloonStall", name := "fits", desc := "(LBalloonStall$Figure;LBalloonStall$Figure;II)Z" } : Jvm.MethodName)) ∈ lw_tbl := lw_at lw_m4 210 rfl
theorem q1033 : (Jvm.Cond.instanceMethod ({ cls := "BalloonStall", name := "fits", desc := "(LBalloonStall$Figure;LBalloonStall$Figure;II)Z" } : Jvm.MethodName)) ∈ lw_all := lw_g (lw_at lw_m4 211 rfl) rfl
theorem q1034 : (Jvm.Cond.code ({ cls := "BalloonStall", name := "fits", desc := "(LBalloonStall$Figure;LBalloonStall$Figure;II)Z" } : Jvm.MethodName) prog_1_method_27_code (7 : Nat) (Option.some Jvm.ClassFile.FieldType.boolean)) ∈ lw_all := lw_g (lw_at lw_m4 212 rfl) rfl
theorem q1035 : (Jvm.Cond.methodLink "BalloonStall" (251 : Nat) ({ cls := "BalloonStall$Figure", name := "between", desc := "(III)I" } : Jvm.MethodName)) ∈ lw_all := lw_g (lw_at lw_m4 213 rfl) rfl
theorem q1040 : (Jvm.Cond.instanceMethod ({ cls := "BalloonStall", name := "match", desc := "(III)I" } : Jvm.MethodName)) ∈ lw_all := lw_g (lw_at lw_m4 218 rfl) rfl
theorem q1041 : (Jvm.Cond.selects "BalloonStall" ({ cls := "BalloonStall", name := "match", desc := "(III)I" } : Jvm.MethodName) ({ cls := "BalloonStall", name := "match", desc := "(III)I" } : Jvm.MethodName)) ∈ lw_all := lw_g (lw_at lw_m4 219 rfl) rfl
theorem q1042 : (Jvm.Cond.code ({ cls := "BalloonStall", name := "match", desc := "(III)I" } : Jvm.MethodName) prog_1_method_32_code (4 : Nat) (Option.some Jvm.ClassFile.FieldType.int)) ∈ lw_all := lw_g (lw_at lw_m4 220 rfl) rfl
theorem q1044 : (Jvm.Cond.instanceMethod ({ cls := "BalloonStall", name := "far", desc := "(III)I" } : Jvm.MethodName)) ∈ lw_all := lw_g (lw_at lw_m4 222 rfl) rfl
theorem q1045 : (Jvm.Cond.selects "BalloonStall" ({ cls := "BalloonStall", name := "far", desc := "(III)I" } : Jvm.MethodName) ({ cls := "BalloonStall", name := "far", desc := "(III)I" } : Jvm.MethodName)) ∈ lw_all := lw_g (lw_at lw_m4 223 rfl) rfl
theorem q1046 : (Jvm.Cond.code ({ cls := "BalloonStall", name := "far", desc := "(III)I" } : Jvm.MethodName) prog_1_method_34_code (4 : Nat) (Option.some Jvm.ClassFile.FieldType.int)) ∈ lw_all := lw_g (lw_at lw_m4 224 rfl) rfl
theorem q1047 : (Jvm.Cond.methodLink "BalloonStall" (272 : Nat) ({ cls := "BalloonStall", name := "layFars", desc := "(LBalloonStall$Figure;)V" } : Jvm.MethodName)) ∈ lw_all := lw_g (lw_at lw_m4 225 rfl) rfl
theorem q1048 : (Jvm.Cond.privateMethod ({ cls := "BalloonStall", name := "layFars", desc := "(LBalloonStall$Figure;)V" } : Jvm.MethodName)) ∈ lw_tbl := lw_at lw_m4 226 rfl
theorem q1049 : (Jvm.Cond.instanceMethod ({ cls := "BalloonStall", name := "layFars", desc := "(LBalloonStall$Figure;)V" } : Jvm.MethodName)) ∈ lw_all := lw_g (lw_at lw_m4 227 rfl) rfl
theorem q1050 : (Jvm.Cond.code ({ cls := "BalloonStall", name := "layFars", desc := "(LBalloonStall$Figure;)V" } : Jvm.MethodName) prog_1_method_33_code (5 : Nat) (Option.none : Option Jvm.ClassFile.FieldType)) ∈ lw_all := lw_g (lw_at lw_m4 228 rfl) rfl
theorem q1051 : (Jvm.Cond.constant "BalloonStall" (268 : Nat) (1000000 : Int32)) ∈ lw_all := lw_g (lw_at lw_m4 229 rfl) rfl
theorem q1052 : (Jvm.Cond.methodLink "BalloonStall" (269 : Nat) ({ cls := "java/lang/Math", name := "min", desc := "(II)I" } : Jvm.MethodName)) ∈ lw_all := lw_g (lw_at lw_m4 230 rfl) rfl
theorem q1054 : (Jvm.Cond.instanceMethod ({ cls := "BalloonStall", name := "span", desc := "(I)I" } : Jvm.MethodName)) ∈ lw_all := lw_g (lw_at lw_m4 232 rfl) rfl
theorem q1055 : (Jvm.Cond.selects "BalloonStall" ({ cls := "BalloonStall", name := "span", desc := "(I)I" } : Jvm.MethodName) ({ cls := "BalloonStall", name := "span", desc := "(I)I" } : Jvm.MethodName)) ∈ lw_all := lw_g (lw_at lw_m4 233 rfl) rfl
theorem q1056 : (Jvm.Cond.code ({ cls := "BalloonStall", name := "span", desc := "(I)I" } : Jvm.MethodName) prog_1_method_35_code (6 : Nat) (Option.some Jvm.ClassFile.FieldType.int)) ∈ lw_all := lw_g (lw_at lw_m4 234 rfl) rfl
theorem q1058 : (Jvm.Cond.instanceMethod ({ cls := "BalloonStall", name := "strokes", desc := "(I)I" } : Jvm.MethodName)) ∈ lw_all := lw_g (lw_at lw_m4 236 rfl) rfl
theorem q1059 : (Jvm.Cond.selects "BalloonStall" ({ cls := "BalloonStall", name := "strokes", desc := "(I)I" } : Jvm.MethodName) ({ cls := "BalloonStall", name := "strokes", desc := "(I)I" } : Jvm.MethodName)) ∈ lw_all := lw_g (lw_at lw_m4 237 rfl) rfl
theorem q1060 : (Jvm.Cond.code ({ cls := "BalloonStall", name := "strokes", desc := "(I)I" } : Jvm.MethodName) prog_1_method_36_code (2 : Nat) (Option.some Jvm.ClassFile.FieldType.int)) ∈ lw_all := lw_g (lw_at lw_m4 238 rfl) rfl
theorem q1061 : (Jvm.Cond.methodLink "BalloonStall" (276 : Nat) ({ cls := "BalloonStall$Figure", name := "strokes", desc := "()I" } : Jvm.MethodName)) ∈ lw_all := lw_g (lw_at lw_m4 239 rfl) rfl
theorem q1073 : (Jvm.Cond.instanceMethod ({ cls := "BalloonStall", name := "made", desc := "(II)I" } : Jvm.MethodName)) ∈ lw_all := lw_g (lw_at lw_m5 11 rfl) rfl
theorem q1074 : (Jvm.Cond.selects "BalloonStall" ({ cls := "BalloonStall", name := "made", desc := "(II)I" } : Jvm.MethodName) ({ cls := "BalloonStall", name := "made", desc := "(II)I" } : Jvm.MethodName)) ∈ lw_all := lw_g (lw_at lw_m5 12 rfl) rfl
theorem q1075 : (Jvm.Cond.code ({ cls := "BalloonStall", name := "made", desc := "(II)I" } : Jvm.MethodName) prog_1_method_39_code (4 : Nat) (Option.some Jvm.ClassFile.FieldType.int)) ∈ lw_all := lw_g (lw_at lw_m5 13 rfl) rfl
theorem q1076 : (Jvm.Cond.methodLink "BalloonStall" (291 : Nat) ({ cls := "BalloonStall", name := "isMaking", desc := "(II)Z" } : Jvm.MethodName)) ∈ lw_all := lw_g (lw_at lw_m5 14 rfl) rfl
theorem q1077 : (Jvm.Cond.privateMethod ({ cls := "BalloonStall", name := "isMaking", desc := "(II)Z" } : Jvm.MethodName)) ∈ lw_tbl := lw_at lw_m5 15 rfl
theorem q1078 : (Jvm.Cond.instanceMethod ({ cls := "BalloonStall", name := "isMaking", desc := "(II)Z" } : Jvm.MethodName)) ∈ lw_all := lw_g (lw_at lw_m5 16 rfl) rfl
theorem q1079 : (Jvm.Cond.code ({ cls := "BalloonStall", name := "isMaking", desc := "(II)Z" } : Jvm.MethodName) prog_1_method_37_code (3 : Nat) (Option.some Jvm.ClassFile.FieldType.boolean)) ∈ lw_all := lw_g (lw_at lw_m5 17 rfl) rfl
theorem q1080 : (Jvm.Cond.methodLink "BalloonStall" (279 : Nat) ({ cls := "BalloonStall", name := "isSort", desc := "(I)Z" } : Jvm.MethodName)) ∈ lw_all := lw_g (lw_at lw_m5 18 rfl) rfl
theorem q1081 : (Jvm.Cond.privateMethod ({ cls := "BalloonStall", name := "isSort", desc := "(I)Z" } : Jvm.MethodName)) ∈ lw_tbl := lw_at lw_m5 19 rfl
theorem q1082 : (Jvm.Cond.instanceMethod ({ cls := "BalloonStall", name := "isSort", desc := "(I)Z" } : Jvm.MethodName)) ∈ lw_all := lw_g (lw_at lw_m5 20 rfl) rfl
theorem q1083 : (Jvm.Cond.code ({ cls := "BalloonStall", name := "isSort", desc := "(I)Z" } : Jvm.MethodName) prog_1_method_3_code (2 : Nat) (Option.some Jvm.ClassFile.FieldType.boolean)) ∈ lw_all := lw_g (lw_at lw_m5 21 rfl) rfl
theorem q1084 : (Jvm.Cond.methodLink "BalloonStall" (294 : Nat) ({ cls := "BalloonStall", name := "layMade", desc := "(LBalloonStall$Figure;LBalloonStall$Sort;)V" } : Jvm.MethodName)) ∈ lw_all := lw_g (lw_at lw_m5 22 rfl) rfl
theorem q1085 : (Jvm.Cond.privateMethod ({ cls := "BalloonStall", name := "layMade", desc := "(LBalloonStall$Figure;LBalloonStall$Sort;)V" } : Jvm.MethodName)) ∈ lw_tbl := lw_at lw_m5 23 rfl
theorem q1086 : (Jvm.Cond.instanceMethod ({ cls := "BalloonStall", name := "layMade", desc := "(LBalloonStall$Figure;LBalloonStall$Sort;)V" } : Jvm.MethodName)) ∈ lw_all := lw_g (lw_at lw_m5 24 rfl) rfl
theorem q1087 : (Jvm.Cond.code ({ cls := "BalloonStall", name := "layMade", desc := "(LBalloonStall$Figure;LBalloonStall$Sort;)V" } : Jvm.MethodName) prog_1_method_38_code (6 : Nat) (Option.none : Option Jvm.ClassFile.FieldType)) ∈ lw_all := lw_g (lw_at lw_m5 25 rfl) rfl
theorem q1088 : (Jvm.Cond.methodLink "BalloonStall" (282 : Nat) ({ cls := "BalloonStall$Figure", name := "lengthOf", desc := "(I)I" } : Jvm.MethodName)) ∈ lw_all := lw_g (lw_at lw_m5 26 rfl) rfl
theorem q1092 : (Jvm.Cond.methodLink "BalloonStall" (285 : Nat) ({ cls := "BalloonStall$Sort", name := "strains", desc := "(I)I" } : Jvm.MethodName)) ∈ lw_all := lw_g (lw_at lw_m5 30 rfl) rfl
theorem q1093 : (Jvm.Cond.methodLink "BalloonStall" (288 : Nat) ({ cls := "BalloonStall$Figure", name := "isWay", desc := "(I)Z" } : Jvm.MethodName)) ∈ lw_all := lw_g (lw_at lw_m5 31 rfl) rfl
theorem q1099 : (Jvm.Cond.instanceMethod ({ cls := "BalloonStall", name := "set", desc := "(III)I" } : Jvm.MethodName)) ∈ lw_all := lw_g (lw_at lw_m5 37 rfl) rfl
theorem q1100 : (Jvm.Cond.selects "BalloonStall" ({ cls := "BalloonStall", name := "set", desc := "(III)I" } : Jvm.MethodName) ({ cls := "BalloonStall", name := "set", desc := "(III)I" } : Jvm.MethodName)) ∈ lw_all := lw_g (lw_at lw_m5 38 rfl) rfl
theorem q1101 : (Jvm.Cond.code ({ cls := "BalloonStall", name := "set", desc := "(III)I" } : Jvm.MethodName) prog_1_method_41_code (7 : Nat) (Option.some Jvm.ClassFile.FieldType.int)) ∈ lw_all := lw_g (lw_at lw_m5 39 rfl) rfl
theorem q1102 : (Jvm.Cond.methodLink "BalloonStall" (298 : Nat) ({ cls := "BalloonStall", name := "made", desc := "(II)I" } : Jvm.MethodName)) ∈ lw_all := lw_g (lw_at lw_m5 40 rfl) rfl
theorem q1103 : (Jvm.Cond.methodLink "BalloonStall" (301 : Nat) ({ cls := "BalloonStall", name := "firstOf", desc := "(I)I" } : Jvm.MethodName)) ∈ lw_all := lw_g (lw_at lw_m5 41 rfl) rfl
theorem q1104 : (Jvm.Cond.privateMethod ({ cls := "BalloonStall", name := "firstOf", desc := "(I)I" } : Jvm.MethodName)) ∈ lw_tbl := lw_at lw_m5 42 rfl
theorem q1105 : (Jvm.Cond.instanceMethod ({ cls := "BalloonStall", name := "firstOf", desc := "(I)I" } : Jvm.MethodName)) ∈ lw_all := lw_g (lw_at lw_m5 43 rfl) rfl
theorem q1106 : (Jvm.Cond.code ({ cls := "BalloonStall", name := "firstOf", desc := "(I)I" } : Jvm.MethodName) prog_1_method_40_code (4 : Nat) (Option.some Jvm.ClassFile.FieldType.int)) ∈ lw_all := lw_g (lw_at lw_m5 44 rfl) rfl
theorem q1108 : (Jvm.Cond.instanceMethod ({ cls := "BalloonStall", name := "twice", desc := "(I)I" } : Jvm.MethodName)) ∈ lw_all := lw_g (lw_at lw_m5 46 rfl) rfl
theorem q1109 : (Jvm.Cond.selects "BalloonStall" ({ cls := "BalloonStall", name := "twice", desc := "(I)I" } : Jvm.MethodName) ({ cls := "BalloonStall", name := "twice", desc := "(I)I" } : Jvm.MethodName)) ∈ lw_all := lw_g (lw_at lw_m5 47 rfl) rfl
theorem q1110 : (Jvm.Cond.code ({ cls := "BalloonStall", name := "twice", desc := "(I)I" } : Jvm.MethodName) prog_1_method_43_code (5 : Nat) (Option.some Jvm.ClassFile.FieldType.int)) ∈ lw_all := lw_g (lw_at lw_m5 48 rfl) rfl
theorem q1111 : (Jvm.Cond.methodLink "BalloonStall" (304 : Nat) ({ cls := "BalloonStall", name := "paired", desc := "(III)I" } : Jvm.MethodName)) ∈ lw_all := lw_g (lw_at lw_m5 49 rfl) rfl
theorem q1112 : (Jvm.Cond.privateMethod ({ cls := "BalloonStall", name := "paired", desc := "(III)I" } : Jvm.MethodName)) ∈ lw_tbl := lw_at lw_m5 50 rfl
theorem q1113 : (Jvm.Cond.instanceMethod ({ cls := "BalloonStall", name := "paired", desc := "(III)I" } : Jvm.MethodName)) ∈ lw_all := lw_g (lw_at lw_m5 51 rfl) rfl
theorem q1114 : (Jvm.Cond.code ({ cls := "BalloonStall", name := "paired", desc := "(III)I" } : Jvm.MethodName) prog_1_method_42_code (7 : Nat) (Option.some Jvm.ClassFile.FieldType.int)) ∈ lw_all := lw_g (lw_at lw_m5 52 rfl) rfl
theorem q1116 : (Jvm.Cond.instanceMethod ({ cls := "BalloonStall", name := "stock", desc := "(II)Z" } : Jvm.MethodName)) ∈ lw_all := lw_g (lw_at lw_m5 54 rfl) rfl
theorem q1117 : (Jvm.Cond.selects "BalloonStall" ({ cls := "BalloonStall", name := "stock", desc := "(II)Z" } : Jvm.MethodName) ({ cls := "BalloonStall", name := "stock", desc := "(II)Z" } : Jvm.MethodName)) ∈ lw_all := lw_g (lw_at lw_m5 55 rfl) rfl
theorem q1118 : (Jvm.Cond.code ({ cls := "BalloonStall", name := "stock", desc := "(II)Z" } : Jvm.MethodName) prog_1_method_44_code (3 : Nat) (Option.some Jvm.ClassFile.FieldType.boolean)) ∈ lw_all := lw_g (lw_at lw_m5 56 rfl) rfl
theorem q1120 : (Jvm.Cond.instanceMethod ({ cls := "BalloonStall", name := "pace", desc := "(II)Z" } : Jvm.MethodName)) ∈ lw_all := lw_g (lw_at lw_m5 58 rfl) rfl
theorem q1121 : (Jvm.Cond.selects "BalloonStall" ({ cls := "BalloonStall", name := "pace", desc := "(II)Z" } : Jvm.MethodName) ({ cls := "BalloonStall", name := "pace", desc := "(II)Z" } : Jvm.MethodName)) ∈ lw_all := lw_g (lw_at lw_m5 59 rfl) rfl
theorem q1122 : (Jvm.Cond.code ({ cls := "BalloonStall", name := "pace", desc := "(II)Z" } : Jvm.MethodName) prog_1_method_45_code (3 : Nat) (Option.some Jvm.ClassFile.FieldType.boolean)) ∈ lw_all := lw_g (lw_at lw_m5 60 rfl) rfl
theorem q1124 : (Jvm.Cond.instanceMethod ({ cls := "BalloonStall", name := "comes", desc := "(III)I" } : Jvm.MethodName)) ∈ lw_all := lw_g (lw_at lw_m5 62 rfl) rfl
theorem q1125 : (Jvm.Cond.selects "BalloonStall" ({ cls := "BalloonStall", name := "comes", desc := "(III)I" } : Jvm.MethodName) ({ cls := "BalloonStall", name := "comes", desc := "(III)I" } : Jvm.MethodName)) ∈ lw_all := lw_g (lw_at lw_m5 63 rfl) rfl
theorem q1126 : (Jvm.Cond.code ({ cls := "BalloonStall", name := "comes", desc := "(III)I" } : Jvm.MethodName) prog_1_method_46_code (4 : Nat) (Option.some Jvm.ClassFile.FieldType.int)) ∈ lw_all := lw_g (lw_at lw_m5 64 rfl) rfl
theorem q1127 : (Jvm.Cond.constantLong "BalloonStall" (319 : Nat) (9999 : Int64)) ∈ lw_all := lw_g (lw_at lw_m5 65 rfl) rfl
theorem q1128 : (Jvm.Cond.constantLong "BalloonStall" (321 : Nat) (999 : Int64)) ∈ lw_all := lw_g (lw_at lw_m5 66 rfl) rfl
theorem q1130 : (Jvm.Cond.methodLink "BalloonStall" (323 : Nat) ({ cls := "BalloonStall$Guest", name := "<init>", desc := "(LBalloonStall$Figure;II)V" } : Jvm.MethodName)) ∈ lw_all := lw_g (lw_at lw_m5 68 rfl) rfl
theorem q1135 : (Jvm.Cond.fieldLinkNest "BalloonStall" (335 : Nat) "BalloonStall$Guest" "wants" "LBalloonStall$Figure;" "BalloonStall") ∈ lw_tbl := lw_at lw_m5 73 rfl
theorem q1137 : (Jvm.Cond.fieldLinkNest "BalloonStall" (360 : Nat) "BalloonStall$Guest" "comes" "I" "BalloonStall") ∈ lw_tbl := lw_at lw_m5 75 rfl
theorem q1139 : (Jvm.Cond.fieldLinkNest "BalloonStall" (366 : Nat) "BalloonStall$Guest" "patience" "I" "BalloonStall") ∈ lw_tbl := lw_at lw_m5 77 rfl
theorem q1140 : (Jvm.Cond.fieldLinkNest "BalloonStall" (373 : Nat) "BalloonStall$Guest" "went" "I" "BalloonStall") ∈ lw_tbl := lw_at lw_m5 78 rfl
theorem q1141 : (Jvm.Cond.fieldLinkNest "BalloonStall" (363 : Nat) "BalloonStall$Guest" "begins" "I" "BalloonStall") ∈ lw_tbl := lw_at lw_m5 79 rfl
theorem q1142 : (Jvm.Cond.fieldLinkNest "BalloonStall" (342 : Nat) "BalloonStall$Guest" "ends" "I" "BalloonStall") ∈ lw_tbl := lw_at lw_m5 80 rfl
theorem q1143 : (Jvm.Cond.fieldLinkNest "BalloonStall" (339 : Nat) "BalloonStall$Guest" "taken" "I" "BalloonStall") ∈ lw_tbl := lw_at lw_m5 81 rfl
theorem q1160 : (Jvm.Cond.instanceMethod ({ cls := "BalloonStall", name := "close", desc := "()I" } : Jvm.MethodName)) ∈ lw_all := lw_g (lw_at lw_m5 98 rfl) rfl
theorem q1161 : (Jvm.Cond.selects "BalloonStall" ({ cls := "BalloonStall", name := "close", desc := "()I" } : Jvm.MethodName) ({ cls := "BalloonStall", name := "close", desc := "()I" } : Jvm.MethodName)) ∈ lw_all := lw_g (lw_at lw_m5 99 rfl) rfl
theorem q1162 : (Jvm.Cond.code ({ cls := "BalloonStall", name := "close", desc := "()I" } : Jvm.MethodName) prog_1_method_47_code (2 : Nat) (Option.some Jvm.ClassFile.FieldType.int)) ∈ lw_all := lw_g (lw_at lw_m5 100 rfl) rfl
theorem q1164 : (Jvm.Cond.instanceMethod ({ cls := "BalloonStall", name := "run", desc := "(J)I" } : Jvm.MethodName)) ∈ lw_all := lw_g (lw_at lw_m5 102 rfl) rfl
theorem q1165 : (Jvm.Cond.selects "BalloonStall" ({ cls := "BalloonStall", name := "run", desc := "(J)I" } : Jvm.MethodName) ({ cls := "BalloonStall", name := "run", desc := "(J)I" } : Jvm.MethodName)) ∈ lw_all := lw_g (lw_at lw_m5 103 rfl) rfl
theorem q1166 : (Jvm.Cond.code ({ cls := "BalloonStall", name := "run", desc := "(J)I" } : Jvm.MethodName) prog_1_method_51_code (6 : Nat) (Option.some Jvm.ClassFile.FieldType.int)) ∈ lw_all := lw_g (lw_at lw_m5 104 rfl) rfl
theorem q1167 : (Jvm.Cond.methodLink "BalloonStall" (380 : Nat) ({ cls := "BalloonStall", name := "serves", desc := "(LBalloonStall$Guest;I)V" } : Jvm.MethodName)) ∈ lw_all := lw_g (lw_at lw_m5 105 rfl) rfl
theorem q1168 : (Jvm.Cond.privateMethod ({ cls := "BalloonStall", name := "serves", desc := "(LBalloonStall$Guest;I)V" } : Jvm.MethodName)) ∈ lw_tbl := lw_at lw_m5 106 rfl
theorem q1169 : (Jvm.Cond.instanceMethod ({ cls := "BalloonStall", name := "serves", desc := "(LBalloonStall$Guest;I)V" } : Jvm.MethodName)) ∈ lw_all := lw_g (lw_at lw_m5 107 rfl) rfl
theorem q1170 : (Jvm.Cond.code ({ cls := "BalloonStall", name := "serves", desc := "(LBalloonStall$Guest;I)V" } : Jvm.MethodName) prog_1_method_50_code (4 : Nat) (Option.none : Option Jvm.ClassFile.FieldType)) ∈ lw_all := lw_g (lw_at lw_m5 108 rfl) rfl
theorem q1171 : (Jvm.Cond.methodLink "BalloonStall" (369 : Nat) ({ cls := "BalloonStall", name := "hasFor", desc := "(LBalloonStall$Figure;)Z" } : Jvm.MethodName)) ∈ lw_all := lw_g (lw_at lw_m5 109 rfl) rfl
theorem q1172 : (Jvm.Cond.privateMethod ({ cls := "BalloonStall", name := "hasFor", desc := "(LBalloonStall$Figure;)Z" } : Jvm.MethodName)) ∈ lw_tbl := lw_at lw_m5 110 rfl
theorem q1173 : (Jvm.Cond.instanceMethod ({ cls := "BalloonStall", name := "hasFor", desc := "(LBalloonStall$Figure;)Z" } : Jvm.MethodName)) ∈ lw_all := lw_g (lw_at lw_m5 111 rfl) rfl
theorem q1174 : (Jvm.Cond.code ({ cls := "BalloonStall", name := "hasFor", desc := "(LBalloonStall$Figure;)Z" } : Jvm.MethodName) prog_1_method_48_code (3 : Nat) (Option.some Jvm.ClassFile.FieldType.boolean)) ∈ lw_all := lw_g (lw_at lw_m5 112 rfl) rfl
theorem q1175 : (Jvm.Cond.methodLink "BalloonStall" (376 : Nat) ({ cls := "BalloonStall", name := "makes", desc := "(LBalloonStall$Guest;I)Z" } : Jvm.MethodName)) ∈ lw_all := lw_g (lw_at lw_m5 113 rfl) rfl
theorem q1176 : (Jvm.Cond.privateMethod ({ cls := "BalloonStall", name := "makes", desc := "(LBalloonStall$Guest;I)Z" } : Jvm.MethodName)) ∈ lw_tbl := lw_at lw_m5 114 rfl
theorem q1177 : (Jvm.Cond.instanceMethod ({ cls := "BalloonStall", name := "makes", desc := "(LBalloonStall$Guest;I)Z" } : Jvm.MethodName)) ∈ lw_all := lw_g (lw_at lw_m5 115 rfl) rfl
theorem q1178 : (Jvm.Cond.code ({ cls := "BalloonStall", name := "makes", desc := "(LBalloonStall$Guest;I)Z" } : Jvm.MethodName) prog_1_method_49_code (5 : Nat) (Option.some Jvm.ClassFile.FieldType.boolean)) ∈ lw_all := lw_g (lw_at lw_m5 116 rfl) rfl
theorem q1179 : (Jvm.Cond.methodLink "BalloonStall" (344 : Nat) ({ cls := "BalloonStall$Figure", name := "bubblesOf", desc := "(I)I" } : Jvm.MethodName)) ∈ lw_all := lw_g (lw_at lw_m5 117 rfl) rfl
theorem q1183 : (Jvm.Cond.constantLong "BalloonStall" (351 : Nat) (6364136223846793005 : Int64)) ∈ lw_all := lw_g (lw_at lw_m5 121 rfl) rfl
theorem q1184 : (Jvm.Cond.constantLong "BalloonStall" (353 : Nat) (1442695040888963407 : Int64)) ∈ lw_all := lw_g (lw_at lw_m5 122 rfl) rfl
theorem q1185 : (Jvm.Cond.constantLong "BalloonStall" (355 : Nat) (100 : Int64)) ∈ lw_all := lw_g (lw_at lw_m5 123 rfl) rfl
theorem q1187 : (Jvm.Cond.instanceMethod ({ cls := "BalloonStall", name := "rule", desc := "()I" } : Jvm.MethodName)) ∈ lw_all := lw_g (lw_at lw_m5 125 rfl) rfl
theorem q1188 : (Jvm.Cond.selects "BalloonStall" ({ cls := "BalloonStall", name := "rule", desc := "()I" } : Jvm.MethodName) ({ cls := "BalloonStall", name := "rule", desc := "()I" } : Jvm.MethodName)) ∈ lw_all := lw_g (lw_at lw_m5 126 rfl) rfl
theorem q1189 : (Jvm.Cond.codeWith ({ cls := "BalloonStall", name := "rule", desc := "()I" } : Jvm.MethodName) prog_1_method_54_code (2 : Nat) (Option.some Jvm.ClassFile.FieldType.int) [((11 : Nat), (31 : Nat), (34 : Nat), (111 : Nat))]) ∈ lw_all := lw_g (lw_at lw_m5 127 rfl) rfl
theorem q1191 : (Jvm.Cond.instanceMethod ({ cls := "BalloonStall", name := "aged", desc := "(IIII)I" } : Jvm.MethodName)) ∈ lw_all := lw_g (lw_at lw_m5 129 rfl) rfl
theorem q1192 : (Jvm.Cond.selects "BalloonStall" ({ cls := "BalloonStall", name := "aged", desc := "(IIII)I" } : Jvm.MethodName) ({ cls := "BalloonStall", name := "aged", desc := "(IIII)I" } : Jvm.MethodName)) ∈ lw_all := lw_g (lw_at lw_m5 130 rfl) rfl
theorem q1193 : (Jvm.Cond.code ({ cls := "BalloonStall", name := "aged", desc := "(IIII)I" } : Jvm.MethodName) prog_1_method_59_code (7 : Nat) (Option.some Jvm.ClassFile.FieldType.int)) ∈ lw_all := lw_g (lw_at lw_m5 131 rfl) rfl
theorem q1194 : (Jvm.Cond.methodLink "BalloonStall" (408 : Nat) ({ cls := "BalloonStall", name := "isRule", desc := "(I)Z" } : Jvm.MethodName)) ∈ lw_all := lw_g (lw_at lw_m5 132 rfl) rfl
theorem q1195 : (Jvm.Cond.privateMethod ({ cls := "BalloonStall", name := "isRule", desc := "(I)Z" } : Jvm.MethodName)) ∈ lw_tbl := lw_at lw_m5 133 rfl
theorem q1196 : (Jvm.Cond.instanceMethod ({ cls := "BalloonStall", name := "isRule", desc := "(I)Z" } : Jvm.MethodName)) ∈ lw_all := lw_g (lw_at lw_m5 134 rfl) rfl
theorem q1197 : (Jvm.Cond.code ({ cls := "BalloonStall", name := "isRule", desc := "(I)Z" } : Jvm.MethodName) prog_1_method_55_code (2 : Nat) (Option.some Jvm.ClassFile.FieldType.boolean)) ∈ lw_all := lw_g (lw_at lw_m5 135 rfl) rfl
theorem q1198 : (Jvm.Cond.constantLong "BalloonStall" (426 : Nat) (60 : Int64)) ∈ lw_all := lw_g (lw_at lw_m5 136 rfl) rfl
theorem q1199 : (Jvm.Cond.methodLink "BalloonStall" (428 : Nat) ({ cls := "BalloonStall", name := "fresh", desc := "(LBalloonStall$Figure;)V" } : Jvm.MethodName)) ∈ lw_all := lw_g (lw_at lw_m5 137 rfl) rfl
theorem q1200 : (Jvm.Cond.privateMethod ({ cls := "BalloonStall", name := "fresh", desc := "(LBalloonStall$Figure;)V" } : Jvm.MethodName)) ∈ lw_tbl := lw_at lw_m5 138 rfl
theorem q1201 : (Jvm.Cond.instanceMethod ({ cls := "BalloonStall", name := "fresh", desc := "(LBalloonStall$Figure;)V" } : Jvm.MethodName)) ∈ lw_all := lw_g (lw_at lw_m5 139 rfl) rfl
theorem q1202 : (Jvm.Cond.code ({ cls := "BalloonStall", name := "fresh", desc := "(LBalloonStall$Figure;)V" } : Jvm.MethodName) prog_1_method_57_code (2 : Nat) (Option.none : Option Jvm.ClassFile.FieldType)) ∈ lw_all := lw_g (lw_at lw_m5 140 rfl) rfl
theorem q1203 : (Jvm.Cond.methodLink "BalloonStall" (431 : Nat) ({ cls := "BalloonStall", name := "hour", desc := "(LBalloonStall$Figure;LBalloonStall$Clause;I)V" } : Jvm.MethodName)) ∈ lw_all := lw_g (lw_at lw_m5 141 rfl) rfl
theorem q1204 : (Jvm.Cond.privateMethod ({ cls := "BalloonStall", name := "hour", desc := "(LBalloonStall$Figure;LBalloonStall$Clause;I)V" } : Jvm.MethodName)) ∈ lw_tbl := lw_at lw_m5 142 rfl
theorem q1205 : (Jvm.Cond.instanceMethod ({ cls := "BalloonStall", name := "hour", desc := "(LBalloonStall$Figure;LBalloonStall$Clause;I)V" } : Jvm.MethodName)) ∈ lw_all := lw_g (lw_at lw_m5 143 rfl) rfl
theorem q1206 : (Jvm.Cond.code ({ cls := "BalloonStall", name := "hour", desc := "(LBalloonStall$Figure;LBalloonStall$Clause;I)V" } : Jvm.MethodName) prog_1_method_58_code (8 : Nat) (Option.none : Option Jvm.ClassFile.FieldType)) ∈ lw_all := lw_g (lw_at lw_m5 144 rfl) rfl
theorem q1207 : (Jvm.Cond.methodLinkNest "BalloonStall" (417 : Nat) ({ cls := "BalloonStall$Figure", name := "left", desc := "(II)I" } : Jvm.MethodName) "BalloonStall") ∈ lw_tbl := lw_at lw_m5 145 rfl
theorem q1208 : (Jvm.Cond.methodLink "BalloonStall" (411 : Nat) ({ cls := "BalloonStall", name := "worthOf", desc := "(LBalloonStall$Clause;IIIII)I" } : Jvm.MethodName)) ∈ lw_all := lw_g (lw_at lw_m5 146 rfl) rfl
theorem q1209 : (Jvm.Cond.privateMethod ({ cls := "BalloonStall", name := "worthOf", desc := "(LBalloonStall$Clause;IIIII)I" } : Jvm.MethodName)) ∈ lw_tbl := lw_at lw_m5 147 rfl
theorem q1210 : (Jvm.Cond.instanceMethod ({ cls := "BalloonStall", name := "worthOf", desc := "(LBalloonStall$Clause;IIIII)I" } : Jvm.MethodName)) ∈ lw_all := lw_g (lw_at lw_m5 148 rfl) rfl
theorem q1211 : (Jvm.Cond.code ({ cls := "BalloonStall", name := "worthOf", desc := "(LBalloonStall$Clause;IIIII)I" } : Jvm.MethodName) prog_1_method_53_code (8 : Nat) (Option.some Jvm.ClassFile.FieldType.int)) ∈ lw_all := lw_g (lw_at lw_m5 149 rfl) rfl
theorem q1212 : (Jvm.Cond.methodLink "BalloonStall" (389 : Nat) ({ cls := "BalloonStall$Clause", name := "holds", desc := "(LBalloonStall$Letters;)Z" } : Jvm.MethodName)) ∈ lw_all := lw_g (lw_at lw_m5 150 rfl) rfl
theorem q1251 : (Jvm.Cond.methodLink "BalloonStall" (396 : Nat) ({ cls := "BalloonStall$Sum", name := "of", desc := "(LBalloonStall$Letters;)I" } : Jvm.MethodName)) ∈ lw_all := lw_g (lw_at lw_m5 189 rfl) rfl
theorem q1252 : (Jvm.Cond.methodLink "BalloonStall" (423 : Nat) ({ cls := "BalloonStall$Figure", name := "lostWith", desc := "(I)I" } : Jvm.MethodName)) ∈ lw_all := lw_g (lw_at lw_m5 190 rfl) rfl
theorem q1254 : (Jvm.Cond.instanceMethod ({ cls := "BalloonStall", name := "falls", desc := "(III)I" } : Jvm.MethodName)) ∈ lw_all := lw_g (lw_at lw_m5 192 rfl) rfl
theorem q1255 : (Jvm.Cond.selects "BalloonStall" ({ cls := "BalloonStall", name := "falls", desc := "(III)I" } : Jvm.MethodName) ({ cls := "BalloonStall", name := "falls", desc := "(III)I" } : Jvm.MethodName)) ∈ lw_all := lw_g (lw_at lw_m5 193 rfl) rfl
theorem q1256 : (Jvm.Cond.code ({ cls := "BalloonStall", name := "falls", desc := "(III)I" } : Jvm.MethodName) prog_1_method_60_code (7 : Nat) (Option.some Jvm.ClassFile.FieldType.int)) ∈ lw_all := lw_g (lw_at lw_m5 194 rfl) rfl
theorem q1258 : (Jvm.Cond.instanceMethod ({ cls := "BalloonStall", name := "count", desc := "(I)I" } : Jvm.MethodName)) ∈ lw_all := lw_g (lw_at lw_m5 196 rfl) rfl
theorem q1259 : (Jvm.Cond.selects "BalloonStall" ({ cls := "BalloonStall", name := "count", desc := "(I)I" } : Jvm.MethodName) ({ cls := "BalloonStall", name := "count", desc := "(I)I" } : Jvm.MethodName)) ∈ lw_all := lw_g (lw_at lw_m5 197 rfl) rfl
theorem q1260 : (Jvm.Cond.code ({ cls := "BalloonStall", name := "count", desc := "(I)I" } : Jvm.MethodName) prog_1_method_61_code (2 : Nat) (Option.some Jvm.ClassFile.FieldType.int)) ∈ lw_all := lw_g (lw_at lw_m5 198 rfl) rfl
theorem q1266 : (Jvm.Cond.instanceMethod ({ cls := "BalloonStall", name := "bubble", desc := "(III)I" } : Jvm.MethodName)) ∈ lw_all := lw_g (lw_at lw_m5 204 rfl) rfl
theorem q1267 : (Jvm.Cond.selects "BalloonStall" ({ cls := "BalloonStall", name := "bubble", desc := "(III)I" } : Jvm.MethodName) ({ cls := "BalloonStall", name := "bubble", desc := "(III)I" } : Jvm.MethodName)) ∈ lw_all := lw_g (lw_at lw_m5 205 rfl) rfl
theorem q1268 : (Jvm.Cond.code ({ cls := "BalloonStall", name := "bubble", desc := "(III)I" } : Jvm.MethodName) prog_1_method_17_code (5 : Nat) (Option.some Jvm.ClassFile.FieldType.int)) ∈ lw_all := lw_g (lw_at lw_m5 206 rfl) rfl
theorem q1269 : (Jvm.Cond.constantLong "BalloonStall" (161 : Nat) (4 : Int64)) ∈ lw_all := lw_g (lw_at lw_m5 207 rfl) rfl
theorem q1270 : (Jvm.Cond.classLink "BalloonStall" (163 : Nat) "java/util/NoSuchElementException") ∈ lw_all := lw_g (lw_at lw_m5 208 rfl) rfl
theorem q1279 : (Jvm.Cond.methodLink "BalloonStall" (165 : Nat) ({ cls := "java/util/NoSuchElementException", name := "<init>", desc := "()V" } : Jvm.MethodName)) ∈ lw_all := lw_g (lw_at lw_m5 217 rfl) rfl
theorem q1295 : (Jvm.Cond.instanceMethod ({ cls := "BalloonStall", name := "guest", desc := "(II)I" } : Jvm.MethodName)) ∈ lw_all := lw_g (lw_at lw_m5 233 rfl) rfl
theorem q1296 : (Jvm.Cond.selects "BalloonStall" ({ cls := "BalloonStall", name := "guest", desc := "(II)I" } : Jvm.MethodName) ({ cls := "BalloonStall", name := "guest", desc := "(II)I" } : Jvm.MethodName)) ∈ lw_all := lw_g (lw_at lw_m5 234 rfl) rfl
theorem q1297 : (Jvm.Cond.code ({ cls := "BalloonStall", name := "guest", desc := "(II)I" } : Jvm.MethodName) prog_1_method_52_code (4 : Nat) (Option.some Jvm.ClassFile.FieldType.int)) ∈ lw_all := lw_g (lw_at lw_m5 235 rfl) rfl
theorem q1298 : (Jvm.Cond.constantLong "BalloonStall" (384 : Nat) (3 : Int64)) ∈ lw_all := lw_g (lw_at lw_m5 236 rfl) rfl
theorem q1303 : (Jvm.Cond.instanceMethod ({ cls := "BalloonStall", name := "worth", desc := "(IIIIII)I" } : Jvm.MethodName)) ∈ lw_all := lw_g (lw_at lw_m6 1 rfl) rfl
theorem q1304 : (Jvm.Cond.selects "BalloonStall" ({ cls := "BalloonStall", name := "worth", desc := "(IIIIII)I" } : Jvm.MethodName) ({ cls := "BalloonStall", name := "worth", desc := "(IIIIII)I" } : Jvm.MethodName)) ∈ lw_all := lw_g (lw_at lw_m6 2 rfl) rfl
theorem q1305 : (Jvm.Cond.code ({ cls := "BalloonStall", name := "worth", desc := "(IIIIII)I" } : Jvm.MethodName) prog_1_method_56_code (7 : Nat) (Option.some Jvm.ClassFile.FieldType.int)) ∈ lw_all := lw_g (lw_at lw_m6 3 rfl) rfl
theorem q1891 : (Jvm.Cond.castable "BalloonStall" "java/lang/Object") ∈ lw_tbl := lw_at lw_m8 109 rfl
theorem in_X1 : ∀ w ∈ wsX10, w ∈ lw_all := lw_in wsX10 [191, 193, 195, 197, 199, 201, 203, 205, 207, 209, 211, 213, 215, 217, 219, 221, 223, 225, 227, 229, 231, 233, 235] (by decide +kernel) (by decide +kernel)
