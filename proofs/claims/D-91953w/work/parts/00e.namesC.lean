/-! BalloonStallModel -/
set_option maxRecDepth 100000
def RX3 : String := "BalloonStallModel"
def TX3 : u_T := fun k => match k with
  | 0 => ("BalloonStallModel", "thrown", "I", false)
  | 1 => ("BalloonStallModel", "air", "[I", true)
  | 2 => ("BalloonStallModel", "strain", "[I", true)
  | 3 => ("BalloonStallModel", "chance", "[I", true)
  | 4 => ("BalloonStallModel", "stock", "[I", true)
  | 5 => ("BalloonStallModel", "sorts", "I", false)
  | 6 => ("BalloonStallModel", "tape", "[I", true)
  | 7 => ("BalloonStallModel", "size", "I", false)
  | 8 => ("BalloonStallModel", "at", "I", false)
  | 9 => ("BalloonStallModel", "wrong", "I", false)
  | 10 => ("BalloonStallModel", "deep", "I", false)
  | 11 => ("BalloonStallModel", "balloons", "[I", true)
  | 12 => ("BalloonStallModel", "sortOf", "[I", true)
  | 13 => ("BalloonStallModel", "bubbles", "[I", true)
  | 14 => ("BalloonStallModel", "points", "[I", true)
  | 15 => ("BalloonStallModel", "length", "[I", true)
  | 16 => ("BalloonStallModel", "from", "[I", true)
  | 17 => ("BalloonStallModel", "to", "[I", true)
  | 18 => ("BalloonStallModel", "balloonOf", "[I", true)
  | 19 => ("BalloonStallModel", "hands", "[I", true)
  | 20 => ("BalloonStallModel", "figures", "I", false)
  | 21 => ("BalloonStallModel", "head", "[I", true)
  | 22 => ("BalloonStallModel", "named", "[I", true)
  | 23 => ("BalloonStallModel", "raw", "I", false)
  | 24 => ("BalloonStallModel", "where", "I", false)
  | 25 => ("BalloonStallModel", "f", "I", false)
  | 26 => ("BalloonStallModel", "number", "[I", true)
  | 27 => ("BalloonStallModel", "codes", "[I", true)
  | 28 => ("BalloonStallModel", "clauses", "[I", true)
  | 29 => ("BalloonStallModel", "testTo", "[I", true)
  | 30 => ("BalloonStallModel", "sumTo", "[I", true)
  | 31 => ("BalloonStallModel", "rules", "I", false)
  | 32 => ("BalloonStallModel", "into", "I", false)
  | 33 => ("BalloonStallModel", "said", "I", false)
  | 34 => ("BalloonStallModel", "pile", "[J", true)
  | 35 => ("BalloonStallModel", "partner", "[I", true)
  | 36 => ("BalloonStallModel", "fars", "[I", true)
  | 37 => ("BalloonStallModel", "fewest", "[I", true)
  | 38 => ("BalloonStallModel", "isWay", "[Z", true)
  | 39 => ("BalloonStallModel", "odds", "[I", true)
  | 40 => ("BalloonStallModel", "comes", "[I", true)
  | 41 => ("BalloonStallModel", "wants", "[I", true)
  | 42 => ("BalloonStallModel", "patience", "[I", true)
  | 43 => ("BalloonStallModel", "went", "[I", true)
  | 44 => ("BalloonStallModel", "shelf", "[I", true)
  | 45 => ("BalloonStallModel", "guests", "I", false)
  | 46 => ("BalloonStallModel", "ran", "I", false)
  | 47 => ("BalloonStallModel", "paceBubble", "I", false)
  | 48 => ("BalloonStallModel", "paceBalloon", "I", false)
  | 49 => ("BalloonStallModel", "now", "[I", true)
  | 50 => ("BalloonStallModel", "lose", "[I", true)
  | _ => ("BalloonStallModel", "lasting", "I", false)
def tyX3 : Nat → FieldType := fun k => match k with
  | 0 => .int
  | 1 => .array .int
  | 2 => .array .int
  | 3 => .array .int
  | 4 => .array .int
  | 5 => .int
  | 6 => .array .int
  | 7 => .int
  | 8 => .int
  | 9 => .int
  | 10 => .int
  | 11 => .array .int
  | 12 => .array .int
  | 13 => .array .int
  | 14 => .array .int
  | 15 => .array .int
  | 16 => .array .int
  | 17 => .array .int
  | 18 => .array .int
  | 19 => .array .int
  | 20 => .int
  | 21 => .array .int
  | 22 => .array .int
  | 23 => .int
  | 24 => .int
  | 25 => .int
  | 26 => .array .int
  | 27 => .array .int
  | 28 => .array .int
  | 29 => .array .int
  | 30 => .array .int
  | 31 => .int
  | 32 => .int
  | 33 => .int
  | 34 => .array .long
  | 35 => .array .int
  | 36 => .array .int
  | 37 => .array .int
  | 38 => .array .boolean
  | 39 => .array .int
  | 40 => .array .int
  | 41 => .array .int
  | 42 => .array .int
  | 43 => .array .int
  | 44 => .array .int
  | 45 => .int
  | 46 => .int
  | 47 => .int
  | 48 => .int
  | 49 => .array .int
  | 50 => .array .int
  | _ => .int
abbrev wsX30 : List Cond := u_ws RX3 TX3 52
set_option maxRecDepth 100000 in
theorem nmX3 : ∀ a, a < 52 → ∀ b, b < 52 → a ≠ b → (TX3 a).2.1 ≠ (TX3 b).2.1 := by decide +kernel
set_option maxRecDepth 100000 in
theorem tyX3_ok : ∀ k, k < 52 → parseFieldDescriptor (TX3 k).2.2.1 = some (tyX3 k) := by decide +kernel
abbrev cX3_init : ByteArray := prog_26_method_2_code
def yX3_init : MethodName := ⟨RX3, "<init>", "()V"⟩
def dkwX3_init_12 : List UInt8 := [188, 10, 181, 0, 112, 42, 16, 24, 188, 10, 181, 0, 115, 177]
abbrev dktX3_init_12 : List UInt8 := dkwX3_init_12 ++ []
def dkwX3_init_11 : List UInt8 := [16, 120, 188, 10, 181, 0, 102, 42, 16, 6, 188, 10, 181, 0, 105, 42, 4, 181, 0, 108, 42, 16, 24]
abbrev dktX3_init_11 : List UInt8 := dkwX3_init_11 ++ dktX3_init_12
def dkwX3_init_10 : List UInt8 := [16, 30, 188, 10, 181, 0, 93, 42, 16, 30, 188, 10, 181, 0, 96, 42, 16, 30, 188, 10, 181, 0, 99, 42]
abbrev dktX3_init_10 : List UInt8 := dkwX3_init_10 ++ dktX3_init_11
def dkwX3_init_9 : List UInt8 := [188, 10, 181, 0, 83, 42, 17, 4, 0, 188, 4, 181, 0, 86, 42, 16, 24, 188, 10, 181, 0, 90, 42]
abbrev dktX3_init_9 : List UInt8 := dkwX3_init_9 ++ dktX3_init_10
def dkwX3_init_8 : List UInt8 := [181, 0, 73, 42, 16, 8, 188, 10, 181, 0, 77, 42, 17, 14, 16, 188, 10, 181, 0, 80, 42, 17, 4, 0]
abbrev dktX3_init_8 : List UInt8 := dkwX3_init_8 ++ dktX3_init_9
def dkwX3_init_7 : List UInt8 := [17, 1, 192, 188, 10, 181, 0, 67, 42, 17, 1, 192, 188, 10, 181, 0, 70, 42, 17, 1, 144, 188, 11]
abbrev dktX3_init_7 : List UInt8 := dkwX3_init_7 ++ dktX3_init_8
def dkwX3_init_6 : List UInt8 := [188, 10, 181, 0, 58, 42, 17, 10, 240, 188, 10, 181, 0, 61, 42, 16, 7, 188, 10, 181, 0, 64, 42]
abbrev dktX3_init_6 : List UInt8 := dkwX3_init_6 ++ dktX3_init_7
def dkwX3_init_5 : List UInt8 := [188, 10, 181, 0, 49, 42, 16, 60, 188, 10, 181, 0, 52, 42, 16, 8, 188, 10, 181, 0, 55, 42, 16, 60]
abbrev dktX3_init_5 : List UInt8 := dkwX3_init_5 ++ dktX3_init_6
def dkwX3_init_4 : List UInt8 := [181, 0, 40, 42, 17, 1, 56, 188, 10, 181, 0, 43, 42, 17, 1, 56, 188, 10, 181, 0, 46, 42, 16, 13]
abbrev dktX3_init_4 : List UInt8 := dkwX3_init_4 ++ dktX3_init_5
def dkwX3_init_3 : List UInt8 := [16, 13, 188, 10, 181, 0, 34, 42, 17, 1, 56, 188, 10, 181, 0, 37, 42, 17, 1, 56, 188, 10]
abbrev dktX3_init_3 : List UInt8 := dkwX3_init_3 ++ dktX3_init_4
def dkwX3_init_2 : List UInt8 := [16, 13, 188, 10, 181, 0, 25, 42, 16, 78, 188, 10, 181, 0, 28, 42, 16, 13, 188, 10, 181, 0, 31, 42]
abbrev dktX3_init_2 : List UInt8 := dkwX3_init_2 ++ dktX3_init_3
def dkwX3_init_1 : List UInt8 := [188, 10, 181, 0, 16, 42, 16, 6, 188, 10, 181, 0, 19, 42, 17, 0, 200, 188, 10, 181, 0, 22, 42]
abbrev dktX3_init_1 : List UInt8 := dkwX3_init_1 ++ dktX3_init_2
def dkwX3_init_0 : List UInt8 := [42, 183, 0, 1, 42, 16, 6, 188, 10, 181, 0, 9, 42, 16, 6, 188, 10, 181, 0, 13, 42, 16, 6]
abbrev dktX3_init_0 : List UInt8 := dkwX3_init_0 ++ dktX3_init_1
theorem dksX3_init_0 : cX3_init.data.toList.drop 0 = dktX3_init_0 := by decide +kernel
theorem dksX3_init_1 : cX3_init.data.toList.drop 23 = dktX3_init_1 := dk_seg dksX3_init_0 23 rfl rfl
theorem dksX3_init_2 : cX3_init.data.toList.drop 46 = dktX3_init_2 := dk_seg dksX3_init_1 23 rfl rfl
theorem dksX3_init_3 : cX3_init.data.toList.drop 70 = dktX3_init_3 := dk_seg dksX3_init_2 24 rfl rfl
theorem dksX3_init_4 : cX3_init.data.toList.drop 92 = dktX3_init_4 := dk_seg dksX3_init_3 22 rfl rfl
theorem dksX3_init_5 : cX3_init.data.toList.drop 116 = dktX3_init_5 := dk_seg dksX3_init_4 24 rfl rfl
theorem dksX3_init_6 : cX3_init.data.toList.drop 140 = dktX3_init_6 := dk_seg dksX3_init_5 24 rfl rfl
theorem dksX3_init_7 : cX3_init.data.toList.drop 163 = dktX3_init_7 := dk_seg dksX3_init_6 23 rfl rfl
theorem dksX3_init_8 : cX3_init.data.toList.drop 186 = dktX3_init_8 := dk_seg dksX3_init_7 23 rfl rfl
theorem dksX3_init_9 : cX3_init.data.toList.drop 210 = dktX3_init_9 := dk_seg dksX3_init_8 24 rfl rfl
theorem dksX3_init_10 : cX3_init.data.toList.drop 233 = dktX3_init_10 := dk_seg dksX3_init_9 23 rfl rfl
theorem dksX3_init_11 : cX3_init.data.toList.drop 257 = dktX3_init_11 := dk_seg dksX3_init_10 24 rfl rfl
theorem dksX3_init_12 : cX3_init.data.toList.drop 280 = dktX3_init_12 := dk_seg dksX3_init_11 23 rfl rfl
theorem dX3_init_0 : decode cX3_init 0 = .ok (.aload_n 0, 1) := dk_42 (dk_at dksX3_init_0 0 rfl rfl)
theorem dX3_init_1 : decode cX3_init 1 = .ok (.invokespecial 1, 3) := dk_183 0 1 (dk_at dksX3_init_0 1 rfl rfl)
theorem dX3_init_4 : decode cX3_init 4 = .ok (.aload_n 0, 1) := dk_42 (dk_at dksX3_init_0 4 rfl rfl)
theorem dX3_init_5 : decode cX3_init 5 = .ok (.bipush 6, 2) := dk_16 6 (dk_at dksX3_init_0 5 rfl rfl)
theorem dX3_init_7 : decode cX3_init 7 = .ok (.newarray .int, 2) := dk_188_10 (dk_at dksX3_init_0 7 rfl rfl)
theorem dX3_init_9 : decode cX3_init 9 = .ok (.putfield 9, 3) := dk_181 0 9 (dk_at dksX3_init_0 9 rfl rfl)
theorem dX3_init_12 : decode cX3_init 12 = .ok (.aload_n 0, 1) := dk_42 (dk_at dksX3_init_0 12 rfl rfl)
theorem dX3_init_13 : decode cX3_init 13 = .ok (.bipush 6, 2) := dk_16 6 (dk_at dksX3_init_0 13 rfl rfl)
theorem dX3_init_15 : decode cX3_init 15 = .ok (.newarray .int, 2) := dk_188_10 (dk_at dksX3_init_0 15 rfl rfl)
theorem dX3_init_17 : decode cX3_init 17 = .ok (.putfield 13, 3) := dk_181 0 13 (dk_at dksX3_init_0 17 rfl rfl)
theorem dX3_init_20 : decode cX3_init 20 = .ok (.aload_n 0, 1) := dk_42 (dk_at dksX3_init_0 20 rfl rfl)
theorem dX3_init_21 : decode cX3_init 21 = .ok (.bipush 6, 2) := dk_16 6 (dk_at dksX3_init_0 21 rfl rfl)
theorem dX3_init_23 : decode cX3_init 23 = .ok (.newarray .int, 2) := dk_188_10 (dk_at dksX3_init_1 0 rfl rfl)
theorem dX3_init_25 : decode cX3_init 25 = .ok (.putfield 16, 3) := dk_181 0 16 (dk_at dksX3_init_1 2 rfl rfl)
theorem dX3_init_28 : decode cX3_init 28 = .ok (.aload_n 0, 1) := dk_42 (dk_at dksX3_init_1 5 rfl rfl)
theorem dX3_init_29 : decode cX3_init 29 = .ok (.bipush 6, 2) := dk_16 6 (dk_at dksX3_init_1 6 rfl rfl)
theorem dX3_init_31 : decode cX3_init 31 = .ok (.newarray .int, 2) := dk_188_10 (dk_at dksX3_init_1 8 rfl rfl)
theorem dX3_init_33 : decode cX3_init 33 = .ok (.putfield 19, 3) := dk_181 0 19 (dk_at dksX3_init_1 10 rfl rfl)
theorem dX3_init_36 : decode cX3_init 36 = .ok (.aload_n 0, 1) := dk_42 (dk_at dksX3_init_1 13 rfl rfl)
theorem dX3_init_37 : decode cX3_init 37 = .ok (.sipush 200, 3) := dk_17 0 200 (dk_at dksX3_init_1 14 rfl rfl)
theorem dX3_init_40 : decode cX3_init 40 = .ok (.newarray .int, 2) := dk_188_10 (dk_at dksX3_init_1 17 rfl rfl)
theorem dX3_init_42 : decode cX3_init 42 = .ok (.putfield 22, 3) := dk_181 0 22 (dk_at dksX3_init_1 19 rfl rfl)
theorem dX3_init_45 : decode cX3_init 45 = .ok (.aload_n 0, 1) := dk_42 (dk_at dksX3_init_1 22 rfl rfl)
theorem dX3_init_46 : decode cX3_init 46 = .ok (.bipush 13, 2) := dk_16 13 (dk_at dksX3_init_2 0 rfl rfl)
theorem dX3_init_48 : decode cX3_init 48 = .ok (.newarray .int, 2) := dk_188_10 (dk_at dksX3_init_2 2 rfl rfl)
theorem dX3_init_50 : decode cX3_init 50 = .ok (.putfield 25, 3) := dk_181 0 25 (dk_at dksX3_init_2 4 rfl rfl)
theorem dX3_init_53 : decode cX3_init 53 = .ok (.aload_n 0, 1) := dk_42 (dk_at dksX3_init_2 7 rfl rfl)
theorem dX3_init_54 : decode cX3_init 54 = .ok (.bipush 78, 2) := dk_16 78 (dk_at dksX3_init_2 8 rfl rfl)
theorem dX3_init_56 : decode cX3_init 56 = .ok (.newarray .int, 2) := dk_188_10 (dk_at dksX3_init_2 10 rfl rfl)
theorem dX3_init_58 : decode cX3_init 58 = .ok (.putfield 28, 3) := dk_181 0 28 (dk_at dksX3_init_2 12 rfl rfl)
theorem dX3_init_61 : decode cX3_init 61 = .ok (.aload_n 0, 1) := dk_42 (dk_at dksX3_init_2 15 rfl rfl)
theorem dX3_init_62 : decode cX3_init 62 = .ok (.bipush 13, 2) := dk_16 13 (dk_at dksX3_init_2 16 rfl rfl)
theorem dX3_init_64 : decode cX3_init 64 = .ok (.newarray .int, 2) := dk_188_10 (dk_at dksX3_init_2 18 rfl rfl)
theorem dX3_init_66 : decode cX3_init 66 = .ok (.putfield 31, 3) := dk_181 0 31 (dk_at dksX3_init_2 20 rfl rfl)
theorem dX3_init_69 : decode cX3_init 69 = .ok (.aload_n 0, 1) := dk_42 (dk_at dksX3_init_2 23 rfl rfl)
theorem dX3_init_70 : decode cX3_init 70 = .ok (.bipush 13, 2) := dk_16 13 (dk_at dksX3_init_3 0 rfl rfl)
theorem dX3_init_72 : decode cX3_init 72 = .ok (.newarray .int, 2) := dk_188_10 (dk_at dksX3_init_3 2 rfl rfl)
theorem dX3_init_74 : decode cX3_init 74 = .ok (.putfield 34, 3) := dk_181 0 34 (dk_at dksX3_init_3 4 rfl rfl)
theorem dX3_init_77 : decode cX3_init 77 = .ok (.aload_n 0, 1) := dk_42 (dk_at dksX3_init_3 7 rfl rfl)
theorem dX3_init_78 : decode cX3_init 78 = .ok (.sipush 312, 3) := dk_17 1 56 (dk_at dksX3_init_3 8 rfl rfl)
theorem dX3_init_81 : decode cX3_init 81 = .ok (.newarray .int, 2) := dk_188_10 (dk_at dksX3_init_3 11 rfl rfl)
theorem dX3_init_83 : decode cX3_init 83 = .ok (.putfield 37, 3) := dk_181 0 37 (dk_at dksX3_init_3 13 rfl rfl)
theorem dX3_init_86 : decode cX3_init 86 = .ok (.aload_n 0, 1) := dk_42 (dk_at dksX3_init_3 16 rfl rfl)
theorem dX3_init_87 : decode cX3_init 87 = .ok (.sipush 312, 3) := dk_17 1 56 (dk_at dksX3_init_3 17 rfl rfl)
theorem dX3_init_90 : decode cX3_init 90 = .ok (.newarray .int, 2) := dk_188_10 (dk_at dksX3_init_3 20 rfl rfl)
theorem dX3_init_92 : decode cX3_init 92 = .ok (.putfield 40, 3) := dk_181 0 40 (dk_at dksX3_init_4 0 rfl rfl)
theorem dX3_init_95 : decode cX3_init 95 = .ok (.aload_n 0, 1) := dk_42 (dk_at dksX3_init_4 3 rfl rfl)
theorem dX3_init_96 : decode cX3_init 96 = .ok (.sipush 312, 3) := dk_17 1 56 (dk_at dksX3_init_4 4 rfl rfl)
theorem dX3_init_99 : decode cX3_init 99 = .ok (.newarray .int, 2) := dk_188_10 (dk_at dksX3_init_4 7 rfl rfl)
theorem dX3_init_101 : decode cX3_init 101 = .ok (.putfield 43, 3) := dk_181 0 43 (dk_at dksX3_init_4 9 rfl rfl)
theorem dX3_init_104 : decode cX3_init 104 = .ok (.aload_n 0, 1) := dk_42 (dk_at dksX3_init_4 12 rfl rfl)
theorem dX3_init_105 : decode cX3_init 105 = .ok (.sipush 312, 3) := dk_17 1 56 (dk_at dksX3_init_4 13 rfl rfl)
theorem dX3_init_108 : decode cX3_init 108 = .ok (.newarray .int, 2) := dk_188_10 (dk_at dksX3_init_4 16 rfl rfl)
theorem dX3_init_110 : decode cX3_init 110 = .ok (.putfield 46, 3) := dk_181 0 46 (dk_at dksX3_init_4 18 rfl rfl)
theorem dX3_init_113 : decode cX3_init 113 = .ok (.aload_n 0, 1) := dk_42 (dk_at dksX3_init_4 21 rfl rfl)
theorem dX3_init_114 : decode cX3_init 114 = .ok (.bipush 13, 2) := dk_16 13 (dk_at dksX3_init_4 22 rfl rfl)
theorem dX3_init_116 : decode cX3_init 116 = .ok (.newarray .int, 2) := dk_188_10 (dk_at dksX3_init_5 0 rfl rfl)
theorem dX3_init_118 : decode cX3_init 118 = .ok (.putfield 49, 3) := dk_181 0 49 (dk_at dksX3_init_5 2 rfl rfl)
theorem dX3_init_121 : decode cX3_init 121 = .ok (.aload_n 0, 1) := dk_42 (dk_at dksX3_init_5 5 rfl rfl)
theorem dX3_init_122 : decode cX3_init 122 = .ok (.bipush 60, 2) := dk_16 60 (dk_at dksX3_init_5 6 rfl rfl)
theorem dX3_init_124 : decode cX3_init 124 = .ok (.newarray .int, 2) := dk_188_10 (dk_at dksX3_init_5 8 rfl rfl)
theorem dX3_init_126 : decode cX3_init 126 = .ok (.putfield 52, 3) := dk_181 0 52 (dk_at dksX3_init_5 10 rfl rfl)
theorem dX3_init_129 : decode cX3_init 129 = .ok (.aload_n 0, 1) := dk_42 (dk_at dksX3_init_5 13 rfl rfl)
theorem dX3_init_130 : decode cX3_init 130 = .ok (.bipush 8, 2) := dk_16 8 (dk_at dksX3_init_5 14 rfl rfl)
theorem dX3_init_132 : decode cX3_init 132 = .ok (.newarray .int, 2) := dk_188_10 (dk_at dksX3_init_5 16 rfl rfl)
theorem dX3_init_134 : decode cX3_init 134 = .ok (.putfield 55, 3) := dk_181 0 55 (dk_at dksX3_init_5 18 rfl rfl)
theorem dX3_init_137 : decode cX3_init 137 = .ok (.aload_n 0, 1) := dk_42 (dk_at dksX3_init_5 21 rfl rfl)
theorem dX3_init_138 : decode cX3_init 138 = .ok (.bipush 60, 2) := dk_16 60 (dk_at dksX3_init_5 22 rfl rfl)
theorem dX3_init_140 : decode cX3_init 140 = .ok (.newarray .int, 2) := dk_188_10 (dk_at dksX3_init_6 0 rfl rfl)
theorem dX3_init_142 : decode cX3_init 142 = .ok (.putfield 58, 3) := dk_181 0 58 (dk_at dksX3_init_6 2 rfl rfl)
theorem dX3_init_145 : decode cX3_init 145 = .ok (.aload_n 0, 1) := dk_42 (dk_at dksX3_init_6 5 rfl rfl)
theorem dX3_init_146 : decode cX3_init 146 = .ok (.sipush 2800, 3) := dk_17 10 240 (dk_at dksX3_init_6 6 rfl rfl)
theorem dX3_init_149 : decode cX3_init 149 = .ok (.newarray .int, 2) := dk_188_10 (dk_at dksX3_init_6 9 rfl rfl)
theorem dX3_init_151 : decode cX3_init 151 = .ok (.putfield 61, 3) := dk_181 0 61 (dk_at dksX3_init_6 11 rfl rfl)
theorem dX3_init_154 : decode cX3_init 154 = .ok (.aload_n 0, 1) := dk_42 (dk_at dksX3_init_6 14 rfl rfl)
theorem dX3_init_155 : decode cX3_init 155 = .ok (.bipush 7, 2) := dk_16 7 (dk_at dksX3_init_6 15 rfl rfl)
theorem dX3_init_157 : decode cX3_init 157 = .ok (.newarray .int, 2) := dk_188_10 (dk_at dksX3_init_6 17 rfl rfl)
theorem dX3_init_159 : decode cX3_init 159 = .ok (.putfield 64, 3) := dk_181 0 64 (dk_at dksX3_init_6 19 rfl rfl)
theorem dX3_init_162 : decode cX3_init 162 = .ok (.aload_n 0, 1) := dk_42 (dk_at dksX3_init_6 22 rfl rfl)
theorem dX3_init_163 : decode cX3_init 163 = .ok (.sipush 448, 3) := dk_17 1 192 (dk_at dksX3_init_7 0 rfl rfl)
theorem dX3_init_166 : decode cX3_init 166 = .ok (.newarray .int, 2) := dk_188_10 (dk_at dksX3_init_7 3 rfl rfl)
theorem dX3_init_168 : decode cX3_init 168 = .ok (.putfield 67, 3) := dk_181 0 67 (dk_at dksX3_init_7 5 rfl rfl)
theorem dX3_init_171 : decode cX3_init 171 = .ok (.aload_n 0, 1) := dk_42 (dk_at dksX3_init_7 8 rfl rfl)
theorem dX3_init_172 : decode cX3_init 172 = .ok (.sipush 448, 3) := dk_17 1 192 (dk_at dksX3_init_7 9 rfl rfl)
theorem dX3_init_175 : decode cX3_init 175 = .ok (.newarray .int, 2) := dk_188_10 (dk_at dksX3_init_7 12 rfl rfl)
theorem dX3_init_177 : decode cX3_init 177 = .ok (.putfield 70, 3) := dk_181 0 70 (dk_at dksX3_init_7 14 rfl rfl)
theorem dX3_init_180 : decode cX3_init 180 = .ok (.aload_n 0, 1) := dk_42 (dk_at dksX3_init_7 17 rfl rfl)
theorem dX3_init_181 : decode cX3_init 181 = .ok (.sipush 400, 3) := dk_17 1 144 (dk_at dksX3_init_7 18 rfl rfl)
theorem dX3_init_184 : decode cX3_init 184 = .ok (.newarray .long, 2) := dk_188_11 (dk_at dksX3_init_7 21 rfl rfl)
theorem dX3_init_186 : decode cX3_init 186 = .ok (.putfield 73, 3) := dk_181 0 73 (dk_at dksX3_init_8 0 rfl rfl)
theorem dX3_init_189 : decode cX3_init 189 = .ok (.aload_n 0, 1) := dk_42 (dk_at dksX3_init_8 3 rfl rfl)
theorem dX3_init_190 : decode cX3_init 190 = .ok (.bipush 8, 2) := dk_16 8 (dk_at dksX3_init_8 4 rfl rfl)
theorem dX3_init_192 : decode cX3_init 192 = .ok (.newarray .int, 2) := dk_188_10 (dk_at dksX3_init_8 6 rfl rfl)
theorem dX3_init_194 : decode cX3_init 194 = .ok (.putfield 77, 3) := dk_181 0 77 (dk_at dksX3_init_8 8 rfl rfl)
theorem dX3_init_197 : decode cX3_init 197 = .ok (.aload_n 0, 1) := dk_42 (dk_at dksX3_init_8 11 rfl rfl)
theorem dX3_init_198 : decode cX3_init 198 = .ok (.sipush 3600, 3) := dk_17 14 16 (dk_at dksX3_init_8 12 rfl rfl)
theorem dX3_init_201 : decode cX3_init 201 = .ok (.newarray .int, 2) := dk_188_10 (dk_at dksX3_init_8 15 rfl rfl)
theorem dX3_init_203 : decode cX3_init 203 = .ok (.putfield 80, 3) := dk_181 0 80 (dk_at dksX3_init_8 17 rfl rfl)
theorem dX3_init_206 : decode cX3_init 206 = .ok (.aload_n 0, 1) := dk_42 (dk_at dksX3_init_8 20 rfl rfl)
theorem dX3_init_207 : decode cX3_init 207 = .ok (.sipush 1024, 3) := dk_17 4 0 (dk_at dksX3_init_8 21 rfl rfl)
theorem dX3_init_210 : decode cX3_init 210 = .ok (.newarray .int, 2) := dk_188_10 (dk_at dksX3_init_9 0 rfl rfl)
theorem dX3_init_212 : decode cX3_init 212 = .ok (.putfield 83, 3) := dk_181 0 83 (dk_at dksX3_init_9 2 rfl rfl)
theorem dX3_init_215 : decode cX3_init 215 = .ok (.aload_n 0, 1) := dk_42 (dk_at dksX3_init_9 5 rfl rfl)
theorem dX3_init_216 : decode cX3_init 216 = .ok (.sipush 1024, 3) := dk_17 4 0 (dk_at dksX3_init_9 6 rfl rfl)
theorem dX3_init_219 : decode cX3_init 219 = .ok (.newarray .boolean, 2) := dk_188_4 (dk_at dksX3_init_9 9 rfl rfl)
theorem dX3_init_221 : decode cX3_init 221 = .ok (.putfield 86, 3) := dk_181 0 86 (dk_at dksX3_init_9 11 rfl rfl)
theorem dX3_init_224 : decode cX3_init 224 = .ok (.aload_n 0, 1) := dk_42 (dk_at dksX3_init_9 14 rfl rfl)
theorem dX3_init_225 : decode cX3_init 225 = .ok (.bipush 24, 2) := dk_16 24 (dk_at dksX3_init_9 15 rfl rfl)
theorem dX3_init_227 : decode cX3_init 227 = .ok (.newarray .int, 2) := dk_188_10 (dk_at dksX3_init_9 17 rfl rfl)
theorem dX3_init_229 : decode cX3_init 229 = .ok (.putfield 90, 3) := dk_181 0 90 (dk_at dksX3_init_9 19 rfl rfl)
theorem dX3_init_232 : decode cX3_init 232 = .ok (.aload_n 0, 1) := dk_42 (dk_at dksX3_init_9 22 rfl rfl)
theorem dX3_init_233 : decode cX3_init 233 = .ok (.bipush 30, 2) := dk_16 30 (dk_at dksX3_init_10 0 rfl rfl)
theorem dX3_init_235 : decode cX3_init 235 = .ok (.newarray .int, 2) := dk_188_10 (dk_at dksX3_init_10 2 rfl rfl)
theorem dX3_init_237 : decode cX3_init 237 = .ok (.putfield 93, 3) := dk_181 0 93 (dk_at dksX3_init_10 4 rfl rfl)
theorem dX3_init_240 : decode cX3_init 240 = .ok (.aload_n 0, 1) := dk_42 (dk_at dksX3_init_10 7 rfl rfl)
theorem dX3_init_241 : decode cX3_init 241 = .ok (.bipush 30, 2) := dk_16 30 (dk_at dksX3_init_10 8 rfl rfl)
theorem dX3_init_243 : decode cX3_init 243 = .ok (.newarray .int, 2) := dk_188_10 (dk_at dksX3_init_10 10 rfl rfl)
theorem dX3_init_245 : decode cX3_init 245 = .ok (.putfield 96, 3) := dk_181 0 96 (dk_at dksX3_init_10 12 rfl rfl)
theorem dX3_init_248 : decode cX3_init 248 = .ok (.aload_n 0, 1) := dk_42 (dk_at dksX3_init_10 15 rfl rfl)
theorem dX3_init_249 : decode cX3_init 249 = .ok (.bipush 30, 2) := dk_16 30 (dk_at dksX3_init_10 16 rfl rfl)
theorem dX3_init_251 : decode cX3_init 251 = .ok (.newarray .int, 2) := dk_188_10 (dk_at dksX3_init_10 18 rfl rfl)
theorem dX3_init_253 : decode cX3_init 253 = .ok (.putfield 99, 3) := dk_181 0 99 (dk_at dksX3_init_10 20 rfl rfl)
theorem dX3_init_256 : decode cX3_init 256 = .ok (.aload_n 0, 1) := dk_42 (dk_at dksX3_init_10 23 rfl rfl)
theorem dX3_init_257 : decode cX3_init 257 = .ok (.bipush 120, 2) := dk_16 120 (dk_at dksX3_init_11 0 rfl rfl)
theorem dX3_init_259 : decode cX3_init 259 = .ok (.newarray .int, 2) := dk_188_10 (dk_at dksX3_init_11 2 rfl rfl)
theorem dX3_init_261 : decode cX3_init 261 = .ok (.putfield 102, 3) := dk_181 0 102 (dk_at dksX3_init_11 4 rfl rfl)
theorem dX3_init_264 : decode cX3_init 264 = .ok (.aload_n 0, 1) := dk_42 (dk_at dksX3_init_11 7 rfl rfl)
theorem dX3_init_265 : decode cX3_init 265 = .ok (.bipush 6, 2) := dk_16 6 (dk_at dksX3_init_11 8 rfl rfl)
theorem dX3_init_267 : decode cX3_init 267 = .ok (.newarray .int, 2) := dk_188_10 (dk_at dksX3_init_11 10 rfl rfl)
theorem dX3_init_269 : decode cX3_init 269 = .ok (.putfield 105, 3) := dk_181 0 105 (dk_at dksX3_init_11 12 rfl rfl)
theorem dX3_init_272 : decode cX3_init 272 = .ok (.aload_n 0, 1) := dk_42 (dk_at dksX3_init_11 15 rfl rfl)
theorem dX3_init_273 : decode cX3_init 273 = .ok (.iconst 1, 1) := dk_4 (dk_at dksX3_init_11 16 rfl rfl)
theorem dX3_init_274 : decode cX3_init 274 = .ok (.putfield 108, 3) := dk_181 0 108 (dk_at dksX3_init_11 17 rfl rfl)
theorem dX3_init_277 : decode cX3_init 277 = .ok (.aload_n 0, 1) := dk_42 (dk_at dksX3_init_11 20 rfl rfl)
theorem dX3_init_278 : decode cX3_init 278 = .ok (.bipush 24, 2) := dk_16 24 (dk_at dksX3_init_11 21 rfl rfl)
theorem dX3_init_280 : decode cX3_init 280 = .ok (.newarray .int, 2) := dk_188_10 (dk_at dksX3_init_12 0 rfl rfl)
theorem dX3_init_282 : decode cX3_init 282 = .ok (.putfield 112, 3) := dk_181 0 112 (dk_at dksX3_init_12 2 rfl rfl)
theorem dX3_init_285 : decode cX3_init 285 = .ok (.aload_n 0, 1) := dk_42 (dk_at dksX3_init_12 5 rfl rfl)
theorem dX3_init_286 : decode cX3_init 286 = .ok (.bipush 24, 2) := dk_16 24 (dk_at dksX3_init_12 6 rfl rfl)
theorem dX3_init_288 : decode cX3_init 288 = .ok (.newarray .int, 2) := dk_188_10 (dk_at dksX3_init_12 8 rfl rfl)
theorem dX3_init_290 : decode cX3_init 290 = .ok (.putfield 115, 3) := dk_181 0 115 (dk_at dksX3_init_12 10 rfl rfl)
theorem dX3_init_293 : decode cX3_init 293 = .ok (.return_, 1) := dk_177 (dk_at dksX3_init_12 13 rfl rfl)
abbrev cX3_thrown : ByteArray := prog_26_method_3_code
def yX3_thrown : MethodName := ⟨RX3, "thrown", "()I"⟩
theorem dX3_thrown_0 : decode cX3_thrown 0 = .ok (.aload_n 0, 1) := by decide +kernel
theorem dX3_thrown_1 : decode cX3_thrown 1 = .ok (.getfield 118, 3) := by decide +kernel
theorem dX3_thrown_4 : decode cX3_thrown 4 = .ok (.ireturn, 1) := by decide +kernel
abbrev cX3_sort : ByteArray := prog_26_method_4_code
def yX3_sort : MethodName := ⟨RX3, "sort", "(III)I"⟩
def dkwX3_sort_3 : List UInt8 := [79, 42, 89, 180, 0, 125, 4, 96, 181, 0, 125, 42, 180, 0, 125, 4, 100, 172]
abbrev dktX3_sort_3 : List UInt8 := dkwX3_sort_3 ++ []
def dkwX3_sort_2 : List UInt8 := [180, 0, 125, 27, 79, 42, 180, 0, 13, 42, 180, 0, 125, 28, 79, 42, 180, 0, 16, 42, 180, 0, 125, 29]
abbrev dktX3_sort_2 : List UInt8 := dkwX3_sort_2 ++ dktX3_sort_3
def dkwX3_sort_1 : List UInt8 := [16, 99, 184, 0, 121, 153, 0, 12, 42, 180, 0, 125, 16, 6, 160, 0, 5, 2, 172, 42, 180, 0, 9, 42]
abbrev dktX3_sort_1 : List UInt8 := dkwX3_sort_1 ++ dktX3_sort_2
def dkwX3_sort_0 : List UInt8 := [27, 8, 17, 0, 200, 184, 0, 121, 153, 0, 32, 28, 3, 16, 9, 184, 0, 121, 153, 0, 22, 29, 3]
abbrev dktX3_sort_0 : List UInt8 := dkwX3_sort_0 ++ dktX3_sort_1
theorem dksX3_sort_0 : cX3_sort.data.toList.drop 0 = dktX3_sort_0 := by decide +kernel
theorem dksX3_sort_1 : cX3_sort.data.toList.drop 23 = dktX3_sort_1 := dk_seg dksX3_sort_0 23 rfl rfl
theorem dksX3_sort_2 : cX3_sort.data.toList.drop 47 = dktX3_sort_2 := dk_seg dksX3_sort_1 24 rfl rfl
theorem dksX3_sort_3 : cX3_sort.data.toList.drop 71 = dktX3_sort_3 := dk_seg dksX3_sort_2 24 rfl rfl
theorem dX3_sort_0 : decode cX3_sort 0 = .ok (.iload_n 1, 1) := dk_27 (dk_at dksX3_sort_0 0 rfl rfl)
theorem dX3_sort_1 : decode cX3_sort 1 = .ok (.iconst 5, 1) := dk_8 (dk_at dksX3_sort_0 1 rfl rfl)
theorem dX3_sort_2 : decode cX3_sort 2 = .ok (.sipush 200, 3) := dk_17 0 200 (dk_at dksX3_sort_0 2 rfl rfl)
theorem dX3_sort_5 : decode cX3_sort 5 = .ok (.invokestatic 121, 3) := dk_184 0 121 (dk_at dksX3_sort_0 5 rfl rfl)
theorem dX3_sort_8 : decode cX3_sort 8 = .ok (.ifCond .eq 32, 3) := dk_153 0 32 (dk_at dksX3_sort_0 8 rfl rfl)
theorem dX3_sort_11 : decode cX3_sort 11 = .ok (.iload_n 2, 1) := dk_28 (dk_at dksX3_sort_0 11 rfl rfl)
theorem dX3_sort_12 : decode cX3_sort 12 = .ok (.iconst 0, 1) := dk_3 (dk_at dksX3_sort_0 12 rfl rfl)
theorem dX3_sort_13 : decode cX3_sort 13 = .ok (.bipush 9, 2) := dk_16 9 (dk_at dksX3_sort_0 13 rfl rfl)
theorem dX3_sort_15 : decode cX3_sort 15 = .ok (.invokestatic 121, 3) := dk_184 0 121 (dk_at dksX3_sort_0 15 rfl rfl)
theorem dX3_sort_18 : decode cX3_sort 18 = .ok (.ifCond .eq 22, 3) := dk_153 0 22 (dk_at dksX3_sort_0 18 rfl rfl)
theorem dX3_sort_21 : decode cX3_sort 21 = .ok (.iload_n 3, 1) := dk_29 (dk_at dksX3_sort_0 21 rfl rfl)
theorem dX3_sort_22 : decode cX3_sort 22 = .ok (.iconst 0, 1) := dk_3 (dk_at dksX3_sort_0 22 rfl rfl)
theorem dX3_sort_23 : decode cX3_sort 23 = .ok (.bipush 99, 2) := dk_16 99 (dk_at dksX3_sort_1 0 rfl rfl)
theorem dX3_sort_25 : decode cX3_sort 25 = .ok (.invokestatic 121, 3) := dk_184 0 121 (dk_at dksX3_sort_1 2 rfl rfl)
theorem dX3_sort_28 : decode cX3_sort 28 = .ok (.ifCond .eq 12, 3) := dk_153 0 12 (dk_at dksX3_sort_1 5 rfl rfl)
theorem dX3_sort_31 : decode cX3_sort 31 = .ok (.aload_n 0, 1) := dk_42 (dk_at dksX3_sort_1 8 rfl rfl)
theorem dX3_sort_32 : decode cX3_sort 32 = .ok (.getfield 125, 3) := dk_180 0 125 (dk_at dksX3_sort_1 9 rfl rfl)
theorem dX3_sort_35 : decode cX3_sort 35 = .ok (.bipush 6, 2) := dk_16 6 (dk_at dksX3_sort_1 12 rfl rfl)
theorem dX3_sort_37 : decode cX3_sort 37 = .ok (.if_icmp .ne 5, 3) := dk_160 0 5 (dk_at dksX3_sort_1 14 rfl rfl)
theorem dX3_sort_40 : decode cX3_sort 40 = .ok (.iconst (-1), 1) := dk_2 (dk_at dksX3_sort_1 17 rfl rfl)
theorem dX3_sort_41 : decode cX3_sort 41 = .ok (.ireturn, 1) := dk_172 (dk_at dksX3_sort_1 18 rfl rfl)
theorem dX3_sort_42 : decode cX3_sort 42 = .ok (.aload_n 0, 1) := dk_42 (dk_at dksX3_sort_1 19 rfl rfl)
theorem dX3_sort_43 : decode cX3_sort 43 = .ok (.getfield 9, 3) := dk_180 0 9 (dk_at dksX3_sort_1 20 rfl rfl)
theorem dX3_sort_46 : decode cX3_sort 46 = .ok (.aload_n 0, 1) := dk_42 (dk_at dksX3_sort_1 23 rfl rfl)
theorem dX3_sort_47 : decode cX3_sort 47 = .ok (.getfield 125, 3) := dk_180 0 125 (dk_at dksX3_sort_2 0 rfl rfl)
theorem dX3_sort_50 : decode cX3_sort 50 = .ok (.iload_n 1, 1) := dk_27 (dk_at dksX3_sort_2 3 rfl rfl)
theorem dX3_sort_51 : decode cX3_sort 51 = .ok (.iastore, 1) := dk_79 (dk_at dksX3_sort_2 4 rfl rfl)
theorem dX3_sort_52 : decode cX3_sort 52 = .ok (.aload_n 0, 1) := dk_42 (dk_at dksX3_sort_2 5 rfl rfl)
theorem dX3_sort_53 : decode cX3_sort 53 = .ok (.getfield 13, 3) := dk_180 0 13 (dk_at dksX3_sort_2 6 rfl rfl)
theorem dX3_sort_56 : decode cX3_sort 56 = .ok (.aload_n 0, 1) := dk_42 (dk_at dksX3_sort_2 9 rfl rfl)
theorem dX3_sort_57 : decode cX3_sort 57 = .ok (.getfield 125, 3) := dk_180 0 125 (dk_at dksX3_sort_2 10 rfl rfl)
theorem dX3_sort_60 : decode cX3_sort 60 = .ok (.iload_n 2, 1) := dk_28 (dk_at dksX3_sort_2 13 rfl rfl)
theorem dX3_sort_61 : decode cX3_sort 61 = .ok (.iastore, 1) := dk_79 (dk_at dksX3_sort_2 14 rfl rfl)
theorem dX3_sort_62 : decode cX3_sort 62 = .ok (.aload_n 0, 1) := dk_42 (dk_at dksX3_sort_2 15 rfl rfl)
theorem dX3_sort_63 : decode cX3_sort 63 = .ok (.getfield 16, 3) := dk_180 0 16 (dk_at dksX3_sort_2 16 rfl rfl)
theorem dX3_sort_66 : decode cX3_sort 66 = .ok (.aload_n 0, 1) := dk_42 (dk_at dksX3_sort_2 19 rfl rfl)
theorem dX3_sort_67 : decode cX3_sort 67 = .ok (.getfield 125, 3) := dk_180 0 125 (dk_at dksX3_sort_2 20 rfl rfl)
theorem dX3_sort_70 : decode cX3_sort 70 = .ok (.iload_n 3, 1) := dk_29 (dk_at dksX3_sort_2 23 rfl rfl)
theorem dX3_sort_71 : decode cX3_sort 71 = .ok (.iastore, 1) := dk_79 (dk_at dksX3_sort_3 0 rfl rfl)
theorem dX3_sort_72 : decode cX3_sort 72 = .ok (.aload_n 0, 1) := dk_42 (dk_at dksX3_sort_3 1 rfl rfl)
theorem dX3_sort_73 : decode cX3_sort 73 = .ok (.dup, 1) := dk_89 (dk_at dksX3_sort_3 2 rfl rfl)
theorem dX3_sort_74 : decode cX3_sort 74 = .ok (.getfield 125, 3) := dk_180 0 125 (dk_at dksX3_sort_3 3 rfl rfl)
theorem dX3_sort_77 : decode cX3_sort 77 = .ok (.iconst 1, 1) := dk_4 (dk_at dksX3_sort_3 6 rfl rfl)
theorem dX3_sort_78 : decode cX3_sort 78 = .ok (.iadd, 1) := dk_96 (dk_at dksX3_sort_3 7 rfl rfl)
theorem dX3_sort_79 : decode cX3_sort 79 = .ok (.putfield 125, 3) := dk_181 0 125 (dk_at dksX3_sort_3 8 rfl rfl)
theorem dX3_sort_82 : decode cX3_sort 82 = .ok (.aload_n 0, 1) := dk_42 (dk_at dksX3_sort_3 11 rfl rfl)
theorem dX3_sort_83 : decode cX3_sort 83 = .ok (.getfield 125, 3) := dk_180 0 125 (dk_at dksX3_sort_3 12 rfl rfl)
theorem dX3_sort_86 : decode cX3_sort 86 = .ok (.iconst 1, 1) := dk_4 (dk_at dksX3_sort_3 15 rfl rfl)
theorem dX3_sort_87 : decode cX3_sort 87 = .ok (.isub, 1) := dk_100 (dk_at dksX3_sort_3 16 rfl rfl)
theorem dX3_sort_88 : decode cX3_sort 88 = .ok (.ireturn, 1) := dk_172 (dk_at dksX3_sort_3 17 rfl rfl)
abbrev cX3_in : ByteArray := prog_26_method_1_code
def yX3_in : MethodName := ⟨RX3, "in", "(III)Z"⟩
def dkwX3_in_0 : List UInt8 := [26, 27, 161, 0, 12, 26, 28, 163, 0, 7, 4, 167, 0, 4, 3, 172]
abbrev dktX3_in_0 : List UInt8 := dkwX3_in_0 ++ []
theorem dksX3_in_0 : cX3_in.data.toList.drop 0 = dktX3_in_0 := by decide +kernel
theorem dX3_in_0 : decode cX3_in 0 = .ok (.iload_n 0, 1) := dk_26 (dk_at dksX3_in_0 0 rfl rfl)
theorem dX3_in_1 : decode cX3_in 1 = .ok (.iload_n 1, 1) := dk_27 (dk_at dksX3_in_0 1 rfl rfl)
theorem dX3_in_2 : decode cX3_in 2 = .ok (.if_icmp .lt 12, 3) := dk_161 0 12 (dk_at dksX3_in_0 2 rfl rfl)
theorem dX3_in_5 : decode cX3_in 5 = .ok (.iload_n 0, 1) := dk_26 (dk_at dksX3_in_0 5 rfl rfl)
theorem dX3_in_6 : decode cX3_in 6 = .ok (.iload_n 2, 1) := dk_28 (dk_at dksX3_in_0 6 rfl rfl)
theorem dX3_in_7 : decode cX3_in 7 = .ok (.if_icmp .gt 7, 3) := dk_163 0 7 (dk_at dksX3_in_0 7 rfl rfl)
theorem dX3_in_10 : decode cX3_in 10 = .ok (.iconst 1, 1) := dk_4 (dk_at dksX3_in_0 10 rfl rfl)
theorem dX3_in_11 : decode cX3_in 11 = .ok (.goto 4, 3) := dk_167 0 4 (dk_at dksX3_in_0 11 rfl rfl)
theorem dX3_in_14 : decode cX3_in 14 = .ok (.iconst 0, 1) := dk_3 (dk_at dksX3_in_0 14 rfl rfl)
theorem dX3_in_15 : decode cX3_in 15 = .ok (.ireturn, 1) := dk_172 (dk_at dksX3_in_0 15 rfl rfl)
abbrev cX3_feed : ByteArray := prog_26_method_6_code
def yX3_feed : MethodName := ⟨RX3, "feed", "(IIIII)I"⟩
def dkwX3_feed_4 : List UInt8 := [21, 8, 79, 42, 89, 180, 0, 132, 4, 96, 181, 0, 132, 132, 7, 1, 167, 255, 206, 42, 180, 0, 132, 172]
abbrev dktX3_feed_4 : List UInt8 := dkwX3_feed_4 ++ []
def dkwX3_feed_3 : List UInt8 := [21, 4, 21, 5, 21, 7, 184, 0, 128, 54, 8, 21, 8, 153, 0, 24, 42, 180, 0, 22, 42, 180, 0, 132]
abbrev dktX3_feed_3 : List UInt8 := dkwX3_feed_3 ++ dktX3_feed_4
def dkwX3_feed_2 : List UInt8 := [21, 6, 96, 17, 0, 200, 164, 0, 5, 2, 172, 3, 54, 7, 21, 7, 16, 20, 162, 0, 49, 27, 28, 29]
abbrev dktX3_feed_2 : List UInt8 := dkwX3_feed_2 ++ dktX3_feed_3
def dkwX3_feed_1 : List UInt8 := [184, 0, 128, 153, 0, 7, 4, 167, 0, 4, 3, 96, 54, 6, 132, 7, 1, 167, 255, 221, 42, 180, 0, 132]
abbrev dktX3_feed_1 : List UInt8 := dkwX3_feed_1 ++ dktX3_feed_2
def dkwX3_feed_0 : List UInt8 := [3, 54, 6, 3, 54, 7, 21, 7, 16, 20, 162, 0, 34, 21, 6, 27, 28, 29, 21, 4, 21, 5, 21, 7]
abbrev dktX3_feed_0 : List UInt8 := dkwX3_feed_0 ++ dktX3_feed_1
theorem dksX3_feed_0 : cX3_feed.data.toList.drop 0 = dktX3_feed_0 := by decide +kernel
theorem dksX3_feed_1 : cX3_feed.data.toList.drop 24 = dktX3_feed_1 := dk_seg dksX3_feed_0 24 rfl rfl
theorem dksX3_feed_2 : cX3_feed.data.toList.drop 48 = dktX3_feed_2 := dk_seg dksX3_feed_1 24 rfl rfl
theorem dksX3_feed_3 : cX3_feed.data.toList.drop 72 = dktX3_feed_3 := dk_seg dksX3_feed_2 24 rfl rfl
theorem dksX3_feed_4 : cX3_feed.data.toList.drop 96 = dktX3_feed_4 := dk_seg dksX3_feed_3 24 rfl rfl
theorem dX3_feed_0 : decode cX3_feed 0 = .ok (.iconst 0, 1) := dk_3 (dk_at dksX3_feed_0 0 rfl rfl)
theorem dX3_feed_1 : decode cX3_feed 1 = .ok (.istore 6, 2) := dk_54 6 (dk_at dksX3_feed_0 1 rfl rfl)
theorem dX3_feed_3 : decode cX3_feed 3 = .ok (.iconst 0, 1) := dk_3 (dk_at dksX3_feed_0 3 rfl rfl)
theorem dX3_feed_4 : decode cX3_feed 4 = .ok (.istore 7, 2) := dk_54 7 (dk_at dksX3_feed_0 4 rfl rfl)
theorem dX3_feed_6 : decode cX3_feed 6 = .ok (.iload 7, 2) := dk_21 7 (dk_at dksX3_feed_0 6 rfl rfl)
theorem dX3_feed_8 : decode cX3_feed 8 = .ok (.bipush 20, 2) := dk_16 20 (dk_at dksX3_feed_0 8 rfl rfl)
theorem dX3_feed_10 : decode cX3_feed 10 = .ok (.if_icmp .ge 34, 3) := dk_162 0 34 (dk_at dksX3_feed_0 10 rfl rfl)
theorem dX3_feed_13 : decode cX3_feed 13 = .ok (.iload 6, 2) := dk_21 6 (dk_at dksX3_feed_0 13 rfl rfl)
theorem dX3_feed_15 : decode cX3_feed 15 = .ok (.iload_n 1, 1) := dk_27 (dk_at dksX3_feed_0 15 rfl rfl)
theorem dX3_feed_16 : decode cX3_feed 16 = .ok (.iload_n 2, 1) := dk_28 (dk_at dksX3_feed_0 16 rfl rfl)
theorem dX3_feed_17 : decode cX3_feed 17 = .ok (.iload_n 3, 1) := dk_29 (dk_at dksX3_feed_0 17 rfl rfl)
theorem dX3_feed_18 : decode cX3_feed 18 = .ok (.iload 4, 2) := dk_21 4 (dk_at dksX3_feed_0 18 rfl rfl)
theorem dX3_feed_20 : decode cX3_feed 20 = .ok (.iload 5, 2) := dk_21 5 (dk_at dksX3_feed_0 20 rfl rfl)
theorem dX3_feed_22 : decode cX3_feed 22 = .ok (.iload 7, 2) := dk_21 7 (dk_at dksX3_feed_0 22 rfl rfl)
theorem dX3_feed_24 : decode cX3_feed 24 = .ok (.invokestatic 128, 3) := dk_184 0 128 (dk_at dksX3_feed_1 0 rfl rfl)
theorem dX3_feed_27 : decode cX3_feed 27 = .ok (.ifCond .eq 7, 3) := dk_153 0 7 (dk_at dksX3_feed_1 3 rfl rfl)
theorem dX3_feed_30 : decode cX3_feed 30 = .ok (.iconst 1, 1) := dk_4 (dk_at dksX3_feed_1 6 rfl rfl)
theorem dX3_feed_31 : decode cX3_feed 31 = .ok (.goto 4, 3) := dk_167 0 4 (dk_at dksX3_feed_1 7 rfl rfl)
theorem dX3_feed_34 : decode cX3_feed 34 = .ok (.iconst 0, 1) := dk_3 (dk_at dksX3_feed_1 10 rfl rfl)
theorem dX3_feed_35 : decode cX3_feed 35 = .ok (.iadd, 1) := dk_96 (dk_at dksX3_feed_1 11 rfl rfl)
theorem dX3_feed_36 : decode cX3_feed 36 = .ok (.istore 6, 2) := dk_54 6 (dk_at dksX3_feed_1 12 rfl rfl)
theorem dX3_feed_38 : decode cX3_feed 38 = .ok (.iinc 7 1, 3) := dk_132 7 1 (dk_at dksX3_feed_1 14 rfl rfl)
theorem dX3_feed_41 : decode cX3_feed 41 = .ok (.goto (-35), 3) := dk_167 255 221 (dk_at dksX3_feed_1 17 rfl rfl)
theorem dX3_feed_44 : decode cX3_feed 44 = .ok (.aload_n 0, 1) := dk_42 (dk_at dksX3_feed_1 20 rfl rfl)
theorem dX3_feed_45 : decode cX3_feed 45 = .ok (.getfield 132, 3) := dk_180 0 132 (dk_at dksX3_feed_1 21 rfl rfl)
theorem dX3_feed_48 : decode cX3_feed 48 = .ok (.iload 6, 2) := dk_21 6 (dk_at dksX3_feed_2 0 rfl rfl)
theorem dX3_feed_50 : decode cX3_feed 50 = .ok (.iadd, 1) := dk_96 (dk_at dksX3_feed_2 2 rfl rfl)
theorem dX3_feed_51 : decode cX3_feed 51 = .ok (.sipush 200, 3) := dk_17 0 200 (dk_at dksX3_feed_2 3 rfl rfl)
theorem dX3_feed_54 : decode cX3_feed 54 = .ok (.if_icmp .le 5, 3) := dk_164 0 5 (dk_at dksX3_feed_2 6 rfl rfl)
theorem dX3_feed_57 : decode cX3_feed 57 = .ok (.iconst (-1), 1) := dk_2 (dk_at dksX3_feed_2 9 rfl rfl)
theorem dX3_feed_58 : decode cX3_feed 58 = .ok (.ireturn, 1) := dk_172 (dk_at dksX3_feed_2 10 rfl rfl)
theorem dX3_feed_59 : decode cX3_feed 59 = .ok (.iconst 0, 1) := dk_3 (dk_at dksX3_feed_2 11 rfl rfl)
theorem dX3_feed_60 : decode cX3_feed 60 = .ok (.istore 7, 2) := dk_54 7 (dk_at dksX3_feed_2 12 rfl rfl)
theorem dX3_feed_62 : decode cX3_feed 62 = .ok (.iload 7, 2) := dk_21 7 (dk_at dksX3_feed_2 14 rfl rfl)
theorem dX3_feed_64 : decode cX3_feed 64 = .ok (.bipush 20, 2) := dk_16 20 (dk_at dksX3_feed_2 16 rfl rfl)
theorem dX3_feed_66 : decode cX3_feed 66 = .ok (.if_icmp .ge 49, 3) := dk_162 0 49 (dk_at dksX3_feed_2 18 rfl rfl)
theorem dX3_feed_69 : decode cX3_feed 69 = .ok (.iload_n 1, 1) := dk_27 (dk_at dksX3_feed_2 21 rfl rfl)
theorem dX3_feed_70 : decode cX3_feed 70 = .ok (.iload_n 2, 1) := dk_28 (dk_at dksX3_feed_2 22 rfl rfl)
theorem dX3_feed_71 : decode cX3_feed 71 = .ok (.iload_n 3, 1) := dk_29 (dk_at dksX3_feed_2 23 rfl rfl)
theorem dX3_feed_72 : decode cX3_feed 72 = .ok (.iload 4, 2) := dk_21 4 (dk_at dksX3_feed_3 0 rfl rfl)
theorem dX3_feed_74 : decode cX3_feed 74 = .ok (.iload 5, 2) := dk_21 5 (dk_at dksX3_feed_3 2 rfl rfl)
theorem dX3_feed_76 : decode cX3_feed 76 = .ok (.iload 7, 2) := dk_21 7 (dk_at dksX3_feed_3 4 rfl rfl)
theorem dX3_feed_78 : decode cX3_feed 78 = .ok (.invokestatic 128, 3) := dk_184 0 128 (dk_at dksX3_feed_3 6 rfl rfl)
theorem dX3_feed_81 : decode cX3_feed 81 = .ok (.istore 8, 2) := dk_54 8 (dk_at dksX3_feed_3 9 rfl rfl)
theorem dX3_feed_83 : decode cX3_feed 83 = .ok (.iload 8, 2) := dk_21 8 (dk_at dksX3_feed_3 11 rfl rfl)
theorem dX3_feed_85 : decode cX3_feed 85 = .ok (.ifCond .eq 24, 3) := dk_153 0 24 (dk_at dksX3_feed_3 13 rfl rfl)
theorem dX3_feed_88 : decode cX3_feed 88 = .ok (.aload_n 0, 1) := dk_42 (dk_at dksX3_feed_3 16 rfl rfl)
theorem dX3_feed_89 : decode cX3_feed 89 = .ok (.getfield 22, 3) := dk_180 0 22 (dk_at dksX3_feed_3 17 rfl rfl)
theorem dX3_feed_92 : decode cX3_feed 92 = .ok (.aload_n 0, 1) := dk_42 (dk_at dksX3_feed_3 20 rfl rfl)
theorem dX3_feed_93 : decode cX3_feed 93 = .ok (.getfield 132, 3) := dk_180 0 132 (dk_at dksX3_feed_3 21 rfl rfl)
theorem dX3_feed_96 : decode cX3_feed 96 = .ok (.iload 8, 2) := dk_21 8 (dk_at dksX3_feed_4 0 rfl rfl)
theorem dX3_feed_98 : decode cX3_feed 98 = .ok (.iastore, 1) := dk_79 (dk_at dksX3_feed_4 2 rfl rfl)
theorem dX3_feed_99 : decode cX3_feed 99 = .ok (.aload_n 0, 1) := dk_42 (dk_at dksX3_feed_4 3 rfl rfl)
theorem dX3_feed_100 : decode cX3_feed 100 = .ok (.dup, 1) := dk_89 (dk_at dksX3_feed_4 4 rfl rfl)
theorem dX3_feed_101 : decode cX3_feed 101 = .ok (.getfield 132, 3) := dk_180 0 132 (dk_at dksX3_feed_4 5 rfl rfl)
theorem dX3_feed_104 : decode cX3_feed 104 = .ok (.iconst 1, 1) := dk_4 (dk_at dksX3_feed_4 8 rfl rfl)
theorem dX3_feed_105 : decode cX3_feed 105 = .ok (.iadd, 1) := dk_96 (dk_at dksX3_feed_4 9 rfl rfl)
theorem dX3_feed_106 : decode cX3_feed 106 = .ok (.putfield 132, 3) := dk_181 0 132 (dk_at dksX3_feed_4 10 rfl rfl)
theorem dX3_feed_109 : decode cX3_feed 109 = .ok (.iinc 7 1, 3) := dk_132 7 1 (dk_at dksX3_feed_4 13 rfl rfl)
theorem dX3_feed_112 : decode cX3_feed 112 = .ok (.goto (-50), 3) := dk_167 255 206 (dk_at dksX3_feed_4 16 rfl rfl)
theorem dX3_feed_115 : decode cX3_feed 115 = .ok (.aload_n 0, 1) := dk_42 (dk_at dksX3_feed_4 19 rfl rfl)
theorem dX3_feed_116 : decode cX3_feed 116 = .ok (.getfield 132, 3) := dk_180 0 132 (dk_at dksX3_feed_4 20 rfl rfl)
theorem dX3_feed_119 : decode cX3_feed 119 = .ok (.ireturn, 1) := dk_172 (dk_at dksX3_feed_4 23 rfl rfl)
abbrev cX3_byteOf : ByteArray := prog_26_method_5_code
def yX3_byteOf : MethodName := ⟨RX3, "byteOf", "(IIIIII)I"⟩
def dkwX3_byteOf_2 : List UInt8 := [21, 6, 16, 24, 16, 8, 21, 5, 7, 112, 104, 100, 122, 17, 0, 255, 126, 172]
abbrev dktX3_byteOf_2 : List UInt8 := dkwX3_byteOf_2 ++ []
def dkwX3_byteOf_1 : List UInt8 := [16, 12, 162, 0, 7, 28, 167, 0, 16, 21, 5, 16, 16, 162, 0, 7, 29, 167, 0, 5, 21, 4, 54, 6]
abbrev dktX3_byteOf_1 : List UInt8 := dkwX3_byteOf_1 ++ dktX3_byteOf_2
def dkwX3_byteOf_0 : List UInt8 := [21, 5, 7, 162, 0, 7, 26, 167, 0, 38, 21, 5, 16, 8, 162, 0, 7, 27, 167, 0, 27, 21, 5]
abbrev dktX3_byteOf_0 : List UInt8 := dkwX3_byteOf_0 ++ dktX3_byteOf_1
theorem dksX3_byteOf_0 : cX3_byteOf.data.toList.drop 0 = dktX3_byteOf_0 := by decide +kernel
theorem dksX3_byteOf_1 : cX3_byteOf.data.toList.drop 23 = dktX3_byteOf_1 := dk_seg dksX3_byteOf_0 23 rfl rfl
theorem dksX3_byteOf_2 : cX3_byteOf.data.toList.drop 47 = dktX3_byteOf_2 := dk_seg dksX3_byteOf_1 24 rfl rfl
theorem dX3_byteOf_0 : decode cX3_byteOf 0 = .ok (.iload 5, 2) := dk_21 5 (dk_at dksX3_byteOf_0 0 rfl rfl)
theorem dX3_byteOf_2 : decode cX3_byteOf 2 = .ok (.iconst 4, 1) := dk_7 (dk_at dksX3_byteOf_0 2 rfl rfl)
theorem dX3_byteOf_3 : decode cX3_byteOf 3 = .ok (.if_icmp .ge 7, 3) := dk_162 0 7 (dk_at dksX3_byteOf_0 3 rfl rfl)
theorem dX3_byteOf_6 : decode cX3_byteOf 6 = .ok (.iload_n 0, 1) := dk_26 (dk_at dksX3_byteOf_0 6 rfl rfl)
theorem dX3_byteOf_7 : decode cX3_byteOf 7 = .ok (.goto 38, 3) := dk_167 0 38 (dk_at dksX3_byteOf_0 7 rfl rfl)
theorem dX3_byteOf_10 : decode cX3_byteOf 10 = .ok (.iload 5, 2) := dk_21 5 (dk_at dksX3_byteOf_0 10 rfl rfl)
theorem dX3_byteOf_12 : decode cX3_byteOf 12 = .ok (.bipush 8, 2) := dk_16 8 (dk_at dksX3_byteOf_0 12 rfl rfl)
theorem dX3_byteOf_14 : decode cX3_byteOf 14 = .ok (.if_icmp .ge 7, 3) := dk_162 0 7 (dk_at dksX3_byteOf_0 14 rfl rfl)
theorem dX3_byteOf_17 : decode cX3_byteOf 17 = .ok (.iload_n 1, 1) := dk_27 (dk_at dksX3_byteOf_0 17 rfl rfl)
theorem dX3_byteOf_18 : decode cX3_byteOf 18 = .ok (.goto 27, 3) := dk_167 0 27 (dk_at dksX3_byteOf_0 18 rfl rfl)
theorem dX3_byteOf_21 : decode cX3_byteOf 21 = .ok (.iload 5, 2) := dk_21 5 (dk_at dksX3_byteOf_0 21 rfl rfl)
theorem dX3_byteOf_23 : decode cX3_byteOf 23 = .ok (.bipush 12, 2) := dk_16 12 (dk_at dksX3_byteOf_1 0 rfl rfl)
theorem dX3_byteOf_25 : decode cX3_byteOf 25 = .ok (.if_icmp .ge 7, 3) := dk_162 0 7 (dk_at dksX3_byteOf_1 2 rfl rfl)
theorem dX3_byteOf_28 : decode cX3_byteOf 28 = .ok (.iload_n 2, 1) := dk_28 (dk_at dksX3_byteOf_1 5 rfl rfl)
theorem dX3_byteOf_29 : decode cX3_byteOf 29 = .ok (.goto 16, 3) := dk_167 0 16 (dk_at dksX3_byteOf_1 6 rfl rfl)
theorem dX3_byteOf_32 : decode cX3_byteOf 32 = .ok (.iload 5, 2) := dk_21 5 (dk_at dksX3_byteOf_1 9 rfl rfl)
theorem dX3_byteOf_34 : decode cX3_byteOf 34 = .ok (.bipush 16, 2) := dk_16 16 (dk_at dksX3_byteOf_1 11 rfl rfl)
theorem dX3_byteOf_36 : decode cX3_byteOf 36 = .ok (.if_icmp .ge 7, 3) := dk_162 0 7 (dk_at dksX3_byteOf_1 13 rfl rfl)
theorem dX3_byteOf_39 : decode cX3_byteOf 39 = .ok (.iload_n 3, 1) := dk_29 (dk_at dksX3_byteOf_1 16 rfl rfl)
theorem dX3_byteOf_40 : decode cX3_byteOf 40 = .ok (.goto 5, 3) := dk_167 0 5 (dk_at dksX3_byteOf_1 17 rfl rfl)
theorem dX3_byteOf_43 : decode cX3_byteOf 43 = .ok (.iload 4, 2) := dk_21 4 (dk_at dksX3_byteOf_1 20 rfl rfl)
theorem dX3_byteOf_45 : decode cX3_byteOf 45 = .ok (.istore 6, 2) := dk_54 6 (dk_at dksX3_byteOf_1 22 rfl rfl)
theorem dX3_byteOf_47 : decode cX3_byteOf 47 = .ok (.iload 6, 2) := dk_21 6 (dk_at dksX3_byteOf_2 0 rfl rfl)
theorem dX3_byteOf_49 : decode cX3_byteOf 49 = .ok (.bipush 24, 2) := dk_16 24 (dk_at dksX3_byteOf_2 2 rfl rfl)
theorem dX3_byteOf_51 : decode cX3_byteOf 51 = .ok (.bipush 8, 2) := dk_16 8 (dk_at dksX3_byteOf_2 4 rfl rfl)
theorem dX3_byteOf_53 : decode cX3_byteOf 53 = .ok (.iload 5, 2) := dk_21 5 (dk_at dksX3_byteOf_2 6 rfl rfl)
theorem dX3_byteOf_55 : decode cX3_byteOf 55 = .ok (.iconst 4, 1) := dk_7 (dk_at dksX3_byteOf_2 8 rfl rfl)
theorem dX3_byteOf_56 : decode cX3_byteOf 56 = .ok (.irem, 1) := dk_112 (dk_at dksX3_byteOf_2 9 rfl rfl)
theorem dX3_byteOf_57 : decode cX3_byteOf 57 = .ok (.imul, 1) := dk_104 (dk_at dksX3_byteOf_2 10 rfl rfl)
theorem dX3_byteOf_58 : decode cX3_byteOf 58 = .ok (.isub, 1) := dk_100 (dk_at dksX3_byteOf_2 11 rfl rfl)
theorem dX3_byteOf_59 : decode cX3_byteOf 59 = .ok (.ishr, 1) := dk_122 (dk_at dksX3_byteOf_2 12 rfl rfl)
theorem dX3_byteOf_60 : decode cX3_byteOf 60 = .ok (.sipush 255, 3) := dk_17 0 255 (dk_at dksX3_byteOf_2 13 rfl rfl)
theorem dX3_byteOf_63 : decode cX3_byteOf 63 = .ok (.iand, 1) := dk_126 (dk_at dksX3_byteOf_2 16 rfl rfl)
theorem dX3_byteOf_64 : decode cX3_byteOf 64 = .ok (.ireturn, 1) := dk_172 (dk_at dksX3_byteOf_2 17 rfl rfl)
abbrev cX3_end : ByteArray := prog_26_method_7_code
def yX3_end : MethodName := ⟨RX3, "end", "(I)Z"⟩
def dkwX3_end_0 : List UInt8 := [27, 155, 0, 11, 27, 42, 180, 0, 132, 164, 0, 5, 3, 172, 42, 27, 181, 0, 132, 4, 172]
abbrev dktX3_end_0 : List UInt8 := dkwX3_end_0 ++ []
theorem dksX3_end_0 : cX3_end.data.toList.drop 0 = dktX3_end_0 := by decide +kernel
theorem dX3_end_0 : decode cX3_end 0 = .ok (.iload_n 1, 1) := dk_27 (dk_at dksX3_end_0 0 rfl rfl)
theorem dX3_end_1 : decode cX3_end 1 = .ok (.ifCond .lt 11, 3) := dk_155 0 11 (dk_at dksX3_end_0 1 rfl rfl)
theorem dX3_end_4 : decode cX3_end 4 = .ok (.iload_n 1, 1) := dk_27 (dk_at dksX3_end_0 4 rfl rfl)
theorem dX3_end_5 : decode cX3_end 5 = .ok (.aload_n 0, 1) := dk_42 (dk_at dksX3_end_0 5 rfl rfl)
theorem dX3_end_6 : decode cX3_end 6 = .ok (.getfield 132, 3) := dk_180 0 132 (dk_at dksX3_end_0 6 rfl rfl)
theorem dX3_end_9 : decode cX3_end 9 = .ok (.if_icmp .le 5, 3) := dk_164 0 5 (dk_at dksX3_end_0 9 rfl rfl)
theorem dX3_end_12 : decode cX3_end 12 = .ok (.iconst 0, 1) := dk_3 (dk_at dksX3_end_0 12 rfl rfl)
theorem dX3_end_13 : decode cX3_end 13 = .ok (.ireturn, 1) := dk_172 (dk_at dksX3_end_0 13 rfl rfl)
theorem dX3_end_14 : decode cX3_end 14 = .ok (.aload_n 0, 1) := dk_42 (dk_at dksX3_end_0 14 rfl rfl)
theorem dX3_end_15 : decode cX3_end 15 = .ok (.iload_n 1, 1) := dk_27 (dk_at dksX3_end_0 15 rfl rfl)
theorem dX3_end_16 : decode cX3_end 16 = .ok (.putfield 132, 3) := dk_181 0 132 (dk_at dksX3_end_0 16 rfl rfl)
theorem dX3_end_19 : decode cX3_end 19 = .ok (.iconst 1, 1) := dk_4 (dk_at dksX3_end_0 19 rfl rfl)
theorem dX3_end_20 : decode cX3_end 20 = .ok (.ireturn, 1) := dk_172 (dk_at dksX3_end_0 20 rfl rfl)
abbrev cX3_fault : ByteArray := prog_26_method_34_code
def yX3_fault : MethodName := ⟨RX3, "fault", "(I)I"⟩
def dkwX3_fault_1 : List UInt8 := [167, 0, 5, 16, 254, 172]
abbrev dktX3_fault_1 : List UInt8 := dkwX3_fault_1 ++ []
def dkwX3_fault_0 : List UInt8 := [27, 154, 0, 12, 42, 16, 12, 182, 0, 246, 167, 0, 19, 27, 4, 160, 0, 12, 42, 16, 6, 182, 0, 249]
abbrev dktX3_fault_0 : List UInt8 := dkwX3_fault_0 ++ dktX3_fault_1
theorem dksX3_fault_0 : cX3_fault.data.toList.drop 0 = dktX3_fault_0 := by decide +kernel
theorem dksX3_fault_1 : cX3_fault.data.toList.drop 24 = dktX3_fault_1 := dk_seg dksX3_fault_0 24 rfl rfl
theorem dX3_fault_0 : decode cX3_fault 0 = .ok (.iload_n 1, 1) := dk_27 (dk_at dksX3_fault_0 0 rfl rfl)
theorem dX3_fault_1 : decode cX3_fault 1 = .ok (.ifCond .ne 12, 3) := dk_154 0 12 (dk_at dksX3_fault_0 1 rfl rfl)
theorem dX3_fault_4 : decode cX3_fault 4 = .ok (.aload_n 0, 1) := dk_42 (dk_at dksX3_fault_0 4 rfl rfl)
theorem dX3_fault_5 : decode cX3_fault 5 = .ok (.bipush 12, 2) := dk_16 12 (dk_at dksX3_fault_0 5 rfl rfl)
theorem dX3_fault_7 : decode cX3_fault 7 = .ok (.invokevirtual 246, 3) := dk_182 0 246 (dk_at dksX3_fault_0 7 rfl rfl)
theorem dX3_fault_10 : decode cX3_fault 10 = .ok (.goto 19, 3) := dk_167 0 19 (dk_at dksX3_fault_0 10 rfl rfl)
theorem dX3_fault_13 : decode cX3_fault 13 = .ok (.iload_n 1, 1) := dk_27 (dk_at dksX3_fault_0 13 rfl rfl)
theorem dX3_fault_14 : decode cX3_fault 14 = .ok (.iconst 1, 1) := dk_4 (dk_at dksX3_fault_0 14 rfl rfl)
theorem dX3_fault_15 : decode cX3_fault 15 = .ok (.if_icmp .ne 12, 3) := dk_160 0 12 (dk_at dksX3_fault_0 15 rfl rfl)
theorem dX3_fault_18 : decode cX3_fault 18 = .ok (.aload_n 0, 1) := dk_42 (dk_at dksX3_fault_0 18 rfl rfl)
theorem dX3_fault_19 : decode cX3_fault 19 = .ok (.bipush 6, 2) := dk_16 6 (dk_at dksX3_fault_0 19 rfl rfl)
theorem dX3_fault_21 : decode cX3_fault 21 = .ok (.invokevirtual 249, 3) := dk_182 0 249 (dk_at dksX3_fault_0 21 rfl rfl)
theorem dX3_fault_24 : decode cX3_fault 24 = .ok (.goto 5, 3) := dk_167 0 5 (dk_at dksX3_fault_1 0 rfl rfl)
theorem dX3_fault_27 : decode cX3_fault 27 = .ok (.bipush (-2), 2) := dk_16 254 (dk_at dksX3_fault_1 3 rfl rfl)
theorem dX3_fault_29 : decode cX3_fault 29 = .ok (.ireturn, 1) := dk_172 (dk_at dksX3_fault_1 5 rfl rfl)
abbrev cX3_readFigure : ByteArray := prog_26_method_20_code
def yX3_readFigure : MethodName := ⟨RX3, "readFigure", "(I)I"⟩
def dkwX3_readFigure_6 : List UInt8 := [159, 0, 7, 42, 182, 0, 164, 42, 180, 0, 142, 2, 160, 0, 7, 42, 182, 0, 202, 42, 180, 0, 142, 172]
abbrev dktX3_readFigure_6 : List UInt8 := dkwX3_readFigure_6 ++ []
def dkwX3_readFigure_5 : List UInt8 := [181, 0, 135, 42, 182, 0, 199, 167, 255, 211, 42, 180, 0, 142, 2, 160, 0, 15, 42, 182, 0, 180, 2]
abbrev dktX3_readFigure_5 : List UInt8 := dkwX3_readFigure_5 ++ dktX3_readFigure_6
def dkwX3_readFigure_4 : List UInt8 := [160, 0, 34, 42, 180, 0, 25, 42, 180, 0, 161, 46, 16, 6, 162, 0, 20, 42, 89, 180, 0, 135, 4, 96]
abbrev dktX3_readFigure_4 : List UInt8 := dkwX3_readFigure_4 ++ dktX3_readFigure_5
def dkwX3_readFigure_3 : List UInt8 := [132, 2, 1, 167, 255, 240, 42, 182, 0, 199, 42, 180, 0, 142, 2, 160, 0, 43, 42, 182, 0, 180, 16, 47]
abbrev dktX3_readFigure_3 : List UInt8 := dkwX3_readFigure_3 ++ dktX3_readFigure_4
def dkwX3_readFigure_2 : List UInt8 := [180, 0, 49, 42, 180, 0, 161, 3, 79, 3, 61, 28, 16, 8, 162, 0, 16, 42, 180, 0, 55, 28, 2, 79]
abbrev dktX3_readFigure_2 : List UInt8 := dkwX3_readFigure_2 ++ dktX3_readFigure_3
def dkwX3_readFigure_1 : List UInt8 := [181, 0, 158, 42, 180, 0, 25, 42, 180, 0, 161, 3, 79, 42, 180, 0, 31, 42, 180, 0, 161, 3, 79, 42]
abbrev dktX3_readFigure_1 : List UInt8 := dkwX3_readFigure_1 ++ dktX3_readFigure_2
def dkwX3_readFigure_0 : List UInt8 := [42, 27, 181, 0, 161, 42, 3, 181, 0, 135, 42, 2, 181, 0, 142, 42, 3, 181, 0, 193, 42, 3]
abbrev dktX3_readFigure_0 : List UInt8 := dkwX3_readFigure_0 ++ dktX3_readFigure_1
theorem dksX3_readFigure_0 : cX3_readFigure.data.toList.drop 0 = dktX3_readFigure_0 := by decide +kernel
theorem dksX3_readFigure_1 : cX3_readFigure.data.toList.drop 22 = dktX3_readFigure_1 := dk_seg dksX3_readFigure_0 22 rfl rfl
theorem dksX3_readFigure_2 : cX3_readFigure.data.toList.drop 46 = dktX3_readFigure_2 := dk_seg dksX3_readFigure_1 24 rfl rfl
theorem dksX3_readFigure_3 : cX3_readFigure.data.toList.drop 70 = dktX3_readFigure_3 := dk_seg dksX3_readFigure_2 24 rfl rfl
theorem dksX3_readFigure_4 : cX3_readFigure.data.toList.drop 94 = dktX3_readFigure_4 := dk_seg dksX3_readFigure_3 24 rfl rfl
theorem dksX3_readFigure_5 : cX3_readFigure.data.toList.drop 118 = dktX3_readFigure_5 := dk_seg dksX3_readFigure_4 24 rfl rfl
theorem dksX3_readFigure_6 : cX3_readFigure.data.toList.drop 141 = dktX3_readFigure_6 := dk_seg dksX3_readFigure_5 23 rfl rfl
theorem dX3_readFigure_0 : decode cX3_readFigure 0 = .ok (.aload_n 0, 1) := dk_42 (dk_at dksX3_readFigure_0 0 rfl rfl)
theorem dX3_readFigure_1 : decode cX3_readFigure 1 = .ok (.iload_n 1, 1) := dk_27 (dk_at dksX3_readFigure_0 1 rfl rfl)
theorem dX3_readFigure_2 : decode cX3_readFigure 2 = .ok (.putfield 161, 3) := dk_181 0 161 (dk_at dksX3_readFigure_0 2 rfl rfl)
theorem dX3_readFigure_5 : decode cX3_readFigure 5 = .ok (.aload_n 0, 1) := dk_42 (dk_at dksX3_readFigure_0 5 rfl rfl)
theorem dX3_readFigure_6 : decode cX3_readFigure 6 = .ok (.iconst 0, 1) := dk_3 (dk_at dksX3_readFigure_0 6 rfl rfl)
theorem dX3_readFigure_7 : decode cX3_readFigure 7 = .ok (.putfield 135, 3) := dk_181 0 135 (dk_at dksX3_readFigure_0 7 rfl rfl)
theorem dX3_readFigure_10 : decode cX3_readFigure 10 = .ok (.aload_n 0, 1) := dk_42 (dk_at dksX3_readFigure_0 10 rfl rfl)
theorem dX3_readFigure_11 : decode cX3_readFigure 11 = .ok (.iconst (-1), 1) := dk_2 (dk_at dksX3_readFigure_0 11 rfl rfl)
theorem dX3_readFigure_12 : decode cX3_readFigure 12 = .ok (.putfield 142, 3) := dk_181 0 142 (dk_at dksX3_readFigure_0 12 rfl rfl)
theorem dX3_readFigure_15 : decode cX3_readFigure 15 = .ok (.aload_n 0, 1) := dk_42 (dk_at dksX3_readFigure_0 15 rfl rfl)
theorem dX3_readFigure_16 : decode cX3_readFigure 16 = .ok (.iconst 0, 1) := dk_3 (dk_at dksX3_readFigure_0 16 rfl rfl)
theorem dX3_readFigure_17 : decode cX3_readFigure 17 = .ok (.putfield 193, 3) := dk_181 0 193 (dk_at dksX3_readFigure_0 17 rfl rfl)
theorem dX3_readFigure_20 : decode cX3_readFigure 20 = .ok (.aload_n 0, 1) := dk_42 (dk_at dksX3_readFigure_0 20 rfl rfl)
theorem dX3_readFigure_21 : decode cX3_readFigure 21 = .ok (.iconst 0, 1) := dk_3 (dk_at dksX3_readFigure_0 21 rfl rfl)
theorem dX3_readFigure_22 : decode cX3_readFigure 22 = .ok (.putfield 158, 3) := dk_181 0 158 (dk_at dksX3_readFigure_1 0 rfl rfl)
theorem dX3_readFigure_25 : decode cX3_readFigure 25 = .ok (.aload_n 0, 1) := dk_42 (dk_at dksX3_readFigure_1 3 rfl rfl)
theorem dX3_readFigure_26 : decode cX3_readFigure 26 = .ok (.getfield 25, 3) := dk_180 0 25 (dk_at dksX3_readFigure_1 4 rfl rfl)
theorem dX3_readFigure_29 : decode cX3_readFigure 29 = .ok (.aload_n 0, 1) := dk_42 (dk_at dksX3_readFigure_1 7 rfl rfl)
theorem dX3_readFigure_30 : decode cX3_readFigure 30 = .ok (.getfield 161, 3) := dk_180 0 161 (dk_at dksX3_readFigure_1 8 rfl rfl)
theorem dX3_readFigure_33 : decode cX3_readFigure 33 = .ok (.iconst 0, 1) := dk_3 (dk_at dksX3_readFigure_1 11 rfl rfl)
theorem dX3_readFigure_34 : decode cX3_readFigure 34 = .ok (.iastore, 1) := dk_79 (dk_at dksX3_readFigure_1 12 rfl rfl)
theorem dX3_readFigure_35 : decode cX3_readFigure 35 = .ok (.aload_n 0, 1) := dk_42 (dk_at dksX3_readFigure_1 13 rfl rfl)
theorem dX3_readFigure_36 : decode cX3_readFigure 36 = .ok (.getfield 31, 3) := dk_180 0 31 (dk_at dksX3_readFigure_1 14 rfl rfl)
theorem dX3_readFigure_39 : decode cX3_readFigure 39 = .ok (.aload_n 0, 1) := dk_42 (dk_at dksX3_readFigure_1 17 rfl rfl)
theorem dX3_readFigure_40 : decode cX3_readFigure 40 = .ok (.getfield 161, 3) := dk_180 0 161 (dk_at dksX3_readFigure_1 18 rfl rfl)
theorem dX3_readFigure_43 : decode cX3_readFigure 43 = .ok (.iconst 0, 1) := dk_3 (dk_at dksX3_readFigure_1 21 rfl rfl)
theorem dX3_readFigure_44 : decode cX3_readFigure 44 = .ok (.iastore, 1) := dk_79 (dk_at dksX3_readFigure_1 22 rfl rfl)
theorem dX3_readFigure_45 : decode cX3_readFigure 45 = .ok (.aload_n 0, 1) := dk_42 (dk_at dksX3_readFigure_1 23 rfl rfl)
theorem dX3_readFigure_46 : decode cX3_readFigure 46 = .ok (.getfield 49, 3) := dk_180 0 49 (dk_at dksX3_readFigure_2 0 rfl rfl)
theorem dX3_readFigure_49 : decode cX3_readFigure 49 = .ok (.aload_n 0, 1) := dk_42 (dk_at dksX3_readFigure_2 3 rfl rfl)
theorem dX3_readFigure_50 : decode cX3_readFigure 50 = .ok (.getfield 161, 3) := dk_180 0 161 (dk_at dksX3_readFigure_2 4 rfl rfl)
theorem dX3_readFigure_53 : decode cX3_readFigure 53 = .ok (.iconst 0, 1) := dk_3 (dk_at dksX3_readFigure_2 7 rfl rfl)
theorem dX3_readFigure_54 : decode cX3_readFigure 54 = .ok (.iastore, 1) := dk_79 (dk_at dksX3_readFigure_2 8 rfl rfl)
theorem dX3_readFigure_55 : decode cX3_readFigure 55 = .ok (.iconst 0, 1) := dk_3 (dk_at dksX3_readFigure_2 9 rfl rfl)
theorem dX3_readFigure_56 : decode cX3_readFigure 56 = .ok (.istore_n 2, 1) := dk_61 (dk_at dksX3_readFigure_2 10 rfl rfl)
theorem dX3_readFigure_57 : decode cX3_readFigure 57 = .ok (.iload_n 2, 1) := dk_28 (dk_at dksX3_readFigure_2 11 rfl rfl)
theorem dX3_readFigure_58 : decode cX3_readFigure 58 = .ok (.bipush 8, 2) := dk_16 8 (dk_at dksX3_readFigure_2 12 rfl rfl)
theorem dX3_readFigure_60 : decode cX3_readFigure 60 = .ok (.if_icmp .ge 16, 3) := dk_162 0 16 (dk_at dksX3_readFigure_2 14 rfl rfl)
theorem dX3_readFigure_63 : decode cX3_readFigure 63 = .ok (.aload_n 0, 1) := dk_42 (dk_at dksX3_readFigure_2 17 rfl rfl)
theorem dX3_readFigure_64 : decode cX3_readFigure 64 = .ok (.getfield 55, 3) := dk_180 0 55 (dk_at dksX3_readFigure_2 18 rfl rfl)
theorem dX3_readFigure_67 : decode cX3_readFigure 67 = .ok (.iload_n 2, 1) := dk_28 (dk_at dksX3_readFigure_2 21 rfl rfl)
theorem dX3_readFigure_68 : decode cX3_readFigure 68 = .ok (.iconst (-1), 1) := dk_2 (dk_at dksX3_readFigure_2 22 rfl rfl)
theorem dX3_readFigure_69 : decode cX3_readFigure 69 = .ok (.iastore, 1) := dk_79 (dk_at dksX3_readFigure_2 23 rfl rfl)
theorem dX3_readFigure_70 : decode cX3_readFigure 70 = .ok (.iinc 2 1, 3) := dk_132 2 1 (dk_at dksX3_readFigure_3 0 rfl rfl)
theorem dX3_readFigure_73 : decode cX3_readFigure 73 = .ok (.goto (-16), 3) := dk_167 255 240 (dk_at dksX3_readFigure_3 3 rfl rfl)
theorem dX3_readFigure_76 : decode cX3_readFigure 76 = .ok (.aload_n 0, 1) := dk_42 (dk_at dksX3_readFigure_3 6 rfl rfl)
theorem dX3_readFigure_77 : decode cX3_readFigure 77 = .ok (.invokevirtual 199, 3) := dk_182 0 199 (dk_at dksX3_readFigure_3 7 rfl rfl)
theorem dX3_readFigure_80 : decode cX3_readFigure 80 = .ok (.aload_n 0, 1) := dk_42 (dk_at dksX3_readFigure_3 10 rfl rfl)
theorem dX3_readFigure_81 : decode cX3_readFigure 81 = .ok (.getfield 142, 3) := dk_180 0 142 (dk_at dksX3_readFigure_3 11 rfl rfl)
theorem dX3_readFigure_84 : decode cX3_readFigure 84 = .ok (.iconst (-1), 1) := dk_2 (dk_at dksX3_readFigure_3 14 rfl rfl)
theorem dX3_readFigure_85 : decode cX3_readFigure 85 = .ok (.if_icmp .ne 43, 3) := dk_160 0 43 (dk_at dksX3_readFigure_3 15 rfl rfl)
theorem dX3_readFigure_88 : decode cX3_readFigure 88 = .ok (.aload_n 0, 1) := dk_42 (dk_at dksX3_readFigure_3 18 rfl rfl)
theorem dX3_readFigure_89 : decode cX3_readFigure 89 = .ok (.invokevirtual 180, 3) := dk_182 0 180 (dk_at dksX3_readFigure_3 19 rfl rfl)
theorem dX3_readFigure_92 : decode cX3_readFigure 92 = .ok (.bipush 47, 2) := dk_16 47 (dk_at dksX3_readFigure_3 22 rfl rfl)
theorem dX3_readFigure_94 : decode cX3_readFigure 94 = .ok (.if_icmp .ne 34, 3) := dk_160 0 34 (dk_at dksX3_readFigure_4 0 rfl rfl)
theorem dX3_readFigure_97 : decode cX3_readFigure 97 = .ok (.aload_n 0, 1) := dk_42 (dk_at dksX3_readFigure_4 3 rfl rfl)
theorem dX3_readFigure_98 : decode cX3_readFigure 98 = .ok (.getfield 25, 3) := dk_180 0 25 (dk_at dksX3_readFigure_4 4 rfl rfl)
theorem dX3_readFigure_101 : decode cX3_readFigure 101 = .ok (.aload_n 0, 1) := dk_42 (dk_at dksX3_readFigure_4 7 rfl rfl)
theorem dX3_readFigure_102 : decode cX3_readFigure 102 = .ok (.getfield 161, 3) := dk_180 0 161 (dk_at dksX3_readFigure_4 8 rfl rfl)
theorem dX3_readFigure_105 : decode cX3_readFigure 105 = .ok (.iaload, 1) := dk_46 (dk_at dksX3_readFigure_4 11 rfl rfl)
theorem dX3_readFigure_106 : decode cX3_readFigure 106 = .ok (.bipush 6, 2) := dk_16 6 (dk_at dksX3_readFigure_4 12 rfl rfl)
theorem dX3_readFigure_108 : decode cX3_readFigure 108 = .ok (.if_icmp .ge 20, 3) := dk_162 0 20 (dk_at dksX3_readFigure_4 14 rfl rfl)
theorem dX3_readFigure_111 : decode cX3_readFigure 111 = .ok (.aload_n 0, 1) := dk_42 (dk_at dksX3_readFigure_4 17 rfl rfl)
theorem dX3_readFigure_112 : decode cX3_readFigure 112 = .ok (.dup, 1) := dk_89 (dk_at dksX3_readFigure_4 18 rfl rfl)
theorem dX3_readFigure_113 : decode cX3_readFigure 113 = .ok (.getfield 135, 3) := dk_180 0 135 (dk_at dksX3_readFigure_4 19 rfl rfl)
theorem dX3_readFigure_116 : decode cX3_readFigure 116 = .ok (.iconst 1, 1) := dk_4 (dk_at dksX3_readFigure_4 22 rfl rfl)
theorem dX3_readFigure_117 : decode cX3_readFigure 117 = .ok (.iadd, 1) := dk_96 (dk_at dksX3_readFigure_4 23 rfl rfl)
theorem dX3_readFigure_118 : decode cX3_readFigure 118 = .ok (.putfield 135, 3) := dk_181 0 135 (dk_at dksX3_readFigure_5 0 rfl rfl)
theorem dX3_readFigure_121 : decode cX3_readFigure 121 = .ok (.aload_n 0, 1) := dk_42 (dk_at dksX3_readFigure_5 3 rfl rfl)
theorem dX3_readFigure_122 : decode cX3_readFigure 122 = .ok (.invokevirtual 199, 3) := dk_182 0 199 (dk_at dksX3_readFigure_5 4 rfl rfl)
theorem dX3_readFigure_125 : decode cX3_readFigure 125 = .ok (.goto (-45), 3) := dk_167 255 211 (dk_at dksX3_readFigure_5 7 rfl rfl)
theorem dX3_readFigure_128 : decode cX3_readFigure 128 = .ok (.aload_n 0, 1) := dk_42 (dk_at dksX3_readFigure_5 10 rfl rfl)
theorem dX3_readFigure_129 : decode cX3_readFigure 129 = .ok (.getfield 142, 3) := dk_180 0 142 (dk_at dksX3_readFigure_5 11 rfl rfl)
theorem dX3_readFigure_132 : decode cX3_readFigure 132 = .ok (.iconst (-1), 1) := dk_2 (dk_at dksX3_readFigure_5 14 rfl rfl)
theorem dX3_readFigure_133 : decode cX3_readFigure 133 = .ok (.if_icmp .ne 15, 3) := dk_160 0 15 (dk_at dksX3_readFigure_5 15 rfl rfl)
theorem dX3_readFigure_136 : decode cX3_readFigure 136 = .ok (.aload_n 0, 1) := dk_42 (dk_at dksX3_readFigure_5 18 rfl rfl)
theorem dX3_readFigure_137 : decode cX3_readFigure 137 = .ok (.invokevirtual 180, 3) := dk_182 0 180 (dk_at dksX3_readFigure_5 19 rfl rfl)
theorem dX3_readFigure_140 : decode cX3_readFigure 140 = .ok (.iconst (-1), 1) := dk_2 (dk_at dksX3_readFigure_5 22 rfl rfl)
theorem dX3_readFigure_141 : decode cX3_readFigure 141 = .ok (.if_icmp .eq 7, 3) := dk_159 0 7 (dk_at dksX3_readFigure_6 0 rfl rfl)
theorem dX3_readFigure_144 : decode cX3_readFigure 144 = .ok (.aload_n 0, 1) := dk_42 (dk_at dksX3_readFigure_6 3 rfl rfl)
theorem dX3_readFigure_145 : decode cX3_readFigure 145 = .ok (.invokevirtual 164, 3) := dk_182 0 164 (dk_at dksX3_readFigure_6 4 rfl rfl)
theorem dX3_readFigure_148 : decode cX3_readFigure 148 = .ok (.aload_n 0, 1) := dk_42 (dk_at dksX3_readFigure_6 7 rfl rfl)
theorem dX3_readFigure_149 : decode cX3_readFigure 149 = .ok (.getfield 142, 3) := dk_180 0 142 (dk_at dksX3_readFigure_6 8 rfl rfl)
theorem dX3_readFigure_152 : decode cX3_readFigure 152 = .ok (.iconst (-1), 1) := dk_2 (dk_at dksX3_readFigure_6 11 rfl rfl)
theorem dX3_readFigure_153 : decode cX3_readFigure 153 = .ok (.if_icmp .ne 7, 3) := dk_160 0 7 (dk_at dksX3_readFigure_6 12 rfl rfl)
theorem dX3_readFigure_156 : decode cX3_readFigure 156 = .ok (.aload_n 0, 1) := dk_42 (dk_at dksX3_readFigure_6 15 rfl rfl)
theorem dX3_readFigure_157 : decode cX3_readFigure 157 = .ok (.invokevirtual 202, 3) := dk_182 0 202 (dk_at dksX3_readFigure_6 16 rfl rfl)
theorem dX3_readFigure_160 : decode cX3_readFigure 160 = .ok (.aload_n 0, 1) := dk_42 (dk_at dksX3_readFigure_6 19 rfl rfl)
theorem dX3_readFigure_161 : decode cX3_readFigure 161 = .ok (.getfield 142, 3) := dk_180 0 142 (dk_at dksX3_readFigure_6 20 rfl rfl)
theorem dX3_readFigure_164 : decode cX3_readFigure 164 = .ok (.ireturn, 1) := dk_172 (dk_at dksX3_readFigure_6 23 rfl rfl)
abbrev cX3_balloon : ByteArray := prog_26_method_19_code
def yX3_balloon : MethodName := ⟨RX3, "balloon", "()V"⟩
def dkwX3_balloon_4 : List UInt8 := [92, 46, 4, 96, 79, 42, 42, 182, 0, 174, 181, 0, 171, 42, 182, 0, 196, 177]
abbrev dktX3_balloon_4 : List UInt8 := dkwX3_balloon_4 ++ []
def dkwX3_balloon_3 : List UInt8 := [104, 42, 180, 0, 25, 42, 180, 0, 161, 46, 96, 27, 16, 48, 100, 79, 42, 180, 0, 25, 42, 180, 0, 161]
abbrev dktX3_balloon_3 : List UInt8 := dkwX3_balloon_3 ++ dktX3_balloon_4
def dkwX3_balloon_2 : List UInt8 := [182, 0, 164, 177, 42, 89, 180, 0, 135, 4, 96, 181, 0, 135, 42, 180, 0, 28, 16, 6, 42, 180, 0, 161]
abbrev dktX3_balloon_2 : List UInt8 := dkwX3_balloon_2 ++ dktX3_balloon_3
def dkwX3_balloon_1 : List UInt8 := [42, 182, 0, 180, 60, 27, 184, 0, 167, 153, 0, 14, 27, 16, 48, 100, 42, 180, 0, 125, 161, 0, 8, 42]
abbrev dktX3_balloon_1 : List UInt8 := dkwX3_balloon_1 ++ dktX3_balloon_2
def dkwX3_balloon_0 : List UInt8 := [42, 182, 0, 180, 16, 35, 159, 0, 8, 42, 182, 0, 164, 177, 42, 89, 180, 0, 135, 4, 96, 181, 0, 135]
abbrev dktX3_balloon_0 : List UInt8 := dkwX3_balloon_0 ++ dktX3_balloon_1
theorem dksX3_balloon_0 : cX3_balloon.data.toList.drop 0 = dktX3_balloon_0 := by decide +kernel
theorem dksX3_balloon_1 : cX3_balloon.data.toList.drop 24 = dktX3_balloon_1 := dk_seg dksX3_balloon_0 24 rfl rfl
theorem dksX3_balloon_2 : cX3_balloon.data.toList.drop 48 = dktX3_balloon_2 := dk_seg dksX3_balloon_1 24 rfl rfl
theorem dksX3_balloon_3 : cX3_balloon.data.toList.drop 72 = dktX3_balloon_3 := dk_seg dksX3_balloon_2 24 rfl rfl
theorem dksX3_balloon_4 : cX3_balloon.data.toList.drop 96 = dktX3_balloon_4 := dk_seg dksX3_balloon_3 24 rfl rfl
theorem dX3_balloon_0 : decode cX3_balloon 0 = .ok (.aload_n 0, 1) := dk_42 (dk_at dksX3_balloon_0 0 rfl rfl)
theorem dX3_balloon_1 : decode cX3_balloon 1 = .ok (.invokevirtual 180, 3) := dk_182 0 180 (dk_at dksX3_balloon_0 1 rfl rfl)
theorem dX3_balloon_4 : decode cX3_balloon 4 = .ok (.bipush 35, 2) := dk_16 35 (dk_at dksX3_balloon_0 4 rfl rfl)
theorem dX3_balloon_6 : decode cX3_balloon 6 = .ok (.if_icmp .eq 8, 3) := dk_159 0 8 (dk_at dksX3_balloon_0 6 rfl rfl)
theorem dX3_balloon_9 : decode cX3_balloon 9 = .ok (.aload_n 0, 1) := dk_42 (dk_at dksX3_balloon_0 9 rfl rfl)
theorem dX3_balloon_10 : decode cX3_balloon 10 = .ok (.invokevirtual 164, 3) := dk_182 0 164 (dk_at dksX3_balloon_0 10 rfl rfl)
theorem dX3_balloon_13 : decode cX3_balloon 13 = .ok (.return_, 1) := dk_177 (dk_at dksX3_balloon_0 13 rfl rfl)
theorem dX3_balloon_14 : decode cX3_balloon 14 = .ok (.aload_n 0, 1) := dk_42 (dk_at dksX3_balloon_0 14 rfl rfl)
theorem dX3_balloon_15 : decode cX3_balloon 15 = .ok (.dup, 1) := dk_89 (dk_at dksX3_balloon_0 15 rfl rfl)
theorem dX3_balloon_16 : decode cX3_balloon 16 = .ok (.getfield 135, 3) := dk_180 0 135 (dk_at dksX3_balloon_0 16 rfl rfl)
theorem dX3_balloon_19 : decode cX3_balloon 19 = .ok (.iconst 1, 1) := dk_4 (dk_at dksX3_balloon_0 19 rfl rfl)
theorem dX3_balloon_20 : decode cX3_balloon 20 = .ok (.iadd, 1) := dk_96 (dk_at dksX3_balloon_0 20 rfl rfl)
theorem dX3_balloon_21 : decode cX3_balloon 21 = .ok (.putfield 135, 3) := dk_181 0 135 (dk_at dksX3_balloon_0 21 rfl rfl)
theorem dX3_balloon_24 : decode cX3_balloon 24 = .ok (.aload_n 0, 1) := dk_42 (dk_at dksX3_balloon_1 0 rfl rfl)
theorem dX3_balloon_25 : decode cX3_balloon 25 = .ok (.invokevirtual 180, 3) := dk_182 0 180 (dk_at dksX3_balloon_1 1 rfl rfl)
theorem dX3_balloon_28 : decode cX3_balloon 28 = .ok (.istore_n 1, 1) := dk_60 (dk_at dksX3_balloon_1 4 rfl rfl)
theorem dX3_balloon_29 : decode cX3_balloon 29 = .ok (.iload_n 1, 1) := dk_27 (dk_at dksX3_balloon_1 5 rfl rfl)
theorem dX3_balloon_30 : decode cX3_balloon 30 = .ok (.invokestatic 167, 3) := dk_184 0 167 (dk_at dksX3_balloon_1 6 rfl rfl)
theorem dX3_balloon_33 : decode cX3_balloon 33 = .ok (.ifCond .eq 14, 3) := dk_153 0 14 (dk_at dksX3_balloon_1 9 rfl rfl)
theorem dX3_balloon_36 : decode cX3_balloon 36 = .ok (.iload_n 1, 1) := dk_27 (dk_at dksX3_balloon_1 12 rfl rfl)
theorem dX3_balloon_37 : decode cX3_balloon 37 = .ok (.bipush 48, 2) := dk_16 48 (dk_at dksX3_balloon_1 13 rfl rfl)
theorem dX3_balloon_39 : decode cX3_balloon 39 = .ok (.isub, 1) := dk_100 (dk_at dksX3_balloon_1 15 rfl rfl)
theorem dX3_balloon_40 : decode cX3_balloon 40 = .ok (.aload_n 0, 1) := dk_42 (dk_at dksX3_balloon_1 16 rfl rfl)
theorem dX3_balloon_41 : decode cX3_balloon 41 = .ok (.getfield 125, 3) := dk_180 0 125 (dk_at dksX3_balloon_1 17 rfl rfl)
theorem dX3_balloon_44 : decode cX3_balloon 44 = .ok (.if_icmp .lt 8, 3) := dk_161 0 8 (dk_at dksX3_balloon_1 20 rfl rfl)
theorem dX3_balloon_47 : decode cX3_balloon 47 = .ok (.aload_n 0, 1) := dk_42 (dk_at dksX3_balloon_1 23 rfl rfl)
theorem dX3_balloon_48 : decode cX3_balloon 48 = .ok (.invokevirtual 164, 3) := dk_182 0 164 (dk_at dksX3_balloon_2 0 rfl rfl)
theorem dX3_balloon_51 : decode cX3_balloon 51 = .ok (.return_, 1) := dk_177 (dk_at dksX3_balloon_2 3 rfl rfl)
theorem dX3_balloon_52 : decode cX3_balloon 52 = .ok (.aload_n 0, 1) := dk_42 (dk_at dksX3_balloon_2 4 rfl rfl)
theorem dX3_balloon_53 : decode cX3_balloon 53 = .ok (.dup, 1) := dk_89 (dk_at dksX3_balloon_2 5 rfl rfl)
theorem dX3_balloon_54 : decode cX3_balloon 54 = .ok (.getfield 135, 3) := dk_180 0 135 (dk_at dksX3_balloon_2 6 rfl rfl)
theorem dX3_balloon_57 : decode cX3_balloon 57 = .ok (.iconst 1, 1) := dk_4 (dk_at dksX3_balloon_2 9 rfl rfl)
theorem dX3_balloon_58 : decode cX3_balloon 58 = .ok (.iadd, 1) := dk_96 (dk_at dksX3_balloon_2 10 rfl rfl)
theorem dX3_balloon_59 : decode cX3_balloon 59 = .ok (.putfield 135, 3) := dk_181 0 135 (dk_at dksX3_balloon_2 11 rfl rfl)
theorem dX3_balloon_62 : decode cX3_balloon 62 = .ok (.aload_n 0, 1) := dk_42 (dk_at dksX3_balloon_2 14 rfl rfl)
theorem dX3_balloon_63 : decode cX3_balloon 63 = .ok (.getfield 28, 3) := dk_180 0 28 (dk_at dksX3_balloon_2 15 rfl rfl)
theorem dX3_balloon_66 : decode cX3_balloon 66 = .ok (.bipush 6, 2) := dk_16 6 (dk_at dksX3_balloon_2 18 rfl rfl)
theorem dX3_balloon_68 : decode cX3_balloon 68 = .ok (.aload_n 0, 1) := dk_42 (dk_at dksX3_balloon_2 20 rfl rfl)
theorem dX3_balloon_69 : decode cX3_balloon 69 = .ok (.getfield 161, 3) := dk_180 0 161 (dk_at dksX3_balloon_2 21 rfl rfl)
theorem dX3_balloon_72 : decode cX3_balloon 72 = .ok (.imul, 1) := dk_104 (dk_at dksX3_balloon_3 0 rfl rfl)
theorem dX3_balloon_73 : decode cX3_balloon 73 = .ok (.aload_n 0, 1) := dk_42 (dk_at dksX3_balloon_3 1 rfl rfl)
theorem dX3_balloon_74 : decode cX3_balloon 74 = .ok (.getfield 25, 3) := dk_180 0 25 (dk_at dksX3_balloon_3 2 rfl rfl)
theorem dX3_balloon_77 : decode cX3_balloon 77 = .ok (.aload_n 0, 1) := dk_42 (dk_at dksX3_balloon_3 5 rfl rfl)
theorem dX3_balloon_78 : decode cX3_balloon 78 = .ok (.getfield 161, 3) := dk_180 0 161 (dk_at dksX3_balloon_3 6 rfl rfl)
theorem dX3_balloon_81 : decode cX3_balloon 81 = .ok (.iaload, 1) := dk_46 (dk_at dksX3_balloon_3 9 rfl rfl)
theorem dX3_balloon_82 : decode cX3_balloon 82 = .ok (.iadd, 1) := dk_96 (dk_at dksX3_balloon_3 10 rfl rfl)
theorem dX3_balloon_83 : decode cX3_balloon 83 = .ok (.iload_n 1, 1) := dk_27 (dk_at dksX3_balloon_3 11 rfl rfl)
theorem dX3_balloon_84 : decode cX3_balloon 84 = .ok (.bipush 48, 2) := dk_16 48 (dk_at dksX3_balloon_3 12 rfl rfl)
theorem dX3_balloon_86 : decode cX3_balloon 86 = .ok (.isub, 1) := dk_100 (dk_at dksX3_balloon_3 14 rfl rfl)
theorem dX3_balloon_87 : decode cX3_balloon 87 = .ok (.iastore, 1) := dk_79 (dk_at dksX3_balloon_3 15 rfl rfl)
theorem dX3_balloon_88 : decode cX3_balloon 88 = .ok (.aload_n 0, 1) := dk_42 (dk_at dksX3_balloon_3 16 rfl rfl)
theorem dX3_balloon_89 : decode cX3_balloon 89 = .ok (.getfield 25, 3) := dk_180 0 25 (dk_at dksX3_balloon_3 17 rfl rfl)
theorem dX3_balloon_92 : decode cX3_balloon 92 = .ok (.aload_n 0, 1) := dk_42 (dk_at dksX3_balloon_3 20 rfl rfl)
theorem dX3_balloon_93 : decode cX3_balloon 93 = .ok (.getfield 161, 3) := dk_180 0 161 (dk_at dksX3_balloon_3 21 rfl rfl)
theorem dX3_balloon_96 : decode cX3_balloon 96 = .ok (.dup2, 1) := dk_92 (dk_at dksX3_balloon_4 0 rfl rfl)
theorem dX3_balloon_97 : decode cX3_balloon 97 = .ok (.iaload, 1) := dk_46 (dk_at dksX3_balloon_4 1 rfl rfl)
theorem dX3_balloon_98 : decode cX3_balloon 98 = .ok (.iconst 1, 1) := dk_4 (dk_at dksX3_balloon_4 2 rfl rfl)
theorem dX3_balloon_99 : decode cX3_balloon 99 = .ok (.iadd, 1) := dk_96 (dk_at dksX3_balloon_4 3 rfl rfl)
theorem dX3_balloon_100 : decode cX3_balloon 100 = .ok (.iastore, 1) := dk_79 (dk_at dksX3_balloon_4 4 rfl rfl)
theorem dX3_balloon_101 : decode cX3_balloon 101 = .ok (.aload_n 0, 1) := dk_42 (dk_at dksX3_balloon_4 5 rfl rfl)
theorem dX3_balloon_102 : decode cX3_balloon 102 = .ok (.aload_n 0, 1) := dk_42 (dk_at dksX3_balloon_4 6 rfl rfl)
theorem dX3_balloon_103 : decode cX3_balloon 103 = .ok (.invokevirtual 174, 3) := dk_182 0 174 (dk_at dksX3_balloon_4 7 rfl rfl)
theorem dX3_balloon_106 : decode cX3_balloon 106 = .ok (.putfield 171, 3) := dk_181 0 171 (dk_at dksX3_balloon_4 10 rfl rfl)
theorem dX3_balloon_109 : decode cX3_balloon 109 = .ok (.aload_n 0, 1) := dk_42 (dk_at dksX3_balloon_4 13 rfl rfl)
theorem dX3_balloon_110 : decode cX3_balloon 110 = .ok (.invokevirtual 196, 3) := dk_182 0 196 (dk_at dksX3_balloon_4 14 rfl rfl)
theorem dX3_balloon_113 : decode cX3_balloon 113 = .ok (.return_, 1) := dk_177 (dk_at dksX3_balloon_4 17 rfl rfl)
abbrev cX3_look : ByteArray := prog_26_method_9_code
def yX3_look : MethodName := ⟨RX3, "look", "()I"⟩
def dkwX3_look_1 : List UInt8 := [182, 0, 138, 172]
abbrev dktX3_look_1 : List UInt8 := dkwX3_look_1 ++ []
def dkwX3_look_0 : List UInt8 := [42, 182, 0, 138, 16, 32, 160, 0, 16, 42, 89, 180, 0, 135, 4, 96, 181, 0, 135, 167, 255, 237, 42]
abbrev dktX3_look_0 : List UInt8 := dkwX3_look_0 ++ dktX3_look_1
theorem dksX3_look_0 : cX3_look.data.toList.drop 0 = dktX3_look_0 := by decide +kernel
theorem dksX3_look_1 : cX3_look.data.toList.drop 23 = dktX3_look_1 := dk_seg dksX3_look_0 23 rfl rfl
theorem dX3_look_0 : decode cX3_look 0 = .ok (.aload_n 0, 1) := dk_42 (dk_at dksX3_look_0 0 rfl rfl)
theorem dX3_look_1 : decode cX3_look 1 = .ok (.invokevirtual 138, 3) := dk_182 0 138 (dk_at dksX3_look_0 1 rfl rfl)
theorem dX3_look_4 : decode cX3_look 4 = .ok (.bipush 32, 2) := dk_16 32 (dk_at dksX3_look_0 4 rfl rfl)
theorem dX3_look_6 : decode cX3_look 6 = .ok (.if_icmp .ne 16, 3) := dk_160 0 16 (dk_at dksX3_look_0 6 rfl rfl)
theorem dX3_look_9 : decode cX3_look 9 = .ok (.aload_n 0, 1) := dk_42 (dk_at dksX3_look_0 9 rfl rfl)
theorem dX3_look_10 : decode cX3_look 10 = .ok (.dup, 1) := dk_89 (dk_at dksX3_look_0 10 rfl rfl)
theorem dX3_look_11 : decode cX3_look 11 = .ok (.getfield 135, 3) := dk_180 0 135 (dk_at dksX3_look_0 11 rfl rfl)
theorem dX3_look_14 : decode cX3_look 14 = .ok (.iconst 1, 1) := dk_4 (dk_at dksX3_look_0 14 rfl rfl)
theorem dX3_look_15 : decode cX3_look 15 = .ok (.iadd, 1) := dk_96 (dk_at dksX3_look_0 15 rfl rfl)
theorem dX3_look_16 : decode cX3_look 16 = .ok (.putfield 135, 3) := dk_181 0 135 (dk_at dksX3_look_0 16 rfl rfl)
theorem dX3_look_19 : decode cX3_look 19 = .ok (.goto (-19), 3) := dk_167 255 237 (dk_at dksX3_look_0 19 rfl rfl)
theorem dX3_look_22 : decode cX3_look 22 = .ok (.aload_n 0, 1) := dk_42 (dk_at dksX3_look_0 22 rfl rfl)
theorem dX3_look_23 : decode cX3_look 23 = .ok (.invokevirtual 138, 3) := dk_182 0 138 (dk_at dksX3_look_1 0 rfl rfl)
theorem dX3_look_26 : decode cX3_look 26 = .ok (.ireturn, 1) := dk_172 (dk_at dksX3_look_1 3 rfl rfl)
abbrev cX3_here : ByteArray := prog_26_method_8_code
def yX3_here : MethodName := ⟨RX3, "here", "()I"⟩
def dkwX3_here_1 : List UInt8 := [172]
abbrev dktX3_here_1 : List UInt8 := dkwX3_here_1 ++ []
def dkwX3_here_0 : List UInt8 := [42, 180, 0, 135, 42, 180, 0, 132, 162, 0, 15, 42, 180, 0, 22, 42, 180, 0, 135, 46, 167, 0, 4, 2]
abbrev dktX3_here_0 : List UInt8 := dkwX3_here_0 ++ dktX3_here_1
theorem dksX3_here_0 : cX3_here.data.toList.drop 0 = dktX3_here_0 := by decide +kernel
theorem dksX3_here_1 : cX3_here.data.toList.drop 24 = dktX3_here_1 := dk_seg dksX3_here_0 24 rfl rfl
theorem dX3_here_0 : decode cX3_here 0 = .ok (.aload_n 0, 1) := dk_42 (dk_at dksX3_here_0 0 rfl rfl)
theorem dX3_here_1 : decode cX3_here 1 = .ok (.getfield 135, 3) := dk_180 0 135 (dk_at dksX3_here_0 1 rfl rfl)
theorem dX3_here_4 : decode cX3_here 4 = .ok (.aload_n 0, 1) := dk_42 (dk_at dksX3_here_0 4 rfl rfl)
theorem dX3_here_5 : decode cX3_here 5 = .ok (.getfield 132, 3) := dk_180 0 132 (dk_at dksX3_here_0 5 rfl rfl)
theorem dX3_here_8 : decode cX3_here 8 = .ok (.if_icmp .ge 15, 3) := dk_162 0 15 (dk_at dksX3_here_0 8 rfl rfl)
theorem dX3_here_11 : decode cX3_here 11 = .ok (.aload_n 0, 1) := dk_42 (dk_at dksX3_here_0 11 rfl rfl)
theorem dX3_here_12 : decode cX3_here 12 = .ok (.getfield 22, 3) := dk_180 0 22 (dk_at dksX3_here_0 12 rfl rfl)
theorem dX3_here_15 : decode cX3_here 15 = .ok (.aload_n 0, 1) := dk_42 (dk_at dksX3_here_0 15 rfl rfl)
theorem dX3_here_16 : decode cX3_here 16 = .ok (.getfield 135, 3) := dk_180 0 135 (dk_at dksX3_here_0 16 rfl rfl)
theorem dX3_here_19 : decode cX3_here 19 = .ok (.iaload, 1) := dk_46 (dk_at dksX3_here_0 19 rfl rfl)
theorem dX3_here_20 : decode cX3_here 20 = .ok (.goto 4, 3) := dk_167 0 4 (dk_at dksX3_here_0 20 rfl rfl)
theorem dX3_here_23 : decode cX3_here 23 = .ok (.iconst (-1), 1) := dk_2 (dk_at dksX3_here_0 23 rfl rfl)
theorem dX3_here_24 : decode cX3_here 24 = .ok (.ireturn, 1) := dk_172 (dk_at dksX3_here_1 0 rfl rfl)
abbrev cX3_bad : ByteArray := prog_26_method_10_code
def yX3_bad : MethodName := ⟨RX3, "bad", "()V"⟩
def dkwX3_bad_0 : List UInt8 := [42, 42, 180, 0, 142, 2, 160, 0, 10, 42, 180, 0, 135, 167, 0, 7, 42, 180, 0, 142, 181, 0, 142, 177]
abbrev dktX3_bad_0 : List UInt8 := dkwX3_bad_0 ++ []
theorem dksX3_bad_0 : cX3_bad.data.toList.drop 0 = dktX3_bad_0 := by decide +kernel
theorem dX3_bad_0 : decode cX3_bad 0 = .ok (.aload_n 0, 1) := dk_42 (dk_at dksX3_bad_0 0 rfl rfl)
theorem dX3_bad_1 : decode cX3_bad 1 = .ok (.aload_n 0, 1) := dk_42 (dk_at dksX3_bad_0 1 rfl rfl)
theorem dX3_bad_2 : decode cX3_bad 2 = .ok (.getfield 142, 3) := dk_180 0 142 (dk_at dksX3_bad_0 2 rfl rfl)
theorem dX3_bad_5 : decode cX3_bad 5 = .ok (.iconst (-1), 1) := dk_2 (dk_at dksX3_bad_0 5 rfl rfl)
theorem dX3_bad_6 : decode cX3_bad 6 = .ok (.if_icmp .ne 10, 3) := dk_160 0 10 (dk_at dksX3_bad_0 6 rfl rfl)
theorem dX3_bad_9 : decode cX3_bad 9 = .ok (.aload_n 0, 1) := dk_42 (dk_at dksX3_bad_0 9 rfl rfl)
theorem dX3_bad_10 : decode cX3_bad 10 = .ok (.getfield 135, 3) := dk_180 0 135 (dk_at dksX3_bad_0 10 rfl rfl)
theorem dX3_bad_13 : decode cX3_bad 13 = .ok (.goto 7, 3) := dk_167 0 7 (dk_at dksX3_bad_0 13 rfl rfl)
theorem dX3_bad_16 : decode cX3_bad 16 = .ok (.aload_n 0, 1) := dk_42 (dk_at dksX3_bad_0 16 rfl rfl)
theorem dX3_bad_17 : decode cX3_bad 17 = .ok (.getfield 142, 3) := dk_180 0 142 (dk_at dksX3_bad_0 17 rfl rfl)
theorem dX3_bad_20 : decode cX3_bad 20 = .ok (.putfield 142, 3) := dk_181 0 142 (dk_at dksX3_bad_0 20 rfl rfl)
theorem dX3_bad_23 : decode cX3_bad 23 = .ok (.return_, 1) := dk_177 (dk_at dksX3_bad_0 23 rfl rfl)
abbrev cX3_isDigit : ByteArray := prog_26_method_11_code
def yX3_isDigit : MethodName := ⟨RX3, "isDigit", "(I)Z"⟩
def dkwX3_isDigit_0 : List UInt8 := [26, 16, 48, 161, 0, 13, 26, 16, 57, 163, 0, 7, 4, 167, 0, 4, 3, 172]
abbrev dktX3_isDigit_0 : List UInt8 := dkwX3_isDigit_0 ++ []
theorem dksX3_isDigit_0 : cX3_isDigit.data.toList.drop 0 = dktX3_isDigit_0 := by decide +kernel
theorem dX3_isDigit_0 : decode cX3_isDigit 0 = .ok (.iload_n 0, 1) := dk_26 (dk_at dksX3_isDigit_0 0 rfl rfl)
theorem dX3_isDigit_1 : decode cX3_isDigit 1 = .ok (.bipush 48, 2) := dk_16 48 (dk_at dksX3_isDigit_0 1 rfl rfl)
theorem dX3_isDigit_3 : decode cX3_isDigit 3 = .ok (.if_icmp .lt 13, 3) := dk_161 0 13 (dk_at dksX3_isDigit_0 3 rfl rfl)
theorem dX3_isDigit_6 : decode cX3_isDigit 6 = .ok (.iload_n 0, 1) := dk_26 (dk_at dksX3_isDigit_0 6 rfl rfl)
theorem dX3_isDigit_7 : decode cX3_isDigit 7 = .ok (.bipush 57, 2) := dk_16 57 (dk_at dksX3_isDigit_0 7 rfl rfl)
theorem dX3_isDigit_9 : decode cX3_isDigit 9 = .ok (.if_icmp .gt 7, 3) := dk_163 0 7 (dk_at dksX3_isDigit_0 9 rfl rfl)
theorem dX3_isDigit_12 : decode cX3_isDigit 12 = .ok (.iconst 1, 1) := dk_4 (dk_at dksX3_isDigit_0 12 rfl rfl)
theorem dX3_isDigit_13 : decode cX3_isDigit 13 = .ok (.goto 4, 3) := dk_167 0 4 (dk_at dksX3_isDigit_0 13 rfl rfl)
theorem dX3_isDigit_16 : decode cX3_isDigit 16 = .ok (.iconst 0, 1) := dk_3 (dk_at dksX3_isDigit_0 16 rfl rfl)
theorem dX3_isDigit_17 : decode cX3_isDigit 17 = .ok (.ireturn, 1) := dk_172 (dk_at dksX3_isDigit_0 17 rfl rfl)
abbrev cX3_newPoint : ByteArray := prog_26_method_14_code
def yX3_newPoint : MethodName := ⟨RX3, "newPoint", "()I"⟩
def dkwX3_newPoint_1 : List UInt8 := [180, 0, 158, 4, 100, 172]
abbrev dktX3_newPoint_1 : List UInt8 := dkwX3_newPoint_1 ++ []
def dkwX3_newPoint_0 : List UInt8 := [42, 180, 0, 52, 42, 180, 0, 158, 42, 180, 0, 158, 79, 42, 89, 180, 0, 158, 4, 96, 181, 0, 158, 42]
abbrev dktX3_newPoint_0 : List UInt8 := dkwX3_newPoint_0 ++ dktX3_newPoint_1
theorem dksX3_newPoint_0 : cX3_newPoint.data.toList.drop 0 = dktX3_newPoint_0 := by decide +kernel
theorem dksX3_newPoint_1 : cX3_newPoint.data.toList.drop 24 = dktX3_newPoint_1 := dk_seg dksX3_newPoint_0 24 rfl rfl
theorem dX3_newPoint_0 : decode cX3_newPoint 0 = .ok (.aload_n 0, 1) := dk_42 (dk_at dksX3_newPoint_0 0 rfl rfl)
theorem dX3_newPoint_1 : decode cX3_newPoint 1 = .ok (.getfield 52, 3) := dk_180 0 52 (dk_at dksX3_newPoint_0 1 rfl rfl)
theorem dX3_newPoint_4 : decode cX3_newPoint 4 = .ok (.aload_n 0, 1) := dk_42 (dk_at dksX3_newPoint_0 4 rfl rfl)
theorem dX3_newPoint_5 : decode cX3_newPoint 5 = .ok (.getfield 158, 3) := dk_180 0 158 (dk_at dksX3_newPoint_0 5 rfl rfl)
theorem dX3_newPoint_8 : decode cX3_newPoint 8 = .ok (.aload_n 0, 1) := dk_42 (dk_at dksX3_newPoint_0 8 rfl rfl)
theorem dX3_newPoint_9 : decode cX3_newPoint 9 = .ok (.getfield 158, 3) := dk_180 0 158 (dk_at dksX3_newPoint_0 9 rfl rfl)
theorem dX3_newPoint_12 : decode cX3_newPoint 12 = .ok (.iastore, 1) := dk_79 (dk_at dksX3_newPoint_0 12 rfl rfl)
theorem dX3_newPoint_13 : decode cX3_newPoint 13 = .ok (.aload_n 0, 1) := dk_42 (dk_at dksX3_newPoint_0 13 rfl rfl)
theorem dX3_newPoint_14 : decode cX3_newPoint 14 = .ok (.dup, 1) := dk_89 (dk_at dksX3_newPoint_0 14 rfl rfl)
theorem dX3_newPoint_15 : decode cX3_newPoint 15 = .ok (.getfield 158, 3) := dk_180 0 158 (dk_at dksX3_newPoint_0 15 rfl rfl)
theorem dX3_newPoint_18 : decode cX3_newPoint 18 = .ok (.iconst 1, 1) := dk_4 (dk_at dksX3_newPoint_0 18 rfl rfl)
theorem dX3_newPoint_19 : decode cX3_newPoint 19 = .ok (.iadd, 1) := dk_96 (dk_at dksX3_newPoint_0 19 rfl rfl)
theorem dX3_newPoint_20 : decode cX3_newPoint 20 = .ok (.putfield 158, 3) := dk_181 0 158 (dk_at dksX3_newPoint_0 20 rfl rfl)
theorem dX3_newPoint_23 : decode cX3_newPoint 23 = .ok (.aload_n 0, 1) := dk_42 (dk_at dksX3_newPoint_0 23 rfl rfl)
theorem dX3_newPoint_24 : decode cX3_newPoint 24 = .ok (.getfield 158, 3) := dk_180 0 158 (dk_at dksX3_newPoint_1 0 rfl rfl)
theorem dX3_newPoint_27 : decode cX3_newPoint 27 = .ok (.iconst 1, 1) := dk_4 (dk_at dksX3_newPoint_1 3 rfl rfl)
theorem dX3_newPoint_28 : decode cX3_newPoint 28 = .ok (.isub, 1) := dk_100 (dk_at dksX3_newPoint_1 4 rfl rfl)
theorem dX3_newPoint_29 : decode cX3_newPoint 29 = .ok (.ireturn, 1) := dk_172 (dk_at dksX3_newPoint_1 5 rfl rfl)
abbrev cX3_moves : ByteArray := prog_26_method_17_code
def yX3_moves : MethodName := ⟨RX3, "moves", "()V"⟩
def dkwX3_moves_6 : List UInt8 := [154, 0, 7, 42, 182, 0, 164, 177]
abbrev dktX3_moves_6 : List UInt8 := dkwX3_moves_6 ++ []
def dkwX3_moves_5 : List UInt8 := [182, 0, 190, 167, 0, 5, 3, 61, 27, 28, 153, 0, 7, 4, 167, 0, 4, 3, 96, 60, 167, 255, 127, 27]
abbrev dktX3_moves_5 : List UInt8 := dkwX3_moves_5 ++ dktX3_moves_6
def dkwX3_moves_4 : List UInt8 := [29, 16, 97, 100, 46, 42, 180, 0, 171, 182, 0, 186, 167, 0, 18, 29, 16, 40, 160, 0, 10, 42]
abbrev dktX3_moves_4 : List UInt8 := dkwX3_moves_4 ++ dktX3_moves_5
def dkwX3_moves_3 : List UInt8 := [160, 0, 19, 42, 180, 0, 55, 29, 16, 97, 100, 42, 180, 0, 171, 79, 167, 0, 38, 42, 42, 180, 0, 55]
abbrev dktX3_moves_3 : List UInt8 := dkwX3_moves_3 ++ dktX3_moves_4
def dkwX3_moves_2 : List UInt8 := [163, 0, 62, 42, 89, 180, 0, 135, 4, 96, 181, 0, 135, 42, 180, 0, 55, 29, 16, 97, 100, 46, 2]
abbrev dktX3_moves_2 : List UInt8 := dkwX3_moves_2 ++ dktX3_moves_3
def dkwX3_moves_1 : List UInt8 := [184, 0, 167, 153, 0, 10, 42, 182, 0, 183, 167, 0, 89, 29, 16, 97, 161, 0, 68, 29, 16, 104]
abbrev dktX3_moves_1 : List UInt8 := dkwX3_moves_1 ++ dktX3_moves_2
def dkwX3_moves_0 : List UInt8 := [3, 60, 4, 61, 28, 153, 0, 131, 42, 180, 0, 142, 2, 160, 0, 123, 42, 182, 0, 180, 62, 29]
abbrev dktX3_moves_0 : List UInt8 := dkwX3_moves_0 ++ dktX3_moves_1
theorem dksX3_moves_0 : cX3_moves.data.toList.drop 0 = dktX3_moves_0 := by decide +kernel
theorem dksX3_moves_1 : cX3_moves.data.toList.drop 22 = dktX3_moves_1 := dk_seg dksX3_moves_0 22 rfl rfl
theorem dksX3_moves_2 : cX3_moves.data.toList.drop 44 = dktX3_moves_2 := dk_seg dksX3_moves_1 22 rfl rfl
theorem dksX3_moves_3 : cX3_moves.data.toList.drop 67 = dktX3_moves_3 := dk_seg dksX3_moves_2 23 rfl rfl
theorem dksX3_moves_4 : cX3_moves.data.toList.drop 91 = dktX3_moves_4 := dk_seg dksX3_moves_3 24 rfl rfl
theorem dksX3_moves_5 : cX3_moves.data.toList.drop 113 = dktX3_moves_5 := dk_seg dksX3_moves_4 22 rfl rfl
theorem dksX3_moves_6 : cX3_moves.data.toList.drop 137 = dktX3_moves_6 := dk_seg dksX3_moves_5 24 rfl rfl
theorem dX3_moves_0 : decode cX3_moves 0 = .ok (.iconst 0, 1) := dk_3 (dk_at dksX3_moves_0 0 rfl rfl)
theorem dX3_moves_1 : decode cX3_moves 1 = .ok (.istore_n 1, 1) := dk_60 (dk_at dksX3_moves_0 1 rfl rfl)
theorem dX3_moves_2 : decode cX3_moves 2 = .ok (.iconst 1, 1) := dk_4 (dk_at dksX3_moves_0 2 rfl rfl)
theorem dX3_moves_3 : decode cX3_moves 3 = .ok (.istore_n 2, 1) := dk_61 (dk_at dksX3_moves_0 3 rfl rfl)
theorem dX3_moves_4 : decode cX3_moves 4 = .ok (.iload_n 2, 1) := dk_28 (dk_at dksX3_moves_0 4 rfl rfl)
theorem dX3_moves_5 : decode cX3_moves 5 = .ok (.ifCond .eq 131, 3) := dk_153 0 131 (dk_at dksX3_moves_0 5 rfl rfl)
theorem dX3_moves_8 : decode cX3_moves 8 = .ok (.aload_n 0, 1) := dk_42 (dk_at dksX3_moves_0 8 rfl rfl)
theorem dX3_moves_9 : decode cX3_moves 9 = .ok (.getfield 142, 3) := dk_180 0 142 (dk_at dksX3_moves_0 9 rfl rfl)
theorem dX3_moves_12 : decode cX3_moves 12 = .ok (.iconst (-1), 1) := dk_2 (dk_at dksX3_moves_0 12 rfl rfl)
theorem dX3_moves_13 : decode cX3_moves 13 = .ok (.if_icmp .ne 123, 3) := dk_160 0 123 (dk_at dksX3_moves_0 13 rfl rfl)
theorem dX3_moves_16 : decode cX3_moves 16 = .ok (.aload_n 0, 1) := dk_42 (dk_at dksX3_moves_0 16 rfl rfl)
theorem dX3_moves_17 : decode cX3_moves 17 = .ok (.invokevirtual 180, 3) := dk_182 0 180 (dk_at dksX3_moves_0 17 rfl rfl)
theorem dX3_moves_20 : decode cX3_moves 20 = .ok (.istore_n 3, 1) := dk_62 (dk_at dksX3_moves_0 20 rfl rfl)
theorem dX3_moves_21 : decode cX3_moves 21 = .ok (.iload_n 3, 1) := dk_29 (dk_at dksX3_moves_0 21 rfl rfl)
theorem dX3_moves_22 : decode cX3_moves 22 = .ok (.invokestatic 167, 3) := dk_184 0 167 (dk_at dksX3_moves_1 0 rfl rfl)
theorem dX3_moves_25 : decode cX3_moves 25 = .ok (.ifCond .eq 10, 3) := dk_153 0 10 (dk_at dksX3_moves_1 3 rfl rfl)
theorem dX3_moves_28 : decode cX3_moves 28 = .ok (.aload_n 0, 1) := dk_42 (dk_at dksX3_moves_1 6 rfl rfl)
theorem dX3_moves_29 : decode cX3_moves 29 = .ok (.invokevirtual 183, 3) := dk_182 0 183 (dk_at dksX3_moves_1 7 rfl rfl)
theorem dX3_moves_32 : decode cX3_moves 32 = .ok (.goto 89, 3) := dk_167 0 89 (dk_at dksX3_moves_1 10 rfl rfl)
theorem dX3_moves_35 : decode cX3_moves 35 = .ok (.iload_n 3, 1) := dk_29 (dk_at dksX3_moves_1 13 rfl rfl)
theorem dX3_moves_36 : decode cX3_moves 36 = .ok (.bipush 97, 2) := dk_16 97 (dk_at dksX3_moves_1 14 rfl rfl)
theorem dX3_moves_38 : decode cX3_moves 38 = .ok (.if_icmp .lt 68, 3) := dk_161 0 68 (dk_at dksX3_moves_1 16 rfl rfl)
theorem dX3_moves_41 : decode cX3_moves 41 = .ok (.iload_n 3, 1) := dk_29 (dk_at dksX3_moves_1 19 rfl rfl)
theorem dX3_moves_42 : decode cX3_moves 42 = .ok (.bipush 104, 2) := dk_16 104 (dk_at dksX3_moves_1 20 rfl rfl)
theorem dX3_moves_44 : decode cX3_moves 44 = .ok (.if_icmp .gt 62, 3) := dk_163 0 62 (dk_at dksX3_moves_2 0 rfl rfl)
theorem dX3_moves_47 : decode cX3_moves 47 = .ok (.aload_n 0, 1) := dk_42 (dk_at dksX3_moves_2 3 rfl rfl)
theorem dX3_moves_48 : decode cX3_moves 48 = .ok (.dup, 1) := dk_89 (dk_at dksX3_moves_2 4 rfl rfl)
theorem dX3_moves_49 : decode cX3_moves 49 = .ok (.getfield 135, 3) := dk_180 0 135 (dk_at dksX3_moves_2 5 rfl rfl)
theorem dX3_moves_52 : decode cX3_moves 52 = .ok (.iconst 1, 1) := dk_4 (dk_at dksX3_moves_2 8 rfl rfl)
theorem dX3_moves_53 : decode cX3_moves 53 = .ok (.iadd, 1) := dk_96 (dk_at dksX3_moves_2 9 rfl rfl)
theorem dX3_moves_54 : decode cX3_moves 54 = .ok (.putfield 135, 3) := dk_181 0 135 (dk_at dksX3_moves_2 10 rfl rfl)
theorem dX3_moves_57 : decode cX3_moves 57 = .ok (.aload_n 0, 1) := dk_42 (dk_at dksX3_moves_2 13 rfl rfl)
theorem dX3_moves_58 : decode cX3_moves 58 = .ok (.getfield 55, 3) := dk_180 0 55 (dk_at dksX3_moves_2 14 rfl rfl)
theorem dX3_moves_61 : decode cX3_moves 61 = .ok (.iload_n 3, 1) := dk_29 (dk_at dksX3_moves_2 17 rfl rfl)
theorem dX3_moves_62 : decode cX3_moves 62 = .ok (.bipush 97, 2) := dk_16 97 (dk_at dksX3_moves_2 18 rfl rfl)
theorem dX3_moves_64 : decode cX3_moves 64 = .ok (.isub, 1) := dk_100 (dk_at dksX3_moves_2 20 rfl rfl)
theorem dX3_moves_65 : decode cX3_moves 65 = .ok (.iaload, 1) := dk_46 (dk_at dksX3_moves_2 21 rfl rfl)
theorem dX3_moves_66 : decode cX3_moves 66 = .ok (.iconst (-1), 1) := dk_2 (dk_at dksX3_moves_2 22 rfl rfl)
theorem dX3_moves_67 : decode cX3_moves 67 = .ok (.if_icmp .ne 19, 3) := dk_160 0 19 (dk_at dksX3_moves_3 0 rfl rfl)
theorem dX3_moves_70 : decode cX3_moves 70 = .ok (.aload_n 0, 1) := dk_42 (dk_at dksX3_moves_3 3 rfl rfl)
theorem dX3_moves_71 : decode cX3_moves 71 = .ok (.getfield 55, 3) := dk_180 0 55 (dk_at dksX3_moves_3 4 rfl rfl)
theorem dX3_moves_74 : decode cX3_moves 74 = .ok (.iload_n 3, 1) := dk_29 (dk_at dksX3_moves_3 7 rfl rfl)
theorem dX3_moves_75 : decode cX3_moves 75 = .ok (.bipush 97, 2) := dk_16 97 (dk_at dksX3_moves_3 8 rfl rfl)
theorem dX3_moves_77 : decode cX3_moves 77 = .ok (.isub, 1) := dk_100 (dk_at dksX3_moves_3 10 rfl rfl)
theorem dX3_moves_78 : decode cX3_moves 78 = .ok (.aload_n 0, 1) := dk_42 (dk_at dksX3_moves_3 11 rfl rfl)
theorem dX3_moves_79 : decode cX3_moves 79 = .ok (.getfield 171, 3) := dk_180 0 171 (dk_at dksX3_moves_3 12 rfl rfl)
theorem dX3_moves_82 : decode cX3_moves 82 = .ok (.iastore, 1) := dk_79 (dk_at dksX3_moves_3 15 rfl rfl)
theorem dX3_moves_83 : decode cX3_moves 83 = .ok (.goto 38, 3) := dk_167 0 38 (dk_at dksX3_moves_3 16 rfl rfl)
theorem dX3_moves_86 : decode cX3_moves 86 = .ok (.aload_n 0, 1) := dk_42 (dk_at dksX3_moves_3 19 rfl rfl)
theorem dX3_moves_87 : decode cX3_moves 87 = .ok (.aload_n 0, 1) := dk_42 (dk_at dksX3_moves_3 20 rfl rfl)
theorem dX3_moves_88 : decode cX3_moves 88 = .ok (.getfield 55, 3) := dk_180 0 55 (dk_at dksX3_moves_3 21 rfl rfl)
theorem dX3_moves_91 : decode cX3_moves 91 = .ok (.iload_n 3, 1) := dk_29 (dk_at dksX3_moves_4 0 rfl rfl)
theorem dX3_moves_92 : decode cX3_moves 92 = .ok (.bipush 97, 2) := dk_16 97 (dk_at dksX3_moves_4 1 rfl rfl)
theorem dX3_moves_94 : decode cX3_moves 94 = .ok (.isub, 1) := dk_100 (dk_at dksX3_moves_4 3 rfl rfl)
theorem dX3_moves_95 : decode cX3_moves 95 = .ok (.iaload, 1) := dk_46 (dk_at dksX3_moves_4 4 rfl rfl)
theorem dX3_moves_96 : decode cX3_moves 96 = .ok (.aload_n 0, 1) := dk_42 (dk_at dksX3_moves_4 5 rfl rfl)
theorem dX3_moves_97 : decode cX3_moves 97 = .ok (.getfield 171, 3) := dk_180 0 171 (dk_at dksX3_moves_4 6 rfl rfl)
theorem dX3_moves_100 : decode cX3_moves 100 = .ok (.invokevirtual 186, 3) := dk_182 0 186 (dk_at dksX3_moves_4 9 rfl rfl)
theorem dX3_moves_103 : decode cX3_moves 103 = .ok (.goto 18, 3) := dk_167 0 18 (dk_at dksX3_moves_4 12 rfl rfl)
theorem dX3_moves_106 : decode cX3_moves 106 = .ok (.iload_n 3, 1) := dk_29 (dk_at dksX3_moves_4 15 rfl rfl)
theorem dX3_moves_107 : decode cX3_moves 107 = .ok (.bipush 40, 2) := dk_16 40 (dk_at dksX3_moves_4 16 rfl rfl)
theorem dX3_moves_109 : decode cX3_moves 109 = .ok (.if_icmp .ne 10, 3) := dk_160 0 10 (dk_at dksX3_moves_4 18 rfl rfl)
theorem dX3_moves_112 : decode cX3_moves 112 = .ok (.aload_n 0, 1) := dk_42 (dk_at dksX3_moves_4 21 rfl rfl)
theorem dX3_moves_113 : decode cX3_moves 113 = .ok (.invokevirtual 190, 3) := dk_182 0 190 (dk_at dksX3_moves_5 0 rfl rfl)
theorem dX3_moves_116 : decode cX3_moves 116 = .ok (.goto 5, 3) := dk_167 0 5 (dk_at dksX3_moves_5 3 rfl rfl)
theorem dX3_moves_119 : decode cX3_moves 119 = .ok (.iconst 0, 1) := dk_3 (dk_at dksX3_moves_5 6 rfl rfl)
theorem dX3_moves_120 : decode cX3_moves 120 = .ok (.istore_n 2, 1) := dk_61 (dk_at dksX3_moves_5 7 rfl rfl)
theorem dX3_moves_121 : decode cX3_moves 121 = .ok (.iload_n 1, 1) := dk_27 (dk_at dksX3_moves_5 8 rfl rfl)
theorem dX3_moves_122 : decode cX3_moves 122 = .ok (.iload_n 2, 1) := dk_28 (dk_at dksX3_moves_5 9 rfl rfl)
theorem dX3_moves_123 : decode cX3_moves 123 = .ok (.ifCond .eq 7, 3) := dk_153 0 7 (dk_at dksX3_moves_5 10 rfl rfl)
theorem dX3_moves_126 : decode cX3_moves 126 = .ok (.iconst 1, 1) := dk_4 (dk_at dksX3_moves_5 13 rfl rfl)
theorem dX3_moves_127 : decode cX3_moves 127 = .ok (.goto 4, 3) := dk_167 0 4 (dk_at dksX3_moves_5 14 rfl rfl)
theorem dX3_moves_130 : decode cX3_moves 130 = .ok (.iconst 0, 1) := dk_3 (dk_at dksX3_moves_5 17 rfl rfl)
theorem dX3_moves_131 : decode cX3_moves 131 = .ok (.iadd, 1) := dk_96 (dk_at dksX3_moves_5 18 rfl rfl)
theorem dX3_moves_132 : decode cX3_moves 132 = .ok (.istore_n 1, 1) := dk_60 (dk_at dksX3_moves_5 19 rfl rfl)
theorem dX3_moves_133 : decode cX3_moves 133 = .ok (.goto (-129), 3) := dk_167 255 127 (dk_at dksX3_moves_5 20 rfl rfl)
theorem dX3_moves_136 : decode cX3_moves 136 = .ok (.iload_n 1, 1) := dk_27 (dk_at dksX3_moves_5 23 rfl rfl)
theorem dX3_moves_137 : decode cX3_moves 137 = .ok (.ifCond .ne 7, 3) := dk_154 0 7 (dk_at dksX3_moves_6 0 rfl rfl)
theorem dX3_moves_140 : decode cX3_moves 140 = .ok (.aload_n 0, 1) := dk_42 (dk_at dksX3_moves_6 3 rfl rfl)
theorem dX3_moves_141 : decode cX3_moves 141 = .ok (.invokevirtual 164, 3) := dk_182 0 164 (dk_at dksX3_moves_6 4 rfl rfl)
theorem dX3_moves_144 : decode cX3_moves 144 = .ok (.return_, 1) := dk_177 (dk_at dksX3_moves_6 7 rfl rfl)
abbrev cX3_bubble : ByteArray := prog_26_method_15_code
def yX3_bubble : MethodName := ⟨RX3, "bubble", "()V"⟩
def dkwX3_bubble_9 : List UInt8 := [182, 0, 177, 184, 0, 149, 79, 177]
abbrev dktX3_bubble_9 : List UInt8 := dkwX3_bubble_9 ++ []
def dkwX3_bubble_8 : List UInt8 := [92, 46, 4, 96, 79, 42, 180, 0, 49, 42, 180, 0, 161, 42, 180, 0, 49, 42, 180, 0, 161, 46, 42]
abbrev dktX3_bubble_8 : List UInt8 := dkwX3_bubble_8 ++ dktX3_bubble_9
def dkwX3_bubble_7 : List UInt8 := [182, 0, 174, 181, 0, 171, 42, 180, 0, 43, 28, 42, 180, 0, 171, 79, 42, 180, 0, 31, 42, 180, 0, 161]
abbrev dktX3_bubble_7 : List UInt8 := dkwX3_bubble_7 ++ dktX3_bubble_8
def dkwX3_bubble_6 : List UInt8 := [180, 0, 25, 42, 180, 0, 161, 46, 4, 100, 79, 42, 180, 0, 40, 28, 42, 180, 0, 171, 79, 42, 42]
abbrev dktX3_bubble_6 : List UInt8 := dkwX3_bubble_6 ++ dktX3_bubble_7
def dkwX3_bubble_5 : List UInt8 := [180, 0, 31, 42, 180, 0, 161, 46, 96, 61, 42, 180, 0, 37, 28, 27, 79, 42, 180, 0, 46, 28, 42]
abbrev dktX3_bubble_5 : List UInt8 := dkwX3_bubble_5 ++ dktX3_bubble_6
def dkwX3_bubble_4 : List UInt8 := [42, 182, 0, 138, 184, 0, 167, 153, 0, 8, 42, 182, 0, 164, 177, 16, 24, 42, 180, 0, 161, 104, 42]
abbrev dktX3_bubble_4 : List UInt8 := dkwX3_bubble_4 ++ dktX3_bubble_5
def dkwX3_bubble_3 : List UInt8 := [4, 16, 30, 184, 0, 121, 154, 0, 18, 42, 89, 180, 0, 135, 4, 100, 181, 0, 135, 42, 182, 0, 164, 177]
abbrev dktX3_bubble_3 : List UInt8 := dkwX3_bubble_3 ++ dktX3_bubble_4
def dkwX3_bubble_2 : List UInt8 := [16, 10, 27, 104, 42, 182, 0, 138, 96, 16, 48, 100, 60, 42, 89, 180, 0, 135, 4, 96, 181, 0, 135, 27]
abbrev dktX3_bubble_2 : List UInt8 := dkwX3_bubble_2 ++ dktX3_bubble_3
def dkwX3_bubble_1 : List UInt8 := [16, 48, 100, 60, 42, 89, 180, 0, 135, 4, 96, 181, 0, 135, 42, 182, 0, 138, 184, 0, 167, 153, 0, 26]
abbrev dktX3_bubble_1 : List UInt8 := dkwX3_bubble_1 ++ dktX3_bubble_2
def dkwX3_bubble_0 : List UInt8 := [42, 180, 0, 31, 42, 180, 0, 161, 46, 16, 24, 160, 0, 8, 42, 182, 0, 164, 177, 42, 182, 0, 138]
abbrev dktX3_bubble_0 : List UInt8 := dkwX3_bubble_0 ++ dktX3_bubble_1
theorem dksX3_bubble_0 : cX3_bubble.data.toList.drop 0 = dktX3_bubble_0 := by decide +kernel
theorem dksX3_bubble_1 : cX3_bubble.data.toList.drop 23 = dktX3_bubble_1 := dk_seg dksX3_bubble_0 23 rfl rfl
theorem dksX3_bubble_2 : cX3_bubble.data.toList.drop 47 = dktX3_bubble_2 := dk_seg dksX3_bubble_1 24 rfl rfl
theorem dksX3_bubble_3 : cX3_bubble.data.toList.drop 71 = dktX3_bubble_3 := dk_seg dksX3_bubble_2 24 rfl rfl
theorem dksX3_bubble_4 : cX3_bubble.data.toList.drop 95 = dktX3_bubble_4 := dk_seg dksX3_bubble_3 24 rfl rfl
theorem dksX3_bubble_5 : cX3_bubble.data.toList.drop 118 = dktX3_bubble_5 := dk_seg dksX3_bubble_4 23 rfl rfl
theorem dksX3_bubble_6 : cX3_bubble.data.toList.drop 141 = dktX3_bubble_6 := dk_seg dksX3_bubble_5 23 rfl rfl
theorem dksX3_bubble_7 : cX3_bubble.data.toList.drop 164 = dktX3_bubble_7 := dk_seg dksX3_bubble_6 23 rfl rfl
theorem dksX3_bubble_8 : cX3_bubble.data.toList.drop 188 = dktX3_bubble_8 := dk_seg dksX3_bubble_7 24 rfl rfl
theorem dksX3_bubble_9 : cX3_bubble.data.toList.drop 211 = dktX3_bubble_9 := dk_seg dksX3_bubble_8 23 rfl rfl
theorem dX3_bubble_0 : decode cX3_bubble 0 = .ok (.aload_n 0, 1) := dk_42 (dk_at dksX3_bubble_0 0 rfl rfl)
theorem dX3_bubble_1 : decode cX3_bubble 1 = .ok (.getfield 31, 3) := dk_180 0 31 (dk_at dksX3_bubble_0 1 rfl rfl)
theorem dX3_bubble_4 : decode cX3_bubble 4 = .ok (.aload_n 0, 1) := dk_42 (dk_at dksX3_bubble_0 4 rfl rfl)
theorem dX3_bubble_5 : decode cX3_bubble 5 = .ok (.getfield 161, 3) := dk_180 0 161 (dk_at dksX3_bubble_0 5 rfl rfl)
theorem dX3_bubble_8 : decode cX3_bubble 8 = .ok (.iaload, 1) := dk_46 (dk_at dksX3_bubble_0 8 rfl rfl)
theorem dX3_bubble_9 : decode cX3_bubble 9 = .ok (.bipush 24, 2) := dk_16 24 (dk_at dksX3_bubble_0 9 rfl rfl)
theorem dX3_bubble_11 : decode cX3_bubble 11 = .ok (.if_icmp .ne 8, 3) := dk_160 0 8 (dk_at dksX3_bubble_0 11 rfl rfl)
theorem dX3_bubble_14 : decode cX3_bubble 14 = .ok (.aload_n 0, 1) := dk_42 (dk_at dksX3_bubble_0 14 rfl rfl)
theorem dX3_bubble_15 : decode cX3_bubble 15 = .ok (.invokevirtual 164, 3) := dk_182 0 164 (dk_at dksX3_bubble_0 15 rfl rfl)
theorem dX3_bubble_18 : decode cX3_bubble 18 = .ok (.return_, 1) := dk_177 (dk_at dksX3_bubble_0 18 rfl rfl)
theorem dX3_bubble_19 : decode cX3_bubble 19 = .ok (.aload_n 0, 1) := dk_42 (dk_at dksX3_bubble_0 19 rfl rfl)
theorem dX3_bubble_20 : decode cX3_bubble 20 = .ok (.invokevirtual 138, 3) := dk_182 0 138 (dk_at dksX3_bubble_0 20 rfl rfl)
theorem dX3_bubble_23 : decode cX3_bubble 23 = .ok (.bipush 48, 2) := dk_16 48 (dk_at dksX3_bubble_1 0 rfl rfl)
theorem dX3_bubble_25 : decode cX3_bubble 25 = .ok (.isub, 1) := dk_100 (dk_at dksX3_bubble_1 2 rfl rfl)
theorem dX3_bubble_26 : decode cX3_bubble 26 = .ok (.istore_n 1, 1) := dk_60 (dk_at dksX3_bubble_1 3 rfl rfl)
theorem dX3_bubble_27 : decode cX3_bubble 27 = .ok (.aload_n 0, 1) := dk_42 (dk_at dksX3_bubble_1 4 rfl rfl)
theorem dX3_bubble_28 : decode cX3_bubble 28 = .ok (.dup, 1) := dk_89 (dk_at dksX3_bubble_1 5 rfl rfl)
theorem dX3_bubble_29 : decode cX3_bubble 29 = .ok (.getfield 135, 3) := dk_180 0 135 (dk_at dksX3_bubble_1 6 rfl rfl)
theorem dX3_bubble_32 : decode cX3_bubble 32 = .ok (.iconst 1, 1) := dk_4 (dk_at dksX3_bubble_1 9 rfl rfl)
theorem dX3_bubble_33 : decode cX3_bubble 33 = .ok (.iadd, 1) := dk_96 (dk_at dksX3_bubble_1 10 rfl rfl)
theorem dX3_bubble_34 : decode cX3_bubble 34 = .ok (.putfield 135, 3) := dk_181 0 135 (dk_at dksX3_bubble_1 11 rfl rfl)
theorem dX3_bubble_37 : decode cX3_bubble 37 = .ok (.aload_n 0, 1) := dk_42 (dk_at dksX3_bubble_1 14 rfl rfl)
theorem dX3_bubble_38 : decode cX3_bubble 38 = .ok (.invokevirtual 138, 3) := dk_182 0 138 (dk_at dksX3_bubble_1 15 rfl rfl)
theorem dX3_bubble_41 : decode cX3_bubble 41 = .ok (.invokestatic 167, 3) := dk_184 0 167 (dk_at dksX3_bubble_1 18 rfl rfl)
theorem dX3_bubble_44 : decode cX3_bubble 44 = .ok (.ifCond .eq 26, 3) := dk_153 0 26 (dk_at dksX3_bubble_1 21 rfl rfl)
theorem dX3_bubble_47 : decode cX3_bubble 47 = .ok (.bipush 10, 2) := dk_16 10 (dk_at dksX3_bubble_2 0 rfl rfl)
theorem dX3_bubble_49 : decode cX3_bubble 49 = .ok (.iload_n 1, 1) := dk_27 (dk_at dksX3_bubble_2 2 rfl rfl)
theorem dX3_bubble_50 : decode cX3_bubble 50 = .ok (.imul, 1) := dk_104 (dk_at dksX3_bubble_2 3 rfl rfl)
theorem dX3_bubble_51 : decode cX3_bubble 51 = .ok (.aload_n 0, 1) := dk_42 (dk_at dksX3_bubble_2 4 rfl rfl)
theorem dX3_bubble_52 : decode cX3_bubble 52 = .ok (.invokevirtual 138, 3) := dk_182 0 138 (dk_at dksX3_bubble_2 5 rfl rfl)
theorem dX3_bubble_55 : decode cX3_bubble 55 = .ok (.iadd, 1) := dk_96 (dk_at dksX3_bubble_2 8 rfl rfl)
theorem dX3_bubble_56 : decode cX3_bubble 56 = .ok (.bipush 48, 2) := dk_16 48 (dk_at dksX3_bubble_2 9 rfl rfl)
theorem dX3_bubble_58 : decode cX3_bubble 58 = .ok (.isub, 1) := dk_100 (dk_at dksX3_bubble_2 11 rfl rfl)
theorem dX3_bubble_59 : decode cX3_bubble 59 = .ok (.istore_n 1, 1) := dk_60 (dk_at dksX3_bubble_2 12 rfl rfl)
theorem dX3_bubble_60 : decode cX3_bubble 60 = .ok (.aload_n 0, 1) := dk_42 (dk_at dksX3_bubble_2 13 rfl rfl)
theorem dX3_bubble_61 : decode cX3_bubble 61 = .ok (.dup, 1) := dk_89 (dk_at dksX3_bubble_2 14 rfl rfl)
theorem dX3_bubble_62 : decode cX3_bubble 62 = .ok (.getfield 135, 3) := dk_180 0 135 (dk_at dksX3_bubble_2 15 rfl rfl)
theorem dX3_bubble_65 : decode cX3_bubble 65 = .ok (.iconst 1, 1) := dk_4 (dk_at dksX3_bubble_2 18 rfl rfl)
theorem dX3_bubble_66 : decode cX3_bubble 66 = .ok (.iadd, 1) := dk_96 (dk_at dksX3_bubble_2 19 rfl rfl)
theorem dX3_bubble_67 : decode cX3_bubble 67 = .ok (.putfield 135, 3) := dk_181 0 135 (dk_at dksX3_bubble_2 20 rfl rfl)
theorem dX3_bubble_70 : decode cX3_bubble 70 = .ok (.iload_n 1, 1) := dk_27 (dk_at dksX3_bubble_2 23 rfl rfl)
theorem dX3_bubble_71 : decode cX3_bubble 71 = .ok (.iconst 1, 1) := dk_4 (dk_at dksX3_bubble_3 0 rfl rfl)
theorem dX3_bubble_72 : decode cX3_bubble 72 = .ok (.bipush 30, 2) := dk_16 30 (dk_at dksX3_bubble_3 1 rfl rfl)
theorem dX3_bubble_74 : decode cX3_bubble 74 = .ok (.invokestatic 121, 3) := dk_184 0 121 (dk_at dksX3_bubble_3 3 rfl rfl)
theorem dX3_bubble_77 : decode cX3_bubble 77 = .ok (.ifCond .ne 18, 3) := dk_154 0 18 (dk_at dksX3_bubble_3 6 rfl rfl)
theorem dX3_bubble_80 : decode cX3_bubble 80 = .ok (.aload_n 0, 1) := dk_42 (dk_at dksX3_bubble_3 9 rfl rfl)
theorem dX3_bubble_81 : decode cX3_bubble 81 = .ok (.dup, 1) := dk_89 (dk_at dksX3_bubble_3 10 rfl rfl)
theorem dX3_bubble_82 : decode cX3_bubble 82 = .ok (.getfield 135, 3) := dk_180 0 135 (dk_at dksX3_bubble_3 11 rfl rfl)
theorem dX3_bubble_85 : decode cX3_bubble 85 = .ok (.iconst 1, 1) := dk_4 (dk_at dksX3_bubble_3 14 rfl rfl)
theorem dX3_bubble_86 : decode cX3_bubble 86 = .ok (.isub, 1) := dk_100 (dk_at dksX3_bubble_3 15 rfl rfl)
theorem dX3_bubble_87 : decode cX3_bubble 87 = .ok (.putfield 135, 3) := dk_181 0 135 (dk_at dksX3_bubble_3 16 rfl rfl)
theorem dX3_bubble_90 : decode cX3_bubble 90 = .ok (.aload_n 0, 1) := dk_42 (dk_at dksX3_bubble_3 19 rfl rfl)
theorem dX3_bubble_91 : decode cX3_bubble 91 = .ok (.invokevirtual 164, 3) := dk_182 0 164 (dk_at dksX3_bubble_3 20 rfl rfl)
theorem dX3_bubble_94 : decode cX3_bubble 94 = .ok (.return_, 1) := dk_177 (dk_at dksX3_bubble_3 23 rfl rfl)
theorem dX3_bubble_95 : decode cX3_bubble 95 = .ok (.aload_n 0, 1) := dk_42 (dk_at dksX3_bubble_4 0 rfl rfl)
theorem dX3_bubble_96 : decode cX3_bubble 96 = .ok (.invokevirtual 138, 3) := dk_182 0 138 (dk_at dksX3_bubble_4 1 rfl rfl)
theorem dX3_bubble_99 : decode cX3_bubble 99 = .ok (.invokestatic 167, 3) := dk_184 0 167 (dk_at dksX3_bubble_4 4 rfl rfl)
theorem dX3_bubble_102 : decode cX3_bubble 102 = .ok (.ifCond .eq 8, 3) := dk_153 0 8 (dk_at dksX3_bubble_4 7 rfl rfl)
theorem dX3_bubble_105 : decode cX3_bubble 105 = .ok (.aload_n 0, 1) := dk_42 (dk_at dksX3_bubble_4 10 rfl rfl)
theorem dX3_bubble_106 : decode cX3_bubble 106 = .ok (.invokevirtual 164, 3) := dk_182 0 164 (dk_at dksX3_bubble_4 11 rfl rfl)
theorem dX3_bubble_109 : decode cX3_bubble 109 = .ok (.return_, 1) := dk_177 (dk_at dksX3_bubble_4 14 rfl rfl)
theorem dX3_bubble_110 : decode cX3_bubble 110 = .ok (.bipush 24, 2) := dk_16 24 (dk_at dksX3_bubble_4 15 rfl rfl)
theorem dX3_bubble_112 : decode cX3_bubble 112 = .ok (.aload_n 0, 1) := dk_42 (dk_at dksX3_bubble_4 17 rfl rfl)
theorem dX3_bubble_113 : decode cX3_bubble 113 = .ok (.getfield 161, 3) := dk_180 0 161 (dk_at dksX3_bubble_4 18 rfl rfl)
theorem dX3_bubble_116 : decode cX3_bubble 116 = .ok (.imul, 1) := dk_104 (dk_at dksX3_bubble_4 21 rfl rfl)
theorem dX3_bubble_117 : decode cX3_bubble 117 = .ok (.aload_n 0, 1) := dk_42 (dk_at dksX3_bubble_4 22 rfl rfl)
theorem dX3_bubble_118 : decode cX3_bubble 118 = .ok (.getfield 31, 3) := dk_180 0 31 (dk_at dksX3_bubble_5 0 rfl rfl)
theorem dX3_bubble_121 : decode cX3_bubble 121 = .ok (.aload_n 0, 1) := dk_42 (dk_at dksX3_bubble_5 3 rfl rfl)
theorem dX3_bubble_122 : decode cX3_bubble 122 = .ok (.getfield 161, 3) := dk_180 0 161 (dk_at dksX3_bubble_5 4 rfl rfl)
theorem dX3_bubble_125 : decode cX3_bubble 125 = .ok (.iaload, 1) := dk_46 (dk_at dksX3_bubble_5 7 rfl rfl)
theorem dX3_bubble_126 : decode cX3_bubble 126 = .ok (.iadd, 1) := dk_96 (dk_at dksX3_bubble_5 8 rfl rfl)
theorem dX3_bubble_127 : decode cX3_bubble 127 = .ok (.istore_n 2, 1) := dk_61 (dk_at dksX3_bubble_5 9 rfl rfl)
theorem dX3_bubble_128 : decode cX3_bubble 128 = .ok (.aload_n 0, 1) := dk_42 (dk_at dksX3_bubble_5 10 rfl rfl)
theorem dX3_bubble_129 : decode cX3_bubble 129 = .ok (.getfield 37, 3) := dk_180 0 37 (dk_at dksX3_bubble_5 11 rfl rfl)
theorem dX3_bubble_132 : decode cX3_bubble 132 = .ok (.iload_n 2, 1) := dk_28 (dk_at dksX3_bubble_5 14 rfl rfl)
theorem dX3_bubble_133 : decode cX3_bubble 133 = .ok (.iload_n 1, 1) := dk_27 (dk_at dksX3_bubble_5 15 rfl rfl)
theorem dX3_bubble_134 : decode cX3_bubble 134 = .ok (.iastore, 1) := dk_79 (dk_at dksX3_bubble_5 16 rfl rfl)
theorem dX3_bubble_135 : decode cX3_bubble 135 = .ok (.aload_n 0, 1) := dk_42 (dk_at dksX3_bubble_5 17 rfl rfl)
theorem dX3_bubble_136 : decode cX3_bubble 136 = .ok (.getfield 46, 3) := dk_180 0 46 (dk_at dksX3_bubble_5 18 rfl rfl)
theorem dX3_bubble_139 : decode cX3_bubble 139 = .ok (.iload_n 2, 1) := dk_28 (dk_at dksX3_bubble_5 21 rfl rfl)
theorem dX3_bubble_140 : decode cX3_bubble 140 = .ok (.aload_n 0, 1) := dk_42 (dk_at dksX3_bubble_5 22 rfl rfl)
theorem dX3_bubble_141 : decode cX3_bubble 141 = .ok (.getfield 25, 3) := dk_180 0 25 (dk_at dksX3_bubble_6 0 rfl rfl)
theorem dX3_bubble_144 : decode cX3_bubble 144 = .ok (.aload_n 0, 1) := dk_42 (dk_at dksX3_bubble_6 3 rfl rfl)
theorem dX3_bubble_145 : decode cX3_bubble 145 = .ok (.getfield 161, 3) := dk_180 0 161 (dk_at dksX3_bubble_6 4 rfl rfl)
theorem dX3_bubble_148 : decode cX3_bubble 148 = .ok (.iaload, 1) := dk_46 (dk_at dksX3_bubble_6 7 rfl rfl)
theorem dX3_bubble_149 : decode cX3_bubble 149 = .ok (.iconst 1, 1) := dk_4 (dk_at dksX3_bubble_6 8 rfl rfl)
theorem dX3_bubble_150 : decode cX3_bubble 150 = .ok (.isub, 1) := dk_100 (dk_at dksX3_bubble_6 9 rfl rfl)
theorem dX3_bubble_151 : decode cX3_bubble 151 = .ok (.iastore, 1) := dk_79 (dk_at dksX3_bubble_6 10 rfl rfl)
theorem dX3_bubble_152 : decode cX3_bubble 152 = .ok (.aload_n 0, 1) := dk_42 (dk_at dksX3_bubble_6 11 rfl rfl)
theorem dX3_bubble_153 : decode cX3_bubble 153 = .ok (.getfield 40, 3) := dk_180 0 40 (dk_at dksX3_bubble_6 12 rfl rfl)
theorem dX3_bubble_156 : decode cX3_bubble 156 = .ok (.iload_n 2, 1) := dk_28 (dk_at dksX3_bubble_6 15 rfl rfl)
theorem dX3_bubble_157 : decode cX3_bubble 157 = .ok (.aload_n 0, 1) := dk_42 (dk_at dksX3_bubble_6 16 rfl rfl)
theorem dX3_bubble_158 : decode cX3_bubble 158 = .ok (.getfield 171, 3) := dk_180 0 171 (dk_at dksX3_bubble_6 17 rfl rfl)
theorem dX3_bubble_161 : decode cX3_bubble 161 = .ok (.iastore, 1) := dk_79 (dk_at dksX3_bubble_6 20 rfl rfl)
theorem dX3_bubble_162 : decode cX3_bubble 162 = .ok (.aload_n 0, 1) := dk_42 (dk_at dksX3_bubble_6 21 rfl rfl)
theorem dX3_bubble_163 : decode cX3_bubble 163 = .ok (.aload_n 0, 1) := dk_42 (dk_at dksX3_bubble_6 22 rfl rfl)
theorem dX3_bubble_164 : decode cX3_bubble 164 = .ok (.invokevirtual 174, 3) := dk_182 0 174 (dk_at dksX3_bubble_7 0 rfl rfl)
theorem dX3_bubble_167 : decode cX3_bubble 167 = .ok (.putfield 171, 3) := dk_181 0 171 (dk_at dksX3_bubble_7 3 rfl rfl)
theorem dX3_bubble_170 : decode cX3_bubble 170 = .ok (.aload_n 0, 1) := dk_42 (dk_at dksX3_bubble_7 6 rfl rfl)
theorem dX3_bubble_171 : decode cX3_bubble 171 = .ok (.getfield 43, 3) := dk_180 0 43 (dk_at dksX3_bubble_7 7 rfl rfl)
theorem dX3_bubble_174 : decode cX3_bubble 174 = .ok (.iload_n 2, 1) := dk_28 (dk_at dksX3_bubble_7 10 rfl rfl)
theorem dX3_bubble_175 : decode cX3_bubble 175 = .ok (.aload_n 0, 1) := dk_42 (dk_at dksX3_bubble_7 11 rfl rfl)
theorem dX3_bubble_176 : decode cX3_bubble 176 = .ok (.getfield 171, 3) := dk_180 0 171 (dk_at dksX3_bubble_7 12 rfl rfl)
theorem dX3_bubble_179 : decode cX3_bubble 179 = .ok (.iastore, 1) := dk_79 (dk_at dksX3_bubble_7 15 rfl rfl)
theorem dX3_bubble_180 : decode cX3_bubble 180 = .ok (.aload_n 0, 1) := dk_42 (dk_at dksX3_bubble_7 16 rfl rfl)
theorem dX3_bubble_181 : decode cX3_bubble 181 = .ok (.getfield 31, 3) := dk_180 0 31 (dk_at dksX3_bubble_7 17 rfl rfl)
theorem dX3_bubble_184 : decode cX3_bubble 184 = .ok (.aload_n 0, 1) := dk_42 (dk_at dksX3_bubble_7 20 rfl rfl)
theorem dX3_bubble_185 : decode cX3_bubble 185 = .ok (.getfield 161, 3) := dk_180 0 161 (dk_at dksX3_bubble_7 21 rfl rfl)
theorem dX3_bubble_188 : decode cX3_bubble 188 = .ok (.dup2, 1) := dk_92 (dk_at dksX3_bubble_8 0 rfl rfl)
theorem dX3_bubble_189 : decode cX3_bubble 189 = .ok (.iaload, 1) := dk_46 (dk_at dksX3_bubble_8 1 rfl rfl)
theorem dX3_bubble_190 : decode cX3_bubble 190 = .ok (.iconst 1, 1) := dk_4 (dk_at dksX3_bubble_8 2 rfl rfl)
theorem dX3_bubble_191 : decode cX3_bubble 191 = .ok (.iadd, 1) := dk_96 (dk_at dksX3_bubble_8 3 rfl rfl)
theorem dX3_bubble_192 : decode cX3_bubble 192 = .ok (.iastore, 1) := dk_79 (dk_at dksX3_bubble_8 4 rfl rfl)
theorem dX3_bubble_193 : decode cX3_bubble 193 = .ok (.aload_n 0, 1) := dk_42 (dk_at dksX3_bubble_8 5 rfl rfl)
theorem dX3_bubble_194 : decode cX3_bubble 194 = .ok (.getfield 49, 3) := dk_180 0 49 (dk_at dksX3_bubble_8 6 rfl rfl)
theorem dX3_bubble_197 : decode cX3_bubble 197 = .ok (.aload_n 0, 1) := dk_42 (dk_at dksX3_bubble_8 9 rfl rfl)
theorem dX3_bubble_198 : decode cX3_bubble 198 = .ok (.getfield 161, 3) := dk_180 0 161 (dk_at dksX3_bubble_8 10 rfl rfl)
theorem dX3_bubble_201 : decode cX3_bubble 201 = .ok (.aload_n 0, 1) := dk_42 (dk_at dksX3_bubble_8 13 rfl rfl)
theorem dX3_bubble_202 : decode cX3_bubble 202 = .ok (.getfield 49, 3) := dk_180 0 49 (dk_at dksX3_bubble_8 14 rfl rfl)
theorem dX3_bubble_205 : decode cX3_bubble 205 = .ok (.aload_n 0, 1) := dk_42 (dk_at dksX3_bubble_8 17 rfl rfl)
theorem dX3_bubble_206 : decode cX3_bubble 206 = .ok (.getfield 161, 3) := dk_180 0 161 (dk_at dksX3_bubble_8 18 rfl rfl)
theorem dX3_bubble_209 : decode cX3_bubble 209 = .ok (.iaload, 1) := dk_46 (dk_at dksX3_bubble_8 21 rfl rfl)
theorem dX3_bubble_210 : decode cX3_bubble 210 = .ok (.aload_n 0, 1) := dk_42 (dk_at dksX3_bubble_8 22 rfl rfl)
theorem dX3_bubble_211 : decode cX3_bubble 211 = .ok (.invokevirtual 177, 3) := dk_182 0 177 (dk_at dksX3_bubble_9 0 rfl rfl)
theorem dX3_bubble_214 : decode cX3_bubble 214 = .ok (.invokestatic 149, 3) := dk_184 0 149 (dk_at dksX3_bubble_9 3 rfl rfl)
theorem dX3_bubble_217 : decode cX3_bubble 217 = .ok (.iastore, 1) := dk_79 (dk_at dksX3_bubble_9 6 rfl rfl)
theorem dX3_bubble_218 : decode cX3_bubble 218 = .ok (.return_, 1) := dk_177 (dk_at dksX3_bubble_9 7 rfl rfl)
abbrev cX3_held : ByteArray := prog_26_method_16_code
def yX3_held : MethodName := ⟨RX3, "held", "()I"⟩
def dkwX3_held_7 : List UInt8 := [162, 0, 7, 4, 167, 0, 4, 3, 96, 60, 132, 2, 1, 167, 255, 84, 27, 172]
abbrev dktX3_held_7 : List UInt8 := dkwX3_held_7 ++ []
def dkwX3_held_6 : List UInt8 := [182, 0, 145, 160, 0, 7, 4, 167, 0, 4, 3, 96, 54, 4, 132, 5, 1, 167, 255, 155, 27, 21, 4, 6]
abbrev dktX3_held_6 : List UInt8 := dkwX3_held_6 ++ dktX3_held_7
def dkwX3_held_5 : List UInt8 := [180, 0, 43, 16, 24, 42, 180, 0, 161, 104, 21, 5, 96, 46, 182, 0, 145, 42, 42, 180, 0, 43, 29, 46]
abbrev dktX3_held_5 : List UInt8 := dkwX3_held_5 ++ dktX3_held_6
def dkwX3_held_4 : List UInt8 := [180, 0, 43, 29, 46, 182, 0, 145, 160, 0, 7, 4, 167, 0, 4, 3, 96, 54, 4, 21, 4, 42, 42]
abbrev dktX3_held_4 : List UInt8 := dkwX3_held_4 ++ dktX3_held_5
def dkwX3_held_3 : List UInt8 := [21, 4, 42, 42, 180, 0, 40, 16, 24, 42, 180, 0, 161, 104, 21, 5, 96, 46, 182, 0, 145, 42, 42]
abbrev dktX3_held_3 : List UInt8 := dkwX3_held_3 ++ dktX3_held_4
def dkwX3_held_2 : List UInt8 := [167, 0, 127, 3, 54, 4, 3, 54, 5, 21, 5, 42, 180, 0, 31, 42, 180, 0, 161, 46, 162, 0, 93]
abbrev dktX3_held_2 : List UInt8 := dkwX3_held_2 ++ dktX3_held_3
def dkwX3_held_1 : List UInt8 := [180, 0, 161, 104, 28, 96, 62, 42, 180, 0, 46, 29, 46, 42, 180, 0, 46, 29, 4, 96, 46, 159, 0, 6]
abbrev dktX3_held_1 : List UInt8 := dkwX3_held_1 ++ dktX3_held_2
def dkwX3_held_0 : List UInt8 := [3, 60, 3, 61, 28, 4, 96, 42, 180, 0, 31, 42, 180, 0, 161, 46, 162, 0, 163, 16, 24, 42]
abbrev dktX3_held_0 : List UInt8 := dkwX3_held_0 ++ dktX3_held_1
theorem dksX3_held_0 : cX3_held.data.toList.drop 0 = dktX3_held_0 := by decide +kernel
theorem dksX3_held_1 : cX3_held.data.toList.drop 22 = dktX3_held_1 := dk_seg dksX3_held_0 22 rfl rfl
theorem dksX3_held_2 : cX3_held.data.toList.drop 46 = dktX3_held_2 := dk_seg dksX3_held_1 24 rfl rfl
theorem dksX3_held_3 : cX3_held.data.toList.drop 69 = dktX3_held_3 := dk_seg dksX3_held_2 23 rfl rfl
theorem dksX3_held_4 : cX3_held.data.toList.drop 92 = dktX3_held_4 := dk_seg dksX3_held_3 23 rfl rfl
theorem dksX3_held_5 : cX3_held.data.toList.drop 115 = dktX3_held_5 := dk_seg dksX3_held_4 23 rfl rfl
theorem dksX3_held_6 : cX3_held.data.toList.drop 139 = dktX3_held_6 := dk_seg dksX3_held_5 24 rfl rfl
theorem dksX3_held_7 : cX3_held.data.toList.drop 163 = dktX3_held_7 := dk_seg dksX3_held_6 24 rfl rfl
theorem dX3_held_0 : decode cX3_held 0 = .ok (.iconst 0, 1) := dk_3 (dk_at dksX3_held_0 0 rfl rfl)
theorem dX3_held_1 : decode cX3_held 1 = .ok (.istore_n 1, 1) := dk_60 (dk_at dksX3_held_0 1 rfl rfl)
theorem dX3_held_2 : decode cX3_held 2 = .ok (.iconst 0, 1) := dk_3 (dk_at dksX3_held_0 2 rfl rfl)
theorem dX3_held_3 : decode cX3_held 3 = .ok (.istore_n 2, 1) := dk_61 (dk_at dksX3_held_0 3 rfl rfl)
theorem dX3_held_4 : decode cX3_held 4 = .ok (.iload_n 2, 1) := dk_28 (dk_at dksX3_held_0 4 rfl rfl)
theorem dX3_held_5 : decode cX3_held 5 = .ok (.iconst 1, 1) := dk_4 (dk_at dksX3_held_0 5 rfl rfl)
theorem dX3_held_6 : decode cX3_held 6 = .ok (.iadd, 1) := dk_96 (dk_at dksX3_held_0 6 rfl rfl)
theorem dX3_held_7 : decode cX3_held 7 = .ok (.aload_n 0, 1) := dk_42 (dk_at dksX3_held_0 7 rfl rfl)
theorem dX3_held_8 : decode cX3_held 8 = .ok (.getfield 31, 3) := dk_180 0 31 (dk_at dksX3_held_0 8 rfl rfl)
theorem dX3_held_11 : decode cX3_held 11 = .ok (.aload_n 0, 1) := dk_42 (dk_at dksX3_held_0 11 rfl rfl)
theorem dX3_held_12 : decode cX3_held 12 = .ok (.getfield 161, 3) := dk_180 0 161 (dk_at dksX3_held_0 12 rfl rfl)
theorem dX3_held_15 : decode cX3_held 15 = .ok (.iaload, 1) := dk_46 (dk_at dksX3_held_0 15 rfl rfl)
theorem dX3_held_16 : decode cX3_held 16 = .ok (.if_icmp .ge 163, 3) := dk_162 0 163 (dk_at dksX3_held_0 16 rfl rfl)
theorem dX3_held_19 : decode cX3_held 19 = .ok (.bipush 24, 2) := dk_16 24 (dk_at dksX3_held_0 19 rfl rfl)
theorem dX3_held_21 : decode cX3_held 21 = .ok (.aload_n 0, 1) := dk_42 (dk_at dksX3_held_0 21 rfl rfl)
theorem dX3_held_22 : decode cX3_held 22 = .ok (.getfield 161, 3) := dk_180 0 161 (dk_at dksX3_held_1 0 rfl rfl)
theorem dX3_held_25 : decode cX3_held 25 = .ok (.imul, 1) := dk_104 (dk_at dksX3_held_1 3 rfl rfl)
theorem dX3_held_26 : decode cX3_held 26 = .ok (.iload_n 2, 1) := dk_28 (dk_at dksX3_held_1 4 rfl rfl)
theorem dX3_held_27 : decode cX3_held 27 = .ok (.iadd, 1) := dk_96 (dk_at dksX3_held_1 5 rfl rfl)
theorem dX3_held_28 : decode cX3_held 28 = .ok (.istore_n 3, 1) := dk_62 (dk_at dksX3_held_1 6 rfl rfl)
theorem dX3_held_29 : decode cX3_held 29 = .ok (.aload_n 0, 1) := dk_42 (dk_at dksX3_held_1 7 rfl rfl)
theorem dX3_held_30 : decode cX3_held 30 = .ok (.getfield 46, 3) := dk_180 0 46 (dk_at dksX3_held_1 8 rfl rfl)
theorem dX3_held_33 : decode cX3_held 33 = .ok (.iload_n 3, 1) := dk_29 (dk_at dksX3_held_1 11 rfl rfl)
theorem dX3_held_34 : decode cX3_held 34 = .ok (.iaload, 1) := dk_46 (dk_at dksX3_held_1 12 rfl rfl)
theorem dX3_held_35 : decode cX3_held 35 = .ok (.aload_n 0, 1) := dk_42 (dk_at dksX3_held_1 13 rfl rfl)
theorem dX3_held_36 : decode cX3_held 36 = .ok (.getfield 46, 3) := dk_180 0 46 (dk_at dksX3_held_1 14 rfl rfl)
theorem dX3_held_39 : decode cX3_held 39 = .ok (.iload_n 3, 1) := dk_29 (dk_at dksX3_held_1 17 rfl rfl)
theorem dX3_held_40 : decode cX3_held 40 = .ok (.iconst 1, 1) := dk_4 (dk_at dksX3_held_1 18 rfl rfl)
theorem dX3_held_41 : decode cX3_held 41 = .ok (.iadd, 1) := dk_96 (dk_at dksX3_held_1 19 rfl rfl)
theorem dX3_held_42 : decode cX3_held 42 = .ok (.iaload, 1) := dk_46 (dk_at dksX3_held_1 20 rfl rfl)
theorem dX3_held_43 : decode cX3_held 43 = .ok (.if_icmp .eq 6, 3) := dk_159 0 6 (dk_at dksX3_held_1 21 rfl rfl)
theorem dX3_held_46 : decode cX3_held 46 = .ok (.goto 127, 3) := dk_167 0 127 (dk_at dksX3_held_2 0 rfl rfl)
theorem dX3_held_49 : decode cX3_held 49 = .ok (.iconst 0, 1) := dk_3 (dk_at dksX3_held_2 3 rfl rfl)
theorem dX3_held_50 : decode cX3_held 50 = .ok (.istore 4, 2) := dk_54 4 (dk_at dksX3_held_2 4 rfl rfl)
theorem dX3_held_52 : decode cX3_held 52 = .ok (.iconst 0, 1) := dk_3 (dk_at dksX3_held_2 6 rfl rfl)
theorem dX3_held_53 : decode cX3_held 53 = .ok (.istore 5, 2) := dk_54 5 (dk_at dksX3_held_2 7 rfl rfl)
theorem dX3_held_55 : decode cX3_held 55 = .ok (.iload 5, 2) := dk_21 5 (dk_at dksX3_held_2 9 rfl rfl)
theorem dX3_held_57 : decode cX3_held 57 = .ok (.aload_n 0, 1) := dk_42 (dk_at dksX3_held_2 11 rfl rfl)
theorem dX3_held_58 : decode cX3_held 58 = .ok (.getfield 31, 3) := dk_180 0 31 (dk_at dksX3_held_2 12 rfl rfl)
theorem dX3_held_61 : decode cX3_held 61 = .ok (.aload_n 0, 1) := dk_42 (dk_at dksX3_held_2 15 rfl rfl)
theorem dX3_held_62 : decode cX3_held 62 = .ok (.getfield 161, 3) := dk_180 0 161 (dk_at dksX3_held_2 16 rfl rfl)
theorem dX3_held_65 : decode cX3_held 65 = .ok (.iaload, 1) := dk_46 (dk_at dksX3_held_2 19 rfl rfl)
theorem dX3_held_66 : decode cX3_held 66 = .ok (.if_icmp .ge 93, 3) := dk_162 0 93 (dk_at dksX3_held_2 20 rfl rfl)
theorem dX3_held_69 : decode cX3_held 69 = .ok (.iload 4, 2) := dk_21 4 (dk_at dksX3_held_3 0 rfl rfl)
theorem dX3_held_71 : decode cX3_held 71 = .ok (.aload_n 0, 1) := dk_42 (dk_at dksX3_held_3 2 rfl rfl)
theorem dX3_held_72 : decode cX3_held 72 = .ok (.aload_n 0, 1) := dk_42 (dk_at dksX3_held_3 3 rfl rfl)
theorem dX3_held_73 : decode cX3_held 73 = .ok (.getfield 40, 3) := dk_180 0 40 (dk_at dksX3_held_3 4 rfl rfl)
theorem dX3_held_76 : decode cX3_held 76 = .ok (.bipush 24, 2) := dk_16 24 (dk_at dksX3_held_3 7 rfl rfl)
theorem dX3_held_78 : decode cX3_held 78 = .ok (.aload_n 0, 1) := dk_42 (dk_at dksX3_held_3 9 rfl rfl)
theorem dX3_held_79 : decode cX3_held 79 = .ok (.getfield 161, 3) := dk_180 0 161 (dk_at dksX3_held_3 10 rfl rfl)
theorem dX3_held_82 : decode cX3_held 82 = .ok (.imul, 1) := dk_104 (dk_at dksX3_held_3 13 rfl rfl)
theorem dX3_held_83 : decode cX3_held 83 = .ok (.iload 5, 2) := dk_21 5 (dk_at dksX3_held_3 14 rfl rfl)
theorem dX3_held_85 : decode cX3_held 85 = .ok (.iadd, 1) := dk_96 (dk_at dksX3_held_3 16 rfl rfl)
theorem dX3_held_86 : decode cX3_held 86 = .ok (.iaload, 1) := dk_46 (dk_at dksX3_held_3 17 rfl rfl)
theorem dX3_held_87 : decode cX3_held 87 = .ok (.invokevirtual 145, 3) := dk_182 0 145 (dk_at dksX3_held_3 18 rfl rfl)
theorem dX3_held_90 : decode cX3_held 90 = .ok (.aload_n 0, 1) := dk_42 (dk_at dksX3_held_3 21 rfl rfl)
theorem dX3_held_91 : decode cX3_held 91 = .ok (.aload_n 0, 1) := dk_42 (dk_at dksX3_held_3 22 rfl rfl)
theorem dX3_held_92 : decode cX3_held 92 = .ok (.getfield 43, 3) := dk_180 0 43 (dk_at dksX3_held_4 0 rfl rfl)
theorem dX3_held_95 : decode cX3_held 95 = .ok (.iload_n 3, 1) := dk_29 (dk_at dksX3_held_4 3 rfl rfl)
theorem dX3_held_96 : decode cX3_held 96 = .ok (.iaload, 1) := dk_46 (dk_at dksX3_held_4 4 rfl rfl)
theorem dX3_held_97 : decode cX3_held 97 = .ok (.invokevirtual 145, 3) := dk_182 0 145 (dk_at dksX3_held_4 5 rfl rfl)
theorem dX3_held_100 : decode cX3_held 100 = .ok (.if_icmp .ne 7, 3) := dk_160 0 7 (dk_at dksX3_held_4 8 rfl rfl)
theorem dX3_held_103 : decode cX3_held 103 = .ok (.iconst 1, 1) := dk_4 (dk_at dksX3_held_4 11 rfl rfl)
theorem dX3_held_104 : decode cX3_held 104 = .ok (.goto 4, 3) := dk_167 0 4 (dk_at dksX3_held_4 12 rfl rfl)
theorem dX3_held_107 : decode cX3_held 107 = .ok (.iconst 0, 1) := dk_3 (dk_at dksX3_held_4 15 rfl rfl)
theorem dX3_held_108 : decode cX3_held 108 = .ok (.iadd, 1) := dk_96 (dk_at dksX3_held_4 16 rfl rfl)
theorem dX3_held_109 : decode cX3_held 109 = .ok (.istore 4, 2) := dk_54 4 (dk_at dksX3_held_4 17 rfl rfl)
theorem dX3_held_111 : decode cX3_held 111 = .ok (.iload 4, 2) := dk_21 4 (dk_at dksX3_held_4 19 rfl rfl)
theorem dX3_held_113 : decode cX3_held 113 = .ok (.aload_n 0, 1) := dk_42 (dk_at dksX3_held_4 21 rfl rfl)
theorem dX3_held_114 : decode cX3_held 114 = .ok (.aload_n 0, 1) := dk_42 (dk_at dksX3_held_4 22 rfl rfl)
theorem dX3_held_115 : decode cX3_held 115 = .ok (.getfield 43, 3) := dk_180 0 43 (dk_at dksX3_held_5 0 rfl rfl)
theorem dX3_held_118 : decode cX3_held 118 = .ok (.bipush 24, 2) := dk_16 24 (dk_at dksX3_held_5 3 rfl rfl)
theorem dX3_held_120 : decode cX3_held 120 = .ok (.aload_n 0, 1) := dk_42 (dk_at dksX3_held_5 5 rfl rfl)
theorem dX3_held_121 : decode cX3_held 121 = .ok (.getfield 161, 3) := dk_180 0 161 (dk_at dksX3_held_5 6 rfl rfl)
theorem dX3_held_124 : decode cX3_held 124 = .ok (.imul, 1) := dk_104 (dk_at dksX3_held_5 9 rfl rfl)
theorem dX3_held_125 : decode cX3_held 125 = .ok (.iload 5, 2) := dk_21 5 (dk_at dksX3_held_5 10 rfl rfl)
theorem dX3_held_127 : decode cX3_held 127 = .ok (.iadd, 1) := dk_96 (dk_at dksX3_held_5 12 rfl rfl)
theorem dX3_held_128 : decode cX3_held 128 = .ok (.iaload, 1) := dk_46 (dk_at dksX3_held_5 13 rfl rfl)
theorem dX3_held_129 : decode cX3_held 129 = .ok (.invokevirtual 145, 3) := dk_182 0 145 (dk_at dksX3_held_5 14 rfl rfl)
theorem dX3_held_132 : decode cX3_held 132 = .ok (.aload_n 0, 1) := dk_42 (dk_at dksX3_held_5 17 rfl rfl)
theorem dX3_held_133 : decode cX3_held 133 = .ok (.aload_n 0, 1) := dk_42 (dk_at dksX3_held_5 18 rfl rfl)
theorem dX3_held_134 : decode cX3_held 134 = .ok (.getfield 43, 3) := dk_180 0 43 (dk_at dksX3_held_5 19 rfl rfl)
theorem dX3_held_137 : decode cX3_held 137 = .ok (.iload_n 3, 1) := dk_29 (dk_at dksX3_held_5 22 rfl rfl)
theorem dX3_held_138 : decode cX3_held 138 = .ok (.iaload, 1) := dk_46 (dk_at dksX3_held_5 23 rfl rfl)
theorem dX3_held_139 : decode cX3_held 139 = .ok (.invokevirtual 145, 3) := dk_182 0 145 (dk_at dksX3_held_6 0 rfl rfl)
theorem dX3_held_142 : decode cX3_held 142 = .ok (.if_icmp .ne 7, 3) := dk_160 0 7 (dk_at dksX3_held_6 3 rfl rfl)
theorem dX3_held_145 : decode cX3_held 145 = .ok (.iconst 1, 1) := dk_4 (dk_at dksX3_held_6 6 rfl rfl)
theorem dX3_held_146 : decode cX3_held 146 = .ok (.goto 4, 3) := dk_167 0 4 (dk_at dksX3_held_6 7 rfl rfl)
theorem dX3_held_149 : decode cX3_held 149 = .ok (.iconst 0, 1) := dk_3 (dk_at dksX3_held_6 10 rfl rfl)
theorem dX3_held_150 : decode cX3_held 150 = .ok (.iadd, 1) := dk_96 (dk_at dksX3_held_6 11 rfl rfl)
theorem dX3_held_151 : decode cX3_held 151 = .ok (.istore 4, 2) := dk_54 4 (dk_at dksX3_held_6 12 rfl rfl)
theorem dX3_held_153 : decode cX3_held 153 = .ok (.iinc 5 1, 3) := dk_132 5 1 (dk_at dksX3_held_6 14 rfl rfl)
theorem dX3_held_156 : decode cX3_held 156 = .ok (.goto (-101), 3) := dk_167 255 155 (dk_at dksX3_held_6 17 rfl rfl)
theorem dX3_held_159 : decode cX3_held 159 = .ok (.iload_n 1, 1) := dk_27 (dk_at dksX3_held_6 20 rfl rfl)
theorem dX3_held_160 : decode cX3_held 160 = .ok (.iload 4, 2) := dk_21 4 (dk_at dksX3_held_6 21 rfl rfl)
theorem dX3_held_162 : decode cX3_held 162 = .ok (.iconst 3, 1) := dk_6 (dk_at dksX3_held_6 23 rfl rfl)
theorem dX3_held_163 : decode cX3_held 163 = .ok (.if_icmp .ge 7, 3) := dk_162 0 7 (dk_at dksX3_held_7 0 rfl rfl)
theorem dX3_held_166 : decode cX3_held 166 = .ok (.iconst 1, 1) := dk_4 (dk_at dksX3_held_7 3 rfl rfl)
theorem dX3_held_167 : decode cX3_held 167 = .ok (.goto 4, 3) := dk_167 0 4 (dk_at dksX3_held_7 4 rfl rfl)
theorem dX3_held_170 : decode cX3_held 170 = .ok (.iconst 0, 1) := dk_3 (dk_at dksX3_held_7 7 rfl rfl)
theorem dX3_held_171 : decode cX3_held 171 = .ok (.iadd, 1) := dk_96 (dk_at dksX3_held_7 8 rfl rfl)
theorem dX3_held_172 : decode cX3_held 172 = .ok (.istore_n 1, 1) := dk_60 (dk_at dksX3_held_7 9 rfl rfl)
theorem dX3_held_173 : decode cX3_held 173 = .ok (.iinc 2 1, 3) := dk_132 2 1 (dk_at dksX3_held_7 10 rfl rfl)
theorem dX3_held_176 : decode cX3_held 176 = .ok (.goto (-172), 3) := dk_167 255 84 (dk_at dksX3_held_7 13 rfl rfl)
theorem dX3_held_179 : decode cX3_held 179 = .ok (.iload_n 1, 1) := dk_27 (dk_at dksX3_held_7 16 rfl rfl)
theorem dX3_held_180 : decode cX3_held 180 = .ok (.ireturn, 1) := dk_172 (dk_at dksX3_held_7 17 rfl rfl)
abbrev cX3_find : ByteArray := prog_26_method_12_code
def yX3_find : MethodName := ⟨RX3, "find", "(I)I"⟩
def dkwX3_find_0 : List UInt8 := [27, 61, 42, 180, 0, 52, 28, 46, 28, 159, 0, 13, 42, 180, 0, 52, 28, 46, 61, 167, 255, 239, 28, 172]
abbrev dktX3_find_0 : List UInt8 := dkwX3_find_0 ++ []
theorem dksX3_find_0 : cX3_find.data.toList.drop 0 = dktX3_find_0 := by decide +kernel
theorem dX3_find_0 : decode cX3_find 0 = .ok (.iload_n 1, 1) := dk_27 (dk_at dksX3_find_0 0 rfl rfl)
theorem dX3_find_1 : decode cX3_find 1 = .ok (.istore_n 2, 1) := dk_61 (dk_at dksX3_find_0 1 rfl rfl)
theorem dX3_find_2 : decode cX3_find 2 = .ok (.aload_n 0, 1) := dk_42 (dk_at dksX3_find_0 2 rfl rfl)
theorem dX3_find_3 : decode cX3_find 3 = .ok (.getfield 52, 3) := dk_180 0 52 (dk_at dksX3_find_0 3 rfl rfl)
theorem dX3_find_6 : decode cX3_find 6 = .ok (.iload_n 2, 1) := dk_28 (dk_at dksX3_find_0 6 rfl rfl)
theorem dX3_find_7 : decode cX3_find 7 = .ok (.iaload, 1) := dk_46 (dk_at dksX3_find_0 7 rfl rfl)
theorem dX3_find_8 : decode cX3_find 8 = .ok (.iload_n 2, 1) := dk_28 (dk_at dksX3_find_0 8 rfl rfl)
theorem dX3_find_9 : decode cX3_find 9 = .ok (.if_icmp .eq 13, 3) := dk_159 0 13 (dk_at dksX3_find_0 9 rfl rfl)
theorem dX3_find_12 : decode cX3_find 12 = .ok (.aload_n 0, 1) := dk_42 (dk_at dksX3_find_0 12 rfl rfl)
theorem dX3_find_13 : decode cX3_find 13 = .ok (.getfield 52, 3) := dk_180 0 52 (dk_at dksX3_find_0 13 rfl rfl)
theorem dX3_find_16 : decode cX3_find 16 = .ok (.iload_n 2, 1) := dk_28 (dk_at dksX3_find_0 16 rfl rfl)
theorem dX3_find_17 : decode cX3_find 17 = .ok (.iaload, 1) := dk_46 (dk_at dksX3_find_0 17 rfl rfl)
theorem dX3_find_18 : decode cX3_find 18 = .ok (.istore_n 2, 1) := dk_61 (dk_at dksX3_find_0 18 rfl rfl)
theorem dX3_find_19 : decode cX3_find 19 = .ok (.goto (-17), 3) := dk_167 255 239 (dk_at dksX3_find_0 19 rfl rfl)
theorem dX3_find_22 : decode cX3_find 22 = .ok (.iload_n 2, 1) := dk_28 (dk_at dksX3_find_0 22 rfl rfl)
theorem dX3_find_23 : decode cX3_find 23 = .ok (.ireturn, 1) := dk_172 (dk_at dksX3_find_0 23 rfl rfl)
abbrev cX3_joinTo : ByteArray := prog_26_method_13_code
def yX3_joinTo : MethodName := ⟨RX3, "joinTo", "(II)V"⟩
def dkwX3_joinTo_1 : List UInt8 := [21, 4, 184, 0, 155, 79, 177]
abbrev dktX3_joinTo_1 : List UInt8 := dkwX3_joinTo_1 ++ []
def dkwX3_joinTo_0 : List UInt8 := [42, 27, 182, 0, 145, 62, 42, 28, 182, 0, 145, 54, 4, 42, 180, 0, 52, 29, 21, 4, 184, 0, 149, 29]
abbrev dktX3_joinTo_0 : List UInt8 := dkwX3_joinTo_0 ++ dktX3_joinTo_1
theorem dksX3_joinTo_0 : cX3_joinTo.data.toList.drop 0 = dktX3_joinTo_0 := by decide +kernel
theorem dksX3_joinTo_1 : cX3_joinTo.data.toList.drop 24 = dktX3_joinTo_1 := dk_seg dksX3_joinTo_0 24 rfl rfl
theorem dX3_joinTo_0 : decode cX3_joinTo 0 = .ok (.aload_n 0, 1) := dk_42 (dk_at dksX3_joinTo_0 0 rfl rfl)
theorem dX3_joinTo_1 : decode cX3_joinTo 1 = .ok (.iload_n 1, 1) := dk_27 (dk_at dksX3_joinTo_0 1 rfl rfl)
theorem dX3_joinTo_2 : decode cX3_joinTo 2 = .ok (.invokevirtual 145, 3) := dk_182 0 145 (dk_at dksX3_joinTo_0 2 rfl rfl)
theorem dX3_joinTo_5 : decode cX3_joinTo 5 = .ok (.istore_n 3, 1) := dk_62 (dk_at dksX3_joinTo_0 5 rfl rfl)
theorem dX3_joinTo_6 : decode cX3_joinTo 6 = .ok (.aload_n 0, 1) := dk_42 (dk_at dksX3_joinTo_0 6 rfl rfl)
theorem dX3_joinTo_7 : decode cX3_joinTo 7 = .ok (.iload_n 2, 1) := dk_28 (dk_at dksX3_joinTo_0 7 rfl rfl)
theorem dX3_joinTo_8 : decode cX3_joinTo 8 = .ok (.invokevirtual 145, 3) := dk_182 0 145 (dk_at dksX3_joinTo_0 8 rfl rfl)
theorem dX3_joinTo_11 : decode cX3_joinTo 11 = .ok (.istore 4, 2) := dk_54 4 (dk_at dksX3_joinTo_0 11 rfl rfl)
theorem dX3_joinTo_13 : decode cX3_joinTo 13 = .ok (.aload_n 0, 1) := dk_42 (dk_at dksX3_joinTo_0 13 rfl rfl)
theorem dX3_joinTo_14 : decode cX3_joinTo 14 = .ok (.getfield 52, 3) := dk_180 0 52 (dk_at dksX3_joinTo_0 14 rfl rfl)
theorem dX3_joinTo_17 : decode cX3_joinTo 17 = .ok (.iload_n 3, 1) := dk_29 (dk_at dksX3_joinTo_0 17 rfl rfl)
theorem dX3_joinTo_18 : decode cX3_joinTo 18 = .ok (.iload 4, 2) := dk_21 4 (dk_at dksX3_joinTo_0 18 rfl rfl)
theorem dX3_joinTo_20 : decode cX3_joinTo 20 = .ok (.invokestatic 149, 3) := dk_184 0 149 (dk_at dksX3_joinTo_0 20 rfl rfl)
theorem dX3_joinTo_23 : decode cX3_joinTo 23 = .ok (.iload_n 3, 1) := dk_29 (dk_at dksX3_joinTo_0 23 rfl rfl)
theorem dX3_joinTo_24 : decode cX3_joinTo 24 = .ok (.iload 4, 2) := dk_21 4 (dk_at dksX3_joinTo_1 0 rfl rfl)
theorem dX3_joinTo_26 : decode cX3_joinTo 26 = .ok (.invokestatic 155, 3) := dk_184 0 155 (dk_at dksX3_joinTo_1 2 rfl rfl)
theorem dX3_joinTo_29 : decode cX3_joinTo 29 = .ok (.iastore, 1) := dk_79 (dk_at dksX3_joinTo_1 5 rfl rfl)
theorem dX3_joinTo_30 : decode cX3_joinTo 30 = .ok (.return_, 1) := dk_177 (dk_at dksX3_joinTo_1 6 rfl rfl)
abbrev cX3_nested : ByteArray := prog_26_method_18_code
def yX3_nested : MethodName := ⟨RX3, "nested", "()V"⟩
def dkwX3_nested_4 : List UInt8 := [180, 0, 171, 182, 0, 186, 177]
abbrev dktX3_nested_4 : List UInt8 := dkwX3_nested_4 ++ []
def dkwX3_nested_3 : List UInt8 := [181, 0, 135, 42, 89, 180, 0, 193, 4, 100, 181, 0, 193, 42, 180, 0, 142, 2, 160, 0, 12, 42, 27, 42]
abbrev dktX3_nested_3 : List UInt8 := dkwX3_nested_3 ++ dktX3_nested_4
def dkwX3_nested_2 : List UInt8 := [160, 0, 16, 42, 182, 0, 180, 16, 41, 159, 0, 7, 42, 182, 0, 164, 42, 89, 180, 0, 135, 4, 96]
abbrev dktX3_nested_2 : List UInt8 := dkwX3_nested_2 ++ dktX3_nested_3
def dkwX3_nested_1 : List UInt8 := [42, 89, 180, 0, 135, 4, 96, 181, 0, 135, 42, 180, 0, 171, 60, 42, 182, 0, 196, 42, 180, 0, 142, 2]
abbrev dktX3_nested_1 : List UInt8 := dkwX3_nested_1 ++ dktX3_nested_2
def dkwX3_nested_0 : List UInt8 := [42, 180, 0, 193, 16, 6, 160, 0, 8, 42, 182, 0, 164, 177, 42, 89, 180, 0, 193, 4, 96, 181, 0, 193]
abbrev dktX3_nested_0 : List UInt8 := dkwX3_nested_0 ++ dktX3_nested_1
theorem dksX3_nested_0 : cX3_nested.data.toList.drop 0 = dktX3_nested_0 := by decide +kernel
theorem dksX3_nested_1 : cX3_nested.data.toList.drop 24 = dktX3_nested_1 := dk_seg dksX3_nested_0 24 rfl rfl
theorem dksX3_nested_2 : cX3_nested.data.toList.drop 48 = dktX3_nested_2 := dk_seg dksX3_nested_1 24 rfl rfl
theorem dksX3_nested_3 : cX3_nested.data.toList.drop 71 = dktX3_nested_3 := dk_seg dksX3_nested_2 23 rfl rfl
theorem dksX3_nested_4 : cX3_nested.data.toList.drop 95 = dktX3_nested_4 := dk_seg dksX3_nested_3 24 rfl rfl
theorem dX3_nested_0 : decode cX3_nested 0 = .ok (.aload_n 0, 1) := dk_42 (dk_at dksX3_nested_0 0 rfl rfl)
theorem dX3_nested_1 : decode cX3_nested 1 = .ok (.getfield 193, 3) := dk_180 0 193 (dk_at dksX3_nested_0 1 rfl rfl)
theorem dX3_nested_4 : decode cX3_nested 4 = .ok (.bipush 6, 2) := dk_16 6 (dk_at dksX3_nested_0 4 rfl rfl)
theorem dX3_nested_6 : decode cX3_nested 6 = .ok (.if_icmp .ne 8, 3) := dk_160 0 8 (dk_at dksX3_nested_0 6 rfl rfl)
theorem dX3_nested_9 : decode cX3_nested 9 = .ok (.aload_n 0, 1) := dk_42 (dk_at dksX3_nested_0 9 rfl rfl)
theorem dX3_nested_10 : decode cX3_nested 10 = .ok (.invokevirtual 164, 3) := dk_182 0 164 (dk_at dksX3_nested_0 10 rfl rfl)
theorem dX3_nested_13 : decode cX3_nested 13 = .ok (.return_, 1) := dk_177 (dk_at dksX3_nested_0 13 rfl rfl)
theorem dX3_nested_14 : decode cX3_nested 14 = .ok (.aload_n 0, 1) := dk_42 (dk_at dksX3_nested_0 14 rfl rfl)
theorem dX3_nested_15 : decode cX3_nested 15 = .ok (.dup, 1) := dk_89 (dk_at dksX3_nested_0 15 rfl rfl)
theorem dX3_nested_16 : decode cX3_nested 16 = .ok (.getfield 193, 3) := dk_180 0 193 (dk_at dksX3_nested_0 16 rfl rfl)
theorem dX3_nested_19 : decode cX3_nested 19 = .ok (.iconst 1, 1) := dk_4 (dk_at dksX3_nested_0 19 rfl rfl)
theorem dX3_nested_20 : decode cX3_nested 20 = .ok (.iadd, 1) := dk_96 (dk_at dksX3_nested_0 20 rfl rfl)
theorem dX3_nested_21 : decode cX3_nested 21 = .ok (.putfield 193, 3) := dk_181 0 193 (dk_at dksX3_nested_0 21 rfl rfl)
theorem dX3_nested_24 : decode cX3_nested 24 = .ok (.aload_n 0, 1) := dk_42 (dk_at dksX3_nested_1 0 rfl rfl)
theorem dX3_nested_25 : decode cX3_nested 25 = .ok (.dup, 1) := dk_89 (dk_at dksX3_nested_1 1 rfl rfl)
theorem dX3_nested_26 : decode cX3_nested 26 = .ok (.getfield 135, 3) := dk_180 0 135 (dk_at dksX3_nested_1 2 rfl rfl)
theorem dX3_nested_29 : decode cX3_nested 29 = .ok (.iconst 1, 1) := dk_4 (dk_at dksX3_nested_1 5 rfl rfl)
theorem dX3_nested_30 : decode cX3_nested 30 = .ok (.iadd, 1) := dk_96 (dk_at dksX3_nested_1 6 rfl rfl)
theorem dX3_nested_31 : decode cX3_nested 31 = .ok (.putfield 135, 3) := dk_181 0 135 (dk_at dksX3_nested_1 7 rfl rfl)
theorem dX3_nested_34 : decode cX3_nested 34 = .ok (.aload_n 0, 1) := dk_42 (dk_at dksX3_nested_1 10 rfl rfl)
theorem dX3_nested_35 : decode cX3_nested 35 = .ok (.getfield 171, 3) := dk_180 0 171 (dk_at dksX3_nested_1 11 rfl rfl)
theorem dX3_nested_38 : decode cX3_nested 38 = .ok (.istore_n 1, 1) := dk_60 (dk_at dksX3_nested_1 14 rfl rfl)
theorem dX3_nested_39 : decode cX3_nested 39 = .ok (.aload_n 0, 1) := dk_42 (dk_at dksX3_nested_1 15 rfl rfl)
theorem dX3_nested_40 : decode cX3_nested 40 = .ok (.invokevirtual 196, 3) := dk_182 0 196 (dk_at dksX3_nested_1 16 rfl rfl)
theorem dX3_nested_43 : decode cX3_nested 43 = .ok (.aload_n 0, 1) := dk_42 (dk_at dksX3_nested_1 19 rfl rfl)
theorem dX3_nested_44 : decode cX3_nested 44 = .ok (.getfield 142, 3) := dk_180 0 142 (dk_at dksX3_nested_1 20 rfl rfl)
theorem dX3_nested_47 : decode cX3_nested 47 = .ok (.iconst (-1), 1) := dk_2 (dk_at dksX3_nested_1 23 rfl rfl)
theorem dX3_nested_48 : decode cX3_nested 48 = .ok (.if_icmp .ne 16, 3) := dk_160 0 16 (dk_at dksX3_nested_2 0 rfl rfl)
theorem dX3_nested_51 : decode cX3_nested 51 = .ok (.aload_n 0, 1) := dk_42 (dk_at dksX3_nested_2 3 rfl rfl)
theorem dX3_nested_52 : decode cX3_nested 52 = .ok (.invokevirtual 180, 3) := dk_182 0 180 (dk_at dksX3_nested_2 4 rfl rfl)
theorem dX3_nested_55 : decode cX3_nested 55 = .ok (.bipush 41, 2) := dk_16 41 (dk_at dksX3_nested_2 7 rfl rfl)
theorem dX3_nested_57 : decode cX3_nested 57 = .ok (.if_icmp .eq 7, 3) := dk_159 0 7 (dk_at dksX3_nested_2 9 rfl rfl)
theorem dX3_nested_60 : decode cX3_nested 60 = .ok (.aload_n 0, 1) := dk_42 (dk_at dksX3_nested_2 12 rfl rfl)
theorem dX3_nested_61 : decode cX3_nested 61 = .ok (.invokevirtual 164, 3) := dk_182 0 164 (dk_at dksX3_nested_2 13 rfl rfl)
theorem dX3_nested_64 : decode cX3_nested 64 = .ok (.aload_n 0, 1) := dk_42 (dk_at dksX3_nested_2 16 rfl rfl)
theorem dX3_nested_65 : decode cX3_nested 65 = .ok (.dup, 1) := dk_89 (dk_at dksX3_nested_2 17 rfl rfl)
theorem dX3_nested_66 : decode cX3_nested 66 = .ok (.getfield 135, 3) := dk_180 0 135 (dk_at dksX3_nested_2 18 rfl rfl)
theorem dX3_nested_69 : decode cX3_nested 69 = .ok (.iconst 1, 1) := dk_4 (dk_at dksX3_nested_2 21 rfl rfl)
theorem dX3_nested_70 : decode cX3_nested 70 = .ok (.iadd, 1) := dk_96 (dk_at dksX3_nested_2 22 rfl rfl)
theorem dX3_nested_71 : decode cX3_nested 71 = .ok (.putfield 135, 3) := dk_181 0 135 (dk_at dksX3_nested_3 0 rfl rfl)
theorem dX3_nested_74 : decode cX3_nested 74 = .ok (.aload_n 0, 1) := dk_42 (dk_at dksX3_nested_3 3 rfl rfl)
theorem dX3_nested_75 : decode cX3_nested 75 = .ok (.dup, 1) := dk_89 (dk_at dksX3_nested_3 4 rfl rfl)
theorem dX3_nested_76 : decode cX3_nested 76 = .ok (.getfield 193, 3) := dk_180 0 193 (dk_at dksX3_nested_3 5 rfl rfl)
theorem dX3_nested_79 : decode cX3_nested 79 = .ok (.iconst 1, 1) := dk_4 (dk_at dksX3_nested_3 8 rfl rfl)
theorem dX3_nested_80 : decode cX3_nested 80 = .ok (.isub, 1) := dk_100 (dk_at dksX3_nested_3 9 rfl rfl)
theorem dX3_nested_81 : decode cX3_nested 81 = .ok (.putfield 193, 3) := dk_181 0 193 (dk_at dksX3_nested_3 10 rfl rfl)
theorem dX3_nested_84 : decode cX3_nested 84 = .ok (.aload_n 0, 1) := dk_42 (dk_at dksX3_nested_3 13 rfl rfl)
theorem dX3_nested_85 : decode cX3_nested 85 = .ok (.getfield 142, 3) := dk_180 0 142 (dk_at dksX3_nested_3 14 rfl rfl)
theorem dX3_nested_88 : decode cX3_nested 88 = .ok (.iconst (-1), 1) := dk_2 (dk_at dksX3_nested_3 17 rfl rfl)
theorem dX3_nested_89 : decode cX3_nested 89 = .ok (.if_icmp .ne 12, 3) := dk_160 0 12 (dk_at dksX3_nested_3 18 rfl rfl)
theorem dX3_nested_92 : decode cX3_nested 92 = .ok (.aload_n 0, 1) := dk_42 (dk_at dksX3_nested_3 21 rfl rfl)
theorem dX3_nested_93 : decode cX3_nested 93 = .ok (.iload_n 1, 1) := dk_27 (dk_at dksX3_nested_3 22 rfl rfl)
theorem dX3_nested_94 : decode cX3_nested 94 = .ok (.aload_n 0, 1) := dk_42 (dk_at dksX3_nested_3 23 rfl rfl)
theorem dX3_nested_95 : decode cX3_nested 95 = .ok (.getfield 171, 3) := dk_180 0 171 (dk_at dksX3_nested_4 0 rfl rfl)
theorem dX3_nested_98 : decode cX3_nested 98 = .ok (.invokevirtual 186, 3) := dk_182 0 186 (dk_at dksX3_nested_4 3 rfl rfl)
theorem dX3_nested_101 : decode cX3_nested 101 = .ok (.return_, 1) := dk_177 (dk_at dksX3_nested_4 6 rfl rfl)
abbrev cX3_numberPoints : ByteArray := prog_26_method_21_code
def yX3_numberPoints : MethodName := ⟨RX3, "numberPoints", "()V"⟩
def dkwX3_numberPoints_5 : List UInt8 := [46, 79, 132, 2, 1, 167, 255, 190, 177]
abbrev dktX3_numberPoints_5 : List UInt8 := dkwX3_numberPoints_5 ++ []
def dkwX3_numberPoints_4 : List UInt8 := [182, 0, 145, 46, 79, 42, 180, 0, 43, 28, 42, 180, 0, 58, 42, 42, 180, 0, 43, 28, 46, 182, 0, 145]
abbrev dktX3_numberPoints_4 : List UInt8 := dkwX3_numberPoints_4 ++ dktX3_numberPoints_5
def dkwX3_numberPoints_3 : List UInt8 := [180, 0, 161, 46, 96, 162, 0, 51, 42, 180, 0, 40, 28, 42, 180, 0, 58, 42, 42, 180, 0, 40, 28, 46]
abbrev dktX3_numberPoints_3 : List UInt8 := dkwX3_numberPoints_3 ++ dktX3_numberPoints_4
def dkwX3_numberPoints_2 : List UInt8 := [79, 16, 24, 42, 180, 0, 161, 104, 61, 28, 16, 24, 42, 180, 0, 161, 104, 42, 180, 0, 31, 42]
abbrev dktX3_numberPoints_2 : List UInt8 := dkwX3_numberPoints_2 ++ dktX3_numberPoints_3
def dkwX3_numberPoints_1 : List UInt8 := [180, 0, 58, 28, 27, 79, 132, 1, 1, 132, 2, 1, 167, 255, 226, 42, 180, 0, 34, 42, 180, 0, 161, 27]
abbrev dktX3_numberPoints_1 : List UInt8 := dkwX3_numberPoints_1 ++ dktX3_numberPoints_2
def dkwX3_numberPoints_0 : List UInt8 := [3, 60, 3, 61, 28, 42, 180, 0, 158, 162, 0, 28, 42, 28, 182, 0, 145, 28, 160, 0, 13, 42]
abbrev dktX3_numberPoints_0 : List UInt8 := dkwX3_numberPoints_0 ++ dktX3_numberPoints_1
theorem dksX3_numberPoints_0 : cX3_numberPoints.data.toList.drop 0 = dktX3_numberPoints_0 := by decide +kernel
theorem dksX3_numberPoints_1 : cX3_numberPoints.data.toList.drop 22 = dktX3_numberPoints_1 := dk_seg dksX3_numberPoints_0 22 rfl rfl
theorem dksX3_numberPoints_2 : cX3_numberPoints.data.toList.drop 46 = dktX3_numberPoints_2 := dk_seg dksX3_numberPoints_1 24 rfl rfl
theorem dksX3_numberPoints_3 : cX3_numberPoints.data.toList.drop 68 = dktX3_numberPoints_3 := dk_seg dksX3_numberPoints_2 22 rfl rfl
theorem dksX3_numberPoints_4 : cX3_numberPoints.data.toList.drop 92 = dktX3_numberPoints_4 := dk_seg dksX3_numberPoints_3 24 rfl rfl
theorem dksX3_numberPoints_5 : cX3_numberPoints.data.toList.drop 116 = dktX3_numberPoints_5 := dk_seg dksX3_numberPoints_4 24 rfl rfl
theorem dX3_numberPoints_0 : decode cX3_numberPoints 0 = .ok (.iconst 0, 1) := dk_3 (dk_at dksX3_numberPoints_0 0 rfl rfl)
theorem dX3_numberPoints_1 : decode cX3_numberPoints 1 = .ok (.istore_n 1, 1) := dk_60 (dk_at dksX3_numberPoints_0 1 rfl rfl)
theorem dX3_numberPoints_2 : decode cX3_numberPoints 2 = .ok (.iconst 0, 1) := dk_3 (dk_at dksX3_numberPoints_0 2 rfl rfl)
theorem dX3_numberPoints_3 : decode cX3_numberPoints 3 = .ok (.istore_n 2, 1) := dk_61 (dk_at dksX3_numberPoints_0 3 rfl rfl)
theorem dX3_numberPoints_4 : decode cX3_numberPoints 4 = .ok (.iload_n 2, 1) := dk_28 (dk_at dksX3_numberPoints_0 4 rfl rfl)
theorem dX3_numberPoints_5 : decode cX3_numberPoints 5 = .ok (.aload_n 0, 1) := dk_42 (dk_at dksX3_numberPoints_0 5 rfl rfl)
theorem dX3_numberPoints_6 : decode cX3_numberPoints 6 = .ok (.getfield 158, 3) := dk_180 0 158 (dk_at dksX3_numberPoints_0 6 rfl rfl)
theorem dX3_numberPoints_9 : decode cX3_numberPoints 9 = .ok (.if_icmp .ge 28, 3) := dk_162 0 28 (dk_at dksX3_numberPoints_0 9 rfl rfl)
theorem dX3_numberPoints_12 : decode cX3_numberPoints 12 = .ok (.aload_n 0, 1) := dk_42 (dk_at dksX3_numberPoints_0 12 rfl rfl)
theorem dX3_numberPoints_13 : decode cX3_numberPoints 13 = .ok (.iload_n 2, 1) := dk_28 (dk_at dksX3_numberPoints_0 13 rfl rfl)
theorem dX3_numberPoints_14 : decode cX3_numberPoints 14 = .ok (.invokevirtual 145, 3) := dk_182 0 145 (dk_at dksX3_numberPoints_0 14 rfl rfl)
theorem dX3_numberPoints_17 : decode cX3_numberPoints 17 = .ok (.iload_n 2, 1) := dk_28 (dk_at dksX3_numberPoints_0 17 rfl rfl)
theorem dX3_numberPoints_18 : decode cX3_numberPoints 18 = .ok (.if_icmp .ne 13, 3) := dk_160 0 13 (dk_at dksX3_numberPoints_0 18 rfl rfl)
theorem dX3_numberPoints_21 : decode cX3_numberPoints 21 = .ok (.aload_n 0, 1) := dk_42 (dk_at dksX3_numberPoints_0 21 rfl rfl)
theorem dX3_numberPoints_22 : decode cX3_numberPoints 22 = .ok (.getfield 58, 3) := dk_180 0 58 (dk_at dksX3_numberPoints_1 0 rfl rfl)
theorem dX3_numberPoints_25 : decode cX3_numberPoints 25 = .ok (.iload_n 2, 1) := dk_28 (dk_at dksX3_numberPoints_1 3 rfl rfl)
theorem dX3_numberPoints_26 : decode cX3_numberPoints 26 = .ok (.iload_n 1, 1) := dk_27 (dk_at dksX3_numberPoints_1 4 rfl rfl)
theorem dX3_numberPoints_27 : decode cX3_numberPoints 27 = .ok (.iastore, 1) := dk_79 (dk_at dksX3_numberPoints_1 5 rfl rfl)
theorem dX3_numberPoints_28 : decode cX3_numberPoints 28 = .ok (.iinc 1 1, 3) := dk_132 1 1 (dk_at dksX3_numberPoints_1 6 rfl rfl)
theorem dX3_numberPoints_31 : decode cX3_numberPoints 31 = .ok (.iinc 2 1, 3) := dk_132 2 1 (dk_at dksX3_numberPoints_1 9 rfl rfl)
theorem dX3_numberPoints_34 : decode cX3_numberPoints 34 = .ok (.goto (-30), 3) := dk_167 255 226 (dk_at dksX3_numberPoints_1 12 rfl rfl)
theorem dX3_numberPoints_37 : decode cX3_numberPoints 37 = .ok (.aload_n 0, 1) := dk_42 (dk_at dksX3_numberPoints_1 15 rfl rfl)
theorem dX3_numberPoints_38 : decode cX3_numberPoints 38 = .ok (.getfield 34, 3) := dk_180 0 34 (dk_at dksX3_numberPoints_1 16 rfl rfl)
theorem dX3_numberPoints_41 : decode cX3_numberPoints 41 = .ok (.aload_n 0, 1) := dk_42 (dk_at dksX3_numberPoints_1 19 rfl rfl)
theorem dX3_numberPoints_42 : decode cX3_numberPoints 42 = .ok (.getfield 161, 3) := dk_180 0 161 (dk_at dksX3_numberPoints_1 20 rfl rfl)
theorem dX3_numberPoints_45 : decode cX3_numberPoints 45 = .ok (.iload_n 1, 1) := dk_27 (dk_at dksX3_numberPoints_1 23 rfl rfl)
theorem dX3_numberPoints_46 : decode cX3_numberPoints 46 = .ok (.iastore, 1) := dk_79 (dk_at dksX3_numberPoints_2 0 rfl rfl)
theorem dX3_numberPoints_47 : decode cX3_numberPoints 47 = .ok (.bipush 24, 2) := dk_16 24 (dk_at dksX3_numberPoints_2 1 rfl rfl)
theorem dX3_numberPoints_49 : decode cX3_numberPoints 49 = .ok (.aload_n 0, 1) := dk_42 (dk_at dksX3_numberPoints_2 3 rfl rfl)
theorem dX3_numberPoints_50 : decode cX3_numberPoints 50 = .ok (.getfield 161, 3) := dk_180 0 161 (dk_at dksX3_numberPoints_2 4 rfl rfl)
theorem dX3_numberPoints_53 : decode cX3_numberPoints 53 = .ok (.imul, 1) := dk_104 (dk_at dksX3_numberPoints_2 7 rfl rfl)
theorem dX3_numberPoints_54 : decode cX3_numberPoints 54 = .ok (.istore_n 2, 1) := dk_61 (dk_at dksX3_numberPoints_2 8 rfl rfl)
theorem dX3_numberPoints_55 : decode cX3_numberPoints 55 = .ok (.iload_n 2, 1) := dk_28 (dk_at dksX3_numberPoints_2 9 rfl rfl)
theorem dX3_numberPoints_56 : decode cX3_numberPoints 56 = .ok (.bipush 24, 2) := dk_16 24 (dk_at dksX3_numberPoints_2 10 rfl rfl)
theorem dX3_numberPoints_58 : decode cX3_numberPoints 58 = .ok (.aload_n 0, 1) := dk_42 (dk_at dksX3_numberPoints_2 12 rfl rfl)
theorem dX3_numberPoints_59 : decode cX3_numberPoints 59 = .ok (.getfield 161, 3) := dk_180 0 161 (dk_at dksX3_numberPoints_2 13 rfl rfl)
theorem dX3_numberPoints_62 : decode cX3_numberPoints 62 = .ok (.imul, 1) := dk_104 (dk_at dksX3_numberPoints_2 16 rfl rfl)
theorem dX3_numberPoints_63 : decode cX3_numberPoints 63 = .ok (.aload_n 0, 1) := dk_42 (dk_at dksX3_numberPoints_2 17 rfl rfl)
theorem dX3_numberPoints_64 : decode cX3_numberPoints 64 = .ok (.getfield 31, 3) := dk_180 0 31 (dk_at dksX3_numberPoints_2 18 rfl rfl)
theorem dX3_numberPoints_67 : decode cX3_numberPoints 67 = .ok (.aload_n 0, 1) := dk_42 (dk_at dksX3_numberPoints_2 21 rfl rfl)
theorem dX3_numberPoints_68 : decode cX3_numberPoints 68 = .ok (.getfield 161, 3) := dk_180 0 161 (dk_at dksX3_numberPoints_3 0 rfl rfl)
theorem dX3_numberPoints_71 : decode cX3_numberPoints 71 = .ok (.iaload, 1) := dk_46 (dk_at dksX3_numberPoints_3 3 rfl rfl)
theorem dX3_numberPoints_72 : decode cX3_numberPoints 72 = .ok (.iadd, 1) := dk_96 (dk_at dksX3_numberPoints_3 4 rfl rfl)
theorem dX3_numberPoints_73 : decode cX3_numberPoints 73 = .ok (.if_icmp .ge 51, 3) := dk_162 0 51 (dk_at dksX3_numberPoints_3 5 rfl rfl)
theorem dX3_numberPoints_76 : decode cX3_numberPoints 76 = .ok (.aload_n 0, 1) := dk_42 (dk_at dksX3_numberPoints_3 8 rfl rfl)
theorem dX3_numberPoints_77 : decode cX3_numberPoints 77 = .ok (.getfield 40, 3) := dk_180 0 40 (dk_at dksX3_numberPoints_3 9 rfl rfl)
theorem dX3_numberPoints_80 : decode cX3_numberPoints 80 = .ok (.iload_n 2, 1) := dk_28 (dk_at dksX3_numberPoints_3 12 rfl rfl)
theorem dX3_numberPoints_81 : decode cX3_numberPoints 81 = .ok (.aload_n 0, 1) := dk_42 (dk_at dksX3_numberPoints_3 13 rfl rfl)
theorem dX3_numberPoints_82 : decode cX3_numberPoints 82 = .ok (.getfield 58, 3) := dk_180 0 58 (dk_at dksX3_numberPoints_3 14 rfl rfl)
theorem dX3_numberPoints_85 : decode cX3_numberPoints 85 = .ok (.aload_n 0, 1) := dk_42 (dk_at dksX3_numberPoints_3 17 rfl rfl)
theorem dX3_numberPoints_86 : decode cX3_numberPoints 86 = .ok (.aload_n 0, 1) := dk_42 (dk_at dksX3_numberPoints_3 18 rfl rfl)
theorem dX3_numberPoints_87 : decode cX3_numberPoints 87 = .ok (.getfield 40, 3) := dk_180 0 40 (dk_at dksX3_numberPoints_3 19 rfl rfl)
theorem dX3_numberPoints_90 : decode cX3_numberPoints 90 = .ok (.iload_n 2, 1) := dk_28 (dk_at dksX3_numberPoints_3 22 rfl rfl)
theorem dX3_numberPoints_91 : decode cX3_numberPoints 91 = .ok (.iaload, 1) := dk_46 (dk_at dksX3_numberPoints_3 23 rfl rfl)
theorem dX3_numberPoints_92 : decode cX3_numberPoints 92 = .ok (.invokevirtual 145, 3) := dk_182 0 145 (dk_at dksX3_numberPoints_4 0 rfl rfl)
theorem dX3_numberPoints_95 : decode cX3_numberPoints 95 = .ok (.iaload, 1) := dk_46 (dk_at dksX3_numberPoints_4 3 rfl rfl)
theorem dX3_numberPoints_96 : decode cX3_numberPoints 96 = .ok (.iastore, 1) := dk_79 (dk_at dksX3_numberPoints_4 4 rfl rfl)
theorem dX3_numberPoints_97 : decode cX3_numberPoints 97 = .ok (.aload_n 0, 1) := dk_42 (dk_at dksX3_numberPoints_4 5 rfl rfl)
theorem dX3_numberPoints_98 : decode cX3_numberPoints 98 = .ok (.getfield 43, 3) := dk_180 0 43 (dk_at dksX3_numberPoints_4 6 rfl rfl)
theorem dX3_numberPoints_101 : decode cX3_numberPoints 101 = .ok (.iload_n 2, 1) := dk_28 (dk_at dksX3_numberPoints_4 9 rfl rfl)
theorem dX3_numberPoints_102 : decode cX3_numberPoints 102 = .ok (.aload_n 0, 1) := dk_42 (dk_at dksX3_numberPoints_4 10 rfl rfl)
theorem dX3_numberPoints_103 : decode cX3_numberPoints 103 = .ok (.getfield 58, 3) := dk_180 0 58 (dk_at dksX3_numberPoints_4 11 rfl rfl)
theorem dX3_numberPoints_106 : decode cX3_numberPoints 106 = .ok (.aload_n 0, 1) := dk_42 (dk_at dksX3_numberPoints_4 14 rfl rfl)
theorem dX3_numberPoints_107 : decode cX3_numberPoints 107 = .ok (.aload_n 0, 1) := dk_42 (dk_at dksX3_numberPoints_4 15 rfl rfl)
theorem dX3_numberPoints_108 : decode cX3_numberPoints 108 = .ok (.getfield 43, 3) := dk_180 0 43 (dk_at dksX3_numberPoints_4 16 rfl rfl)
theorem dX3_numberPoints_111 : decode cX3_numberPoints 111 = .ok (.iload_n 2, 1) := dk_28 (dk_at dksX3_numberPoints_4 19 rfl rfl)
theorem dX3_numberPoints_112 : decode cX3_numberPoints 112 = .ok (.iaload, 1) := dk_46 (dk_at dksX3_numberPoints_4 20 rfl rfl)
theorem dX3_numberPoints_113 : decode cX3_numberPoints 113 = .ok (.invokevirtual 145, 3) := dk_182 0 145 (dk_at dksX3_numberPoints_4 21 rfl rfl)
theorem dX3_numberPoints_116 : decode cX3_numberPoints 116 = .ok (.iaload, 1) := dk_46 (dk_at dksX3_numberPoints_5 0 rfl rfl)
theorem dX3_numberPoints_117 : decode cX3_numberPoints 117 = .ok (.iastore, 1) := dk_79 (dk_at dksX3_numberPoints_5 1 rfl rfl)
theorem dX3_numberPoints_118 : decode cX3_numberPoints 118 = .ok (.iinc 2 1, 3) := dk_132 2 1 (dk_at dksX3_numberPoints_5 2 rfl rfl)
theorem dX3_numberPoints_121 : decode cX3_numberPoints 121 = .ok (.goto (-66), 3) := dk_167 255 190 (dk_at dksX3_numberPoints_5 5 rfl rfl)
theorem dX3_numberPoints_124 : decode cX3_numberPoints 124 = .ok (.return_, 1) := dk_177 (dk_at dksX3_numberPoints_5 8 rfl rfl)
abbrev cX3_readRule : ByteArray := prog_26_method_33_code
def yX3_readRule : MethodName := ⟨RX3, "readRule", "(I)I"⟩
def dkwX3_readRule_4 : List UInt8 := [180, 0, 142, 172]
abbrev dktX3_readRule_4 : List UInt8 := dkwX3_readRule_4 ++ []
def dkwX3_readRule_3 : List UInt8 := [167, 255, 225, 42, 180, 0, 142, 2, 160, 0, 15, 42, 182, 0, 180, 2, 159, 0, 7, 42, 182, 0, 164, 42]
abbrev dktX3_readRule_3 : List UInt8 := dkwX3_readRule_3 ++ dktX3_readRule_4
def dkwX3_readRule_2 : List UInt8 := [182, 0, 180, 16, 59, 160, 0, 20, 42, 89, 180, 0, 135, 4, 96, 181, 0, 135, 42, 182, 0, 243]
abbrev dktX3_readRule_2 : List UInt8 := dkwX3_readRule_2 ++ dktX3_readRule_3
def dkwX3_readRule_1 : List UInt8 := [181, 0, 208, 42, 180, 0, 64, 27, 3, 79, 42, 182, 0, 243, 42, 180, 0, 142, 2, 160, 0, 29, 42]
abbrev dktX3_readRule_1 : List UInt8 := dkwX3_readRule_1 ++ dktX3_readRule_2
def dkwX3_readRule_0 : List UInt8 := [42, 27, 181, 0, 205, 42, 3, 181, 0, 135, 42, 2, 181, 0, 142, 42, 3, 181, 0, 193, 42, 3]
abbrev dktX3_readRule_0 : List UInt8 := dkwX3_readRule_0 ++ dktX3_readRule_1
theorem dksX3_readRule_0 : cX3_readRule.data.toList.drop 0 = dktX3_readRule_0 := by decide +kernel
theorem dksX3_readRule_1 : cX3_readRule.data.toList.drop 22 = dktX3_readRule_1 := dk_seg dksX3_readRule_0 22 rfl rfl
theorem dksX3_readRule_2 : cX3_readRule.data.toList.drop 45 = dktX3_readRule_2 := dk_seg dksX3_readRule_1 23 rfl rfl
theorem dksX3_readRule_3 : cX3_readRule.data.toList.drop 67 = dktX3_readRule_3 := dk_seg dksX3_readRule_2 22 rfl rfl
theorem dksX3_readRule_4 : cX3_readRule.data.toList.drop 91 = dktX3_readRule_4 := dk_seg dksX3_readRule_3 24 rfl rfl
theorem dX3_readRule_0 : decode cX3_readRule 0 = .ok (.aload_n 0, 1) := dk_42 (dk_at dksX3_readRule_0 0 rfl rfl)
theorem dX3_readRule_1 : decode cX3_readRule 1 = .ok (.iload_n 1, 1) := dk_27 (dk_at dksX3_readRule_0 1 rfl rfl)
theorem dX3_readRule_2 : decode cX3_readRule 2 = .ok (.putfield 205, 3) := dk_181 0 205 (dk_at dksX3_readRule_0 2 rfl rfl)
theorem dX3_readRule_5 : decode cX3_readRule 5 = .ok (.aload_n 0, 1) := dk_42 (dk_at dksX3_readRule_0 5 rfl rfl)
theorem dX3_readRule_6 : decode cX3_readRule 6 = .ok (.iconst 0, 1) := dk_3 (dk_at dksX3_readRule_0 6 rfl rfl)
theorem dX3_readRule_7 : decode cX3_readRule 7 = .ok (.putfield 135, 3) := dk_181 0 135 (dk_at dksX3_readRule_0 7 rfl rfl)
theorem dX3_readRule_10 : decode cX3_readRule 10 = .ok (.aload_n 0, 1) := dk_42 (dk_at dksX3_readRule_0 10 rfl rfl)
theorem dX3_readRule_11 : decode cX3_readRule 11 = .ok (.iconst (-1), 1) := dk_2 (dk_at dksX3_readRule_0 11 rfl rfl)
theorem dX3_readRule_12 : decode cX3_readRule 12 = .ok (.putfield 142, 3) := dk_181 0 142 (dk_at dksX3_readRule_0 12 rfl rfl)
theorem dX3_readRule_15 : decode cX3_readRule 15 = .ok (.aload_n 0, 1) := dk_42 (dk_at dksX3_readRule_0 15 rfl rfl)
theorem dX3_readRule_16 : decode cX3_readRule 16 = .ok (.iconst 0, 1) := dk_3 (dk_at dksX3_readRule_0 16 rfl rfl)
theorem dX3_readRule_17 : decode cX3_readRule 17 = .ok (.putfield 193, 3) := dk_181 0 193 (dk_at dksX3_readRule_0 17 rfl rfl)
theorem dX3_readRule_20 : decode cX3_readRule 20 = .ok (.aload_n 0, 1) := dk_42 (dk_at dksX3_readRule_0 20 rfl rfl)
theorem dX3_readRule_21 : decode cX3_readRule 21 = .ok (.iconst 0, 1) := dk_3 (dk_at dksX3_readRule_0 21 rfl rfl)
theorem dX3_readRule_22 : decode cX3_readRule 22 = .ok (.putfield 208, 3) := dk_181 0 208 (dk_at dksX3_readRule_1 0 rfl rfl)
theorem dX3_readRule_25 : decode cX3_readRule 25 = .ok (.aload_n 0, 1) := dk_42 (dk_at dksX3_readRule_1 3 rfl rfl)
theorem dX3_readRule_26 : decode cX3_readRule 26 = .ok (.getfield 64, 3) := dk_180 0 64 (dk_at dksX3_readRule_1 4 rfl rfl)
theorem dX3_readRule_29 : decode cX3_readRule 29 = .ok (.iload_n 1, 1) := dk_27 (dk_at dksX3_readRule_1 7 rfl rfl)
theorem dX3_readRule_30 : decode cX3_readRule 30 = .ok (.iconst 0, 1) := dk_3 (dk_at dksX3_readRule_1 8 rfl rfl)
theorem dX3_readRule_31 : decode cX3_readRule 31 = .ok (.iastore, 1) := dk_79 (dk_at dksX3_readRule_1 9 rfl rfl)
theorem dX3_readRule_32 : decode cX3_readRule 32 = .ok (.aload_n 0, 1) := dk_42 (dk_at dksX3_readRule_1 10 rfl rfl)
theorem dX3_readRule_33 : decode cX3_readRule 33 = .ok (.invokevirtual 243, 3) := dk_182 0 243 (dk_at dksX3_readRule_1 11 rfl rfl)
theorem dX3_readRule_36 : decode cX3_readRule 36 = .ok (.aload_n 0, 1) := dk_42 (dk_at dksX3_readRule_1 14 rfl rfl)
theorem dX3_readRule_37 : decode cX3_readRule 37 = .ok (.getfield 142, 3) := dk_180 0 142 (dk_at dksX3_readRule_1 15 rfl rfl)
theorem dX3_readRule_40 : decode cX3_readRule 40 = .ok (.iconst (-1), 1) := dk_2 (dk_at dksX3_readRule_1 18 rfl rfl)
theorem dX3_readRule_41 : decode cX3_readRule 41 = .ok (.if_icmp .ne 29, 3) := dk_160 0 29 (dk_at dksX3_readRule_1 19 rfl rfl)
theorem dX3_readRule_44 : decode cX3_readRule 44 = .ok (.aload_n 0, 1) := dk_42 (dk_at dksX3_readRule_1 22 rfl rfl)
theorem dX3_readRule_45 : decode cX3_readRule 45 = .ok (.invokevirtual 180, 3) := dk_182 0 180 (dk_at dksX3_readRule_2 0 rfl rfl)
theorem dX3_readRule_48 : decode cX3_readRule 48 = .ok (.bipush 59, 2) := dk_16 59 (dk_at dksX3_readRule_2 3 rfl rfl)
theorem dX3_readRule_50 : decode cX3_readRule 50 = .ok (.if_icmp .ne 20, 3) := dk_160 0 20 (dk_at dksX3_readRule_2 5 rfl rfl)
theorem dX3_readRule_53 : decode cX3_readRule 53 = .ok (.aload_n 0, 1) := dk_42 (dk_at dksX3_readRule_2 8 rfl rfl)
theorem dX3_readRule_54 : decode cX3_readRule 54 = .ok (.dup, 1) := dk_89 (dk_at dksX3_readRule_2 9 rfl rfl)
theorem dX3_readRule_55 : decode cX3_readRule 55 = .ok (.getfield 135, 3) := dk_180 0 135 (dk_at dksX3_readRule_2 10 rfl rfl)
theorem dX3_readRule_58 : decode cX3_readRule 58 = .ok (.iconst 1, 1) := dk_4 (dk_at dksX3_readRule_2 13 rfl rfl)
theorem dX3_readRule_59 : decode cX3_readRule 59 = .ok (.iadd, 1) := dk_96 (dk_at dksX3_readRule_2 14 rfl rfl)
theorem dX3_readRule_60 : decode cX3_readRule 60 = .ok (.putfield 135, 3) := dk_181 0 135 (dk_at dksX3_readRule_2 15 rfl rfl)
theorem dX3_readRule_63 : decode cX3_readRule 63 = .ok (.aload_n 0, 1) := dk_42 (dk_at dksX3_readRule_2 18 rfl rfl)
theorem dX3_readRule_64 : decode cX3_readRule 64 = .ok (.invokevirtual 243, 3) := dk_182 0 243 (dk_at dksX3_readRule_2 19 rfl rfl)
theorem dX3_readRule_67 : decode cX3_readRule 67 = .ok (.goto (-31), 3) := dk_167 255 225 (dk_at dksX3_readRule_3 0 rfl rfl)
theorem dX3_readRule_70 : decode cX3_readRule 70 = .ok (.aload_n 0, 1) := dk_42 (dk_at dksX3_readRule_3 3 rfl rfl)
theorem dX3_readRule_71 : decode cX3_readRule 71 = .ok (.getfield 142, 3) := dk_180 0 142 (dk_at dksX3_readRule_3 4 rfl rfl)
theorem dX3_readRule_74 : decode cX3_readRule 74 = .ok (.iconst (-1), 1) := dk_2 (dk_at dksX3_readRule_3 7 rfl rfl)
theorem dX3_readRule_75 : decode cX3_readRule 75 = .ok (.if_icmp .ne 15, 3) := dk_160 0 15 (dk_at dksX3_readRule_3 8 rfl rfl)
theorem dX3_readRule_78 : decode cX3_readRule 78 = .ok (.aload_n 0, 1) := dk_42 (dk_at dksX3_readRule_3 11 rfl rfl)
theorem dX3_readRule_79 : decode cX3_readRule 79 = .ok (.invokevirtual 180, 3) := dk_182 0 180 (dk_at dksX3_readRule_3 12 rfl rfl)
theorem dX3_readRule_82 : decode cX3_readRule 82 = .ok (.iconst (-1), 1) := dk_2 (dk_at dksX3_readRule_3 15 rfl rfl)
theorem dX3_readRule_83 : decode cX3_readRule 83 = .ok (.if_icmp .eq 7, 3) := dk_159 0 7 (dk_at dksX3_readRule_3 16 rfl rfl)
theorem dX3_readRule_86 : decode cX3_readRule 86 = .ok (.aload_n 0, 1) := dk_42 (dk_at dksX3_readRule_3 19 rfl rfl)
theorem dX3_readRule_87 : decode cX3_readRule 87 = .ok (.invokevirtual 164, 3) := dk_182 0 164 (dk_at dksX3_readRule_3 20 rfl rfl)
theorem dX3_readRule_90 : decode cX3_readRule 90 = .ok (.aload_n 0, 1) := dk_42 (dk_at dksX3_readRule_3 23 rfl rfl)
theorem dX3_readRule_91 : decode cX3_readRule 91 = .ok (.getfield 142, 3) := dk_180 0 142 (dk_at dksX3_readRule_4 0 rfl rfl)
theorem dX3_readRule_94 : decode cX3_readRule 94 = .ok (.ireturn, 1) := dk_172 (dk_at dksX3_readRule_4 3 rfl rfl)
abbrev cX3_clause : ByteArray := prog_26_method_32_code
def yX3_clause : MethodName := ⟨RX3, "clause", "()V"⟩
def dkwX3_clause_10 : List UInt8 := [180, 0, 208, 79, 177]
abbrev dktX3_clause_10 : List UInt8 := dkwX3_clause_10 ++ []
def dkwX3_clause_9 : List UInt8 := [181, 0, 135, 42, 180, 0, 67, 27, 42, 180, 0, 208, 79, 42, 182, 0, 221, 42, 180, 0, 70, 27, 42]
abbrev dktX3_clause_9 : List UInt8 := dkwX3_clause_9 ++ dktX3_clause_10
def dkwX3_clause_8 : List UInt8 := [153, 0, 41, 42, 182, 0, 180, 16, 63, 159, 0, 8, 42, 182, 0, 164, 177, 42, 89, 180, 0, 135, 4, 96]
abbrev dktX3_clause_8 : List UInt8 := dkwX3_clause_8 ++ dktX3_clause_9
def dkwX3_clause_7 : List UInt8 := [167, 0, 4, 3, 62, 29, 153, 0, 8, 42, 4, 182, 0, 237, 42, 180, 0, 142, 2, 160, 0, 45, 29]
abbrev dktX3_clause_7 : List UInt8 := dkwX3_clause_7 ++ dktX3_clause_8
def dkwX3_clause_6 : List UInt8 := [167, 0, 4, 2, 61, 28, 16, 61, 159, 0, 15, 28, 16, 60, 159, 0, 9, 28, 16, 62, 160, 0, 7, 4]
abbrev dktX3_clause_6 : List UInt8 := dkwX3_clause_6 ++ dktX3_clause_7
def dkwX3_clause_5 : List UInt8 := [182, 0, 237, 167, 0, 57, 42, 182, 0, 221, 42, 180, 0, 142, 2, 160, 0, 10, 42, 182, 0, 180]
abbrev dktX3_clause_5 : List UInt8 := dkwX3_clause_5 ++ dktX3_clause_6
def dkwX3_clause_4 : List UInt8 := [16, 33, 159, 0, 9, 28, 16, 40, 160, 0, 7, 4, 167, 0, 4, 3, 62, 29, 153, 0, 11, 42, 3]
abbrev dktX3_clause_4 : List UInt8 := dkwX3_clause_4 ++ dktX3_clause_5
def dkwX3_clause_3 : List UInt8 := [180, 0, 205, 92, 46, 4, 96, 79, 42, 180, 0, 67, 27, 42, 180, 0, 208, 79, 42, 182, 0, 180, 61, 28]
abbrev dktX3_clause_3 : List UInt8 := dkwX3_clause_3 ++ dktX3_clause_4
def dkwX3_clause_2 : List UInt8 := [159, 0, 8, 42, 182, 0, 164, 177, 42, 89, 180, 0, 135, 4, 96, 181, 0, 135, 42, 180, 0, 64, 42]
abbrev dktX3_clause_2 : List UInt8 := dkwX3_clause_2 ++ dktX3_clause_3
def dkwX3_clause_1 : List UInt8 := [159, 0, 8, 42, 182, 0, 164, 177, 42, 89, 180, 0, 135, 4, 96, 181, 0, 135, 42, 182, 0, 180, 16, 58]
abbrev dktX3_clause_1 : List UInt8 := dkwX3_clause_1 ++ dktX3_clause_2
def dkwX3_clause_0 : List UInt8 := [16, 64, 42, 180, 0, 205, 104, 42, 180, 0, 64, 42, 180, 0, 205, 46, 96, 60, 42, 182, 0, 180, 16, 119]
abbrev dktX3_clause_0 : List UInt8 := dkwX3_clause_0 ++ dktX3_clause_1
theorem dksX3_clause_0 : cX3_clause.data.toList.drop 0 = dktX3_clause_0 := by decide +kernel
theorem dksX3_clause_1 : cX3_clause.data.toList.drop 24 = dktX3_clause_1 := dk_seg dksX3_clause_0 24 rfl rfl
theorem dksX3_clause_2 : cX3_clause.data.toList.drop 48 = dktX3_clause_2 := dk_seg dksX3_clause_1 24 rfl rfl
theorem dksX3_clause_3 : cX3_clause.data.toList.drop 71 = dktX3_clause_3 := dk_seg dksX3_clause_2 23 rfl rfl
theorem dksX3_clause_4 : cX3_clause.data.toList.drop 95 = dktX3_clause_4 := dk_seg dksX3_clause_3 24 rfl rfl
theorem dksX3_clause_5 : cX3_clause.data.toList.drop 118 = dktX3_clause_5 := dk_seg dksX3_clause_4 23 rfl rfl
theorem dksX3_clause_6 : cX3_clause.data.toList.drop 140 = dktX3_clause_6 := dk_seg dksX3_clause_5 22 rfl rfl
theorem dksX3_clause_7 : cX3_clause.data.toList.drop 164 = dktX3_clause_7 := dk_seg dksX3_clause_6 24 rfl rfl
theorem dksX3_clause_8 : cX3_clause.data.toList.drop 187 = dktX3_clause_8 := dk_seg dksX3_clause_7 23 rfl rfl
theorem dksX3_clause_9 : cX3_clause.data.toList.drop 211 = dktX3_clause_9 := dk_seg dksX3_clause_8 24 rfl rfl
theorem dksX3_clause_10 : cX3_clause.data.toList.drop 234 = dktX3_clause_10 := dk_seg dksX3_clause_9 23 rfl rfl
theorem dX3_clause_0 : decode cX3_clause 0 = .ok (.bipush 64, 2) := dk_16 64 (dk_at dksX3_clause_0 0 rfl rfl)
theorem dX3_clause_2 : decode cX3_clause 2 = .ok (.aload_n 0, 1) := dk_42 (dk_at dksX3_clause_0 2 rfl rfl)
theorem dX3_clause_3 : decode cX3_clause 3 = .ok (.getfield 205, 3) := dk_180 0 205 (dk_at dksX3_clause_0 3 rfl rfl)
theorem dX3_clause_6 : decode cX3_clause 6 = .ok (.imul, 1) := dk_104 (dk_at dksX3_clause_0 6 rfl rfl)
theorem dX3_clause_7 : decode cX3_clause 7 = .ok (.aload_n 0, 1) := dk_42 (dk_at dksX3_clause_0 7 rfl rfl)
theorem dX3_clause_8 : decode cX3_clause 8 = .ok (.getfield 64, 3) := dk_180 0 64 (dk_at dksX3_clause_0 8 rfl rfl)
theorem dX3_clause_11 : decode cX3_clause 11 = .ok (.aload_n 0, 1) := dk_42 (dk_at dksX3_clause_0 11 rfl rfl)
theorem dX3_clause_12 : decode cX3_clause 12 = .ok (.getfield 205, 3) := dk_180 0 205 (dk_at dksX3_clause_0 12 rfl rfl)
theorem dX3_clause_15 : decode cX3_clause 15 = .ok (.iaload, 1) := dk_46 (dk_at dksX3_clause_0 15 rfl rfl)
theorem dX3_clause_16 : decode cX3_clause 16 = .ok (.iadd, 1) := dk_96 (dk_at dksX3_clause_0 16 rfl rfl)
theorem dX3_clause_17 : decode cX3_clause 17 = .ok (.istore_n 1, 1) := dk_60 (dk_at dksX3_clause_0 17 rfl rfl)
theorem dX3_clause_18 : decode cX3_clause 18 = .ok (.aload_n 0, 1) := dk_42 (dk_at dksX3_clause_0 18 rfl rfl)
theorem dX3_clause_19 : decode cX3_clause 19 = .ok (.invokevirtual 180, 3) := dk_182 0 180 (dk_at dksX3_clause_0 19 rfl rfl)
theorem dX3_clause_22 : decode cX3_clause 22 = .ok (.bipush 119, 2) := dk_16 119 (dk_at dksX3_clause_0 22 rfl rfl)
theorem dX3_clause_24 : decode cX3_clause 24 = .ok (.if_icmp .eq 8, 3) := dk_159 0 8 (dk_at dksX3_clause_1 0 rfl rfl)
theorem dX3_clause_27 : decode cX3_clause 27 = .ok (.aload_n 0, 1) := dk_42 (dk_at dksX3_clause_1 3 rfl rfl)
theorem dX3_clause_28 : decode cX3_clause 28 = .ok (.invokevirtual 164, 3) := dk_182 0 164 (dk_at dksX3_clause_1 4 rfl rfl)
theorem dX3_clause_31 : decode cX3_clause 31 = .ok (.return_, 1) := dk_177 (dk_at dksX3_clause_1 7 rfl rfl)
theorem dX3_clause_32 : decode cX3_clause 32 = .ok (.aload_n 0, 1) := dk_42 (dk_at dksX3_clause_1 8 rfl rfl)
theorem dX3_clause_33 : decode cX3_clause 33 = .ok (.dup, 1) := dk_89 (dk_at dksX3_clause_1 9 rfl rfl)
theorem dX3_clause_34 : decode cX3_clause 34 = .ok (.getfield 135, 3) := dk_180 0 135 (dk_at dksX3_clause_1 10 rfl rfl)
theorem dX3_clause_37 : decode cX3_clause 37 = .ok (.iconst 1, 1) := dk_4 (dk_at dksX3_clause_1 13 rfl rfl)
theorem dX3_clause_38 : decode cX3_clause 38 = .ok (.iadd, 1) := dk_96 (dk_at dksX3_clause_1 14 rfl rfl)
theorem dX3_clause_39 : decode cX3_clause 39 = .ok (.putfield 135, 3) := dk_181 0 135 (dk_at dksX3_clause_1 15 rfl rfl)
theorem dX3_clause_42 : decode cX3_clause 42 = .ok (.aload_n 0, 1) := dk_42 (dk_at dksX3_clause_1 18 rfl rfl)
theorem dX3_clause_43 : decode cX3_clause 43 = .ok (.invokevirtual 180, 3) := dk_182 0 180 (dk_at dksX3_clause_1 19 rfl rfl)
theorem dX3_clause_46 : decode cX3_clause 46 = .ok (.bipush 58, 2) := dk_16 58 (dk_at dksX3_clause_1 22 rfl rfl)
theorem dX3_clause_48 : decode cX3_clause 48 = .ok (.if_icmp .eq 8, 3) := dk_159 0 8 (dk_at dksX3_clause_2 0 rfl rfl)
theorem dX3_clause_51 : decode cX3_clause 51 = .ok (.aload_n 0, 1) := dk_42 (dk_at dksX3_clause_2 3 rfl rfl)
theorem dX3_clause_52 : decode cX3_clause 52 = .ok (.invokevirtual 164, 3) := dk_182 0 164 (dk_at dksX3_clause_2 4 rfl rfl)
theorem dX3_clause_55 : decode cX3_clause 55 = .ok (.return_, 1) := dk_177 (dk_at dksX3_clause_2 7 rfl rfl)
theorem dX3_clause_56 : decode cX3_clause 56 = .ok (.aload_n 0, 1) := dk_42 (dk_at dksX3_clause_2 8 rfl rfl)
theorem dX3_clause_57 : decode cX3_clause 57 = .ok (.dup, 1) := dk_89 (dk_at dksX3_clause_2 9 rfl rfl)
theorem dX3_clause_58 : decode cX3_clause 58 = .ok (.getfield 135, 3) := dk_180 0 135 (dk_at dksX3_clause_2 10 rfl rfl)
theorem dX3_clause_61 : decode cX3_clause 61 = .ok (.iconst 1, 1) := dk_4 (dk_at dksX3_clause_2 13 rfl rfl)
theorem dX3_clause_62 : decode cX3_clause 62 = .ok (.iadd, 1) := dk_96 (dk_at dksX3_clause_2 14 rfl rfl)
theorem dX3_clause_63 : decode cX3_clause 63 = .ok (.putfield 135, 3) := dk_181 0 135 (dk_at dksX3_clause_2 15 rfl rfl)
theorem dX3_clause_66 : decode cX3_clause 66 = .ok (.aload_n 0, 1) := dk_42 (dk_at dksX3_clause_2 18 rfl rfl)
theorem dX3_clause_67 : decode cX3_clause 67 = .ok (.getfield 64, 3) := dk_180 0 64 (dk_at dksX3_clause_2 19 rfl rfl)
theorem dX3_clause_70 : decode cX3_clause 70 = .ok (.aload_n 0, 1) := dk_42 (dk_at dksX3_clause_2 22 rfl rfl)
theorem dX3_clause_71 : decode cX3_clause 71 = .ok (.getfield 205, 3) := dk_180 0 205 (dk_at dksX3_clause_3 0 rfl rfl)
theorem dX3_clause_74 : decode cX3_clause 74 = .ok (.dup2, 1) := dk_92 (dk_at dksX3_clause_3 3 rfl rfl)
theorem dX3_clause_75 : decode cX3_clause 75 = .ok (.iaload, 1) := dk_46 (dk_at dksX3_clause_3 4 rfl rfl)
theorem dX3_clause_76 : decode cX3_clause 76 = .ok (.iconst 1, 1) := dk_4 (dk_at dksX3_clause_3 5 rfl rfl)
theorem dX3_clause_77 : decode cX3_clause 77 = .ok (.iadd, 1) := dk_96 (dk_at dksX3_clause_3 6 rfl rfl)
theorem dX3_clause_78 : decode cX3_clause 78 = .ok (.iastore, 1) := dk_79 (dk_at dksX3_clause_3 7 rfl rfl)
theorem dX3_clause_79 : decode cX3_clause 79 = .ok (.aload_n 0, 1) := dk_42 (dk_at dksX3_clause_3 8 rfl rfl)
theorem dX3_clause_80 : decode cX3_clause 80 = .ok (.getfield 67, 3) := dk_180 0 67 (dk_at dksX3_clause_3 9 rfl rfl)
theorem dX3_clause_83 : decode cX3_clause 83 = .ok (.iload_n 1, 1) := dk_27 (dk_at dksX3_clause_3 12 rfl rfl)
theorem dX3_clause_84 : decode cX3_clause 84 = .ok (.aload_n 0, 1) := dk_42 (dk_at dksX3_clause_3 13 rfl rfl)
theorem dX3_clause_85 : decode cX3_clause 85 = .ok (.getfield 208, 3) := dk_180 0 208 (dk_at dksX3_clause_3 14 rfl rfl)
theorem dX3_clause_88 : decode cX3_clause 88 = .ok (.iastore, 1) := dk_79 (dk_at dksX3_clause_3 17 rfl rfl)
theorem dX3_clause_89 : decode cX3_clause 89 = .ok (.aload_n 0, 1) := dk_42 (dk_at dksX3_clause_3 18 rfl rfl)
theorem dX3_clause_90 : decode cX3_clause 90 = .ok (.invokevirtual 180, 3) := dk_182 0 180 (dk_at dksX3_clause_3 19 rfl rfl)
theorem dX3_clause_93 : decode cX3_clause 93 = .ok (.istore_n 2, 1) := dk_61 (dk_at dksX3_clause_3 22 rfl rfl)
theorem dX3_clause_94 : decode cX3_clause 94 = .ok (.iload_n 2, 1) := dk_28 (dk_at dksX3_clause_3 23 rfl rfl)
theorem dX3_clause_95 : decode cX3_clause 95 = .ok (.bipush 33, 2) := dk_16 33 (dk_at dksX3_clause_4 0 rfl rfl)
theorem dX3_clause_97 : decode cX3_clause 97 = .ok (.if_icmp .eq 9, 3) := dk_159 0 9 (dk_at dksX3_clause_4 2 rfl rfl)
theorem dX3_clause_100 : decode cX3_clause 100 = .ok (.iload_n 2, 1) := dk_28 (dk_at dksX3_clause_4 5 rfl rfl)
theorem dX3_clause_101 : decode cX3_clause 101 = .ok (.bipush 40, 2) := dk_16 40 (dk_at dksX3_clause_4 6 rfl rfl)
theorem dX3_clause_103 : decode cX3_clause 103 = .ok (.if_icmp .ne 7, 3) := dk_160 0 7 (dk_at dksX3_clause_4 8 rfl rfl)
theorem dX3_clause_106 : decode cX3_clause 106 = .ok (.iconst 1, 1) := dk_4 (dk_at dksX3_clause_4 11 rfl rfl)
theorem dX3_clause_107 : decode cX3_clause 107 = .ok (.goto 4, 3) := dk_167 0 4 (dk_at dksX3_clause_4 12 rfl rfl)
theorem dX3_clause_110 : decode cX3_clause 110 = .ok (.iconst 0, 1) := dk_3 (dk_at dksX3_clause_4 15 rfl rfl)
theorem dX3_clause_111 : decode cX3_clause 111 = .ok (.istore_n 3, 1) := dk_62 (dk_at dksX3_clause_4 16 rfl rfl)
theorem dX3_clause_112 : decode cX3_clause 112 = .ok (.iload_n 3, 1) := dk_29 (dk_at dksX3_clause_4 17 rfl rfl)
theorem dX3_clause_113 : decode cX3_clause 113 = .ok (.ifCond .eq 11, 3) := dk_153 0 11 (dk_at dksX3_clause_4 18 rfl rfl)
theorem dX3_clause_116 : decode cX3_clause 116 = .ok (.aload_n 0, 1) := dk_42 (dk_at dksX3_clause_4 21 rfl rfl)
theorem dX3_clause_117 : decode cX3_clause 117 = .ok (.iconst 0, 1) := dk_3 (dk_at dksX3_clause_4 22 rfl rfl)
theorem dX3_clause_118 : decode cX3_clause 118 = .ok (.invokevirtual 237, 3) := dk_182 0 237 (dk_at dksX3_clause_5 0 rfl rfl)
theorem dX3_clause_121 : decode cX3_clause 121 = .ok (.goto 57, 3) := dk_167 0 57 (dk_at dksX3_clause_5 3 rfl rfl)
theorem dX3_clause_124 : decode cX3_clause 124 = .ok (.aload_n 0, 1) := dk_42 (dk_at dksX3_clause_5 6 rfl rfl)
theorem dX3_clause_125 : decode cX3_clause 125 = .ok (.invokevirtual 221, 3) := dk_182 0 221 (dk_at dksX3_clause_5 7 rfl rfl)
theorem dX3_clause_128 : decode cX3_clause 128 = .ok (.aload_n 0, 1) := dk_42 (dk_at dksX3_clause_5 10 rfl rfl)
theorem dX3_clause_129 : decode cX3_clause 129 = .ok (.getfield 142, 3) := dk_180 0 142 (dk_at dksX3_clause_5 11 rfl rfl)
theorem dX3_clause_132 : decode cX3_clause 132 = .ok (.iconst (-1), 1) := dk_2 (dk_at dksX3_clause_5 14 rfl rfl)
theorem dX3_clause_133 : decode cX3_clause 133 = .ok (.if_icmp .ne 10, 3) := dk_160 0 10 (dk_at dksX3_clause_5 15 rfl rfl)
theorem dX3_clause_136 : decode cX3_clause 136 = .ok (.aload_n 0, 1) := dk_42 (dk_at dksX3_clause_5 18 rfl rfl)
theorem dX3_clause_137 : decode cX3_clause 137 = .ok (.invokevirtual 180, 3) := dk_182 0 180 (dk_at dksX3_clause_5 19 rfl rfl)
theorem dX3_clause_140 : decode cX3_clause 140 = .ok (.goto 4, 3) := dk_167 0 4 (dk_at dksX3_clause_6 0 rfl rfl)
theorem dX3_clause_143 : decode cX3_clause 143 = .ok (.iconst (-1), 1) := dk_2 (dk_at dksX3_clause_6 3 rfl rfl)
theorem dX3_clause_144 : decode cX3_clause 144 = .ok (.istore_n 2, 1) := dk_61 (dk_at dksX3_clause_6 4 rfl rfl)
theorem dX3_clause_145 : decode cX3_clause 145 = .ok (.iload_n 2, 1) := dk_28 (dk_at dksX3_clause_6 5 rfl rfl)
theorem dX3_clause_146 : decode cX3_clause 146 = .ok (.bipush 61, 2) := dk_16 61 (dk_at dksX3_clause_6 6 rfl rfl)
theorem dX3_clause_148 : decode cX3_clause 148 = .ok (.if_icmp .eq 15, 3) := dk_159 0 15 (dk_at dksX3_clause_6 8 rfl rfl)
theorem dX3_clause_151 : decode cX3_clause 151 = .ok (.iload_n 2, 1) := dk_28 (dk_at dksX3_clause_6 11 rfl rfl)
theorem dX3_clause_152 : decode cX3_clause 152 = .ok (.bipush 60, 2) := dk_16 60 (dk_at dksX3_clause_6 12 rfl rfl)
theorem dX3_clause_154 : decode cX3_clause 154 = .ok (.if_icmp .eq 9, 3) := dk_159 0 9 (dk_at dksX3_clause_6 14 rfl rfl)
theorem dX3_clause_157 : decode cX3_clause 157 = .ok (.iload_n 2, 1) := dk_28 (dk_at dksX3_clause_6 17 rfl rfl)
theorem dX3_clause_158 : decode cX3_clause 158 = .ok (.bipush 62, 2) := dk_16 62 (dk_at dksX3_clause_6 18 rfl rfl)
theorem dX3_clause_160 : decode cX3_clause 160 = .ok (.if_icmp .ne 7, 3) := dk_160 0 7 (dk_at dksX3_clause_6 20 rfl rfl)
theorem dX3_clause_163 : decode cX3_clause 163 = .ok (.iconst 1, 1) := dk_4 (dk_at dksX3_clause_6 23 rfl rfl)
theorem dX3_clause_164 : decode cX3_clause 164 = .ok (.goto 4, 3) := dk_167 0 4 (dk_at dksX3_clause_7 0 rfl rfl)
theorem dX3_clause_167 : decode cX3_clause 167 = .ok (.iconst 0, 1) := dk_3 (dk_at dksX3_clause_7 3 rfl rfl)
theorem dX3_clause_168 : decode cX3_clause 168 = .ok (.istore_n 3, 1) := dk_62 (dk_at dksX3_clause_7 4 rfl rfl)
theorem dX3_clause_169 : decode cX3_clause 169 = .ok (.iload_n 3, 1) := dk_29 (dk_at dksX3_clause_7 5 rfl rfl)
theorem dX3_clause_170 : decode cX3_clause 170 = .ok (.ifCond .eq 8, 3) := dk_153 0 8 (dk_at dksX3_clause_7 6 rfl rfl)
theorem dX3_clause_173 : decode cX3_clause 173 = .ok (.aload_n 0, 1) := dk_42 (dk_at dksX3_clause_7 9 rfl rfl)
theorem dX3_clause_174 : decode cX3_clause 174 = .ok (.iconst 1, 1) := dk_4 (dk_at dksX3_clause_7 10 rfl rfl)
theorem dX3_clause_175 : decode cX3_clause 175 = .ok (.invokevirtual 237, 3) := dk_182 0 237 (dk_at dksX3_clause_7 11 rfl rfl)
theorem dX3_clause_178 : decode cX3_clause 178 = .ok (.aload_n 0, 1) := dk_42 (dk_at dksX3_clause_7 14 rfl rfl)
theorem dX3_clause_179 : decode cX3_clause 179 = .ok (.getfield 142, 3) := dk_180 0 142 (dk_at dksX3_clause_7 15 rfl rfl)
theorem dX3_clause_182 : decode cX3_clause 182 = .ok (.iconst (-1), 1) := dk_2 (dk_at dksX3_clause_7 18 rfl rfl)
theorem dX3_clause_183 : decode cX3_clause 183 = .ok (.if_icmp .ne 45, 3) := dk_160 0 45 (dk_at dksX3_clause_7 19 rfl rfl)
theorem dX3_clause_186 : decode cX3_clause 186 = .ok (.iload_n 3, 1) := dk_29 (dk_at dksX3_clause_7 22 rfl rfl)
theorem dX3_clause_187 : decode cX3_clause 187 = .ok (.ifCond .eq 41, 3) := dk_153 0 41 (dk_at dksX3_clause_8 0 rfl rfl)
theorem dX3_clause_190 : decode cX3_clause 190 = .ok (.aload_n 0, 1) := dk_42 (dk_at dksX3_clause_8 3 rfl rfl)
theorem dX3_clause_191 : decode cX3_clause 191 = .ok (.invokevirtual 180, 3) := dk_182 0 180 (dk_at dksX3_clause_8 4 rfl rfl)
theorem dX3_clause_194 : decode cX3_clause 194 = .ok (.bipush 63, 2) := dk_16 63 (dk_at dksX3_clause_8 7 rfl rfl)
theorem dX3_clause_196 : decode cX3_clause 196 = .ok (.if_icmp .eq 8, 3) := dk_159 0 8 (dk_at dksX3_clause_8 9 rfl rfl)
theorem dX3_clause_199 : decode cX3_clause 199 = .ok (.aload_n 0, 1) := dk_42 (dk_at dksX3_clause_8 12 rfl rfl)
theorem dX3_clause_200 : decode cX3_clause 200 = .ok (.invokevirtual 164, 3) := dk_182 0 164 (dk_at dksX3_clause_8 13 rfl rfl)
theorem dX3_clause_203 : decode cX3_clause 203 = .ok (.return_, 1) := dk_177 (dk_at dksX3_clause_8 16 rfl rfl)
theorem dX3_clause_204 : decode cX3_clause 204 = .ok (.aload_n 0, 1) := dk_42 (dk_at dksX3_clause_8 17 rfl rfl)
theorem dX3_clause_205 : decode cX3_clause 205 = .ok (.dup, 1) := dk_89 (dk_at dksX3_clause_8 18 rfl rfl)
theorem dX3_clause_206 : decode cX3_clause 206 = .ok (.getfield 135, 3) := dk_180 0 135 (dk_at dksX3_clause_8 19 rfl rfl)
theorem dX3_clause_209 : decode cX3_clause 209 = .ok (.iconst 1, 1) := dk_4 (dk_at dksX3_clause_8 22 rfl rfl)
theorem dX3_clause_210 : decode cX3_clause 210 = .ok (.iadd, 1) := dk_96 (dk_at dksX3_clause_8 23 rfl rfl)
theorem dX3_clause_211 : decode cX3_clause 211 = .ok (.putfield 135, 3) := dk_181 0 135 (dk_at dksX3_clause_9 0 rfl rfl)
theorem dX3_clause_214 : decode cX3_clause 214 = .ok (.aload_n 0, 1) := dk_42 (dk_at dksX3_clause_9 3 rfl rfl)
theorem dX3_clause_215 : decode cX3_clause 215 = .ok (.getfield 67, 3) := dk_180 0 67 (dk_at dksX3_clause_9 4 rfl rfl)
theorem dX3_clause_218 : decode cX3_clause 218 = .ok (.iload_n 1, 1) := dk_27 (dk_at dksX3_clause_9 7 rfl rfl)
theorem dX3_clause_219 : decode cX3_clause 219 = .ok (.aload_n 0, 1) := dk_42 (dk_at dksX3_clause_9 8 rfl rfl)
theorem dX3_clause_220 : decode cX3_clause 220 = .ok (.getfield 208, 3) := dk_180 0 208 (dk_at dksX3_clause_9 9 rfl rfl)
theorem dX3_clause_223 : decode cX3_clause 223 = .ok (.iastore, 1) := dk_79 (dk_at dksX3_clause_9 12 rfl rfl)
theorem dX3_clause_224 : decode cX3_clause 224 = .ok (.aload_n 0, 1) := dk_42 (dk_at dksX3_clause_9 13 rfl rfl)
theorem dX3_clause_225 : decode cX3_clause 225 = .ok (.invokevirtual 221, 3) := dk_182 0 221 (dk_at dksX3_clause_9 14 rfl rfl)
theorem dX3_clause_228 : decode cX3_clause 228 = .ok (.aload_n 0, 1) := dk_42 (dk_at dksX3_clause_9 17 rfl rfl)
theorem dX3_clause_229 : decode cX3_clause 229 = .ok (.getfield 70, 3) := dk_180 0 70 (dk_at dksX3_clause_9 18 rfl rfl)
theorem dX3_clause_232 : decode cX3_clause 232 = .ok (.iload_n 1, 1) := dk_27 (dk_at dksX3_clause_9 21 rfl rfl)
theorem dX3_clause_233 : decode cX3_clause 233 = .ok (.aload_n 0, 1) := dk_42 (dk_at dksX3_clause_9 22 rfl rfl)
theorem dX3_clause_234 : decode cX3_clause 234 = .ok (.getfield 208, 3) := dk_180 0 208 (dk_at dksX3_clause_10 0 rfl rfl)
theorem dX3_clause_237 : decode cX3_clause 237 = .ok (.iastore, 1) := dk_79 (dk_at dksX3_clause_10 3 rfl rfl)
theorem dX3_clause_238 : decode cX3_clause 238 = .ok (.return_, 1) := dk_177 (dk_at dksX3_clause_10 4 rfl rfl)
abbrev cX3_condition : ByteArray := prog_26_method_31_code
def yX3_condition : MethodName := ⟨RX3, "condition", "(Z)V"⟩
def dkwX3_condition_1 : List UInt8 := [180, 0, 135, 4, 96, 181, 0, 135, 42, 3, 182, 0, 240, 42, 16, 124, 182, 0, 211, 167, 255, 218, 177]
abbrev dktX3_condition_1 : List UInt8 := dkwX3_condition_1 ++ []
def dkwX3_condition_0 : List UInt8 := [42, 27, 182, 0, 240, 42, 180, 0, 142, 2, 160, 0, 36, 42, 182, 0, 180, 16, 124, 160, 0, 27, 42, 89]
abbrev dktX3_condition_0 : List UInt8 := dkwX3_condition_0 ++ dktX3_condition_1
theorem dksX3_condition_0 : cX3_condition.data.toList.drop 0 = dktX3_condition_0 := by decide +kernel
theorem dksX3_condition_1 : cX3_condition.data.toList.drop 24 = dktX3_condition_1 := dk_seg dksX3_condition_0 24 rfl rfl
theorem dX3_condition_0 : decode cX3_condition 0 = .ok (.aload_n 0, 1) := dk_42 (dk_at dksX3_condition_0 0 rfl rfl)
theorem dX3_condition_1 : decode cX3_condition 1 = .ok (.iload_n 1, 1) := dk_27 (dk_at dksX3_condition_0 1 rfl rfl)
theorem dX3_condition_2 : decode cX3_condition 2 = .ok (.invokevirtual 240, 3) := dk_182 0 240 (dk_at dksX3_condition_0 2 rfl rfl)
theorem dX3_condition_5 : decode cX3_condition 5 = .ok (.aload_n 0, 1) := dk_42 (dk_at dksX3_condition_0 5 rfl rfl)
theorem dX3_condition_6 : decode cX3_condition 6 = .ok (.getfield 142, 3) := dk_180 0 142 (dk_at dksX3_condition_0 6 rfl rfl)
theorem dX3_condition_9 : decode cX3_condition 9 = .ok (.iconst (-1), 1) := dk_2 (dk_at dksX3_condition_0 9 rfl rfl)
theorem dX3_condition_10 : decode cX3_condition 10 = .ok (.if_icmp .ne 36, 3) := dk_160 0 36 (dk_at dksX3_condition_0 10 rfl rfl)
theorem dX3_condition_13 : decode cX3_condition 13 = .ok (.aload_n 0, 1) := dk_42 (dk_at dksX3_condition_0 13 rfl rfl)
theorem dX3_condition_14 : decode cX3_condition 14 = .ok (.invokevirtual 180, 3) := dk_182 0 180 (dk_at dksX3_condition_0 14 rfl rfl)
theorem dX3_condition_17 : decode cX3_condition 17 = .ok (.bipush 124, 2) := dk_16 124 (dk_at dksX3_condition_0 17 rfl rfl)
theorem dX3_condition_19 : decode cX3_condition 19 = .ok (.if_icmp .ne 27, 3) := dk_160 0 27 (dk_at dksX3_condition_0 19 rfl rfl)
theorem dX3_condition_22 : decode cX3_condition 22 = .ok (.aload_n 0, 1) := dk_42 (dk_at dksX3_condition_0 22 rfl rfl)
theorem dX3_condition_23 : decode cX3_condition 23 = .ok (.dup, 1) := dk_89 (dk_at dksX3_condition_0 23 rfl rfl)
theorem dX3_condition_24 : decode cX3_condition 24 = .ok (.getfield 135, 3) := dk_180 0 135 (dk_at dksX3_condition_1 0 rfl rfl)
theorem dX3_condition_27 : decode cX3_condition 27 = .ok (.iconst 1, 1) := dk_4 (dk_at dksX3_condition_1 3 rfl rfl)
theorem dX3_condition_28 : decode cX3_condition 28 = .ok (.iadd, 1) := dk_96 (dk_at dksX3_condition_1 4 rfl rfl)
theorem dX3_condition_29 : decode cX3_condition 29 = .ok (.putfield 135, 3) := dk_181 0 135 (dk_at dksX3_condition_1 5 rfl rfl)
theorem dX3_condition_32 : decode cX3_condition 32 = .ok (.aload_n 0, 1) := dk_42 (dk_at dksX3_condition_1 8 rfl rfl)
theorem dX3_condition_33 : decode cX3_condition 33 = .ok (.iconst 0, 1) := dk_3 (dk_at dksX3_condition_1 9 rfl rfl)
theorem dX3_condition_34 : decode cX3_condition 34 = .ok (.invokevirtual 240, 3) := dk_182 0 240 (dk_at dksX3_condition_1 10 rfl rfl)
theorem dX3_condition_37 : decode cX3_condition 37 = .ok (.aload_n 0, 1) := dk_42 (dk_at dksX3_condition_1 13 rfl rfl)
theorem dX3_condition_38 : decode cX3_condition 38 = .ok (.bipush 124, 2) := dk_16 124 (dk_at dksX3_condition_1 14 rfl rfl)
theorem dX3_condition_40 : decode cX3_condition 40 = .ok (.invokevirtual 211, 3) := dk_182 0 211 (dk_at dksX3_condition_1 16 rfl rfl)
theorem dX3_condition_43 : decode cX3_condition 43 = .ok (.goto (-38), 3) := dk_167 255 218 (dk_at dksX3_condition_1 19 rfl rfl)
theorem dX3_condition_46 : decode cX3_condition 46 = .ok (.return_, 1) := dk_177 (dk_at dksX3_condition_1 22 rfl rfl)
abbrev cX3_truth : ByteArray := prog_26_method_30_code
def yX3_truth : MethodName := ⟨RX3, "truth", "(Z)V"⟩
def dkwX3_truth_1 : List UInt8 := [180, 0, 135, 4, 96, 181, 0, 135, 42, 3, 182, 0, 233, 42, 16, 38, 182, 0, 211, 167, 255, 218, 177]
abbrev dktX3_truth_1 : List UInt8 := dkwX3_truth_1 ++ []
def dkwX3_truth_0 : List UInt8 := [42, 27, 182, 0, 233, 42, 180, 0, 142, 2, 160, 0, 36, 42, 182, 0, 180, 16, 38, 160, 0, 27, 42, 89]
abbrev dktX3_truth_0 : List UInt8 := dkwX3_truth_0 ++ dktX3_truth_1
theorem dksX3_truth_0 : cX3_truth.data.toList.drop 0 = dktX3_truth_0 := by decide +kernel
theorem dksX3_truth_1 : cX3_truth.data.toList.drop 24 = dktX3_truth_1 := dk_seg dksX3_truth_0 24 rfl rfl
theorem dX3_truth_0 : decode cX3_truth 0 = .ok (.aload_n 0, 1) := dk_42 (dk_at dksX3_truth_0 0 rfl rfl)
theorem dX3_truth_1 : decode cX3_truth 1 = .ok (.iload_n 1, 1) := dk_27 (dk_at dksX3_truth_0 1 rfl rfl)
theorem dX3_truth_2 : decode cX3_truth 2 = .ok (.invokevirtual 233, 3) := dk_182 0 233 (dk_at dksX3_truth_0 2 rfl rfl)
theorem dX3_truth_5 : decode cX3_truth 5 = .ok (.aload_n 0, 1) := dk_42 (dk_at dksX3_truth_0 5 rfl rfl)
theorem dX3_truth_6 : decode cX3_truth 6 = .ok (.getfield 142, 3) := dk_180 0 142 (dk_at dksX3_truth_0 6 rfl rfl)
theorem dX3_truth_9 : decode cX3_truth 9 = .ok (.iconst (-1), 1) := dk_2 (dk_at dksX3_truth_0 9 rfl rfl)
theorem dX3_truth_10 : decode cX3_truth 10 = .ok (.if_icmp .ne 36, 3) := dk_160 0 36 (dk_at dksX3_truth_0 10 rfl rfl)
theorem dX3_truth_13 : decode cX3_truth 13 = .ok (.aload_n 0, 1) := dk_42 (dk_at dksX3_truth_0 13 rfl rfl)
theorem dX3_truth_14 : decode cX3_truth 14 = .ok (.invokevirtual 180, 3) := dk_182 0 180 (dk_at dksX3_truth_0 14 rfl rfl)
theorem dX3_truth_17 : decode cX3_truth 17 = .ok (.bipush 38, 2) := dk_16 38 (dk_at dksX3_truth_0 17 rfl rfl)
theorem dX3_truth_19 : decode cX3_truth 19 = .ok (.if_icmp .ne 27, 3) := dk_160 0 27 (dk_at dksX3_truth_0 19 rfl rfl)
theorem dX3_truth_22 : decode cX3_truth 22 = .ok (.aload_n 0, 1) := dk_42 (dk_at dksX3_truth_0 22 rfl rfl)
theorem dX3_truth_23 : decode cX3_truth 23 = .ok (.dup, 1) := dk_89 (dk_at dksX3_truth_0 23 rfl rfl)
theorem dX3_truth_24 : decode cX3_truth 24 = .ok (.getfield 135, 3) := dk_180 0 135 (dk_at dksX3_truth_1 0 rfl rfl)
theorem dX3_truth_27 : decode cX3_truth 27 = .ok (.iconst 1, 1) := dk_4 (dk_at dksX3_truth_1 3 rfl rfl)
theorem dX3_truth_28 : decode cX3_truth 28 = .ok (.iadd, 1) := dk_96 (dk_at dksX3_truth_1 4 rfl rfl)
theorem dX3_truth_29 : decode cX3_truth 29 = .ok (.putfield 135, 3) := dk_181 0 135 (dk_at dksX3_truth_1 5 rfl rfl)
theorem dX3_truth_32 : decode cX3_truth 32 = .ok (.aload_n 0, 1) := dk_42 (dk_at dksX3_truth_1 8 rfl rfl)
theorem dX3_truth_33 : decode cX3_truth 33 = .ok (.iconst 0, 1) := dk_3 (dk_at dksX3_truth_1 9 rfl rfl)
theorem dX3_truth_34 : decode cX3_truth 34 = .ok (.invokevirtual 233, 3) := dk_182 0 233 (dk_at dksX3_truth_1 10 rfl rfl)
theorem dX3_truth_37 : decode cX3_truth 37 = .ok (.aload_n 0, 1) := dk_42 (dk_at dksX3_truth_1 13 rfl rfl)
theorem dX3_truth_38 : decode cX3_truth 38 = .ok (.bipush 38, 2) := dk_16 38 (dk_at dksX3_truth_1 14 rfl rfl)
theorem dX3_truth_40 : decode cX3_truth 40 = .ok (.invokevirtual 211, 3) := dk_182 0 211 (dk_at dksX3_truth_1 16 rfl rfl)
theorem dX3_truth_43 : decode cX3_truth 43 = .ok (.goto (-38), 3) := dk_167 255 218 (dk_at dksX3_truth_1 19 rfl rfl)
theorem dX3_truth_46 : decode cX3_truth 46 = .ok (.return_, 1) := dk_177 (dk_at dksX3_truth_1 22 rfl rfl)
abbrev cX3_unit : ByteArray := prog_26_method_29_code
def yX3_unit : MethodName := ⟨RX3, "unit", "(Z)V"⟩
def dkwX3_unit_6 : List UInt8 := [180, 0, 135, 4, 96, 181, 0, 135, 42, 182, 0, 221, 42, 28, 182, 0, 211, 177]
abbrev dktX3_unit_6 : List UInt8 := dkwX3_unit_6 ++ []
def dkwX3_unit_5 : List UInt8 := [159, 0, 20, 28, 16, 60, 159, 0, 14, 28, 16, 62, 159, 0, 8, 42, 182, 0, 164, 177, 42, 89]
abbrev dktX3_unit_5 : List UInt8 := dkwX3_unit_5 ++ dktX3_unit_6
def dkwX3_unit_4 : List UInt8 := [182, 0, 221, 42, 180, 0, 142, 2, 160, 0, 10, 42, 182, 0, 180, 167, 0, 4, 2, 61, 28, 16, 61]
abbrev dktX3_unit_4 : List UInt8 := dkwX3_unit_4 ++ dktX3_unit_5
def dkwX3_unit_3 : List UInt8 := [182, 0, 211, 167, 0, 14, 42, 3, 182, 0, 237, 42, 16, 41, 182, 0, 224, 177, 27, 154, 0, 7, 42]
abbrev dktX3_unit_3 : List UInt8 := dkwX3_unit_3 ++ dktX3_unit_4
def dkwX3_unit_2 : List UInt8 := [16, 33, 160, 0, 27, 42, 3, 182, 0, 233, 42, 89, 180, 0, 193, 4, 100, 181, 0, 193, 42, 16, 33]
abbrev dktX3_unit_2 : List UInt8 := dkwX3_unit_2 ++ dktX3_unit_3
def dkwX3_unit_1 : List UInt8 := [159, 0, 9, 28, 16, 40, 160, 0, 58, 42, 182, 0, 218, 42, 180, 0, 142, 2, 159, 0, 4, 177, 28]
abbrev dktX3_unit_1 : List UInt8 := dkwX3_unit_1 ++ dktX3_unit_2
def dkwX3_unit_0 : List UInt8 := [42, 180, 0, 142, 2, 160, 0, 10, 42, 182, 0, 180, 167, 0, 4, 2, 61, 27, 154, 0, 70, 28, 16, 33]
abbrev dktX3_unit_0 : List UInt8 := dkwX3_unit_0 ++ dktX3_unit_1
theorem dksX3_unit_0 : cX3_unit.data.toList.drop 0 = dktX3_unit_0 := by decide +kernel
theorem dksX3_unit_1 : cX3_unit.data.toList.drop 24 = dktX3_unit_1 := dk_seg dksX3_unit_0 24 rfl rfl
theorem dksX3_unit_2 : cX3_unit.data.toList.drop 47 = dktX3_unit_2 := dk_seg dksX3_unit_1 23 rfl rfl
theorem dksX3_unit_3 : cX3_unit.data.toList.drop 70 = dktX3_unit_3 := dk_seg dksX3_unit_2 23 rfl rfl
theorem dksX3_unit_4 : cX3_unit.data.toList.drop 93 = dktX3_unit_4 := dk_seg dksX3_unit_3 23 rfl rfl
theorem dksX3_unit_5 : cX3_unit.data.toList.drop 116 = dktX3_unit_5 := dk_seg dksX3_unit_4 23 rfl rfl
theorem dksX3_unit_6 : cX3_unit.data.toList.drop 138 = dktX3_unit_6 := dk_seg dksX3_unit_5 22 rfl rfl
theorem dX3_unit_0 : decode cX3_unit 0 = .ok (.aload_n 0, 1) := dk_42 (dk_at dksX3_unit_0 0 rfl rfl)
theorem dX3_unit_1 : decode cX3_unit 1 = .ok (.getfield 142, 3) := dk_180 0 142 (dk_at dksX3_unit_0 1 rfl rfl)
theorem dX3_unit_4 : decode cX3_unit 4 = .ok (.iconst (-1), 1) := dk_2 (dk_at dksX3_unit_0 4 rfl rfl)
theorem dX3_unit_5 : decode cX3_unit 5 = .ok (.if_icmp .ne 10, 3) := dk_160 0 10 (dk_at dksX3_unit_0 5 rfl rfl)
theorem dX3_unit_8 : decode cX3_unit 8 = .ok (.aload_n 0, 1) := dk_42 (dk_at dksX3_unit_0 8 rfl rfl)
theorem dX3_unit_9 : decode cX3_unit 9 = .ok (.invokevirtual 180, 3) := dk_182 0 180 (dk_at dksX3_unit_0 9 rfl rfl)
theorem dX3_unit_12 : decode cX3_unit 12 = .ok (.goto 4, 3) := dk_167 0 4 (dk_at dksX3_unit_0 12 rfl rfl)
theorem dX3_unit_15 : decode cX3_unit 15 = .ok (.iconst (-1), 1) := dk_2 (dk_at dksX3_unit_0 15 rfl rfl)
theorem dX3_unit_16 : decode cX3_unit 16 = .ok (.istore_n 2, 1) := dk_61 (dk_at dksX3_unit_0 16 rfl rfl)
theorem dX3_unit_17 : decode cX3_unit 17 = .ok (.iload_n 1, 1) := dk_27 (dk_at dksX3_unit_0 17 rfl rfl)
theorem dX3_unit_18 : decode cX3_unit 18 = .ok (.ifCond .ne 70, 3) := dk_154 0 70 (dk_at dksX3_unit_0 18 rfl rfl)
theorem dX3_unit_21 : decode cX3_unit 21 = .ok (.iload_n 2, 1) := dk_28 (dk_at dksX3_unit_0 21 rfl rfl)
theorem dX3_unit_22 : decode cX3_unit 22 = .ok (.bipush 33, 2) := dk_16 33 (dk_at dksX3_unit_0 22 rfl rfl)
theorem dX3_unit_24 : decode cX3_unit 24 = .ok (.if_icmp .eq 9, 3) := dk_159 0 9 (dk_at dksX3_unit_1 0 rfl rfl)
theorem dX3_unit_27 : decode cX3_unit 27 = .ok (.iload_n 2, 1) := dk_28 (dk_at dksX3_unit_1 3 rfl rfl)
theorem dX3_unit_28 : decode cX3_unit 28 = .ok (.bipush 40, 2) := dk_16 40 (dk_at dksX3_unit_1 4 rfl rfl)
theorem dX3_unit_30 : decode cX3_unit 30 = .ok (.if_icmp .ne 58, 3) := dk_160 0 58 (dk_at dksX3_unit_1 6 rfl rfl)
theorem dX3_unit_33 : decode cX3_unit 33 = .ok (.aload_n 0, 1) := dk_42 (dk_at dksX3_unit_1 9 rfl rfl)
theorem dX3_unit_34 : decode cX3_unit 34 = .ok (.invokevirtual 218, 3) := dk_182 0 218 (dk_at dksX3_unit_1 10 rfl rfl)
theorem dX3_unit_37 : decode cX3_unit 37 = .ok (.aload_n 0, 1) := dk_42 (dk_at dksX3_unit_1 13 rfl rfl)
theorem dX3_unit_38 : decode cX3_unit 38 = .ok (.getfield 142, 3) := dk_180 0 142 (dk_at dksX3_unit_1 14 rfl rfl)
theorem dX3_unit_41 : decode cX3_unit 41 = .ok (.iconst (-1), 1) := dk_2 (dk_at dksX3_unit_1 17 rfl rfl)
theorem dX3_unit_42 : decode cX3_unit 42 = .ok (.if_icmp .eq 4, 3) := dk_159 0 4 (dk_at dksX3_unit_1 18 rfl rfl)
theorem dX3_unit_45 : decode cX3_unit 45 = .ok (.return_, 1) := dk_177 (dk_at dksX3_unit_1 21 rfl rfl)
theorem dX3_unit_46 : decode cX3_unit 46 = .ok (.iload_n 2, 1) := dk_28 (dk_at dksX3_unit_1 22 rfl rfl)
theorem dX3_unit_47 : decode cX3_unit 47 = .ok (.bipush 33, 2) := dk_16 33 (dk_at dksX3_unit_2 0 rfl rfl)
theorem dX3_unit_49 : decode cX3_unit 49 = .ok (.if_icmp .ne 27, 3) := dk_160 0 27 (dk_at dksX3_unit_2 2 rfl rfl)
theorem dX3_unit_52 : decode cX3_unit 52 = .ok (.aload_n 0, 1) := dk_42 (dk_at dksX3_unit_2 5 rfl rfl)
theorem dX3_unit_53 : decode cX3_unit 53 = .ok (.iconst 0, 1) := dk_3 (dk_at dksX3_unit_2 6 rfl rfl)
theorem dX3_unit_54 : decode cX3_unit 54 = .ok (.invokevirtual 233, 3) := dk_182 0 233 (dk_at dksX3_unit_2 7 rfl rfl)
theorem dX3_unit_57 : decode cX3_unit 57 = .ok (.aload_n 0, 1) := dk_42 (dk_at dksX3_unit_2 10 rfl rfl)
theorem dX3_unit_58 : decode cX3_unit 58 = .ok (.dup, 1) := dk_89 (dk_at dksX3_unit_2 11 rfl rfl)
theorem dX3_unit_59 : decode cX3_unit 59 = .ok (.getfield 193, 3) := dk_180 0 193 (dk_at dksX3_unit_2 12 rfl rfl)
theorem dX3_unit_62 : decode cX3_unit 62 = .ok (.iconst 1, 1) := dk_4 (dk_at dksX3_unit_2 15 rfl rfl)
theorem dX3_unit_63 : decode cX3_unit 63 = .ok (.isub, 1) := dk_100 (dk_at dksX3_unit_2 16 rfl rfl)
theorem dX3_unit_64 : decode cX3_unit 64 = .ok (.putfield 193, 3) := dk_181 0 193 (dk_at dksX3_unit_2 17 rfl rfl)
theorem dX3_unit_67 : decode cX3_unit 67 = .ok (.aload_n 0, 1) := dk_42 (dk_at dksX3_unit_2 20 rfl rfl)
theorem dX3_unit_68 : decode cX3_unit 68 = .ok (.bipush 33, 2) := dk_16 33 (dk_at dksX3_unit_2 21 rfl rfl)
theorem dX3_unit_70 : decode cX3_unit 70 = .ok (.invokevirtual 211, 3) := dk_182 0 211 (dk_at dksX3_unit_3 0 rfl rfl)
theorem dX3_unit_73 : decode cX3_unit 73 = .ok (.goto 14, 3) := dk_167 0 14 (dk_at dksX3_unit_3 3 rfl rfl)
theorem dX3_unit_76 : decode cX3_unit 76 = .ok (.aload_n 0, 1) := dk_42 (dk_at dksX3_unit_3 6 rfl rfl)
theorem dX3_unit_77 : decode cX3_unit 77 = .ok (.iconst 0, 1) := dk_3 (dk_at dksX3_unit_3 7 rfl rfl)
theorem dX3_unit_78 : decode cX3_unit 78 = .ok (.invokevirtual 237, 3) := dk_182 0 237 (dk_at dksX3_unit_3 8 rfl rfl)
theorem dX3_unit_81 : decode cX3_unit 81 = .ok (.aload_n 0, 1) := dk_42 (dk_at dksX3_unit_3 11 rfl rfl)
theorem dX3_unit_82 : decode cX3_unit 82 = .ok (.bipush 41, 2) := dk_16 41 (dk_at dksX3_unit_3 12 rfl rfl)
theorem dX3_unit_84 : decode cX3_unit 84 = .ok (.invokevirtual 224, 3) := dk_182 0 224 (dk_at dksX3_unit_3 14 rfl rfl)
theorem dX3_unit_87 : decode cX3_unit 87 = .ok (.return_, 1) := dk_177 (dk_at dksX3_unit_3 17 rfl rfl)
theorem dX3_unit_88 : decode cX3_unit 88 = .ok (.iload_n 1, 1) := dk_27 (dk_at dksX3_unit_3 18 rfl rfl)
theorem dX3_unit_89 : decode cX3_unit 89 = .ok (.ifCond .ne 7, 3) := dk_154 0 7 (dk_at dksX3_unit_3 19 rfl rfl)
theorem dX3_unit_92 : decode cX3_unit 92 = .ok (.aload_n 0, 1) := dk_42 (dk_at dksX3_unit_3 22 rfl rfl)
theorem dX3_unit_93 : decode cX3_unit 93 = .ok (.invokevirtual 221, 3) := dk_182 0 221 (dk_at dksX3_unit_4 0 rfl rfl)
theorem dX3_unit_96 : decode cX3_unit 96 = .ok (.aload_n 0, 1) := dk_42 (dk_at dksX3_unit_4 3 rfl rfl)
theorem dX3_unit_97 : decode cX3_unit 97 = .ok (.getfield 142, 3) := dk_180 0 142 (dk_at dksX3_unit_4 4 rfl rfl)
theorem dX3_unit_100 : decode cX3_unit 100 = .ok (.iconst (-1), 1) := dk_2 (dk_at dksX3_unit_4 7 rfl rfl)
theorem dX3_unit_101 : decode cX3_unit 101 = .ok (.if_icmp .ne 10, 3) := dk_160 0 10 (dk_at dksX3_unit_4 8 rfl rfl)
theorem dX3_unit_104 : decode cX3_unit 104 = .ok (.aload_n 0, 1) := dk_42 (dk_at dksX3_unit_4 11 rfl rfl)
theorem dX3_unit_105 : decode cX3_unit 105 = .ok (.invokevirtual 180, 3) := dk_182 0 180 (dk_at dksX3_unit_4 12 rfl rfl)
theorem dX3_unit_108 : decode cX3_unit 108 = .ok (.goto 4, 3) := dk_167 0 4 (dk_at dksX3_unit_4 15 rfl rfl)
theorem dX3_unit_111 : decode cX3_unit 111 = .ok (.iconst (-1), 1) := dk_2 (dk_at dksX3_unit_4 18 rfl rfl)
theorem dX3_unit_112 : decode cX3_unit 112 = .ok (.istore_n 2, 1) := dk_61 (dk_at dksX3_unit_4 19 rfl rfl)
theorem dX3_unit_113 : decode cX3_unit 113 = .ok (.iload_n 2, 1) := dk_28 (dk_at dksX3_unit_4 20 rfl rfl)
theorem dX3_unit_114 : decode cX3_unit 114 = .ok (.bipush 61, 2) := dk_16 61 (dk_at dksX3_unit_4 21 rfl rfl)
theorem dX3_unit_116 : decode cX3_unit 116 = .ok (.if_icmp .eq 20, 3) := dk_159 0 20 (dk_at dksX3_unit_5 0 rfl rfl)
theorem dX3_unit_119 : decode cX3_unit 119 = .ok (.iload_n 2, 1) := dk_28 (dk_at dksX3_unit_5 3 rfl rfl)
theorem dX3_unit_120 : decode cX3_unit 120 = .ok (.bipush 60, 2) := dk_16 60 (dk_at dksX3_unit_5 4 rfl rfl)
theorem dX3_unit_122 : decode cX3_unit 122 = .ok (.if_icmp .eq 14, 3) := dk_159 0 14 (dk_at dksX3_unit_5 6 rfl rfl)
theorem dX3_unit_125 : decode cX3_unit 125 = .ok (.iload_n 2, 1) := dk_28 (dk_at dksX3_unit_5 9 rfl rfl)
theorem dX3_unit_126 : decode cX3_unit 126 = .ok (.bipush 62, 2) := dk_16 62 (dk_at dksX3_unit_5 10 rfl rfl)
theorem dX3_unit_128 : decode cX3_unit 128 = .ok (.if_icmp .eq 8, 3) := dk_159 0 8 (dk_at dksX3_unit_5 12 rfl rfl)
theorem dX3_unit_131 : decode cX3_unit 131 = .ok (.aload_n 0, 1) := dk_42 (dk_at dksX3_unit_5 15 rfl rfl)
theorem dX3_unit_132 : decode cX3_unit 132 = .ok (.invokevirtual 164, 3) := dk_182 0 164 (dk_at dksX3_unit_5 16 rfl rfl)
theorem dX3_unit_135 : decode cX3_unit 135 = .ok (.return_, 1) := dk_177 (dk_at dksX3_unit_5 19 rfl rfl)
theorem dX3_unit_136 : decode cX3_unit 136 = .ok (.aload_n 0, 1) := dk_42 (dk_at dksX3_unit_5 20 rfl rfl)
theorem dX3_unit_137 : decode cX3_unit 137 = .ok (.dup, 1) := dk_89 (dk_at dksX3_unit_5 21 rfl rfl)
theorem dX3_unit_138 : decode cX3_unit 138 = .ok (.getfield 135, 3) := dk_180 0 135 (dk_at dksX3_unit_6 0 rfl rfl)
theorem dX3_unit_141 : decode cX3_unit 141 = .ok (.iconst 1, 1) := dk_4 (dk_at dksX3_unit_6 3 rfl rfl)
theorem dX3_unit_142 : decode cX3_unit 142 = .ok (.iadd, 1) := dk_96 (dk_at dksX3_unit_6 4 rfl rfl)
theorem dX3_unit_143 : decode cX3_unit 143 = .ok (.putfield 135, 3) := dk_181 0 135 (dk_at dksX3_unit_6 5 rfl rfl)
theorem dX3_unit_146 : decode cX3_unit 146 = .ok (.aload_n 0, 1) := dk_42 (dk_at dksX3_unit_6 8 rfl rfl)
theorem dX3_unit_147 : decode cX3_unit 147 = .ok (.invokevirtual 221, 3) := dk_182 0 221 (dk_at dksX3_unit_6 9 rfl rfl)
theorem dX3_unit_150 : decode cX3_unit 150 = .ok (.aload_n 0, 1) := dk_42 (dk_at dksX3_unit_6 12 rfl rfl)
theorem dX3_unit_151 : decode cX3_unit 151 = .ok (.iload_n 2, 1) := dk_28 (dk_at dksX3_unit_6 13 rfl rfl)
theorem dX3_unit_152 : decode cX3_unit 152 = .ok (.invokevirtual 211, 3) := dk_182 0 211 (dk_at dksX3_unit_6 14 rfl rfl)
theorem dX3_unit_155 : decode cX3_unit 155 = .ok (.return_, 1) := dk_177 (dk_at dksX3_unit_6 17 rfl rfl)
abbrev cX3_opens : ByteArray := prog_26_method_23_code
def yX3_opens : MethodName := ⟨RX3, "opens", "()V"⟩
def dkwX3_opens_1 : List UInt8 := [42, 89, 180, 0, 135, 4, 96, 181, 0, 135, 177]
abbrev dktX3_opens_1 : List UInt8 := dkwX3_opens_1 ++ []
def dkwX3_opens_0 : List UInt8 := [42, 180, 0, 193, 16, 6, 160, 0, 8, 42, 182, 0, 164, 177, 42, 89, 180, 0, 193, 4, 96, 181, 0, 193]
abbrev dktX3_opens_0 : List UInt8 := dkwX3_opens_0 ++ dktX3_opens_1
theorem dksX3_opens_0 : cX3_opens.data.toList.drop 0 = dktX3_opens_0 := by decide +kernel
theorem dksX3_opens_1 : cX3_opens.data.toList.drop 24 = dktX3_opens_1 := dk_seg dksX3_opens_0 24 rfl rfl
theorem dX3_opens_0 : decode cX3_opens 0 = .ok (.aload_n 0, 1) := dk_42 (dk_at dksX3_opens_0 0 rfl rfl)
theorem dX3_opens_1 : decode cX3_opens 1 = .ok (.getfield 193, 3) := dk_180 0 193 (dk_at dksX3_opens_0 1 rfl rfl)
theorem dX3_opens_4 : decode cX3_opens 4 = .ok (.bipush 6, 2) := dk_16 6 (dk_at dksX3_opens_0 4 rfl rfl)
theorem dX3_opens_6 : decode cX3_opens 6 = .ok (.if_icmp .ne 8, 3) := dk_160 0 8 (dk_at dksX3_opens_0 6 rfl rfl)
theorem dX3_opens_9 : decode cX3_opens 9 = .ok (.aload_n 0, 1) := dk_42 (dk_at dksX3_opens_0 9 rfl rfl)
theorem dX3_opens_10 : decode cX3_opens 10 = .ok (.invokevirtual 164, 3) := dk_182 0 164 (dk_at dksX3_opens_0 10 rfl rfl)
theorem dX3_opens_13 : decode cX3_opens 13 = .ok (.return_, 1) := dk_177 (dk_at dksX3_opens_0 13 rfl rfl)
theorem dX3_opens_14 : decode cX3_opens 14 = .ok (.aload_n 0, 1) := dk_42 (dk_at dksX3_opens_0 14 rfl rfl)
theorem dX3_opens_15 : decode cX3_opens 15 = .ok (.dup, 1) := dk_89 (dk_at dksX3_opens_0 15 rfl rfl)
theorem dX3_opens_16 : decode cX3_opens 16 = .ok (.getfield 193, 3) := dk_180 0 193 (dk_at dksX3_opens_0 16 rfl rfl)
theorem dX3_opens_19 : decode cX3_opens 19 = .ok (.iconst 1, 1) := dk_4 (dk_at dksX3_opens_0 19 rfl rfl)
theorem dX3_opens_20 : decode cX3_opens 20 = .ok (.iadd, 1) := dk_96 (dk_at dksX3_opens_0 20 rfl rfl)
theorem dX3_opens_21 : decode cX3_opens 21 = .ok (.putfield 193, 3) := dk_181 0 193 (dk_at dksX3_opens_0 21 rfl rfl)
theorem dX3_opens_24 : decode cX3_opens 24 = .ok (.aload_n 0, 1) := dk_42 (dk_at dksX3_opens_1 0 rfl rfl)
theorem dX3_opens_25 : decode cX3_opens 25 = .ok (.dup, 1) := dk_89 (dk_at dksX3_opens_1 1 rfl rfl)
theorem dX3_opens_26 : decode cX3_opens 26 = .ok (.getfield 135, 3) := dk_180 0 135 (dk_at dksX3_opens_1 2 rfl rfl)
theorem dX3_opens_29 : decode cX3_opens 29 = .ok (.iconst 1, 1) := dk_4 (dk_at dksX3_opens_1 5 rfl rfl)
theorem dX3_opens_30 : decode cX3_opens 30 = .ok (.iadd, 1) := dk_96 (dk_at dksX3_opens_1 6 rfl rfl)
theorem dX3_opens_31 : decode cX3_opens 31 = .ok (.putfield 135, 3) := dk_181 0 135 (dk_at dksX3_opens_1 7 rfl rfl)
theorem dX3_opens_34 : decode cX3_opens 34 = .ok (.return_, 1) := dk_177 (dk_at dksX3_opens_1 10 rfl rfl)
abbrev cX3_say : ByteArray := prog_26_method_22_code
def yX3_say : MethodName := ⟨RX3, "say", "(I)V"⟩
def dkwX3_say_1 : List UInt8 := [4, 96, 181, 0, 208, 177]
abbrev dktX3_say_1 : List UInt8 := dkwX3_say_1 ++ []
def dkwX3_say_0 : List UInt8 := [42, 180, 0, 61, 17, 1, 144, 42, 180, 0, 205, 104, 42, 180, 0, 208, 96, 27, 79, 42, 89, 180, 0, 208]
abbrev dktX3_say_0 : List UInt8 := dkwX3_say_0 ++ dktX3_say_1
theorem dksX3_say_0 : cX3_say.data.toList.drop 0 = dktX3_say_0 := by decide +kernel
theorem dksX3_say_1 : cX3_say.data.toList.drop 24 = dktX3_say_1 := dk_seg dksX3_say_0 24 rfl rfl
theorem dX3_say_0 : decode cX3_say 0 = .ok (.aload_n 0, 1) := dk_42 (dk_at dksX3_say_0 0 rfl rfl)
theorem dX3_say_1 : decode cX3_say 1 = .ok (.getfield 61, 3) := dk_180 0 61 (dk_at dksX3_say_0 1 rfl rfl)
theorem dX3_say_4 : decode cX3_say 4 = .ok (.sipush 400, 3) := dk_17 1 144 (dk_at dksX3_say_0 4 rfl rfl)
theorem dX3_say_7 : decode cX3_say 7 = .ok (.aload_n 0, 1) := dk_42 (dk_at dksX3_say_0 7 rfl rfl)
theorem dX3_say_8 : decode cX3_say 8 = .ok (.getfield 205, 3) := dk_180 0 205 (dk_at dksX3_say_0 8 rfl rfl)
theorem dX3_say_11 : decode cX3_say 11 = .ok (.imul, 1) := dk_104 (dk_at dksX3_say_0 11 rfl rfl)
theorem dX3_say_12 : decode cX3_say 12 = .ok (.aload_n 0, 1) := dk_42 (dk_at dksX3_say_0 12 rfl rfl)
theorem dX3_say_13 : decode cX3_say 13 = .ok (.getfield 208, 3) := dk_180 0 208 (dk_at dksX3_say_0 13 rfl rfl)
theorem dX3_say_16 : decode cX3_say 16 = .ok (.iadd, 1) := dk_96 (dk_at dksX3_say_0 16 rfl rfl)
theorem dX3_say_17 : decode cX3_say 17 = .ok (.iload_n 1, 1) := dk_27 (dk_at dksX3_say_0 17 rfl rfl)
theorem dX3_say_18 : decode cX3_say 18 = .ok (.iastore, 1) := dk_79 (dk_at dksX3_say_0 18 rfl rfl)
theorem dX3_say_19 : decode cX3_say 19 = .ok (.aload_n 0, 1) := dk_42 (dk_at dksX3_say_0 19 rfl rfl)
theorem dX3_say_20 : decode cX3_say 20 = .ok (.dup, 1) := dk_89 (dk_at dksX3_say_0 20 rfl rfl)
theorem dX3_say_21 : decode cX3_say 21 = .ok (.getfield 208, 3) := dk_180 0 208 (dk_at dksX3_say_0 21 rfl rfl)
theorem dX3_say_24 : decode cX3_say 24 = .ok (.iconst 1, 1) := dk_4 (dk_at dksX3_say_1 0 rfl rfl)
theorem dX3_say_25 : decode cX3_say 25 = .ok (.iadd, 1) := dk_96 (dk_at dksX3_say_1 1 rfl rfl)
theorem dX3_say_26 : decode cX3_say 26 = .ok (.putfield 208, 3) := dk_181 0 208 (dk_at dksX3_say_1 2 rfl rfl)
theorem dX3_say_29 : decode cX3_say 29 = .ok (.return_, 1) := dk_177 (dk_at dksX3_say_1 5 rfl rfl)
abbrev cX3_sign : ByteArray := prog_26_method_24_code
def yX3_sign : MethodName := ⟨RX3, "sign", "(I)V"⟩
def dkwX3_sign_1 : List UInt8 := [180, 0, 135, 4, 96, 181, 0, 135, 42, 89, 180, 0, 193, 4, 100, 181, 0, 193, 177]
abbrev dktX3_sign_1 : List UInt8 := dkwX3_sign_1 ++ []
def dkwX3_sign_0 : List UInt8 := [42, 180, 0, 142, 2, 160, 0, 15, 42, 182, 0, 180, 27, 159, 0, 7, 42, 182, 0, 164, 42, 89]
abbrev dktX3_sign_0 : List UInt8 := dkwX3_sign_0 ++ dktX3_sign_1
theorem dksX3_sign_0 : cX3_sign.data.toList.drop 0 = dktX3_sign_0 := by decide +kernel
theorem dksX3_sign_1 : cX3_sign.data.toList.drop 22 = dktX3_sign_1 := dk_seg dksX3_sign_0 22 rfl rfl
theorem dX3_sign_0 : decode cX3_sign 0 = .ok (.aload_n 0, 1) := dk_42 (dk_at dksX3_sign_0 0 rfl rfl)
theorem dX3_sign_1 : decode cX3_sign 1 = .ok (.getfield 142, 3) := dk_180 0 142 (dk_at dksX3_sign_0 1 rfl rfl)
theorem dX3_sign_4 : decode cX3_sign 4 = .ok (.iconst (-1), 1) := dk_2 (dk_at dksX3_sign_0 4 rfl rfl)
theorem dX3_sign_5 : decode cX3_sign 5 = .ok (.if_icmp .ne 15, 3) := dk_160 0 15 (dk_at dksX3_sign_0 5 rfl rfl)
theorem dX3_sign_8 : decode cX3_sign 8 = .ok (.aload_n 0, 1) := dk_42 (dk_at dksX3_sign_0 8 rfl rfl)
theorem dX3_sign_9 : decode cX3_sign 9 = .ok (.invokevirtual 180, 3) := dk_182 0 180 (dk_at dksX3_sign_0 9 rfl rfl)
theorem dX3_sign_12 : decode cX3_sign 12 = .ok (.iload_n 1, 1) := dk_27 (dk_at dksX3_sign_0 12 rfl rfl)
theorem dX3_sign_13 : decode cX3_sign 13 = .ok (.if_icmp .eq 7, 3) := dk_159 0 7 (dk_at dksX3_sign_0 13 rfl rfl)
theorem dX3_sign_16 : decode cX3_sign 16 = .ok (.aload_n 0, 1) := dk_42 (dk_at dksX3_sign_0 16 rfl rfl)
theorem dX3_sign_17 : decode cX3_sign 17 = .ok (.invokevirtual 164, 3) := dk_182 0 164 (dk_at dksX3_sign_0 17 rfl rfl)
theorem dX3_sign_20 : decode cX3_sign 20 = .ok (.aload_n 0, 1) := dk_42 (dk_at dksX3_sign_0 20 rfl rfl)
theorem dX3_sign_21 : decode cX3_sign 21 = .ok (.dup, 1) := dk_89 (dk_at dksX3_sign_0 21 rfl rfl)
theorem dX3_sign_22 : decode cX3_sign 22 = .ok (.getfield 135, 3) := dk_180 0 135 (dk_at dksX3_sign_1 0 rfl rfl)
theorem dX3_sign_25 : decode cX3_sign 25 = .ok (.iconst 1, 1) := dk_4 (dk_at dksX3_sign_1 3 rfl rfl)
theorem dX3_sign_26 : decode cX3_sign 26 = .ok (.iadd, 1) := dk_96 (dk_at dksX3_sign_1 4 rfl rfl)
theorem dX3_sign_27 : decode cX3_sign 27 = .ok (.putfield 135, 3) := dk_181 0 135 (dk_at dksX3_sign_1 5 rfl rfl)
theorem dX3_sign_30 : decode cX3_sign 30 = .ok (.aload_n 0, 1) := dk_42 (dk_at dksX3_sign_1 8 rfl rfl)
theorem dX3_sign_31 : decode cX3_sign 31 = .ok (.dup, 1) := dk_89 (dk_at dksX3_sign_1 9 rfl rfl)
theorem dX3_sign_32 : decode cX3_sign 32 = .ok (.getfield 193, 3) := dk_180 0 193 (dk_at dksX3_sign_1 10 rfl rfl)
theorem dX3_sign_35 : decode cX3_sign 35 = .ok (.iconst 1, 1) := dk_4 (dk_at dksX3_sign_1 13 rfl rfl)
theorem dX3_sign_36 : decode cX3_sign 36 = .ok (.isub, 1) := dk_100 (dk_at dksX3_sign_1 14 rfl rfl)
theorem dX3_sign_37 : decode cX3_sign 37 = .ok (.putfield 193, 3) := dk_181 0 193 (dk_at dksX3_sign_1 15 rfl rfl)
theorem dX3_sign_40 : decode cX3_sign 40 = .ok (.return_, 1) := dk_177 (dk_at dksX3_sign_1 18 rfl rfl)
abbrev cX3_sum : ByteArray := prog_26_method_28_code
def yX3_sum : MethodName := ⟨RX3, "sum", "()V"⟩
def dkwX3_sum_2 : List UInt8 := [182, 0, 230, 42, 27, 182, 0, 211, 167, 255, 206, 177]
abbrev dktX3_sum_2 : List UInt8 := dkwX3_sum_2 ++ []
def dkwX3_sum_1 : List UInt8 := [182, 0, 180, 16, 45, 160, 0, 30, 42, 182, 0, 180, 60, 42, 89, 180, 0, 135, 4, 96, 181, 0, 135, 42]
abbrev dktX3_sum_1 : List UInt8 := dkwX3_sum_1 ++ dktX3_sum_2
def dkwX3_sum_0 : List UInt8 := [42, 182, 0, 230, 42, 180, 0, 142, 2, 160, 0, 48, 42, 182, 0, 180, 16, 43, 159, 0, 12, 42]
abbrev dktX3_sum_0 : List UInt8 := dkwX3_sum_0 ++ dktX3_sum_1
theorem dksX3_sum_0 : cX3_sum.data.toList.drop 0 = dktX3_sum_0 := by decide +kernel
theorem dksX3_sum_1 : cX3_sum.data.toList.drop 22 = dktX3_sum_1 := dk_seg dksX3_sum_0 22 rfl rfl
theorem dksX3_sum_2 : cX3_sum.data.toList.drop 46 = dktX3_sum_2 := dk_seg dksX3_sum_1 24 rfl rfl
theorem dX3_sum_0 : decode cX3_sum 0 = .ok (.aload_n 0, 1) := dk_42 (dk_at dksX3_sum_0 0 rfl rfl)
theorem dX3_sum_1 : decode cX3_sum 1 = .ok (.invokevirtual 230, 3) := dk_182 0 230 (dk_at dksX3_sum_0 1 rfl rfl)
theorem dX3_sum_4 : decode cX3_sum 4 = .ok (.aload_n 0, 1) := dk_42 (dk_at dksX3_sum_0 4 rfl rfl)
theorem dX3_sum_5 : decode cX3_sum 5 = .ok (.getfield 142, 3) := dk_180 0 142 (dk_at dksX3_sum_0 5 rfl rfl)
theorem dX3_sum_8 : decode cX3_sum 8 = .ok (.iconst (-1), 1) := dk_2 (dk_at dksX3_sum_0 8 rfl rfl)
theorem dX3_sum_9 : decode cX3_sum 9 = .ok (.if_icmp .ne 48, 3) := dk_160 0 48 (dk_at dksX3_sum_0 9 rfl rfl)
theorem dX3_sum_12 : decode cX3_sum 12 = .ok (.aload_n 0, 1) := dk_42 (dk_at dksX3_sum_0 12 rfl rfl)
theorem dX3_sum_13 : decode cX3_sum 13 = .ok (.invokevirtual 180, 3) := dk_182 0 180 (dk_at dksX3_sum_0 13 rfl rfl)
theorem dX3_sum_16 : decode cX3_sum 16 = .ok (.bipush 43, 2) := dk_16 43 (dk_at dksX3_sum_0 16 rfl rfl)
theorem dX3_sum_18 : decode cX3_sum 18 = .ok (.if_icmp .eq 12, 3) := dk_159 0 12 (dk_at dksX3_sum_0 18 rfl rfl)
theorem dX3_sum_21 : decode cX3_sum 21 = .ok (.aload_n 0, 1) := dk_42 (dk_at dksX3_sum_0 21 rfl rfl)
theorem dX3_sum_22 : decode cX3_sum 22 = .ok (.invokevirtual 180, 3) := dk_182 0 180 (dk_at dksX3_sum_1 0 rfl rfl)
theorem dX3_sum_25 : decode cX3_sum 25 = .ok (.bipush 45, 2) := dk_16 45 (dk_at dksX3_sum_1 3 rfl rfl)
theorem dX3_sum_27 : decode cX3_sum 27 = .ok (.if_icmp .ne 30, 3) := dk_160 0 30 (dk_at dksX3_sum_1 5 rfl rfl)
theorem dX3_sum_30 : decode cX3_sum 30 = .ok (.aload_n 0, 1) := dk_42 (dk_at dksX3_sum_1 8 rfl rfl)
theorem dX3_sum_31 : decode cX3_sum 31 = .ok (.invokevirtual 180, 3) := dk_182 0 180 (dk_at dksX3_sum_1 9 rfl rfl)
theorem dX3_sum_34 : decode cX3_sum 34 = .ok (.istore_n 1, 1) := dk_60 (dk_at dksX3_sum_1 12 rfl rfl)
theorem dX3_sum_35 : decode cX3_sum 35 = .ok (.aload_n 0, 1) := dk_42 (dk_at dksX3_sum_1 13 rfl rfl)
theorem dX3_sum_36 : decode cX3_sum 36 = .ok (.dup, 1) := dk_89 (dk_at dksX3_sum_1 14 rfl rfl)
theorem dX3_sum_37 : decode cX3_sum 37 = .ok (.getfield 135, 3) := dk_180 0 135 (dk_at dksX3_sum_1 15 rfl rfl)
theorem dX3_sum_40 : decode cX3_sum 40 = .ok (.iconst 1, 1) := dk_4 (dk_at dksX3_sum_1 18 rfl rfl)
theorem dX3_sum_41 : decode cX3_sum 41 = .ok (.iadd, 1) := dk_96 (dk_at dksX3_sum_1 19 rfl rfl)
theorem dX3_sum_42 : decode cX3_sum 42 = .ok (.putfield 135, 3) := dk_181 0 135 (dk_at dksX3_sum_1 20 rfl rfl)
theorem dX3_sum_45 : decode cX3_sum 45 = .ok (.aload_n 0, 1) := dk_42 (dk_at dksX3_sum_1 23 rfl rfl)
theorem dX3_sum_46 : decode cX3_sum 46 = .ok (.invokevirtual 230, 3) := dk_182 0 230 (dk_at dksX3_sum_2 0 rfl rfl)
theorem dX3_sum_49 : decode cX3_sum 49 = .ok (.aload_n 0, 1) := dk_42 (dk_at dksX3_sum_2 3 rfl rfl)
theorem dX3_sum_50 : decode cX3_sum 50 = .ok (.iload_n 1, 1) := dk_27 (dk_at dksX3_sum_2 4 rfl rfl)
theorem dX3_sum_51 : decode cX3_sum 51 = .ok (.invokevirtual 211, 3) := dk_182 0 211 (dk_at dksX3_sum_2 5 rfl rfl)
theorem dX3_sum_54 : decode cX3_sum 54 = .ok (.goto (-50), 3) := dk_167 255 206 (dk_at dksX3_sum_2 8 rfl rfl)
theorem dX3_sum_57 : decode cX3_sum 57 = .ok (.return_, 1) := dk_177 (dk_at dksX3_sum_2 11 rfl rfl)
abbrev cX3_term : ByteArray := prog_26_method_27_code
def yX3_term : MethodName := ⟨RX3, "term", "()V"⟩
def dkwX3_term_2 : List UInt8 := [182, 0, 227, 42, 27, 182, 0, 211, 167, 255, 206, 177]
abbrev dktX3_term_2 : List UInt8 := dkwX3_term_2 ++ []
def dkwX3_term_1 : List UInt8 := [182, 0, 180, 16, 47, 160, 0, 30, 42, 182, 0, 180, 60, 42, 89, 180, 0, 135, 4, 96, 181, 0, 135, 42]
abbrev dktX3_term_1 : List UInt8 := dkwX3_term_1 ++ dktX3_term_2
def dkwX3_term_0 : List UInt8 := [42, 182, 0, 227, 42, 180, 0, 142, 2, 160, 0, 48, 42, 182, 0, 180, 16, 42, 159, 0, 12, 42]
abbrev dktX3_term_0 : List UInt8 := dkwX3_term_0 ++ dktX3_term_1
theorem dksX3_term_0 : cX3_term.data.toList.drop 0 = dktX3_term_0 := by decide +kernel
theorem dksX3_term_1 : cX3_term.data.toList.drop 22 = dktX3_term_1 := dk_seg dksX3_term_0 22 rfl rfl
theorem dksX3_term_2 : cX3_term.data.toList.drop 46 = dktX3_term_2 := dk_seg dksX3_term_1 24 rfl rfl
theorem dX3_term_0 : decode cX3_term 0 = .ok (.aload_n 0, 1) := dk_42 (dk_at dksX3_term_0 0 rfl rfl)
theorem dX3_term_1 : decode cX3_term 1 = .ok (.invokevirtual 227, 3) := dk_182 0 227 (dk_at dksX3_term_0 1 rfl rfl)
theorem dX3_term_4 : decode cX3_term 4 = .ok (.aload_n 0, 1) := dk_42 (dk_at dksX3_term_0 4 rfl rfl)
theorem dX3_term_5 : decode cX3_term 5 = .ok (.getfield 142, 3) := dk_180 0 142 (dk_at dksX3_term_0 5 rfl rfl)
theorem dX3_term_8 : decode cX3_term 8 = .ok (.iconst (-1), 1) := dk_2 (dk_at dksX3_term_0 8 rfl rfl)
theorem dX3_term_9 : decode cX3_term 9 = .ok (.if_icmp .ne 48, 3) := dk_160 0 48 (dk_at dksX3_term_0 9 rfl rfl)
theorem dX3_term_12 : decode cX3_term 12 = .ok (.aload_n 0, 1) := dk_42 (dk_at dksX3_term_0 12 rfl rfl)
theorem dX3_term_13 : decode cX3_term 13 = .ok (.invokevirtual 180, 3) := dk_182 0 180 (dk_at dksX3_term_0 13 rfl rfl)
theorem dX3_term_16 : decode cX3_term 16 = .ok (.bipush 42, 2) := dk_16 42 (dk_at dksX3_term_0 16 rfl rfl)
theorem dX3_term_18 : decode cX3_term 18 = .ok (.if_icmp .eq 12, 3) := dk_159 0 12 (dk_at dksX3_term_0 18 rfl rfl)
theorem dX3_term_21 : decode cX3_term 21 = .ok (.aload_n 0, 1) := dk_42 (dk_at dksX3_term_0 21 rfl rfl)
theorem dX3_term_22 : decode cX3_term 22 = .ok (.invokevirtual 180, 3) := dk_182 0 180 (dk_at dksX3_term_1 0 rfl rfl)
theorem dX3_term_25 : decode cX3_term 25 = .ok (.bipush 47, 2) := dk_16 47 (dk_at dksX3_term_1 3 rfl rfl)
theorem dX3_term_27 : decode cX3_term 27 = .ok (.if_icmp .ne 30, 3) := dk_160 0 30 (dk_at dksX3_term_1 5 rfl rfl)
theorem dX3_term_30 : decode cX3_term 30 = .ok (.aload_n 0, 1) := dk_42 (dk_at dksX3_term_1 8 rfl rfl)
theorem dX3_term_31 : decode cX3_term 31 = .ok (.invokevirtual 180, 3) := dk_182 0 180 (dk_at dksX3_term_1 9 rfl rfl)
theorem dX3_term_34 : decode cX3_term 34 = .ok (.istore_n 1, 1) := dk_60 (dk_at dksX3_term_1 12 rfl rfl)
theorem dX3_term_35 : decode cX3_term 35 = .ok (.aload_n 0, 1) := dk_42 (dk_at dksX3_term_1 13 rfl rfl)
theorem dX3_term_36 : decode cX3_term 36 = .ok (.dup, 1) := dk_89 (dk_at dksX3_term_1 14 rfl rfl)
theorem dX3_term_37 : decode cX3_term 37 = .ok (.getfield 135, 3) := dk_180 0 135 (dk_at dksX3_term_1 15 rfl rfl)
theorem dX3_term_40 : decode cX3_term 40 = .ok (.iconst 1, 1) := dk_4 (dk_at dksX3_term_1 18 rfl rfl)
theorem dX3_term_41 : decode cX3_term 41 = .ok (.iadd, 1) := dk_96 (dk_at dksX3_term_1 19 rfl rfl)
theorem dX3_term_42 : decode cX3_term 42 = .ok (.putfield 135, 3) := dk_181 0 135 (dk_at dksX3_term_1 20 rfl rfl)
theorem dX3_term_45 : decode cX3_term 45 = .ok (.aload_n 0, 1) := dk_42 (dk_at dksX3_term_1 23 rfl rfl)
theorem dX3_term_46 : decode cX3_term 46 = .ok (.invokevirtual 227, 3) := dk_182 0 227 (dk_at dksX3_term_2 0 rfl rfl)
theorem dX3_term_49 : decode cX3_term 49 = .ok (.aload_n 0, 1) := dk_42 (dk_at dksX3_term_2 3 rfl rfl)
theorem dX3_term_50 : decode cX3_term 50 = .ok (.iload_n 1, 1) := dk_27 (dk_at dksX3_term_2 4 rfl rfl)
theorem dX3_term_51 : decode cX3_term 51 = .ok (.invokevirtual 211, 3) := dk_182 0 211 (dk_at dksX3_term_2 5 rfl rfl)
theorem dX3_term_54 : decode cX3_term 54 = .ok (.goto (-50), 3) := dk_167 255 206 (dk_at dksX3_term_2 8 rfl rfl)
theorem dX3_term_57 : decode cX3_term 57 = .ok (.return_, 1) := dk_177 (dk_at dksX3_term_2 11 rfl rfl)
abbrev cX3_atom : ByteArray := prog_26_method_26_code
def yX3_atom : MethodName := ⟨RX3, "atom", "()V"⟩
def dkwX3_atom_6 : List UInt8 := [182, 0, 221, 42, 16, 93, 182, 0, 224, 167, 0, 7, 42, 182, 0, 164, 177]
abbrev dktX3_atom_6 : List UInt8 := dkwX3_atom_6 ++ []
def dkwX3_atom_5 : List UInt8 := [167, 0, 38, 27, 16, 91, 160, 0, 28, 42, 182, 0, 218, 42, 180, 0, 142, 2, 160, 0, 20, 42]
abbrev dktX3_atom_5 : List UInt8 := dkwX3_atom_5 ++ dktX3_atom_6
def dkwX3_atom_4 : List UInt8 := [153, 0, 26, 42, 89, 180, 0, 135, 4, 96, 181, 0, 135, 42, 4, 182, 0, 211, 42, 27, 182, 0, 211]
abbrev dktX3_atom_4 : List UInt8 := dkwX3_atom_4 ++ dktX3_atom_5
def dkwX3_atom_3 : List UInt8 := [181, 0, 135, 167, 255, 210, 42, 3, 182, 0, 211, 42, 28, 182, 0, 211, 167, 0, 68, 27, 184, 0, 215]
abbrev dktX3_atom_3 : List UInt8 := dkwX3_atom_3 ++ dktX3_atom_4
def dkwX3_atom_2 : List UInt8 := [16, 10, 28, 104, 42, 182, 0, 138, 96, 16, 48, 100, 61, 132, 3, 1, 42, 89, 180, 0, 135, 4, 96]
abbrev dktX3_atom_2 : List UInt8 := dkwX3_atom_2 ++ dktX3_atom_3
def dkwX3_atom_1 : List UInt8 := [3, 61, 3, 62, 42, 182, 0, 138, 184, 0, 167, 153, 0, 42, 29, 7, 160, 0, 8, 42, 182, 0, 164, 177]
abbrev dktX3_atom_1 : List UInt8 := dkwX3_atom_1 ++ dktX3_atom_2
def dkwX3_atom_0 : List UInt8 := [42, 180, 0, 142, 2, 160, 0, 10, 42, 182, 0, 180, 167, 0, 4, 2, 60, 27, 184, 0, 167, 153, 0, 69]
abbrev dktX3_atom_0 : List UInt8 := dkwX3_atom_0 ++ dktX3_atom_1
theorem dksX3_atom_0 : cX3_atom.data.toList.drop 0 = dktX3_atom_0 := by decide +kernel
theorem dksX3_atom_1 : cX3_atom.data.toList.drop 24 = dktX3_atom_1 := dk_seg dksX3_atom_0 24 rfl rfl
theorem dksX3_atom_2 : cX3_atom.data.toList.drop 48 = dktX3_atom_2 := dk_seg dksX3_atom_1 24 rfl rfl
theorem dksX3_atom_3 : cX3_atom.data.toList.drop 71 = dktX3_atom_3 := dk_seg dksX3_atom_2 23 rfl rfl
theorem dksX3_atom_4 : cX3_atom.data.toList.drop 94 = dktX3_atom_4 := dk_seg dksX3_atom_3 23 rfl rfl
theorem dksX3_atom_5 : cX3_atom.data.toList.drop 117 = dktX3_atom_5 := dk_seg dksX3_atom_4 23 rfl rfl
theorem dksX3_atom_6 : cX3_atom.data.toList.drop 139 = dktX3_atom_6 := dk_seg dksX3_atom_5 22 rfl rfl
theorem dX3_atom_0 : decode cX3_atom 0 = .ok (.aload_n 0, 1) := dk_42 (dk_at dksX3_atom_0 0 rfl rfl)
theorem dX3_atom_1 : decode cX3_atom 1 = .ok (.getfield 142, 3) := dk_180 0 142 (dk_at dksX3_atom_0 1 rfl rfl)
theorem dX3_atom_4 : decode cX3_atom 4 = .ok (.iconst (-1), 1) := dk_2 (dk_at dksX3_atom_0 4 rfl rfl)
theorem dX3_atom_5 : decode cX3_atom 5 = .ok (.if_icmp .ne 10, 3) := dk_160 0 10 (dk_at dksX3_atom_0 5 rfl rfl)
theorem dX3_atom_8 : decode cX3_atom 8 = .ok (.aload_n 0, 1) := dk_42 (dk_at dksX3_atom_0 8 rfl rfl)
theorem dX3_atom_9 : decode cX3_atom 9 = .ok (.invokevirtual 180, 3) := dk_182 0 180 (dk_at dksX3_atom_0 9 rfl rfl)
theorem dX3_atom_12 : decode cX3_atom 12 = .ok (.goto 4, 3) := dk_167 0 4 (dk_at dksX3_atom_0 12 rfl rfl)
theorem dX3_atom_15 : decode cX3_atom 15 = .ok (.iconst (-1), 1) := dk_2 (dk_at dksX3_atom_0 15 rfl rfl)
theorem dX3_atom_16 : decode cX3_atom 16 = .ok (.istore_n 1, 1) := dk_60 (dk_at dksX3_atom_0 16 rfl rfl)
theorem dX3_atom_17 : decode cX3_atom 17 = .ok (.iload_n 1, 1) := dk_27 (dk_at dksX3_atom_0 17 rfl rfl)
theorem dX3_atom_18 : decode cX3_atom 18 = .ok (.invokestatic 167, 3) := dk_184 0 167 (dk_at dksX3_atom_0 18 rfl rfl)
theorem dX3_atom_21 : decode cX3_atom 21 = .ok (.ifCond .eq 69, 3) := dk_153 0 69 (dk_at dksX3_atom_0 21 rfl rfl)
theorem dX3_atom_24 : decode cX3_atom 24 = .ok (.iconst 0, 1) := dk_3 (dk_at dksX3_atom_1 0 rfl rfl)
theorem dX3_atom_25 : decode cX3_atom 25 = .ok (.istore_n 2, 1) := dk_61 (dk_at dksX3_atom_1 1 rfl rfl)
theorem dX3_atom_26 : decode cX3_atom 26 = .ok (.iconst 0, 1) := dk_3 (dk_at dksX3_atom_1 2 rfl rfl)
theorem dX3_atom_27 : decode cX3_atom 27 = .ok (.istore_n 3, 1) := dk_62 (dk_at dksX3_atom_1 3 rfl rfl)
theorem dX3_atom_28 : decode cX3_atom 28 = .ok (.aload_n 0, 1) := dk_42 (dk_at dksX3_atom_1 4 rfl rfl)
theorem dX3_atom_29 : decode cX3_atom 29 = .ok (.invokevirtual 138, 3) := dk_182 0 138 (dk_at dksX3_atom_1 5 rfl rfl)
theorem dX3_atom_32 : decode cX3_atom 32 = .ok (.invokestatic 167, 3) := dk_184 0 167 (dk_at dksX3_atom_1 8 rfl rfl)
theorem dX3_atom_35 : decode cX3_atom 35 = .ok (.ifCond .eq 42, 3) := dk_153 0 42 (dk_at dksX3_atom_1 11 rfl rfl)
theorem dX3_atom_38 : decode cX3_atom 38 = .ok (.iload_n 3, 1) := dk_29 (dk_at dksX3_atom_1 14 rfl rfl)
theorem dX3_atom_39 : decode cX3_atom 39 = .ok (.iconst 4, 1) := dk_7 (dk_at dksX3_atom_1 15 rfl rfl)
theorem dX3_atom_40 : decode cX3_atom 40 = .ok (.if_icmp .ne 8, 3) := dk_160 0 8 (dk_at dksX3_atom_1 16 rfl rfl)
theorem dX3_atom_43 : decode cX3_atom 43 = .ok (.aload_n 0, 1) := dk_42 (dk_at dksX3_atom_1 19 rfl rfl)
theorem dX3_atom_44 : decode cX3_atom 44 = .ok (.invokevirtual 164, 3) := dk_182 0 164 (dk_at dksX3_atom_1 20 rfl rfl)
theorem dX3_atom_47 : decode cX3_atom 47 = .ok (.return_, 1) := dk_177 (dk_at dksX3_atom_1 23 rfl rfl)
theorem dX3_atom_48 : decode cX3_atom 48 = .ok (.bipush 10, 2) := dk_16 10 (dk_at dksX3_atom_2 0 rfl rfl)
theorem dX3_atom_50 : decode cX3_atom 50 = .ok (.iload_n 2, 1) := dk_28 (dk_at dksX3_atom_2 2 rfl rfl)
theorem dX3_atom_51 : decode cX3_atom 51 = .ok (.imul, 1) := dk_104 (dk_at dksX3_atom_2 3 rfl rfl)
theorem dX3_atom_52 : decode cX3_atom 52 = .ok (.aload_n 0, 1) := dk_42 (dk_at dksX3_atom_2 4 rfl rfl)
theorem dX3_atom_53 : decode cX3_atom 53 = .ok (.invokevirtual 138, 3) := dk_182 0 138 (dk_at dksX3_atom_2 5 rfl rfl)
theorem dX3_atom_56 : decode cX3_atom 56 = .ok (.iadd, 1) := dk_96 (dk_at dksX3_atom_2 8 rfl rfl)
theorem dX3_atom_57 : decode cX3_atom 57 = .ok (.bipush 48, 2) := dk_16 48 (dk_at dksX3_atom_2 9 rfl rfl)
theorem dX3_atom_59 : decode cX3_atom 59 = .ok (.isub, 1) := dk_100 (dk_at dksX3_atom_2 11 rfl rfl)
theorem dX3_atom_60 : decode cX3_atom 60 = .ok (.istore_n 2, 1) := dk_61 (dk_at dksX3_atom_2 12 rfl rfl)
theorem dX3_atom_61 : decode cX3_atom 61 = .ok (.iinc 3 1, 3) := dk_132 3 1 (dk_at dksX3_atom_2 13 rfl rfl)
theorem dX3_atom_64 : decode cX3_atom 64 = .ok (.aload_n 0, 1) := dk_42 (dk_at dksX3_atom_2 16 rfl rfl)
theorem dX3_atom_65 : decode cX3_atom 65 = .ok (.dup, 1) := dk_89 (dk_at dksX3_atom_2 17 rfl rfl)
theorem dX3_atom_66 : decode cX3_atom 66 = .ok (.getfield 135, 3) := dk_180 0 135 (dk_at dksX3_atom_2 18 rfl rfl)
theorem dX3_atom_69 : decode cX3_atom 69 = .ok (.iconst 1, 1) := dk_4 (dk_at dksX3_atom_2 21 rfl rfl)
theorem dX3_atom_70 : decode cX3_atom 70 = .ok (.iadd, 1) := dk_96 (dk_at dksX3_atom_2 22 rfl rfl)
theorem dX3_atom_71 : decode cX3_atom 71 = .ok (.putfield 135, 3) := dk_181 0 135 (dk_at dksX3_atom_3 0 rfl rfl)
theorem dX3_atom_74 : decode cX3_atom 74 = .ok (.goto (-46), 3) := dk_167 255 210 (dk_at dksX3_atom_3 3 rfl rfl)
theorem dX3_atom_77 : decode cX3_atom 77 = .ok (.aload_n 0, 1) := dk_42 (dk_at dksX3_atom_3 6 rfl rfl)
theorem dX3_atom_78 : decode cX3_atom 78 = .ok (.iconst 0, 1) := dk_3 (dk_at dksX3_atom_3 7 rfl rfl)
theorem dX3_atom_79 : decode cX3_atom 79 = .ok (.invokevirtual 211, 3) := dk_182 0 211 (dk_at dksX3_atom_3 8 rfl rfl)
theorem dX3_atom_82 : decode cX3_atom 82 = .ok (.aload_n 0, 1) := dk_42 (dk_at dksX3_atom_3 11 rfl rfl)
theorem dX3_atom_83 : decode cX3_atom 83 = .ok (.iload_n 2, 1) := dk_28 (dk_at dksX3_atom_3 12 rfl rfl)
theorem dX3_atom_84 : decode cX3_atom 84 = .ok (.invokevirtual 211, 3) := dk_182 0 211 (dk_at dksX3_atom_3 13 rfl rfl)
theorem dX3_atom_87 : decode cX3_atom 87 = .ok (.goto 68, 3) := dk_167 0 68 (dk_at dksX3_atom_3 16 rfl rfl)
theorem dX3_atom_90 : decode cX3_atom 90 = .ok (.iload_n 1, 1) := dk_27 (dk_at dksX3_atom_3 19 rfl rfl)
theorem dX3_atom_91 : decode cX3_atom 91 = .ok (.invokestatic 215, 3) := dk_184 0 215 (dk_at dksX3_atom_3 20 rfl rfl)
theorem dX3_atom_94 : decode cX3_atom 94 = .ok (.ifCond .eq 26, 3) := dk_153 0 26 (dk_at dksX3_atom_4 0 rfl rfl)
theorem dX3_atom_97 : decode cX3_atom 97 = .ok (.aload_n 0, 1) := dk_42 (dk_at dksX3_atom_4 3 rfl rfl)
theorem dX3_atom_98 : decode cX3_atom 98 = .ok (.dup, 1) := dk_89 (dk_at dksX3_atom_4 4 rfl rfl)
theorem dX3_atom_99 : decode cX3_atom 99 = .ok (.getfield 135, 3) := dk_180 0 135 (dk_at dksX3_atom_4 5 rfl rfl)
theorem dX3_atom_102 : decode cX3_atom 102 = .ok (.iconst 1, 1) := dk_4 (dk_at dksX3_atom_4 8 rfl rfl)
theorem dX3_atom_103 : decode cX3_atom 103 = .ok (.iadd, 1) := dk_96 (dk_at dksX3_atom_4 9 rfl rfl)
theorem dX3_atom_104 : decode cX3_atom 104 = .ok (.putfield 135, 3) := dk_181 0 135 (dk_at dksX3_atom_4 10 rfl rfl)
theorem dX3_atom_107 : decode cX3_atom 107 = .ok (.aload_n 0, 1) := dk_42 (dk_at dksX3_atom_4 13 rfl rfl)
theorem dX3_atom_108 : decode cX3_atom 108 = .ok (.iconst 1, 1) := dk_4 (dk_at dksX3_atom_4 14 rfl rfl)
theorem dX3_atom_109 : decode cX3_atom 109 = .ok (.invokevirtual 211, 3) := dk_182 0 211 (dk_at dksX3_atom_4 15 rfl rfl)
theorem dX3_atom_112 : decode cX3_atom 112 = .ok (.aload_n 0, 1) := dk_42 (dk_at dksX3_atom_4 18 rfl rfl)
theorem dX3_atom_113 : decode cX3_atom 113 = .ok (.iload_n 1, 1) := dk_27 (dk_at dksX3_atom_4 19 rfl rfl)
theorem dX3_atom_114 : decode cX3_atom 114 = .ok (.invokevirtual 211, 3) := dk_182 0 211 (dk_at dksX3_atom_4 20 rfl rfl)
theorem dX3_atom_117 : decode cX3_atom 117 = .ok (.goto 38, 3) := dk_167 0 38 (dk_at dksX3_atom_5 0 rfl rfl)
theorem dX3_atom_120 : decode cX3_atom 120 = .ok (.iload_n 1, 1) := dk_27 (dk_at dksX3_atom_5 3 rfl rfl)
theorem dX3_atom_121 : decode cX3_atom 121 = .ok (.bipush 91, 2) := dk_16 91 (dk_at dksX3_atom_5 4 rfl rfl)
theorem dX3_atom_123 : decode cX3_atom 123 = .ok (.if_icmp .ne 28, 3) := dk_160 0 28 (dk_at dksX3_atom_5 6 rfl rfl)
theorem dX3_atom_126 : decode cX3_atom 126 = .ok (.aload_n 0, 1) := dk_42 (dk_at dksX3_atom_5 9 rfl rfl)
theorem dX3_atom_127 : decode cX3_atom 127 = .ok (.invokevirtual 218, 3) := dk_182 0 218 (dk_at dksX3_atom_5 10 rfl rfl)
theorem dX3_atom_130 : decode cX3_atom 130 = .ok (.aload_n 0, 1) := dk_42 (dk_at dksX3_atom_5 13 rfl rfl)
theorem dX3_atom_131 : decode cX3_atom 131 = .ok (.getfield 142, 3) := dk_180 0 142 (dk_at dksX3_atom_5 14 rfl rfl)
theorem dX3_atom_134 : decode cX3_atom 134 = .ok (.iconst (-1), 1) := dk_2 (dk_at dksX3_atom_5 17 rfl rfl)
theorem dX3_atom_135 : decode cX3_atom 135 = .ok (.if_icmp .ne 20, 3) := dk_160 0 20 (dk_at dksX3_atom_5 18 rfl rfl)
theorem dX3_atom_138 : decode cX3_atom 138 = .ok (.aload_n 0, 1) := dk_42 (dk_at dksX3_atom_5 21 rfl rfl)
theorem dX3_atom_139 : decode cX3_atom 139 = .ok (.invokevirtual 221, 3) := dk_182 0 221 (dk_at dksX3_atom_6 0 rfl rfl)
theorem dX3_atom_142 : decode cX3_atom 142 = .ok (.aload_n 0, 1) := dk_42 (dk_at dksX3_atom_6 3 rfl rfl)
theorem dX3_atom_143 : decode cX3_atom 143 = .ok (.bipush 93, 2) := dk_16 93 (dk_at dksX3_atom_6 4 rfl rfl)
theorem dX3_atom_145 : decode cX3_atom 145 = .ok (.invokevirtual 224, 3) := dk_182 0 224 (dk_at dksX3_atom_6 6 rfl rfl)
theorem dX3_atom_148 : decode cX3_atom 148 = .ok (.goto 7, 3) := dk_167 0 7 (dk_at dksX3_atom_6 9 rfl rfl)
theorem dX3_atom_151 : decode cX3_atom 151 = .ok (.aload_n 0, 1) := dk_42 (dk_at dksX3_atom_6 12 rfl rfl)
theorem dX3_atom_152 : decode cX3_atom 152 = .ok (.invokevirtual 164, 3) := dk_182 0 164 (dk_at dksX3_atom_6 13 rfl rfl)
theorem dX3_atom_155 : decode cX3_atom 155 = .ok (.return_, 1) := dk_177 (dk_at dksX3_atom_6 16 rfl rfl)
abbrev cX3_isLetter : ByteArray := prog_26_method_25_code
def yX3_isLetter : MethodName := ⟨RX3, "isLetter", "(I)Z"⟩
def dkwX3_isLetter_1 : List UInt8 := [26, 16, 97, 160, 0, 7, 4, 167, 0, 4, 3, 172]
abbrev dktX3_isLetter_1 : List UInt8 := dkwX3_isLetter_1 ++ []
def dkwX3_isLetter_0 : List UInt8 := [26, 16, 108, 159, 0, 27, 26, 16, 104, 159, 0, 21, 26, 16, 107, 159, 0, 15, 26, 16, 115, 159, 0, 9]
abbrev dktX3_isLetter_0 : List UInt8 := dkwX3_isLetter_0 ++ dktX3_isLetter_1
theorem dksX3_isLetter_0 : cX3_isLetter.data.toList.drop 0 = dktX3_isLetter_0 := by decide +kernel
theorem dksX3_isLetter_1 : cX3_isLetter.data.toList.drop 24 = dktX3_isLetter_1 := dk_seg dksX3_isLetter_0 24 rfl rfl
theorem dX3_isLetter_0 : decode cX3_isLetter 0 = .ok (.iload_n 0, 1) := dk_26 (dk_at dksX3_isLetter_0 0 rfl rfl)
theorem dX3_isLetter_1 : decode cX3_isLetter 1 = .ok (.bipush 108, 2) := dk_16 108 (dk_at dksX3_isLetter_0 1 rfl rfl)
theorem dX3_isLetter_3 : decode cX3_isLetter 3 = .ok (.if_icmp .eq 27, 3) := dk_159 0 27 (dk_at dksX3_isLetter_0 3 rfl rfl)
theorem dX3_isLetter_6 : decode cX3_isLetter 6 = .ok (.iload_n 0, 1) := dk_26 (dk_at dksX3_isLetter_0 6 rfl rfl)
theorem dX3_isLetter_7 : decode cX3_isLetter 7 = .ok (.bipush 104, 2) := dk_16 104 (dk_at dksX3_isLetter_0 7 rfl rfl)
theorem dX3_isLetter_9 : decode cX3_isLetter 9 = .ok (.if_icmp .eq 21, 3) := dk_159 0 21 (dk_at dksX3_isLetter_0 9 rfl rfl)
theorem dX3_isLetter_12 : decode cX3_isLetter 12 = .ok (.iload_n 0, 1) := dk_26 (dk_at dksX3_isLetter_0 12 rfl rfl)
theorem dX3_isLetter_13 : decode cX3_isLetter 13 = .ok (.bipush 107, 2) := dk_16 107 (dk_at dksX3_isLetter_0 13 rfl rfl)
theorem dX3_isLetter_15 : decode cX3_isLetter 15 = .ok (.if_icmp .eq 15, 3) := dk_159 0 15 (dk_at dksX3_isLetter_0 15 rfl rfl)
theorem dX3_isLetter_18 : decode cX3_isLetter 18 = .ok (.iload_n 0, 1) := dk_26 (dk_at dksX3_isLetter_0 18 rfl rfl)
theorem dX3_isLetter_19 : decode cX3_isLetter 19 = .ok (.bipush 115, 2) := dk_16 115 (dk_at dksX3_isLetter_0 19 rfl rfl)
theorem dX3_isLetter_21 : decode cX3_isLetter 21 = .ok (.if_icmp .eq 9, 3) := dk_159 0 9 (dk_at dksX3_isLetter_0 21 rfl rfl)
theorem dX3_isLetter_24 : decode cX3_isLetter 24 = .ok (.iload_n 0, 1) := dk_26 (dk_at dksX3_isLetter_1 0 rfl rfl)
theorem dX3_isLetter_25 : decode cX3_isLetter 25 = .ok (.bipush 97, 2) := dk_16 97 (dk_at dksX3_isLetter_1 1 rfl rfl)
theorem dX3_isLetter_27 : decode cX3_isLetter 27 = .ok (.if_icmp .ne 7, 3) := dk_160 0 7 (dk_at dksX3_isLetter_1 3 rfl rfl)
theorem dX3_isLetter_30 : decode cX3_isLetter 30 = .ok (.iconst 1, 1) := dk_4 (dk_at dksX3_isLetter_1 6 rfl rfl)
theorem dX3_isLetter_31 : decode cX3_isLetter 31 = .ok (.goto 4, 3) := dk_167 0 4 (dk_at dksX3_isLetter_1 7 rfl rfl)
theorem dX3_isLetter_34 : decode cX3_isLetter 34 = .ok (.iconst 0, 1) := dk_3 (dk_at dksX3_isLetter_1 10 rfl rfl)
theorem dX3_isLetter_35 : decode cX3_isLetter 35 = .ok (.ireturn, 1) := dk_172 (dk_at dksX3_isLetter_1 11 rfl rfl)
abbrev cX3_figure : ByteArray := prog_26_method_35_code
def yX3_figure : MethodName := ⟨RX3, "figure", "()I"⟩
def dkwX3_figure_1 : List UInt8 := [3, 181, 0, 132, 42, 89, 180, 0, 252, 4, 96, 181, 0, 252, 42, 180, 0, 252, 4, 100, 172]
abbrev dktX3_figure_1 : List UInt8 := dkwX3_figure_1 ++ []
def dkwX3_figure_0 : List UInt8 := [42, 180, 0, 252, 16, 12, 159, 0, 15, 42, 42, 180, 0, 252, 182, 0, 246, 2, 159, 0, 5, 2, 172, 42]
abbrev dktX3_figure_0 : List UInt8 := dkwX3_figure_0 ++ dktX3_figure_1
theorem dksX3_figure_0 : cX3_figure.data.toList.drop 0 = dktX3_figure_0 := by decide +kernel
theorem dksX3_figure_1 : cX3_figure.data.toList.drop 24 = dktX3_figure_1 := dk_seg dksX3_figure_0 24 rfl rfl
theorem dX3_figure_0 : decode cX3_figure 0 = .ok (.aload_n 0, 1) := dk_42 (dk_at dksX3_figure_0 0 rfl rfl)
theorem dX3_figure_1 : decode cX3_figure 1 = .ok (.getfield 252, 3) := dk_180 0 252 (dk_at dksX3_figure_0 1 rfl rfl)
theorem dX3_figure_4 : decode cX3_figure 4 = .ok (.bipush 12, 2) := dk_16 12 (dk_at dksX3_figure_0 4 rfl rfl)
theorem dX3_figure_6 : decode cX3_figure 6 = .ok (.if_icmp .eq 15, 3) := dk_159 0 15 (dk_at dksX3_figure_0 6 rfl rfl)
theorem dX3_figure_9 : decode cX3_figure 9 = .ok (.aload_n 0, 1) := dk_42 (dk_at dksX3_figure_0 9 rfl rfl)
theorem dX3_figure_10 : decode cX3_figure 10 = .ok (.aload_n 0, 1) := dk_42 (dk_at dksX3_figure_0 10 rfl rfl)
theorem dX3_figure_11 : decode cX3_figure 11 = .ok (.getfield 252, 3) := dk_180 0 252 (dk_at dksX3_figure_0 11 rfl rfl)
theorem dX3_figure_14 : decode cX3_figure 14 = .ok (.invokevirtual 246, 3) := dk_182 0 246 (dk_at dksX3_figure_0 14 rfl rfl)
theorem dX3_figure_17 : decode cX3_figure 17 = .ok (.iconst (-1), 1) := dk_2 (dk_at dksX3_figure_0 17 rfl rfl)
theorem dX3_figure_18 : decode cX3_figure 18 = .ok (.if_icmp .eq 5, 3) := dk_159 0 5 (dk_at dksX3_figure_0 18 rfl rfl)
theorem dX3_figure_21 : decode cX3_figure 21 = .ok (.iconst (-1), 1) := dk_2 (dk_at dksX3_figure_0 21 rfl rfl)
theorem dX3_figure_22 : decode cX3_figure 22 = .ok (.ireturn, 1) := dk_172 (dk_at dksX3_figure_0 22 rfl rfl)
theorem dX3_figure_23 : decode cX3_figure 23 = .ok (.aload_n 0, 1) := dk_42 (dk_at dksX3_figure_0 23 rfl rfl)
theorem dX3_figure_24 : decode cX3_figure 24 = .ok (.iconst 0, 1) := dk_3 (dk_at dksX3_figure_1 0 rfl rfl)
theorem dX3_figure_25 : decode cX3_figure 25 = .ok (.putfield 132, 3) := dk_181 0 132 (dk_at dksX3_figure_1 1 rfl rfl)
theorem dX3_figure_28 : decode cX3_figure 28 = .ok (.aload_n 0, 1) := dk_42 (dk_at dksX3_figure_1 4 rfl rfl)
theorem dX3_figure_29 : decode cX3_figure 29 = .ok (.dup, 1) := dk_89 (dk_at dksX3_figure_1 5 rfl rfl)
theorem dX3_figure_30 : decode cX3_figure 30 = .ok (.getfield 252, 3) := dk_180 0 252 (dk_at dksX3_figure_1 6 rfl rfl)
theorem dX3_figure_33 : decode cX3_figure 33 = .ok (.iconst 1, 1) := dk_4 (dk_at dksX3_figure_1 9 rfl rfl)
theorem dX3_figure_34 : decode cX3_figure 34 = .ok (.iadd, 1) := dk_96 (dk_at dksX3_figure_1 10 rfl rfl)
theorem dX3_figure_35 : decode cX3_figure 35 = .ok (.putfield 252, 3) := dk_181 0 252 (dk_at dksX3_figure_1 11 rfl rfl)
theorem dX3_figure_38 : decode cX3_figure 38 = .ok (.aload_n 0, 1) := dk_42 (dk_at dksX3_figure_1 14 rfl rfl)
theorem dX3_figure_39 : decode cX3_figure 39 = .ok (.getfield 252, 3) := dk_180 0 252 (dk_at dksX3_figure_1 15 rfl rfl)
theorem dX3_figure_42 : decode cX3_figure 42 = .ok (.iconst 1, 1) := dk_4 (dk_at dksX3_figure_1 18 rfl rfl)
theorem dX3_figure_43 : decode cX3_figure 43 = .ok (.isub, 1) := dk_100 (dk_at dksX3_figure_1 19 rfl rfl)
theorem dX3_figure_44 : decode cX3_figure 44 = .ok (.ireturn, 1) := dk_172 (dk_at dksX3_figure_1 20 rfl rfl)
abbrev cX3_rule : ByteArray := prog_26_method_36_code
def yX3_rule : MethodName := ⟨RX3, "rule", "()I"⟩
def dkwX3_rule_1 : List UInt8 := [3, 181, 0, 132, 42, 89, 180, 0, 255, 4, 96, 181, 0, 255, 42, 180, 0, 255, 4, 100, 172]
abbrev dktX3_rule_1 : List UInt8 := dkwX3_rule_1 ++ []
def dkwX3_rule_0 : List UInt8 := [42, 180, 0, 255, 16, 6, 159, 0, 15, 42, 42, 180, 0, 255, 182, 0, 249, 2, 159, 0, 5, 2, 172, 42]
abbrev dktX3_rule_0 : List UInt8 := dkwX3_rule_0 ++ dktX3_rule_1
theorem dksX3_rule_0 : cX3_rule.data.toList.drop 0 = dktX3_rule_0 := by decide +kernel
theorem dksX3_rule_1 : cX3_rule.data.toList.drop 24 = dktX3_rule_1 := dk_seg dksX3_rule_0 24 rfl rfl
theorem dX3_rule_0 : decode cX3_rule 0 = .ok (.aload_n 0, 1) := dk_42 (dk_at dksX3_rule_0 0 rfl rfl)
theorem dX3_rule_1 : decode cX3_rule 1 = .ok (.getfield 255, 3) := dk_180 0 255 (dk_at dksX3_rule_0 1 rfl rfl)
theorem dX3_rule_4 : decode cX3_rule 4 = .ok (.bipush 6, 2) := dk_16 6 (dk_at dksX3_rule_0 4 rfl rfl)
theorem dX3_rule_6 : decode cX3_rule 6 = .ok (.if_icmp .eq 15, 3) := dk_159 0 15 (dk_at dksX3_rule_0 6 rfl rfl)
theorem dX3_rule_9 : decode cX3_rule 9 = .ok (.aload_n 0, 1) := dk_42 (dk_at dksX3_rule_0 9 rfl rfl)
theorem dX3_rule_10 : decode cX3_rule 10 = .ok (.aload_n 0, 1) := dk_42 (dk_at dksX3_rule_0 10 rfl rfl)
theorem dX3_rule_11 : decode cX3_rule 11 = .ok (.getfield 255, 3) := dk_180 0 255 (dk_at dksX3_rule_0 11 rfl rfl)
theorem dX3_rule_14 : decode cX3_rule 14 = .ok (.invokevirtual 249, 3) := dk_182 0 249 (dk_at dksX3_rule_0 14 rfl rfl)
theorem dX3_rule_17 : decode cX3_rule 17 = .ok (.iconst (-1), 1) := dk_2 (dk_at dksX3_rule_0 17 rfl rfl)
theorem dX3_rule_18 : decode cX3_rule 18 = .ok (.if_icmp .eq 5, 3) := dk_159 0 5 (dk_at dksX3_rule_0 18 rfl rfl)
theorem dX3_rule_21 : decode cX3_rule 21 = .ok (.iconst (-1), 1) := dk_2 (dk_at dksX3_rule_0 21 rfl rfl)
theorem dX3_rule_22 : decode cX3_rule 22 = .ok (.ireturn, 1) := dk_172 (dk_at dksX3_rule_0 22 rfl rfl)
theorem dX3_rule_23 : decode cX3_rule 23 = .ok (.aload_n 0, 1) := dk_42 (dk_at dksX3_rule_0 23 rfl rfl)
theorem dX3_rule_24 : decode cX3_rule 24 = .ok (.iconst 0, 1) := dk_3 (dk_at dksX3_rule_1 0 rfl rfl)
theorem dX3_rule_25 : decode cX3_rule 25 = .ok (.putfield 132, 3) := dk_181 0 132 (dk_at dksX3_rule_1 1 rfl rfl)
theorem dX3_rule_28 : decode cX3_rule 28 = .ok (.aload_n 0, 1) := dk_42 (dk_at dksX3_rule_1 4 rfl rfl)
theorem dX3_rule_29 : decode cX3_rule 29 = .ok (.dup, 1) := dk_89 (dk_at dksX3_rule_1 5 rfl rfl)
theorem dX3_rule_30 : decode cX3_rule 30 = .ok (.getfield 255, 3) := dk_180 0 255 (dk_at dksX3_rule_1 6 rfl rfl)
theorem dX3_rule_33 : decode cX3_rule 33 = .ok (.iconst 1, 1) := dk_4 (dk_at dksX3_rule_1 9 rfl rfl)
theorem dX3_rule_34 : decode cX3_rule 34 = .ok (.iadd, 1) := dk_96 (dk_at dksX3_rule_1 10 rfl rfl)
theorem dX3_rule_35 : decode cX3_rule 35 = .ok (.putfield 255, 3) := dk_181 0 255 (dk_at dksX3_rule_1 11 rfl rfl)
theorem dX3_rule_38 : decode cX3_rule 38 = .ok (.aload_n 0, 1) := dk_42 (dk_at dksX3_rule_1 14 rfl rfl)
theorem dX3_rule_39 : decode cX3_rule 39 = .ok (.getfield 255, 3) := dk_180 0 255 (dk_at dksX3_rule_1 15 rfl rfl)
theorem dX3_rule_42 : decode cX3_rule 42 = .ok (.iconst 1, 1) := dk_4 (dk_at dksX3_rule_1 18 rfl rfl)
theorem dX3_rule_43 : decode cX3_rule 43 = .ok (.isub, 1) := dk_100 (dk_at dksX3_rule_1 19 rfl rfl)
theorem dX3_rule_44 : decode cX3_rule 44 = .ok (.ireturn, 1) := dk_172 (dk_at dksX3_rule_1 20 rfl rfl)
abbrev cX3_worth : ByteArray := prog_26_method_41_code
def yX3_worth : MethodName := ⟨RX3, "worth", "(IIIIII)I"⟩
def dkwX3_worth_2 : List UInt8 := [172]
abbrev dktX3_worth_2 : List UInt8 := dkwX3_worth_2 ++ []
def dkwX3_worth_1 : List UInt8 := [180, 0, 118, 4, 160, 0, 7, 3, 167, 0, 16, 42, 27, 28, 29, 21, 4, 21, 5, 21, 6, 182, 1, 25]
abbrev dktX3_worth_1 : List UInt8 := dkwX3_worth_1 ++ dktX3_worth_2
def dkwX3_worth_0 : List UInt8 := [42, 27, 3, 42, 180, 0, 255, 4, 100, 184, 0, 121, 153, 0, 7, 3, 167, 0, 4, 4, 181, 0, 118, 42]
abbrev dktX3_worth_0 : List UInt8 := dkwX3_worth_0 ++ dktX3_worth_1
theorem dksX3_worth_0 : cX3_worth.data.toList.drop 0 = dktX3_worth_0 := by decide +kernel
theorem dksX3_worth_1 : cX3_worth.data.toList.drop 24 = dktX3_worth_1 := dk_seg dksX3_worth_0 24 rfl rfl
theorem dksX3_worth_2 : cX3_worth.data.toList.drop 48 = dktX3_worth_2 := dk_seg dksX3_worth_1 24 rfl rfl
theorem dX3_worth_0 : decode cX3_worth 0 = .ok (.aload_n 0, 1) := dk_42 (dk_at dksX3_worth_0 0 rfl rfl)
theorem dX3_worth_1 : decode cX3_worth 1 = .ok (.iload_n 1, 1) := dk_27 (dk_at dksX3_worth_0 1 rfl rfl)
theorem dX3_worth_2 : decode cX3_worth 2 = .ok (.iconst 0, 1) := dk_3 (dk_at dksX3_worth_0 2 rfl rfl)
theorem dX3_worth_3 : decode cX3_worth 3 = .ok (.aload_n 0, 1) := dk_42 (dk_at dksX3_worth_0 3 rfl rfl)
theorem dX3_worth_4 : decode cX3_worth 4 = .ok (.getfield 255, 3) := dk_180 0 255 (dk_at dksX3_worth_0 4 rfl rfl)
theorem dX3_worth_7 : decode cX3_worth 7 = .ok (.iconst 1, 1) := dk_4 (dk_at dksX3_worth_0 7 rfl rfl)
theorem dX3_worth_8 : decode cX3_worth 8 = .ok (.isub, 1) := dk_100 (dk_at dksX3_worth_0 8 rfl rfl)
theorem dX3_worth_9 : decode cX3_worth 9 = .ok (.invokestatic 121, 3) := dk_184 0 121 (dk_at dksX3_worth_0 9 rfl rfl)
theorem dX3_worth_12 : decode cX3_worth 12 = .ok (.ifCond .eq 7, 3) := dk_153 0 7 (dk_at dksX3_worth_0 12 rfl rfl)
theorem dX3_worth_15 : decode cX3_worth 15 = .ok (.iconst 0, 1) := dk_3 (dk_at dksX3_worth_0 15 rfl rfl)
theorem dX3_worth_16 : decode cX3_worth 16 = .ok (.goto 4, 3) := dk_167 0 4 (dk_at dksX3_worth_0 16 rfl rfl)
theorem dX3_worth_19 : decode cX3_worth 19 = .ok (.iconst 1, 1) := dk_4 (dk_at dksX3_worth_0 19 rfl rfl)
theorem dX3_worth_20 : decode cX3_worth 20 = .ok (.putfield 118, 3) := dk_181 0 118 (dk_at dksX3_worth_0 20 rfl rfl)
theorem dX3_worth_23 : decode cX3_worth 23 = .ok (.aload_n 0, 1) := dk_42 (dk_at dksX3_worth_0 23 rfl rfl)
theorem dX3_worth_24 : decode cX3_worth 24 = .ok (.getfield 118, 3) := dk_180 0 118 (dk_at dksX3_worth_1 0 rfl rfl)
theorem dX3_worth_27 : decode cX3_worth 27 = .ok (.iconst 1, 1) := dk_4 (dk_at dksX3_worth_1 3 rfl rfl)
theorem dX3_worth_28 : decode cX3_worth 28 = .ok (.if_icmp .ne 7, 3) := dk_160 0 7 (dk_at dksX3_worth_1 4 rfl rfl)
theorem dX3_worth_31 : decode cX3_worth 31 = .ok (.iconst 0, 1) := dk_3 (dk_at dksX3_worth_1 7 rfl rfl)
theorem dX3_worth_32 : decode cX3_worth 32 = .ok (.goto 16, 3) := dk_167 0 16 (dk_at dksX3_worth_1 8 rfl rfl)
theorem dX3_worth_35 : decode cX3_worth 35 = .ok (.aload_n 0, 1) := dk_42 (dk_at dksX3_worth_1 11 rfl rfl)
theorem dX3_worth_36 : decode cX3_worth 36 = .ok (.iload_n 1, 1) := dk_27 (dk_at dksX3_worth_1 12 rfl rfl)
theorem dX3_worth_37 : decode cX3_worth 37 = .ok (.iload_n 2, 1) := dk_28 (dk_at dksX3_worth_1 13 rfl rfl)
theorem dX3_worth_38 : decode cX3_worth 38 = .ok (.iload_n 3, 1) := dk_29 (dk_at dksX3_worth_1 14 rfl rfl)
theorem dX3_worth_39 : decode cX3_worth 39 = .ok (.iload 4, 2) := dk_21 4 (dk_at dksX3_worth_1 15 rfl rfl)
theorem dX3_worth_41 : decode cX3_worth 41 = .ok (.iload 5, 2) := dk_21 5 (dk_at dksX3_worth_1 17 rfl rfl)
theorem dX3_worth_43 : decode cX3_worth 43 = .ok (.iload 6, 2) := dk_21 6 (dk_at dksX3_worth_1 19 rfl rfl)
theorem dX3_worth_45 : decode cX3_worth 45 = .ok (.invokevirtual 281, 3) := dk_182 1 25 (dk_at dksX3_worth_1 21 rfl rfl)
theorem dX3_worth_48 : decode cX3_worth 48 = .ok (.ireturn, 1) := dk_172 (dk_at dksX3_worth_2 0 rfl rfl)
abbrev cX3_worthOf : ByteArray := prog_26_method_40_code
def yX3_worthOf : MethodName := ⟨RX3, "worthOf", "(IIIIII)I"⟩
def dkwX3_worthOf_4 : List UInt8 := [54, 7, 132, 8, 1, 167, 255, 162, 3, 172]
abbrev dktX3_worthOf_4 : List UInt8 := dkwX3_worthOf_4 ++ []
def dkwX3_worthOf_3 : List UInt8 := [154, 0, 22, 42, 27, 21, 9, 21, 10, 28, 29, 21, 4, 21, 5, 21, 6, 182, 1, 21, 136, 172, 21, 10]
abbrev dktX3_worthOf_3 : List UInt8 := dkwX3_worthOf_3 ++ dktX3_worthOf_4
def dkwX3_worthOf_2 : List UInt8 := [21, 7, 159, 0, 25, 42, 27, 21, 7, 21, 9, 28, 29, 21, 4, 21, 5, 21, 6, 182, 1, 21, 10, 148]
abbrev dktX3_worthOf_2 : List UInt8 := dkwX3_worthOf_2 ++ dktX3_worthOf_3
def dkwX3_worthOf_1 : List UInt8 := [104, 21, 8, 96, 46, 54, 9, 42, 180, 0, 70, 16, 64, 27, 104, 21, 8, 96, 46, 54, 10, 21, 9]
abbrev dktX3_worthOf_1 : List UInt8 := dkwX3_worthOf_1 ++ dktX3_worthOf_2
def dkwX3_worthOf_0 : List UInt8 := [3, 54, 7, 3, 54, 8, 21, 8, 42, 180, 0, 64, 27, 46, 162, 0, 89, 42, 180, 0, 67, 16, 64, 27]
abbrev dktX3_worthOf_0 : List UInt8 := dkwX3_worthOf_0 ++ dktX3_worthOf_1
theorem dksX3_worthOf_0 : cX3_worthOf.data.toList.drop 0 = dktX3_worthOf_0 := by decide +kernel
theorem dksX3_worthOf_1 : cX3_worthOf.data.toList.drop 24 = dktX3_worthOf_1 := dk_seg dksX3_worthOf_0 24 rfl rfl
theorem dksX3_worthOf_2 : cX3_worthOf.data.toList.drop 47 = dktX3_worthOf_2 := dk_seg dksX3_worthOf_1 23 rfl rfl
theorem dksX3_worthOf_3 : cX3_worthOf.data.toList.drop 71 = dktX3_worthOf_3 := dk_seg dksX3_worthOf_2 24 rfl rfl
theorem dksX3_worthOf_4 : cX3_worthOf.data.toList.drop 95 = dktX3_worthOf_4 := dk_seg dksX3_worthOf_3 24 rfl rfl
theorem dX3_worthOf_0 : decode cX3_worthOf 0 = .ok (.iconst 0, 1) := dk_3 (dk_at dksX3_worthOf_0 0 rfl rfl)
theorem dX3_worthOf_1 : decode cX3_worthOf 1 = .ok (.istore 7, 2) := dk_54 7 (dk_at dksX3_worthOf_0 1 rfl rfl)
theorem dX3_worthOf_3 : decode cX3_worthOf 3 = .ok (.iconst 0, 1) := dk_3 (dk_at dksX3_worthOf_0 3 rfl rfl)
theorem dX3_worthOf_4 : decode cX3_worthOf 4 = .ok (.istore 8, 2) := dk_54 8 (dk_at dksX3_worthOf_0 4 rfl rfl)
theorem dX3_worthOf_6 : decode cX3_worthOf 6 = .ok (.iload 8, 2) := dk_21 8 (dk_at dksX3_worthOf_0 6 rfl rfl)
theorem dX3_worthOf_8 : decode cX3_worthOf 8 = .ok (.aload_n 0, 1) := dk_42 (dk_at dksX3_worthOf_0 8 rfl rfl)
theorem dX3_worthOf_9 : decode cX3_worthOf 9 = .ok (.getfield 64, 3) := dk_180 0 64 (dk_at dksX3_worthOf_0 9 rfl rfl)
theorem dX3_worthOf_12 : decode cX3_worthOf 12 = .ok (.iload_n 1, 1) := dk_27 (dk_at dksX3_worthOf_0 12 rfl rfl)
theorem dX3_worthOf_13 : decode cX3_worthOf 13 = .ok (.iaload, 1) := dk_46 (dk_at dksX3_worthOf_0 13 rfl rfl)
theorem dX3_worthOf_14 : decode cX3_worthOf 14 = .ok (.if_icmp .ge 89, 3) := dk_162 0 89 (dk_at dksX3_worthOf_0 14 rfl rfl)
theorem dX3_worthOf_17 : decode cX3_worthOf 17 = .ok (.aload_n 0, 1) := dk_42 (dk_at dksX3_worthOf_0 17 rfl rfl)
theorem dX3_worthOf_18 : decode cX3_worthOf 18 = .ok (.getfield 67, 3) := dk_180 0 67 (dk_at dksX3_worthOf_0 18 rfl rfl)
theorem dX3_worthOf_21 : decode cX3_worthOf 21 = .ok (.bipush 64, 2) := dk_16 64 (dk_at dksX3_worthOf_0 21 rfl rfl)
theorem dX3_worthOf_23 : decode cX3_worthOf 23 = .ok (.iload_n 1, 1) := dk_27 (dk_at dksX3_worthOf_0 23 rfl rfl)
theorem dX3_worthOf_24 : decode cX3_worthOf 24 = .ok (.imul, 1) := dk_104 (dk_at dksX3_worthOf_1 0 rfl rfl)
theorem dX3_worthOf_25 : decode cX3_worthOf 25 = .ok (.iload 8, 2) := dk_21 8 (dk_at dksX3_worthOf_1 1 rfl rfl)
theorem dX3_worthOf_27 : decode cX3_worthOf 27 = .ok (.iadd, 1) := dk_96 (dk_at dksX3_worthOf_1 3 rfl rfl)
theorem dX3_worthOf_28 : decode cX3_worthOf 28 = .ok (.iaload, 1) := dk_46 (dk_at dksX3_worthOf_1 4 rfl rfl)
theorem dX3_worthOf_29 : decode cX3_worthOf 29 = .ok (.istore 9, 2) := dk_54 9 (dk_at dksX3_worthOf_1 5 rfl rfl)
theorem dX3_worthOf_31 : decode cX3_worthOf 31 = .ok (.aload_n 0, 1) := dk_42 (dk_at dksX3_worthOf_1 7 rfl rfl)
theorem dX3_worthOf_32 : decode cX3_worthOf 32 = .ok (.getfield 70, 3) := dk_180 0 70 (dk_at dksX3_worthOf_1 8 rfl rfl)
theorem dX3_worthOf_35 : decode cX3_worthOf 35 = .ok (.bipush 64, 2) := dk_16 64 (dk_at dksX3_worthOf_1 11 rfl rfl)
theorem dX3_worthOf_37 : decode cX3_worthOf 37 = .ok (.iload_n 1, 1) := dk_27 (dk_at dksX3_worthOf_1 13 rfl rfl)
theorem dX3_worthOf_38 : decode cX3_worthOf 38 = .ok (.imul, 1) := dk_104 (dk_at dksX3_worthOf_1 14 rfl rfl)
theorem dX3_worthOf_39 : decode cX3_worthOf 39 = .ok (.iload 8, 2) := dk_21 8 (dk_at dksX3_worthOf_1 15 rfl rfl)
theorem dX3_worthOf_41 : decode cX3_worthOf 41 = .ok (.iadd, 1) := dk_96 (dk_at dksX3_worthOf_1 17 rfl rfl)
theorem dX3_worthOf_42 : decode cX3_worthOf 42 = .ok (.iaload, 1) := dk_46 (dk_at dksX3_worthOf_1 18 rfl rfl)
theorem dX3_worthOf_43 : decode cX3_worthOf 43 = .ok (.istore 10, 2) := dk_54 10 (dk_at dksX3_worthOf_1 19 rfl rfl)
theorem dX3_worthOf_45 : decode cX3_worthOf 45 = .ok (.iload 9, 2) := dk_21 9 (dk_at dksX3_worthOf_1 21 rfl rfl)
theorem dX3_worthOf_47 : decode cX3_worthOf 47 = .ok (.iload 7, 2) := dk_21 7 (dk_at dksX3_worthOf_2 0 rfl rfl)
theorem dX3_worthOf_49 : decode cX3_worthOf 49 = .ok (.if_icmp .eq 25, 3) := dk_159 0 25 (dk_at dksX3_worthOf_2 2 rfl rfl)
theorem dX3_worthOf_52 : decode cX3_worthOf 52 = .ok (.aload_n 0, 1) := dk_42 (dk_at dksX3_worthOf_2 5 rfl rfl)
theorem dX3_worthOf_53 : decode cX3_worthOf 53 = .ok (.iload_n 1, 1) := dk_27 (dk_at dksX3_worthOf_2 6 rfl rfl)
theorem dX3_worthOf_54 : decode cX3_worthOf 54 = .ok (.iload 7, 2) := dk_21 7 (dk_at dksX3_worthOf_2 7 rfl rfl)
theorem dX3_worthOf_56 : decode cX3_worthOf 56 = .ok (.iload 9, 2) := dk_21 9 (dk_at dksX3_worthOf_2 9 rfl rfl)
theorem dX3_worthOf_58 : decode cX3_worthOf 58 = .ok (.iload_n 2, 1) := dk_28 (dk_at dksX3_worthOf_2 11 rfl rfl)
theorem dX3_worthOf_59 : decode cX3_worthOf 59 = .ok (.iload_n 3, 1) := dk_29 (dk_at dksX3_worthOf_2 12 rfl rfl)
theorem dX3_worthOf_60 : decode cX3_worthOf 60 = .ok (.iload 4, 2) := dk_21 4 (dk_at dksX3_worthOf_2 13 rfl rfl)
theorem dX3_worthOf_62 : decode cX3_worthOf 62 = .ok (.iload 5, 2) := dk_21 5 (dk_at dksX3_worthOf_2 15 rfl rfl)
theorem dX3_worthOf_64 : decode cX3_worthOf 64 = .ok (.iload 6, 2) := dk_21 6 (dk_at dksX3_worthOf_2 17 rfl rfl)
theorem dX3_worthOf_66 : decode cX3_worthOf 66 = .ok (.invokevirtual 277, 3) := dk_182 1 21 (dk_at dksX3_worthOf_2 19 rfl rfl)
theorem dX3_worthOf_69 : decode cX3_worthOf 69 = .ok (.lconst 1, 1) := dk_10 (dk_at dksX3_worthOf_2 22 rfl rfl)
theorem dX3_worthOf_70 : decode cX3_worthOf 70 = .ok (.lcmp, 1) := dk_148 (dk_at dksX3_worthOf_2 23 rfl rfl)
theorem dX3_worthOf_71 : decode cX3_worthOf 71 = .ok (.ifCond .ne 22, 3) := dk_154 0 22 (dk_at dksX3_worthOf_3 0 rfl rfl)
theorem dX3_worthOf_74 : decode cX3_worthOf 74 = .ok (.aload_n 0, 1) := dk_42 (dk_at dksX3_worthOf_3 3 rfl rfl)
theorem dX3_worthOf_75 : decode cX3_worthOf 75 = .ok (.iload_n 1, 1) := dk_27 (dk_at dksX3_worthOf_3 4 rfl rfl)
theorem dX3_worthOf_76 : decode cX3_worthOf 76 = .ok (.iload 9, 2) := dk_21 9 (dk_at dksX3_worthOf_3 5 rfl rfl)
theorem dX3_worthOf_78 : decode cX3_worthOf 78 = .ok (.iload 10, 2) := dk_21 10 (dk_at dksX3_worthOf_3 7 rfl rfl)
theorem dX3_worthOf_80 : decode cX3_worthOf 80 = .ok (.iload_n 2, 1) := dk_28 (dk_at dksX3_worthOf_3 9 rfl rfl)
theorem dX3_worthOf_81 : decode cX3_worthOf 81 = .ok (.iload_n 3, 1) := dk_29 (dk_at dksX3_worthOf_3 10 rfl rfl)
theorem dX3_worthOf_82 : decode cX3_worthOf 82 = .ok (.iload 4, 2) := dk_21 4 (dk_at dksX3_worthOf_3 11 rfl rfl)
theorem dX3_worthOf_84 : decode cX3_worthOf 84 = .ok (.iload 5, 2) := dk_21 5 (dk_at dksX3_worthOf_3 13 rfl rfl)
theorem dX3_worthOf_86 : decode cX3_worthOf 86 = .ok (.iload 6, 2) := dk_21 6 (dk_at dksX3_worthOf_3 15 rfl rfl)
theorem dX3_worthOf_88 : decode cX3_worthOf 88 = .ok (.invokevirtual 277, 3) := dk_182 1 21 (dk_at dksX3_worthOf_3 17 rfl rfl)
theorem dX3_worthOf_91 : decode cX3_worthOf 91 = .ok (.l2i, 1) := dk_136 (dk_at dksX3_worthOf_3 20 rfl rfl)
theorem dX3_worthOf_92 : decode cX3_worthOf 92 = .ok (.ireturn, 1) := dk_172 (dk_at dksX3_worthOf_3 21 rfl rfl)
theorem dX3_worthOf_93 : decode cX3_worthOf 93 = .ok (.iload 10, 2) := dk_21 10 (dk_at dksX3_worthOf_3 22 rfl rfl)
theorem dX3_worthOf_95 : decode cX3_worthOf 95 = .ok (.istore 7, 2) := dk_54 7 (dk_at dksX3_worthOf_4 0 rfl rfl)
theorem dX3_worthOf_97 : decode cX3_worthOf 97 = .ok (.iinc 8 1, 3) := dk_132 8 1 (dk_at dksX3_worthOf_4 2 rfl rfl)
theorem dX3_worthOf_100 : decode cX3_worthOf 100 = .ok (.goto (-94), 3) := dk_167 255 162 (dk_at dksX3_worthOf_4 5 rfl rfl)
theorem dX3_worthOf_103 : decode cX3_worthOf 103 = .ok (.iconst 0, 1) := dk_3 (dk_at dksX3_worthOf_4 8 rfl rfl)
theorem dX3_worthOf_104 : decode cX3_worthOf 104 = .ok (.ireturn, 1) := dk_172 (dk_at dksX3_worthOf_4 9 rfl rfl)
abbrev cX3_work : ByteArray := prog_26_method_39_code
def yX3_work : MethodName := ⟨RX3, "work", "(IIIIIIII)J"⟩
def dkwX3_work_8 : List UInt8 := [180, 0, 73, 21, 9, 47, 184, 1, 17, 80, 167, 255, 72, 42, 180, 0, 73, 3, 47, 173]
abbrev dktX3_work_8 : List UInt8 := dkwX3_work_8 ++ []
def dkwX3_work_7 : List UInt8 := [132, 9, 255, 42, 180, 0, 73, 21, 9, 4, 100, 21, 11, 42, 180, 0, 73, 21, 9, 4, 100, 47, 42]
abbrev dktX3_work_7 : List UInt8 := dkwX3_work_7 ++ dktX3_work_8
def dkwX3_work_6 : List UInt8 := [180, 0, 73, 21, 9, 4, 100, 10, 42, 180, 0, 73, 21, 9, 4, 100, 47, 101, 80, 167, 0, 36]
abbrev dktX3_work_6 : List UInt8 := dkwX3_work_6 ++ dktX3_work_7
def dkwX3_work_5 : List UInt8 := [21, 7, 133, 167, 0, 6, 21, 8, 133, 80, 132, 9, 1, 167, 0, 66, 21, 11, 16, 33, 160, 0, 26, 42]
abbrev dktX3_work_5 : List UInt8 := dkwX3_work_5 ++ dktX3_work_6
def dkwX3_work_4 : List UInt8 := [167, 0, 32, 21, 12, 16, 107, 160, 0, 9, 21, 6, 133, 167, 0, 19, 21, 12, 16, 115, 160, 0, 9]
abbrev dktX3_work_4 : List UInt8 := dkwX3_work_4 ++ dktX3_work_5
def dkwX3_work_3 : List UInt8 := [21, 12, 16, 108, 160, 0, 9, 21, 4, 133, 167, 0, 45, 21, 12, 16, 104, 160, 0, 9, 21, 5, 133]
abbrev dktX3_work_3 : List UInt8 := dkwX3_work_3 ++ dktX3_work_4
def dkwX3_work_2 : List UInt8 := [46, 54, 12, 132, 10, 1, 42, 180, 0, 73, 21, 9, 21, 11, 154, 0, 9, 21, 12, 133, 167, 0, 58]
abbrev dktX3_work_2 : List UInt8 := dkwX3_work_2 ++ dktX3_work_3
def dkwX3_work_1 : List UInt8 := [42, 180, 0, 61, 21, 10, 46, 54, 11, 132, 10, 1, 21, 11, 5, 162, 0, 94, 42, 180, 0, 61, 21, 10]
abbrev dktX3_work_1 : List UInt8 := dkwX3_work_1 ++ dktX3_work_2
def dkwX3_work_0 : List UInt8 := [3, 54, 9, 17, 1, 144, 27, 104, 28, 96, 54, 10, 21, 10, 17, 1, 144, 27, 104, 29, 96, 162, 0, 178]
abbrev dktX3_work_0 : List UInt8 := dkwX3_work_0 ++ dktX3_work_1
theorem dksX3_work_0 : cX3_work.data.toList.drop 0 = dktX3_work_0 := by decide +kernel
theorem dksX3_work_1 : cX3_work.data.toList.drop 24 = dktX3_work_1 := dk_seg dksX3_work_0 24 rfl rfl
theorem dksX3_work_2 : cX3_work.data.toList.drop 48 = dktX3_work_2 := dk_seg dksX3_work_1 24 rfl rfl
theorem dksX3_work_3 : cX3_work.data.toList.drop 71 = dktX3_work_3 := dk_seg dksX3_work_2 23 rfl rfl
theorem dksX3_work_4 : cX3_work.data.toList.drop 94 = dktX3_work_4 := dk_seg dksX3_work_3 23 rfl rfl
theorem dksX3_work_5 : cX3_work.data.toList.drop 117 = dktX3_work_5 := dk_seg dksX3_work_4 23 rfl rfl
theorem dksX3_work_6 : cX3_work.data.toList.drop 141 = dktX3_work_6 := dk_seg dksX3_work_5 24 rfl rfl
theorem dksX3_work_7 : cX3_work.data.toList.drop 163 = dktX3_work_7 := dk_seg dksX3_work_6 22 rfl rfl
theorem dksX3_work_8 : cX3_work.data.toList.drop 186 = dktX3_work_8 := dk_seg dksX3_work_7 23 rfl rfl
theorem dX3_work_0 : decode cX3_work 0 = .ok (.iconst 0, 1) := dk_3 (dk_at dksX3_work_0 0 rfl rfl)
theorem dX3_work_1 : decode cX3_work 1 = .ok (.istore 9, 2) := dk_54 9 (dk_at dksX3_work_0 1 rfl rfl)
theorem dX3_work_3 : decode cX3_work 3 = .ok (.sipush 400, 3) := dk_17 1 144 (dk_at dksX3_work_0 3 rfl rfl)
theorem dX3_work_6 : decode cX3_work 6 = .ok (.iload_n 1, 1) := dk_27 (dk_at dksX3_work_0 6 rfl rfl)
theorem dX3_work_7 : decode cX3_work 7 = .ok (.imul, 1) := dk_104 (dk_at dksX3_work_0 7 rfl rfl)
theorem dX3_work_8 : decode cX3_work 8 = .ok (.iload_n 2, 1) := dk_28 (dk_at dksX3_work_0 8 rfl rfl)
theorem dX3_work_9 : decode cX3_work 9 = .ok (.iadd, 1) := dk_96 (dk_at dksX3_work_0 9 rfl rfl)
theorem dX3_work_10 : decode cX3_work 10 = .ok (.istore 10, 2) := dk_54 10 (dk_at dksX3_work_0 10 rfl rfl)
theorem dX3_work_12 : decode cX3_work 12 = .ok (.iload 10, 2) := dk_21 10 (dk_at dksX3_work_0 12 rfl rfl)
theorem dX3_work_14 : decode cX3_work 14 = .ok (.sipush 400, 3) := dk_17 1 144 (dk_at dksX3_work_0 14 rfl rfl)
theorem dX3_work_17 : decode cX3_work 17 = .ok (.iload_n 1, 1) := dk_27 (dk_at dksX3_work_0 17 rfl rfl)
theorem dX3_work_18 : decode cX3_work 18 = .ok (.imul, 1) := dk_104 (dk_at dksX3_work_0 18 rfl rfl)
theorem dX3_work_19 : decode cX3_work 19 = .ok (.iload_n 3, 1) := dk_29 (dk_at dksX3_work_0 19 rfl rfl)
theorem dX3_work_20 : decode cX3_work 20 = .ok (.iadd, 1) := dk_96 (dk_at dksX3_work_0 20 rfl rfl)
theorem dX3_work_21 : decode cX3_work 21 = .ok (.if_icmp .ge 178, 3) := dk_162 0 178 (dk_at dksX3_work_0 21 rfl rfl)
theorem dX3_work_24 : decode cX3_work 24 = .ok (.aload_n 0, 1) := dk_42 (dk_at dksX3_work_1 0 rfl rfl)
theorem dX3_work_25 : decode cX3_work 25 = .ok (.getfield 61, 3) := dk_180 0 61 (dk_at dksX3_work_1 1 rfl rfl)
theorem dX3_work_28 : decode cX3_work 28 = .ok (.iload 10, 2) := dk_21 10 (dk_at dksX3_work_1 4 rfl rfl)
theorem dX3_work_30 : decode cX3_work 30 = .ok (.iaload, 1) := dk_46 (dk_at dksX3_work_1 6 rfl rfl)
theorem dX3_work_31 : decode cX3_work 31 = .ok (.istore 11, 2) := dk_54 11 (dk_at dksX3_work_1 7 rfl rfl)
theorem dX3_work_33 : decode cX3_work 33 = .ok (.iinc 10 1, 3) := dk_132 10 1 (dk_at dksX3_work_1 9 rfl rfl)
theorem dX3_work_36 : decode cX3_work 36 = .ok (.iload 11, 2) := dk_21 11 (dk_at dksX3_work_1 12 rfl rfl)
theorem dX3_work_38 : decode cX3_work 38 = .ok (.iconst 2, 1) := dk_5 (dk_at dksX3_work_1 14 rfl rfl)
theorem dX3_work_39 : decode cX3_work 39 = .ok (.if_icmp .ge 94, 3) := dk_162 0 94 (dk_at dksX3_work_1 15 rfl rfl)
theorem dX3_work_42 : decode cX3_work 42 = .ok (.aload_n 0, 1) := dk_42 (dk_at dksX3_work_1 18 rfl rfl)
theorem dX3_work_43 : decode cX3_work 43 = .ok (.getfield 61, 3) := dk_180 0 61 (dk_at dksX3_work_1 19 rfl rfl)
theorem dX3_work_46 : decode cX3_work 46 = .ok (.iload 10, 2) := dk_21 10 (dk_at dksX3_work_1 22 rfl rfl)
theorem dX3_work_48 : decode cX3_work 48 = .ok (.iaload, 1) := dk_46 (dk_at dksX3_work_2 0 rfl rfl)
theorem dX3_work_49 : decode cX3_work 49 = .ok (.istore 12, 2) := dk_54 12 (dk_at dksX3_work_2 1 rfl rfl)
theorem dX3_work_51 : decode cX3_work 51 = .ok (.iinc 10 1, 3) := dk_132 10 1 (dk_at dksX3_work_2 3 rfl rfl)
theorem dX3_work_54 : decode cX3_work 54 = .ok (.aload_n 0, 1) := dk_42 (dk_at dksX3_work_2 6 rfl rfl)
theorem dX3_work_55 : decode cX3_work 55 = .ok (.getfield 73, 3) := dk_180 0 73 (dk_at dksX3_work_2 7 rfl rfl)
theorem dX3_work_58 : decode cX3_work 58 = .ok (.iload 9, 2) := dk_21 9 (dk_at dksX3_work_2 10 rfl rfl)
theorem dX3_work_60 : decode cX3_work 60 = .ok (.iload 11, 2) := dk_21 11 (dk_at dksX3_work_2 12 rfl rfl)
theorem dX3_work_62 : decode cX3_work 62 = .ok (.ifCond .ne 9, 3) := dk_154 0 9 (dk_at dksX3_work_2 14 rfl rfl)
theorem dX3_work_65 : decode cX3_work 65 = .ok (.iload 12, 2) := dk_21 12 (dk_at dksX3_work_2 17 rfl rfl)
theorem dX3_work_67 : decode cX3_work 67 = .ok (.i2l, 1) := dk_133 (dk_at dksX3_work_2 19 rfl rfl)
theorem dX3_work_68 : decode cX3_work 68 = .ok (.goto 58, 3) := dk_167 0 58 (dk_at dksX3_work_2 20 rfl rfl)
theorem dX3_work_71 : decode cX3_work 71 = .ok (.iload 12, 2) := dk_21 12 (dk_at dksX3_work_3 0 rfl rfl)
theorem dX3_work_73 : decode cX3_work 73 = .ok (.bipush 108, 2) := dk_16 108 (dk_at dksX3_work_3 2 rfl rfl)
theorem dX3_work_75 : decode cX3_work 75 = .ok (.if_icmp .ne 9, 3) := dk_160 0 9 (dk_at dksX3_work_3 4 rfl rfl)
theorem dX3_work_78 : decode cX3_work 78 = .ok (.iload 4, 2) := dk_21 4 (dk_at dksX3_work_3 7 rfl rfl)
theorem dX3_work_80 : decode cX3_work 80 = .ok (.i2l, 1) := dk_133 (dk_at dksX3_work_3 9 rfl rfl)
theorem dX3_work_81 : decode cX3_work 81 = .ok (.goto 45, 3) := dk_167 0 45 (dk_at dksX3_work_3 10 rfl rfl)
theorem dX3_work_84 : decode cX3_work 84 = .ok (.iload 12, 2) := dk_21 12 (dk_at dksX3_work_3 13 rfl rfl)
theorem dX3_work_86 : decode cX3_work 86 = .ok (.bipush 104, 2) := dk_16 104 (dk_at dksX3_work_3 15 rfl rfl)
theorem dX3_work_88 : decode cX3_work 88 = .ok (.if_icmp .ne 9, 3) := dk_160 0 9 (dk_at dksX3_work_3 17 rfl rfl)
theorem dX3_work_91 : decode cX3_work 91 = .ok (.iload 5, 2) := dk_21 5 (dk_at dksX3_work_3 20 rfl rfl)
theorem dX3_work_93 : decode cX3_work 93 = .ok (.i2l, 1) := dk_133 (dk_at dksX3_work_3 22 rfl rfl)
theorem dX3_work_94 : decode cX3_work 94 = .ok (.goto 32, 3) := dk_167 0 32 (dk_at dksX3_work_4 0 rfl rfl)
theorem dX3_work_97 : decode cX3_work 97 = .ok (.iload 12, 2) := dk_21 12 (dk_at dksX3_work_4 3 rfl rfl)
theorem dX3_work_99 : decode cX3_work 99 = .ok (.bipush 107, 2) := dk_16 107 (dk_at dksX3_work_4 5 rfl rfl)
theorem dX3_work_101 : decode cX3_work 101 = .ok (.if_icmp .ne 9, 3) := dk_160 0 9 (dk_at dksX3_work_4 7 rfl rfl)
theorem dX3_work_104 : decode cX3_work 104 = .ok (.iload 6, 2) := dk_21 6 (dk_at dksX3_work_4 10 rfl rfl)
theorem dX3_work_106 : decode cX3_work 106 = .ok (.i2l, 1) := dk_133 (dk_at dksX3_work_4 12 rfl rfl)
theorem dX3_work_107 : decode cX3_work 107 = .ok (.goto 19, 3) := dk_167 0 19 (dk_at dksX3_work_4 13 rfl rfl)
theorem dX3_work_110 : decode cX3_work 110 = .ok (.iload 12, 2) := dk_21 12 (dk_at dksX3_work_4 16 rfl rfl)
theorem dX3_work_112 : decode cX3_work 112 = .ok (.bipush 115, 2) := dk_16 115 (dk_at dksX3_work_4 18 rfl rfl)
theorem dX3_work_114 : decode cX3_work 114 = .ok (.if_icmp .ne 9, 3) := dk_160 0 9 (dk_at dksX3_work_4 20 rfl rfl)
theorem dX3_work_117 : decode cX3_work 117 = .ok (.iload 7, 2) := dk_21 7 (dk_at dksX3_work_5 0 rfl rfl)
theorem dX3_work_119 : decode cX3_work 119 = .ok (.i2l, 1) := dk_133 (dk_at dksX3_work_5 2 rfl rfl)
theorem dX3_work_120 : decode cX3_work 120 = .ok (.goto 6, 3) := dk_167 0 6 (dk_at dksX3_work_5 3 rfl rfl)
theorem dX3_work_123 : decode cX3_work 123 = .ok (.iload 8, 2) := dk_21 8 (dk_at dksX3_work_5 6 rfl rfl)
theorem dX3_work_125 : decode cX3_work 125 = .ok (.i2l, 1) := dk_133 (dk_at dksX3_work_5 8 rfl rfl)
theorem dX3_work_126 : decode cX3_work 126 = .ok (.lastore, 1) := dk_80 (dk_at dksX3_work_5 9 rfl rfl)
theorem dX3_work_127 : decode cX3_work 127 = .ok (.iinc 9 1, 3) := dk_132 9 1 (dk_at dksX3_work_5 10 rfl rfl)
theorem dX3_work_130 : decode cX3_work 130 = .ok (.goto 66, 3) := dk_167 0 66 (dk_at dksX3_work_5 13 rfl rfl)
theorem dX3_work_133 : decode cX3_work 133 = .ok (.iload 11, 2) := dk_21 11 (dk_at dksX3_work_5 16 rfl rfl)
theorem dX3_work_135 : decode cX3_work 135 = .ok (.bipush 33, 2) := dk_16 33 (dk_at dksX3_work_5 18 rfl rfl)
theorem dX3_work_137 : decode cX3_work 137 = .ok (.if_icmp .ne 26, 3) := dk_160 0 26 (dk_at dksX3_work_5 20 rfl rfl)
theorem dX3_work_140 : decode cX3_work 140 = .ok (.aload_n 0, 1) := dk_42 (dk_at dksX3_work_5 23 rfl rfl)
theorem dX3_work_141 : decode cX3_work 141 = .ok (.getfield 73, 3) := dk_180 0 73 (dk_at dksX3_work_6 0 rfl rfl)
theorem dX3_work_144 : decode cX3_work 144 = .ok (.iload 9, 2) := dk_21 9 (dk_at dksX3_work_6 3 rfl rfl)
theorem dX3_work_146 : decode cX3_work 146 = .ok (.iconst 1, 1) := dk_4 (dk_at dksX3_work_6 5 rfl rfl)
theorem dX3_work_147 : decode cX3_work 147 = .ok (.isub, 1) := dk_100 (dk_at dksX3_work_6 6 rfl rfl)
theorem dX3_work_148 : decode cX3_work 148 = .ok (.lconst 1, 1) := dk_10 (dk_at dksX3_work_6 7 rfl rfl)
theorem dX3_work_149 : decode cX3_work 149 = .ok (.aload_n 0, 1) := dk_42 (dk_at dksX3_work_6 8 rfl rfl)
theorem dX3_work_150 : decode cX3_work 150 = .ok (.getfield 73, 3) := dk_180 0 73 (dk_at dksX3_work_6 9 rfl rfl)
theorem dX3_work_153 : decode cX3_work 153 = .ok (.iload 9, 2) := dk_21 9 (dk_at dksX3_work_6 12 rfl rfl)
theorem dX3_work_155 : decode cX3_work 155 = .ok (.iconst 1, 1) := dk_4 (dk_at dksX3_work_6 14 rfl rfl)
theorem dX3_work_156 : decode cX3_work 156 = .ok (.isub, 1) := dk_100 (dk_at dksX3_work_6 15 rfl rfl)
theorem dX3_work_157 : decode cX3_work 157 = .ok (.laload, 1) := dk_47 (dk_at dksX3_work_6 16 rfl rfl)
theorem dX3_work_158 : decode cX3_work 158 = .ok (.lsub, 1) := dk_101 (dk_at dksX3_work_6 17 rfl rfl)
theorem dX3_work_159 : decode cX3_work 159 = .ok (.lastore, 1) := dk_80 (dk_at dksX3_work_6 18 rfl rfl)
theorem dX3_work_160 : decode cX3_work 160 = .ok (.goto 36, 3) := dk_167 0 36 (dk_at dksX3_work_6 19 rfl rfl)
theorem dX3_work_163 : decode cX3_work 163 = .ok (.iinc 9 (-1), 3) := dk_132 9 255 (dk_at dksX3_work_7 0 rfl rfl)
theorem dX3_work_166 : decode cX3_work 166 = .ok (.aload_n 0, 1) := dk_42 (dk_at dksX3_work_7 3 rfl rfl)
theorem dX3_work_167 : decode cX3_work 167 = .ok (.getfield 73, 3) := dk_180 0 73 (dk_at dksX3_work_7 4 rfl rfl)
theorem dX3_work_170 : decode cX3_work 170 = .ok (.iload 9, 2) := dk_21 9 (dk_at dksX3_work_7 7 rfl rfl)
theorem dX3_work_172 : decode cX3_work 172 = .ok (.iconst 1, 1) := dk_4 (dk_at dksX3_work_7 9 rfl rfl)
theorem dX3_work_173 : decode cX3_work 173 = .ok (.isub, 1) := dk_100 (dk_at dksX3_work_7 10 rfl rfl)
theorem dX3_work_174 : decode cX3_work 174 = .ok (.iload 11, 2) := dk_21 11 (dk_at dksX3_work_7 11 rfl rfl)
theorem dX3_work_176 : decode cX3_work 176 = .ok (.aload_n 0, 1) := dk_42 (dk_at dksX3_work_7 13 rfl rfl)
theorem dX3_work_177 : decode cX3_work 177 = .ok (.getfield 73, 3) := dk_180 0 73 (dk_at dksX3_work_7 14 rfl rfl)
theorem dX3_work_180 : decode cX3_work 180 = .ok (.iload 9, 2) := dk_21 9 (dk_at dksX3_work_7 17 rfl rfl)
theorem dX3_work_182 : decode cX3_work 182 = .ok (.iconst 1, 1) := dk_4 (dk_at dksX3_work_7 19 rfl rfl)
theorem dX3_work_183 : decode cX3_work 183 = .ok (.isub, 1) := dk_100 (dk_at dksX3_work_7 20 rfl rfl)
theorem dX3_work_184 : decode cX3_work 184 = .ok (.laload, 1) := dk_47 (dk_at dksX3_work_7 21 rfl rfl)
theorem dX3_work_185 : decode cX3_work 185 = .ok (.aload_n 0, 1) := dk_42 (dk_at dksX3_work_7 22 rfl rfl)
theorem dX3_work_186 : decode cX3_work 186 = .ok (.getfield 73, 3) := dk_180 0 73 (dk_at dksX3_work_8 0 rfl rfl)
theorem dX3_work_189 : decode cX3_work 189 = .ok (.iload 9, 2) := dk_21 9 (dk_at dksX3_work_8 3 rfl rfl)
theorem dX3_work_191 : decode cX3_work 191 = .ok (.laload, 1) := dk_47 (dk_at dksX3_work_8 5 rfl rfl)
theorem dX3_work_192 : decode cX3_work 192 = .ok (.invokestatic 273, 3) := dk_184 1 17 (dk_at dksX3_work_8 6 rfl rfl)
theorem dX3_work_195 : decode cX3_work 195 = .ok (.lastore, 1) := dk_80 (dk_at dksX3_work_8 9 rfl rfl)
theorem dX3_work_196 : decode cX3_work 196 = .ok (.goto (-184), 3) := dk_167 255 72 (dk_at dksX3_work_8 10 rfl rfl)
theorem dX3_work_199 : decode cX3_work 199 = .ok (.aload_n 0, 1) := dk_42 (dk_at dksX3_work_8 13 rfl rfl)
theorem dX3_work_200 : decode cX3_work 200 = .ok (.getfield 73, 3) := dk_180 0 73 (dk_at dksX3_work_8 14 rfl rfl)
theorem dX3_work_203 : decode cX3_work 203 = .ok (.iconst 0, 1) := dk_3 (dk_at dksX3_work_8 17 rfl rfl)
theorem dX3_work_204 : decode cX3_work 204 = .ok (.laload, 1) := dk_47 (dk_at dksX3_work_8 18 rfl rfl)
theorem dX3_work_205 : decode cX3_work 205 = .ok (.lreturn, 1) := dk_173 (dk_at dksX3_work_8 19 rfl rfl)
abbrev cX3_both : ByteArray := prog_26_method_38_code
def yX3_both : MethodName := ⟨RX3, "both", "(IJJ)J"⟩
def dkwX3_both_6 : List UInt8 := [158, 0, 7, 10, 167, 0, 4, 9, 173]
abbrev dktX3_both_6 : List UInt8 := dkwX3_both_6 ++ []
def dkwX3_both_5 : List UInt8 := [9, 173, 31, 33, 97, 20, 1, 15, 148, 154, 0, 7, 10, 167, 0, 4, 9, 173, 31, 33, 97, 9, 148]
abbrev dktX3_both_5 : List UInt8 := dkwX3_both_5 ++ dktX3_both_6
def dkwX3_both_4 : List UInt8 := [9, 173, 31, 33, 148, 156, 0, 7, 10, 167, 0, 4, 9, 173, 31, 33, 148, 158, 0, 7, 10, 167, 0, 4]
abbrev dktX3_both_4 : List UInt8 := dkwX3_both_4 ++ dktX3_both_5
def dkwX3_both_3 : List UInt8 := [154, 0, 7, 9, 167, 0, 9, 31, 33, 109, 184, 1, 11, 173, 31, 33, 148, 154, 0, 7, 10, 167, 0, 4]
abbrev dktX3_both_3 : List UInt8 := dkwX3_both_3 ++ dktX3_both_4
def dkwX3_both_2 : List UInt8 := [31, 33, 97, 184, 1, 11, 173, 31, 33, 101, 184, 1, 11, 173, 31, 33, 105, 184, 1, 11, 173, 33, 9, 148]
abbrev dktX3_both_2 : List UInt8 := dkwX3_both_2 ++ dktX3_both_3
def dkwX3_both_1 : List UInt8 := [170, 0, 0, 0, 0, 0, 205, 0, 0, 0, 38, 0, 0, 0, 62, 0, 0, 0, 189, 0, 0, 0, 205, 0, 0, 0, 205, 0, 0, 0, 205, 0, 0, 0, 129, 0, 0, 0, 115, 0, 0, 0, 205, 0, 0, 0, 122, 0, 0, 0, 205, 0, 0, 0, 136, 0, 0, 0, 205, 0, 0, 0, 205, 0, 0, 0, 205, 0, 0, 0, 205, 0, 0, 0, 205, 0, 0, 0, 205, 0, 0, 0, 205, 0, 0, 0, 205, 0, 0, 0, 205, 0, 0, 0, 205, 0, 0, 0, 205, 0, 0, 0, 205, 0, 0, 0, 165, 0, 0, 0, 153, 0, 0, 0, 177]
abbrev dktX3_both_1 : List UInt8 := dkwX3_both_1 ++ dktX3_both_2
def dkwX3_both_0 : List UInt8 := [26]
abbrev dktX3_both_0 : List UInt8 := dkwX3_both_0 ++ dktX3_both_1
theorem dksX3_both_0 : cX3_both.data.toList.drop 0 = dktX3_both_0 := by decide +kernel
theorem dksX3_both_1 : cX3_both.data.toList.drop 1 = dktX3_both_1 := dk_seg dksX3_both_0 1 rfl rfl
theorem dksX3_both_2 : cX3_both.data.toList.drop 116 = dktX3_both_2 := dk_seg dksX3_both_1 115 rfl rfl
theorem dksX3_both_3 : cX3_both.data.toList.drop 140 = dktX3_both_3 := dk_seg dksX3_both_2 24 rfl rfl
theorem dksX3_both_4 : cX3_both.data.toList.drop 164 = dktX3_both_4 := dk_seg dksX3_both_3 24 rfl rfl
theorem dksX3_both_5 : cX3_both.data.toList.drop 188 = dktX3_both_5 := dk_seg dksX3_both_4 24 rfl rfl
theorem dksX3_both_6 : cX3_both.data.toList.drop 211 = dktX3_both_6 := dk_seg dksX3_both_5 23 rfl rfl
theorem dX3_both_0 : decode cX3_both 0 = .ok (.iload_n 0, 1) := dk_26 (dk_at dksX3_both_0 0 rfl rfl)
theorem dX3_both_1 : decode cX3_both 1 = .ok (.tableswitch 205 38 62 #[189, 205, 205, 205, 129, 115, 205, 122, 205, 136, 205, 205, 205, 205, 205, 205, 205, 205, 205, 205, 205, 205, 165, 153, 177], 115) := by decide +kernel
theorem dX3_both_116 : decode cX3_both 116 = .ok (.lload_n 1, 1) := dk_31 (dk_at dksX3_both_2 0 rfl rfl)
theorem dX3_both_117 : decode cX3_both 117 = .ok (.lload_n 3, 1) := dk_33 (dk_at dksX3_both_2 1 rfl rfl)
theorem dX3_both_118 : decode cX3_both 118 = .ok (.ladd, 1) := dk_97 (dk_at dksX3_both_2 2 rfl rfl)
theorem dX3_both_119 : decode cX3_both 119 = .ok (.invokestatic 267, 3) := dk_184 1 11 (dk_at dksX3_both_2 3 rfl rfl)
theorem dX3_both_122 : decode cX3_both 122 = .ok (.lreturn, 1) := dk_173 (dk_at dksX3_both_2 6 rfl rfl)
theorem dX3_both_123 : decode cX3_both 123 = .ok (.lload_n 1, 1) := dk_31 (dk_at dksX3_both_2 7 rfl rfl)
theorem dX3_both_124 : decode cX3_both 124 = .ok (.lload_n 3, 1) := dk_33 (dk_at dksX3_both_2 8 rfl rfl)
theorem dX3_both_125 : decode cX3_both 125 = .ok (.lsub, 1) := dk_101 (dk_at dksX3_both_2 9 rfl rfl)
theorem dX3_both_126 : decode cX3_both 126 = .ok (.invokestatic 267, 3) := dk_184 1 11 (dk_at dksX3_both_2 10 rfl rfl)
theorem dX3_both_129 : decode cX3_both 129 = .ok (.lreturn, 1) := dk_173 (dk_at dksX3_both_2 13 rfl rfl)
theorem dX3_both_130 : decode cX3_both 130 = .ok (.lload_n 1, 1) := dk_31 (dk_at dksX3_both_2 14 rfl rfl)
theorem dX3_both_131 : decode cX3_both 131 = .ok (.lload_n 3, 1) := dk_33 (dk_at dksX3_both_2 15 rfl rfl)
theorem dX3_both_132 : decode cX3_both 132 = .ok (.lmul, 1) := dk_105 (dk_at dksX3_both_2 16 rfl rfl)
theorem dX3_both_133 : decode cX3_both 133 = .ok (.invokestatic 267, 3) := dk_184 1 11 (dk_at dksX3_both_2 17 rfl rfl)
theorem dX3_both_136 : decode cX3_both 136 = .ok (.lreturn, 1) := dk_173 (dk_at dksX3_both_2 20 rfl rfl)
theorem dX3_both_137 : decode cX3_both 137 = .ok (.lload_n 3, 1) := dk_33 (dk_at dksX3_both_2 21 rfl rfl)
theorem dX3_both_138 : decode cX3_both 138 = .ok (.lconst 0, 1) := dk_9 (dk_at dksX3_both_2 22 rfl rfl)
theorem dX3_both_139 : decode cX3_both 139 = .ok (.lcmp, 1) := dk_148 (dk_at dksX3_both_2 23 rfl rfl)
theorem dX3_both_140 : decode cX3_both 140 = .ok (.ifCond .ne 7, 3) := dk_154 0 7 (dk_at dksX3_both_3 0 rfl rfl)
theorem dX3_both_143 : decode cX3_both 143 = .ok (.lconst 0, 1) := dk_9 (dk_at dksX3_both_3 3 rfl rfl)
theorem dX3_both_144 : decode cX3_both 144 = .ok (.goto 9, 3) := dk_167 0 9 (dk_at dksX3_both_3 4 rfl rfl)
theorem dX3_both_147 : decode cX3_both 147 = .ok (.lload_n 1, 1) := dk_31 (dk_at dksX3_both_3 7 rfl rfl)
theorem dX3_both_148 : decode cX3_both 148 = .ok (.lload_n 3, 1) := dk_33 (dk_at dksX3_both_3 8 rfl rfl)
theorem dX3_both_149 : decode cX3_both 149 = .ok (.ldiv, 1) := dk_109 (dk_at dksX3_both_3 9 rfl rfl)
theorem dX3_both_150 : decode cX3_both 150 = .ok (.invokestatic 267, 3) := dk_184 1 11 (dk_at dksX3_both_3 10 rfl rfl)
theorem dX3_both_153 : decode cX3_both 153 = .ok (.lreturn, 1) := dk_173 (dk_at dksX3_both_3 13 rfl rfl)
theorem dX3_both_154 : decode cX3_both 154 = .ok (.lload_n 1, 1) := dk_31 (dk_at dksX3_both_3 14 rfl rfl)
theorem dX3_both_155 : decode cX3_both 155 = .ok (.lload_n 3, 1) := dk_33 (dk_at dksX3_both_3 15 rfl rfl)
theorem dX3_both_156 : decode cX3_both 156 = .ok (.lcmp, 1) := dk_148 (dk_at dksX3_both_3 16 rfl rfl)
theorem dX3_both_157 : decode cX3_both 157 = .ok (.ifCond .ne 7, 3) := dk_154 0 7 (dk_at dksX3_both_3 17 rfl rfl)
theorem dX3_both_160 : decode cX3_both 160 = .ok (.lconst 1, 1) := dk_10 (dk_at dksX3_both_3 20 rfl rfl)
theorem dX3_both_161 : decode cX3_both 161 = .ok (.goto 4, 3) := dk_167 0 4 (dk_at dksX3_both_3 21 rfl rfl)
theorem dX3_both_164 : decode cX3_both 164 = .ok (.lconst 0, 1) := dk_9 (dk_at dksX3_both_4 0 rfl rfl)
theorem dX3_both_165 : decode cX3_both 165 = .ok (.lreturn, 1) := dk_173 (dk_at dksX3_both_4 1 rfl rfl)
theorem dX3_both_166 : decode cX3_both 166 = .ok (.lload_n 1, 1) := dk_31 (dk_at dksX3_both_4 2 rfl rfl)
theorem dX3_both_167 : decode cX3_both 167 = .ok (.lload_n 3, 1) := dk_33 (dk_at dksX3_both_4 3 rfl rfl)
theorem dX3_both_168 : decode cX3_both 168 = .ok (.lcmp, 1) := dk_148 (dk_at dksX3_both_4 4 rfl rfl)
theorem dX3_both_169 : decode cX3_both 169 = .ok (.ifCond .ge 7, 3) := dk_156 0 7 (dk_at dksX3_both_4 5 rfl rfl)
theorem dX3_both_172 : decode cX3_both 172 = .ok (.lconst 1, 1) := dk_10 (dk_at dksX3_both_4 8 rfl rfl)
theorem dX3_both_173 : decode cX3_both 173 = .ok (.goto 4, 3) := dk_167 0 4 (dk_at dksX3_both_4 9 rfl rfl)
theorem dX3_both_176 : decode cX3_both 176 = .ok (.lconst 0, 1) := dk_9 (dk_at dksX3_both_4 12 rfl rfl)
theorem dX3_both_177 : decode cX3_both 177 = .ok (.lreturn, 1) := dk_173 (dk_at dksX3_both_4 13 rfl rfl)
theorem dX3_both_178 : decode cX3_both 178 = .ok (.lload_n 1, 1) := dk_31 (dk_at dksX3_both_4 14 rfl rfl)
theorem dX3_both_179 : decode cX3_both 179 = .ok (.lload_n 3, 1) := dk_33 (dk_at dksX3_both_4 15 rfl rfl)
theorem dX3_both_180 : decode cX3_both 180 = .ok (.lcmp, 1) := dk_148 (dk_at dksX3_both_4 16 rfl rfl)
theorem dX3_both_181 : decode cX3_both 181 = .ok (.ifCond .le 7, 3) := dk_158 0 7 (dk_at dksX3_both_4 17 rfl rfl)
theorem dX3_both_184 : decode cX3_both 184 = .ok (.lconst 1, 1) := dk_10 (dk_at dksX3_both_4 20 rfl rfl)
theorem dX3_both_185 : decode cX3_both 185 = .ok (.goto 4, 3) := dk_167 0 4 (dk_at dksX3_both_4 21 rfl rfl)
theorem dX3_both_188 : decode cX3_both 188 = .ok (.lconst 0, 1) := dk_9 (dk_at dksX3_both_5 0 rfl rfl)
theorem dX3_both_189 : decode cX3_both 189 = .ok (.lreturn, 1) := dk_173 (dk_at dksX3_both_5 1 rfl rfl)
theorem dX3_both_190 : decode cX3_both 190 = .ok (.lload_n 1, 1) := dk_31 (dk_at dksX3_both_5 2 rfl rfl)
theorem dX3_both_191 : decode cX3_both 191 = .ok (.lload_n 3, 1) := dk_33 (dk_at dksX3_both_5 3 rfl rfl)
theorem dX3_both_192 : decode cX3_both 192 = .ok (.ladd, 1) := dk_97 (dk_at dksX3_both_5 4 rfl rfl)
theorem dX3_both_193 : decode cX3_both 193 = .ok (.ldc2_w 271, 3) := dk_20 1 15 (dk_at dksX3_both_5 5 rfl rfl)
theorem dX3_both_196 : decode cX3_both 196 = .ok (.lcmp, 1) := dk_148 (dk_at dksX3_both_5 8 rfl rfl)
theorem dX3_both_197 : decode cX3_both 197 = .ok (.ifCond .ne 7, 3) := dk_154 0 7 (dk_at dksX3_both_5 9 rfl rfl)
theorem dX3_both_200 : decode cX3_both 200 = .ok (.lconst 1, 1) := dk_10 (dk_at dksX3_both_5 12 rfl rfl)
theorem dX3_both_201 : decode cX3_both 201 = .ok (.goto 4, 3) := dk_167 0 4 (dk_at dksX3_both_5 13 rfl rfl)
theorem dX3_both_204 : decode cX3_both 204 = .ok (.lconst 0, 1) := dk_9 (dk_at dksX3_both_5 16 rfl rfl)
theorem dX3_both_205 : decode cX3_both 205 = .ok (.lreturn, 1) := dk_173 (dk_at dksX3_both_5 17 rfl rfl)
theorem dX3_both_206 : decode cX3_both 206 = .ok (.lload_n 1, 1) := dk_31 (dk_at dksX3_both_5 18 rfl rfl)
theorem dX3_both_207 : decode cX3_both 207 = .ok (.lload_n 3, 1) := dk_33 (dk_at dksX3_both_5 19 rfl rfl)
theorem dX3_both_208 : decode cX3_both 208 = .ok (.ladd, 1) := dk_97 (dk_at dksX3_both_5 20 rfl rfl)
theorem dX3_both_209 : decode cX3_both 209 = .ok (.lconst 0, 1) := dk_9 (dk_at dksX3_both_5 21 rfl rfl)
theorem dX3_both_210 : decode cX3_both 210 = .ok (.lcmp, 1) := dk_148 (dk_at dksX3_both_5 22 rfl rfl)
theorem dX3_both_211 : decode cX3_both 211 = .ok (.ifCond .le 7, 3) := dk_158 0 7 (dk_at dksX3_both_6 0 rfl rfl)
theorem dX3_both_214 : decode cX3_both 214 = .ok (.lconst 1, 1) := dk_10 (dk_at dksX3_both_6 3 rfl rfl)
theorem dX3_both_215 : decode cX3_both 215 = .ok (.goto 4, 3) := dk_167 0 4 (dk_at dksX3_both_6 4 rfl rfl)
theorem dX3_both_218 : decode cX3_both 218 = .ok (.lconst 0, 1) := dk_9 (dk_at dksX3_both_6 7 rfl rfl)
theorem dX3_both_219 : decode cX3_both 219 = .ok (.lreturn, 1) := dk_173 (dk_at dksX3_both_6 8 rfl rfl)
abbrev cX3_within : ByteArray := prog_26_method_37_code
def yX3_within : MethodName := ⟨RX3, "within", "(J)J"⟩
def dkwX3_within_0 : List UInt8 := [20, 1, 2, 20, 1, 4, 30, 184, 1, 6, 184, 1, 9, 173]
abbrev dktX3_within_0 : List UInt8 := dkwX3_within_0 ++ []
theorem dksX3_within_0 : cX3_within.data.toList.drop 0 = dktX3_within_0 := by decide +kernel
theorem dX3_within_0 : decode cX3_within 0 = .ok (.ldc2_w 258, 3) := dk_20 1 2 (dk_at dksX3_within_0 0 rfl rfl)
theorem dX3_within_3 : decode cX3_within 3 = .ok (.ldc2_w 260, 3) := dk_20 1 4 (dk_at dksX3_within_0 3 rfl rfl)
theorem dX3_within_6 : decode cX3_within 6 = .ok (.lload_n 0, 1) := dk_30 (dk_at dksX3_within_0 6 rfl rfl)
theorem dX3_within_7 : decode cX3_within 7 = .ok (.invokestatic 262, 3) := dk_184 1 6 (dk_at dksX3_within_0 7 rfl rfl)
theorem dX3_within_10 : decode cX3_within 10 = .ok (.invokestatic 265, 3) := dk_184 1 9 (dk_at dksX3_within_0 10 rfl rfl)
theorem dX3_within_13 : decode cX3_within 13 = .ok (.lreturn, 1) := dk_173 (dk_at dksX3_within_0 13 rfl rfl)
abbrev cX3_many : ByteArray := prog_26_method_52_code
def yX3_many : MethodName := ⟨RX3, "many", "(II)I"⟩
def dkwX3_many_6 : List UInt8 := [167, 0, 23, 28, 7, 160, 0, 8, 21, 4, 167, 0, 13, 42, 27, 42, 27, 182, 1, 31, 182, 1, 45, 172]
abbrev dktX3_many_6 : List UInt8 := dkwX3_many_6 ++ []
def dkwX3_many_5 : List UInt8 := [167, 0, 46, 28, 5, 160, 0, 12, 42, 180, 0, 34, 27, 46, 167, 0, 32, 28, 6, 160, 0, 7, 29]
abbrev dktX3_many_5 : List UInt8 := dkwX3_many_5 ++ dktX3_many_6
def dkwX3_many_4 : List UInt8 := [154, 0, 12, 42, 180, 0, 25, 27, 46, 167, 0, 60, 28, 4, 160, 0, 12, 42, 180, 0, 31, 27, 46]
abbrev dktX3_many_4 : List UInt8 := dkwX3_many_4 ++ dktX3_many_5
def dkwX3_many_3 : List UInt8 := [21, 5, 182, 1, 42, 153, 0, 7, 4, 167, 0, 4, 3, 96, 54, 4, 132, 5, 1, 167, 255, 194, 28]
abbrev dktX3_many_3 : List UInt8 := dkwX3_many_3 ++ dktX3_many_4
def dkwX3_many_2 : List UInt8 := [153, 0, 7, 4, 167, 0, 4, 3, 96, 62, 21, 4, 42, 27, 21, 5, 182, 1, 38, 153, 0, 17, 42, 27]
abbrev dktX3_many_2 : List UInt8 := dkwX3_many_2 ++ dktX3_many_3
def dkwX3_many_1 : List UInt8 := [3, 54, 5, 21, 5, 42, 180, 0, 31, 27, 46, 162, 0, 57, 29, 42, 27, 21, 5, 182, 1, 38]
abbrev dktX3_many_1 : List UInt8 := dkwX3_many_1 ++ dktX3_many_2
def dkwX3_many_0 : List UInt8 := [42, 27, 182, 1, 28, 153, 0, 12, 28, 3, 8, 184, 0, 121, 154, 0, 5, 2, 172, 3, 62, 3, 54, 4]
abbrev dktX3_many_0 : List UInt8 := dkwX3_many_0 ++ dktX3_many_1
theorem dksX3_many_0 : cX3_many.data.toList.drop 0 = dktX3_many_0 := by decide +kernel
theorem dksX3_many_1 : cX3_many.data.toList.drop 24 = dktX3_many_1 := dk_seg dksX3_many_0 24 rfl rfl
theorem dksX3_many_2 : cX3_many.data.toList.drop 46 = dktX3_many_2 := dk_seg dksX3_many_1 22 rfl rfl
theorem dksX3_many_3 : cX3_many.data.toList.drop 70 = dktX3_many_3 := dk_seg dksX3_many_2 24 rfl rfl
theorem dksX3_many_4 : cX3_many.data.toList.drop 93 = dktX3_many_4 := dk_seg dksX3_many_3 23 rfl rfl
theorem dksX3_many_5 : cX3_many.data.toList.drop 116 = dktX3_many_5 := dk_seg dksX3_many_4 23 rfl rfl
theorem dksX3_many_6 : cX3_many.data.toList.drop 139 = dktX3_many_6 := dk_seg dksX3_many_5 23 rfl rfl
theorem dX3_many_0 : decode cX3_many 0 = .ok (.aload_n 0, 1) := dk_42 (dk_at dksX3_many_0 0 rfl rfl)
theorem dX3_many_1 : decode cX3_many 1 = .ok (.iload_n 1, 1) := dk_27 (dk_at dksX3_many_0 1 rfl rfl)
theorem dX3_many_2 : decode cX3_many 2 = .ok (.invokevirtual 284, 3) := dk_182 1 28 (dk_at dksX3_many_0 2 rfl rfl)
theorem dX3_many_5 : decode cX3_many 5 = .ok (.ifCond .eq 12, 3) := dk_153 0 12 (dk_at dksX3_many_0 5 rfl rfl)
theorem dX3_many_8 : decode cX3_many 8 = .ok (.iload_n 2, 1) := dk_28 (dk_at dksX3_many_0 8 rfl rfl)
theorem dX3_many_9 : decode cX3_many 9 = .ok (.iconst 0, 1) := dk_3 (dk_at dksX3_many_0 9 rfl rfl)
theorem dX3_many_10 : decode cX3_many 10 = .ok (.iconst 5, 1) := dk_8 (dk_at dksX3_many_0 10 rfl rfl)
theorem dX3_many_11 : decode cX3_many 11 = .ok (.invokestatic 121, 3) := dk_184 0 121 (dk_at dksX3_many_0 11 rfl rfl)
theorem dX3_many_14 : decode cX3_many 14 = .ok (.ifCond .ne 5, 3) := dk_154 0 5 (dk_at dksX3_many_0 14 rfl rfl)
theorem dX3_many_17 : decode cX3_many 17 = .ok (.iconst (-1), 1) := dk_2 (dk_at dksX3_many_0 17 rfl rfl)
theorem dX3_many_18 : decode cX3_many 18 = .ok (.ireturn, 1) := dk_172 (dk_at dksX3_many_0 18 rfl rfl)
theorem dX3_many_19 : decode cX3_many 19 = .ok (.iconst 0, 1) := dk_3 (dk_at dksX3_many_0 19 rfl rfl)
theorem dX3_many_20 : decode cX3_many 20 = .ok (.istore_n 3, 1) := dk_62 (dk_at dksX3_many_0 20 rfl rfl)
theorem dX3_many_21 : decode cX3_many 21 = .ok (.iconst 0, 1) := dk_3 (dk_at dksX3_many_0 21 rfl rfl)
theorem dX3_many_22 : decode cX3_many 22 = .ok (.istore 4, 2) := dk_54 4 (dk_at dksX3_many_0 22 rfl rfl)
theorem dX3_many_24 : decode cX3_many 24 = .ok (.iconst 0, 1) := dk_3 (dk_at dksX3_many_1 0 rfl rfl)
theorem dX3_many_25 : decode cX3_many 25 = .ok (.istore 5, 2) := dk_54 5 (dk_at dksX3_many_1 1 rfl rfl)
theorem dX3_many_27 : decode cX3_many 27 = .ok (.iload 5, 2) := dk_21 5 (dk_at dksX3_many_1 3 rfl rfl)
theorem dX3_many_29 : decode cX3_many 29 = .ok (.aload_n 0, 1) := dk_42 (dk_at dksX3_many_1 5 rfl rfl)
theorem dX3_many_30 : decode cX3_many 30 = .ok (.getfield 31, 3) := dk_180 0 31 (dk_at dksX3_many_1 6 rfl rfl)
theorem dX3_many_33 : decode cX3_many 33 = .ok (.iload_n 1, 1) := dk_27 (dk_at dksX3_many_1 9 rfl rfl)
theorem dX3_many_34 : decode cX3_many 34 = .ok (.iaload, 1) := dk_46 (dk_at dksX3_many_1 10 rfl rfl)
theorem dX3_many_35 : decode cX3_many 35 = .ok (.if_icmp .ge 57, 3) := dk_162 0 57 (dk_at dksX3_many_1 11 rfl rfl)
theorem dX3_many_38 : decode cX3_many 38 = .ok (.iload_n 3, 1) := dk_29 (dk_at dksX3_many_1 14 rfl rfl)
theorem dX3_many_39 : decode cX3_many 39 = .ok (.aload_n 0, 1) := dk_42 (dk_at dksX3_many_1 15 rfl rfl)
theorem dX3_many_40 : decode cX3_many 40 = .ok (.iload_n 1, 1) := dk_27 (dk_at dksX3_many_1 16 rfl rfl)
theorem dX3_many_41 : decode cX3_many 41 = .ok (.iload 5, 2) := dk_21 5 (dk_at dksX3_many_1 17 rfl rfl)
theorem dX3_many_43 : decode cX3_many 43 = .ok (.invokevirtual 294, 3) := dk_182 1 38 (dk_at dksX3_many_1 19 rfl rfl)
theorem dX3_many_46 : decode cX3_many 46 = .ok (.ifCond .eq 7, 3) := dk_153 0 7 (dk_at dksX3_many_2 0 rfl rfl)
theorem dX3_many_49 : decode cX3_many 49 = .ok (.iconst 1, 1) := dk_4 (dk_at dksX3_many_2 3 rfl rfl)
theorem dX3_many_50 : decode cX3_many 50 = .ok (.goto 4, 3) := dk_167 0 4 (dk_at dksX3_many_2 4 rfl rfl)
theorem dX3_many_53 : decode cX3_many 53 = .ok (.iconst 0, 1) := dk_3 (dk_at dksX3_many_2 7 rfl rfl)
theorem dX3_many_54 : decode cX3_many 54 = .ok (.iadd, 1) := dk_96 (dk_at dksX3_many_2 8 rfl rfl)
theorem dX3_many_55 : decode cX3_many 55 = .ok (.istore_n 3, 1) := dk_62 (dk_at dksX3_many_2 9 rfl rfl)
theorem dX3_many_56 : decode cX3_many 56 = .ok (.iload 4, 2) := dk_21 4 (dk_at dksX3_many_2 10 rfl rfl)
theorem dX3_many_58 : decode cX3_many 58 = .ok (.aload_n 0, 1) := dk_42 (dk_at dksX3_many_2 12 rfl rfl)
theorem dX3_many_59 : decode cX3_many 59 = .ok (.iload_n 1, 1) := dk_27 (dk_at dksX3_many_2 13 rfl rfl)
theorem dX3_many_60 : decode cX3_many 60 = .ok (.iload 5, 2) := dk_21 5 (dk_at dksX3_many_2 14 rfl rfl)
theorem dX3_many_62 : decode cX3_many 62 = .ok (.invokevirtual 294, 3) := dk_182 1 38 (dk_at dksX3_many_2 16 rfl rfl)
theorem dX3_many_65 : decode cX3_many 65 = .ok (.ifCond .eq 17, 3) := dk_153 0 17 (dk_at dksX3_many_2 19 rfl rfl)
theorem dX3_many_68 : decode cX3_many 68 = .ok (.aload_n 0, 1) := dk_42 (dk_at dksX3_many_2 22 rfl rfl)
theorem dX3_many_69 : decode cX3_many 69 = .ok (.iload_n 1, 1) := dk_27 (dk_at dksX3_many_2 23 rfl rfl)
theorem dX3_many_70 : decode cX3_many 70 = .ok (.iload 5, 2) := dk_21 5 (dk_at dksX3_many_3 0 rfl rfl)
theorem dX3_many_72 : decode cX3_many 72 = .ok (.invokevirtual 298, 3) := dk_182 1 42 (dk_at dksX3_many_3 2 rfl rfl)
theorem dX3_many_75 : decode cX3_many 75 = .ok (.ifCond .eq 7, 3) := dk_153 0 7 (dk_at dksX3_many_3 5 rfl rfl)
theorem dX3_many_78 : decode cX3_many 78 = .ok (.iconst 1, 1) := dk_4 (dk_at dksX3_many_3 8 rfl rfl)
theorem dX3_many_79 : decode cX3_many 79 = .ok (.goto 4, 3) := dk_167 0 4 (dk_at dksX3_many_3 9 rfl rfl)
theorem dX3_many_82 : decode cX3_many 82 = .ok (.iconst 0, 1) := dk_3 (dk_at dksX3_many_3 12 rfl rfl)
theorem dX3_many_83 : decode cX3_many 83 = .ok (.iadd, 1) := dk_96 (dk_at dksX3_many_3 13 rfl rfl)
theorem dX3_many_84 : decode cX3_many 84 = .ok (.istore 4, 2) := dk_54 4 (dk_at dksX3_many_3 14 rfl rfl)
theorem dX3_many_86 : decode cX3_many 86 = .ok (.iinc 5 1, 3) := dk_132 5 1 (dk_at dksX3_many_3 16 rfl rfl)
theorem dX3_many_89 : decode cX3_many 89 = .ok (.goto (-62), 3) := dk_167 255 194 (dk_at dksX3_many_3 19 rfl rfl)
theorem dX3_many_92 : decode cX3_many 92 = .ok (.iload_n 2, 1) := dk_28 (dk_at dksX3_many_3 22 rfl rfl)
theorem dX3_many_93 : decode cX3_many 93 = .ok (.ifCond .ne 12, 3) := dk_154 0 12 (dk_at dksX3_many_4 0 rfl rfl)
theorem dX3_many_96 : decode cX3_many 96 = .ok (.aload_n 0, 1) := dk_42 (dk_at dksX3_many_4 3 rfl rfl)
theorem dX3_many_97 : decode cX3_many 97 = .ok (.getfield 25, 3) := dk_180 0 25 (dk_at dksX3_many_4 4 rfl rfl)
theorem dX3_many_100 : decode cX3_many 100 = .ok (.iload_n 1, 1) := dk_27 (dk_at dksX3_many_4 7 rfl rfl)
theorem dX3_many_101 : decode cX3_many 101 = .ok (.iaload, 1) := dk_46 (dk_at dksX3_many_4 8 rfl rfl)
theorem dX3_many_102 : decode cX3_many 102 = .ok (.goto 60, 3) := dk_167 0 60 (dk_at dksX3_many_4 9 rfl rfl)
theorem dX3_many_105 : decode cX3_many 105 = .ok (.iload_n 2, 1) := dk_28 (dk_at dksX3_many_4 12 rfl rfl)
theorem dX3_many_106 : decode cX3_many 106 = .ok (.iconst 1, 1) := dk_4 (dk_at dksX3_many_4 13 rfl rfl)
theorem dX3_many_107 : decode cX3_many 107 = .ok (.if_icmp .ne 12, 3) := dk_160 0 12 (dk_at dksX3_many_4 14 rfl rfl)
theorem dX3_many_110 : decode cX3_many 110 = .ok (.aload_n 0, 1) := dk_42 (dk_at dksX3_many_4 17 rfl rfl)
theorem dX3_many_111 : decode cX3_many 111 = .ok (.getfield 31, 3) := dk_180 0 31 (dk_at dksX3_many_4 18 rfl rfl)
theorem dX3_many_114 : decode cX3_many 114 = .ok (.iload_n 1, 1) := dk_27 (dk_at dksX3_many_4 21 rfl rfl)
theorem dX3_many_115 : decode cX3_many 115 = .ok (.iaload, 1) := dk_46 (dk_at dksX3_many_4 22 rfl rfl)
theorem dX3_many_116 : decode cX3_many 116 = .ok (.goto 46, 3) := dk_167 0 46 (dk_at dksX3_many_5 0 rfl rfl)
theorem dX3_many_119 : decode cX3_many 119 = .ok (.iload_n 2, 1) := dk_28 (dk_at dksX3_many_5 3 rfl rfl)
theorem dX3_many_120 : decode cX3_many 120 = .ok (.iconst 2, 1) := dk_5 (dk_at dksX3_many_5 4 rfl rfl)
theorem dX3_many_121 : decode cX3_many 121 = .ok (.if_icmp .ne 12, 3) := dk_160 0 12 (dk_at dksX3_many_5 5 rfl rfl)
theorem dX3_many_124 : decode cX3_many 124 = .ok (.aload_n 0, 1) := dk_42 (dk_at dksX3_many_5 8 rfl rfl)
theorem dX3_many_125 : decode cX3_many 125 = .ok (.getfield 34, 3) := dk_180 0 34 (dk_at dksX3_many_5 9 rfl rfl)
theorem dX3_many_128 : decode cX3_many 128 = .ok (.iload_n 1, 1) := dk_27 (dk_at dksX3_many_5 12 rfl rfl)
theorem dX3_many_129 : decode cX3_many 129 = .ok (.iaload, 1) := dk_46 (dk_at dksX3_many_5 13 rfl rfl)
theorem dX3_many_130 : decode cX3_many 130 = .ok (.goto 32, 3) := dk_167 0 32 (dk_at dksX3_many_5 14 rfl rfl)
theorem dX3_many_133 : decode cX3_many 133 = .ok (.iload_n 2, 1) := dk_28 (dk_at dksX3_many_5 17 rfl rfl)
theorem dX3_many_134 : decode cX3_many 134 = .ok (.iconst 3, 1) := dk_6 (dk_at dksX3_many_5 18 rfl rfl)
theorem dX3_many_135 : decode cX3_many 135 = .ok (.if_icmp .ne 7, 3) := dk_160 0 7 (dk_at dksX3_many_5 19 rfl rfl)
theorem dX3_many_138 : decode cX3_many 138 = .ok (.iload_n 3, 1) := dk_29 (dk_at dksX3_many_5 22 rfl rfl)
theorem dX3_many_139 : decode cX3_many 139 = .ok (.goto 23, 3) := dk_167 0 23 (dk_at dksX3_many_6 0 rfl rfl)
theorem dX3_many_142 : decode cX3_many 142 = .ok (.iload_n 2, 1) := dk_28 (dk_at dksX3_many_6 3 rfl rfl)
theorem dX3_many_143 : decode cX3_many 143 = .ok (.iconst 4, 1) := dk_7 (dk_at dksX3_many_6 4 rfl rfl)
theorem dX3_many_144 : decode cX3_many 144 = .ok (.if_icmp .ne 8, 3) := dk_160 0 8 (dk_at dksX3_many_6 5 rfl rfl)
theorem dX3_many_147 : decode cX3_many 147 = .ok (.iload 4, 2) := dk_21 4 (dk_at dksX3_many_6 8 rfl rfl)
theorem dX3_many_149 : decode cX3_many 149 = .ok (.goto 13, 3) := dk_167 0 13 (dk_at dksX3_many_6 10 rfl rfl)
theorem dX3_many_152 : decode cX3_many 152 = .ok (.aload_n 0, 1) := dk_42 (dk_at dksX3_many_6 13 rfl rfl)
theorem dX3_many_153 : decode cX3_many 153 = .ok (.iload_n 1, 1) := dk_27 (dk_at dksX3_many_6 14 rfl rfl)
theorem dX3_many_154 : decode cX3_many 154 = .ok (.aload_n 0, 1) := dk_42 (dk_at dksX3_many_6 15 rfl rfl)
theorem dX3_many_155 : decode cX3_many 155 = .ok (.iload_n 1, 1) := dk_27 (dk_at dksX3_many_6 16 rfl rfl)
theorem dX3_many_156 : decode cX3_many 156 = .ok (.invokevirtual 287, 3) := dk_182 1 31 (dk_at dksX3_many_6 17 rfl rfl)
theorem dX3_many_159 : decode cX3_many 159 = .ok (.invokevirtual 301, 3) := dk_182 1 45 (dk_at dksX3_many_6 20 rfl rfl)
theorem dX3_many_162 : decode cX3_many 162 = .ok (.ireturn, 1) := dk_172 (dk_at dksX3_many_6 23 rfl rfl)
abbrev cX3_isFigure : ByteArray := prog_26_method_42_code
def yX3_isFigure : MethodName := ⟨RX3, "isFigure", "(I)Z"⟩
def dkwX3_isFigure_0 : List UInt8 := [27, 3, 42, 180, 0, 252, 4, 100, 184, 0, 121, 172]
abbrev dktX3_isFigure_0 : List UInt8 := dkwX3_isFigure_0 ++ []
theorem dksX3_isFigure_0 : cX3_isFigure.data.toList.drop 0 = dktX3_isFigure_0 := by decide +kernel
theorem dX3_isFigure_0 : decode cX3_isFigure 0 = .ok (.iload_n 1, 1) := dk_27 (dk_at dksX3_isFigure_0 0 rfl rfl)
theorem dX3_isFigure_1 : decode cX3_isFigure 1 = .ok (.iconst 0, 1) := dk_3 (dk_at dksX3_isFigure_0 1 rfl rfl)
theorem dX3_isFigure_2 : decode cX3_isFigure 2 = .ok (.aload_n 0, 1) := dk_42 (dk_at dksX3_isFigure_0 2 rfl rfl)
theorem dX3_isFigure_3 : decode cX3_isFigure 3 = .ok (.getfield 252, 3) := dk_180 0 252 (dk_at dksX3_isFigure_0 3 rfl rfl)
theorem dX3_isFigure_6 : decode cX3_isFigure 6 = .ok (.iconst 1, 1) := dk_4 (dk_at dksX3_isFigure_0 6 rfl rfl)
theorem dX3_isFigure_7 : decode cX3_isFigure 7 = .ok (.isub, 1) := dk_100 (dk_at dksX3_isFigure_0 7 rfl rfl)
theorem dX3_isFigure_8 : decode cX3_isFigure 8 = .ok (.invokestatic 121, 3) := dk_184 0 121 (dk_at dksX3_isFigure_0 8 rfl rfl)
theorem dX3_isFigure_11 : decode cX3_isFigure 11 = .ok (.ireturn, 1) := dk_172 (dk_at dksX3_isFigure_0 11 rfl rfl)
abbrev cX3_isTwist : ByteArray := prog_26_method_49_code
def yX3_isTwist : MethodName := ⟨RX3, "isTwist", "(II)Z"⟩
def dkwX3_isTwist_1 : List UInt8 := [180, 0, 46, 16, 24, 27, 104, 28, 96, 4, 96, 46, 160, 0, 7, 4, 167, 0, 4, 3, 172]
abbrev dktX3_isTwist_1 : List UInt8 := dkwX3_isTwist_1 ++ []
def dkwX3_isTwist_0 : List UInt8 := [28, 4, 96, 42, 180, 0, 31, 27, 46, 162, 0, 34, 42, 180, 0, 46, 16, 24, 27, 104, 28, 96, 46, 42]
abbrev dktX3_isTwist_0 : List UInt8 := dkwX3_isTwist_0 ++ dktX3_isTwist_1
theorem dksX3_isTwist_0 : cX3_isTwist.data.toList.drop 0 = dktX3_isTwist_0 := by decide +kernel
theorem dksX3_isTwist_1 : cX3_isTwist.data.toList.drop 24 = dktX3_isTwist_1 := dk_seg dksX3_isTwist_0 24 rfl rfl
theorem dX3_isTwist_0 : decode cX3_isTwist 0 = .ok (.iload_n 2, 1) := dk_28 (dk_at dksX3_isTwist_0 0 rfl rfl)
theorem dX3_isTwist_1 : decode cX3_isTwist 1 = .ok (.iconst 1, 1) := dk_4 (dk_at dksX3_isTwist_0 1 rfl rfl)
theorem dX3_isTwist_2 : decode cX3_isTwist 2 = .ok (.iadd, 1) := dk_96 (dk_at dksX3_isTwist_0 2 rfl rfl)
theorem dX3_isTwist_3 : decode cX3_isTwist 3 = .ok (.aload_n 0, 1) := dk_42 (dk_at dksX3_isTwist_0 3 rfl rfl)
theorem dX3_isTwist_4 : decode cX3_isTwist 4 = .ok (.getfield 31, 3) := dk_180 0 31 (dk_at dksX3_isTwist_0 4 rfl rfl)
theorem dX3_isTwist_7 : decode cX3_isTwist 7 = .ok (.iload_n 1, 1) := dk_27 (dk_at dksX3_isTwist_0 7 rfl rfl)
theorem dX3_isTwist_8 : decode cX3_isTwist 8 = .ok (.iaload, 1) := dk_46 (dk_at dksX3_isTwist_0 8 rfl rfl)
theorem dX3_isTwist_9 : decode cX3_isTwist 9 = .ok (.if_icmp .ge 34, 3) := dk_162 0 34 (dk_at dksX3_isTwist_0 9 rfl rfl)
theorem dX3_isTwist_12 : decode cX3_isTwist 12 = .ok (.aload_n 0, 1) := dk_42 (dk_at dksX3_isTwist_0 12 rfl rfl)
theorem dX3_isTwist_13 : decode cX3_isTwist 13 = .ok (.getfield 46, 3) := dk_180 0 46 (dk_at dksX3_isTwist_0 13 rfl rfl)
theorem dX3_isTwist_16 : decode cX3_isTwist 16 = .ok (.bipush 24, 2) := dk_16 24 (dk_at dksX3_isTwist_0 16 rfl rfl)
theorem dX3_isTwist_18 : decode cX3_isTwist 18 = .ok (.iload_n 1, 1) := dk_27 (dk_at dksX3_isTwist_0 18 rfl rfl)
theorem dX3_isTwist_19 : decode cX3_isTwist 19 = .ok (.imul, 1) := dk_104 (dk_at dksX3_isTwist_0 19 rfl rfl)
theorem dX3_isTwist_20 : decode cX3_isTwist 20 = .ok (.iload_n 2, 1) := dk_28 (dk_at dksX3_isTwist_0 20 rfl rfl)
theorem dX3_isTwist_21 : decode cX3_isTwist 21 = .ok (.iadd, 1) := dk_96 (dk_at dksX3_isTwist_0 21 rfl rfl)
theorem dX3_isTwist_22 : decode cX3_isTwist 22 = .ok (.iaload, 1) := dk_46 (dk_at dksX3_isTwist_0 22 rfl rfl)
theorem dX3_isTwist_23 : decode cX3_isTwist 23 = .ok (.aload_n 0, 1) := dk_42 (dk_at dksX3_isTwist_0 23 rfl rfl)
theorem dX3_isTwist_24 : decode cX3_isTwist 24 = .ok (.getfield 46, 3) := dk_180 0 46 (dk_at dksX3_isTwist_1 0 rfl rfl)
theorem dX3_isTwist_27 : decode cX3_isTwist 27 = .ok (.bipush 24, 2) := dk_16 24 (dk_at dksX3_isTwist_1 3 rfl rfl)
theorem dX3_isTwist_29 : decode cX3_isTwist 29 = .ok (.iload_n 1, 1) := dk_27 (dk_at dksX3_isTwist_1 5 rfl rfl)
theorem dX3_isTwist_30 : decode cX3_isTwist 30 = .ok (.imul, 1) := dk_104 (dk_at dksX3_isTwist_1 6 rfl rfl)
theorem dX3_isTwist_31 : decode cX3_isTwist 31 = .ok (.iload_n 2, 1) := dk_28 (dk_at dksX3_isTwist_1 7 rfl rfl)
theorem dX3_isTwist_32 : decode cX3_isTwist 32 = .ok (.iadd, 1) := dk_96 (dk_at dksX3_isTwist_1 8 rfl rfl)
theorem dX3_isTwist_33 : decode cX3_isTwist 33 = .ok (.iconst 1, 1) := dk_4 (dk_at dksX3_isTwist_1 9 rfl rfl)
theorem dX3_isTwist_34 : decode cX3_isTwist 34 = .ok (.iadd, 1) := dk_96 (dk_at dksX3_isTwist_1 10 rfl rfl)
theorem dX3_isTwist_35 : decode cX3_isTwist 35 = .ok (.iaload, 1) := dk_46 (dk_at dksX3_isTwist_1 11 rfl rfl)
theorem dX3_isTwist_36 : decode cX3_isTwist 36 = .ok (.if_icmp .ne 7, 3) := dk_160 0 7 (dk_at dksX3_isTwist_1 12 rfl rfl)
theorem dX3_isTwist_39 : decode cX3_isTwist 39 = .ok (.iconst 1, 1) := dk_4 (dk_at dksX3_isTwist_1 15 rfl rfl)
theorem dX3_isTwist_40 : decode cX3_isTwist 40 = .ok (.goto 4, 3) := dk_167 0 4 (dk_at dksX3_isTwist_1 16 rfl rfl)
theorem dX3_isTwist_43 : decode cX3_isTwist 43 = .ok (.iconst 0, 1) := dk_3 (dk_at dksX3_isTwist_1 19 rfl rfl)
theorem dX3_isTwist_44 : decode cX3_isTwist 44 = .ok (.ireturn, 1) := dk_172 (dk_at dksX3_isTwist_1 20 rfl rfl)
abbrev cX3_isSlack : ByteArray := prog_26_method_50_code
def yX3_isSlack : MethodName := ⟨RX3, "isSlack", "(II)Z"⟩
def dkwX3_isSlack_1 : List UInt8 := [162, 0, 7, 4, 167, 0, 4, 3, 172]
abbrev dktX3_isSlack_1 : List UInt8 := dkwX3_isSlack_1 ++ []
def dkwX3_isSlack_0 : List UInt8 := [42, 27, 42, 180, 0, 43, 16, 24, 27, 104, 28, 96, 46, 42, 27, 182, 1, 31, 182, 1, 34, 6]
abbrev dktX3_isSlack_0 : List UInt8 := dkwX3_isSlack_0 ++ dktX3_isSlack_1
theorem dksX3_isSlack_0 : cX3_isSlack.data.toList.drop 0 = dktX3_isSlack_0 := by decide +kernel
theorem dksX3_isSlack_1 : cX3_isSlack.data.toList.drop 22 = dktX3_isSlack_1 := dk_seg dksX3_isSlack_0 22 rfl rfl
theorem dX3_isSlack_0 : decode cX3_isSlack 0 = .ok (.aload_n 0, 1) := dk_42 (dk_at dksX3_isSlack_0 0 rfl rfl)
theorem dX3_isSlack_1 : decode cX3_isSlack 1 = .ok (.iload_n 1, 1) := dk_27 (dk_at dksX3_isSlack_0 1 rfl rfl)
theorem dX3_isSlack_2 : decode cX3_isSlack 2 = .ok (.aload_n 0, 1) := dk_42 (dk_at dksX3_isSlack_0 2 rfl rfl)
theorem dX3_isSlack_3 : decode cX3_isSlack 3 = .ok (.getfield 43, 3) := dk_180 0 43 (dk_at dksX3_isSlack_0 3 rfl rfl)
theorem dX3_isSlack_6 : decode cX3_isSlack 6 = .ok (.bipush 24, 2) := dk_16 24 (dk_at dksX3_isSlack_0 6 rfl rfl)
theorem dX3_isSlack_8 : decode cX3_isSlack 8 = .ok (.iload_n 1, 1) := dk_27 (dk_at dksX3_isSlack_0 8 rfl rfl)
theorem dX3_isSlack_9 : decode cX3_isSlack 9 = .ok (.imul, 1) := dk_104 (dk_at dksX3_isSlack_0 9 rfl rfl)
theorem dX3_isSlack_10 : decode cX3_isSlack 10 = .ok (.iload_n 2, 1) := dk_28 (dk_at dksX3_isSlack_0 10 rfl rfl)
theorem dX3_isSlack_11 : decode cX3_isSlack 11 = .ok (.iadd, 1) := dk_96 (dk_at dksX3_isSlack_0 11 rfl rfl)
theorem dX3_isSlack_12 : decode cX3_isSlack 12 = .ok (.iaload, 1) := dk_46 (dk_at dksX3_isSlack_0 12 rfl rfl)
theorem dX3_isSlack_13 : decode cX3_isSlack 13 = .ok (.aload_n 0, 1) := dk_42 (dk_at dksX3_isSlack_0 13 rfl rfl)
theorem dX3_isSlack_14 : decode cX3_isSlack 14 = .ok (.iload_n 1, 1) := dk_27 (dk_at dksX3_isSlack_0 14 rfl rfl)
theorem dX3_isSlack_15 : decode cX3_isSlack 15 = .ok (.invokevirtual 287, 3) := dk_182 1 31 (dk_at dksX3_isSlack_0 15 rfl rfl)
theorem dX3_isSlack_18 : decode cX3_isSlack 18 = .ok (.invokevirtual 290, 3) := dk_182 1 34 (dk_at dksX3_isSlack_0 18 rfl rfl)
theorem dX3_isSlack_21 : decode cX3_isSlack 21 = .ok (.iconst 3, 1) := dk_6 (dk_at dksX3_isSlack_0 21 rfl rfl)
theorem dX3_isSlack_22 : decode cX3_isSlack 22 = .ok (.if_icmp .ge 7, 3) := dk_162 0 7 (dk_at dksX3_isSlack_1 0 rfl rfl)
theorem dX3_isSlack_25 : decode cX3_isSlack 25 = .ok (.iconst 1, 1) := dk_4 (dk_at dksX3_isSlack_1 3 rfl rfl)
theorem dX3_isSlack_26 : decode cX3_isSlack 26 = .ok (.goto 4, 3) := dk_167 0 4 (dk_at dksX3_isSlack_1 4 rfl rfl)
theorem dX3_isSlack_29 : decode cX3_isSlack 29 = .ok (.iconst 0, 1) := dk_3 (dk_at dksX3_isSlack_1 7 rfl rfl)
theorem dX3_isSlack_30 : decode cX3_isSlack 30 = .ok (.ireturn, 1) := dk_172 (dk_at dksX3_isSlack_1 8 rfl rfl)
abbrev cX3_all : ByteArray := prog_26_method_48_code
def yX3_all : MethodName := ⟨RX3, "all", "(I)I"⟩
def dkwX3_all_0 : List UInt8 := [4, 42, 180, 0, 31, 27, 46, 120, 4, 100, 172]
abbrev dktX3_all_0 : List UInt8 := dkwX3_all_0 ++ []
theorem dksX3_all_0 : cX3_all.data.toList.drop 0 = dktX3_all_0 := by decide +kernel
theorem dX3_all_0 : decode cX3_all 0 = .ok (.iconst 1, 1) := dk_4 (dk_at dksX3_all_0 0 rfl rfl)
theorem dX3_all_1 : decode cX3_all 1 = .ok (.aload_n 0, 1) := dk_42 (dk_at dksX3_all_0 1 rfl rfl)
theorem dX3_all_2 : decode cX3_all 2 = .ok (.getfield 31, 3) := dk_180 0 31 (dk_at dksX3_all_0 2 rfl rfl)
theorem dX3_all_5 : decode cX3_all 5 = .ok (.iload_n 1, 1) := dk_27 (dk_at dksX3_all_0 5 rfl rfl)
theorem dX3_all_6 : decode cX3_all 6 = .ok (.iaload, 1) := dk_46 (dk_at dksX3_all_0 6 rfl rfl)
theorem dX3_all_7 : decode cX3_all 7 = .ok (.ishl, 1) := dk_120 (dk_at dksX3_all_0 7 rfl rfl)
theorem dX3_all_8 : decode cX3_all 8 = .ok (.iconst 1, 1) := dk_4 (dk_at dksX3_all_0 8 rfl rfl)
theorem dX3_all_9 : decode cX3_all 9 = .ok (.isub, 1) := dk_100 (dk_at dksX3_all_0 9 rfl rfl)
theorem dX3_all_10 : decode cX3_all 10 = .ok (.ireturn, 1) := dk_172 (dk_at dksX3_all_0 10 rfl rfl)
abbrev cX3_endsIn : ByteArray := prog_26_method_47_code
def yX3_endsIn : MethodName := ⟨RX3, "endsIn", "(III)I"⟩
def dkwX3_endsIn_3 : List UInt8 := [160, 0, 7, 4, 167, 0, 4, 3, 96, 54, 4, 132, 5, 1, 167, 255, 180, 21, 4, 172]
abbrev dktX3_endsIn_3 : List UInt8 := dkwX3_endsIn_3 ++ []
def dkwX3_endsIn_2 : List UInt8 := [167, 0, 4, 3, 96, 54, 4, 21, 4, 42, 180, 0, 43, 16, 24, 27, 104, 21, 5, 96, 46, 28]
abbrev dktX3_endsIn_2 : List UInt8 := dkwX3_endsIn_2 ++ dktX3_endsIn_3
def dkwX3_endsIn_1 : List UInt8 := [160, 0, 55, 21, 4, 42, 180, 0, 40, 16, 24, 27, 104, 21, 5, 96, 46, 28, 160, 0, 7, 4]
abbrev dktX3_endsIn_1 : List UInt8 := dkwX3_endsIn_1 ++ dktX3_endsIn_2
def dkwX3_endsIn_0 : List UInt8 := [3, 54, 4, 3, 54, 5, 21, 5, 42, 180, 0, 31, 27, 46, 162, 0, 71, 29, 21, 5, 122, 4, 126, 4]
abbrev dktX3_endsIn_0 : List UInt8 := dkwX3_endsIn_0 ++ dktX3_endsIn_1
theorem dksX3_endsIn_0 : cX3_endsIn.data.toList.drop 0 = dktX3_endsIn_0 := by decide +kernel
theorem dksX3_endsIn_1 : cX3_endsIn.data.toList.drop 24 = dktX3_endsIn_1 := dk_seg dksX3_endsIn_0 24 rfl rfl
theorem dksX3_endsIn_2 : cX3_endsIn.data.toList.drop 46 = dktX3_endsIn_2 := dk_seg dksX3_endsIn_1 22 rfl rfl
theorem dksX3_endsIn_3 : cX3_endsIn.data.toList.drop 68 = dktX3_endsIn_3 := dk_seg dksX3_endsIn_2 22 rfl rfl
theorem dX3_endsIn_0 : decode cX3_endsIn 0 = .ok (.iconst 0, 1) := dk_3 (dk_at dksX3_endsIn_0 0 rfl rfl)
theorem dX3_endsIn_1 : decode cX3_endsIn 1 = .ok (.istore 4, 2) := dk_54 4 (dk_at dksX3_endsIn_0 1 rfl rfl)
theorem dX3_endsIn_3 : decode cX3_endsIn 3 = .ok (.iconst 0, 1) := dk_3 (dk_at dksX3_endsIn_0 3 rfl rfl)
theorem dX3_endsIn_4 : decode cX3_endsIn 4 = .ok (.istore 5, 2) := dk_54 5 (dk_at dksX3_endsIn_0 4 rfl rfl)
theorem dX3_endsIn_6 : decode cX3_endsIn 6 = .ok (.iload 5, 2) := dk_21 5 (dk_at dksX3_endsIn_0 6 rfl rfl)
theorem dX3_endsIn_8 : decode cX3_endsIn 8 = .ok (.aload_n 0, 1) := dk_42 (dk_at dksX3_endsIn_0 8 rfl rfl)
theorem dX3_endsIn_9 : decode cX3_endsIn 9 = .ok (.getfield 31, 3) := dk_180 0 31 (dk_at dksX3_endsIn_0 9 rfl rfl)
theorem dX3_endsIn_12 : decode cX3_endsIn 12 = .ok (.iload_n 1, 1) := dk_27 (dk_at dksX3_endsIn_0 12 rfl rfl)
theorem dX3_endsIn_13 : decode cX3_endsIn 13 = .ok (.iaload, 1) := dk_46 (dk_at dksX3_endsIn_0 13 rfl rfl)
theorem dX3_endsIn_14 : decode cX3_endsIn 14 = .ok (.if_icmp .ge 71, 3) := dk_162 0 71 (dk_at dksX3_endsIn_0 14 rfl rfl)
theorem dX3_endsIn_17 : decode cX3_endsIn 17 = .ok (.iload_n 3, 1) := dk_29 (dk_at dksX3_endsIn_0 17 rfl rfl)
theorem dX3_endsIn_18 : decode cX3_endsIn 18 = .ok (.iload 5, 2) := dk_21 5 (dk_at dksX3_endsIn_0 18 rfl rfl)
theorem dX3_endsIn_20 : decode cX3_endsIn 20 = .ok (.ishr, 1) := dk_122 (dk_at dksX3_endsIn_0 20 rfl rfl)
theorem dX3_endsIn_21 : decode cX3_endsIn 21 = .ok (.iconst 1, 1) := dk_4 (dk_at dksX3_endsIn_0 21 rfl rfl)
theorem dX3_endsIn_22 : decode cX3_endsIn 22 = .ok (.iand, 1) := dk_126 (dk_at dksX3_endsIn_0 22 rfl rfl)
theorem dX3_endsIn_23 : decode cX3_endsIn 23 = .ok (.iconst 1, 1) := dk_4 (dk_at dksX3_endsIn_0 23 rfl rfl)
theorem dX3_endsIn_24 : decode cX3_endsIn 24 = .ok (.if_icmp .ne 55, 3) := dk_160 0 55 (dk_at dksX3_endsIn_1 0 rfl rfl)
theorem dX3_endsIn_27 : decode cX3_endsIn 27 = .ok (.iload 4, 2) := dk_21 4 (dk_at dksX3_endsIn_1 3 rfl rfl)
theorem dX3_endsIn_29 : decode cX3_endsIn 29 = .ok (.aload_n 0, 1) := dk_42 (dk_at dksX3_endsIn_1 5 rfl rfl)
theorem dX3_endsIn_30 : decode cX3_endsIn 30 = .ok (.getfield 40, 3) := dk_180 0 40 (dk_at dksX3_endsIn_1 6 rfl rfl)
theorem dX3_endsIn_33 : decode cX3_endsIn 33 = .ok (.bipush 24, 2) := dk_16 24 (dk_at dksX3_endsIn_1 9 rfl rfl)
theorem dX3_endsIn_35 : decode cX3_endsIn 35 = .ok (.iload_n 1, 1) := dk_27 (dk_at dksX3_endsIn_1 11 rfl rfl)
theorem dX3_endsIn_36 : decode cX3_endsIn 36 = .ok (.imul, 1) := dk_104 (dk_at dksX3_endsIn_1 12 rfl rfl)
theorem dX3_endsIn_37 : decode cX3_endsIn 37 = .ok (.iload 5, 2) := dk_21 5 (dk_at dksX3_endsIn_1 13 rfl rfl)
theorem dX3_endsIn_39 : decode cX3_endsIn 39 = .ok (.iadd, 1) := dk_96 (dk_at dksX3_endsIn_1 15 rfl rfl)
theorem dX3_endsIn_40 : decode cX3_endsIn 40 = .ok (.iaload, 1) := dk_46 (dk_at dksX3_endsIn_1 16 rfl rfl)
theorem dX3_endsIn_41 : decode cX3_endsIn 41 = .ok (.iload_n 2, 1) := dk_28 (dk_at dksX3_endsIn_1 17 rfl rfl)
theorem dX3_endsIn_42 : decode cX3_endsIn 42 = .ok (.if_icmp .ne 7, 3) := dk_160 0 7 (dk_at dksX3_endsIn_1 18 rfl rfl)
theorem dX3_endsIn_45 : decode cX3_endsIn 45 = .ok (.iconst 1, 1) := dk_4 (dk_at dksX3_endsIn_1 21 rfl rfl)
theorem dX3_endsIn_46 : decode cX3_endsIn 46 = .ok (.goto 4, 3) := dk_167 0 4 (dk_at dksX3_endsIn_2 0 rfl rfl)
theorem dX3_endsIn_49 : decode cX3_endsIn 49 = .ok (.iconst 0, 1) := dk_3 (dk_at dksX3_endsIn_2 3 rfl rfl)
theorem dX3_endsIn_50 : decode cX3_endsIn 50 = .ok (.iadd, 1) := dk_96 (dk_at dksX3_endsIn_2 4 rfl rfl)
theorem dX3_endsIn_51 : decode cX3_endsIn 51 = .ok (.istore 4, 2) := dk_54 4 (dk_at dksX3_endsIn_2 5 rfl rfl)
theorem dX3_endsIn_53 : decode cX3_endsIn 53 = .ok (.iload 4, 2) := dk_21 4 (dk_at dksX3_endsIn_2 7 rfl rfl)
theorem dX3_endsIn_55 : decode cX3_endsIn 55 = .ok (.aload_n 0, 1) := dk_42 (dk_at dksX3_endsIn_2 9 rfl rfl)
theorem dX3_endsIn_56 : decode cX3_endsIn 56 = .ok (.getfield 43, 3) := dk_180 0 43 (dk_at dksX3_endsIn_2 10 rfl rfl)
theorem dX3_endsIn_59 : decode cX3_endsIn 59 = .ok (.bipush 24, 2) := dk_16 24 (dk_at dksX3_endsIn_2 13 rfl rfl)
theorem dX3_endsIn_61 : decode cX3_endsIn 61 = .ok (.iload_n 1, 1) := dk_27 (dk_at dksX3_endsIn_2 15 rfl rfl)
theorem dX3_endsIn_62 : decode cX3_endsIn 62 = .ok (.imul, 1) := dk_104 (dk_at dksX3_endsIn_2 16 rfl rfl)
theorem dX3_endsIn_63 : decode cX3_endsIn 63 = .ok (.iload 5, 2) := dk_21 5 (dk_at dksX3_endsIn_2 17 rfl rfl)
theorem dX3_endsIn_65 : decode cX3_endsIn 65 = .ok (.iadd, 1) := dk_96 (dk_at dksX3_endsIn_2 19 rfl rfl)
theorem dX3_endsIn_66 : decode cX3_endsIn 66 = .ok (.iaload, 1) := dk_46 (dk_at dksX3_endsIn_2 20 rfl rfl)
theorem dX3_endsIn_67 : decode cX3_endsIn 67 = .ok (.iload_n 2, 1) := dk_28 (dk_at dksX3_endsIn_2 21 rfl rfl)
theorem dX3_endsIn_68 : decode cX3_endsIn 68 = .ok (.if_icmp .ne 7, 3) := dk_160 0 7 (dk_at dksX3_endsIn_3 0 rfl rfl)
theorem dX3_endsIn_71 : decode cX3_endsIn 71 = .ok (.iconst 1, 1) := dk_4 (dk_at dksX3_endsIn_3 3 rfl rfl)
theorem dX3_endsIn_72 : decode cX3_endsIn 72 = .ok (.goto 4, 3) := dk_167 0 4 (dk_at dksX3_endsIn_3 4 rfl rfl)
theorem dX3_endsIn_75 : decode cX3_endsIn 75 = .ok (.iconst 0, 1) := dk_3 (dk_at dksX3_endsIn_3 7 rfl rfl)
theorem dX3_endsIn_76 : decode cX3_endsIn 76 = .ok (.iadd, 1) := dk_96 (dk_at dksX3_endsIn_3 8 rfl rfl)
theorem dX3_endsIn_77 : decode cX3_endsIn 77 = .ok (.istore 4, 2) := dk_54 4 (dk_at dksX3_endsIn_3 9 rfl rfl)
theorem dX3_endsIn_79 : decode cX3_endsIn 79 = .ok (.iinc 5 1, 3) := dk_132 5 1 (dk_at dksX3_endsIn_3 11 rfl rfl)
theorem dX3_endsIn_82 : decode cX3_endsIn 82 = .ok (.goto (-76), 3) := dk_167 255 180 (dk_at dksX3_endsIn_3 14 rfl rfl)
theorem dX3_endsIn_85 : decode cX3_endsIn 85 = .ok (.iload 4, 2) := dk_21 4 (dk_at dksX3_endsIn_3 17 rfl rfl)
theorem dX3_endsIn_87 : decode cX3_endsIn 87 = .ok (.ireturn, 1) := dk_172 (dk_at dksX3_endsIn_3 19 rfl rfl)
abbrev cX3_odd : ByteArray := prog_26_method_51_code
def yX3_odd : MethodName := ⟨RX3, "odd", "(II)I"⟩
def dkwX3_odd_1 : List UInt8 := [182, 1, 34, 5, 112, 96, 62, 132, 4, 1, 167, 255, 229, 29, 172]
abbrev dktX3_odd_1 : List UInt8 := dkwX3_odd_1 ++ []
def dkwX3_odd_0 : List UInt8 := [3, 62, 3, 54, 4, 21, 4, 42, 180, 0, 34, 27, 46, 162, 0, 22, 29, 42, 27, 21, 4, 28]
abbrev dktX3_odd_0 : List UInt8 := dkwX3_odd_0 ++ dktX3_odd_1
theorem dksX3_odd_0 : cX3_odd.data.toList.drop 0 = dktX3_odd_0 := by decide +kernel
theorem dksX3_odd_1 : cX3_odd.data.toList.drop 22 = dktX3_odd_1 := dk_seg dksX3_odd_0 22 rfl rfl
theorem dX3_odd_0 : decode cX3_odd 0 = .ok (.iconst 0, 1) := dk_3 (dk_at dksX3_odd_0 0 rfl rfl)
theorem dX3_odd_1 : decode cX3_odd 1 = .ok (.istore_n 3, 1) := dk_62 (dk_at dksX3_odd_0 1 rfl rfl)
theorem dX3_odd_2 : decode cX3_odd 2 = .ok (.iconst 0, 1) := dk_3 (dk_at dksX3_odd_0 2 rfl rfl)
theorem dX3_odd_3 : decode cX3_odd 3 = .ok (.istore 4, 2) := dk_54 4 (dk_at dksX3_odd_0 3 rfl rfl)
theorem dX3_odd_5 : decode cX3_odd 5 = .ok (.iload 4, 2) := dk_21 4 (dk_at dksX3_odd_0 5 rfl rfl)
theorem dX3_odd_7 : decode cX3_odd 7 = .ok (.aload_n 0, 1) := dk_42 (dk_at dksX3_odd_0 7 rfl rfl)
theorem dX3_odd_8 : decode cX3_odd 8 = .ok (.getfield 34, 3) := dk_180 0 34 (dk_at dksX3_odd_0 8 rfl rfl)
theorem dX3_odd_11 : decode cX3_odd 11 = .ok (.iload_n 1, 1) := dk_27 (dk_at dksX3_odd_0 11 rfl rfl)
theorem dX3_odd_12 : decode cX3_odd 12 = .ok (.iaload, 1) := dk_46 (dk_at dksX3_odd_0 12 rfl rfl)
theorem dX3_odd_13 : decode cX3_odd 13 = .ok (.if_icmp .ge 22, 3) := dk_162 0 22 (dk_at dksX3_odd_0 13 rfl rfl)
theorem dX3_odd_16 : decode cX3_odd 16 = .ok (.iload_n 3, 1) := dk_29 (dk_at dksX3_odd_0 16 rfl rfl)
theorem dX3_odd_17 : decode cX3_odd 17 = .ok (.aload_n 0, 1) := dk_42 (dk_at dksX3_odd_0 17 rfl rfl)
theorem dX3_odd_18 : decode cX3_odd 18 = .ok (.iload_n 1, 1) := dk_27 (dk_at dksX3_odd_0 18 rfl rfl)
theorem dX3_odd_19 : decode cX3_odd 19 = .ok (.iload 4, 2) := dk_21 4 (dk_at dksX3_odd_0 19 rfl rfl)
theorem dX3_odd_21 : decode cX3_odd 21 = .ok (.iload_n 2, 1) := dk_28 (dk_at dksX3_odd_0 21 rfl rfl)
theorem dX3_odd_22 : decode cX3_odd 22 = .ok (.invokevirtual 290, 3) := dk_182 1 34 (dk_at dksX3_odd_1 0 rfl rfl)
theorem dX3_odd_25 : decode cX3_odd 25 = .ok (.iconst 2, 1) := dk_5 (dk_at dksX3_odd_1 3 rfl rfl)
theorem dX3_odd_26 : decode cX3_odd 26 = .ok (.irem, 1) := dk_112 (dk_at dksX3_odd_1 4 rfl rfl)
theorem dX3_odd_27 : decode cX3_odd 27 = .ok (.iadd, 1) := dk_96 (dk_at dksX3_odd_1 5 rfl rfl)
theorem dX3_odd_28 : decode cX3_odd 28 = .ok (.istore_n 3, 1) := dk_62 (dk_at dksX3_odd_1 6 rfl rfl)
theorem dX3_odd_29 : decode cX3_odd 29 = .ok (.iinc 4 1, 3) := dk_132 4 1 (dk_at dksX3_odd_1 7 rfl rfl)
theorem dX3_odd_32 : decode cX3_odd 32 = .ok (.goto (-27), 3) := dk_167 255 229 (dk_at dksX3_odd_1 10 rfl rfl)
theorem dX3_odd_35 : decode cX3_odd 35 = .ok (.iload_n 3, 1) := dk_29 (dk_at dksX3_odd_1 13 rfl rfl)
theorem dX3_odd_36 : decode cX3_odd 36 = .ok (.ireturn, 1) := dk_172 (dk_at dksX3_odd_1 14 rfl rfl)
abbrev cX3_bubble_2 : ByteArray := prog_26_method_53_code
def yX3_bubble_2 : MethodName := ⟨RX3, "bubble", "(III)I"⟩
def dkwX3_bubble_2_5 : List UInt8 := [46, 96, 46, 172]
abbrev dktX3_bubble_2_5 : List UInt8 := dkwX3_bubble_2_5 ++ []
def dkwX3_bubble_2_4 : List UInt8 := [42, 180, 0, 46, 21, 4, 46, 167, 0, 20, 42, 180, 0, 28, 16, 6, 27, 104, 42, 180, 0, 46, 21, 4]
abbrev dktX3_bubble_2_4 : List UInt8 := dkwX3_bubble_2_4 ++ dktX3_bubble_2_5
def dkwX3_bubble_2_3 : List UInt8 := [46, 167, 0, 50, 29, 5, 160, 0, 13, 42, 180, 0, 43, 21, 4, 46, 167, 0, 35, 29, 6, 160, 0, 13]
abbrev dktX3_bubble_2_3 : List UInt8 := dkwX3_bubble_2_3 ++ dktX3_bubble_2_4
def dkwX3_bubble_2_2 : List UInt8 := [154, 0, 13, 42, 180, 0, 37, 21, 4, 46, 167, 0, 65, 29, 4, 160, 0, 13, 42, 180, 0, 40, 21, 4]
abbrev dktX3_bubble_2_2 : List UInt8 := dkwX3_bubble_2_2 ++ dktX3_bubble_2_3
def dkwX3_bubble_2_1 : List UInt8 := [181, 0, 118, 42, 180, 0, 118, 4, 160, 0, 5, 3, 172, 16, 24, 27, 104, 28, 96, 54, 4, 29]
abbrev dktX3_bubble_2_1 : List UInt8 := dkwX3_bubble_2_1 ++ dktX3_bubble_2_2
def dkwX3_bubble_2_0 : List UInt8 := [42, 42, 27, 28, 182, 1, 48, 153, 0, 16, 29, 3, 7, 184, 0, 121, 153, 0, 7, 3, 167, 0, 4, 4]
abbrev dktX3_bubble_2_0 : List UInt8 := dkwX3_bubble_2_0 ++ dktX3_bubble_2_1
theorem dksX3_bubble_2_0 : cX3_bubble_2.data.toList.drop 0 = dktX3_bubble_2_0 := by decide +kernel
theorem dksX3_bubble_2_1 : cX3_bubble_2.data.toList.drop 24 = dktX3_bubble_2_1 := dk_seg dksX3_bubble_2_0 24 rfl rfl
theorem dksX3_bubble_2_2 : cX3_bubble_2.data.toList.drop 46 = dktX3_bubble_2_2 := dk_seg dksX3_bubble_2_1 22 rfl rfl
theorem dksX3_bubble_2_3 : cX3_bubble_2.data.toList.drop 70 = dktX3_bubble_2_3 := dk_seg dksX3_bubble_2_2 24 rfl rfl
theorem dksX3_bubble_2_4 : cX3_bubble_2.data.toList.drop 94 = dktX3_bubble_2_4 := dk_seg dksX3_bubble_2_3 24 rfl rfl
theorem dksX3_bubble_2_5 : cX3_bubble_2.data.toList.drop 118 = dktX3_bubble_2_5 := dk_seg dksX3_bubble_2_4 24 rfl rfl
theorem dX3_bubble_2_0 : decode cX3_bubble_2 0 = .ok (.aload_n 0, 1) := dk_42 (dk_at dksX3_bubble_2_0 0 rfl rfl)
theorem dX3_bubble_2_1 : decode cX3_bubble_2 1 = .ok (.aload_n 0, 1) := dk_42 (dk_at dksX3_bubble_2_0 1 rfl rfl)
theorem dX3_bubble_2_2 : decode cX3_bubble_2 2 = .ok (.iload_n 1, 1) := dk_27 (dk_at dksX3_bubble_2_0 2 rfl rfl)
theorem dX3_bubble_2_3 : decode cX3_bubble_2 3 = .ok (.iload_n 2, 1) := dk_28 (dk_at dksX3_bubble_2_0 3 rfl rfl)
theorem dX3_bubble_2_4 : decode cX3_bubble_2 4 = .ok (.invokevirtual 304, 3) := dk_182 1 48 (dk_at dksX3_bubble_2_0 4 rfl rfl)
theorem dX3_bubble_2_7 : decode cX3_bubble_2 7 = .ok (.ifCond .eq 16, 3) := dk_153 0 16 (dk_at dksX3_bubble_2_0 7 rfl rfl)
theorem dX3_bubble_2_10 : decode cX3_bubble_2 10 = .ok (.iload_n 3, 1) := dk_29 (dk_at dksX3_bubble_2_0 10 rfl rfl)
theorem dX3_bubble_2_11 : decode cX3_bubble_2 11 = .ok (.iconst 0, 1) := dk_3 (dk_at dksX3_bubble_2_0 11 rfl rfl)
theorem dX3_bubble_2_12 : decode cX3_bubble_2 12 = .ok (.iconst 4, 1) := dk_7 (dk_at dksX3_bubble_2_0 12 rfl rfl)
theorem dX3_bubble_2_13 : decode cX3_bubble_2 13 = .ok (.invokestatic 121, 3) := dk_184 0 121 (dk_at dksX3_bubble_2_0 13 rfl rfl)
theorem dX3_bubble_2_16 : decode cX3_bubble_2 16 = .ok (.ifCond .eq 7, 3) := dk_153 0 7 (dk_at dksX3_bubble_2_0 16 rfl rfl)
theorem dX3_bubble_2_19 : decode cX3_bubble_2 19 = .ok (.iconst 0, 1) := dk_3 (dk_at dksX3_bubble_2_0 19 rfl rfl)
theorem dX3_bubble_2_20 : decode cX3_bubble_2 20 = .ok (.goto 4, 3) := dk_167 0 4 (dk_at dksX3_bubble_2_0 20 rfl rfl)
theorem dX3_bubble_2_23 : decode cX3_bubble_2 23 = .ok (.iconst 1, 1) := dk_4 (dk_at dksX3_bubble_2_0 23 rfl rfl)
theorem dX3_bubble_2_24 : decode cX3_bubble_2 24 = .ok (.putfield 118, 3) := dk_181 0 118 (dk_at dksX3_bubble_2_1 0 rfl rfl)
theorem dX3_bubble_2_27 : decode cX3_bubble_2 27 = .ok (.aload_n 0, 1) := dk_42 (dk_at dksX3_bubble_2_1 3 rfl rfl)
theorem dX3_bubble_2_28 : decode cX3_bubble_2 28 = .ok (.getfield 118, 3) := dk_180 0 118 (dk_at dksX3_bubble_2_1 4 rfl rfl)
theorem dX3_bubble_2_31 : decode cX3_bubble_2 31 = .ok (.iconst 1, 1) := dk_4 (dk_at dksX3_bubble_2_1 7 rfl rfl)
theorem dX3_bubble_2_32 : decode cX3_bubble_2 32 = .ok (.if_icmp .ne 5, 3) := dk_160 0 5 (dk_at dksX3_bubble_2_1 8 rfl rfl)
theorem dX3_bubble_2_35 : decode cX3_bubble_2 35 = .ok (.iconst 0, 1) := dk_3 (dk_at dksX3_bubble_2_1 11 rfl rfl)
theorem dX3_bubble_2_36 : decode cX3_bubble_2 36 = .ok (.ireturn, 1) := dk_172 (dk_at dksX3_bubble_2_1 12 rfl rfl)
theorem dX3_bubble_2_37 : decode cX3_bubble_2 37 = .ok (.bipush 24, 2) := dk_16 24 (dk_at dksX3_bubble_2_1 13 rfl rfl)
theorem dX3_bubble_2_39 : decode cX3_bubble_2 39 = .ok (.iload_n 1, 1) := dk_27 (dk_at dksX3_bubble_2_1 15 rfl rfl)
theorem dX3_bubble_2_40 : decode cX3_bubble_2 40 = .ok (.imul, 1) := dk_104 (dk_at dksX3_bubble_2_1 16 rfl rfl)
theorem dX3_bubble_2_41 : decode cX3_bubble_2 41 = .ok (.iload_n 2, 1) := dk_28 (dk_at dksX3_bubble_2_1 17 rfl rfl)
theorem dX3_bubble_2_42 : decode cX3_bubble_2 42 = .ok (.iadd, 1) := dk_96 (dk_at dksX3_bubble_2_1 18 rfl rfl)
theorem dX3_bubble_2_43 : decode cX3_bubble_2 43 = .ok (.istore 4, 2) := dk_54 4 (dk_at dksX3_bubble_2_1 19 rfl rfl)
theorem dX3_bubble_2_45 : decode cX3_bubble_2 45 = .ok (.iload_n 3, 1) := dk_29 (dk_at dksX3_bubble_2_1 21 rfl rfl)
theorem dX3_bubble_2_46 : decode cX3_bubble_2 46 = .ok (.ifCond .ne 13, 3) := dk_154 0 13 (dk_at dksX3_bubble_2_2 0 rfl rfl)
theorem dX3_bubble_2_49 : decode cX3_bubble_2 49 = .ok (.aload_n 0, 1) := dk_42 (dk_at dksX3_bubble_2_2 3 rfl rfl)
theorem dX3_bubble_2_50 : decode cX3_bubble_2 50 = .ok (.getfield 37, 3) := dk_180 0 37 (dk_at dksX3_bubble_2_2 4 rfl rfl)
theorem dX3_bubble_2_53 : decode cX3_bubble_2 53 = .ok (.iload 4, 2) := dk_21 4 (dk_at dksX3_bubble_2_2 7 rfl rfl)
theorem dX3_bubble_2_55 : decode cX3_bubble_2 55 = .ok (.iaload, 1) := dk_46 (dk_at dksX3_bubble_2_2 9 rfl rfl)
theorem dX3_bubble_2_56 : decode cX3_bubble_2 56 = .ok (.goto 65, 3) := dk_167 0 65 (dk_at dksX3_bubble_2_2 10 rfl rfl)
theorem dX3_bubble_2_59 : decode cX3_bubble_2 59 = .ok (.iload_n 3, 1) := dk_29 (dk_at dksX3_bubble_2_2 13 rfl rfl)
theorem dX3_bubble_2_60 : decode cX3_bubble_2 60 = .ok (.iconst 1, 1) := dk_4 (dk_at dksX3_bubble_2_2 14 rfl rfl)
theorem dX3_bubble_2_61 : decode cX3_bubble_2 61 = .ok (.if_icmp .ne 13, 3) := dk_160 0 13 (dk_at dksX3_bubble_2_2 15 rfl rfl)
theorem dX3_bubble_2_64 : decode cX3_bubble_2 64 = .ok (.aload_n 0, 1) := dk_42 (dk_at dksX3_bubble_2_2 18 rfl rfl)
theorem dX3_bubble_2_65 : decode cX3_bubble_2 65 = .ok (.getfield 40, 3) := dk_180 0 40 (dk_at dksX3_bubble_2_2 19 rfl rfl)
theorem dX3_bubble_2_68 : decode cX3_bubble_2 68 = .ok (.iload 4, 2) := dk_21 4 (dk_at dksX3_bubble_2_2 22 rfl rfl)
theorem dX3_bubble_2_70 : decode cX3_bubble_2 70 = .ok (.iaload, 1) := dk_46 (dk_at dksX3_bubble_2_3 0 rfl rfl)
theorem dX3_bubble_2_71 : decode cX3_bubble_2 71 = .ok (.goto 50, 3) := dk_167 0 50 (dk_at dksX3_bubble_2_3 1 rfl rfl)
theorem dX3_bubble_2_74 : decode cX3_bubble_2 74 = .ok (.iload_n 3, 1) := dk_29 (dk_at dksX3_bubble_2_3 4 rfl rfl)
theorem dX3_bubble_2_75 : decode cX3_bubble_2 75 = .ok (.iconst 2, 1) := dk_5 (dk_at dksX3_bubble_2_3 5 rfl rfl)
theorem dX3_bubble_2_76 : decode cX3_bubble_2 76 = .ok (.if_icmp .ne 13, 3) := dk_160 0 13 (dk_at dksX3_bubble_2_3 6 rfl rfl)
theorem dX3_bubble_2_79 : decode cX3_bubble_2 79 = .ok (.aload_n 0, 1) := dk_42 (dk_at dksX3_bubble_2_3 9 rfl rfl)
theorem dX3_bubble_2_80 : decode cX3_bubble_2 80 = .ok (.getfield 43, 3) := dk_180 0 43 (dk_at dksX3_bubble_2_3 10 rfl rfl)
theorem dX3_bubble_2_83 : decode cX3_bubble_2 83 = .ok (.iload 4, 2) := dk_21 4 (dk_at dksX3_bubble_2_3 13 rfl rfl)
theorem dX3_bubble_2_85 : decode cX3_bubble_2 85 = .ok (.iaload, 1) := dk_46 (dk_at dksX3_bubble_2_3 15 rfl rfl)
theorem dX3_bubble_2_86 : decode cX3_bubble_2 86 = .ok (.goto 35, 3) := dk_167 0 35 (dk_at dksX3_bubble_2_3 16 rfl rfl)
theorem dX3_bubble_2_89 : decode cX3_bubble_2 89 = .ok (.iload_n 3, 1) := dk_29 (dk_at dksX3_bubble_2_3 19 rfl rfl)
theorem dX3_bubble_2_90 : decode cX3_bubble_2 90 = .ok (.iconst 3, 1) := dk_6 (dk_at dksX3_bubble_2_3 20 rfl rfl)
theorem dX3_bubble_2_91 : decode cX3_bubble_2 91 = .ok (.if_icmp .ne 13, 3) := dk_160 0 13 (dk_at dksX3_bubble_2_3 21 rfl rfl)
theorem dX3_bubble_2_94 : decode cX3_bubble_2 94 = .ok (.aload_n 0, 1) := dk_42 (dk_at dksX3_bubble_2_4 0 rfl rfl)
theorem dX3_bubble_2_95 : decode cX3_bubble_2 95 = .ok (.getfield 46, 3) := dk_180 0 46 (dk_at dksX3_bubble_2_4 1 rfl rfl)
theorem dX3_bubble_2_98 : decode cX3_bubble_2 98 = .ok (.iload 4, 2) := dk_21 4 (dk_at dksX3_bubble_2_4 4 rfl rfl)
theorem dX3_bubble_2_100 : decode cX3_bubble_2 100 = .ok (.iaload, 1) := dk_46 (dk_at dksX3_bubble_2_4 6 rfl rfl)
theorem dX3_bubble_2_101 : decode cX3_bubble_2 101 = .ok (.goto 20, 3) := dk_167 0 20 (dk_at dksX3_bubble_2_4 7 rfl rfl)
theorem dX3_bubble_2_104 : decode cX3_bubble_2 104 = .ok (.aload_n 0, 1) := dk_42 (dk_at dksX3_bubble_2_4 10 rfl rfl)
theorem dX3_bubble_2_105 : decode cX3_bubble_2 105 = .ok (.getfield 28, 3) := dk_180 0 28 (dk_at dksX3_bubble_2_4 11 rfl rfl)
theorem dX3_bubble_2_108 : decode cX3_bubble_2 108 = .ok (.bipush 6, 2) := dk_16 6 (dk_at dksX3_bubble_2_4 14 rfl rfl)
theorem dX3_bubble_2_110 : decode cX3_bubble_2 110 = .ok (.iload_n 1, 1) := dk_27 (dk_at dksX3_bubble_2_4 16 rfl rfl)
theorem dX3_bubble_2_111 : decode cX3_bubble_2 111 = .ok (.imul, 1) := dk_104 (dk_at dksX3_bubble_2_4 17 rfl rfl)
theorem dX3_bubble_2_112 : decode cX3_bubble_2 112 = .ok (.aload_n 0, 1) := dk_42 (dk_at dksX3_bubble_2_4 18 rfl rfl)
theorem dX3_bubble_2_113 : decode cX3_bubble_2 113 = .ok (.getfield 46, 3) := dk_180 0 46 (dk_at dksX3_bubble_2_4 19 rfl rfl)
theorem dX3_bubble_2_116 : decode cX3_bubble_2 116 = .ok (.iload 4, 2) := dk_21 4 (dk_at dksX3_bubble_2_4 22 rfl rfl)
theorem dX3_bubble_2_118 : decode cX3_bubble_2 118 = .ok (.iaload, 1) := dk_46 (dk_at dksX3_bubble_2_5 0 rfl rfl)
theorem dX3_bubble_2_119 : decode cX3_bubble_2 119 = .ok (.iadd, 1) := dk_96 (dk_at dksX3_bubble_2_5 1 rfl rfl)
theorem dX3_bubble_2_120 : decode cX3_bubble_2 120 = .ok (.iaload, 1) := dk_46 (dk_at dksX3_bubble_2_5 2 rfl rfl)
theorem dX3_bubble_2_121 : decode cX3_bubble_2 121 = .ok (.ireturn, 1) := dk_172 (dk_at dksX3_bubble_2_5 3 rfl rfl)
abbrev cX3_isBubble : ByteArray := prog_26_method_44_code
def yX3_isBubble : MethodName := ⟨RX3, "isBubble", "(II)Z"⟩
def dkwX3_isBubble_1 : List UInt8 := [4, 167, 0, 4, 3, 172]
abbrev dktX3_isBubble_1 : List UInt8 := dkwX3_isBubble_1 ++ []
def dkwX3_isBubble_0 : List UInt8 := [42, 27, 182, 1, 28, 153, 0, 23, 28, 3, 42, 180, 0, 31, 27, 46, 4, 100, 184, 0, 121, 153, 0, 7]
abbrev dktX3_isBubble_0 : List UInt8 := dkwX3_isBubble_0 ++ dktX3_isBubble_1
theorem dksX3_isBubble_0 : cX3_isBubble.data.toList.drop 0 = dktX3_isBubble_0 := by decide +kernel
theorem dksX3_isBubble_1 : cX3_isBubble.data.toList.drop 24 = dktX3_isBubble_1 := dk_seg dksX3_isBubble_0 24 rfl rfl
theorem dX3_isBubble_0 : decode cX3_isBubble 0 = .ok (.aload_n 0, 1) := dk_42 (dk_at dksX3_isBubble_0 0 rfl rfl)
theorem dX3_isBubble_1 : decode cX3_isBubble 1 = .ok (.iload_n 1, 1) := dk_27 (dk_at dksX3_isBubble_0 1 rfl rfl)
theorem dX3_isBubble_2 : decode cX3_isBubble 2 = .ok (.invokevirtual 284, 3) := dk_182 1 28 (dk_at dksX3_isBubble_0 2 rfl rfl)
theorem dX3_isBubble_5 : decode cX3_isBubble 5 = .ok (.ifCond .eq 23, 3) := dk_153 0 23 (dk_at dksX3_isBubble_0 5 rfl rfl)
theorem dX3_isBubble_8 : decode cX3_isBubble 8 = .ok (.iload_n 2, 1) := dk_28 (dk_at dksX3_isBubble_0 8 rfl rfl)
theorem dX3_isBubble_9 : decode cX3_isBubble 9 = .ok (.iconst 0, 1) := dk_3 (dk_at dksX3_isBubble_0 9 rfl rfl)
theorem dX3_isBubble_10 : decode cX3_isBubble 10 = .ok (.aload_n 0, 1) := dk_42 (dk_at dksX3_isBubble_0 10 rfl rfl)
theorem dX3_isBubble_11 : decode cX3_isBubble 11 = .ok (.getfield 31, 3) := dk_180 0 31 (dk_at dksX3_isBubble_0 11 rfl rfl)
theorem dX3_isBubble_14 : decode cX3_isBubble 14 = .ok (.iload_n 1, 1) := dk_27 (dk_at dksX3_isBubble_0 14 rfl rfl)
theorem dX3_isBubble_15 : decode cX3_isBubble 15 = .ok (.iaload, 1) := dk_46 (dk_at dksX3_isBubble_0 15 rfl rfl)
theorem dX3_isBubble_16 : decode cX3_isBubble 16 = .ok (.iconst 1, 1) := dk_4 (dk_at dksX3_isBubble_0 16 rfl rfl)
theorem dX3_isBubble_17 : decode cX3_isBubble 17 = .ok (.isub, 1) := dk_100 (dk_at dksX3_isBubble_0 17 rfl rfl)
theorem dX3_isBubble_18 : decode cX3_isBubble 18 = .ok (.invokestatic 121, 3) := dk_184 0 121 (dk_at dksX3_isBubble_0 18 rfl rfl)
theorem dX3_isBubble_21 : decode cX3_isBubble 21 = .ok (.ifCond .eq 7, 3) := dk_153 0 7 (dk_at dksX3_isBubble_0 21 rfl rfl)
theorem dX3_isBubble_24 : decode cX3_isBubble 24 = .ok (.iconst 1, 1) := dk_4 (dk_at dksX3_isBubble_1 0 rfl rfl)
theorem dX3_isBubble_25 : decode cX3_isBubble 25 = .ok (.goto 4, 3) := dk_167 0 4 (dk_at dksX3_isBubble_1 1 rfl rfl)
theorem dX3_isBubble_28 : decode cX3_isBubble 28 = .ok (.iconst 0, 1) := dk_3 (dk_at dksX3_isBubble_1 4 rfl rfl)
theorem dX3_isBubble_29 : decode cX3_isBubble 29 = .ok (.ireturn, 1) := dk_172 (dk_at dksX3_isBubble_1 5 rfl rfl)
abbrev cX3_ends : ByteArray := prog_26_method_54_code
def yX3_ends : MethodName := ⟨RX3, "ends", "(II)I"⟩
def dkwX3_ends_1 : List UInt8 := [172]
abbrev dktX3_ends_1 : List UInt8 := dkwX3_ends_1 ++ []
def dkwX3_ends_0 : List UInt8 := [42, 27, 28, 182, 1, 51, 153, 0, 17, 42, 27, 28, 42, 27, 182, 1, 31, 182, 1, 34, 167, 0, 4, 2]
abbrev dktX3_ends_0 : List UInt8 := dkwX3_ends_0 ++ dktX3_ends_1
theorem dksX3_ends_0 : cX3_ends.data.toList.drop 0 = dktX3_ends_0 := by decide +kernel
theorem dksX3_ends_1 : cX3_ends.data.toList.drop 24 = dktX3_ends_1 := dk_seg dksX3_ends_0 24 rfl rfl
theorem dX3_ends_0 : decode cX3_ends 0 = .ok (.aload_n 0, 1) := dk_42 (dk_at dksX3_ends_0 0 rfl rfl)
theorem dX3_ends_1 : decode cX3_ends 1 = .ok (.iload_n 1, 1) := dk_27 (dk_at dksX3_ends_0 1 rfl rfl)
theorem dX3_ends_2 : decode cX3_ends 2 = .ok (.iload_n 2, 1) := dk_28 (dk_at dksX3_ends_0 2 rfl rfl)
theorem dX3_ends_3 : decode cX3_ends 3 = .ok (.invokevirtual 307, 3) := dk_182 1 51 (dk_at dksX3_ends_0 3 rfl rfl)
theorem dX3_ends_6 : decode cX3_ends 6 = .ok (.ifCond .eq 17, 3) := dk_153 0 17 (dk_at dksX3_ends_0 6 rfl rfl)
theorem dX3_ends_9 : decode cX3_ends 9 = .ok (.aload_n 0, 1) := dk_42 (dk_at dksX3_ends_0 9 rfl rfl)
theorem dX3_ends_10 : decode cX3_ends 10 = .ok (.iload_n 1, 1) := dk_27 (dk_at dksX3_ends_0 10 rfl rfl)
theorem dX3_ends_11 : decode cX3_ends 11 = .ok (.iload_n 2, 1) := dk_28 (dk_at dksX3_ends_0 11 rfl rfl)
theorem dX3_ends_12 : decode cX3_ends 12 = .ok (.aload_n 0, 1) := dk_42 (dk_at dksX3_ends_0 12 rfl rfl)
theorem dX3_ends_13 : decode cX3_ends 13 = .ok (.iload_n 1, 1) := dk_27 (dk_at dksX3_ends_0 13 rfl rfl)
theorem dX3_ends_14 : decode cX3_ends 14 = .ok (.invokevirtual 287, 3) := dk_182 1 31 (dk_at dksX3_ends_0 14 rfl rfl)
theorem dX3_ends_17 : decode cX3_ends 17 = .ok (.invokevirtual 290, 3) := dk_182 1 34 (dk_at dksX3_ends_0 17 rfl rfl)
theorem dX3_ends_20 : decode cX3_ends 20 = .ok (.goto 4, 3) := dk_167 0 4 (dk_at dksX3_ends_0 20 rfl rfl)
theorem dX3_ends_23 : decode cX3_ends 23 = .ok (.iconst (-1), 1) := dk_2 (dk_at dksX3_ends_0 23 rfl rfl)
theorem dX3_ends_24 : decode cX3_ends 24 = .ok (.ireturn, 1) := dk_172 (dk_at dksX3_ends_1 0 rfl rfl)
abbrev cX3_isPoint : ByteArray := prog_26_method_43_code
def yX3_isPoint : MethodName := ⟨RX3, "isPoint", "(II)Z"⟩
def dkwX3_isPoint_1 : List UInt8 := [4, 167, 0, 4, 3, 172]
abbrev dktX3_isPoint_1 : List UInt8 := dkwX3_isPoint_1 ++ []
def dkwX3_isPoint_0 : List UInt8 := [42, 27, 182, 1, 28, 153, 0, 23, 28, 3, 42, 180, 0, 34, 27, 46, 4, 100, 184, 0, 121, 153, 0, 7]
abbrev dktX3_isPoint_0 : List UInt8 := dkwX3_isPoint_0 ++ dktX3_isPoint_1
theorem dksX3_isPoint_0 : cX3_isPoint.data.toList.drop 0 = dktX3_isPoint_0 := by decide +kernel
theorem dksX3_isPoint_1 : cX3_isPoint.data.toList.drop 24 = dktX3_isPoint_1 := dk_seg dksX3_isPoint_0 24 rfl rfl
theorem dX3_isPoint_0 : decode cX3_isPoint 0 = .ok (.aload_n 0, 1) := dk_42 (dk_at dksX3_isPoint_0 0 rfl rfl)
theorem dX3_isPoint_1 : decode cX3_isPoint 1 = .ok (.iload_n 1, 1) := dk_27 (dk_at dksX3_isPoint_0 1 rfl rfl)
theorem dX3_isPoint_2 : decode cX3_isPoint 2 = .ok (.invokevirtual 284, 3) := dk_182 1 28 (dk_at dksX3_isPoint_0 2 rfl rfl)
theorem dX3_isPoint_5 : decode cX3_isPoint 5 = .ok (.ifCond .eq 23, 3) := dk_153 0 23 (dk_at dksX3_isPoint_0 5 rfl rfl)
theorem dX3_isPoint_8 : decode cX3_isPoint 8 = .ok (.iload_n 2, 1) := dk_28 (dk_at dksX3_isPoint_0 8 rfl rfl)
theorem dX3_isPoint_9 : decode cX3_isPoint 9 = .ok (.iconst 0, 1) := dk_3 (dk_at dksX3_isPoint_0 9 rfl rfl)
theorem dX3_isPoint_10 : decode cX3_isPoint 10 = .ok (.aload_n 0, 1) := dk_42 (dk_at dksX3_isPoint_0 10 rfl rfl)
theorem dX3_isPoint_11 : decode cX3_isPoint 11 = .ok (.getfield 34, 3) := dk_180 0 34 (dk_at dksX3_isPoint_0 11 rfl rfl)
theorem dX3_isPoint_14 : decode cX3_isPoint 14 = .ok (.iload_n 1, 1) := dk_27 (dk_at dksX3_isPoint_0 14 rfl rfl)
theorem dX3_isPoint_15 : decode cX3_isPoint 15 = .ok (.iaload, 1) := dk_46 (dk_at dksX3_isPoint_0 15 rfl rfl)
theorem dX3_isPoint_16 : decode cX3_isPoint 16 = .ok (.iconst 1, 1) := dk_4 (dk_at dksX3_isPoint_0 16 rfl rfl)
theorem dX3_isPoint_17 : decode cX3_isPoint 17 = .ok (.isub, 1) := dk_100 (dk_at dksX3_isPoint_0 17 rfl rfl)
theorem dX3_isPoint_18 : decode cX3_isPoint 18 = .ok (.invokestatic 121, 3) := dk_184 0 121 (dk_at dksX3_isPoint_0 18 rfl rfl)
theorem dX3_isPoint_21 : decode cX3_isPoint 21 = .ok (.ifCond .eq 7, 3) := dk_153 0 7 (dk_at dksX3_isPoint_0 21 rfl rfl)
theorem dX3_isPoint_24 : decode cX3_isPoint 24 = .ok (.iconst 1, 1) := dk_4 (dk_at dksX3_isPoint_1 0 rfl rfl)
theorem dX3_isPoint_25 : decode cX3_isPoint 25 = .ok (.goto 4, 3) := dk_167 0 4 (dk_at dksX3_isPoint_1 1 rfl rfl)
theorem dX3_isPoint_28 : decode cX3_isPoint 28 = .ok (.iconst 0, 1) := dk_3 (dk_at dksX3_isPoint_1 4 rfl rfl)
theorem dX3_isPoint_29 : decode cX3_isPoint 29 = .ok (.ireturn, 1) := dk_172 (dk_at dksX3_isPoint_1 5 rfl rfl)
abbrev cX3_bursts : ByteArray := prog_26_method_55_code
def yX3_bursts : MethodName := ⟨RX3, "bursts", "(II)I"⟩
def dkwX3_bursts_4 : List UInt8 := [164, 0, 6, 21, 5, 172, 132, 5, 1, 167, 255, 188, 2, 172]
abbrev dktX3_bursts_4 : List UInt8 := dkwX3_bursts_4 ++ []
def dkwX3_bursts_3 : List UInt8 := [180, 0, 37, 16, 24, 27, 104, 21, 5, 96, 46, 96, 96, 54, 4, 21, 4, 42, 180, 0, 9, 29, 46]
abbrev dktX3_bursts_3 : List UInt8 := dkwX3_bursts_3 ++ dktX3_bursts_4
def dkwX3_bursts_2 : List UInt8 := [180, 0, 46, 16, 24, 27, 104, 21, 5, 96, 46, 28, 160, 0, 41, 21, 4, 42, 180, 0, 13, 29, 46, 42]
abbrev dktX3_bursts_2 : List UInt8 := dkwX3_bursts_2 ++ dktX3_bursts_3
def dkwX3_bursts_1 : List UInt8 := [180, 0, 13, 29, 46, 116, 54, 4, 3, 54, 5, 21, 5, 42, 180, 0, 31, 27, 46, 162, 0, 63, 42]
abbrev dktX3_bursts_1 : List UInt8 := dkwX3_bursts_1 ++ dktX3_bursts_2
def dkwX3_bursts_0 : List UInt8 := [42, 27, 28, 182, 1, 54, 154, 0, 5, 2, 172, 42, 180, 0, 28, 16, 6, 27, 104, 28, 96, 46, 62, 42]
abbrev dktX3_bursts_0 : List UInt8 := dkwX3_bursts_0 ++ dktX3_bursts_1
theorem dksX3_bursts_0 : cX3_bursts.data.toList.drop 0 = dktX3_bursts_0 := by decide +kernel
theorem dksX3_bursts_1 : cX3_bursts.data.toList.drop 24 = dktX3_bursts_1 := dk_seg dksX3_bursts_0 24 rfl rfl
theorem dksX3_bursts_2 : cX3_bursts.data.toList.drop 47 = dktX3_bursts_2 := dk_seg dksX3_bursts_1 23 rfl rfl
theorem dksX3_bursts_3 : cX3_bursts.data.toList.drop 71 = dktX3_bursts_3 := dk_seg dksX3_bursts_2 24 rfl rfl
theorem dksX3_bursts_4 : cX3_bursts.data.toList.drop 94 = dktX3_bursts_4 := dk_seg dksX3_bursts_3 23 rfl rfl
theorem dX3_bursts_0 : decode cX3_bursts 0 = .ok (.aload_n 0, 1) := dk_42 (dk_at dksX3_bursts_0 0 rfl rfl)
theorem dX3_bursts_1 : decode cX3_bursts 1 = .ok (.iload_n 1, 1) := dk_27 (dk_at dksX3_bursts_0 1 rfl rfl)
theorem dX3_bursts_2 : decode cX3_bursts 2 = .ok (.iload_n 2, 1) := dk_28 (dk_at dksX3_bursts_0 2 rfl rfl)
theorem dX3_bursts_3 : decode cX3_bursts 3 = .ok (.invokevirtual 310, 3) := dk_182 1 54 (dk_at dksX3_bursts_0 3 rfl rfl)
theorem dX3_bursts_6 : decode cX3_bursts 6 = .ok (.ifCond .ne 5, 3) := dk_154 0 5 (dk_at dksX3_bursts_0 6 rfl rfl)
theorem dX3_bursts_9 : decode cX3_bursts 9 = .ok (.iconst (-1), 1) := dk_2 (dk_at dksX3_bursts_0 9 rfl rfl)
theorem dX3_bursts_10 : decode cX3_bursts 10 = .ok (.ireturn, 1) := dk_172 (dk_at dksX3_bursts_0 10 rfl rfl)
theorem dX3_bursts_11 : decode cX3_bursts 11 = .ok (.aload_n 0, 1) := dk_42 (dk_at dksX3_bursts_0 11 rfl rfl)
theorem dX3_bursts_12 : decode cX3_bursts 12 = .ok (.getfield 28, 3) := dk_180 0 28 (dk_at dksX3_bursts_0 12 rfl rfl)
theorem dX3_bursts_15 : decode cX3_bursts 15 = .ok (.bipush 6, 2) := dk_16 6 (dk_at dksX3_bursts_0 15 rfl rfl)
theorem dX3_bursts_17 : decode cX3_bursts 17 = .ok (.iload_n 1, 1) := dk_27 (dk_at dksX3_bursts_0 17 rfl rfl)
theorem dX3_bursts_18 : decode cX3_bursts 18 = .ok (.imul, 1) := dk_104 (dk_at dksX3_bursts_0 18 rfl rfl)
theorem dX3_bursts_19 : decode cX3_bursts 19 = .ok (.iload_n 2, 1) := dk_28 (dk_at dksX3_bursts_0 19 rfl rfl)
theorem dX3_bursts_20 : decode cX3_bursts 20 = .ok (.iadd, 1) := dk_96 (dk_at dksX3_bursts_0 20 rfl rfl)
theorem dX3_bursts_21 : decode cX3_bursts 21 = .ok (.iaload, 1) := dk_46 (dk_at dksX3_bursts_0 21 rfl rfl)
theorem dX3_bursts_22 : decode cX3_bursts 22 = .ok (.istore_n 3, 1) := dk_62 (dk_at dksX3_bursts_0 22 rfl rfl)
theorem dX3_bursts_23 : decode cX3_bursts 23 = .ok (.aload_n 0, 1) := dk_42 (dk_at dksX3_bursts_0 23 rfl rfl)
theorem dX3_bursts_24 : decode cX3_bursts 24 = .ok (.getfield 13, 3) := dk_180 0 13 (dk_at dksX3_bursts_1 0 rfl rfl)
theorem dX3_bursts_27 : decode cX3_bursts 27 = .ok (.iload_n 3, 1) := dk_29 (dk_at dksX3_bursts_1 3 rfl rfl)
theorem dX3_bursts_28 : decode cX3_bursts 28 = .ok (.iaload, 1) := dk_46 (dk_at dksX3_bursts_1 4 rfl rfl)
theorem dX3_bursts_29 : decode cX3_bursts 29 = .ok (.ineg, 1) := dk_116 (dk_at dksX3_bursts_1 5 rfl rfl)
theorem dX3_bursts_30 : decode cX3_bursts 30 = .ok (.istore 4, 2) := dk_54 4 (dk_at dksX3_bursts_1 6 rfl rfl)
theorem dX3_bursts_32 : decode cX3_bursts 32 = .ok (.iconst 0, 1) := dk_3 (dk_at dksX3_bursts_1 8 rfl rfl)
theorem dX3_bursts_33 : decode cX3_bursts 33 = .ok (.istore 5, 2) := dk_54 5 (dk_at dksX3_bursts_1 9 rfl rfl)
theorem dX3_bursts_35 : decode cX3_bursts 35 = .ok (.iload 5, 2) := dk_21 5 (dk_at dksX3_bursts_1 11 rfl rfl)
theorem dX3_bursts_37 : decode cX3_bursts 37 = .ok (.aload_n 0, 1) := dk_42 (dk_at dksX3_bursts_1 13 rfl rfl)
theorem dX3_bursts_38 : decode cX3_bursts 38 = .ok (.getfield 31, 3) := dk_180 0 31 (dk_at dksX3_bursts_1 14 rfl rfl)
theorem dX3_bursts_41 : decode cX3_bursts 41 = .ok (.iload_n 1, 1) := dk_27 (dk_at dksX3_bursts_1 17 rfl rfl)
theorem dX3_bursts_42 : decode cX3_bursts 42 = .ok (.iaload, 1) := dk_46 (dk_at dksX3_bursts_1 18 rfl rfl)
theorem dX3_bursts_43 : decode cX3_bursts 43 = .ok (.if_icmp .ge 63, 3) := dk_162 0 63 (dk_at dksX3_bursts_1 19 rfl rfl)
theorem dX3_bursts_46 : decode cX3_bursts 46 = .ok (.aload_n 0, 1) := dk_42 (dk_at dksX3_bursts_1 22 rfl rfl)
theorem dX3_bursts_47 : decode cX3_bursts 47 = .ok (.getfield 46, 3) := dk_180 0 46 (dk_at dksX3_bursts_2 0 rfl rfl)
theorem dX3_bursts_50 : decode cX3_bursts 50 = .ok (.bipush 24, 2) := dk_16 24 (dk_at dksX3_bursts_2 3 rfl rfl)
theorem dX3_bursts_52 : decode cX3_bursts 52 = .ok (.iload_n 1, 1) := dk_27 (dk_at dksX3_bursts_2 5 rfl rfl)
theorem dX3_bursts_53 : decode cX3_bursts 53 = .ok (.imul, 1) := dk_104 (dk_at dksX3_bursts_2 6 rfl rfl)
theorem dX3_bursts_54 : decode cX3_bursts 54 = .ok (.iload 5, 2) := dk_21 5 (dk_at dksX3_bursts_2 7 rfl rfl)
theorem dX3_bursts_56 : decode cX3_bursts 56 = .ok (.iadd, 1) := dk_96 (dk_at dksX3_bursts_2 9 rfl rfl)
theorem dX3_bursts_57 : decode cX3_bursts 57 = .ok (.iaload, 1) := dk_46 (dk_at dksX3_bursts_2 10 rfl rfl)
theorem dX3_bursts_58 : decode cX3_bursts 58 = .ok (.iload_n 2, 1) := dk_28 (dk_at dksX3_bursts_2 11 rfl rfl)
theorem dX3_bursts_59 : decode cX3_bursts 59 = .ok (.if_icmp .ne 41, 3) := dk_160 0 41 (dk_at dksX3_bursts_2 12 rfl rfl)
theorem dX3_bursts_62 : decode cX3_bursts 62 = .ok (.iload 4, 2) := dk_21 4 (dk_at dksX3_bursts_2 15 rfl rfl)
theorem dX3_bursts_64 : decode cX3_bursts 64 = .ok (.aload_n 0, 1) := dk_42 (dk_at dksX3_bursts_2 17 rfl rfl)
theorem dX3_bursts_65 : decode cX3_bursts 65 = .ok (.getfield 13, 3) := dk_180 0 13 (dk_at dksX3_bursts_2 18 rfl rfl)
theorem dX3_bursts_68 : decode cX3_bursts 68 = .ok (.iload_n 3, 1) := dk_29 (dk_at dksX3_bursts_2 21 rfl rfl)
theorem dX3_bursts_69 : decode cX3_bursts 69 = .ok (.iaload, 1) := dk_46 (dk_at dksX3_bursts_2 22 rfl rfl)
theorem dX3_bursts_70 : decode cX3_bursts 70 = .ok (.aload_n 0, 1) := dk_42 (dk_at dksX3_bursts_2 23 rfl rfl)
theorem dX3_bursts_71 : decode cX3_bursts 71 = .ok (.getfield 37, 3) := dk_180 0 37 (dk_at dksX3_bursts_3 0 rfl rfl)
theorem dX3_bursts_74 : decode cX3_bursts 74 = .ok (.bipush 24, 2) := dk_16 24 (dk_at dksX3_bursts_3 3 rfl rfl)
theorem dX3_bursts_76 : decode cX3_bursts 76 = .ok (.iload_n 1, 1) := dk_27 (dk_at dksX3_bursts_3 5 rfl rfl)
theorem dX3_bursts_77 : decode cX3_bursts 77 = .ok (.imul, 1) := dk_104 (dk_at dksX3_bursts_3 6 rfl rfl)
theorem dX3_bursts_78 : decode cX3_bursts 78 = .ok (.iload 5, 2) := dk_21 5 (dk_at dksX3_bursts_3 7 rfl rfl)
theorem dX3_bursts_80 : decode cX3_bursts 80 = .ok (.iadd, 1) := dk_96 (dk_at dksX3_bursts_3 9 rfl rfl)
theorem dX3_bursts_81 : decode cX3_bursts 81 = .ok (.iaload, 1) := dk_46 (dk_at dksX3_bursts_3 10 rfl rfl)
theorem dX3_bursts_82 : decode cX3_bursts 82 = .ok (.iadd, 1) := dk_96 (dk_at dksX3_bursts_3 11 rfl rfl)
theorem dX3_bursts_83 : decode cX3_bursts 83 = .ok (.iadd, 1) := dk_96 (dk_at dksX3_bursts_3 12 rfl rfl)
theorem dX3_bursts_84 : decode cX3_bursts 84 = .ok (.istore 4, 2) := dk_54 4 (dk_at dksX3_bursts_3 13 rfl rfl)
theorem dX3_bursts_86 : decode cX3_bursts 86 = .ok (.iload 4, 2) := dk_21 4 (dk_at dksX3_bursts_3 15 rfl rfl)
theorem dX3_bursts_88 : decode cX3_bursts 88 = .ok (.aload_n 0, 1) := dk_42 (dk_at dksX3_bursts_3 17 rfl rfl)
theorem dX3_bursts_89 : decode cX3_bursts 89 = .ok (.getfield 9, 3) := dk_180 0 9 (dk_at dksX3_bursts_3 18 rfl rfl)
theorem dX3_bursts_92 : decode cX3_bursts 92 = .ok (.iload_n 3, 1) := dk_29 (dk_at dksX3_bursts_3 21 rfl rfl)
theorem dX3_bursts_93 : decode cX3_bursts 93 = .ok (.iaload, 1) := dk_46 (dk_at dksX3_bursts_3 22 rfl rfl)
theorem dX3_bursts_94 : decode cX3_bursts 94 = .ok (.if_icmp .le 6, 3) := dk_164 0 6 (dk_at dksX3_bursts_4 0 rfl rfl)
theorem dX3_bursts_97 : decode cX3_bursts 97 = .ok (.iload 5, 2) := dk_21 5 (dk_at dksX3_bursts_4 3 rfl rfl)
theorem dX3_bursts_99 : decode cX3_bursts 99 = .ok (.ireturn, 1) := dk_172 (dk_at dksX3_bursts_4 5 rfl rfl)
theorem dX3_bursts_100 : decode cX3_bursts 100 = .ok (.iinc 5 1, 3) := dk_132 5 1 (dk_at dksX3_bursts_4 6 rfl rfl)
theorem dX3_bursts_103 : decode cX3_bursts 103 = .ok (.goto (-68), 3) := dk_167 255 188 (dk_at dksX3_bursts_4 9 rfl rfl)
theorem dX3_bursts_106 : decode cX3_bursts 106 = .ok (.iconst (-1), 1) := dk_2 (dk_at dksX3_bursts_4 12 rfl rfl)
theorem dX3_bursts_107 : decode cX3_bursts 107 = .ok (.ireturn, 1) := dk_172 (dk_at dksX3_bursts_4 13 rfl rfl)
abbrev cX3_isBalloon : ByteArray := prog_26_method_45_code
def yX3_isBalloon : MethodName := ⟨RX3, "isBalloon", "(II)Z"⟩
def dkwX3_isBalloon_1 : List UInt8 := [4, 167, 0, 4, 3, 172]
abbrev dktX3_isBalloon_1 : List UInt8 := dkwX3_isBalloon_1 ++ []
def dkwX3_isBalloon_0 : List UInt8 := [42, 27, 182, 1, 28, 153, 0, 23, 28, 3, 42, 180, 0, 25, 27, 46, 4, 100, 184, 0, 121, 153, 0, 7]
abbrev dktX3_isBalloon_0 : List UInt8 := dkwX3_isBalloon_0 ++ dktX3_isBalloon_1
theorem dksX3_isBalloon_0 : cX3_isBalloon.data.toList.drop 0 = dktX3_isBalloon_0 := by decide +kernel
theorem dksX3_isBalloon_1 : cX3_isBalloon.data.toList.drop 24 = dktX3_isBalloon_1 := dk_seg dksX3_isBalloon_0 24 rfl rfl
theorem dX3_isBalloon_0 : decode cX3_isBalloon 0 = .ok (.aload_n 0, 1) := dk_42 (dk_at dksX3_isBalloon_0 0 rfl rfl)
theorem dX3_isBalloon_1 : decode cX3_isBalloon 1 = .ok (.iload_n 1, 1) := dk_27 (dk_at dksX3_isBalloon_0 1 rfl rfl)
theorem dX3_isBalloon_2 : decode cX3_isBalloon 2 = .ok (.invokevirtual 284, 3) := dk_182 1 28 (dk_at dksX3_isBalloon_0 2 rfl rfl)
theorem dX3_isBalloon_5 : decode cX3_isBalloon 5 = .ok (.ifCond .eq 23, 3) := dk_153 0 23 (dk_at dksX3_isBalloon_0 5 rfl rfl)
theorem dX3_isBalloon_8 : decode cX3_isBalloon 8 = .ok (.iload_n 2, 1) := dk_28 (dk_at dksX3_isBalloon_0 8 rfl rfl)
theorem dX3_isBalloon_9 : decode cX3_isBalloon 9 = .ok (.iconst 0, 1) := dk_3 (dk_at dksX3_isBalloon_0 9 rfl rfl)
theorem dX3_isBalloon_10 : decode cX3_isBalloon 10 = .ok (.aload_n 0, 1) := dk_42 (dk_at dksX3_isBalloon_0 10 rfl rfl)
theorem dX3_isBalloon_11 : decode cX3_isBalloon 11 = .ok (.getfield 25, 3) := dk_180 0 25 (dk_at dksX3_isBalloon_0 11 rfl rfl)
theorem dX3_isBalloon_14 : decode cX3_isBalloon 14 = .ok (.iload_n 1, 1) := dk_27 (dk_at dksX3_isBalloon_0 14 rfl rfl)
theorem dX3_isBalloon_15 : decode cX3_isBalloon 15 = .ok (.iaload, 1) := dk_46 (dk_at dksX3_isBalloon_0 15 rfl rfl)
theorem dX3_isBalloon_16 : decode cX3_isBalloon 16 = .ok (.iconst 1, 1) := dk_4 (dk_at dksX3_isBalloon_0 16 rfl rfl)
theorem dX3_isBalloon_17 : decode cX3_isBalloon 17 = .ok (.isub, 1) := dk_100 (dk_at dksX3_isBalloon_0 17 rfl rfl)
theorem dX3_isBalloon_18 : decode cX3_isBalloon 18 = .ok (.invokestatic 121, 3) := dk_184 0 121 (dk_at dksX3_isBalloon_0 18 rfl rfl)
theorem dX3_isBalloon_21 : decode cX3_isBalloon 21 = .ok (.ifCond .eq 7, 3) := dk_153 0 7 (dk_at dksX3_isBalloon_0 21 rfl rfl)
theorem dX3_isBalloon_24 : decode cX3_isBalloon 24 = .ok (.iconst 1, 1) := dk_4 (dk_at dksX3_isBalloon_1 0 rfl rfl)
theorem dX3_isBalloon_25 : decode cX3_isBalloon 25 = .ok (.goto 4, 3) := dk_167 0 4 (dk_at dksX3_isBalloon_1 1 rfl rfl)
theorem dX3_isBalloon_28 : decode cX3_isBalloon 28 = .ok (.iconst 0, 1) := dk_3 (dk_at dksX3_isBalloon_1 4 rfl rfl)
theorem dX3_isBalloon_29 : decode cX3_isBalloon 29 = .ok (.ireturn, 1) := dk_172 (dk_at dksX3_isBalloon_1 5 rfl rfl)
abbrev cX3_rest : ByteArray := prog_26_method_56_code
def yX3_rest : MethodName := ⟨RX3, "rest", "(II)I"⟩
def dkwX3_rest_4 : List UInt8 := [42, 180, 0, 13, 29, 46, 3, 21, 5, 4, 100, 184, 0, 149, 104, 100, 184, 0, 149, 172]
abbrev dktX3_rest_4 : List UInt8 := dkwX3_rest_4 ++ []
def dkwX3_rest_3 : List UInt8 := [96, 46, 96, 54, 4, 132, 5, 1, 132, 6, 1, 167, 255, 206, 3, 42, 180, 0, 9, 29, 46, 21, 4, 100]
abbrev dktX3_rest_3 : List UInt8 := dkwX3_rest_3 ++ dktX3_rest_4
def dkwX3_rest_2 : List UInt8 := [16, 24, 27, 104, 21, 6, 96, 46, 28, 160, 0, 23, 21, 4, 42, 180, 0, 37, 16, 24, 27, 104, 21, 6]
abbrev dktX3_rest_2 : List UInt8 := dkwX3_rest_2 ++ dktX3_rest_3
def dkwX3_rest_1 : List UInt8 := [54, 4, 3, 54, 5, 3, 54, 6, 21, 6, 42, 180, 0, 31, 27, 46, 162, 0, 45, 42, 180, 0, 46]
abbrev dktX3_rest_1 : List UInt8 := dkwX3_rest_1 ++ dktX3_rest_2
def dkwX3_rest_0 : List UInt8 := [42, 27, 28, 182, 1, 54, 154, 0, 5, 2, 172, 42, 180, 0, 28, 16, 6, 27, 104, 28, 96, 46, 62, 3]
abbrev dktX3_rest_0 : List UInt8 := dkwX3_rest_0 ++ dktX3_rest_1
theorem dksX3_rest_0 : cX3_rest.data.toList.drop 0 = dktX3_rest_0 := by decide +kernel
theorem dksX3_rest_1 : cX3_rest.data.toList.drop 24 = dktX3_rest_1 := dk_seg dksX3_rest_0 24 rfl rfl
theorem dksX3_rest_2 : cX3_rest.data.toList.drop 47 = dktX3_rest_2 := dk_seg dksX3_rest_1 23 rfl rfl
theorem dksX3_rest_3 : cX3_rest.data.toList.drop 71 = dktX3_rest_3 := dk_seg dksX3_rest_2 24 rfl rfl
theorem dksX3_rest_4 : cX3_rest.data.toList.drop 95 = dktX3_rest_4 := dk_seg dksX3_rest_3 24 rfl rfl
theorem dX3_rest_0 : decode cX3_rest 0 = .ok (.aload_n 0, 1) := dk_42 (dk_at dksX3_rest_0 0 rfl rfl)
theorem dX3_rest_1 : decode cX3_rest 1 = .ok (.iload_n 1, 1) := dk_27 (dk_at dksX3_rest_0 1 rfl rfl)
theorem dX3_rest_2 : decode cX3_rest 2 = .ok (.iload_n 2, 1) := dk_28 (dk_at dksX3_rest_0 2 rfl rfl)
theorem dX3_rest_3 : decode cX3_rest 3 = .ok (.invokevirtual 310, 3) := dk_182 1 54 (dk_at dksX3_rest_0 3 rfl rfl)
theorem dX3_rest_6 : decode cX3_rest 6 = .ok (.ifCond .ne 5, 3) := dk_154 0 5 (dk_at dksX3_rest_0 6 rfl rfl)
theorem dX3_rest_9 : decode cX3_rest 9 = .ok (.iconst (-1), 1) := dk_2 (dk_at dksX3_rest_0 9 rfl rfl)
theorem dX3_rest_10 : decode cX3_rest 10 = .ok (.ireturn, 1) := dk_172 (dk_at dksX3_rest_0 10 rfl rfl)
theorem dX3_rest_11 : decode cX3_rest 11 = .ok (.aload_n 0, 1) := dk_42 (dk_at dksX3_rest_0 11 rfl rfl)
theorem dX3_rest_12 : decode cX3_rest 12 = .ok (.getfield 28, 3) := dk_180 0 28 (dk_at dksX3_rest_0 12 rfl rfl)
theorem dX3_rest_15 : decode cX3_rest 15 = .ok (.bipush 6, 2) := dk_16 6 (dk_at dksX3_rest_0 15 rfl rfl)
theorem dX3_rest_17 : decode cX3_rest 17 = .ok (.iload_n 1, 1) := dk_27 (dk_at dksX3_rest_0 17 rfl rfl)
theorem dX3_rest_18 : decode cX3_rest 18 = .ok (.imul, 1) := dk_104 (dk_at dksX3_rest_0 18 rfl rfl)
theorem dX3_rest_19 : decode cX3_rest 19 = .ok (.iload_n 2, 1) := dk_28 (dk_at dksX3_rest_0 19 rfl rfl)
theorem dX3_rest_20 : decode cX3_rest 20 = .ok (.iadd, 1) := dk_96 (dk_at dksX3_rest_0 20 rfl rfl)
theorem dX3_rest_21 : decode cX3_rest 21 = .ok (.iaload, 1) := dk_46 (dk_at dksX3_rest_0 21 rfl rfl)
theorem dX3_rest_22 : decode cX3_rest 22 = .ok (.istore_n 3, 1) := dk_62 (dk_at dksX3_rest_0 22 rfl rfl)
theorem dX3_rest_23 : decode cX3_rest 23 = .ok (.iconst 0, 1) := dk_3 (dk_at dksX3_rest_0 23 rfl rfl)
theorem dX3_rest_24 : decode cX3_rest 24 = .ok (.istore 4, 2) := dk_54 4 (dk_at dksX3_rest_1 0 rfl rfl)
theorem dX3_rest_26 : decode cX3_rest 26 = .ok (.iconst 0, 1) := dk_3 (dk_at dksX3_rest_1 2 rfl rfl)
theorem dX3_rest_27 : decode cX3_rest 27 = .ok (.istore 5, 2) := dk_54 5 (dk_at dksX3_rest_1 3 rfl rfl)
theorem dX3_rest_29 : decode cX3_rest 29 = .ok (.iconst 0, 1) := dk_3 (dk_at dksX3_rest_1 5 rfl rfl)
theorem dX3_rest_30 : decode cX3_rest 30 = .ok (.istore 6, 2) := dk_54 6 (dk_at dksX3_rest_1 6 rfl rfl)
theorem dX3_rest_32 : decode cX3_rest 32 = .ok (.iload 6, 2) := dk_21 6 (dk_at dksX3_rest_1 8 rfl rfl)
theorem dX3_rest_34 : decode cX3_rest 34 = .ok (.aload_n 0, 1) := dk_42 (dk_at dksX3_rest_1 10 rfl rfl)
theorem dX3_rest_35 : decode cX3_rest 35 = .ok (.getfield 31, 3) := dk_180 0 31 (dk_at dksX3_rest_1 11 rfl rfl)
theorem dX3_rest_38 : decode cX3_rest 38 = .ok (.iload_n 1, 1) := dk_27 (dk_at dksX3_rest_1 14 rfl rfl)
theorem dX3_rest_39 : decode cX3_rest 39 = .ok (.iaload, 1) := dk_46 (dk_at dksX3_rest_1 15 rfl rfl)
theorem dX3_rest_40 : decode cX3_rest 40 = .ok (.if_icmp .ge 45, 3) := dk_162 0 45 (dk_at dksX3_rest_1 16 rfl rfl)
theorem dX3_rest_43 : decode cX3_rest 43 = .ok (.aload_n 0, 1) := dk_42 (dk_at dksX3_rest_1 19 rfl rfl)
theorem dX3_rest_44 : decode cX3_rest 44 = .ok (.getfield 46, 3) := dk_180 0 46 (dk_at dksX3_rest_1 20 rfl rfl)
theorem dX3_rest_47 : decode cX3_rest 47 = .ok (.bipush 24, 2) := dk_16 24 (dk_at dksX3_rest_2 0 rfl rfl)
theorem dX3_rest_49 : decode cX3_rest 49 = .ok (.iload_n 1, 1) := dk_27 (dk_at dksX3_rest_2 2 rfl rfl)
theorem dX3_rest_50 : decode cX3_rest 50 = .ok (.imul, 1) := dk_104 (dk_at dksX3_rest_2 3 rfl rfl)
theorem dX3_rest_51 : decode cX3_rest 51 = .ok (.iload 6, 2) := dk_21 6 (dk_at dksX3_rest_2 4 rfl rfl)
theorem dX3_rest_53 : decode cX3_rest 53 = .ok (.iadd, 1) := dk_96 (dk_at dksX3_rest_2 6 rfl rfl)
theorem dX3_rest_54 : decode cX3_rest 54 = .ok (.iaload, 1) := dk_46 (dk_at dksX3_rest_2 7 rfl rfl)
theorem dX3_rest_55 : decode cX3_rest 55 = .ok (.iload_n 2, 1) := dk_28 (dk_at dksX3_rest_2 8 rfl rfl)
theorem dX3_rest_56 : decode cX3_rest 56 = .ok (.if_icmp .ne 23, 3) := dk_160 0 23 (dk_at dksX3_rest_2 9 rfl rfl)
theorem dX3_rest_59 : decode cX3_rest 59 = .ok (.iload 4, 2) := dk_21 4 (dk_at dksX3_rest_2 12 rfl rfl)
theorem dX3_rest_61 : decode cX3_rest 61 = .ok (.aload_n 0, 1) := dk_42 (dk_at dksX3_rest_2 14 rfl rfl)
theorem dX3_rest_62 : decode cX3_rest 62 = .ok (.getfield 37, 3) := dk_180 0 37 (dk_at dksX3_rest_2 15 rfl rfl)
theorem dX3_rest_65 : decode cX3_rest 65 = .ok (.bipush 24, 2) := dk_16 24 (dk_at dksX3_rest_2 18 rfl rfl)
theorem dX3_rest_67 : decode cX3_rest 67 = .ok (.iload_n 1, 1) := dk_27 (dk_at dksX3_rest_2 20 rfl rfl)
theorem dX3_rest_68 : decode cX3_rest 68 = .ok (.imul, 1) := dk_104 (dk_at dksX3_rest_2 21 rfl rfl)
theorem dX3_rest_69 : decode cX3_rest 69 = .ok (.iload 6, 2) := dk_21 6 (dk_at dksX3_rest_2 22 rfl rfl)
theorem dX3_rest_71 : decode cX3_rest 71 = .ok (.iadd, 1) := dk_96 (dk_at dksX3_rest_3 0 rfl rfl)
theorem dX3_rest_72 : decode cX3_rest 72 = .ok (.iaload, 1) := dk_46 (dk_at dksX3_rest_3 1 rfl rfl)
theorem dX3_rest_73 : decode cX3_rest 73 = .ok (.iadd, 1) := dk_96 (dk_at dksX3_rest_3 2 rfl rfl)
theorem dX3_rest_74 : decode cX3_rest 74 = .ok (.istore 4, 2) := dk_54 4 (dk_at dksX3_rest_3 3 rfl rfl)
theorem dX3_rest_76 : decode cX3_rest 76 = .ok (.iinc 5 1, 3) := dk_132 5 1 (dk_at dksX3_rest_3 5 rfl rfl)
theorem dX3_rest_79 : decode cX3_rest 79 = .ok (.iinc 6 1, 3) := dk_132 6 1 (dk_at dksX3_rest_3 8 rfl rfl)
theorem dX3_rest_82 : decode cX3_rest 82 = .ok (.goto (-50), 3) := dk_167 255 206 (dk_at dksX3_rest_3 11 rfl rfl)
theorem dX3_rest_85 : decode cX3_rest 85 = .ok (.iconst 0, 1) := dk_3 (dk_at dksX3_rest_3 14 rfl rfl)
theorem dX3_rest_86 : decode cX3_rest 86 = .ok (.aload_n 0, 1) := dk_42 (dk_at dksX3_rest_3 15 rfl rfl)
theorem dX3_rest_87 : decode cX3_rest 87 = .ok (.getfield 9, 3) := dk_180 0 9 (dk_at dksX3_rest_3 16 rfl rfl)
theorem dX3_rest_90 : decode cX3_rest 90 = .ok (.iload_n 3, 1) := dk_29 (dk_at dksX3_rest_3 19 rfl rfl)
theorem dX3_rest_91 : decode cX3_rest 91 = .ok (.iaload, 1) := dk_46 (dk_at dksX3_rest_3 20 rfl rfl)
theorem dX3_rest_92 : decode cX3_rest 92 = .ok (.iload 4, 2) := dk_21 4 (dk_at dksX3_rest_3 21 rfl rfl)
theorem dX3_rest_94 : decode cX3_rest 94 = .ok (.isub, 1) := dk_100 (dk_at dksX3_rest_3 23 rfl rfl)
theorem dX3_rest_95 : decode cX3_rest 95 = .ok (.aload_n 0, 1) := dk_42 (dk_at dksX3_rest_4 0 rfl rfl)
theorem dX3_rest_96 : decode cX3_rest 96 = .ok (.getfield 13, 3) := dk_180 0 13 (dk_at dksX3_rest_4 1 rfl rfl)
theorem dX3_rest_99 : decode cX3_rest 99 = .ok (.iload_n 3, 1) := dk_29 (dk_at dksX3_rest_4 4 rfl rfl)
theorem dX3_rest_100 : decode cX3_rest 100 = .ok (.iaload, 1) := dk_46 (dk_at dksX3_rest_4 5 rfl rfl)
theorem dX3_rest_101 : decode cX3_rest 101 = .ok (.iconst 0, 1) := dk_3 (dk_at dksX3_rest_4 6 rfl rfl)
theorem dX3_rest_102 : decode cX3_rest 102 = .ok (.iload 5, 2) := dk_21 5 (dk_at dksX3_rest_4 7 rfl rfl)
theorem dX3_rest_104 : decode cX3_rest 104 = .ok (.iconst 1, 1) := dk_4 (dk_at dksX3_rest_4 9 rfl rfl)
theorem dX3_rest_105 : decode cX3_rest 105 = .ok (.isub, 1) := dk_100 (dk_at dksX3_rest_4 10 rfl rfl)
theorem dX3_rest_106 : decode cX3_rest 106 = .ok (.invokestatic 149, 3) := dk_184 0 149 (dk_at dksX3_rest_4 11 rfl rfl)
theorem dX3_rest_109 : decode cX3_rest 109 = .ok (.imul, 1) := dk_104 (dk_at dksX3_rest_4 14 rfl rfl)
theorem dX3_rest_110 : decode cX3_rest 110 = .ok (.isub, 1) := dk_100 (dk_at dksX3_rest_4 15 rfl rfl)
theorem dX3_rest_111 : decode cX3_rest 111 = .ok (.invokestatic 149, 3) := dk_184 0 149 (dk_at dksX3_rest_4 16 rfl rfl)
theorem dX3_rest_114 : decode cX3_rest 114 = .ok (.ireturn, 1) := dk_172 (dk_at dksX3_rest_4 19 rfl rfl)
abbrev cX3_hands : ByteArray := prog_26_method_57_code
def yX3_hands : MethodName := ⟨RX3, "hands", "(I)I"⟩
def dkwX3_hands_0 : List UInt8 := [42, 27, 182, 1, 28, 153, 0, 12, 42, 180, 0, 49, 27, 46, 167, 0, 4, 2, 172]
abbrev dktX3_hands_0 : List UInt8 := dkwX3_hands_0 ++ []
theorem dksX3_hands_0 : cX3_hands.data.toList.drop 0 = dktX3_hands_0 := by decide +kernel
theorem dX3_hands_0 : decode cX3_hands 0 = .ok (.aload_n 0, 1) := dk_42 (dk_at dksX3_hands_0 0 rfl rfl)
theorem dX3_hands_1 : decode cX3_hands 1 = .ok (.iload_n 1, 1) := dk_27 (dk_at dksX3_hands_0 1 rfl rfl)
theorem dX3_hands_2 : decode cX3_hands 2 = .ok (.invokevirtual 284, 3) := dk_182 1 28 (dk_at dksX3_hands_0 2 rfl rfl)
theorem dX3_hands_5 : decode cX3_hands 5 = .ok (.ifCond .eq 12, 3) := dk_153 0 12 (dk_at dksX3_hands_0 5 rfl rfl)
theorem dX3_hands_8 : decode cX3_hands 8 = .ok (.aload_n 0, 1) := dk_42 (dk_at dksX3_hands_0 8 rfl rfl)
theorem dX3_hands_9 : decode cX3_hands 9 = .ok (.getfield 49, 3) := dk_180 0 49 (dk_at dksX3_hands_0 9 rfl rfl)
theorem dX3_hands_12 : decode cX3_hands 12 = .ok (.iload_n 1, 1) := dk_27 (dk_at dksX3_hands_0 12 rfl rfl)
theorem dX3_hands_13 : decode cX3_hands 13 = .ok (.iaload, 1) := dk_46 (dk_at dksX3_hands_0 13 rfl rfl)
theorem dX3_hands_14 : decode cX3_hands 14 = .ok (.goto 4, 3) := dk_167 0 4 (dk_at dksX3_hands_0 14 rfl rfl)
theorem dX3_hands_17 : decode cX3_hands 17 = .ok (.iconst (-1), 1) := dk_2 (dk_at dksX3_hands_0 17 rfl rfl)
theorem dX3_hands_18 : decode cX3_hands 18 = .ok (.ireturn, 1) := dk_172 (dk_at dksX3_hands_0 18 rfl rfl)
abbrev cX3_holds : ByteArray := prog_26_method_58_code
def yX3_holds : MethodName := ⟨RX3, "holds", "(II)I"⟩
def dkwX3_holds_1 : List UInt8 := [153, 0, 7, 3, 167, 0, 8, 4, 167, 0, 4, 2, 172]
abbrev dktX3_holds_1 : List UInt8 := dkwX3_holds_1 ++ []
def dkwX3_holds_0 : List UInt8 := [42, 27, 28, 182, 1, 48, 153, 0, 29, 42, 27, 28, 182, 1, 38, 153, 0, 20, 42, 27, 28, 182, 1, 42]
abbrev dktX3_holds_0 : List UInt8 := dkwX3_holds_0 ++ dktX3_holds_1
theorem dksX3_holds_0 : cX3_holds.data.toList.drop 0 = dktX3_holds_0 := by decide +kernel
theorem dksX3_holds_1 : cX3_holds.data.toList.drop 24 = dktX3_holds_1 := dk_seg dksX3_holds_0 24 rfl rfl
theorem dX3_holds_0 : decode cX3_holds 0 = .ok (.aload_n 0, 1) := dk_42 (dk_at dksX3_holds_0 0 rfl rfl)
theorem dX3_holds_1 : decode cX3_holds 1 = .ok (.iload_n 1, 1) := dk_27 (dk_at dksX3_holds_0 1 rfl rfl)
theorem dX3_holds_2 : decode cX3_holds 2 = .ok (.iload_n 2, 1) := dk_28 (dk_at dksX3_holds_0 2 rfl rfl)
theorem dX3_holds_3 : decode cX3_holds 3 = .ok (.invokevirtual 304, 3) := dk_182 1 48 (dk_at dksX3_holds_0 3 rfl rfl)
theorem dX3_holds_6 : decode cX3_holds 6 = .ok (.ifCond .eq 29, 3) := dk_153 0 29 (dk_at dksX3_holds_0 6 rfl rfl)
theorem dX3_holds_9 : decode cX3_holds 9 = .ok (.aload_n 0, 1) := dk_42 (dk_at dksX3_holds_0 9 rfl rfl)
theorem dX3_holds_10 : decode cX3_holds 10 = .ok (.iload_n 1, 1) := dk_27 (dk_at dksX3_holds_0 10 rfl rfl)
theorem dX3_holds_11 : decode cX3_holds 11 = .ok (.iload_n 2, 1) := dk_28 (dk_at dksX3_holds_0 11 rfl rfl)
theorem dX3_holds_12 : decode cX3_holds 12 = .ok (.invokevirtual 294, 3) := dk_182 1 38 (dk_at dksX3_holds_0 12 rfl rfl)
theorem dX3_holds_15 : decode cX3_holds 15 = .ok (.ifCond .eq 20, 3) := dk_153 0 20 (dk_at dksX3_holds_0 15 rfl rfl)
theorem dX3_holds_18 : decode cX3_holds 18 = .ok (.aload_n 0, 1) := dk_42 (dk_at dksX3_holds_0 18 rfl rfl)
theorem dX3_holds_19 : decode cX3_holds 19 = .ok (.iload_n 1, 1) := dk_27 (dk_at dksX3_holds_0 19 rfl rfl)
theorem dX3_holds_20 : decode cX3_holds 20 = .ok (.iload_n 2, 1) := dk_28 (dk_at dksX3_holds_0 20 rfl rfl)
theorem dX3_holds_21 : decode cX3_holds 21 = .ok (.invokevirtual 298, 3) := dk_182 1 42 (dk_at dksX3_holds_0 21 rfl rfl)
theorem dX3_holds_24 : decode cX3_holds 24 = .ok (.ifCond .eq 7, 3) := dk_153 0 7 (dk_at dksX3_holds_1 0 rfl rfl)
theorem dX3_holds_27 : decode cX3_holds 27 = .ok (.iconst 0, 1) := dk_3 (dk_at dksX3_holds_1 3 rfl rfl)
theorem dX3_holds_28 : decode cX3_holds 28 = .ok (.goto 8, 3) := dk_167 0 8 (dk_at dksX3_holds_1 4 rfl rfl)
theorem dX3_holds_31 : decode cX3_holds 31 = .ok (.iconst 1, 1) := dk_4 (dk_at dksX3_holds_1 7 rfl rfl)
theorem dX3_holds_32 : decode cX3_holds 32 = .ok (.goto 4, 3) := dk_167 0 4 (dk_at dksX3_holds_1 8 rfl rfl)
theorem dX3_holds_35 : decode cX3_holds 35 = .ok (.iconst (-1), 1) := dk_2 (dk_at dksX3_holds_1 11 rfl rfl)
theorem dX3_holds_36 : decode cX3_holds 36 = .ok (.ireturn, 1) := dk_172 (dk_at dksX3_holds_1 12 rfl rfl)
abbrev cX3_plain : ByteArray := prog_26_method_63_code
def yX3_plain : MethodName := ⟨RX3, "plain", "(I)I"⟩
def dkwX3_plain_10 : List UInt8 := [167, 255, 131, 42, 42, 180, 0, 34, 27, 46, 182, 1, 67, 42, 180, 0, 252, 4, 100, 172]
abbrev dktX3_plain_10 : List UInt8 := dkwX3_plain_10 ++ []
def dkwX3_plain_9 : List UInt8 := [16, 24, 27, 104, 28, 96, 46, 42, 180, 0, 43, 21, 4, 46, 182, 1, 63, 29, 4, 96, 61, 132, 3, 1]
abbrev dktX3_plain_9 : List UInt8 := dkwX3_plain_9 ++ dktX3_plain_10
def dkwX3_plain_8 : List UInt8 := [46, 96, 54, 5, 132, 6, 1, 167, 255, 230, 42, 21, 5, 42, 180, 0, 46, 21, 4, 46, 42, 180, 0, 40]
abbrev dktX3_plain_8 : List UInt8 := dkwX3_plain_8 ++ dktX3_plain_9
def dkwX3_plain_7 : List UInt8 := [54, 5, 28, 54, 6, 21, 6, 29, 163, 0, 26, 21, 5, 42, 180, 0, 37, 16, 24, 27, 104, 21, 6, 96]
abbrev dktX3_plain_7 : List UInt8 := dkwX3_plain_7 ++ dktX3_plain_8
def dkwX3_plain_6 : List UInt8 := [182, 1, 42, 153, 0, 19, 42, 180, 0, 52, 42, 180, 0, 43, 21, 4, 46, 2, 79, 167, 0, 73, 3]
abbrev dktX3_plain_6 : List UInt8 := dkwX3_plain_6 ++ dktX3_plain_7
def dkwX3_plain_5 : List UInt8 := [162, 0, 121, 16, 24, 27, 104, 29, 96, 54, 4, 42, 27, 29, 182, 1, 38, 153, 0, 28, 42, 27, 29]
abbrev dktX3_plain_5 : List UInt8 := dkwX3_plain_5 ++ dktX3_plain_6
def dkwX3_plain_4 : List UInt8 := [180, 0, 52, 28, 28, 79, 132, 2, 1, 167, 255, 236, 3, 61, 3, 62, 29, 42, 180, 0, 31, 27, 46]
abbrev dktX3_plain_4 : List UInt8 := dkwX3_plain_4 ++ dktX3_plain_5
def dkwX3_plain_3 : List UInt8 := [180, 0, 252, 42, 180, 0, 25, 27, 46, 79, 3, 61, 28, 42, 180, 0, 34, 27, 46, 162, 0, 16, 42]
abbrev dktX3_plain_3 : List UInt8 := dkwX3_plain_3 ++ dktX3_plain_4
def dkwX3_plain_2 : List UInt8 := [42, 180, 0, 28, 16, 6, 27, 104, 28, 96, 46, 79, 132, 2, 1, 167, 255, 218, 42, 180, 0, 25, 42]
abbrev dktX3_plain_2 : List UInt8 := dkwX3_plain_2 ++ dktX3_plain_3
def dkwX3_plain_1 : List UInt8 := [61, 28, 42, 180, 0, 25, 27, 46, 162, 0, 34, 42, 180, 0, 28, 16, 6, 42, 180, 0, 252, 104, 28, 96]
abbrev dktX3_plain_1 : List UInt8 := dkwX3_plain_1 ++ dktX3_plain_2
def dkwX3_plain_0 : List UInt8 := [42, 27, 182, 1, 28, 153, 0, 12, 42, 180, 0, 252, 16, 12, 160, 0, 5, 2, 172, 42, 182, 1, 60, 3]
abbrev dktX3_plain_0 : List UInt8 := dkwX3_plain_0 ++ dktX3_plain_1
theorem dksX3_plain_0 : cX3_plain.data.toList.drop 0 = dktX3_plain_0 := by decide +kernel
theorem dksX3_plain_1 : cX3_plain.data.toList.drop 24 = dktX3_plain_1 := dk_seg dksX3_plain_0 24 rfl rfl
theorem dksX3_plain_2 : cX3_plain.data.toList.drop 48 = dktX3_plain_2 := dk_seg dksX3_plain_1 24 rfl rfl
theorem dksX3_plain_3 : cX3_plain.data.toList.drop 71 = dktX3_plain_3 := dk_seg dksX3_plain_2 23 rfl rfl
theorem dksX3_plain_4 : cX3_plain.data.toList.drop 94 = dktX3_plain_4 := dk_seg dksX3_plain_3 23 rfl rfl
theorem dksX3_plain_5 : cX3_plain.data.toList.drop 117 = dktX3_plain_5 := dk_seg dksX3_plain_4 23 rfl rfl
theorem dksX3_plain_6 : cX3_plain.data.toList.drop 140 = dktX3_plain_6 := dk_seg dksX3_plain_5 23 rfl rfl
theorem dksX3_plain_7 : cX3_plain.data.toList.drop 163 = dktX3_plain_7 := dk_seg dksX3_plain_6 23 rfl rfl
theorem dksX3_plain_8 : cX3_plain.data.toList.drop 187 = dktX3_plain_8 := dk_seg dksX3_plain_7 24 rfl rfl
theorem dksX3_plain_9 : cX3_plain.data.toList.drop 211 = dktX3_plain_9 := dk_seg dksX3_plain_8 24 rfl rfl
theorem dksX3_plain_10 : cX3_plain.data.toList.drop 235 = dktX3_plain_10 := dk_seg dksX3_plain_9 24 rfl rfl
theorem dX3_plain_0 : decode cX3_plain 0 = .ok (.aload_n 0, 1) := dk_42 (dk_at dksX3_plain_0 0 rfl rfl)
theorem dX3_plain_1 : decode cX3_plain 1 = .ok (.iload_n 1, 1) := dk_27 (dk_at dksX3_plain_0 1 rfl rfl)
theorem dX3_plain_2 : decode cX3_plain 2 = .ok (.invokevirtual 284, 3) := dk_182 1 28 (dk_at dksX3_plain_0 2 rfl rfl)
theorem dX3_plain_5 : decode cX3_plain 5 = .ok (.ifCond .eq 12, 3) := dk_153 0 12 (dk_at dksX3_plain_0 5 rfl rfl)
theorem dX3_plain_8 : decode cX3_plain 8 = .ok (.aload_n 0, 1) := dk_42 (dk_at dksX3_plain_0 8 rfl rfl)
theorem dX3_plain_9 : decode cX3_plain 9 = .ok (.getfield 252, 3) := dk_180 0 252 (dk_at dksX3_plain_0 9 rfl rfl)
theorem dX3_plain_12 : decode cX3_plain 12 = .ok (.bipush 12, 2) := dk_16 12 (dk_at dksX3_plain_0 12 rfl rfl)
theorem dX3_plain_14 : decode cX3_plain 14 = .ok (.if_icmp .ne 5, 3) := dk_160 0 5 (dk_at dksX3_plain_0 14 rfl rfl)
theorem dX3_plain_17 : decode cX3_plain 17 = .ok (.iconst (-1), 1) := dk_2 (dk_at dksX3_plain_0 17 rfl rfl)
theorem dX3_plain_18 : decode cX3_plain 18 = .ok (.ireturn, 1) := dk_172 (dk_at dksX3_plain_0 18 rfl rfl)
theorem dX3_plain_19 : decode cX3_plain 19 = .ok (.aload_n 0, 1) := dk_42 (dk_at dksX3_plain_0 19 rfl rfl)
theorem dX3_plain_20 : decode cX3_plain 20 = .ok (.invokevirtual 316, 3) := dk_182 1 60 (dk_at dksX3_plain_0 20 rfl rfl)
theorem dX3_plain_23 : decode cX3_plain 23 = .ok (.iconst 0, 1) := dk_3 (dk_at dksX3_plain_0 23 rfl rfl)
theorem dX3_plain_24 : decode cX3_plain 24 = .ok (.istore_n 2, 1) := dk_61 (dk_at dksX3_plain_1 0 rfl rfl)
theorem dX3_plain_25 : decode cX3_plain 25 = .ok (.iload_n 2, 1) := dk_28 (dk_at dksX3_plain_1 1 rfl rfl)
theorem dX3_plain_26 : decode cX3_plain 26 = .ok (.aload_n 0, 1) := dk_42 (dk_at dksX3_plain_1 2 rfl rfl)
theorem dX3_plain_27 : decode cX3_plain 27 = .ok (.getfield 25, 3) := dk_180 0 25 (dk_at dksX3_plain_1 3 rfl rfl)
theorem dX3_plain_30 : decode cX3_plain 30 = .ok (.iload_n 1, 1) := dk_27 (dk_at dksX3_plain_1 6 rfl rfl)
theorem dX3_plain_31 : decode cX3_plain 31 = .ok (.iaload, 1) := dk_46 (dk_at dksX3_plain_1 7 rfl rfl)
theorem dX3_plain_32 : decode cX3_plain 32 = .ok (.if_icmp .ge 34, 3) := dk_162 0 34 (dk_at dksX3_plain_1 8 rfl rfl)
theorem dX3_plain_35 : decode cX3_plain 35 = .ok (.aload_n 0, 1) := dk_42 (dk_at dksX3_plain_1 11 rfl rfl)
theorem dX3_plain_36 : decode cX3_plain 36 = .ok (.getfield 28, 3) := dk_180 0 28 (dk_at dksX3_plain_1 12 rfl rfl)
theorem dX3_plain_39 : decode cX3_plain 39 = .ok (.bipush 6, 2) := dk_16 6 (dk_at dksX3_plain_1 15 rfl rfl)
theorem dX3_plain_41 : decode cX3_plain 41 = .ok (.aload_n 0, 1) := dk_42 (dk_at dksX3_plain_1 17 rfl rfl)
theorem dX3_plain_42 : decode cX3_plain 42 = .ok (.getfield 252, 3) := dk_180 0 252 (dk_at dksX3_plain_1 18 rfl rfl)
theorem dX3_plain_45 : decode cX3_plain 45 = .ok (.imul, 1) := dk_104 (dk_at dksX3_plain_1 21 rfl rfl)
theorem dX3_plain_46 : decode cX3_plain 46 = .ok (.iload_n 2, 1) := dk_28 (dk_at dksX3_plain_1 22 rfl rfl)
theorem dX3_plain_47 : decode cX3_plain 47 = .ok (.iadd, 1) := dk_96 (dk_at dksX3_plain_1 23 rfl rfl)
theorem dX3_plain_48 : decode cX3_plain 48 = .ok (.aload_n 0, 1) := dk_42 (dk_at dksX3_plain_2 0 rfl rfl)
theorem dX3_plain_49 : decode cX3_plain 49 = .ok (.getfield 28, 3) := dk_180 0 28 (dk_at dksX3_plain_2 1 rfl rfl)
theorem dX3_plain_52 : decode cX3_plain 52 = .ok (.bipush 6, 2) := dk_16 6 (dk_at dksX3_plain_2 4 rfl rfl)
theorem dX3_plain_54 : decode cX3_plain 54 = .ok (.iload_n 1, 1) := dk_27 (dk_at dksX3_plain_2 6 rfl rfl)
theorem dX3_plain_55 : decode cX3_plain 55 = .ok (.imul, 1) := dk_104 (dk_at dksX3_plain_2 7 rfl rfl)
theorem dX3_plain_56 : decode cX3_plain 56 = .ok (.iload_n 2, 1) := dk_28 (dk_at dksX3_plain_2 8 rfl rfl)
theorem dX3_plain_57 : decode cX3_plain 57 = .ok (.iadd, 1) := dk_96 (dk_at dksX3_plain_2 9 rfl rfl)
theorem dX3_plain_58 : decode cX3_plain 58 = .ok (.iaload, 1) := dk_46 (dk_at dksX3_plain_2 10 rfl rfl)
theorem dX3_plain_59 : decode cX3_plain 59 = .ok (.iastore, 1) := dk_79 (dk_at dksX3_plain_2 11 rfl rfl)
theorem dX3_plain_60 : decode cX3_plain 60 = .ok (.iinc 2 1, 3) := dk_132 2 1 (dk_at dksX3_plain_2 12 rfl rfl)
theorem dX3_plain_63 : decode cX3_plain 63 = .ok (.goto (-38), 3) := dk_167 255 218 (dk_at dksX3_plain_2 15 rfl rfl)
theorem dX3_plain_66 : decode cX3_plain 66 = .ok (.aload_n 0, 1) := dk_42 (dk_at dksX3_plain_2 18 rfl rfl)
theorem dX3_plain_67 : decode cX3_plain 67 = .ok (.getfield 25, 3) := dk_180 0 25 (dk_at dksX3_plain_2 19 rfl rfl)
theorem dX3_plain_70 : decode cX3_plain 70 = .ok (.aload_n 0, 1) := dk_42 (dk_at dksX3_plain_2 22 rfl rfl)
theorem dX3_plain_71 : decode cX3_plain 71 = .ok (.getfield 252, 3) := dk_180 0 252 (dk_at dksX3_plain_3 0 rfl rfl)
theorem dX3_plain_74 : decode cX3_plain 74 = .ok (.aload_n 0, 1) := dk_42 (dk_at dksX3_plain_3 3 rfl rfl)
theorem dX3_plain_75 : decode cX3_plain 75 = .ok (.getfield 25, 3) := dk_180 0 25 (dk_at dksX3_plain_3 4 rfl rfl)
theorem dX3_plain_78 : decode cX3_plain 78 = .ok (.iload_n 1, 1) := dk_27 (dk_at dksX3_plain_3 7 rfl rfl)
theorem dX3_plain_79 : decode cX3_plain 79 = .ok (.iaload, 1) := dk_46 (dk_at dksX3_plain_3 8 rfl rfl)
theorem dX3_plain_80 : decode cX3_plain 80 = .ok (.iastore, 1) := dk_79 (dk_at dksX3_plain_3 9 rfl rfl)
theorem dX3_plain_81 : decode cX3_plain 81 = .ok (.iconst 0, 1) := dk_3 (dk_at dksX3_plain_3 10 rfl rfl)
theorem dX3_plain_82 : decode cX3_plain 82 = .ok (.istore_n 2, 1) := dk_61 (dk_at dksX3_plain_3 11 rfl rfl)
theorem dX3_plain_83 : decode cX3_plain 83 = .ok (.iload_n 2, 1) := dk_28 (dk_at dksX3_plain_3 12 rfl rfl)
theorem dX3_plain_84 : decode cX3_plain 84 = .ok (.aload_n 0, 1) := dk_42 (dk_at dksX3_plain_3 13 rfl rfl)
theorem dX3_plain_85 : decode cX3_plain 85 = .ok (.getfield 34, 3) := dk_180 0 34 (dk_at dksX3_plain_3 14 rfl rfl)
theorem dX3_plain_88 : decode cX3_plain 88 = .ok (.iload_n 1, 1) := dk_27 (dk_at dksX3_plain_3 17 rfl rfl)
theorem dX3_plain_89 : decode cX3_plain 89 = .ok (.iaload, 1) := dk_46 (dk_at dksX3_plain_3 18 rfl rfl)
theorem dX3_plain_90 : decode cX3_plain 90 = .ok (.if_icmp .ge 16, 3) := dk_162 0 16 (dk_at dksX3_plain_3 19 rfl rfl)
theorem dX3_plain_93 : decode cX3_plain 93 = .ok (.aload_n 0, 1) := dk_42 (dk_at dksX3_plain_3 22 rfl rfl)
theorem dX3_plain_94 : decode cX3_plain 94 = .ok (.getfield 52, 3) := dk_180 0 52 (dk_at dksX3_plain_4 0 rfl rfl)
theorem dX3_plain_97 : decode cX3_plain 97 = .ok (.iload_n 2, 1) := dk_28 (dk_at dksX3_plain_4 3 rfl rfl)
theorem dX3_plain_98 : decode cX3_plain 98 = .ok (.iload_n 2, 1) := dk_28 (dk_at dksX3_plain_4 4 rfl rfl)
theorem dX3_plain_99 : decode cX3_plain 99 = .ok (.iastore, 1) := dk_79 (dk_at dksX3_plain_4 5 rfl rfl)
theorem dX3_plain_100 : decode cX3_plain 100 = .ok (.iinc 2 1, 3) := dk_132 2 1 (dk_at dksX3_plain_4 6 rfl rfl)
theorem dX3_plain_103 : decode cX3_plain 103 = .ok (.goto (-20), 3) := dk_167 255 236 (dk_at dksX3_plain_4 9 rfl rfl)
theorem dX3_plain_106 : decode cX3_plain 106 = .ok (.iconst 0, 1) := dk_3 (dk_at dksX3_plain_4 12 rfl rfl)
theorem dX3_plain_107 : decode cX3_plain 107 = .ok (.istore_n 2, 1) := dk_61 (dk_at dksX3_plain_4 13 rfl rfl)
theorem dX3_plain_108 : decode cX3_plain 108 = .ok (.iconst 0, 1) := dk_3 (dk_at dksX3_plain_4 14 rfl rfl)
theorem dX3_plain_109 : decode cX3_plain 109 = .ok (.istore_n 3, 1) := dk_62 (dk_at dksX3_plain_4 15 rfl rfl)
theorem dX3_plain_110 : decode cX3_plain 110 = .ok (.iload_n 3, 1) := dk_29 (dk_at dksX3_plain_4 16 rfl rfl)
theorem dX3_plain_111 : decode cX3_plain 111 = .ok (.aload_n 0, 1) := dk_42 (dk_at dksX3_plain_4 17 rfl rfl)
theorem dX3_plain_112 : decode cX3_plain 112 = .ok (.getfield 31, 3) := dk_180 0 31 (dk_at dksX3_plain_4 18 rfl rfl)
theorem dX3_plain_115 : decode cX3_plain 115 = .ok (.iload_n 1, 1) := dk_27 (dk_at dksX3_plain_4 21 rfl rfl)
theorem dX3_plain_116 : decode cX3_plain 116 = .ok (.iaload, 1) := dk_46 (dk_at dksX3_plain_4 22 rfl rfl)
theorem dX3_plain_117 : decode cX3_plain 117 = .ok (.if_icmp .ge 121, 3) := dk_162 0 121 (dk_at dksX3_plain_5 0 rfl rfl)
theorem dX3_plain_120 : decode cX3_plain 120 = .ok (.bipush 24, 2) := dk_16 24 (dk_at dksX3_plain_5 3 rfl rfl)
theorem dX3_plain_122 : decode cX3_plain 122 = .ok (.iload_n 1, 1) := dk_27 (dk_at dksX3_plain_5 5 rfl rfl)
theorem dX3_plain_123 : decode cX3_plain 123 = .ok (.imul, 1) := dk_104 (dk_at dksX3_plain_5 6 rfl rfl)
theorem dX3_plain_124 : decode cX3_plain 124 = .ok (.iload_n 3, 1) := dk_29 (dk_at dksX3_plain_5 7 rfl rfl)
theorem dX3_plain_125 : decode cX3_plain 125 = .ok (.iadd, 1) := dk_96 (dk_at dksX3_plain_5 8 rfl rfl)
theorem dX3_plain_126 : decode cX3_plain 126 = .ok (.istore 4, 2) := dk_54 4 (dk_at dksX3_plain_5 9 rfl rfl)
theorem dX3_plain_128 : decode cX3_plain 128 = .ok (.aload_n 0, 1) := dk_42 (dk_at dksX3_plain_5 11 rfl rfl)
theorem dX3_plain_129 : decode cX3_plain 129 = .ok (.iload_n 1, 1) := dk_27 (dk_at dksX3_plain_5 12 rfl rfl)
theorem dX3_plain_130 : decode cX3_plain 130 = .ok (.iload_n 3, 1) := dk_29 (dk_at dksX3_plain_5 13 rfl rfl)
theorem dX3_plain_131 : decode cX3_plain 131 = .ok (.invokevirtual 294, 3) := dk_182 1 38 (dk_at dksX3_plain_5 14 rfl rfl)
theorem dX3_plain_134 : decode cX3_plain 134 = .ok (.ifCond .eq 28, 3) := dk_153 0 28 (dk_at dksX3_plain_5 17 rfl rfl)
theorem dX3_plain_137 : decode cX3_plain 137 = .ok (.aload_n 0, 1) := dk_42 (dk_at dksX3_plain_5 20 rfl rfl)
theorem dX3_plain_138 : decode cX3_plain 138 = .ok (.iload_n 1, 1) := dk_27 (dk_at dksX3_plain_5 21 rfl rfl)
theorem dX3_plain_139 : decode cX3_plain 139 = .ok (.iload_n 3, 1) := dk_29 (dk_at dksX3_plain_5 22 rfl rfl)
theorem dX3_plain_140 : decode cX3_plain 140 = .ok (.invokevirtual 298, 3) := dk_182 1 42 (dk_at dksX3_plain_6 0 rfl rfl)
theorem dX3_plain_143 : decode cX3_plain 143 = .ok (.ifCond .eq 19, 3) := dk_153 0 19 (dk_at dksX3_plain_6 3 rfl rfl)
theorem dX3_plain_146 : decode cX3_plain 146 = .ok (.aload_n 0, 1) := dk_42 (dk_at dksX3_plain_6 6 rfl rfl)
theorem dX3_plain_147 : decode cX3_plain 147 = .ok (.getfield 52, 3) := dk_180 0 52 (dk_at dksX3_plain_6 7 rfl rfl)
theorem dX3_plain_150 : decode cX3_plain 150 = .ok (.aload_n 0, 1) := dk_42 (dk_at dksX3_plain_6 10 rfl rfl)
theorem dX3_plain_151 : decode cX3_plain 151 = .ok (.getfield 43, 3) := dk_180 0 43 (dk_at dksX3_plain_6 11 rfl rfl)
theorem dX3_plain_154 : decode cX3_plain 154 = .ok (.iload 4, 2) := dk_21 4 (dk_at dksX3_plain_6 14 rfl rfl)
theorem dX3_plain_156 : decode cX3_plain 156 = .ok (.iaload, 1) := dk_46 (dk_at dksX3_plain_6 16 rfl rfl)
theorem dX3_plain_157 : decode cX3_plain 157 = .ok (.iconst (-1), 1) := dk_2 (dk_at dksX3_plain_6 17 rfl rfl)
theorem dX3_plain_158 : decode cX3_plain 158 = .ok (.iastore, 1) := dk_79 (dk_at dksX3_plain_6 18 rfl rfl)
theorem dX3_plain_159 : decode cX3_plain 159 = .ok (.goto 73, 3) := dk_167 0 73 (dk_at dksX3_plain_6 19 rfl rfl)
theorem dX3_plain_162 : decode cX3_plain 162 = .ok (.iconst 0, 1) := dk_3 (dk_at dksX3_plain_6 22 rfl rfl)
theorem dX3_plain_163 : decode cX3_plain 163 = .ok (.istore 5, 2) := dk_54 5 (dk_at dksX3_plain_7 0 rfl rfl)
theorem dX3_plain_165 : decode cX3_plain 165 = .ok (.iload_n 2, 1) := dk_28 (dk_at dksX3_plain_7 2 rfl rfl)
theorem dX3_plain_166 : decode cX3_plain 166 = .ok (.istore 6, 2) := dk_54 6 (dk_at dksX3_plain_7 3 rfl rfl)
theorem dX3_plain_168 : decode cX3_plain 168 = .ok (.iload 6, 2) := dk_21 6 (dk_at dksX3_plain_7 5 rfl rfl)
theorem dX3_plain_170 : decode cX3_plain 170 = .ok (.iload_n 3, 1) := dk_29 (dk_at dksX3_plain_7 7 rfl rfl)
theorem dX3_plain_171 : decode cX3_plain 171 = .ok (.if_icmp .gt 26, 3) := dk_163 0 26 (dk_at dksX3_plain_7 8 rfl rfl)
theorem dX3_plain_174 : decode cX3_plain 174 = .ok (.iload 5, 2) := dk_21 5 (dk_at dksX3_plain_7 11 rfl rfl)
theorem dX3_plain_176 : decode cX3_plain 176 = .ok (.aload_n 0, 1) := dk_42 (dk_at dksX3_plain_7 13 rfl rfl)
theorem dX3_plain_177 : decode cX3_plain 177 = .ok (.getfield 37, 3) := dk_180 0 37 (dk_at dksX3_plain_7 14 rfl rfl)
theorem dX3_plain_180 : decode cX3_plain 180 = .ok (.bipush 24, 2) := dk_16 24 (dk_at dksX3_plain_7 17 rfl rfl)
theorem dX3_plain_182 : decode cX3_plain 182 = .ok (.iload_n 1, 1) := dk_27 (dk_at dksX3_plain_7 19 rfl rfl)
theorem dX3_plain_183 : decode cX3_plain 183 = .ok (.imul, 1) := dk_104 (dk_at dksX3_plain_7 20 rfl rfl)
theorem dX3_plain_184 : decode cX3_plain 184 = .ok (.iload 6, 2) := dk_21 6 (dk_at dksX3_plain_7 21 rfl rfl)
theorem dX3_plain_186 : decode cX3_plain 186 = .ok (.iadd, 1) := dk_96 (dk_at dksX3_plain_7 23 rfl rfl)
theorem dX3_plain_187 : decode cX3_plain 187 = .ok (.iaload, 1) := dk_46 (dk_at dksX3_plain_8 0 rfl rfl)
theorem dX3_plain_188 : decode cX3_plain 188 = .ok (.iadd, 1) := dk_96 (dk_at dksX3_plain_8 1 rfl rfl)
theorem dX3_plain_189 : decode cX3_plain 189 = .ok (.istore 5, 2) := dk_54 5 (dk_at dksX3_plain_8 2 rfl rfl)
theorem dX3_plain_191 : decode cX3_plain 191 = .ok (.iinc 6 1, 3) := dk_132 6 1 (dk_at dksX3_plain_8 4 rfl rfl)
theorem dX3_plain_194 : decode cX3_plain 194 = .ok (.goto (-26), 3) := dk_167 255 230 (dk_at dksX3_plain_8 7 rfl rfl)
theorem dX3_plain_197 : decode cX3_plain 197 = .ok (.aload_n 0, 1) := dk_42 (dk_at dksX3_plain_8 10 rfl rfl)
theorem dX3_plain_198 : decode cX3_plain 198 = .ok (.iload 5, 2) := dk_21 5 (dk_at dksX3_plain_8 11 rfl rfl)
theorem dX3_plain_200 : decode cX3_plain 200 = .ok (.aload_n 0, 1) := dk_42 (dk_at dksX3_plain_8 13 rfl rfl)
theorem dX3_plain_201 : decode cX3_plain 201 = .ok (.getfield 46, 3) := dk_180 0 46 (dk_at dksX3_plain_8 14 rfl rfl)
theorem dX3_plain_204 : decode cX3_plain 204 = .ok (.iload 4, 2) := dk_21 4 (dk_at dksX3_plain_8 17 rfl rfl)
theorem dX3_plain_206 : decode cX3_plain 206 = .ok (.iaload, 1) := dk_46 (dk_at dksX3_plain_8 19 rfl rfl)
theorem dX3_plain_207 : decode cX3_plain 207 = .ok (.aload_n 0, 1) := dk_42 (dk_at dksX3_plain_8 20 rfl rfl)
theorem dX3_plain_208 : decode cX3_plain 208 = .ok (.getfield 40, 3) := dk_180 0 40 (dk_at dksX3_plain_8 21 rfl rfl)
theorem dX3_plain_211 : decode cX3_plain 211 = .ok (.bipush 24, 2) := dk_16 24 (dk_at dksX3_plain_9 0 rfl rfl)
theorem dX3_plain_213 : decode cX3_plain 213 = .ok (.iload_n 1, 1) := dk_27 (dk_at dksX3_plain_9 2 rfl rfl)
theorem dX3_plain_214 : decode cX3_plain 214 = .ok (.imul, 1) := dk_104 (dk_at dksX3_plain_9 3 rfl rfl)
theorem dX3_plain_215 : decode cX3_plain 215 = .ok (.iload_n 2, 1) := dk_28 (dk_at dksX3_plain_9 4 rfl rfl)
theorem dX3_plain_216 : decode cX3_plain 216 = .ok (.iadd, 1) := dk_96 (dk_at dksX3_plain_9 5 rfl rfl)
theorem dX3_plain_217 : decode cX3_plain 217 = .ok (.iaload, 1) := dk_46 (dk_at dksX3_plain_9 6 rfl rfl)
theorem dX3_plain_218 : decode cX3_plain 218 = .ok (.aload_n 0, 1) := dk_42 (dk_at dksX3_plain_9 7 rfl rfl)
theorem dX3_plain_219 : decode cX3_plain 219 = .ok (.getfield 43, 3) := dk_180 0 43 (dk_at dksX3_plain_9 8 rfl rfl)
theorem dX3_plain_222 : decode cX3_plain 222 = .ok (.iload 4, 2) := dk_21 4 (dk_at dksX3_plain_9 11 rfl rfl)
theorem dX3_plain_224 : decode cX3_plain 224 = .ok (.iaload, 1) := dk_46 (dk_at dksX3_plain_9 13 rfl rfl)
theorem dX3_plain_225 : decode cX3_plain 225 = .ok (.invokevirtual 319, 3) := dk_182 1 63 (dk_at dksX3_plain_9 14 rfl rfl)
theorem dX3_plain_228 : decode cX3_plain 228 = .ok (.iload_n 3, 1) := dk_29 (dk_at dksX3_plain_9 17 rfl rfl)
theorem dX3_plain_229 : decode cX3_plain 229 = .ok (.iconst 1, 1) := dk_4 (dk_at dksX3_plain_9 18 rfl rfl)
theorem dX3_plain_230 : decode cX3_plain 230 = .ok (.iadd, 1) := dk_96 (dk_at dksX3_plain_9 19 rfl rfl)
theorem dX3_plain_231 : decode cX3_plain 231 = .ok (.istore_n 2, 1) := dk_61 (dk_at dksX3_plain_9 20 rfl rfl)
theorem dX3_plain_232 : decode cX3_plain 232 = .ok (.iinc 3 1, 3) := dk_132 3 1 (dk_at dksX3_plain_9 21 rfl rfl)
theorem dX3_plain_235 : decode cX3_plain 235 = .ok (.goto (-125), 3) := dk_167 255 131 (dk_at dksX3_plain_10 0 rfl rfl)
theorem dX3_plain_238 : decode cX3_plain 238 = .ok (.aload_n 0, 1) := dk_42 (dk_at dksX3_plain_10 3 rfl rfl)
theorem dX3_plain_239 : decode cX3_plain 239 = .ok (.aload_n 0, 1) := dk_42 (dk_at dksX3_plain_10 4 rfl rfl)
theorem dX3_plain_240 : decode cX3_plain 240 = .ok (.getfield 34, 3) := dk_180 0 34 (dk_at dksX3_plain_10 5 rfl rfl)
theorem dX3_plain_243 : decode cX3_plain 243 = .ok (.iload_n 1, 1) := dk_27 (dk_at dksX3_plain_10 8 rfl rfl)
theorem dX3_plain_244 : decode cX3_plain 244 = .ok (.iaload, 1) := dk_46 (dk_at dksX3_plain_10 9 rfl rfl)
theorem dX3_plain_245 : decode cX3_plain 245 = .ok (.invokevirtual 323, 3) := dk_182 1 67 (dk_at dksX3_plain_10 10 rfl rfl)
theorem dX3_plain_248 : decode cX3_plain 248 = .ok (.aload_n 0, 1) := dk_42 (dk_at dksX3_plain_10 13 rfl rfl)
theorem dX3_plain_249 : decode cX3_plain 249 = .ok (.getfield 252, 3) := dk_180 0 252 (dk_at dksX3_plain_10 14 rfl rfl)
theorem dX3_plain_252 : decode cX3_plain 252 = .ok (.iconst 1, 1) := dk_4 (dk_at dksX3_plain_10 17 rfl rfl)
theorem dX3_plain_253 : decode cX3_plain 253 = .ok (.isub, 1) := dk_100 (dk_at dksX3_plain_10 18 rfl rfl)
theorem dX3_plain_254 : decode cX3_plain 254 = .ok (.ireturn, 1) := dk_172 (dk_at dksX3_plain_10 19 rfl rfl)
abbrev cX3_startFigure : ByteArray := prog_26_method_61_code
def yX3_startFigure : MethodName := ⟨RX3, "startFigure", "()V"⟩
def dkwX3_startFigure_0 : List UInt8 := [42, 180, 0, 31, 42, 180, 0, 252, 3, 79, 42, 180, 0, 25, 42, 180, 0, 252, 3, 79, 177]
abbrev dktX3_startFigure_0 : List UInt8 := dkwX3_startFigure_0 ++ []
theorem dksX3_startFigure_0 : cX3_startFigure.data.toList.drop 0 = dktX3_startFigure_0 := by decide +kernel
theorem dX3_startFigure_0 : decode cX3_startFigure 0 = .ok (.aload_n 0, 1) := dk_42 (dk_at dksX3_startFigure_0 0 rfl rfl)
theorem dX3_startFigure_1 : decode cX3_startFigure 1 = .ok (.getfield 31, 3) := dk_180 0 31 (dk_at dksX3_startFigure_0 1 rfl rfl)
theorem dX3_startFigure_4 : decode cX3_startFigure 4 = .ok (.aload_n 0, 1) := dk_42 (dk_at dksX3_startFigure_0 4 rfl rfl)
theorem dX3_startFigure_5 : decode cX3_startFigure 5 = .ok (.getfield 252, 3) := dk_180 0 252 (dk_at dksX3_startFigure_0 5 rfl rfl)
theorem dX3_startFigure_8 : decode cX3_startFigure 8 = .ok (.iconst 0, 1) := dk_3 (dk_at dksX3_startFigure_0 8 rfl rfl)
theorem dX3_startFigure_9 : decode cX3_startFigure 9 = .ok (.iastore, 1) := dk_79 (dk_at dksX3_startFigure_0 9 rfl rfl)
theorem dX3_startFigure_10 : decode cX3_startFigure 10 = .ok (.aload_n 0, 1) := dk_42 (dk_at dksX3_startFigure_0 10 rfl rfl)
theorem dX3_startFigure_11 : decode cX3_startFigure 11 = .ok (.getfield 25, 3) := dk_180 0 25 (dk_at dksX3_startFigure_0 11 rfl rfl)
theorem dX3_startFigure_14 : decode cX3_startFigure 14 = .ok (.aload_n 0, 1) := dk_42 (dk_at dksX3_startFigure_0 14 rfl rfl)
theorem dX3_startFigure_15 : decode cX3_startFigure 15 = .ok (.getfield 252, 3) := dk_180 0 252 (dk_at dksX3_startFigure_0 15 rfl rfl)
theorem dX3_startFigure_18 : decode cX3_startFigure 18 = .ok (.iconst 0, 1) := dk_3 (dk_at dksX3_startFigure_0 18 rfl rfl)
theorem dX3_startFigure_19 : decode cX3_startFigure 19 = .ok (.iastore, 1) := dk_79 (dk_at dksX3_startFigure_0 19 rfl rfl)
theorem dX3_startFigure_20 : decode cX3_startFigure 20 = .ok (.return_, 1) := dk_177 (dk_at dksX3_startFigure_0 20 rfl rfl)
abbrev cX3_put : ByteArray := prog_26_method_60_code
def yX3_put : MethodName := ⟨RX3, "put", "(IIII)V"⟩
def dkwX3_put_2 : List UInt8 := [21, 5, 21, 4, 79, 42, 180, 0, 31, 42, 180, 0, 252, 92, 46, 4, 96, 79, 177]
abbrev dktX3_put_2 : List UInt8 := dkwX3_put_2 ++ []
def dkwX3_put_1 : List UInt8 := [21, 5, 27, 79, 42, 180, 0, 46, 21, 5, 28, 79, 42, 180, 0, 40, 21, 5, 29, 79, 42, 180, 0, 43]
abbrev dktX3_put_1 : List UInt8 := dkwX3_put_1 ++ dktX3_put_2
def dkwX3_put_0 : List UInt8 := [16, 24, 42, 180, 0, 252, 104, 42, 180, 0, 31, 42, 180, 0, 252, 46, 96, 54, 5, 42, 180, 0, 37]
abbrev dktX3_put_0 : List UInt8 := dkwX3_put_0 ++ dktX3_put_1
theorem dksX3_put_0 : cX3_put.data.toList.drop 0 = dktX3_put_0 := by decide +kernel
theorem dksX3_put_1 : cX3_put.data.toList.drop 23 = dktX3_put_1 := dk_seg dksX3_put_0 23 rfl rfl
theorem dksX3_put_2 : cX3_put.data.toList.drop 47 = dktX3_put_2 := dk_seg dksX3_put_1 24 rfl rfl
theorem dX3_put_0 : decode cX3_put 0 = .ok (.bipush 24, 2) := dk_16 24 (dk_at dksX3_put_0 0 rfl rfl)
theorem dX3_put_2 : decode cX3_put 2 = .ok (.aload_n 0, 1) := dk_42 (dk_at dksX3_put_0 2 rfl rfl)
theorem dX3_put_3 : decode cX3_put 3 = .ok (.getfield 252, 3) := dk_180 0 252 (dk_at dksX3_put_0 3 rfl rfl)
theorem dX3_put_6 : decode cX3_put 6 = .ok (.imul, 1) := dk_104 (dk_at dksX3_put_0 6 rfl rfl)
theorem dX3_put_7 : decode cX3_put 7 = .ok (.aload_n 0, 1) := dk_42 (dk_at dksX3_put_0 7 rfl rfl)
theorem dX3_put_8 : decode cX3_put 8 = .ok (.getfield 31, 3) := dk_180 0 31 (dk_at dksX3_put_0 8 rfl rfl)
theorem dX3_put_11 : decode cX3_put 11 = .ok (.aload_n 0, 1) := dk_42 (dk_at dksX3_put_0 11 rfl rfl)
theorem dX3_put_12 : decode cX3_put 12 = .ok (.getfield 252, 3) := dk_180 0 252 (dk_at dksX3_put_0 12 rfl rfl)
theorem dX3_put_15 : decode cX3_put 15 = .ok (.iaload, 1) := dk_46 (dk_at dksX3_put_0 15 rfl rfl)
theorem dX3_put_16 : decode cX3_put 16 = .ok (.iadd, 1) := dk_96 (dk_at dksX3_put_0 16 rfl rfl)
theorem dX3_put_17 : decode cX3_put 17 = .ok (.istore 5, 2) := dk_54 5 (dk_at dksX3_put_0 17 rfl rfl)
theorem dX3_put_19 : decode cX3_put 19 = .ok (.aload_n 0, 1) := dk_42 (dk_at dksX3_put_0 19 rfl rfl)
theorem dX3_put_20 : decode cX3_put 20 = .ok (.getfield 37, 3) := dk_180 0 37 (dk_at dksX3_put_0 20 rfl rfl)
theorem dX3_put_23 : decode cX3_put 23 = .ok (.iload 5, 2) := dk_21 5 (dk_at dksX3_put_1 0 rfl rfl)
theorem dX3_put_25 : decode cX3_put 25 = .ok (.iload_n 1, 1) := dk_27 (dk_at dksX3_put_1 2 rfl rfl)
theorem dX3_put_26 : decode cX3_put 26 = .ok (.iastore, 1) := dk_79 (dk_at dksX3_put_1 3 rfl rfl)
theorem dX3_put_27 : decode cX3_put 27 = .ok (.aload_n 0, 1) := dk_42 (dk_at dksX3_put_1 4 rfl rfl)
theorem dX3_put_28 : decode cX3_put 28 = .ok (.getfield 46, 3) := dk_180 0 46 (dk_at dksX3_put_1 5 rfl rfl)
theorem dX3_put_31 : decode cX3_put 31 = .ok (.iload 5, 2) := dk_21 5 (dk_at dksX3_put_1 8 rfl rfl)
theorem dX3_put_33 : decode cX3_put 33 = .ok (.iload_n 2, 1) := dk_28 (dk_at dksX3_put_1 10 rfl rfl)
theorem dX3_put_34 : decode cX3_put 34 = .ok (.iastore, 1) := dk_79 (dk_at dksX3_put_1 11 rfl rfl)
theorem dX3_put_35 : decode cX3_put 35 = .ok (.aload_n 0, 1) := dk_42 (dk_at dksX3_put_1 12 rfl rfl)
theorem dX3_put_36 : decode cX3_put 36 = .ok (.getfield 40, 3) := dk_180 0 40 (dk_at dksX3_put_1 13 rfl rfl)
theorem dX3_put_39 : decode cX3_put 39 = .ok (.iload 5, 2) := dk_21 5 (dk_at dksX3_put_1 16 rfl rfl)
theorem dX3_put_41 : decode cX3_put 41 = .ok (.iload_n 3, 1) := dk_29 (dk_at dksX3_put_1 18 rfl rfl)
theorem dX3_put_42 : decode cX3_put 42 = .ok (.iastore, 1) := dk_79 (dk_at dksX3_put_1 19 rfl rfl)
theorem dX3_put_43 : decode cX3_put 43 = .ok (.aload_n 0, 1) := dk_42 (dk_at dksX3_put_1 20 rfl rfl)
theorem dX3_put_44 : decode cX3_put 44 = .ok (.getfield 43, 3) := dk_180 0 43 (dk_at dksX3_put_1 21 rfl rfl)
theorem dX3_put_47 : decode cX3_put 47 = .ok (.iload 5, 2) := dk_21 5 (dk_at dksX3_put_2 0 rfl rfl)
theorem dX3_put_49 : decode cX3_put 49 = .ok (.iload 4, 2) := dk_21 4 (dk_at dksX3_put_2 2 rfl rfl)
theorem dX3_put_51 : decode cX3_put 51 = .ok (.iastore, 1) := dk_79 (dk_at dksX3_put_2 4 rfl rfl)
theorem dX3_put_52 : decode cX3_put 52 = .ok (.aload_n 0, 1) := dk_42 (dk_at dksX3_put_2 5 rfl rfl)
theorem dX3_put_53 : decode cX3_put 53 = .ok (.getfield 31, 3) := dk_180 0 31 (dk_at dksX3_put_2 6 rfl rfl)
theorem dX3_put_56 : decode cX3_put 56 = .ok (.aload_n 0, 1) := dk_42 (dk_at dksX3_put_2 9 rfl rfl)
theorem dX3_put_57 : decode cX3_put 57 = .ok (.getfield 252, 3) := dk_180 0 252 (dk_at dksX3_put_2 10 rfl rfl)
theorem dX3_put_60 : decode cX3_put 60 = .ok (.dup2, 1) := dk_92 (dk_at dksX3_put_2 13 rfl rfl)
theorem dX3_put_61 : decode cX3_put 61 = .ok (.iaload, 1) := dk_46 (dk_at dksX3_put_2 14 rfl rfl)
theorem dX3_put_62 : decode cX3_put 62 = .ok (.iconst 1, 1) := dk_4 (dk_at dksX3_put_2 15 rfl rfl)
theorem dX3_put_63 : decode cX3_put 63 = .ok (.iadd, 1) := dk_96 (dk_at dksX3_put_2 16 rfl rfl)
theorem dX3_put_64 : decode cX3_put 64 = .ok (.iastore, 1) := dk_79 (dk_at dksX3_put_2 17 rfl rfl)
theorem dX3_put_65 : decode cX3_put 65 = .ok (.return_, 1) := dk_177 (dk_at dksX3_put_2 18 rfl rfl)
abbrev cX3_endFigure : ByteArray := prog_26_method_62_code
def yX3_endFigure : MethodName := ⟨RX3, "endFigure", "(I)V"⟩
def dkwX3_endFigure_7 : List UInt8 := [181, 0, 252, 177]
abbrev dktX3_endFigure_7 : List UInt8 := dkwX3_endFigure_7 ++ []
def dkwX3_endFigure_6 : List UInt8 := [180, 0, 49, 42, 180, 0, 252, 42, 42, 180, 0, 252, 182, 1, 57, 79, 42, 89, 180, 0, 252, 4, 96]
abbrev dktX3_endFigure_6 : List UInt8 := dkwX3_endFigure_6 ++ dktX3_endFigure_7
def dkwX3_endFigure_5 : List UInt8 := [29, 46, 182, 0, 145, 46, 79, 132, 3, 1, 167, 255, 190, 42, 180, 0, 34, 42, 180, 0, 252, 28, 79, 42]
abbrev dktX3_endFigure_5 : List UInt8 := dkwX3_endFigure_5 ++ dktX3_endFigure_6
def dkwX3_endFigure_4 : List UInt8 := [180, 0, 40, 29, 46, 182, 0, 145, 46, 79, 42, 180, 0, 43, 29, 42, 180, 0, 58, 42, 42, 180, 0, 43]
abbrev dktX3_endFigure_4 : List UInt8 := dkwX3_endFigure_4 ++ dktX3_endFigure_5
def dkwX3_endFigure_3 : List UInt8 := [180, 0, 31, 42, 180, 0, 252, 46, 96, 162, 0, 51, 42, 180, 0, 40, 29, 42, 180, 0, 58, 42, 42]
abbrev dktX3_endFigure_3 : List UInt8 := dkwX3_endFigure_3 ++ dktX3_endFigure_4
def dkwX3_endFigure_2 : List UInt8 := [132, 3, 1, 167, 255, 209, 16, 24, 42, 180, 0, 252, 104, 62, 29, 16, 24, 42, 180, 0, 252, 104, 42]
abbrev dktX3_endFigure_2 : List UInt8 := dkwX3_endFigure_2 ++ dktX3_endFigure_3
def dkwX3_endFigure_1 : List UInt8 := [28, 167, 0, 4, 2, 79, 28, 42, 180, 0, 52, 29, 46, 29, 160, 0, 7, 4, 167, 0, 4, 3, 96, 61]
abbrev dktX3_endFigure_1 : List UInt8 := dkwX3_endFigure_1 ++ dktX3_endFigure_2
def dkwX3_endFigure_0 : List UInt8 := [3, 61, 3, 62, 29, 27, 162, 0, 48, 42, 180, 0, 58, 29, 42, 180, 0, 52, 29, 46, 29, 160, 0, 7]
abbrev dktX3_endFigure_0 : List UInt8 := dkwX3_endFigure_0 ++ dktX3_endFigure_1
theorem dksX3_endFigure_0 : cX3_endFigure.data.toList.drop 0 = dktX3_endFigure_0 := by decide +kernel
theorem dksX3_endFigure_1 : cX3_endFigure.data.toList.drop 24 = dktX3_endFigure_1 := dk_seg dksX3_endFigure_0 24 rfl rfl
theorem dksX3_endFigure_2 : cX3_endFigure.data.toList.drop 48 = dktX3_endFigure_2 := dk_seg dksX3_endFigure_1 24 rfl rfl
theorem dksX3_endFigure_3 : cX3_endFigure.data.toList.drop 71 = dktX3_endFigure_3 := dk_seg dksX3_endFigure_2 23 rfl rfl
theorem dksX3_endFigure_4 : cX3_endFigure.data.toList.drop 94 = dktX3_endFigure_4 := dk_seg dksX3_endFigure_3 23 rfl rfl
theorem dksX3_endFigure_5 : cX3_endFigure.data.toList.drop 118 = dktX3_endFigure_5 := dk_seg dksX3_endFigure_4 24 rfl rfl
theorem dksX3_endFigure_6 : cX3_endFigure.data.toList.drop 142 = dktX3_endFigure_6 := dk_seg dksX3_endFigure_5 24 rfl rfl
theorem dksX3_endFigure_7 : cX3_endFigure.data.toList.drop 165 = dktX3_endFigure_7 := dk_seg dksX3_endFigure_6 23 rfl rfl
theorem dX3_endFigure_0 : decode cX3_endFigure 0 = .ok (.iconst 0, 1) := dk_3 (dk_at dksX3_endFigure_0 0 rfl rfl)
theorem dX3_endFigure_1 : decode cX3_endFigure 1 = .ok (.istore_n 2, 1) := dk_61 (dk_at dksX3_endFigure_0 1 rfl rfl)
theorem dX3_endFigure_2 : decode cX3_endFigure 2 = .ok (.iconst 0, 1) := dk_3 (dk_at dksX3_endFigure_0 2 rfl rfl)
theorem dX3_endFigure_3 : decode cX3_endFigure 3 = .ok (.istore_n 3, 1) := dk_62 (dk_at dksX3_endFigure_0 3 rfl rfl)
theorem dX3_endFigure_4 : decode cX3_endFigure 4 = .ok (.iload_n 3, 1) := dk_29 (dk_at dksX3_endFigure_0 4 rfl rfl)
theorem dX3_endFigure_5 : decode cX3_endFigure 5 = .ok (.iload_n 1, 1) := dk_27 (dk_at dksX3_endFigure_0 5 rfl rfl)
theorem dX3_endFigure_6 : decode cX3_endFigure 6 = .ok (.if_icmp .ge 48, 3) := dk_162 0 48 (dk_at dksX3_endFigure_0 6 rfl rfl)
theorem dX3_endFigure_9 : decode cX3_endFigure 9 = .ok (.aload_n 0, 1) := dk_42 (dk_at dksX3_endFigure_0 9 rfl rfl)
theorem dX3_endFigure_10 : decode cX3_endFigure 10 = .ok (.getfield 58, 3) := dk_180 0 58 (dk_at dksX3_endFigure_0 10 rfl rfl)
theorem dX3_endFigure_13 : decode cX3_endFigure 13 = .ok (.iload_n 3, 1) := dk_29 (dk_at dksX3_endFigure_0 13 rfl rfl)
theorem dX3_endFigure_14 : decode cX3_endFigure 14 = .ok (.aload_n 0, 1) := dk_42 (dk_at dksX3_endFigure_0 14 rfl rfl)
theorem dX3_endFigure_15 : decode cX3_endFigure 15 = .ok (.getfield 52, 3) := dk_180 0 52 (dk_at dksX3_endFigure_0 15 rfl rfl)
theorem dX3_endFigure_18 : decode cX3_endFigure 18 = .ok (.iload_n 3, 1) := dk_29 (dk_at dksX3_endFigure_0 18 rfl rfl)
theorem dX3_endFigure_19 : decode cX3_endFigure 19 = .ok (.iaload, 1) := dk_46 (dk_at dksX3_endFigure_0 19 rfl rfl)
theorem dX3_endFigure_20 : decode cX3_endFigure 20 = .ok (.iload_n 3, 1) := dk_29 (dk_at dksX3_endFigure_0 20 rfl rfl)
theorem dX3_endFigure_21 : decode cX3_endFigure 21 = .ok (.if_icmp .ne 7, 3) := dk_160 0 7 (dk_at dksX3_endFigure_0 21 rfl rfl)
theorem dX3_endFigure_24 : decode cX3_endFigure 24 = .ok (.iload_n 2, 1) := dk_28 (dk_at dksX3_endFigure_1 0 rfl rfl)
theorem dX3_endFigure_25 : decode cX3_endFigure 25 = .ok (.goto 4, 3) := dk_167 0 4 (dk_at dksX3_endFigure_1 1 rfl rfl)
theorem dX3_endFigure_28 : decode cX3_endFigure 28 = .ok (.iconst (-1), 1) := dk_2 (dk_at dksX3_endFigure_1 4 rfl rfl)
theorem dX3_endFigure_29 : decode cX3_endFigure 29 = .ok (.iastore, 1) := dk_79 (dk_at dksX3_endFigure_1 5 rfl rfl)
theorem dX3_endFigure_30 : decode cX3_endFigure 30 = .ok (.iload_n 2, 1) := dk_28 (dk_at dksX3_endFigure_1 6 rfl rfl)
theorem dX3_endFigure_31 : decode cX3_endFigure 31 = .ok (.aload_n 0, 1) := dk_42 (dk_at dksX3_endFigure_1 7 rfl rfl)
theorem dX3_endFigure_32 : decode cX3_endFigure 32 = .ok (.getfield 52, 3) := dk_180 0 52 (dk_at dksX3_endFigure_1 8 rfl rfl)
theorem dX3_endFigure_35 : decode cX3_endFigure 35 = .ok (.iload_n 3, 1) := dk_29 (dk_at dksX3_endFigure_1 11 rfl rfl)
theorem dX3_endFigure_36 : decode cX3_endFigure 36 = .ok (.iaload, 1) := dk_46 (dk_at dksX3_endFigure_1 12 rfl rfl)
theorem dX3_endFigure_37 : decode cX3_endFigure 37 = .ok (.iload_n 3, 1) := dk_29 (dk_at dksX3_endFigure_1 13 rfl rfl)
theorem dX3_endFigure_38 : decode cX3_endFigure 38 = .ok (.if_icmp .ne 7, 3) := dk_160 0 7 (dk_at dksX3_endFigure_1 14 rfl rfl)
theorem dX3_endFigure_41 : decode cX3_endFigure 41 = .ok (.iconst 1, 1) := dk_4 (dk_at dksX3_endFigure_1 17 rfl rfl)
theorem dX3_endFigure_42 : decode cX3_endFigure 42 = .ok (.goto 4, 3) := dk_167 0 4 (dk_at dksX3_endFigure_1 18 rfl rfl)
theorem dX3_endFigure_45 : decode cX3_endFigure 45 = .ok (.iconst 0, 1) := dk_3 (dk_at dksX3_endFigure_1 21 rfl rfl)
theorem dX3_endFigure_46 : decode cX3_endFigure 46 = .ok (.iadd, 1) := dk_96 (dk_at dksX3_endFigure_1 22 rfl rfl)
theorem dX3_endFigure_47 : decode cX3_endFigure 47 = .ok (.istore_n 2, 1) := dk_61 (dk_at dksX3_endFigure_1 23 rfl rfl)
theorem dX3_endFigure_48 : decode cX3_endFigure 48 = .ok (.iinc 3 1, 3) := dk_132 3 1 (dk_at dksX3_endFigure_2 0 rfl rfl)
theorem dX3_endFigure_51 : decode cX3_endFigure 51 = .ok (.goto (-47), 3) := dk_167 255 209 (dk_at dksX3_endFigure_2 3 rfl rfl)
theorem dX3_endFigure_54 : decode cX3_endFigure 54 = .ok (.bipush 24, 2) := dk_16 24 (dk_at dksX3_endFigure_2 6 rfl rfl)
theorem dX3_endFigure_56 : decode cX3_endFigure 56 = .ok (.aload_n 0, 1) := dk_42 (dk_at dksX3_endFigure_2 8 rfl rfl)
theorem dX3_endFigure_57 : decode cX3_endFigure 57 = .ok (.getfield 252, 3) := dk_180 0 252 (dk_at dksX3_endFigure_2 9 rfl rfl)
theorem dX3_endFigure_60 : decode cX3_endFigure 60 = .ok (.imul, 1) := dk_104 (dk_at dksX3_endFigure_2 12 rfl rfl)
theorem dX3_endFigure_61 : decode cX3_endFigure 61 = .ok (.istore_n 3, 1) := dk_62 (dk_at dksX3_endFigure_2 13 rfl rfl)
theorem dX3_endFigure_62 : decode cX3_endFigure 62 = .ok (.iload_n 3, 1) := dk_29 (dk_at dksX3_endFigure_2 14 rfl rfl)
theorem dX3_endFigure_63 : decode cX3_endFigure 63 = .ok (.bipush 24, 2) := dk_16 24 (dk_at dksX3_endFigure_2 15 rfl rfl)
theorem dX3_endFigure_65 : decode cX3_endFigure 65 = .ok (.aload_n 0, 1) := dk_42 (dk_at dksX3_endFigure_2 17 rfl rfl)
theorem dX3_endFigure_66 : decode cX3_endFigure 66 = .ok (.getfield 252, 3) := dk_180 0 252 (dk_at dksX3_endFigure_2 18 rfl rfl)
theorem dX3_endFigure_69 : decode cX3_endFigure 69 = .ok (.imul, 1) := dk_104 (dk_at dksX3_endFigure_2 21 rfl rfl)
theorem dX3_endFigure_70 : decode cX3_endFigure 70 = .ok (.aload_n 0, 1) := dk_42 (dk_at dksX3_endFigure_2 22 rfl rfl)
theorem dX3_endFigure_71 : decode cX3_endFigure 71 = .ok (.getfield 31, 3) := dk_180 0 31 (dk_at dksX3_endFigure_3 0 rfl rfl)
theorem dX3_endFigure_74 : decode cX3_endFigure 74 = .ok (.aload_n 0, 1) := dk_42 (dk_at dksX3_endFigure_3 3 rfl rfl)
theorem dX3_endFigure_75 : decode cX3_endFigure 75 = .ok (.getfield 252, 3) := dk_180 0 252 (dk_at dksX3_endFigure_3 4 rfl rfl)
theorem dX3_endFigure_78 : decode cX3_endFigure 78 = .ok (.iaload, 1) := dk_46 (dk_at dksX3_endFigure_3 7 rfl rfl)
theorem dX3_endFigure_79 : decode cX3_endFigure 79 = .ok (.iadd, 1) := dk_96 (dk_at dksX3_endFigure_3 8 rfl rfl)
theorem dX3_endFigure_80 : decode cX3_endFigure 80 = .ok (.if_icmp .ge 51, 3) := dk_162 0 51 (dk_at dksX3_endFigure_3 9 rfl rfl)
theorem dX3_endFigure_83 : decode cX3_endFigure 83 = .ok (.aload_n 0, 1) := dk_42 (dk_at dksX3_endFigure_3 12 rfl rfl)
theorem dX3_endFigure_84 : decode cX3_endFigure 84 = .ok (.getfield 40, 3) := dk_180 0 40 (dk_at dksX3_endFigure_3 13 rfl rfl)
theorem dX3_endFigure_87 : decode cX3_endFigure 87 = .ok (.iload_n 3, 1) := dk_29 (dk_at dksX3_endFigure_3 16 rfl rfl)
theorem dX3_endFigure_88 : decode cX3_endFigure 88 = .ok (.aload_n 0, 1) := dk_42 (dk_at dksX3_endFigure_3 17 rfl rfl)
theorem dX3_endFigure_89 : decode cX3_endFigure 89 = .ok (.getfield 58, 3) := dk_180 0 58 (dk_at dksX3_endFigure_3 18 rfl rfl)
theorem dX3_endFigure_92 : decode cX3_endFigure 92 = .ok (.aload_n 0, 1) := dk_42 (dk_at dksX3_endFigure_3 21 rfl rfl)
theorem dX3_endFigure_93 : decode cX3_endFigure 93 = .ok (.aload_n 0, 1) := dk_42 (dk_at dksX3_endFigure_3 22 rfl rfl)
theorem dX3_endFigure_94 : decode cX3_endFigure 94 = .ok (.getfield 40, 3) := dk_180 0 40 (dk_at dksX3_endFigure_4 0 rfl rfl)
theorem dX3_endFigure_97 : decode cX3_endFigure 97 = .ok (.iload_n 3, 1) := dk_29 (dk_at dksX3_endFigure_4 3 rfl rfl)
theorem dX3_endFigure_98 : decode cX3_endFigure 98 = .ok (.iaload, 1) := dk_46 (dk_at dksX3_endFigure_4 4 rfl rfl)
theorem dX3_endFigure_99 : decode cX3_endFigure 99 = .ok (.invokevirtual 145, 3) := dk_182 0 145 (dk_at dksX3_endFigure_4 5 rfl rfl)
theorem dX3_endFigure_102 : decode cX3_endFigure 102 = .ok (.iaload, 1) := dk_46 (dk_at dksX3_endFigure_4 8 rfl rfl)
theorem dX3_endFigure_103 : decode cX3_endFigure 103 = .ok (.iastore, 1) := dk_79 (dk_at dksX3_endFigure_4 9 rfl rfl)
theorem dX3_endFigure_104 : decode cX3_endFigure 104 = .ok (.aload_n 0, 1) := dk_42 (dk_at dksX3_endFigure_4 10 rfl rfl)
theorem dX3_endFigure_105 : decode cX3_endFigure 105 = .ok (.getfield 43, 3) := dk_180 0 43 (dk_at dksX3_endFigure_4 11 rfl rfl)
theorem dX3_endFigure_108 : decode cX3_endFigure 108 = .ok (.iload_n 3, 1) := dk_29 (dk_at dksX3_endFigure_4 14 rfl rfl)
theorem dX3_endFigure_109 : decode cX3_endFigure 109 = .ok (.aload_n 0, 1) := dk_42 (dk_at dksX3_endFigure_4 15 rfl rfl)
theorem dX3_endFigure_110 : decode cX3_endFigure 110 = .ok (.getfield 58, 3) := dk_180 0 58 (dk_at dksX3_endFigure_4 16 rfl rfl)
theorem dX3_endFigure_113 : decode cX3_endFigure 113 = .ok (.aload_n 0, 1) := dk_42 (dk_at dksX3_endFigure_4 19 rfl rfl)
theorem dX3_endFigure_114 : decode cX3_endFigure 114 = .ok (.aload_n 0, 1) := dk_42 (dk_at dksX3_endFigure_4 20 rfl rfl)
theorem dX3_endFigure_115 : decode cX3_endFigure 115 = .ok (.getfield 43, 3) := dk_180 0 43 (dk_at dksX3_endFigure_4 21 rfl rfl)
theorem dX3_endFigure_118 : decode cX3_endFigure 118 = .ok (.iload_n 3, 1) := dk_29 (dk_at dksX3_endFigure_5 0 rfl rfl)
theorem dX3_endFigure_119 : decode cX3_endFigure 119 = .ok (.iaload, 1) := dk_46 (dk_at dksX3_endFigure_5 1 rfl rfl)
theorem dX3_endFigure_120 : decode cX3_endFigure 120 = .ok (.invokevirtual 145, 3) := dk_182 0 145 (dk_at dksX3_endFigure_5 2 rfl rfl)
theorem dX3_endFigure_123 : decode cX3_endFigure 123 = .ok (.iaload, 1) := dk_46 (dk_at dksX3_endFigure_5 5 rfl rfl)
theorem dX3_endFigure_124 : decode cX3_endFigure 124 = .ok (.iastore, 1) := dk_79 (dk_at dksX3_endFigure_5 6 rfl rfl)
theorem dX3_endFigure_125 : decode cX3_endFigure 125 = .ok (.iinc 3 1, 3) := dk_132 3 1 (dk_at dksX3_endFigure_5 7 rfl rfl)
theorem dX3_endFigure_128 : decode cX3_endFigure 128 = .ok (.goto (-66), 3) := dk_167 255 190 (dk_at dksX3_endFigure_5 10 rfl rfl)
theorem dX3_endFigure_131 : decode cX3_endFigure 131 = .ok (.aload_n 0, 1) := dk_42 (dk_at dksX3_endFigure_5 13 rfl rfl)
theorem dX3_endFigure_132 : decode cX3_endFigure 132 = .ok (.getfield 34, 3) := dk_180 0 34 (dk_at dksX3_endFigure_5 14 rfl rfl)
theorem dX3_endFigure_135 : decode cX3_endFigure 135 = .ok (.aload_n 0, 1) := dk_42 (dk_at dksX3_endFigure_5 17 rfl rfl)
theorem dX3_endFigure_136 : decode cX3_endFigure 136 = .ok (.getfield 252, 3) := dk_180 0 252 (dk_at dksX3_endFigure_5 18 rfl rfl)
theorem dX3_endFigure_139 : decode cX3_endFigure 139 = .ok (.iload_n 2, 1) := dk_28 (dk_at dksX3_endFigure_5 21 rfl rfl)
theorem dX3_endFigure_140 : decode cX3_endFigure 140 = .ok (.iastore, 1) := dk_79 (dk_at dksX3_endFigure_5 22 rfl rfl)
theorem dX3_endFigure_141 : decode cX3_endFigure 141 = .ok (.aload_n 0, 1) := dk_42 (dk_at dksX3_endFigure_5 23 rfl rfl)
theorem dX3_endFigure_142 : decode cX3_endFigure 142 = .ok (.getfield 49, 3) := dk_180 0 49 (dk_at dksX3_endFigure_6 0 rfl rfl)
theorem dX3_endFigure_145 : decode cX3_endFigure 145 = .ok (.aload_n 0, 1) := dk_42 (dk_at dksX3_endFigure_6 3 rfl rfl)
theorem dX3_endFigure_146 : decode cX3_endFigure 146 = .ok (.getfield 252, 3) := dk_180 0 252 (dk_at dksX3_endFigure_6 4 rfl rfl)
theorem dX3_endFigure_149 : decode cX3_endFigure 149 = .ok (.aload_n 0, 1) := dk_42 (dk_at dksX3_endFigure_6 7 rfl rfl)
theorem dX3_endFigure_150 : decode cX3_endFigure 150 = .ok (.aload_n 0, 1) := dk_42 (dk_at dksX3_endFigure_6 8 rfl rfl)
theorem dX3_endFigure_151 : decode cX3_endFigure 151 = .ok (.getfield 252, 3) := dk_180 0 252 (dk_at dksX3_endFigure_6 9 rfl rfl)
theorem dX3_endFigure_154 : decode cX3_endFigure 154 = .ok (.invokevirtual 313, 3) := dk_182 1 57 (dk_at dksX3_endFigure_6 12 rfl rfl)
theorem dX3_endFigure_157 : decode cX3_endFigure 157 = .ok (.iastore, 1) := dk_79 (dk_at dksX3_endFigure_6 15 rfl rfl)
theorem dX3_endFigure_158 : decode cX3_endFigure 158 = .ok (.aload_n 0, 1) := dk_42 (dk_at dksX3_endFigure_6 16 rfl rfl)
theorem dX3_endFigure_159 : decode cX3_endFigure 159 = .ok (.dup, 1) := dk_89 (dk_at dksX3_endFigure_6 17 rfl rfl)
theorem dX3_endFigure_160 : decode cX3_endFigure 160 = .ok (.getfield 252, 3) := dk_180 0 252 (dk_at dksX3_endFigure_6 18 rfl rfl)
theorem dX3_endFigure_163 : decode cX3_endFigure 163 = .ok (.iconst 1, 1) := dk_4 (dk_at dksX3_endFigure_6 21 rfl rfl)
theorem dX3_endFigure_164 : decode cX3_endFigure 164 = .ok (.iadd, 1) := dk_96 (dk_at dksX3_endFigure_6 22 rfl rfl)
theorem dX3_endFigure_165 : decode cX3_endFigure 165 = .ok (.putfield 252, 3) := dk_181 0 252 (dk_at dksX3_endFigure_7 0 rfl rfl)
theorem dX3_endFigure_168 : decode cX3_endFigure 168 = .ok (.return_, 1) := dk_177 (dk_at dksX3_endFigure_7 3 rfl rfl)
abbrev cX3_handsOf : ByteArray := prog_26_method_59_code
def yX3_handsOf : MethodName := ⟨RX3, "handsOf", "(I)I"⟩
def dkwX3_handsOf_4 : List UInt8 := [167, 255, 166, 28, 172]
abbrev dktX3_handsOf_4 : List UInt8 := dkwX3_handsOf_4 ++ []
def dkwX3_handsOf_3 : List UInt8 := [167, 0, 4, 3, 96, 54, 5, 132, 6, 1, 167, 255, 204, 28, 21, 5, 184, 0, 149, 61, 132, 3, 1]
abbrev dktX3_handsOf_3 : List UInt8 := dkwX3_handsOf_3 ++ dktX3_handsOf_4
def dkwX3_handsOf_2 : List UInt8 := [27, 42, 180, 0, 43, 16, 24, 27, 104, 21, 6, 96, 46, 21, 4, 182, 1, 34, 6, 162, 0, 7, 4]
abbrev dktX3_handsOf_2 : List UInt8 := dkwX3_handsOf_2 ++ dktX3_handsOf_3
def dkwX3_handsOf_1 : List UInt8 := [54, 5, 3, 54, 6, 21, 6, 29, 162, 0, 52, 21, 5, 42, 27, 21, 6, 182, 1, 38, 153, 0, 30, 42]
abbrev dktX3_handsOf_1 : List UInt8 := dkwX3_handsOf_1 ++ dktX3_handsOf_2
def dkwX3_handsOf_0 : List UInt8 := [3, 61, 3, 62, 29, 42, 180, 0, 31, 27, 46, 162, 0, 86, 4, 29, 4, 96, 120, 4, 100, 54, 4, 3]
abbrev dktX3_handsOf_0 : List UInt8 := dkwX3_handsOf_0 ++ dktX3_handsOf_1
theorem dksX3_handsOf_0 : cX3_handsOf.data.toList.drop 0 = dktX3_handsOf_0 := by decide +kernel
theorem dksX3_handsOf_1 : cX3_handsOf.data.toList.drop 24 = dktX3_handsOf_1 := dk_seg dksX3_handsOf_0 24 rfl rfl
theorem dksX3_handsOf_2 : cX3_handsOf.data.toList.drop 48 = dktX3_handsOf_2 := dk_seg dksX3_handsOf_1 24 rfl rfl
theorem dksX3_handsOf_3 : cX3_handsOf.data.toList.drop 71 = dktX3_handsOf_3 := dk_seg dksX3_handsOf_2 23 rfl rfl
theorem dksX3_handsOf_4 : cX3_handsOf.data.toList.drop 94 = dktX3_handsOf_4 := dk_seg dksX3_handsOf_3 23 rfl rfl
theorem dX3_handsOf_0 : decode cX3_handsOf 0 = .ok (.iconst 0, 1) := dk_3 (dk_at dksX3_handsOf_0 0 rfl rfl)
theorem dX3_handsOf_1 : decode cX3_handsOf 1 = .ok (.istore_n 2, 1) := dk_61 (dk_at dksX3_handsOf_0 1 rfl rfl)
theorem dX3_handsOf_2 : decode cX3_handsOf 2 = .ok (.iconst 0, 1) := dk_3 (dk_at dksX3_handsOf_0 2 rfl rfl)
theorem dX3_handsOf_3 : decode cX3_handsOf 3 = .ok (.istore_n 3, 1) := dk_62 (dk_at dksX3_handsOf_0 3 rfl rfl)
theorem dX3_handsOf_4 : decode cX3_handsOf 4 = .ok (.iload_n 3, 1) := dk_29 (dk_at dksX3_handsOf_0 4 rfl rfl)
theorem dX3_handsOf_5 : decode cX3_handsOf 5 = .ok (.aload_n 0, 1) := dk_42 (dk_at dksX3_handsOf_0 5 rfl rfl)
theorem dX3_handsOf_6 : decode cX3_handsOf 6 = .ok (.getfield 31, 3) := dk_180 0 31 (dk_at dksX3_handsOf_0 6 rfl rfl)
theorem dX3_handsOf_9 : decode cX3_handsOf 9 = .ok (.iload_n 1, 1) := dk_27 (dk_at dksX3_handsOf_0 9 rfl rfl)
theorem dX3_handsOf_10 : decode cX3_handsOf 10 = .ok (.iaload, 1) := dk_46 (dk_at dksX3_handsOf_0 10 rfl rfl)
theorem dX3_handsOf_11 : decode cX3_handsOf 11 = .ok (.if_icmp .ge 86, 3) := dk_162 0 86 (dk_at dksX3_handsOf_0 11 rfl rfl)
theorem dX3_handsOf_14 : decode cX3_handsOf 14 = .ok (.iconst 1, 1) := dk_4 (dk_at dksX3_handsOf_0 14 rfl rfl)
theorem dX3_handsOf_15 : decode cX3_handsOf 15 = .ok (.iload_n 3, 1) := dk_29 (dk_at dksX3_handsOf_0 15 rfl rfl)
theorem dX3_handsOf_16 : decode cX3_handsOf 16 = .ok (.iconst 1, 1) := dk_4 (dk_at dksX3_handsOf_0 16 rfl rfl)
theorem dX3_handsOf_17 : decode cX3_handsOf 17 = .ok (.iadd, 1) := dk_96 (dk_at dksX3_handsOf_0 17 rfl rfl)
theorem dX3_handsOf_18 : decode cX3_handsOf 18 = .ok (.ishl, 1) := dk_120 (dk_at dksX3_handsOf_0 18 rfl rfl)
theorem dX3_handsOf_19 : decode cX3_handsOf 19 = .ok (.iconst 1, 1) := dk_4 (dk_at dksX3_handsOf_0 19 rfl rfl)
theorem dX3_handsOf_20 : decode cX3_handsOf 20 = .ok (.isub, 1) := dk_100 (dk_at dksX3_handsOf_0 20 rfl rfl)
theorem dX3_handsOf_21 : decode cX3_handsOf 21 = .ok (.istore 4, 2) := dk_54 4 (dk_at dksX3_handsOf_0 21 rfl rfl)
theorem dX3_handsOf_23 : decode cX3_handsOf 23 = .ok (.iconst 0, 1) := dk_3 (dk_at dksX3_handsOf_0 23 rfl rfl)
theorem dX3_handsOf_24 : decode cX3_handsOf 24 = .ok (.istore 5, 2) := dk_54 5 (dk_at dksX3_handsOf_1 0 rfl rfl)
theorem dX3_handsOf_26 : decode cX3_handsOf 26 = .ok (.iconst 0, 1) := dk_3 (dk_at dksX3_handsOf_1 2 rfl rfl)
theorem dX3_handsOf_27 : decode cX3_handsOf 27 = .ok (.istore 6, 2) := dk_54 6 (dk_at dksX3_handsOf_1 3 rfl rfl)
theorem dX3_handsOf_29 : decode cX3_handsOf 29 = .ok (.iload 6, 2) := dk_21 6 (dk_at dksX3_handsOf_1 5 rfl rfl)
theorem dX3_handsOf_31 : decode cX3_handsOf 31 = .ok (.iload_n 3, 1) := dk_29 (dk_at dksX3_handsOf_1 7 rfl rfl)
theorem dX3_handsOf_32 : decode cX3_handsOf 32 = .ok (.if_icmp .ge 52, 3) := dk_162 0 52 (dk_at dksX3_handsOf_1 8 rfl rfl)
theorem dX3_handsOf_35 : decode cX3_handsOf 35 = .ok (.iload 5, 2) := dk_21 5 (dk_at dksX3_handsOf_1 11 rfl rfl)
theorem dX3_handsOf_37 : decode cX3_handsOf 37 = .ok (.aload_n 0, 1) := dk_42 (dk_at dksX3_handsOf_1 13 rfl rfl)
theorem dX3_handsOf_38 : decode cX3_handsOf 38 = .ok (.iload_n 1, 1) := dk_27 (dk_at dksX3_handsOf_1 14 rfl rfl)
theorem dX3_handsOf_39 : decode cX3_handsOf 39 = .ok (.iload 6, 2) := dk_21 6 (dk_at dksX3_handsOf_1 15 rfl rfl)
theorem dX3_handsOf_41 : decode cX3_handsOf 41 = .ok (.invokevirtual 294, 3) := dk_182 1 38 (dk_at dksX3_handsOf_1 17 rfl rfl)
theorem dX3_handsOf_44 : decode cX3_handsOf 44 = .ok (.ifCond .eq 30, 3) := dk_153 0 30 (dk_at dksX3_handsOf_1 20 rfl rfl)
theorem dX3_handsOf_47 : decode cX3_handsOf 47 = .ok (.aload_n 0, 1) := dk_42 (dk_at dksX3_handsOf_1 23 rfl rfl)
theorem dX3_handsOf_48 : decode cX3_handsOf 48 = .ok (.iload_n 1, 1) := dk_27 (dk_at dksX3_handsOf_2 0 rfl rfl)
theorem dX3_handsOf_49 : decode cX3_handsOf 49 = .ok (.aload_n 0, 1) := dk_42 (dk_at dksX3_handsOf_2 1 rfl rfl)
theorem dX3_handsOf_50 : decode cX3_handsOf 50 = .ok (.getfield 43, 3) := dk_180 0 43 (dk_at dksX3_handsOf_2 2 rfl rfl)
theorem dX3_handsOf_53 : decode cX3_handsOf 53 = .ok (.bipush 24, 2) := dk_16 24 (dk_at dksX3_handsOf_2 5 rfl rfl)
theorem dX3_handsOf_55 : decode cX3_handsOf 55 = .ok (.iload_n 1, 1) := dk_27 (dk_at dksX3_handsOf_2 7 rfl rfl)
theorem dX3_handsOf_56 : decode cX3_handsOf 56 = .ok (.imul, 1) := dk_104 (dk_at dksX3_handsOf_2 8 rfl rfl)
theorem dX3_handsOf_57 : decode cX3_handsOf 57 = .ok (.iload 6, 2) := dk_21 6 (dk_at dksX3_handsOf_2 9 rfl rfl)
theorem dX3_handsOf_59 : decode cX3_handsOf 59 = .ok (.iadd, 1) := dk_96 (dk_at dksX3_handsOf_2 11 rfl rfl)
theorem dX3_handsOf_60 : decode cX3_handsOf 60 = .ok (.iaload, 1) := dk_46 (dk_at dksX3_handsOf_2 12 rfl rfl)
theorem dX3_handsOf_61 : decode cX3_handsOf 61 = .ok (.iload 4, 2) := dk_21 4 (dk_at dksX3_handsOf_2 13 rfl rfl)
theorem dX3_handsOf_63 : decode cX3_handsOf 63 = .ok (.invokevirtual 290, 3) := dk_182 1 34 (dk_at dksX3_handsOf_2 15 rfl rfl)
theorem dX3_handsOf_66 : decode cX3_handsOf 66 = .ok (.iconst 3, 1) := dk_6 (dk_at dksX3_handsOf_2 18 rfl rfl)
theorem dX3_handsOf_67 : decode cX3_handsOf 67 = .ok (.if_icmp .ge 7, 3) := dk_162 0 7 (dk_at dksX3_handsOf_2 19 rfl rfl)
theorem dX3_handsOf_70 : decode cX3_handsOf 70 = .ok (.iconst 1, 1) := dk_4 (dk_at dksX3_handsOf_2 22 rfl rfl)
theorem dX3_handsOf_71 : decode cX3_handsOf 71 = .ok (.goto 4, 3) := dk_167 0 4 (dk_at dksX3_handsOf_3 0 rfl rfl)
theorem dX3_handsOf_74 : decode cX3_handsOf 74 = .ok (.iconst 0, 1) := dk_3 (dk_at dksX3_handsOf_3 3 rfl rfl)
theorem dX3_handsOf_75 : decode cX3_handsOf 75 = .ok (.iadd, 1) := dk_96 (dk_at dksX3_handsOf_3 4 rfl rfl)
theorem dX3_handsOf_76 : decode cX3_handsOf 76 = .ok (.istore 5, 2) := dk_54 5 (dk_at dksX3_handsOf_3 5 rfl rfl)
theorem dX3_handsOf_78 : decode cX3_handsOf 78 = .ok (.iinc 6 1, 3) := dk_132 6 1 (dk_at dksX3_handsOf_3 7 rfl rfl)
theorem dX3_handsOf_81 : decode cX3_handsOf 81 = .ok (.goto (-52), 3) := dk_167 255 204 (dk_at dksX3_handsOf_3 10 rfl rfl)
theorem dX3_handsOf_84 : decode cX3_handsOf 84 = .ok (.iload_n 2, 1) := dk_28 (dk_at dksX3_handsOf_3 13 rfl rfl)
theorem dX3_handsOf_85 : decode cX3_handsOf 85 = .ok (.iload 5, 2) := dk_21 5 (dk_at dksX3_handsOf_3 14 rfl rfl)
theorem dX3_handsOf_87 : decode cX3_handsOf 87 = .ok (.invokestatic 149, 3) := dk_184 0 149 (dk_at dksX3_handsOf_3 16 rfl rfl)
theorem dX3_handsOf_90 : decode cX3_handsOf 90 = .ok (.istore_n 2, 1) := dk_61 (dk_at dksX3_handsOf_3 19 rfl rfl)
theorem dX3_handsOf_91 : decode cX3_handsOf 91 = .ok (.iinc 3 1, 3) := dk_132 3 1 (dk_at dksX3_handsOf_3 20 rfl rfl)
theorem dX3_handsOf_94 : decode cX3_handsOf 94 = .ok (.goto (-90), 3) := dk_167 255 166 (dk_at dksX3_handsOf_4 0 rfl rfl)
theorem dX3_handsOf_97 : decode cX3_handsOf 97 = .ok (.iload_n 2, 1) := dk_28 (dk_at dksX3_handsOf_4 3 rfl rfl)
theorem dX3_handsOf_98 : decode cX3_handsOf 98 = .ok (.ireturn, 1) := dk_172 (dk_at dksX3_handsOf_4 4 rfl rfl)
abbrev cX3_add : ByteArray := prog_26_method_64_code
def yX3_add : MethodName := ⟨RX3, "add", "(IIII)I"⟩
def dkwX3_add_8 : List UInt8 := [172]
abbrev dktX3_add_8 : List UInt8 := dkwX3_add_8 ++ []
def dkwX3_add_7 : List UInt8 := [79, 42, 42, 180, 0, 34, 27, 46, 42, 180, 0, 34, 28, 46, 96, 182, 1, 67, 42, 180, 0, 252, 4, 100]
abbrev dktX3_add_7 : List UInt8 := dkwX3_add_7 ++ dktX3_add_8
def dkwX3_add_6 : List UInt8 := [182, 1, 70, 42, 180, 0, 25, 42, 180, 0, 252, 42, 180, 0, 25, 27, 46, 42, 180, 0, 25, 28, 46, 96]
abbrev dktX3_add_6 : List UInt8 := dkwX3_add_6 ++ dktX3_add_7
def dkwX3_add_5 : List UInt8 := [29, 79, 42, 27, 3, 3, 182, 1, 70, 42, 28, 42, 180, 0, 25, 27, 46, 42, 180, 0, 34, 27, 46]
abbrev dktX3_add_5 : List UInt8 := dkwX3_add_5 ++ dktX3_add_6
def dkwX3_add_4 : List UInt8 := [21, 5, 21, 5, 79, 132, 5, 1, 167, 255, 226, 42, 180, 0, 52, 42, 180, 0, 34, 27, 46, 21, 4, 96]
abbrev dktX3_add_4 : List UInt8 := dkwX3_add_4 ++ dktX3_add_5
def dkwX3_add_3 : List UInt8 := [54, 5, 21, 5, 42, 180, 0, 34, 27, 46, 42, 180, 0, 34, 28, 46, 96, 162, 0, 18, 42, 180, 0, 52]
abbrev dktX3_add_3 : List UInt8 := dkwX3_add_3 ++ dktX3_add_4
def dkwX3_add_2 : List UInt8 := [46, 96, 16, 6, 163, 0, 12, 42, 180, 0, 252, 16, 12, 160, 0, 5, 2, 172, 42, 182, 1, 60, 3]
abbrev dktX3_add_2 : List UInt8 := dkwX3_add_2 ++ dktX3_add_3
def dkwX3_add_1 : List UInt8 := [46, 42, 180, 0, 31, 28, 46, 96, 16, 24, 163, 0, 30, 42, 180, 0, 25, 27, 46, 42, 180, 0, 25, 28]
abbrev dktX3_add_1 : List UInt8 := dkwX3_add_1 ++ dktX3_add_2
def dkwX3_add_0 : List UInt8 := [42, 27, 29, 182, 1, 51, 153, 0, 58, 42, 28, 21, 4, 182, 1, 51, 153, 0, 48, 42, 180, 0, 31, 27]
abbrev dktX3_add_0 : List UInt8 := dkwX3_add_0 ++ dktX3_add_1
theorem dksX3_add_0 : cX3_add.data.toList.drop 0 = dktX3_add_0 := by decide +kernel
theorem dksX3_add_1 : cX3_add.data.toList.drop 24 = dktX3_add_1 := dk_seg dksX3_add_0 24 rfl rfl
theorem dksX3_add_2 : cX3_add.data.toList.drop 48 = dktX3_add_2 := dk_seg dksX3_add_1 24 rfl rfl
theorem dksX3_add_3 : cX3_add.data.toList.drop 71 = dktX3_add_3 := dk_seg dksX3_add_2 23 rfl rfl
theorem dksX3_add_4 : cX3_add.data.toList.drop 95 = dktX3_add_4 := dk_seg dksX3_add_3 24 rfl rfl
theorem dksX3_add_5 : cX3_add.data.toList.drop 119 = dktX3_add_5 := dk_seg dksX3_add_4 24 rfl rfl
theorem dksX3_add_6 : cX3_add.data.toList.drop 142 = dktX3_add_6 := dk_seg dksX3_add_5 23 rfl rfl
theorem dksX3_add_7 : cX3_add.data.toList.drop 166 = dktX3_add_7 := dk_seg dksX3_add_6 24 rfl rfl
theorem dksX3_add_8 : cX3_add.data.toList.drop 190 = dktX3_add_8 := dk_seg dksX3_add_7 24 rfl rfl
theorem dX3_add_0 : decode cX3_add 0 = .ok (.aload_n 0, 1) := dk_42 (dk_at dksX3_add_0 0 rfl rfl)
theorem dX3_add_1 : decode cX3_add 1 = .ok (.iload_n 1, 1) := dk_27 (dk_at dksX3_add_0 1 rfl rfl)
theorem dX3_add_2 : decode cX3_add 2 = .ok (.iload_n 3, 1) := dk_29 (dk_at dksX3_add_0 2 rfl rfl)
theorem dX3_add_3 : decode cX3_add 3 = .ok (.invokevirtual 307, 3) := dk_182 1 51 (dk_at dksX3_add_0 3 rfl rfl)
theorem dX3_add_6 : decode cX3_add 6 = .ok (.ifCond .eq 58, 3) := dk_153 0 58 (dk_at dksX3_add_0 6 rfl rfl)
theorem dX3_add_9 : decode cX3_add 9 = .ok (.aload_n 0, 1) := dk_42 (dk_at dksX3_add_0 9 rfl rfl)
theorem dX3_add_10 : decode cX3_add 10 = .ok (.iload_n 2, 1) := dk_28 (dk_at dksX3_add_0 10 rfl rfl)
theorem dX3_add_11 : decode cX3_add 11 = .ok (.iload 4, 2) := dk_21 4 (dk_at dksX3_add_0 11 rfl rfl)
theorem dX3_add_13 : decode cX3_add 13 = .ok (.invokevirtual 307, 3) := dk_182 1 51 (dk_at dksX3_add_0 13 rfl rfl)
theorem dX3_add_16 : decode cX3_add 16 = .ok (.ifCond .eq 48, 3) := dk_153 0 48 (dk_at dksX3_add_0 16 rfl rfl)
theorem dX3_add_19 : decode cX3_add 19 = .ok (.aload_n 0, 1) := dk_42 (dk_at dksX3_add_0 19 rfl rfl)
theorem dX3_add_20 : decode cX3_add 20 = .ok (.getfield 31, 3) := dk_180 0 31 (dk_at dksX3_add_0 20 rfl rfl)
theorem dX3_add_23 : decode cX3_add 23 = .ok (.iload_n 1, 1) := dk_27 (dk_at dksX3_add_0 23 rfl rfl)
theorem dX3_add_24 : decode cX3_add 24 = .ok (.iaload, 1) := dk_46 (dk_at dksX3_add_1 0 rfl rfl)
theorem dX3_add_25 : decode cX3_add 25 = .ok (.aload_n 0, 1) := dk_42 (dk_at dksX3_add_1 1 rfl rfl)
theorem dX3_add_26 : decode cX3_add 26 = .ok (.getfield 31, 3) := dk_180 0 31 (dk_at dksX3_add_1 2 rfl rfl)
theorem dX3_add_29 : decode cX3_add 29 = .ok (.iload_n 2, 1) := dk_28 (dk_at dksX3_add_1 5 rfl rfl)
theorem dX3_add_30 : decode cX3_add 30 = .ok (.iaload, 1) := dk_46 (dk_at dksX3_add_1 6 rfl rfl)
theorem dX3_add_31 : decode cX3_add 31 = .ok (.iadd, 1) := dk_96 (dk_at dksX3_add_1 7 rfl rfl)
theorem dX3_add_32 : decode cX3_add 32 = .ok (.bipush 24, 2) := dk_16 24 (dk_at dksX3_add_1 8 rfl rfl)
theorem dX3_add_34 : decode cX3_add 34 = .ok (.if_icmp .gt 30, 3) := dk_163 0 30 (dk_at dksX3_add_1 10 rfl rfl)
theorem dX3_add_37 : decode cX3_add 37 = .ok (.aload_n 0, 1) := dk_42 (dk_at dksX3_add_1 13 rfl rfl)
theorem dX3_add_38 : decode cX3_add 38 = .ok (.getfield 25, 3) := dk_180 0 25 (dk_at dksX3_add_1 14 rfl rfl)
theorem dX3_add_41 : decode cX3_add 41 = .ok (.iload_n 1, 1) := dk_27 (dk_at dksX3_add_1 17 rfl rfl)
theorem dX3_add_42 : decode cX3_add 42 = .ok (.iaload, 1) := dk_46 (dk_at dksX3_add_1 18 rfl rfl)
theorem dX3_add_43 : decode cX3_add 43 = .ok (.aload_n 0, 1) := dk_42 (dk_at dksX3_add_1 19 rfl rfl)
theorem dX3_add_44 : decode cX3_add 44 = .ok (.getfield 25, 3) := dk_180 0 25 (dk_at dksX3_add_1 20 rfl rfl)
theorem dX3_add_47 : decode cX3_add 47 = .ok (.iload_n 2, 1) := dk_28 (dk_at dksX3_add_1 23 rfl rfl)
theorem dX3_add_48 : decode cX3_add 48 = .ok (.iaload, 1) := dk_46 (dk_at dksX3_add_2 0 rfl rfl)
theorem dX3_add_49 : decode cX3_add 49 = .ok (.iadd, 1) := dk_96 (dk_at dksX3_add_2 1 rfl rfl)
theorem dX3_add_50 : decode cX3_add 50 = .ok (.bipush 6, 2) := dk_16 6 (dk_at dksX3_add_2 2 rfl rfl)
theorem dX3_add_52 : decode cX3_add 52 = .ok (.if_icmp .gt 12, 3) := dk_163 0 12 (dk_at dksX3_add_2 4 rfl rfl)
theorem dX3_add_55 : decode cX3_add 55 = .ok (.aload_n 0, 1) := dk_42 (dk_at dksX3_add_2 7 rfl rfl)
theorem dX3_add_56 : decode cX3_add 56 = .ok (.getfield 252, 3) := dk_180 0 252 (dk_at dksX3_add_2 8 rfl rfl)
theorem dX3_add_59 : decode cX3_add 59 = .ok (.bipush 12, 2) := dk_16 12 (dk_at dksX3_add_2 11 rfl rfl)
theorem dX3_add_61 : decode cX3_add 61 = .ok (.if_icmp .ne 5, 3) := dk_160 0 5 (dk_at dksX3_add_2 13 rfl rfl)
theorem dX3_add_64 : decode cX3_add 64 = .ok (.iconst (-1), 1) := dk_2 (dk_at dksX3_add_2 16 rfl rfl)
theorem dX3_add_65 : decode cX3_add 65 = .ok (.ireturn, 1) := dk_172 (dk_at dksX3_add_2 17 rfl rfl)
theorem dX3_add_66 : decode cX3_add 66 = .ok (.aload_n 0, 1) := dk_42 (dk_at dksX3_add_2 18 rfl rfl)
theorem dX3_add_67 : decode cX3_add 67 = .ok (.invokevirtual 316, 3) := dk_182 1 60 (dk_at dksX3_add_2 19 rfl rfl)
theorem dX3_add_70 : decode cX3_add 70 = .ok (.iconst 0, 1) := dk_3 (dk_at dksX3_add_2 22 rfl rfl)
theorem dX3_add_71 : decode cX3_add 71 = .ok (.istore 5, 2) := dk_54 5 (dk_at dksX3_add_3 0 rfl rfl)
theorem dX3_add_73 : decode cX3_add 73 = .ok (.iload 5, 2) := dk_21 5 (dk_at dksX3_add_3 2 rfl rfl)
theorem dX3_add_75 : decode cX3_add 75 = .ok (.aload_n 0, 1) := dk_42 (dk_at dksX3_add_3 4 rfl rfl)
theorem dX3_add_76 : decode cX3_add 76 = .ok (.getfield 34, 3) := dk_180 0 34 (dk_at dksX3_add_3 5 rfl rfl)
theorem dX3_add_79 : decode cX3_add 79 = .ok (.iload_n 1, 1) := dk_27 (dk_at dksX3_add_3 8 rfl rfl)
theorem dX3_add_80 : decode cX3_add 80 = .ok (.iaload, 1) := dk_46 (dk_at dksX3_add_3 9 rfl rfl)
theorem dX3_add_81 : decode cX3_add 81 = .ok (.aload_n 0, 1) := dk_42 (dk_at dksX3_add_3 10 rfl rfl)
theorem dX3_add_82 : decode cX3_add 82 = .ok (.getfield 34, 3) := dk_180 0 34 (dk_at dksX3_add_3 11 rfl rfl)
theorem dX3_add_85 : decode cX3_add 85 = .ok (.iload_n 2, 1) := dk_28 (dk_at dksX3_add_3 14 rfl rfl)
theorem dX3_add_86 : decode cX3_add 86 = .ok (.iaload, 1) := dk_46 (dk_at dksX3_add_3 15 rfl rfl)
theorem dX3_add_87 : decode cX3_add 87 = .ok (.iadd, 1) := dk_96 (dk_at dksX3_add_3 16 rfl rfl)
theorem dX3_add_88 : decode cX3_add 88 = .ok (.if_icmp .ge 18, 3) := dk_162 0 18 (dk_at dksX3_add_3 17 rfl rfl)
theorem dX3_add_91 : decode cX3_add 91 = .ok (.aload_n 0, 1) := dk_42 (dk_at dksX3_add_3 20 rfl rfl)
theorem dX3_add_92 : decode cX3_add 92 = .ok (.getfield 52, 3) := dk_180 0 52 (dk_at dksX3_add_3 21 rfl rfl)
theorem dX3_add_95 : decode cX3_add 95 = .ok (.iload 5, 2) := dk_21 5 (dk_at dksX3_add_4 0 rfl rfl)
theorem dX3_add_97 : decode cX3_add 97 = .ok (.iload 5, 2) := dk_21 5 (dk_at dksX3_add_4 2 rfl rfl)
theorem dX3_add_99 : decode cX3_add 99 = .ok (.iastore, 1) := dk_79 (dk_at dksX3_add_4 4 rfl rfl)
theorem dX3_add_100 : decode cX3_add 100 = .ok (.iinc 5 1, 3) := dk_132 5 1 (dk_at dksX3_add_4 5 rfl rfl)
theorem dX3_add_103 : decode cX3_add 103 = .ok (.goto (-30), 3) := dk_167 255 226 (dk_at dksX3_add_4 8 rfl rfl)
theorem dX3_add_106 : decode cX3_add 106 = .ok (.aload_n 0, 1) := dk_42 (dk_at dksX3_add_4 11 rfl rfl)
theorem dX3_add_107 : decode cX3_add 107 = .ok (.getfield 52, 3) := dk_180 0 52 (dk_at dksX3_add_4 12 rfl rfl)
theorem dX3_add_110 : decode cX3_add 110 = .ok (.aload_n 0, 1) := dk_42 (dk_at dksX3_add_4 15 rfl rfl)
theorem dX3_add_111 : decode cX3_add 111 = .ok (.getfield 34, 3) := dk_180 0 34 (dk_at dksX3_add_4 16 rfl rfl)
theorem dX3_add_114 : decode cX3_add 114 = .ok (.iload_n 1, 1) := dk_27 (dk_at dksX3_add_4 19 rfl rfl)
theorem dX3_add_115 : decode cX3_add 115 = .ok (.iaload, 1) := dk_46 (dk_at dksX3_add_4 20 rfl rfl)
theorem dX3_add_116 : decode cX3_add 116 = .ok (.iload 4, 2) := dk_21 4 (dk_at dksX3_add_4 21 rfl rfl)
theorem dX3_add_118 : decode cX3_add 118 = .ok (.iadd, 1) := dk_96 (dk_at dksX3_add_4 23 rfl rfl)
theorem dX3_add_119 : decode cX3_add 119 = .ok (.iload_n 3, 1) := dk_29 (dk_at dksX3_add_5 0 rfl rfl)
theorem dX3_add_120 : decode cX3_add 120 = .ok (.iastore, 1) := dk_79 (dk_at dksX3_add_5 1 rfl rfl)
theorem dX3_add_121 : decode cX3_add 121 = .ok (.aload_n 0, 1) := dk_42 (dk_at dksX3_add_5 2 rfl rfl)
theorem dX3_add_122 : decode cX3_add 122 = .ok (.iload_n 1, 1) := dk_27 (dk_at dksX3_add_5 3 rfl rfl)
theorem dX3_add_123 : decode cX3_add 123 = .ok (.iconst 0, 1) := dk_3 (dk_at dksX3_add_5 4 rfl rfl)
theorem dX3_add_124 : decode cX3_add 124 = .ok (.iconst 0, 1) := dk_3 (dk_at dksX3_add_5 5 rfl rfl)
theorem dX3_add_125 : decode cX3_add 125 = .ok (.invokevirtual 326, 3) := dk_182 1 70 (dk_at dksX3_add_5 6 rfl rfl)
theorem dX3_add_128 : decode cX3_add 128 = .ok (.aload_n 0, 1) := dk_42 (dk_at dksX3_add_5 9 rfl rfl)
theorem dX3_add_129 : decode cX3_add 129 = .ok (.iload_n 2, 1) := dk_28 (dk_at dksX3_add_5 10 rfl rfl)
theorem dX3_add_130 : decode cX3_add 130 = .ok (.aload_n 0, 1) := dk_42 (dk_at dksX3_add_5 11 rfl rfl)
theorem dX3_add_131 : decode cX3_add 131 = .ok (.getfield 25, 3) := dk_180 0 25 (dk_at dksX3_add_5 12 rfl rfl)
theorem dX3_add_134 : decode cX3_add 134 = .ok (.iload_n 1, 1) := dk_27 (dk_at dksX3_add_5 15 rfl rfl)
theorem dX3_add_135 : decode cX3_add 135 = .ok (.iaload, 1) := dk_46 (dk_at dksX3_add_5 16 rfl rfl)
theorem dX3_add_136 : decode cX3_add 136 = .ok (.aload_n 0, 1) := dk_42 (dk_at dksX3_add_5 17 rfl rfl)
theorem dX3_add_137 : decode cX3_add 137 = .ok (.getfield 34, 3) := dk_180 0 34 (dk_at dksX3_add_5 18 rfl rfl)
theorem dX3_add_140 : decode cX3_add 140 = .ok (.iload_n 1, 1) := dk_27 (dk_at dksX3_add_5 21 rfl rfl)
theorem dX3_add_141 : decode cX3_add 141 = .ok (.iaload, 1) := dk_46 (dk_at dksX3_add_5 22 rfl rfl)
theorem dX3_add_142 : decode cX3_add 142 = .ok (.invokevirtual 326, 3) := dk_182 1 70 (dk_at dksX3_add_6 0 rfl rfl)
theorem dX3_add_145 : decode cX3_add 145 = .ok (.aload_n 0, 1) := dk_42 (dk_at dksX3_add_6 3 rfl rfl)
theorem dX3_add_146 : decode cX3_add 146 = .ok (.getfield 25, 3) := dk_180 0 25 (dk_at dksX3_add_6 4 rfl rfl)
theorem dX3_add_149 : decode cX3_add 149 = .ok (.aload_n 0, 1) := dk_42 (dk_at dksX3_add_6 7 rfl rfl)
theorem dX3_add_150 : decode cX3_add 150 = .ok (.getfield 252, 3) := dk_180 0 252 (dk_at dksX3_add_6 8 rfl rfl)
theorem dX3_add_153 : decode cX3_add 153 = .ok (.aload_n 0, 1) := dk_42 (dk_at dksX3_add_6 11 rfl rfl)
theorem dX3_add_154 : decode cX3_add 154 = .ok (.getfield 25, 3) := dk_180 0 25 (dk_at dksX3_add_6 12 rfl rfl)
theorem dX3_add_157 : decode cX3_add 157 = .ok (.iload_n 1, 1) := dk_27 (dk_at dksX3_add_6 15 rfl rfl)
theorem dX3_add_158 : decode cX3_add 158 = .ok (.iaload, 1) := dk_46 (dk_at dksX3_add_6 16 rfl rfl)
theorem dX3_add_159 : decode cX3_add 159 = .ok (.aload_n 0, 1) := dk_42 (dk_at dksX3_add_6 17 rfl rfl)
theorem dX3_add_160 : decode cX3_add 160 = .ok (.getfield 25, 3) := dk_180 0 25 (dk_at dksX3_add_6 18 rfl rfl)
theorem dX3_add_163 : decode cX3_add 163 = .ok (.iload_n 2, 1) := dk_28 (dk_at dksX3_add_6 21 rfl rfl)
theorem dX3_add_164 : decode cX3_add 164 = .ok (.iaload, 1) := dk_46 (dk_at dksX3_add_6 22 rfl rfl)
theorem dX3_add_165 : decode cX3_add 165 = .ok (.iadd, 1) := dk_96 (dk_at dksX3_add_6 23 rfl rfl)
theorem dX3_add_166 : decode cX3_add 166 = .ok (.iastore, 1) := dk_79 (dk_at dksX3_add_7 0 rfl rfl)
theorem dX3_add_167 : decode cX3_add 167 = .ok (.aload_n 0, 1) := dk_42 (dk_at dksX3_add_7 1 rfl rfl)
theorem dX3_add_168 : decode cX3_add 168 = .ok (.aload_n 0, 1) := dk_42 (dk_at dksX3_add_7 2 rfl rfl)
theorem dX3_add_169 : decode cX3_add 169 = .ok (.getfield 34, 3) := dk_180 0 34 (dk_at dksX3_add_7 3 rfl rfl)
theorem dX3_add_172 : decode cX3_add 172 = .ok (.iload_n 1, 1) := dk_27 (dk_at dksX3_add_7 6 rfl rfl)
theorem dX3_add_173 : decode cX3_add 173 = .ok (.iaload, 1) := dk_46 (dk_at dksX3_add_7 7 rfl rfl)
theorem dX3_add_174 : decode cX3_add 174 = .ok (.aload_n 0, 1) := dk_42 (dk_at dksX3_add_7 8 rfl rfl)
theorem dX3_add_175 : decode cX3_add 175 = .ok (.getfield 34, 3) := dk_180 0 34 (dk_at dksX3_add_7 9 rfl rfl)
theorem dX3_add_178 : decode cX3_add 178 = .ok (.iload_n 2, 1) := dk_28 (dk_at dksX3_add_7 12 rfl rfl)
theorem dX3_add_179 : decode cX3_add 179 = .ok (.iaload, 1) := dk_46 (dk_at dksX3_add_7 13 rfl rfl)
theorem dX3_add_180 : decode cX3_add 180 = .ok (.iadd, 1) := dk_96 (dk_at dksX3_add_7 14 rfl rfl)
theorem dX3_add_181 : decode cX3_add 181 = .ok (.invokevirtual 323, 3) := dk_182 1 67 (dk_at dksX3_add_7 15 rfl rfl)
theorem dX3_add_184 : decode cX3_add 184 = .ok (.aload_n 0, 1) := dk_42 (dk_at dksX3_add_7 18 rfl rfl)
theorem dX3_add_185 : decode cX3_add 185 = .ok (.getfield 252, 3) := dk_180 0 252 (dk_at dksX3_add_7 19 rfl rfl)
theorem dX3_add_188 : decode cX3_add 188 = .ok (.iconst 1, 1) := dk_4 (dk_at dksX3_add_7 22 rfl rfl)
theorem dX3_add_189 : decode cX3_add 189 = .ok (.isub, 1) := dk_100 (dk_at dksX3_add_7 23 rfl rfl)
theorem dX3_add_190 : decode cX3_add 190 = .ok (.ireturn, 1) := dk_172 (dk_at dksX3_add_8 0 rfl rfl)
abbrev cX3_addAll : ByteArray := prog_26_method_65_code
def yX3_addAll : MethodName := ⟨RX3, "addAll", "(III)V"⟩
def dkwX3_addAll_4 : List UInt8 := [21, 5, 46, 96, 29, 42, 180, 0, 43, 21, 5, 46, 96, 182, 1, 63, 132, 4, 1, 167, 255, 195, 177]
abbrev dktX3_addAll_4 : List UInt8 := dkwX3_addAll_4 ++ []
def dkwX3_addAll_3 : List UInt8 := [54, 5, 42, 42, 180, 0, 37, 21, 5, 46, 28, 42, 180, 0, 46, 21, 5, 46, 96, 29, 42, 180, 0, 40]
abbrev dktX3_addAll_3 : List UInt8 := dkwX3_addAll_3 ++ dktX3_addAll_4
def dkwX3_addAll_2 : List UInt8 := [167, 255, 213, 3, 54, 4, 21, 4, 42, 180, 0, 31, 27, 46, 162, 0, 56, 16, 24, 27, 104, 21, 4, 96]
abbrev dktX3_addAll_2 : List UInt8 := dkwX3_addAll_2 ++ dktX3_addAll_3
def dkwX3_addAll_1 : List UInt8 := [104, 28, 96, 21, 4, 96, 42, 180, 0, 28, 16, 6, 27, 104, 21, 4, 96, 46, 79, 132, 4, 1]
abbrev dktX3_addAll_1 : List UInt8 := dkwX3_addAll_1 ++ dktX3_addAll_2
def dkwX3_addAll_0 : List UInt8 := [3, 54, 4, 21, 4, 42, 180, 0, 25, 27, 46, 162, 0, 38, 42, 180, 0, 28, 16, 6, 42, 180, 0, 252]
abbrev dktX3_addAll_0 : List UInt8 := dkwX3_addAll_0 ++ dktX3_addAll_1
theorem dksX3_addAll_0 : cX3_addAll.data.toList.drop 0 = dktX3_addAll_0 := by decide +kernel
theorem dksX3_addAll_1 : cX3_addAll.data.toList.drop 24 = dktX3_addAll_1 := dk_seg dksX3_addAll_0 24 rfl rfl
theorem dksX3_addAll_2 : cX3_addAll.data.toList.drop 46 = dktX3_addAll_2 := dk_seg dksX3_addAll_1 22 rfl rfl
theorem dksX3_addAll_3 : cX3_addAll.data.toList.drop 70 = dktX3_addAll_3 := dk_seg dksX3_addAll_2 24 rfl rfl
theorem dksX3_addAll_4 : cX3_addAll.data.toList.drop 94 = dktX3_addAll_4 := dk_seg dksX3_addAll_3 24 rfl rfl
theorem dX3_addAll_0 : decode cX3_addAll 0 = .ok (.iconst 0, 1) := dk_3 (dk_at dksX3_addAll_0 0 rfl rfl)
theorem dX3_addAll_1 : decode cX3_addAll 1 = .ok (.istore 4, 2) := dk_54 4 (dk_at dksX3_addAll_0 1 rfl rfl)
theorem dX3_addAll_3 : decode cX3_addAll 3 = .ok (.iload 4, 2) := dk_21 4 (dk_at dksX3_addAll_0 3 rfl rfl)
theorem dX3_addAll_5 : decode cX3_addAll 5 = .ok (.aload_n 0, 1) := dk_42 (dk_at dksX3_addAll_0 5 rfl rfl)
theorem dX3_addAll_6 : decode cX3_addAll 6 = .ok (.getfield 25, 3) := dk_180 0 25 (dk_at dksX3_addAll_0 6 rfl rfl)
theorem dX3_addAll_9 : decode cX3_addAll 9 = .ok (.iload_n 1, 1) := dk_27 (dk_at dksX3_addAll_0 9 rfl rfl)
theorem dX3_addAll_10 : decode cX3_addAll 10 = .ok (.iaload, 1) := dk_46 (dk_at dksX3_addAll_0 10 rfl rfl)
theorem dX3_addAll_11 : decode cX3_addAll 11 = .ok (.if_icmp .ge 38, 3) := dk_162 0 38 (dk_at dksX3_addAll_0 11 rfl rfl)
theorem dX3_addAll_14 : decode cX3_addAll 14 = .ok (.aload_n 0, 1) := dk_42 (dk_at dksX3_addAll_0 14 rfl rfl)
theorem dX3_addAll_15 : decode cX3_addAll 15 = .ok (.getfield 28, 3) := dk_180 0 28 (dk_at dksX3_addAll_0 15 rfl rfl)
theorem dX3_addAll_18 : decode cX3_addAll 18 = .ok (.bipush 6, 2) := dk_16 6 (dk_at dksX3_addAll_0 18 rfl rfl)
theorem dX3_addAll_20 : decode cX3_addAll 20 = .ok (.aload_n 0, 1) := dk_42 (dk_at dksX3_addAll_0 20 rfl rfl)
theorem dX3_addAll_21 : decode cX3_addAll 21 = .ok (.getfield 252, 3) := dk_180 0 252 (dk_at dksX3_addAll_0 21 rfl rfl)
theorem dX3_addAll_24 : decode cX3_addAll 24 = .ok (.imul, 1) := dk_104 (dk_at dksX3_addAll_1 0 rfl rfl)
theorem dX3_addAll_25 : decode cX3_addAll 25 = .ok (.iload_n 2, 1) := dk_28 (dk_at dksX3_addAll_1 1 rfl rfl)
theorem dX3_addAll_26 : decode cX3_addAll 26 = .ok (.iadd, 1) := dk_96 (dk_at dksX3_addAll_1 2 rfl rfl)
theorem dX3_addAll_27 : decode cX3_addAll 27 = .ok (.iload 4, 2) := dk_21 4 (dk_at dksX3_addAll_1 3 rfl rfl)
theorem dX3_addAll_29 : decode cX3_addAll 29 = .ok (.iadd, 1) := dk_96 (dk_at dksX3_addAll_1 5 rfl rfl)
theorem dX3_addAll_30 : decode cX3_addAll 30 = .ok (.aload_n 0, 1) := dk_42 (dk_at dksX3_addAll_1 6 rfl rfl)
theorem dX3_addAll_31 : decode cX3_addAll 31 = .ok (.getfield 28, 3) := dk_180 0 28 (dk_at dksX3_addAll_1 7 rfl rfl)
theorem dX3_addAll_34 : decode cX3_addAll 34 = .ok (.bipush 6, 2) := dk_16 6 (dk_at dksX3_addAll_1 10 rfl rfl)
theorem dX3_addAll_36 : decode cX3_addAll 36 = .ok (.iload_n 1, 1) := dk_27 (dk_at dksX3_addAll_1 12 rfl rfl)
theorem dX3_addAll_37 : decode cX3_addAll 37 = .ok (.imul, 1) := dk_104 (dk_at dksX3_addAll_1 13 rfl rfl)
theorem dX3_addAll_38 : decode cX3_addAll 38 = .ok (.iload 4, 2) := dk_21 4 (dk_at dksX3_addAll_1 14 rfl rfl)
theorem dX3_addAll_40 : decode cX3_addAll 40 = .ok (.iadd, 1) := dk_96 (dk_at dksX3_addAll_1 16 rfl rfl)
theorem dX3_addAll_41 : decode cX3_addAll 41 = .ok (.iaload, 1) := dk_46 (dk_at dksX3_addAll_1 17 rfl rfl)
theorem dX3_addAll_42 : decode cX3_addAll 42 = .ok (.iastore, 1) := dk_79 (dk_at dksX3_addAll_1 18 rfl rfl)
theorem dX3_addAll_43 : decode cX3_addAll 43 = .ok (.iinc 4 1, 3) := dk_132 4 1 (dk_at dksX3_addAll_1 19 rfl rfl)
theorem dX3_addAll_46 : decode cX3_addAll 46 = .ok (.goto (-43), 3) := dk_167 255 213 (dk_at dksX3_addAll_2 0 rfl rfl)
theorem dX3_addAll_49 : decode cX3_addAll 49 = .ok (.iconst 0, 1) := dk_3 (dk_at dksX3_addAll_2 3 rfl rfl)
theorem dX3_addAll_50 : decode cX3_addAll 50 = .ok (.istore 4, 2) := dk_54 4 (dk_at dksX3_addAll_2 4 rfl rfl)
theorem dX3_addAll_52 : decode cX3_addAll 52 = .ok (.iload 4, 2) := dk_21 4 (dk_at dksX3_addAll_2 6 rfl rfl)
theorem dX3_addAll_54 : decode cX3_addAll 54 = .ok (.aload_n 0, 1) := dk_42 (dk_at dksX3_addAll_2 8 rfl rfl)
theorem dX3_addAll_55 : decode cX3_addAll 55 = .ok (.getfield 31, 3) := dk_180 0 31 (dk_at dksX3_addAll_2 9 rfl rfl)
theorem dX3_addAll_58 : decode cX3_addAll 58 = .ok (.iload_n 1, 1) := dk_27 (dk_at dksX3_addAll_2 12 rfl rfl)
theorem dX3_addAll_59 : decode cX3_addAll 59 = .ok (.iaload, 1) := dk_46 (dk_at dksX3_addAll_2 13 rfl rfl)
theorem dX3_addAll_60 : decode cX3_addAll 60 = .ok (.if_icmp .ge 56, 3) := dk_162 0 56 (dk_at dksX3_addAll_2 14 rfl rfl)
theorem dX3_addAll_63 : decode cX3_addAll 63 = .ok (.bipush 24, 2) := dk_16 24 (dk_at dksX3_addAll_2 17 rfl rfl)
theorem dX3_addAll_65 : decode cX3_addAll 65 = .ok (.iload_n 1, 1) := dk_27 (dk_at dksX3_addAll_2 19 rfl rfl)
theorem dX3_addAll_66 : decode cX3_addAll 66 = .ok (.imul, 1) := dk_104 (dk_at dksX3_addAll_2 20 rfl rfl)
theorem dX3_addAll_67 : decode cX3_addAll 67 = .ok (.iload 4, 2) := dk_21 4 (dk_at dksX3_addAll_2 21 rfl rfl)
theorem dX3_addAll_69 : decode cX3_addAll 69 = .ok (.iadd, 1) := dk_96 (dk_at dksX3_addAll_2 23 rfl rfl)
theorem dX3_addAll_70 : decode cX3_addAll 70 = .ok (.istore 5, 2) := dk_54 5 (dk_at dksX3_addAll_3 0 rfl rfl)
theorem dX3_addAll_72 : decode cX3_addAll 72 = .ok (.aload_n 0, 1) := dk_42 (dk_at dksX3_addAll_3 2 rfl rfl)
theorem dX3_addAll_73 : decode cX3_addAll 73 = .ok (.aload_n 0, 1) := dk_42 (dk_at dksX3_addAll_3 3 rfl rfl)
theorem dX3_addAll_74 : decode cX3_addAll 74 = .ok (.getfield 37, 3) := dk_180 0 37 (dk_at dksX3_addAll_3 4 rfl rfl)
theorem dX3_addAll_77 : decode cX3_addAll 77 = .ok (.iload 5, 2) := dk_21 5 (dk_at dksX3_addAll_3 7 rfl rfl)
theorem dX3_addAll_79 : decode cX3_addAll 79 = .ok (.iaload, 1) := dk_46 (dk_at dksX3_addAll_3 9 rfl rfl)
theorem dX3_addAll_80 : decode cX3_addAll 80 = .ok (.iload_n 2, 1) := dk_28 (dk_at dksX3_addAll_3 10 rfl rfl)
theorem dX3_addAll_81 : decode cX3_addAll 81 = .ok (.aload_n 0, 1) := dk_42 (dk_at dksX3_addAll_3 11 rfl rfl)
theorem dX3_addAll_82 : decode cX3_addAll 82 = .ok (.getfield 46, 3) := dk_180 0 46 (dk_at dksX3_addAll_3 12 rfl rfl)
theorem dX3_addAll_85 : decode cX3_addAll 85 = .ok (.iload 5, 2) := dk_21 5 (dk_at dksX3_addAll_3 15 rfl rfl)
theorem dX3_addAll_87 : decode cX3_addAll 87 = .ok (.iaload, 1) := dk_46 (dk_at dksX3_addAll_3 17 rfl rfl)
theorem dX3_addAll_88 : decode cX3_addAll 88 = .ok (.iadd, 1) := dk_96 (dk_at dksX3_addAll_3 18 rfl rfl)
theorem dX3_addAll_89 : decode cX3_addAll 89 = .ok (.iload_n 3, 1) := dk_29 (dk_at dksX3_addAll_3 19 rfl rfl)
theorem dX3_addAll_90 : decode cX3_addAll 90 = .ok (.aload_n 0, 1) := dk_42 (dk_at dksX3_addAll_3 20 rfl rfl)
theorem dX3_addAll_91 : decode cX3_addAll 91 = .ok (.getfield 40, 3) := dk_180 0 40 (dk_at dksX3_addAll_3 21 rfl rfl)
theorem dX3_addAll_94 : decode cX3_addAll 94 = .ok (.iload 5, 2) := dk_21 5 (dk_at dksX3_addAll_4 0 rfl rfl)
theorem dX3_addAll_96 : decode cX3_addAll 96 = .ok (.iaload, 1) := dk_46 (dk_at dksX3_addAll_4 2 rfl rfl)
theorem dX3_addAll_97 : decode cX3_addAll 97 = .ok (.iadd, 1) := dk_96 (dk_at dksX3_addAll_4 3 rfl rfl)
theorem dX3_addAll_98 : decode cX3_addAll 98 = .ok (.iload_n 3, 1) := dk_29 (dk_at dksX3_addAll_4 4 rfl rfl)
theorem dX3_addAll_99 : decode cX3_addAll 99 = .ok (.aload_n 0, 1) := dk_42 (dk_at dksX3_addAll_4 5 rfl rfl)
theorem dX3_addAll_100 : decode cX3_addAll 100 = .ok (.getfield 43, 3) := dk_180 0 43 (dk_at dksX3_addAll_4 6 rfl rfl)
theorem dX3_addAll_103 : decode cX3_addAll 103 = .ok (.iload 5, 2) := dk_21 5 (dk_at dksX3_addAll_4 9 rfl rfl)
theorem dX3_addAll_105 : decode cX3_addAll 105 = .ok (.iaload, 1) := dk_46 (dk_at dksX3_addAll_4 11 rfl rfl)
theorem dX3_addAll_106 : decode cX3_addAll 106 = .ok (.iadd, 1) := dk_96 (dk_at dksX3_addAll_4 12 rfl rfl)
theorem dX3_addAll_107 : decode cX3_addAll 107 = .ok (.invokevirtual 319, 3) := dk_182 1 63 (dk_at dksX3_addAll_4 13 rfl rfl)
theorem dX3_addAll_110 : decode cX3_addAll 110 = .ok (.iinc 4 1, 3) := dk_132 4 1 (dk_at dksX3_addAll_4 16 rfl rfl)
theorem dX3_addAll_113 : decode cX3_addAll 113 = .ok (.goto (-61), 3) := dk_167 255 195 (dk_at dksX3_addAll_4 19 rfl rfl)
theorem dX3_addAll_116 : decode cX3_addAll 116 = .ok (.return_, 1) := dk_177 (dk_at dksX3_addAll_4 22 rfl rfl)
abbrev cX3_pop : ByteArray := prog_26_method_69_code
def yX3_pop : MethodName := ⟨RX3, "pop", "(III)I"⟩
def dkwX3_pop_3 : List UInt8 := [42, 27, 21, 4, 182, 1, 85, 172]
abbrev dktX3_pop_3 : List UInt8 := dkwX3_pop_3 ++ []
def dkwX3_pop_2 : List UInt8 := [54, 5, 29, 154, 0, 8, 21, 5, 167, 0, 23, 29, 4, 160, 0, 11, 21, 5, 184, 1, 80, 167, 0, 10]
abbrev dktX3_pop_2 : List UInt8 := dkwX3_pop_2 ++ dktX3_pop_3
def dkwX3_pop_1 : List UInt8 := [182, 1, 31, 4, 28, 120, 2, 130, 126, 182, 1, 77, 54, 4, 42, 27, 182, 1, 31, 21, 4, 2, 130, 126]
abbrev dktX3_pop_1 : List UInt8 := dkwX3_pop_1 ++ dktX3_pop_2
def dkwX3_pop_0 : List UInt8 := [42, 27, 28, 182, 1, 48, 153, 0, 12, 29, 3, 5, 184, 0, 121, 154, 0, 5, 2, 172, 42, 27, 42, 27]
abbrev dktX3_pop_0 : List UInt8 := dkwX3_pop_0 ++ dktX3_pop_1
theorem dksX3_pop_0 : cX3_pop.data.toList.drop 0 = dktX3_pop_0 := by decide +kernel
theorem dksX3_pop_1 : cX3_pop.data.toList.drop 24 = dktX3_pop_1 := dk_seg dksX3_pop_0 24 rfl rfl
theorem dksX3_pop_2 : cX3_pop.data.toList.drop 48 = dktX3_pop_2 := dk_seg dksX3_pop_1 24 rfl rfl
theorem dksX3_pop_3 : cX3_pop.data.toList.drop 72 = dktX3_pop_3 := dk_seg dksX3_pop_2 24 rfl rfl
theorem dX3_pop_0 : decode cX3_pop 0 = .ok (.aload_n 0, 1) := dk_42 (dk_at dksX3_pop_0 0 rfl rfl)
theorem dX3_pop_1 : decode cX3_pop 1 = .ok (.iload_n 1, 1) := dk_27 (dk_at dksX3_pop_0 1 rfl rfl)
theorem dX3_pop_2 : decode cX3_pop 2 = .ok (.iload_n 2, 1) := dk_28 (dk_at dksX3_pop_0 2 rfl rfl)
theorem dX3_pop_3 : decode cX3_pop 3 = .ok (.invokevirtual 304, 3) := dk_182 1 48 (dk_at dksX3_pop_0 3 rfl rfl)
theorem dX3_pop_6 : decode cX3_pop 6 = .ok (.ifCond .eq 12, 3) := dk_153 0 12 (dk_at dksX3_pop_0 6 rfl rfl)
theorem dX3_pop_9 : decode cX3_pop 9 = .ok (.iload_n 3, 1) := dk_29 (dk_at dksX3_pop_0 9 rfl rfl)
theorem dX3_pop_10 : decode cX3_pop 10 = .ok (.iconst 0, 1) := dk_3 (dk_at dksX3_pop_0 10 rfl rfl)
theorem dX3_pop_11 : decode cX3_pop 11 = .ok (.iconst 2, 1) := dk_5 (dk_at dksX3_pop_0 11 rfl rfl)
theorem dX3_pop_12 : decode cX3_pop 12 = .ok (.invokestatic 121, 3) := dk_184 0 121 (dk_at dksX3_pop_0 12 rfl rfl)
theorem dX3_pop_15 : decode cX3_pop 15 = .ok (.ifCond .ne 5, 3) := dk_154 0 5 (dk_at dksX3_pop_0 15 rfl rfl)
theorem dX3_pop_18 : decode cX3_pop 18 = .ok (.iconst (-1), 1) := dk_2 (dk_at dksX3_pop_0 18 rfl rfl)
theorem dX3_pop_19 : decode cX3_pop 19 = .ok (.ireturn, 1) := dk_172 (dk_at dksX3_pop_0 19 rfl rfl)
theorem dX3_pop_20 : decode cX3_pop 20 = .ok (.aload_n 0, 1) := dk_42 (dk_at dksX3_pop_0 20 rfl rfl)
theorem dX3_pop_21 : decode cX3_pop 21 = .ok (.iload_n 1, 1) := dk_27 (dk_at dksX3_pop_0 21 rfl rfl)
theorem dX3_pop_22 : decode cX3_pop 22 = .ok (.aload_n 0, 1) := dk_42 (dk_at dksX3_pop_0 22 rfl rfl)
theorem dX3_pop_23 : decode cX3_pop 23 = .ok (.iload_n 1, 1) := dk_27 (dk_at dksX3_pop_0 23 rfl rfl)
theorem dX3_pop_24 : decode cX3_pop 24 = .ok (.invokevirtual 287, 3) := dk_182 1 31 (dk_at dksX3_pop_1 0 rfl rfl)
theorem dX3_pop_27 : decode cX3_pop 27 = .ok (.iconst 1, 1) := dk_4 (dk_at dksX3_pop_1 3 rfl rfl)
theorem dX3_pop_28 : decode cX3_pop 28 = .ok (.iload_n 2, 1) := dk_28 (dk_at dksX3_pop_1 4 rfl rfl)
theorem dX3_pop_29 : decode cX3_pop 29 = .ok (.ishl, 1) := dk_120 (dk_at dksX3_pop_1 5 rfl rfl)
theorem dX3_pop_30 : decode cX3_pop 30 = .ok (.iconst (-1), 1) := dk_2 (dk_at dksX3_pop_1 6 rfl rfl)
theorem dX3_pop_31 : decode cX3_pop 31 = .ok (.ixor, 1) := dk_130 (dk_at dksX3_pop_1 7 rfl rfl)
theorem dX3_pop_32 : decode cX3_pop 32 = .ok (.iand, 1) := dk_126 (dk_at dksX3_pop_1 8 rfl rfl)
theorem dX3_pop_33 : decode cX3_pop 33 = .ok (.invokevirtual 333, 3) := dk_182 1 77 (dk_at dksX3_pop_1 9 rfl rfl)
theorem dX3_pop_36 : decode cX3_pop 36 = .ok (.istore 4, 2) := dk_54 4 (dk_at dksX3_pop_1 12 rfl rfl)
theorem dX3_pop_38 : decode cX3_pop 38 = .ok (.aload_n 0, 1) := dk_42 (dk_at dksX3_pop_1 14 rfl rfl)
theorem dX3_pop_39 : decode cX3_pop 39 = .ok (.iload_n 1, 1) := dk_27 (dk_at dksX3_pop_1 15 rfl rfl)
theorem dX3_pop_40 : decode cX3_pop 40 = .ok (.invokevirtual 287, 3) := dk_182 1 31 (dk_at dksX3_pop_1 16 rfl rfl)
theorem dX3_pop_43 : decode cX3_pop 43 = .ok (.iload 4, 2) := dk_21 4 (dk_at dksX3_pop_1 19 rfl rfl)
theorem dX3_pop_45 : decode cX3_pop 45 = .ok (.iconst (-1), 1) := dk_2 (dk_at dksX3_pop_1 21 rfl rfl)
theorem dX3_pop_46 : decode cX3_pop 46 = .ok (.ixor, 1) := dk_130 (dk_at dksX3_pop_1 22 rfl rfl)
theorem dX3_pop_47 : decode cX3_pop 47 = .ok (.iand, 1) := dk_126 (dk_at dksX3_pop_1 23 rfl rfl)
theorem dX3_pop_48 : decode cX3_pop 48 = .ok (.istore 5, 2) := dk_54 5 (dk_at dksX3_pop_2 0 rfl rfl)
theorem dX3_pop_50 : decode cX3_pop 50 = .ok (.iload_n 3, 1) := dk_29 (dk_at dksX3_pop_2 2 rfl rfl)
theorem dX3_pop_51 : decode cX3_pop 51 = .ok (.ifCond .ne 8, 3) := dk_154 0 8 (dk_at dksX3_pop_2 3 rfl rfl)
theorem dX3_pop_54 : decode cX3_pop 54 = .ok (.iload 5, 2) := dk_21 5 (dk_at dksX3_pop_2 6 rfl rfl)
theorem dX3_pop_56 : decode cX3_pop 56 = .ok (.goto 23, 3) := dk_167 0 23 (dk_at dksX3_pop_2 8 rfl rfl)
theorem dX3_pop_59 : decode cX3_pop 59 = .ok (.iload_n 3, 1) := dk_29 (dk_at dksX3_pop_2 11 rfl rfl)
theorem dX3_pop_60 : decode cX3_pop 60 = .ok (.iconst 1, 1) := dk_4 (dk_at dksX3_pop_2 12 rfl rfl)
theorem dX3_pop_61 : decode cX3_pop 61 = .ok (.if_icmp .ne 11, 3) := dk_160 0 11 (dk_at dksX3_pop_2 13 rfl rfl)
theorem dX3_pop_64 : decode cX3_pop 64 = .ok (.iload 5, 2) := dk_21 5 (dk_at dksX3_pop_2 16 rfl rfl)
theorem dX3_pop_66 : decode cX3_pop 66 = .ok (.invokestatic 336, 3) := dk_184 1 80 (dk_at dksX3_pop_2 18 rfl rfl)
theorem dX3_pop_69 : decode cX3_pop 69 = .ok (.goto 10, 3) := dk_167 0 10 (dk_at dksX3_pop_2 21 rfl rfl)
theorem dX3_pop_72 : decode cX3_pop 72 = .ok (.aload_n 0, 1) := dk_42 (dk_at dksX3_pop_3 0 rfl rfl)
theorem dX3_pop_73 : decode cX3_pop 73 = .ok (.iload_n 1, 1) := dk_27 (dk_at dksX3_pop_3 1 rfl rfl)
theorem dX3_pop_74 : decode cX3_pop 74 = .ok (.iload 4, 2) := dk_21 4 (dk_at dksX3_pop_3 2 rfl rfl)
theorem dX3_pop_76 : decode cX3_pop 76 = .ok (.invokevirtual 341, 3) := dk_182 1 85 (dk_at dksX3_pop_3 4 rfl rfl)
theorem dX3_pop_79 : decode cX3_pop 79 = .ok (.ireturn, 1) := dk_172 (dk_at dksX3_pop_3 7 rfl rfl)
abbrev cX3_leftOf : ByteArray := prog_26_method_66_code
def yX3_leftOf : MethodName := ⟨RX3, "leftOf", "(II)I"⟩
def dkwX3_leftOf_5 : List UInt8 := [132, 5, 1, 167, 255, 152, 167, 255, 138, 29, 172]
abbrev dktX3_leftOf_5 : List UInt8 := dkwX3_leftOf_5 ++ []
def dkwX3_leftOf_4 : List UInt8 := [21, 5, 96, 46, 29, 182, 1, 34, 6, 162, 0, 15, 29, 6, 21, 5, 120, 2, 130, 126, 62, 4, 54, 4]
abbrev dktX3_leftOf_4 : List UInt8 := dkwX3_leftOf_4 ++ dktX3_leftOf_5
def dkwX3_leftOf_3 : List UInt8 := [167, 0, 4, 3, 54, 7, 21, 6, 21, 7, 159, 0, 37, 42, 27, 42, 180, 0, 43, 16, 24, 27, 104]
abbrev dktX3_leftOf_3 : List UInt8 := dkwX3_leftOf_3 ++ dktX3_leftOf_4
def dkwX3_leftOf_2 : List UInt8 := [160, 0, 7, 4, 167, 0, 4, 3, 54, 6, 29, 21, 5, 4, 96, 122, 4, 126, 4, 160, 0, 7, 4]
abbrev dktX3_leftOf_2 : List UInt8 := dkwX3_leftOf_2 ++ dktX3_leftOf_3
def dkwX3_leftOf_1 : List UInt8 := [162, 0, 99, 42, 27, 21, 5, 182, 1, 38, 154, 0, 6, 167, 0, 80, 29, 21, 5, 122, 4, 126, 4]
abbrev dktX3_leftOf_1 : List UInt8 := dkwX3_leftOf_1 ++ dktX3_leftOf_2
def dkwX3_leftOf_0 : List UInt8 := [28, 62, 4, 54, 4, 21, 4, 153, 0, 119, 3, 54, 4, 3, 54, 5, 21, 5, 42, 180, 0, 31, 27, 46]
abbrev dktX3_leftOf_0 : List UInt8 := dkwX3_leftOf_0 ++ dktX3_leftOf_1
theorem dksX3_leftOf_0 : cX3_leftOf.data.toList.drop 0 = dktX3_leftOf_0 := by decide +kernel
theorem dksX3_leftOf_1 : cX3_leftOf.data.toList.drop 24 = dktX3_leftOf_1 := dk_seg dksX3_leftOf_0 24 rfl rfl
theorem dksX3_leftOf_2 : cX3_leftOf.data.toList.drop 47 = dktX3_leftOf_2 := dk_seg dksX3_leftOf_1 23 rfl rfl
theorem dksX3_leftOf_3 : cX3_leftOf.data.toList.drop 70 = dktX3_leftOf_3 := dk_seg dksX3_leftOf_2 23 rfl rfl
theorem dksX3_leftOf_4 : cX3_leftOf.data.toList.drop 93 = dktX3_leftOf_4 := dk_seg dksX3_leftOf_3 23 rfl rfl
theorem dksX3_leftOf_5 : cX3_leftOf.data.toList.drop 117 = dktX3_leftOf_5 := dk_seg dksX3_leftOf_4 24 rfl rfl
theorem dX3_leftOf_0 : decode cX3_leftOf 0 = .ok (.iload_n 2, 1) := dk_28 (dk_at dksX3_leftOf_0 0 rfl rfl)
theorem dX3_leftOf_1 : decode cX3_leftOf 1 = .ok (.istore_n 3, 1) := dk_62 (dk_at dksX3_leftOf_0 1 rfl rfl)
theorem dX3_leftOf_2 : decode cX3_leftOf 2 = .ok (.iconst 1, 1) := dk_4 (dk_at dksX3_leftOf_0 2 rfl rfl)
theorem dX3_leftOf_3 : decode cX3_leftOf 3 = .ok (.istore 4, 2) := dk_54 4 (dk_at dksX3_leftOf_0 3 rfl rfl)
theorem dX3_leftOf_5 : decode cX3_leftOf 5 = .ok (.iload 4, 2) := dk_21 4 (dk_at dksX3_leftOf_0 5 rfl rfl)
theorem dX3_leftOf_7 : decode cX3_leftOf 7 = .ok (.ifCond .eq 119, 3) := dk_153 0 119 (dk_at dksX3_leftOf_0 7 rfl rfl)
theorem dX3_leftOf_10 : decode cX3_leftOf 10 = .ok (.iconst 0, 1) := dk_3 (dk_at dksX3_leftOf_0 10 rfl rfl)
theorem dX3_leftOf_11 : decode cX3_leftOf 11 = .ok (.istore 4, 2) := dk_54 4 (dk_at dksX3_leftOf_0 11 rfl rfl)
theorem dX3_leftOf_13 : decode cX3_leftOf 13 = .ok (.iconst 0, 1) := dk_3 (dk_at dksX3_leftOf_0 13 rfl rfl)
theorem dX3_leftOf_14 : decode cX3_leftOf 14 = .ok (.istore 5, 2) := dk_54 5 (dk_at dksX3_leftOf_0 14 rfl rfl)
theorem dX3_leftOf_16 : decode cX3_leftOf 16 = .ok (.iload 5, 2) := dk_21 5 (dk_at dksX3_leftOf_0 16 rfl rfl)
theorem dX3_leftOf_18 : decode cX3_leftOf 18 = .ok (.aload_n 0, 1) := dk_42 (dk_at dksX3_leftOf_0 18 rfl rfl)
theorem dX3_leftOf_19 : decode cX3_leftOf 19 = .ok (.getfield 31, 3) := dk_180 0 31 (dk_at dksX3_leftOf_0 19 rfl rfl)
theorem dX3_leftOf_22 : decode cX3_leftOf 22 = .ok (.iload_n 1, 1) := dk_27 (dk_at dksX3_leftOf_0 22 rfl rfl)
theorem dX3_leftOf_23 : decode cX3_leftOf 23 = .ok (.iaload, 1) := dk_46 (dk_at dksX3_leftOf_0 23 rfl rfl)
theorem dX3_leftOf_24 : decode cX3_leftOf 24 = .ok (.if_icmp .ge 99, 3) := dk_162 0 99 (dk_at dksX3_leftOf_1 0 rfl rfl)
theorem dX3_leftOf_27 : decode cX3_leftOf 27 = .ok (.aload_n 0, 1) := dk_42 (dk_at dksX3_leftOf_1 3 rfl rfl)
theorem dX3_leftOf_28 : decode cX3_leftOf 28 = .ok (.iload_n 1, 1) := dk_27 (dk_at dksX3_leftOf_1 4 rfl rfl)
theorem dX3_leftOf_29 : decode cX3_leftOf 29 = .ok (.iload 5, 2) := dk_21 5 (dk_at dksX3_leftOf_1 5 rfl rfl)
theorem dX3_leftOf_31 : decode cX3_leftOf 31 = .ok (.invokevirtual 294, 3) := dk_182 1 38 (dk_at dksX3_leftOf_1 7 rfl rfl)
theorem dX3_leftOf_34 : decode cX3_leftOf 34 = .ok (.ifCond .ne 6, 3) := dk_154 0 6 (dk_at dksX3_leftOf_1 10 rfl rfl)
theorem dX3_leftOf_37 : decode cX3_leftOf 37 = .ok (.goto 80, 3) := dk_167 0 80 (dk_at dksX3_leftOf_1 13 rfl rfl)
theorem dX3_leftOf_40 : decode cX3_leftOf 40 = .ok (.iload_n 3, 1) := dk_29 (dk_at dksX3_leftOf_1 16 rfl rfl)
theorem dX3_leftOf_41 : decode cX3_leftOf 41 = .ok (.iload 5, 2) := dk_21 5 (dk_at dksX3_leftOf_1 17 rfl rfl)
theorem dX3_leftOf_43 : decode cX3_leftOf 43 = .ok (.ishr, 1) := dk_122 (dk_at dksX3_leftOf_1 19 rfl rfl)
theorem dX3_leftOf_44 : decode cX3_leftOf 44 = .ok (.iconst 1, 1) := dk_4 (dk_at dksX3_leftOf_1 20 rfl rfl)
theorem dX3_leftOf_45 : decode cX3_leftOf 45 = .ok (.iand, 1) := dk_126 (dk_at dksX3_leftOf_1 21 rfl rfl)
theorem dX3_leftOf_46 : decode cX3_leftOf 46 = .ok (.iconst 1, 1) := dk_4 (dk_at dksX3_leftOf_1 22 rfl rfl)
theorem dX3_leftOf_47 : decode cX3_leftOf 47 = .ok (.if_icmp .ne 7, 3) := dk_160 0 7 (dk_at dksX3_leftOf_2 0 rfl rfl)
theorem dX3_leftOf_50 : decode cX3_leftOf 50 = .ok (.iconst 1, 1) := dk_4 (dk_at dksX3_leftOf_2 3 rfl rfl)
theorem dX3_leftOf_51 : decode cX3_leftOf 51 = .ok (.goto 4, 3) := dk_167 0 4 (dk_at dksX3_leftOf_2 4 rfl rfl)
theorem dX3_leftOf_54 : decode cX3_leftOf 54 = .ok (.iconst 0, 1) := dk_3 (dk_at dksX3_leftOf_2 7 rfl rfl)
theorem dX3_leftOf_55 : decode cX3_leftOf 55 = .ok (.istore 6, 2) := dk_54 6 (dk_at dksX3_leftOf_2 8 rfl rfl)
theorem dX3_leftOf_57 : decode cX3_leftOf 57 = .ok (.iload_n 3, 1) := dk_29 (dk_at dksX3_leftOf_2 10 rfl rfl)
theorem dX3_leftOf_58 : decode cX3_leftOf 58 = .ok (.iload 5, 2) := dk_21 5 (dk_at dksX3_leftOf_2 11 rfl rfl)
theorem dX3_leftOf_60 : decode cX3_leftOf 60 = .ok (.iconst 1, 1) := dk_4 (dk_at dksX3_leftOf_2 13 rfl rfl)
theorem dX3_leftOf_61 : decode cX3_leftOf 61 = .ok (.iadd, 1) := dk_96 (dk_at dksX3_leftOf_2 14 rfl rfl)
theorem dX3_leftOf_62 : decode cX3_leftOf 62 = .ok (.ishr, 1) := dk_122 (dk_at dksX3_leftOf_2 15 rfl rfl)
theorem dX3_leftOf_63 : decode cX3_leftOf 63 = .ok (.iconst 1, 1) := dk_4 (dk_at dksX3_leftOf_2 16 rfl rfl)
theorem dX3_leftOf_64 : decode cX3_leftOf 64 = .ok (.iand, 1) := dk_126 (dk_at dksX3_leftOf_2 17 rfl rfl)
theorem dX3_leftOf_65 : decode cX3_leftOf 65 = .ok (.iconst 1, 1) := dk_4 (dk_at dksX3_leftOf_2 18 rfl rfl)
theorem dX3_leftOf_66 : decode cX3_leftOf 66 = .ok (.if_icmp .ne 7, 3) := dk_160 0 7 (dk_at dksX3_leftOf_2 19 rfl rfl)
theorem dX3_leftOf_69 : decode cX3_leftOf 69 = .ok (.iconst 1, 1) := dk_4 (dk_at dksX3_leftOf_2 22 rfl rfl)
theorem dX3_leftOf_70 : decode cX3_leftOf 70 = .ok (.goto 4, 3) := dk_167 0 4 (dk_at dksX3_leftOf_3 0 rfl rfl)
theorem dX3_leftOf_73 : decode cX3_leftOf 73 = .ok (.iconst 0, 1) := dk_3 (dk_at dksX3_leftOf_3 3 rfl rfl)
theorem dX3_leftOf_74 : decode cX3_leftOf 74 = .ok (.istore 7, 2) := dk_54 7 (dk_at dksX3_leftOf_3 4 rfl rfl)
theorem dX3_leftOf_76 : decode cX3_leftOf 76 = .ok (.iload 6, 2) := dk_21 6 (dk_at dksX3_leftOf_3 6 rfl rfl)
theorem dX3_leftOf_78 : decode cX3_leftOf 78 = .ok (.iload 7, 2) := dk_21 7 (dk_at dksX3_leftOf_3 8 rfl rfl)
theorem dX3_leftOf_80 : decode cX3_leftOf 80 = .ok (.if_icmp .eq 37, 3) := dk_159 0 37 (dk_at dksX3_leftOf_3 10 rfl rfl)
theorem dX3_leftOf_83 : decode cX3_leftOf 83 = .ok (.aload_n 0, 1) := dk_42 (dk_at dksX3_leftOf_3 13 rfl rfl)
theorem dX3_leftOf_84 : decode cX3_leftOf 84 = .ok (.iload_n 1, 1) := dk_27 (dk_at dksX3_leftOf_3 14 rfl rfl)
theorem dX3_leftOf_85 : decode cX3_leftOf 85 = .ok (.aload_n 0, 1) := dk_42 (dk_at dksX3_leftOf_3 15 rfl rfl)
theorem dX3_leftOf_86 : decode cX3_leftOf 86 = .ok (.getfield 43, 3) := dk_180 0 43 (dk_at dksX3_leftOf_3 16 rfl rfl)
theorem dX3_leftOf_89 : decode cX3_leftOf 89 = .ok (.bipush 24, 2) := dk_16 24 (dk_at dksX3_leftOf_3 19 rfl rfl)
theorem dX3_leftOf_91 : decode cX3_leftOf 91 = .ok (.iload_n 1, 1) := dk_27 (dk_at dksX3_leftOf_3 21 rfl rfl)
theorem dX3_leftOf_92 : decode cX3_leftOf 92 = .ok (.imul, 1) := dk_104 (dk_at dksX3_leftOf_3 22 rfl rfl)
theorem dX3_leftOf_93 : decode cX3_leftOf 93 = .ok (.iload 5, 2) := dk_21 5 (dk_at dksX3_leftOf_4 0 rfl rfl)
theorem dX3_leftOf_95 : decode cX3_leftOf 95 = .ok (.iadd, 1) := dk_96 (dk_at dksX3_leftOf_4 2 rfl rfl)
theorem dX3_leftOf_96 : decode cX3_leftOf 96 = .ok (.iaload, 1) := dk_46 (dk_at dksX3_leftOf_4 3 rfl rfl)
theorem dX3_leftOf_97 : decode cX3_leftOf 97 = .ok (.iload_n 3, 1) := dk_29 (dk_at dksX3_leftOf_4 4 rfl rfl)
theorem dX3_leftOf_98 : decode cX3_leftOf 98 = .ok (.invokevirtual 290, 3) := dk_182 1 34 (dk_at dksX3_leftOf_4 5 rfl rfl)
theorem dX3_leftOf_101 : decode cX3_leftOf 101 = .ok (.iconst 3, 1) := dk_6 (dk_at dksX3_leftOf_4 8 rfl rfl)
theorem dX3_leftOf_102 : decode cX3_leftOf 102 = .ok (.if_icmp .ge 15, 3) := dk_162 0 15 (dk_at dksX3_leftOf_4 9 rfl rfl)
theorem dX3_leftOf_105 : decode cX3_leftOf 105 = .ok (.iload_n 3, 1) := dk_29 (dk_at dksX3_leftOf_4 12 rfl rfl)
theorem dX3_leftOf_106 : decode cX3_leftOf 106 = .ok (.iconst 3, 1) := dk_6 (dk_at dksX3_leftOf_4 13 rfl rfl)
theorem dX3_leftOf_107 : decode cX3_leftOf 107 = .ok (.iload 5, 2) := dk_21 5 (dk_at dksX3_leftOf_4 14 rfl rfl)
theorem dX3_leftOf_109 : decode cX3_leftOf 109 = .ok (.ishl, 1) := dk_120 (dk_at dksX3_leftOf_4 16 rfl rfl)
theorem dX3_leftOf_110 : decode cX3_leftOf 110 = .ok (.iconst (-1), 1) := dk_2 (dk_at dksX3_leftOf_4 17 rfl rfl)
theorem dX3_leftOf_111 : decode cX3_leftOf 111 = .ok (.ixor, 1) := dk_130 (dk_at dksX3_leftOf_4 18 rfl rfl)
theorem dX3_leftOf_112 : decode cX3_leftOf 112 = .ok (.iand, 1) := dk_126 (dk_at dksX3_leftOf_4 19 rfl rfl)
theorem dX3_leftOf_113 : decode cX3_leftOf 113 = .ok (.istore_n 3, 1) := dk_62 (dk_at dksX3_leftOf_4 20 rfl rfl)
theorem dX3_leftOf_114 : decode cX3_leftOf 114 = .ok (.iconst 1, 1) := dk_4 (dk_at dksX3_leftOf_4 21 rfl rfl)
theorem dX3_leftOf_115 : decode cX3_leftOf 115 = .ok (.istore 4, 2) := dk_54 4 (dk_at dksX3_leftOf_4 22 rfl rfl)
theorem dX3_leftOf_117 : decode cX3_leftOf 117 = .ok (.iinc 5 1, 3) := dk_132 5 1 (dk_at dksX3_leftOf_5 0 rfl rfl)
theorem dX3_leftOf_120 : decode cX3_leftOf 120 = .ok (.goto (-104), 3) := dk_167 255 152 (dk_at dksX3_leftOf_5 3 rfl rfl)
theorem dX3_leftOf_123 : decode cX3_leftOf 123 = .ok (.goto (-118), 3) := dk_167 255 138 (dk_at dksX3_leftOf_5 6 rfl rfl)
theorem dX3_leftOf_126 : decode cX3_leftOf 126 = .ok (.iload_n 3, 1) := dk_29 (dk_at dksX3_leftOf_5 9 rfl rfl)
theorem dX3_leftOf_127 : decode cX3_leftOf 127 = .ok (.ireturn, 1) := dk_172 (dk_at dksX3_leftOf_5 10 rfl rfl)
abbrev cX3_partsOf : ByteArray := prog_26_method_67_code
def yX3_partsOf : MethodName := ⟨RX3, "partsOf", "(II)I"⟩
def dkwX3_partsOf_4 : List UInt8 := [132, 4, 1, 167, 255, 164, 21, 4, 172]
abbrev dktX3_partsOf_4 : List UInt8 := dkwX3_partsOf_4 ++ []
def dkwX3_partsOf_3 : List UInt8 := [120, 167, 0, 4, 3, 128, 54, 5, 132, 7, 1, 167, 255, 207, 167, 255, 190, 29, 21, 5, 2, 130, 126, 62]
abbrev dktX3_partsOf_3 : List UInt8 := dkwX3_partsOf_3 ++ dktX3_partsOf_4
def dkwX3_partsOf_2 : List UInt8 := [21, 7, 122, 4, 126, 4, 160, 0, 22, 42, 27, 21, 7, 21, 5, 182, 1, 74, 153, 0, 10, 4, 21, 7]
abbrev dktX3_partsOf_2 : List UInt8 := dkwX3_partsOf_2 ++ dktX3_partsOf_3
def dkwX3_partsOf_1 : List UInt8 := [159, 0, 65, 21, 5, 54, 6, 3, 54, 7, 21, 7, 42, 180, 0, 31, 27, 46, 162, 0, 44, 21, 5, 29]
abbrev dktX3_partsOf_1 : List UInt8 := dkwX3_partsOf_1 ++ dktX3_partsOf_2
def dkwX3_partsOf_0 : List UInt8 := [28, 62, 3, 54, 4, 29, 153, 0, 94, 29, 29, 116, 126, 54, 5, 3, 54, 6, 21, 6, 21, 5]
abbrev dktX3_partsOf_0 : List UInt8 := dkwX3_partsOf_0 ++ dktX3_partsOf_1
theorem dksX3_partsOf_0 : cX3_partsOf.data.toList.drop 0 = dktX3_partsOf_0 := by decide +kernel
theorem dksX3_partsOf_1 : cX3_partsOf.data.toList.drop 22 = dktX3_partsOf_1 := dk_seg dksX3_partsOf_0 22 rfl rfl
theorem dksX3_partsOf_2 : cX3_partsOf.data.toList.drop 46 = dktX3_partsOf_2 := dk_seg dksX3_partsOf_1 24 rfl rfl
theorem dksX3_partsOf_3 : cX3_partsOf.data.toList.drop 70 = dktX3_partsOf_3 := dk_seg dksX3_partsOf_2 24 rfl rfl
theorem dksX3_partsOf_4 : cX3_partsOf.data.toList.drop 94 = dktX3_partsOf_4 := dk_seg dksX3_partsOf_3 24 rfl rfl
theorem dX3_partsOf_0 : decode cX3_partsOf 0 = .ok (.iload_n 2, 1) := dk_28 (dk_at dksX3_partsOf_0 0 rfl rfl)
theorem dX3_partsOf_1 : decode cX3_partsOf 1 = .ok (.istore_n 3, 1) := dk_62 (dk_at dksX3_partsOf_0 1 rfl rfl)
theorem dX3_partsOf_2 : decode cX3_partsOf 2 = .ok (.iconst 0, 1) := dk_3 (dk_at dksX3_partsOf_0 2 rfl rfl)
theorem dX3_partsOf_3 : decode cX3_partsOf 3 = .ok (.istore 4, 2) := dk_54 4 (dk_at dksX3_partsOf_0 3 rfl rfl)
theorem dX3_partsOf_5 : decode cX3_partsOf 5 = .ok (.iload_n 3, 1) := dk_29 (dk_at dksX3_partsOf_0 5 rfl rfl)
theorem dX3_partsOf_6 : decode cX3_partsOf 6 = .ok (.ifCond .eq 94, 3) := dk_153 0 94 (dk_at dksX3_partsOf_0 6 rfl rfl)
theorem dX3_partsOf_9 : decode cX3_partsOf 9 = .ok (.iload_n 3, 1) := dk_29 (dk_at dksX3_partsOf_0 9 rfl rfl)
theorem dX3_partsOf_10 : decode cX3_partsOf 10 = .ok (.iload_n 3, 1) := dk_29 (dk_at dksX3_partsOf_0 10 rfl rfl)
theorem dX3_partsOf_11 : decode cX3_partsOf 11 = .ok (.ineg, 1) := dk_116 (dk_at dksX3_partsOf_0 11 rfl rfl)
theorem dX3_partsOf_12 : decode cX3_partsOf 12 = .ok (.iand, 1) := dk_126 (dk_at dksX3_partsOf_0 12 rfl rfl)
theorem dX3_partsOf_13 : decode cX3_partsOf 13 = .ok (.istore 5, 2) := dk_54 5 (dk_at dksX3_partsOf_0 13 rfl rfl)
theorem dX3_partsOf_15 : decode cX3_partsOf 15 = .ok (.iconst 0, 1) := dk_3 (dk_at dksX3_partsOf_0 15 rfl rfl)
theorem dX3_partsOf_16 : decode cX3_partsOf 16 = .ok (.istore 6, 2) := dk_54 6 (dk_at dksX3_partsOf_0 16 rfl rfl)
theorem dX3_partsOf_18 : decode cX3_partsOf 18 = .ok (.iload 6, 2) := dk_21 6 (dk_at dksX3_partsOf_0 18 rfl rfl)
theorem dX3_partsOf_20 : decode cX3_partsOf 20 = .ok (.iload 5, 2) := dk_21 5 (dk_at dksX3_partsOf_0 20 rfl rfl)
theorem dX3_partsOf_22 : decode cX3_partsOf 22 = .ok (.if_icmp .eq 65, 3) := dk_159 0 65 (dk_at dksX3_partsOf_1 0 rfl rfl)
theorem dX3_partsOf_25 : decode cX3_partsOf 25 = .ok (.iload 5, 2) := dk_21 5 (dk_at dksX3_partsOf_1 3 rfl rfl)
theorem dX3_partsOf_27 : decode cX3_partsOf 27 = .ok (.istore 6, 2) := dk_54 6 (dk_at dksX3_partsOf_1 5 rfl rfl)
theorem dX3_partsOf_29 : decode cX3_partsOf 29 = .ok (.iconst 0, 1) := dk_3 (dk_at dksX3_partsOf_1 7 rfl rfl)
theorem dX3_partsOf_30 : decode cX3_partsOf 30 = .ok (.istore 7, 2) := dk_54 7 (dk_at dksX3_partsOf_1 8 rfl rfl)
theorem dX3_partsOf_32 : decode cX3_partsOf 32 = .ok (.iload 7, 2) := dk_21 7 (dk_at dksX3_partsOf_1 10 rfl rfl)
theorem dX3_partsOf_34 : decode cX3_partsOf 34 = .ok (.aload_n 0, 1) := dk_42 (dk_at dksX3_partsOf_1 12 rfl rfl)
theorem dX3_partsOf_35 : decode cX3_partsOf 35 = .ok (.getfield 31, 3) := dk_180 0 31 (dk_at dksX3_partsOf_1 13 rfl rfl)
theorem dX3_partsOf_38 : decode cX3_partsOf 38 = .ok (.iload_n 1, 1) := dk_27 (dk_at dksX3_partsOf_1 16 rfl rfl)
theorem dX3_partsOf_39 : decode cX3_partsOf 39 = .ok (.iaload, 1) := dk_46 (dk_at dksX3_partsOf_1 17 rfl rfl)
theorem dX3_partsOf_40 : decode cX3_partsOf 40 = .ok (.if_icmp .ge 44, 3) := dk_162 0 44 (dk_at dksX3_partsOf_1 18 rfl rfl)
theorem dX3_partsOf_43 : decode cX3_partsOf 43 = .ok (.iload 5, 2) := dk_21 5 (dk_at dksX3_partsOf_1 21 rfl rfl)
theorem dX3_partsOf_45 : decode cX3_partsOf 45 = .ok (.iload_n 3, 1) := dk_29 (dk_at dksX3_partsOf_1 23 rfl rfl)
theorem dX3_partsOf_46 : decode cX3_partsOf 46 = .ok (.iload 7, 2) := dk_21 7 (dk_at dksX3_partsOf_2 0 rfl rfl)
theorem dX3_partsOf_48 : decode cX3_partsOf 48 = .ok (.ishr, 1) := dk_122 (dk_at dksX3_partsOf_2 2 rfl rfl)
theorem dX3_partsOf_49 : decode cX3_partsOf 49 = .ok (.iconst 1, 1) := dk_4 (dk_at dksX3_partsOf_2 3 rfl rfl)
theorem dX3_partsOf_50 : decode cX3_partsOf 50 = .ok (.iand, 1) := dk_126 (dk_at dksX3_partsOf_2 4 rfl rfl)
theorem dX3_partsOf_51 : decode cX3_partsOf 51 = .ok (.iconst 1, 1) := dk_4 (dk_at dksX3_partsOf_2 5 rfl rfl)
theorem dX3_partsOf_52 : decode cX3_partsOf 52 = .ok (.if_icmp .ne 22, 3) := dk_160 0 22 (dk_at dksX3_partsOf_2 6 rfl rfl)
theorem dX3_partsOf_55 : decode cX3_partsOf 55 = .ok (.aload_n 0, 1) := dk_42 (dk_at dksX3_partsOf_2 9 rfl rfl)
theorem dX3_partsOf_56 : decode cX3_partsOf 56 = .ok (.iload_n 1, 1) := dk_27 (dk_at dksX3_partsOf_2 10 rfl rfl)
theorem dX3_partsOf_57 : decode cX3_partsOf 57 = .ok (.iload 7, 2) := dk_21 7 (dk_at dksX3_partsOf_2 11 rfl rfl)
theorem dX3_partsOf_59 : decode cX3_partsOf 59 = .ok (.iload 5, 2) := dk_21 5 (dk_at dksX3_partsOf_2 13 rfl rfl)
theorem dX3_partsOf_61 : decode cX3_partsOf 61 = .ok (.invokevirtual 330, 3) := dk_182 1 74 (dk_at dksX3_partsOf_2 15 rfl rfl)
theorem dX3_partsOf_64 : decode cX3_partsOf 64 = .ok (.ifCond .eq 10, 3) := dk_153 0 10 (dk_at dksX3_partsOf_2 18 rfl rfl)
theorem dX3_partsOf_67 : decode cX3_partsOf 67 = .ok (.iconst 1, 1) := dk_4 (dk_at dksX3_partsOf_2 21 rfl rfl)
theorem dX3_partsOf_68 : decode cX3_partsOf 68 = .ok (.iload 7, 2) := dk_21 7 (dk_at dksX3_partsOf_2 22 rfl rfl)
theorem dX3_partsOf_70 : decode cX3_partsOf 70 = .ok (.ishl, 1) := dk_120 (dk_at dksX3_partsOf_3 0 rfl rfl)
theorem dX3_partsOf_71 : decode cX3_partsOf 71 = .ok (.goto 4, 3) := dk_167 0 4 (dk_at dksX3_partsOf_3 1 rfl rfl)
theorem dX3_partsOf_74 : decode cX3_partsOf 74 = .ok (.iconst 0, 1) := dk_3 (dk_at dksX3_partsOf_3 4 rfl rfl)
theorem dX3_partsOf_75 : decode cX3_partsOf 75 = .ok (.ior, 1) := dk_128 (dk_at dksX3_partsOf_3 5 rfl rfl)
theorem dX3_partsOf_76 : decode cX3_partsOf 76 = .ok (.istore 5, 2) := dk_54 5 (dk_at dksX3_partsOf_3 6 rfl rfl)
theorem dX3_partsOf_78 : decode cX3_partsOf 78 = .ok (.iinc 7 1, 3) := dk_132 7 1 (dk_at dksX3_partsOf_3 8 rfl rfl)
theorem dX3_partsOf_81 : decode cX3_partsOf 81 = .ok (.goto (-49), 3) := dk_167 255 207 (dk_at dksX3_partsOf_3 11 rfl rfl)
theorem dX3_partsOf_84 : decode cX3_partsOf 84 = .ok (.goto (-66), 3) := dk_167 255 190 (dk_at dksX3_partsOf_3 14 rfl rfl)
theorem dX3_partsOf_87 : decode cX3_partsOf 87 = .ok (.iload_n 3, 1) := dk_29 (dk_at dksX3_partsOf_3 17 rfl rfl)
theorem dX3_partsOf_88 : decode cX3_partsOf 88 = .ok (.iload 5, 2) := dk_21 5 (dk_at dksX3_partsOf_3 18 rfl rfl)
theorem dX3_partsOf_90 : decode cX3_partsOf 90 = .ok (.iconst (-1), 1) := dk_2 (dk_at dksX3_partsOf_3 20 rfl rfl)
theorem dX3_partsOf_91 : decode cX3_partsOf 91 = .ok (.ixor, 1) := dk_130 (dk_at dksX3_partsOf_3 21 rfl rfl)
theorem dX3_partsOf_92 : decode cX3_partsOf 92 = .ok (.iand, 1) := dk_126 (dk_at dksX3_partsOf_3 22 rfl rfl)
theorem dX3_partsOf_93 : decode cX3_partsOf 93 = .ok (.istore_n 3, 1) := dk_62 (dk_at dksX3_partsOf_3 23 rfl rfl)
theorem dX3_partsOf_94 : decode cX3_partsOf 94 = .ok (.iinc 4 1, 3) := dk_132 4 1 (dk_at dksX3_partsOf_4 0 rfl rfl)
theorem dX3_partsOf_97 : decode cX3_partsOf 97 = .ok (.goto (-92), 3) := dk_167 255 164 (dk_at dksX3_partsOf_4 3 rfl rfl)
theorem dX3_partsOf_100 : decode cX3_partsOf 100 = .ok (.iload 4, 2) := dk_21 4 (dk_at dksX3_partsOf_4 6 rfl rfl)
theorem dX3_partsOf_102 : decode cX3_partsOf 102 = .ok (.ireturn, 1) := dk_172 (dk_at dksX3_partsOf_4 8 rfl rfl)
abbrev cX3_meets : ByteArray := prog_26_method_68_code
def yX3_meets : MethodName := ⟨RX3, "meets", "(III)Z"⟩
def dkwX3_meets_4 : List UInt8 := [21, 5, 46, 42, 180, 0, 43, 21, 6, 46, 160, 0, 5, 4, 172, 132, 4, 1, 167, 255, 145, 3, 172]
abbrev dktX3_meets_4 : List UInt8 := dkwX3_meets_4 ++ []
def dkwX3_meets_3 : List UInt8 := [159, 0, 37, 42, 180, 0, 43, 21, 5, 46, 42, 180, 0, 40, 21, 6, 46, 159, 0, 20, 42, 180, 0, 43]
abbrev dktX3_meets_3 : List UInt8 := dkwX3_meets_3 ++ dktX3_meets_4
def dkwX3_meets_2 : List UInt8 := [42, 180, 0, 40, 21, 6, 46, 159, 0, 54, 42, 180, 0, 40, 21, 5, 46, 42, 180, 0, 43, 21, 6, 46]
abbrev dktX3_meets_2 : List UInt8 := dkwX3_meets_2 ++ dktX3_meets_3
def dkwX3_meets_1 : List UInt8 := [16, 24, 27, 104, 21, 4, 96, 54, 5, 16, 24, 27, 104, 28, 96, 54, 6, 42, 180, 0, 40, 21, 5, 46]
abbrev dktX3_meets_1 : List UInt8 := dkwX3_meets_1 ++ dktX3_meets_2
def dkwX3_meets_0 : List UInt8 := [3, 54, 4, 21, 4, 42, 180, 0, 31, 27, 46, 162, 0, 106, 29, 21, 4, 122, 4, 126, 4, 160, 0, 90]
abbrev dktX3_meets_0 : List UInt8 := dkwX3_meets_0 ++ dktX3_meets_1
theorem dksX3_meets_0 : cX3_meets.data.toList.drop 0 = dktX3_meets_0 := by decide +kernel
theorem dksX3_meets_1 : cX3_meets.data.toList.drop 24 = dktX3_meets_1 := dk_seg dksX3_meets_0 24 rfl rfl
theorem dksX3_meets_2 : cX3_meets.data.toList.drop 48 = dktX3_meets_2 := dk_seg dksX3_meets_1 24 rfl rfl
theorem dksX3_meets_3 : cX3_meets.data.toList.drop 72 = dktX3_meets_3 := dk_seg dksX3_meets_2 24 rfl rfl
theorem dksX3_meets_4 : cX3_meets.data.toList.drop 96 = dktX3_meets_4 := dk_seg dksX3_meets_3 24 rfl rfl
theorem dX3_meets_0 : decode cX3_meets 0 = .ok (.iconst 0, 1) := dk_3 (dk_at dksX3_meets_0 0 rfl rfl)
theorem dX3_meets_1 : decode cX3_meets 1 = .ok (.istore 4, 2) := dk_54 4 (dk_at dksX3_meets_0 1 rfl rfl)
theorem dX3_meets_3 : decode cX3_meets 3 = .ok (.iload 4, 2) := dk_21 4 (dk_at dksX3_meets_0 3 rfl rfl)
theorem dX3_meets_5 : decode cX3_meets 5 = .ok (.aload_n 0, 1) := dk_42 (dk_at dksX3_meets_0 5 rfl rfl)
theorem dX3_meets_6 : decode cX3_meets 6 = .ok (.getfield 31, 3) := dk_180 0 31 (dk_at dksX3_meets_0 6 rfl rfl)
theorem dX3_meets_9 : decode cX3_meets 9 = .ok (.iload_n 1, 1) := dk_27 (dk_at dksX3_meets_0 9 rfl rfl)
theorem dX3_meets_10 : decode cX3_meets 10 = .ok (.iaload, 1) := dk_46 (dk_at dksX3_meets_0 10 rfl rfl)
theorem dX3_meets_11 : decode cX3_meets 11 = .ok (.if_icmp .ge 106, 3) := dk_162 0 106 (dk_at dksX3_meets_0 11 rfl rfl)
theorem dX3_meets_14 : decode cX3_meets 14 = .ok (.iload_n 3, 1) := dk_29 (dk_at dksX3_meets_0 14 rfl rfl)
theorem dX3_meets_15 : decode cX3_meets 15 = .ok (.iload 4, 2) := dk_21 4 (dk_at dksX3_meets_0 15 rfl rfl)
theorem dX3_meets_17 : decode cX3_meets 17 = .ok (.ishr, 1) := dk_122 (dk_at dksX3_meets_0 17 rfl rfl)
theorem dX3_meets_18 : decode cX3_meets 18 = .ok (.iconst 1, 1) := dk_4 (dk_at dksX3_meets_0 18 rfl rfl)
theorem dX3_meets_19 : decode cX3_meets 19 = .ok (.iand, 1) := dk_126 (dk_at dksX3_meets_0 19 rfl rfl)
theorem dX3_meets_20 : decode cX3_meets 20 = .ok (.iconst 1, 1) := dk_4 (dk_at dksX3_meets_0 20 rfl rfl)
theorem dX3_meets_21 : decode cX3_meets 21 = .ok (.if_icmp .ne 90, 3) := dk_160 0 90 (dk_at dksX3_meets_0 21 rfl rfl)
theorem dX3_meets_24 : decode cX3_meets 24 = .ok (.bipush 24, 2) := dk_16 24 (dk_at dksX3_meets_1 0 rfl rfl)
theorem dX3_meets_26 : decode cX3_meets 26 = .ok (.iload_n 1, 1) := dk_27 (dk_at dksX3_meets_1 2 rfl rfl)
theorem dX3_meets_27 : decode cX3_meets 27 = .ok (.imul, 1) := dk_104 (dk_at dksX3_meets_1 3 rfl rfl)
theorem dX3_meets_28 : decode cX3_meets 28 = .ok (.iload 4, 2) := dk_21 4 (dk_at dksX3_meets_1 4 rfl rfl)
theorem dX3_meets_30 : decode cX3_meets 30 = .ok (.iadd, 1) := dk_96 (dk_at dksX3_meets_1 6 rfl rfl)
theorem dX3_meets_31 : decode cX3_meets 31 = .ok (.istore 5, 2) := dk_54 5 (dk_at dksX3_meets_1 7 rfl rfl)
theorem dX3_meets_33 : decode cX3_meets 33 = .ok (.bipush 24, 2) := dk_16 24 (dk_at dksX3_meets_1 9 rfl rfl)
theorem dX3_meets_35 : decode cX3_meets 35 = .ok (.iload_n 1, 1) := dk_27 (dk_at dksX3_meets_1 11 rfl rfl)
theorem dX3_meets_36 : decode cX3_meets 36 = .ok (.imul, 1) := dk_104 (dk_at dksX3_meets_1 12 rfl rfl)
theorem dX3_meets_37 : decode cX3_meets 37 = .ok (.iload_n 2, 1) := dk_28 (dk_at dksX3_meets_1 13 rfl rfl)
theorem dX3_meets_38 : decode cX3_meets 38 = .ok (.iadd, 1) := dk_96 (dk_at dksX3_meets_1 14 rfl rfl)
theorem dX3_meets_39 : decode cX3_meets 39 = .ok (.istore 6, 2) := dk_54 6 (dk_at dksX3_meets_1 15 rfl rfl)
theorem dX3_meets_41 : decode cX3_meets 41 = .ok (.aload_n 0, 1) := dk_42 (dk_at dksX3_meets_1 17 rfl rfl)
theorem dX3_meets_42 : decode cX3_meets 42 = .ok (.getfield 40, 3) := dk_180 0 40 (dk_at dksX3_meets_1 18 rfl rfl)
theorem dX3_meets_45 : decode cX3_meets 45 = .ok (.iload 5, 2) := dk_21 5 (dk_at dksX3_meets_1 21 rfl rfl)
theorem dX3_meets_47 : decode cX3_meets 47 = .ok (.iaload, 1) := dk_46 (dk_at dksX3_meets_1 23 rfl rfl)
theorem dX3_meets_48 : decode cX3_meets 48 = .ok (.aload_n 0, 1) := dk_42 (dk_at dksX3_meets_2 0 rfl rfl)
theorem dX3_meets_49 : decode cX3_meets 49 = .ok (.getfield 40, 3) := dk_180 0 40 (dk_at dksX3_meets_2 1 rfl rfl)
theorem dX3_meets_52 : decode cX3_meets 52 = .ok (.iload 6, 2) := dk_21 6 (dk_at dksX3_meets_2 4 rfl rfl)
theorem dX3_meets_54 : decode cX3_meets 54 = .ok (.iaload, 1) := dk_46 (dk_at dksX3_meets_2 6 rfl rfl)
theorem dX3_meets_55 : decode cX3_meets 55 = .ok (.if_icmp .eq 54, 3) := dk_159 0 54 (dk_at dksX3_meets_2 7 rfl rfl)
theorem dX3_meets_58 : decode cX3_meets 58 = .ok (.aload_n 0, 1) := dk_42 (dk_at dksX3_meets_2 10 rfl rfl)
theorem dX3_meets_59 : decode cX3_meets 59 = .ok (.getfield 40, 3) := dk_180 0 40 (dk_at dksX3_meets_2 11 rfl rfl)
theorem dX3_meets_62 : decode cX3_meets 62 = .ok (.iload 5, 2) := dk_21 5 (dk_at dksX3_meets_2 14 rfl rfl)
theorem dX3_meets_64 : decode cX3_meets 64 = .ok (.iaload, 1) := dk_46 (dk_at dksX3_meets_2 16 rfl rfl)
theorem dX3_meets_65 : decode cX3_meets 65 = .ok (.aload_n 0, 1) := dk_42 (dk_at dksX3_meets_2 17 rfl rfl)
theorem dX3_meets_66 : decode cX3_meets 66 = .ok (.getfield 43, 3) := dk_180 0 43 (dk_at dksX3_meets_2 18 rfl rfl)
theorem dX3_meets_69 : decode cX3_meets 69 = .ok (.iload 6, 2) := dk_21 6 (dk_at dksX3_meets_2 21 rfl rfl)
theorem dX3_meets_71 : decode cX3_meets 71 = .ok (.iaload, 1) := dk_46 (dk_at dksX3_meets_2 23 rfl rfl)
theorem dX3_meets_72 : decode cX3_meets 72 = .ok (.if_icmp .eq 37, 3) := dk_159 0 37 (dk_at dksX3_meets_3 0 rfl rfl)
theorem dX3_meets_75 : decode cX3_meets 75 = .ok (.aload_n 0, 1) := dk_42 (dk_at dksX3_meets_3 3 rfl rfl)
theorem dX3_meets_76 : decode cX3_meets 76 = .ok (.getfield 43, 3) := dk_180 0 43 (dk_at dksX3_meets_3 4 rfl rfl)
theorem dX3_meets_79 : decode cX3_meets 79 = .ok (.iload 5, 2) := dk_21 5 (dk_at dksX3_meets_3 7 rfl rfl)
theorem dX3_meets_81 : decode cX3_meets 81 = .ok (.iaload, 1) := dk_46 (dk_at dksX3_meets_3 9 rfl rfl)
theorem dX3_meets_82 : decode cX3_meets 82 = .ok (.aload_n 0, 1) := dk_42 (dk_at dksX3_meets_3 10 rfl rfl)
theorem dX3_meets_83 : decode cX3_meets 83 = .ok (.getfield 40, 3) := dk_180 0 40 (dk_at dksX3_meets_3 11 rfl rfl)
theorem dX3_meets_86 : decode cX3_meets 86 = .ok (.iload 6, 2) := dk_21 6 (dk_at dksX3_meets_3 14 rfl rfl)
theorem dX3_meets_88 : decode cX3_meets 88 = .ok (.iaload, 1) := dk_46 (dk_at dksX3_meets_3 16 rfl rfl)
theorem dX3_meets_89 : decode cX3_meets 89 = .ok (.if_icmp .eq 20, 3) := dk_159 0 20 (dk_at dksX3_meets_3 17 rfl rfl)
theorem dX3_meets_92 : decode cX3_meets 92 = .ok (.aload_n 0, 1) := dk_42 (dk_at dksX3_meets_3 20 rfl rfl)
theorem dX3_meets_93 : decode cX3_meets 93 = .ok (.getfield 43, 3) := dk_180 0 43 (dk_at dksX3_meets_3 21 rfl rfl)
theorem dX3_meets_96 : decode cX3_meets 96 = .ok (.iload 5, 2) := dk_21 5 (dk_at dksX3_meets_4 0 rfl rfl)
theorem dX3_meets_98 : decode cX3_meets 98 = .ok (.iaload, 1) := dk_46 (dk_at dksX3_meets_4 2 rfl rfl)
theorem dX3_meets_99 : decode cX3_meets 99 = .ok (.aload_n 0, 1) := dk_42 (dk_at dksX3_meets_4 3 rfl rfl)
theorem dX3_meets_100 : decode cX3_meets 100 = .ok (.getfield 43, 3) := dk_180 0 43 (dk_at dksX3_meets_4 4 rfl rfl)
theorem dX3_meets_103 : decode cX3_meets 103 = .ok (.iload 6, 2) := dk_21 6 (dk_at dksX3_meets_4 7 rfl rfl)
theorem dX3_meets_105 : decode cX3_meets 105 = .ok (.iaload, 1) := dk_46 (dk_at dksX3_meets_4 9 rfl rfl)
theorem dX3_meets_106 : decode cX3_meets 106 = .ok (.if_icmp .ne 5, 3) := dk_160 0 5 (dk_at dksX3_meets_4 10 rfl rfl)
theorem dX3_meets_109 : decode cX3_meets 109 = .ok (.iconst 1, 1) := dk_4 (dk_at dksX3_meets_4 13 rfl rfl)
theorem dX3_meets_110 : decode cX3_meets 110 = .ok (.ireturn, 1) := dk_172 (dk_at dksX3_meets_4 14 rfl rfl)
theorem dX3_meets_111 : decode cX3_meets 111 = .ok (.iinc 4 1, 3) := dk_132 4 1 (dk_at dksX3_meets_4 15 rfl rfl)
theorem dX3_meets_114 : decode cX3_meets 114 = .ok (.goto (-111), 3) := dk_167 255 145 (dk_at dksX3_meets_4 18 rfl rfl)
theorem dX3_meets_117 : decode cX3_meets 117 = .ok (.iconst 0, 1) := dk_3 (dk_at dksX3_meets_4 21 rfl rfl)
theorem dX3_meets_118 : decode cX3_meets 118 = .ok (.ireturn, 1) := dk_172 (dk_at dksX3_meets_4 22 rfl rfl)
abbrev cX3_weakest : ByteArray := prog_26_method_70_code
def yX3_weakest : MethodName := ⟨RX3, "weakest", "(I)I"⟩
def dkwX3_weakest_2 : List UInt8 := [167, 0, 4, 28, 61, 132, 3, 1, 167, 255, 215, 28, 172]
abbrev dktX3_weakest_2 : List UInt8 := dkwX3_weakest_2 ++ []
def dkwX3_weakest_1 : List UInt8 := [28, 2, 159, 0, 20, 42, 27, 29, 4, 182, 1, 88, 42, 27, 28, 4, 182, 1, 88, 164, 0, 7, 29]
abbrev dktX3_weakest_1 : List UInt8 := dkwX3_weakest_1 ++ dktX3_weakest_2
def dkwX3_weakest_0 : List UInt8 := [42, 27, 182, 1, 28, 154, 0, 5, 2, 172, 2, 61, 3, 62, 29, 42, 180, 0, 31, 27, 46, 162, 0, 37]
abbrev dktX3_weakest_0 : List UInt8 := dkwX3_weakest_0 ++ dktX3_weakest_1
theorem dksX3_weakest_0 : cX3_weakest.data.toList.drop 0 = dktX3_weakest_0 := by decide +kernel
theorem dksX3_weakest_1 : cX3_weakest.data.toList.drop 24 = dktX3_weakest_1 := dk_seg dksX3_weakest_0 24 rfl rfl
theorem dksX3_weakest_2 : cX3_weakest.data.toList.drop 47 = dktX3_weakest_2 := dk_seg dksX3_weakest_1 23 rfl rfl
theorem dX3_weakest_0 : decode cX3_weakest 0 = .ok (.aload_n 0, 1) := dk_42 (dk_at dksX3_weakest_0 0 rfl rfl)
theorem dX3_weakest_1 : decode cX3_weakest 1 = .ok (.iload_n 1, 1) := dk_27 (dk_at dksX3_weakest_0 1 rfl rfl)
theorem dX3_weakest_2 : decode cX3_weakest 2 = .ok (.invokevirtual 284, 3) := dk_182 1 28 (dk_at dksX3_weakest_0 2 rfl rfl)
theorem dX3_weakest_5 : decode cX3_weakest 5 = .ok (.ifCond .ne 5, 3) := dk_154 0 5 (dk_at dksX3_weakest_0 5 rfl rfl)
theorem dX3_weakest_8 : decode cX3_weakest 8 = .ok (.iconst (-1), 1) := dk_2 (dk_at dksX3_weakest_0 8 rfl rfl)
theorem dX3_weakest_9 : decode cX3_weakest 9 = .ok (.ireturn, 1) := dk_172 (dk_at dksX3_weakest_0 9 rfl rfl)
theorem dX3_weakest_10 : decode cX3_weakest 10 = .ok (.iconst (-1), 1) := dk_2 (dk_at dksX3_weakest_0 10 rfl rfl)
theorem dX3_weakest_11 : decode cX3_weakest 11 = .ok (.istore_n 2, 1) := dk_61 (dk_at dksX3_weakest_0 11 rfl rfl)
theorem dX3_weakest_12 : decode cX3_weakest 12 = .ok (.iconst 0, 1) := dk_3 (dk_at dksX3_weakest_0 12 rfl rfl)
theorem dX3_weakest_13 : decode cX3_weakest 13 = .ok (.istore_n 3, 1) := dk_62 (dk_at dksX3_weakest_0 13 rfl rfl)
theorem dX3_weakest_14 : decode cX3_weakest 14 = .ok (.iload_n 3, 1) := dk_29 (dk_at dksX3_weakest_0 14 rfl rfl)
theorem dX3_weakest_15 : decode cX3_weakest 15 = .ok (.aload_n 0, 1) := dk_42 (dk_at dksX3_weakest_0 15 rfl rfl)
theorem dX3_weakest_16 : decode cX3_weakest 16 = .ok (.getfield 31, 3) := dk_180 0 31 (dk_at dksX3_weakest_0 16 rfl rfl)
theorem dX3_weakest_19 : decode cX3_weakest 19 = .ok (.iload_n 1, 1) := dk_27 (dk_at dksX3_weakest_0 19 rfl rfl)
theorem dX3_weakest_20 : decode cX3_weakest 20 = .ok (.iaload, 1) := dk_46 (dk_at dksX3_weakest_0 20 rfl rfl)
theorem dX3_weakest_21 : decode cX3_weakest 21 = .ok (.if_icmp .ge 37, 3) := dk_162 0 37 (dk_at dksX3_weakest_0 21 rfl rfl)
theorem dX3_weakest_24 : decode cX3_weakest 24 = .ok (.iload_n 2, 1) := dk_28 (dk_at dksX3_weakest_1 0 rfl rfl)
theorem dX3_weakest_25 : decode cX3_weakest 25 = .ok (.iconst (-1), 1) := dk_2 (dk_at dksX3_weakest_1 1 rfl rfl)
theorem dX3_weakest_26 : decode cX3_weakest 26 = .ok (.if_icmp .eq 20, 3) := dk_159 0 20 (dk_at dksX3_weakest_1 2 rfl rfl)
theorem dX3_weakest_29 : decode cX3_weakest 29 = .ok (.aload_n 0, 1) := dk_42 (dk_at dksX3_weakest_1 5 rfl rfl)
theorem dX3_weakest_30 : decode cX3_weakest 30 = .ok (.iload_n 1, 1) := dk_27 (dk_at dksX3_weakest_1 6 rfl rfl)
theorem dX3_weakest_31 : decode cX3_weakest 31 = .ok (.iload_n 3, 1) := dk_29 (dk_at dksX3_weakest_1 7 rfl rfl)
theorem dX3_weakest_32 : decode cX3_weakest 32 = .ok (.iconst 1, 1) := dk_4 (dk_at dksX3_weakest_1 8 rfl rfl)
theorem dX3_weakest_33 : decode cX3_weakest 33 = .ok (.invokevirtual 344, 3) := dk_182 1 88 (dk_at dksX3_weakest_1 9 rfl rfl)
theorem dX3_weakest_36 : decode cX3_weakest 36 = .ok (.aload_n 0, 1) := dk_42 (dk_at dksX3_weakest_1 12 rfl rfl)
theorem dX3_weakest_37 : decode cX3_weakest 37 = .ok (.iload_n 1, 1) := dk_27 (dk_at dksX3_weakest_1 13 rfl rfl)
theorem dX3_weakest_38 : decode cX3_weakest 38 = .ok (.iload_n 2, 1) := dk_28 (dk_at dksX3_weakest_1 14 rfl rfl)
theorem dX3_weakest_39 : decode cX3_weakest 39 = .ok (.iconst 1, 1) := dk_4 (dk_at dksX3_weakest_1 15 rfl rfl)
theorem dX3_weakest_40 : decode cX3_weakest 40 = .ok (.invokevirtual 344, 3) := dk_182 1 88 (dk_at dksX3_weakest_1 16 rfl rfl)
theorem dX3_weakest_43 : decode cX3_weakest 43 = .ok (.if_icmp .le 7, 3) := dk_164 0 7 (dk_at dksX3_weakest_1 19 rfl rfl)
theorem dX3_weakest_46 : decode cX3_weakest 46 = .ok (.iload_n 3, 1) := dk_29 (dk_at dksX3_weakest_1 22 rfl rfl)
theorem dX3_weakest_47 : decode cX3_weakest 47 = .ok (.goto 4, 3) := dk_167 0 4 (dk_at dksX3_weakest_2 0 rfl rfl)
theorem dX3_weakest_50 : decode cX3_weakest 50 = .ok (.iload_n 2, 1) := dk_28 (dk_at dksX3_weakest_2 3 rfl rfl)
theorem dX3_weakest_51 : decode cX3_weakest 51 = .ok (.istore_n 2, 1) := dk_61 (dk_at dksX3_weakest_2 4 rfl rfl)
theorem dX3_weakest_52 : decode cX3_weakest 52 = .ok (.iinc 3 1, 3) := dk_132 3 1 (dk_at dksX3_weakest_2 5 rfl rfl)
theorem dX3_weakest_55 : decode cX3_weakest 55 = .ok (.goto (-41), 3) := dk_167 255 215 (dk_at dksX3_weakest_2 8 rfl rfl)
theorem dX3_weakest_58 : decode cX3_weakest 58 = .ok (.iload_n 2, 1) := dk_28 (dk_at dksX3_weakest_2 11 rfl rfl)
theorem dX3_weakest_59 : decode cX3_weakest 59 = .ok (.ireturn, 1) := dk_172 (dk_at dksX3_weakest_2 12 rfl rfl)
abbrev cX3_alike : ByteArray := prog_26_method_76_code
def yX3_alike : MethodName := ⟨RX3, "alike", "(II)I"⟩
def dkwX3_alike_1 : List UInt8 := [167, 0, 4, 2, 172]
abbrev dktX3_alike_1 : List UInt8 := dkwX3_alike_1 ++ []
def dkwX3_alike_0 : List UInt8 := [42, 27, 28, 182, 1, 103, 153, 0, 20, 42, 27, 28, 182, 1, 106, 153, 0, 7, 4, 167, 0, 8, 3]
abbrev dktX3_alike_0 : List UInt8 := dkwX3_alike_0 ++ dktX3_alike_1
theorem dksX3_alike_0 : cX3_alike.data.toList.drop 0 = dktX3_alike_0 := by decide +kernel
theorem dksX3_alike_1 : cX3_alike.data.toList.drop 23 = dktX3_alike_1 := dk_seg dksX3_alike_0 23 rfl rfl
theorem dX3_alike_0 : decode cX3_alike 0 = .ok (.aload_n 0, 1) := dk_42 (dk_at dksX3_alike_0 0 rfl rfl)
theorem dX3_alike_1 : decode cX3_alike 1 = .ok (.iload_n 1, 1) := dk_27 (dk_at dksX3_alike_0 1 rfl rfl)
theorem dX3_alike_2 : decode cX3_alike 2 = .ok (.iload_n 2, 1) := dk_28 (dk_at dksX3_alike_0 2 rfl rfl)
theorem dX3_alike_3 : decode cX3_alike 3 = .ok (.invokevirtual 359, 3) := dk_182 1 103 (dk_at dksX3_alike_0 3 rfl rfl)
theorem dX3_alike_6 : decode cX3_alike 6 = .ok (.ifCond .eq 20, 3) := dk_153 0 20 (dk_at dksX3_alike_0 6 rfl rfl)
theorem dX3_alike_9 : decode cX3_alike 9 = .ok (.aload_n 0, 1) := dk_42 (dk_at dksX3_alike_0 9 rfl rfl)
theorem dX3_alike_10 : decode cX3_alike 10 = .ok (.iload_n 1, 1) := dk_27 (dk_at dksX3_alike_0 10 rfl rfl)
theorem dX3_alike_11 : decode cX3_alike 11 = .ok (.iload_n 2, 1) := dk_28 (dk_at dksX3_alike_0 11 rfl rfl)
theorem dX3_alike_12 : decode cX3_alike 12 = .ok (.invokevirtual 362, 3) := dk_182 1 106 (dk_at dksX3_alike_0 12 rfl rfl)
theorem dX3_alike_15 : decode cX3_alike 15 = .ok (.ifCond .eq 7, 3) := dk_153 0 7 (dk_at dksX3_alike_0 15 rfl rfl)
theorem dX3_alike_18 : decode cX3_alike 18 = .ok (.iconst 1, 1) := dk_4 (dk_at dksX3_alike_0 18 rfl rfl)
theorem dX3_alike_19 : decode cX3_alike 19 = .ok (.goto 8, 3) := dk_167 0 8 (dk_at dksX3_alike_0 19 rfl rfl)
theorem dX3_alike_22 : decode cX3_alike 22 = .ok (.iconst 0, 1) := dk_3 (dk_at dksX3_alike_0 22 rfl rfl)
theorem dX3_alike_23 : decode cX3_alike 23 = .ok (.goto 4, 3) := dk_167 0 4 (dk_at dksX3_alike_1 0 rfl rfl)
theorem dX3_alike_26 : decode cX3_alike 26 = .ok (.iconst (-1), 1) := dk_2 (dk_at dksX3_alike_1 3 rfl rfl)
theorem dX3_alike_27 : decode cX3_alike 27 = .ok (.ireturn, 1) := dk_172 (dk_at dksX3_alike_1 4 rfl rfl)
abbrev cX3_mayMatch : ByteArray := prog_26_method_74_code
def yX3_mayMatch : MethodName := ⟨RX3, "mayMatch", "(II)Z"⟩
def dkwX3_mayMatch_1 : List UInt8 := [163, 0, 18, 42, 180, 0, 34, 28, 46, 16, 8, 163, 0, 7, 4, 167, 0, 4, 3, 172]
abbrev dktX3_mayMatch_1 : List UInt8 := dkwX3_mayMatch_1 ++ []
def dkwX3_mayMatch_0 : List UInt8 := [42, 27, 182, 1, 28, 153, 0, 37, 42, 28, 182, 1, 28, 153, 0, 29, 42, 180, 0, 34, 27, 46, 16, 8]
abbrev dktX3_mayMatch_0 : List UInt8 := dkwX3_mayMatch_0 ++ dktX3_mayMatch_1
theorem dksX3_mayMatch_0 : cX3_mayMatch.data.toList.drop 0 = dktX3_mayMatch_0 := by decide +kernel
theorem dksX3_mayMatch_1 : cX3_mayMatch.data.toList.drop 24 = dktX3_mayMatch_1 := dk_seg dksX3_mayMatch_0 24 rfl rfl
theorem dX3_mayMatch_0 : decode cX3_mayMatch 0 = .ok (.aload_n 0, 1) := dk_42 (dk_at dksX3_mayMatch_0 0 rfl rfl)
theorem dX3_mayMatch_1 : decode cX3_mayMatch 1 = .ok (.iload_n 1, 1) := dk_27 (dk_at dksX3_mayMatch_0 1 rfl rfl)
theorem dX3_mayMatch_2 : decode cX3_mayMatch 2 = .ok (.invokevirtual 284, 3) := dk_182 1 28 (dk_at dksX3_mayMatch_0 2 rfl rfl)
theorem dX3_mayMatch_5 : decode cX3_mayMatch 5 = .ok (.ifCond .eq 37, 3) := dk_153 0 37 (dk_at dksX3_mayMatch_0 5 rfl rfl)
theorem dX3_mayMatch_8 : decode cX3_mayMatch 8 = .ok (.aload_n 0, 1) := dk_42 (dk_at dksX3_mayMatch_0 8 rfl rfl)
theorem dX3_mayMatch_9 : decode cX3_mayMatch 9 = .ok (.iload_n 2, 1) := dk_28 (dk_at dksX3_mayMatch_0 9 rfl rfl)
theorem dX3_mayMatch_10 : decode cX3_mayMatch 10 = .ok (.invokevirtual 284, 3) := dk_182 1 28 (dk_at dksX3_mayMatch_0 10 rfl rfl)
theorem dX3_mayMatch_13 : decode cX3_mayMatch 13 = .ok (.ifCond .eq 29, 3) := dk_153 0 29 (dk_at dksX3_mayMatch_0 13 rfl rfl)
theorem dX3_mayMatch_16 : decode cX3_mayMatch 16 = .ok (.aload_n 0, 1) := dk_42 (dk_at dksX3_mayMatch_0 16 rfl rfl)
theorem dX3_mayMatch_17 : decode cX3_mayMatch 17 = .ok (.getfield 34, 3) := dk_180 0 34 (dk_at dksX3_mayMatch_0 17 rfl rfl)
theorem dX3_mayMatch_20 : decode cX3_mayMatch 20 = .ok (.iload_n 1, 1) := dk_27 (dk_at dksX3_mayMatch_0 20 rfl rfl)
theorem dX3_mayMatch_21 : decode cX3_mayMatch 21 = .ok (.iaload, 1) := dk_46 (dk_at dksX3_mayMatch_0 21 rfl rfl)
theorem dX3_mayMatch_22 : decode cX3_mayMatch 22 = .ok (.bipush 8, 2) := dk_16 8 (dk_at dksX3_mayMatch_0 22 rfl rfl)
theorem dX3_mayMatch_24 : decode cX3_mayMatch 24 = .ok (.if_icmp .gt 18, 3) := dk_163 0 18 (dk_at dksX3_mayMatch_1 0 rfl rfl)
theorem dX3_mayMatch_27 : decode cX3_mayMatch 27 = .ok (.aload_n 0, 1) := dk_42 (dk_at dksX3_mayMatch_1 3 rfl rfl)
theorem dX3_mayMatch_28 : decode cX3_mayMatch 28 = .ok (.getfield 34, 3) := dk_180 0 34 (dk_at dksX3_mayMatch_1 4 rfl rfl)
theorem dX3_mayMatch_31 : decode cX3_mayMatch 31 = .ok (.iload_n 2, 1) := dk_28 (dk_at dksX3_mayMatch_1 7 rfl rfl)
theorem dX3_mayMatch_32 : decode cX3_mayMatch 32 = .ok (.iaload, 1) := dk_46 (dk_at dksX3_mayMatch_1 8 rfl rfl)
theorem dX3_mayMatch_33 : decode cX3_mayMatch 33 = .ok (.bipush 8, 2) := dk_16 8 (dk_at dksX3_mayMatch_1 9 rfl rfl)
theorem dX3_mayMatch_35 : decode cX3_mayMatch 35 = .ok (.if_icmp .gt 7, 3) := dk_163 0 7 (dk_at dksX3_mayMatch_1 11 rfl rfl)
theorem dX3_mayMatch_38 : decode cX3_mayMatch 38 = .ok (.iconst 1, 1) := dk_4 (dk_at dksX3_mayMatch_1 14 rfl rfl)
theorem dX3_mayMatch_39 : decode cX3_mayMatch 39 = .ok (.goto 4, 3) := dk_167 0 4 (dk_at dksX3_mayMatch_1 15 rfl rfl)
theorem dX3_mayMatch_42 : decode cX3_mayMatch 42 = .ok (.iconst 0, 1) := dk_3 (dk_at dksX3_mayMatch_1 18 rfl rfl)
theorem dX3_mayMatch_43 : decode cX3_mayMatch 43 = .ok (.ireturn, 1) := dk_172 (dk_at dksX3_mayMatch_1 19 rfl rfl)
abbrev cX3_areAlike : ByteArray := prog_26_method_75_code
def yX3_areAlike : MethodName := ⟨RX3, "areAlike", "(II)Z"⟩
def dkwX3_areAlike_2 : List UInt8 := [172]
abbrev dktX3_areAlike_2 : List UInt8 := dkwX3_areAlike_2 ++ []
def dkwX3_areAlike_1 : List UInt8 := [180, 0, 31, 28, 46, 160, 0, 18, 42, 27, 28, 3, 3, 182, 1, 99, 153, 0, 7, 4, 167, 0, 4, 3]
abbrev dktX3_areAlike_1 : List UInt8 := dkwX3_areAlike_1 ++ dktX3_areAlike_2
def dkwX3_areAlike_0 : List UInt8 := [42, 180, 0, 34, 27, 46, 42, 180, 0, 34, 28, 46, 160, 0, 33, 42, 180, 0, 31, 27, 46, 42]
abbrev dktX3_areAlike_0 : List UInt8 := dkwX3_areAlike_0 ++ dktX3_areAlike_1
theorem dksX3_areAlike_0 : cX3_areAlike.data.toList.drop 0 = dktX3_areAlike_0 := by decide +kernel
theorem dksX3_areAlike_1 : cX3_areAlike.data.toList.drop 22 = dktX3_areAlike_1 := dk_seg dksX3_areAlike_0 22 rfl rfl
theorem dksX3_areAlike_2 : cX3_areAlike.data.toList.drop 46 = dktX3_areAlike_2 := dk_seg dksX3_areAlike_1 24 rfl rfl
theorem dX3_areAlike_0 : decode cX3_areAlike 0 = .ok (.aload_n 0, 1) := dk_42 (dk_at dksX3_areAlike_0 0 rfl rfl)
theorem dX3_areAlike_1 : decode cX3_areAlike 1 = .ok (.getfield 34, 3) := dk_180 0 34 (dk_at dksX3_areAlike_0 1 rfl rfl)
theorem dX3_areAlike_4 : decode cX3_areAlike 4 = .ok (.iload_n 1, 1) := dk_27 (dk_at dksX3_areAlike_0 4 rfl rfl)
theorem dX3_areAlike_5 : decode cX3_areAlike 5 = .ok (.iaload, 1) := dk_46 (dk_at dksX3_areAlike_0 5 rfl rfl)
theorem dX3_areAlike_6 : decode cX3_areAlike 6 = .ok (.aload_n 0, 1) := dk_42 (dk_at dksX3_areAlike_0 6 rfl rfl)
theorem dX3_areAlike_7 : decode cX3_areAlike 7 = .ok (.getfield 34, 3) := dk_180 0 34 (dk_at dksX3_areAlike_0 7 rfl rfl)
theorem dX3_areAlike_10 : decode cX3_areAlike 10 = .ok (.iload_n 2, 1) := dk_28 (dk_at dksX3_areAlike_0 10 rfl rfl)
theorem dX3_areAlike_11 : decode cX3_areAlike 11 = .ok (.iaload, 1) := dk_46 (dk_at dksX3_areAlike_0 11 rfl rfl)
theorem dX3_areAlike_12 : decode cX3_areAlike 12 = .ok (.if_icmp .ne 33, 3) := dk_160 0 33 (dk_at dksX3_areAlike_0 12 rfl rfl)
theorem dX3_areAlike_15 : decode cX3_areAlike 15 = .ok (.aload_n 0, 1) := dk_42 (dk_at dksX3_areAlike_0 15 rfl rfl)
theorem dX3_areAlike_16 : decode cX3_areAlike 16 = .ok (.getfield 31, 3) := dk_180 0 31 (dk_at dksX3_areAlike_0 16 rfl rfl)
theorem dX3_areAlike_19 : decode cX3_areAlike 19 = .ok (.iload_n 1, 1) := dk_27 (dk_at dksX3_areAlike_0 19 rfl rfl)
theorem dX3_areAlike_20 : decode cX3_areAlike 20 = .ok (.iaload, 1) := dk_46 (dk_at dksX3_areAlike_0 20 rfl rfl)
theorem dX3_areAlike_21 : decode cX3_areAlike 21 = .ok (.aload_n 0, 1) := dk_42 (dk_at dksX3_areAlike_0 21 rfl rfl)
theorem dX3_areAlike_22 : decode cX3_areAlike 22 = .ok (.getfield 31, 3) := dk_180 0 31 (dk_at dksX3_areAlike_1 0 rfl rfl)
theorem dX3_areAlike_25 : decode cX3_areAlike 25 = .ok (.iload_n 2, 1) := dk_28 (dk_at dksX3_areAlike_1 3 rfl rfl)
theorem dX3_areAlike_26 : decode cX3_areAlike 26 = .ok (.iaload, 1) := dk_46 (dk_at dksX3_areAlike_1 4 rfl rfl)
theorem dX3_areAlike_27 : decode cX3_areAlike 27 = .ok (.if_icmp .ne 18, 3) := dk_160 0 18 (dk_at dksX3_areAlike_1 5 rfl rfl)
theorem dX3_areAlike_30 : decode cX3_areAlike 30 = .ok (.aload_n 0, 1) := dk_42 (dk_at dksX3_areAlike_1 8 rfl rfl)
theorem dX3_areAlike_31 : decode cX3_areAlike 31 = .ok (.iload_n 1, 1) := dk_27 (dk_at dksX3_areAlike_1 9 rfl rfl)
theorem dX3_areAlike_32 : decode cX3_areAlike 32 = .ok (.iload_n 2, 1) := dk_28 (dk_at dksX3_areAlike_1 10 rfl rfl)
theorem dX3_areAlike_33 : decode cX3_areAlike 33 = .ok (.iconst 0, 1) := dk_3 (dk_at dksX3_areAlike_1 11 rfl rfl)
theorem dX3_areAlike_34 : decode cX3_areAlike 34 = .ok (.iconst 0, 1) := dk_3 (dk_at dksX3_areAlike_1 12 rfl rfl)
theorem dX3_areAlike_35 : decode cX3_areAlike 35 = .ok (.invokevirtual 355, 3) := dk_182 1 99 (dk_at dksX3_areAlike_1 13 rfl rfl)
theorem dX3_areAlike_38 : decode cX3_areAlike 38 = .ok (.ifCond .eq 7, 3) := dk_153 0 7 (dk_at dksX3_areAlike_1 16 rfl rfl)
theorem dX3_areAlike_41 : decode cX3_areAlike 41 = .ok (.iconst 1, 1) := dk_4 (dk_at dksX3_areAlike_1 19 rfl rfl)
theorem dX3_areAlike_42 : decode cX3_areAlike 42 = .ok (.goto 4, 3) := dk_167 0 4 (dk_at dksX3_areAlike_1 20 rfl rfl)
theorem dX3_areAlike_45 : decode cX3_areAlike 45 = .ok (.iconst 0, 1) := dk_3 (dk_at dksX3_areAlike_1 23 rfl rfl)
theorem dX3_areAlike_46 : decode cX3_areAlike 46 = .ok (.ireturn, 1) := dk_172 (dk_at dksX3_areAlike_2 0 rfl rfl)
abbrev cX3_pairs : ByteArray := prog_26_method_73_code
def yX3_pairs : MethodName := ⟨RX3, "pairs", "(IIII)Z"⟩
def dkwX3_pairs_5 : List UInt8 := [132, 5, 1, 167, 255, 151, 3, 172]
abbrev dktX3_pairs_5 : List UInt8 := dkwX3_pairs_5 ++ []
def dkwX3_pairs_4 : List UInt8 := [153, 0, 24, 42, 27, 28, 29, 4, 96, 21, 4, 4, 21, 5, 120, 128, 182, 1, 99, 153, 0, 5, 4, 172]
abbrev dktX3_pairs_4 : List UInt8 := dkwX3_pairs_4 ++ dktX3_pairs_5
def dkwX3_pairs_3 : List UInt8 := [21, 5, 42, 180, 0, 77, 21, 7, 46, 182, 1, 95, 54, 6, 132, 7, 1, 167, 255, 222, 21, 6]
abbrev dktX3_pairs_3 : List UInt8 := dkwX3_pairs_3 ++ dktX3_pairs_4
def dkwX3_pairs_2 : List UInt8 := [79, 4, 54, 6, 3, 54, 7, 21, 7, 29, 163, 0, 34, 21, 6, 153, 0, 29, 42, 27, 29, 21, 7, 28]
abbrev dktX3_pairs_2 : List UInt8 := dkwX3_pairs_2 ++ dktX3_pairs_3
def dkwX3_pairs_1 : List UInt8 := [162, 0, 100, 21, 4, 21, 5, 122, 4, 126, 4, 160, 0, 6, 167, 0, 80, 42, 180, 0, 77, 29, 21, 5]
abbrev dktX3_pairs_1 : List UInt8 := dkwX3_pairs_1 ++ dktX3_pairs_2
def dkwX3_pairs_0 : List UInt8 := [29, 42, 180, 0, 34, 27, 46, 160, 0, 5, 4, 172, 3, 54, 5, 21, 5, 42, 180, 0, 34, 28, 46]
abbrev dktX3_pairs_0 : List UInt8 := dkwX3_pairs_0 ++ dktX3_pairs_1
theorem dksX3_pairs_0 : cX3_pairs.data.toList.drop 0 = dktX3_pairs_0 := by decide +kernel
theorem dksX3_pairs_1 : cX3_pairs.data.toList.drop 23 = dktX3_pairs_1 := dk_seg dksX3_pairs_0 23 rfl rfl
theorem dksX3_pairs_2 : cX3_pairs.data.toList.drop 47 = dktX3_pairs_2 := dk_seg dksX3_pairs_1 24 rfl rfl
theorem dksX3_pairs_3 : cX3_pairs.data.toList.drop 71 = dktX3_pairs_3 := dk_seg dksX3_pairs_2 24 rfl rfl
theorem dksX3_pairs_4 : cX3_pairs.data.toList.drop 93 = dktX3_pairs_4 := dk_seg dksX3_pairs_3 22 rfl rfl
theorem dksX3_pairs_5 : cX3_pairs.data.toList.drop 117 = dktX3_pairs_5 := dk_seg dksX3_pairs_4 24 rfl rfl
theorem dX3_pairs_0 : decode cX3_pairs 0 = .ok (.iload_n 3, 1) := dk_29 (dk_at dksX3_pairs_0 0 rfl rfl)
theorem dX3_pairs_1 : decode cX3_pairs 1 = .ok (.aload_n 0, 1) := dk_42 (dk_at dksX3_pairs_0 1 rfl rfl)
theorem dX3_pairs_2 : decode cX3_pairs 2 = .ok (.getfield 34, 3) := dk_180 0 34 (dk_at dksX3_pairs_0 2 rfl rfl)
theorem dX3_pairs_5 : decode cX3_pairs 5 = .ok (.iload_n 1, 1) := dk_27 (dk_at dksX3_pairs_0 5 rfl rfl)
theorem dX3_pairs_6 : decode cX3_pairs 6 = .ok (.iaload, 1) := dk_46 (dk_at dksX3_pairs_0 6 rfl rfl)
theorem dX3_pairs_7 : decode cX3_pairs 7 = .ok (.if_icmp .ne 5, 3) := dk_160 0 5 (dk_at dksX3_pairs_0 7 rfl rfl)
theorem dX3_pairs_10 : decode cX3_pairs 10 = .ok (.iconst 1, 1) := dk_4 (dk_at dksX3_pairs_0 10 rfl rfl)
theorem dX3_pairs_11 : decode cX3_pairs 11 = .ok (.ireturn, 1) := dk_172 (dk_at dksX3_pairs_0 11 rfl rfl)
theorem dX3_pairs_12 : decode cX3_pairs 12 = .ok (.iconst 0, 1) := dk_3 (dk_at dksX3_pairs_0 12 rfl rfl)
theorem dX3_pairs_13 : decode cX3_pairs 13 = .ok (.istore 5, 2) := dk_54 5 (dk_at dksX3_pairs_0 13 rfl rfl)
theorem dX3_pairs_15 : decode cX3_pairs 15 = .ok (.iload 5, 2) := dk_21 5 (dk_at dksX3_pairs_0 15 rfl rfl)
theorem dX3_pairs_17 : decode cX3_pairs 17 = .ok (.aload_n 0, 1) := dk_42 (dk_at dksX3_pairs_0 17 rfl rfl)
theorem dX3_pairs_18 : decode cX3_pairs 18 = .ok (.getfield 34, 3) := dk_180 0 34 (dk_at dksX3_pairs_0 18 rfl rfl)
theorem dX3_pairs_21 : decode cX3_pairs 21 = .ok (.iload_n 2, 1) := dk_28 (dk_at dksX3_pairs_0 21 rfl rfl)
theorem dX3_pairs_22 : decode cX3_pairs 22 = .ok (.iaload, 1) := dk_46 (dk_at dksX3_pairs_0 22 rfl rfl)
theorem dX3_pairs_23 : decode cX3_pairs 23 = .ok (.if_icmp .ge 100, 3) := dk_162 0 100 (dk_at dksX3_pairs_1 0 rfl rfl)
theorem dX3_pairs_26 : decode cX3_pairs 26 = .ok (.iload 4, 2) := dk_21 4 (dk_at dksX3_pairs_1 3 rfl rfl)
theorem dX3_pairs_28 : decode cX3_pairs 28 = .ok (.iload 5, 2) := dk_21 5 (dk_at dksX3_pairs_1 5 rfl rfl)
theorem dX3_pairs_30 : decode cX3_pairs 30 = .ok (.ishr, 1) := dk_122 (dk_at dksX3_pairs_1 7 rfl rfl)
theorem dX3_pairs_31 : decode cX3_pairs 31 = .ok (.iconst 1, 1) := dk_4 (dk_at dksX3_pairs_1 8 rfl rfl)
theorem dX3_pairs_32 : decode cX3_pairs 32 = .ok (.iand, 1) := dk_126 (dk_at dksX3_pairs_1 9 rfl rfl)
theorem dX3_pairs_33 : decode cX3_pairs 33 = .ok (.iconst 1, 1) := dk_4 (dk_at dksX3_pairs_1 10 rfl rfl)
theorem dX3_pairs_34 : decode cX3_pairs 34 = .ok (.if_icmp .ne 6, 3) := dk_160 0 6 (dk_at dksX3_pairs_1 11 rfl rfl)
theorem dX3_pairs_37 : decode cX3_pairs 37 = .ok (.goto 80, 3) := dk_167 0 80 (dk_at dksX3_pairs_1 14 rfl rfl)
theorem dX3_pairs_40 : decode cX3_pairs 40 = .ok (.aload_n 0, 1) := dk_42 (dk_at dksX3_pairs_1 17 rfl rfl)
theorem dX3_pairs_41 : decode cX3_pairs 41 = .ok (.getfield 77, 3) := dk_180 0 77 (dk_at dksX3_pairs_1 18 rfl rfl)
theorem dX3_pairs_44 : decode cX3_pairs 44 = .ok (.iload_n 3, 1) := dk_29 (dk_at dksX3_pairs_1 21 rfl rfl)
theorem dX3_pairs_45 : decode cX3_pairs 45 = .ok (.iload 5, 2) := dk_21 5 (dk_at dksX3_pairs_1 22 rfl rfl)
theorem dX3_pairs_47 : decode cX3_pairs 47 = .ok (.iastore, 1) := dk_79 (dk_at dksX3_pairs_2 0 rfl rfl)
theorem dX3_pairs_48 : decode cX3_pairs 48 = .ok (.iconst 1, 1) := dk_4 (dk_at dksX3_pairs_2 1 rfl rfl)
theorem dX3_pairs_49 : decode cX3_pairs 49 = .ok (.istore 6, 2) := dk_54 6 (dk_at dksX3_pairs_2 2 rfl rfl)
theorem dX3_pairs_51 : decode cX3_pairs 51 = .ok (.iconst 0, 1) := dk_3 (dk_at dksX3_pairs_2 4 rfl rfl)
theorem dX3_pairs_52 : decode cX3_pairs 52 = .ok (.istore 7, 2) := dk_54 7 (dk_at dksX3_pairs_2 5 rfl rfl)
theorem dX3_pairs_54 : decode cX3_pairs 54 = .ok (.iload 7, 2) := dk_21 7 (dk_at dksX3_pairs_2 7 rfl rfl)
theorem dX3_pairs_56 : decode cX3_pairs 56 = .ok (.iload_n 3, 1) := dk_29 (dk_at dksX3_pairs_2 9 rfl rfl)
theorem dX3_pairs_57 : decode cX3_pairs 57 = .ok (.if_icmp .gt 34, 3) := dk_163 0 34 (dk_at dksX3_pairs_2 10 rfl rfl)
theorem dX3_pairs_60 : decode cX3_pairs 60 = .ok (.iload 6, 2) := dk_21 6 (dk_at dksX3_pairs_2 13 rfl rfl)
theorem dX3_pairs_62 : decode cX3_pairs 62 = .ok (.ifCond .eq 29, 3) := dk_153 0 29 (dk_at dksX3_pairs_2 15 rfl rfl)
theorem dX3_pairs_65 : decode cX3_pairs 65 = .ok (.aload_n 0, 1) := dk_42 (dk_at dksX3_pairs_2 18 rfl rfl)
theorem dX3_pairs_66 : decode cX3_pairs 66 = .ok (.iload_n 1, 1) := dk_27 (dk_at dksX3_pairs_2 19 rfl rfl)
theorem dX3_pairs_67 : decode cX3_pairs 67 = .ok (.iload_n 3, 1) := dk_29 (dk_at dksX3_pairs_2 20 rfl rfl)
theorem dX3_pairs_68 : decode cX3_pairs 68 = .ok (.iload 7, 2) := dk_21 7 (dk_at dksX3_pairs_2 21 rfl rfl)
theorem dX3_pairs_70 : decode cX3_pairs 70 = .ok (.iload_n 2, 1) := dk_28 (dk_at dksX3_pairs_2 23 rfl rfl)
theorem dX3_pairs_71 : decode cX3_pairs 71 = .ok (.iload 5, 2) := dk_21 5 (dk_at dksX3_pairs_3 0 rfl rfl)
theorem dX3_pairs_73 : decode cX3_pairs 73 = .ok (.aload_n 0, 1) := dk_42 (dk_at dksX3_pairs_3 2 rfl rfl)
theorem dX3_pairs_74 : decode cX3_pairs 74 = .ok (.getfield 77, 3) := dk_180 0 77 (dk_at dksX3_pairs_3 3 rfl rfl)
theorem dX3_pairs_77 : decode cX3_pairs 77 = .ok (.iload 7, 2) := dk_21 7 (dk_at dksX3_pairs_3 6 rfl rfl)
theorem dX3_pairs_79 : decode cX3_pairs 79 = .ok (.iaload, 1) := dk_46 (dk_at dksX3_pairs_3 8 rfl rfl)
theorem dX3_pairs_80 : decode cX3_pairs 80 = .ok (.invokevirtual 351, 3) := dk_182 1 95 (dk_at dksX3_pairs_3 9 rfl rfl)
theorem dX3_pairs_83 : decode cX3_pairs 83 = .ok (.istore 6, 2) := dk_54 6 (dk_at dksX3_pairs_3 12 rfl rfl)
theorem dX3_pairs_85 : decode cX3_pairs 85 = .ok (.iinc 7 1, 3) := dk_132 7 1 (dk_at dksX3_pairs_3 14 rfl rfl)
theorem dX3_pairs_88 : decode cX3_pairs 88 = .ok (.goto (-34), 3) := dk_167 255 222 (dk_at dksX3_pairs_3 17 rfl rfl)
theorem dX3_pairs_91 : decode cX3_pairs 91 = .ok (.iload 6, 2) := dk_21 6 (dk_at dksX3_pairs_3 20 rfl rfl)
theorem dX3_pairs_93 : decode cX3_pairs 93 = .ok (.ifCond .eq 24, 3) := dk_153 0 24 (dk_at dksX3_pairs_4 0 rfl rfl)
theorem dX3_pairs_96 : decode cX3_pairs 96 = .ok (.aload_n 0, 1) := dk_42 (dk_at dksX3_pairs_4 3 rfl rfl)
theorem dX3_pairs_97 : decode cX3_pairs 97 = .ok (.iload_n 1, 1) := dk_27 (dk_at dksX3_pairs_4 4 rfl rfl)
theorem dX3_pairs_98 : decode cX3_pairs 98 = .ok (.iload_n 2, 1) := dk_28 (dk_at dksX3_pairs_4 5 rfl rfl)
theorem dX3_pairs_99 : decode cX3_pairs 99 = .ok (.iload_n 3, 1) := dk_29 (dk_at dksX3_pairs_4 6 rfl rfl)
theorem dX3_pairs_100 : decode cX3_pairs 100 = .ok (.iconst 1, 1) := dk_4 (dk_at dksX3_pairs_4 7 rfl rfl)
theorem dX3_pairs_101 : decode cX3_pairs 101 = .ok (.iadd, 1) := dk_96 (dk_at dksX3_pairs_4 8 rfl rfl)
theorem dX3_pairs_102 : decode cX3_pairs 102 = .ok (.iload 4, 2) := dk_21 4 (dk_at dksX3_pairs_4 9 rfl rfl)
theorem dX3_pairs_104 : decode cX3_pairs 104 = .ok (.iconst 1, 1) := dk_4 (dk_at dksX3_pairs_4 11 rfl rfl)
theorem dX3_pairs_105 : decode cX3_pairs 105 = .ok (.iload 5, 2) := dk_21 5 (dk_at dksX3_pairs_4 12 rfl rfl)
theorem dX3_pairs_107 : decode cX3_pairs 107 = .ok (.ishl, 1) := dk_120 (dk_at dksX3_pairs_4 14 rfl rfl)
theorem dX3_pairs_108 : decode cX3_pairs 108 = .ok (.ior, 1) := dk_128 (dk_at dksX3_pairs_4 15 rfl rfl)
theorem dX3_pairs_109 : decode cX3_pairs 109 = .ok (.invokevirtual 355, 3) := dk_182 1 99 (dk_at dksX3_pairs_4 16 rfl rfl)
theorem dX3_pairs_112 : decode cX3_pairs 112 = .ok (.ifCond .eq 5, 3) := dk_153 0 5 (dk_at dksX3_pairs_4 19 rfl rfl)
theorem dX3_pairs_115 : decode cX3_pairs 115 = .ok (.iconst 1, 1) := dk_4 (dk_at dksX3_pairs_4 22 rfl rfl)
theorem dX3_pairs_116 : decode cX3_pairs 116 = .ok (.ireturn, 1) := dk_172 (dk_at dksX3_pairs_4 23 rfl rfl)
theorem dX3_pairs_117 : decode cX3_pairs 117 = .ok (.iinc 5 1, 3) := dk_132 5 1 (dk_at dksX3_pairs_5 0 rfl rfl)
theorem dX3_pairs_120 : decode cX3_pairs 120 = .ok (.goto (-105), 3) := dk_167 255 151 (dk_at dksX3_pairs_5 3 rfl rfl)
theorem dX3_pairs_123 : decode cX3_pairs 123 = .ok (.iconst 0, 1) := dk_3 (dk_at dksX3_pairs_5 6 rfl rfl)
theorem dX3_pairs_124 : decode cX3_pairs 124 = .ok (.ireturn, 1) := dk_172 (dk_at dksX3_pairs_5 7 rfl rfl)
abbrev cX3_isSame : ByteArray := prog_26_method_72_code
def yX3_isSame : MethodName := ⟨RX3, "isSame", "(IIIIII)Z"⟩
def dkwX3_isSame_5 : List UInt8 := [182, 1, 91, 159, 0, 5, 3, 172, 132, 7, 1, 167, 255, 199, 4, 172]
abbrev dktX3_isSame_5 : List UInt8 := dkwX3_isSame_5 ++ []
def dkwX3_isSame_4 : List UInt8 := [180, 0, 37, 21, 7, 46, 182, 1, 91, 42, 21, 4, 21, 5, 21, 6, 42, 180, 0, 37, 21, 7, 46]
abbrev dktX3_isSame_4 : List UInt8 := dkwX3_isSame_4 ++ dktX3_isSame_5
def dkwX3_isSame_3 : List UInt8 := [21, 7, 16, 24, 21, 4, 104, 42, 180, 0, 31, 21, 4, 46, 96, 162, 0, 45, 42, 27, 28, 29, 42]
abbrev dktX3_isSame_3 : List UInt8 := dkwX3_isSame_3 ++ dktX3_isSame_4
def dkwX3_isSame_2 : List UInt8 := [21, 7, 46, 182, 1, 91, 159, 0, 5, 3, 172, 132, 7, 1, 167, 255, 201, 16, 24, 21, 4, 104, 54, 7]
abbrev dktX3_isSame_2 : List UInt8 := dkwX3_isSame_2 ++ dktX3_isSame_3
def dkwX3_isSame_1 : List UInt8 := [28, 29, 42, 180, 0, 37, 21, 7, 46, 182, 1, 91, 42, 21, 4, 21, 5, 21, 6, 42, 180, 0, 37]
abbrev dktX3_isSame_1 : List UInt8 := dkwX3_isSame_1 ++ dktX3_isSame_2
def dkwX3_isSame_0 : List UInt8 := [16, 24, 27, 104, 54, 7, 21, 7, 16, 24, 27, 104, 42, 180, 0, 31, 27, 46, 96, 162, 0, 45, 42, 27]
abbrev dktX3_isSame_0 : List UInt8 := dkwX3_isSame_0 ++ dktX3_isSame_1
theorem dksX3_isSame_0 : cX3_isSame.data.toList.drop 0 = dktX3_isSame_0 := by decide +kernel
theorem dksX3_isSame_1 : cX3_isSame.data.toList.drop 24 = dktX3_isSame_1 := dk_seg dksX3_isSame_0 24 rfl rfl
theorem dksX3_isSame_2 : cX3_isSame.data.toList.drop 47 = dktX3_isSame_2 := dk_seg dksX3_isSame_1 23 rfl rfl
theorem dksX3_isSame_3 : cX3_isSame.data.toList.drop 71 = dktX3_isSame_3 := dk_seg dksX3_isSame_2 24 rfl rfl
theorem dksX3_isSame_4 : cX3_isSame.data.toList.drop 94 = dktX3_isSame_4 := dk_seg dksX3_isSame_3 23 rfl rfl
theorem dksX3_isSame_5 : cX3_isSame.data.toList.drop 117 = dktX3_isSame_5 := dk_seg dksX3_isSame_4 23 rfl rfl
theorem dX3_isSame_0 : decode cX3_isSame 0 = .ok (.bipush 24, 2) := dk_16 24 (dk_at dksX3_isSame_0 0 rfl rfl)
theorem dX3_isSame_2 : decode cX3_isSame 2 = .ok (.iload_n 1, 1) := dk_27 (dk_at dksX3_isSame_0 2 rfl rfl)
theorem dX3_isSame_3 : decode cX3_isSame 3 = .ok (.imul, 1) := dk_104 (dk_at dksX3_isSame_0 3 rfl rfl)
theorem dX3_isSame_4 : decode cX3_isSame 4 = .ok (.istore 7, 2) := dk_54 7 (dk_at dksX3_isSame_0 4 rfl rfl)
theorem dX3_isSame_6 : decode cX3_isSame 6 = .ok (.iload 7, 2) := dk_21 7 (dk_at dksX3_isSame_0 6 rfl rfl)
theorem dX3_isSame_8 : decode cX3_isSame 8 = .ok (.bipush 24, 2) := dk_16 24 (dk_at dksX3_isSame_0 8 rfl rfl)
theorem dX3_isSame_10 : decode cX3_isSame 10 = .ok (.iload_n 1, 1) := dk_27 (dk_at dksX3_isSame_0 10 rfl rfl)
theorem dX3_isSame_11 : decode cX3_isSame 11 = .ok (.imul, 1) := dk_104 (dk_at dksX3_isSame_0 11 rfl rfl)
theorem dX3_isSame_12 : decode cX3_isSame 12 = .ok (.aload_n 0, 1) := dk_42 (dk_at dksX3_isSame_0 12 rfl rfl)
theorem dX3_isSame_13 : decode cX3_isSame 13 = .ok (.getfield 31, 3) := dk_180 0 31 (dk_at dksX3_isSame_0 13 rfl rfl)
theorem dX3_isSame_16 : decode cX3_isSame 16 = .ok (.iload_n 1, 1) := dk_27 (dk_at dksX3_isSame_0 16 rfl rfl)
theorem dX3_isSame_17 : decode cX3_isSame 17 = .ok (.iaload, 1) := dk_46 (dk_at dksX3_isSame_0 17 rfl rfl)
theorem dX3_isSame_18 : decode cX3_isSame 18 = .ok (.iadd, 1) := dk_96 (dk_at dksX3_isSame_0 18 rfl rfl)
theorem dX3_isSame_19 : decode cX3_isSame 19 = .ok (.if_icmp .ge 45, 3) := dk_162 0 45 (dk_at dksX3_isSame_0 19 rfl rfl)
theorem dX3_isSame_22 : decode cX3_isSame 22 = .ok (.aload_n 0, 1) := dk_42 (dk_at dksX3_isSame_0 22 rfl rfl)
theorem dX3_isSame_23 : decode cX3_isSame 23 = .ok (.iload_n 1, 1) := dk_27 (dk_at dksX3_isSame_0 23 rfl rfl)
theorem dX3_isSame_24 : decode cX3_isSame 24 = .ok (.iload_n 2, 1) := dk_28 (dk_at dksX3_isSame_1 0 rfl rfl)
theorem dX3_isSame_25 : decode cX3_isSame 25 = .ok (.iload_n 3, 1) := dk_29 (dk_at dksX3_isSame_1 1 rfl rfl)
theorem dX3_isSame_26 : decode cX3_isSame 26 = .ok (.aload_n 0, 1) := dk_42 (dk_at dksX3_isSame_1 2 rfl rfl)
theorem dX3_isSame_27 : decode cX3_isSame 27 = .ok (.getfield 37, 3) := dk_180 0 37 (dk_at dksX3_isSame_1 3 rfl rfl)
theorem dX3_isSame_30 : decode cX3_isSame 30 = .ok (.iload 7, 2) := dk_21 7 (dk_at dksX3_isSame_1 6 rfl rfl)
theorem dX3_isSame_32 : decode cX3_isSame 32 = .ok (.iaload, 1) := dk_46 (dk_at dksX3_isSame_1 8 rfl rfl)
theorem dX3_isSame_33 : decode cX3_isSame 33 = .ok (.invokevirtual 347, 3) := dk_182 1 91 (dk_at dksX3_isSame_1 9 rfl rfl)
theorem dX3_isSame_36 : decode cX3_isSame 36 = .ok (.aload_n 0, 1) := dk_42 (dk_at dksX3_isSame_1 12 rfl rfl)
theorem dX3_isSame_37 : decode cX3_isSame 37 = .ok (.iload 4, 2) := dk_21 4 (dk_at dksX3_isSame_1 13 rfl rfl)
theorem dX3_isSame_39 : decode cX3_isSame 39 = .ok (.iload 5, 2) := dk_21 5 (dk_at dksX3_isSame_1 15 rfl rfl)
theorem dX3_isSame_41 : decode cX3_isSame 41 = .ok (.iload 6, 2) := dk_21 6 (dk_at dksX3_isSame_1 17 rfl rfl)
theorem dX3_isSame_43 : decode cX3_isSame 43 = .ok (.aload_n 0, 1) := dk_42 (dk_at dksX3_isSame_1 19 rfl rfl)
theorem dX3_isSame_44 : decode cX3_isSame 44 = .ok (.getfield 37, 3) := dk_180 0 37 (dk_at dksX3_isSame_1 20 rfl rfl)
theorem dX3_isSame_47 : decode cX3_isSame 47 = .ok (.iload 7, 2) := dk_21 7 (dk_at dksX3_isSame_2 0 rfl rfl)
theorem dX3_isSame_49 : decode cX3_isSame 49 = .ok (.iaload, 1) := dk_46 (dk_at dksX3_isSame_2 2 rfl rfl)
theorem dX3_isSame_50 : decode cX3_isSame 50 = .ok (.invokevirtual 347, 3) := dk_182 1 91 (dk_at dksX3_isSame_2 3 rfl rfl)
theorem dX3_isSame_53 : decode cX3_isSame 53 = .ok (.if_icmp .eq 5, 3) := dk_159 0 5 (dk_at dksX3_isSame_2 6 rfl rfl)
theorem dX3_isSame_56 : decode cX3_isSame 56 = .ok (.iconst 0, 1) := dk_3 (dk_at dksX3_isSame_2 9 rfl rfl)
theorem dX3_isSame_57 : decode cX3_isSame 57 = .ok (.ireturn, 1) := dk_172 (dk_at dksX3_isSame_2 10 rfl rfl)
theorem dX3_isSame_58 : decode cX3_isSame 58 = .ok (.iinc 7 1, 3) := dk_132 7 1 (dk_at dksX3_isSame_2 11 rfl rfl)
theorem dX3_isSame_61 : decode cX3_isSame 61 = .ok (.goto (-55), 3) := dk_167 255 201 (dk_at dksX3_isSame_2 14 rfl rfl)
theorem dX3_isSame_64 : decode cX3_isSame 64 = .ok (.bipush 24, 2) := dk_16 24 (dk_at dksX3_isSame_2 17 rfl rfl)
theorem dX3_isSame_66 : decode cX3_isSame 66 = .ok (.iload 4, 2) := dk_21 4 (dk_at dksX3_isSame_2 19 rfl rfl)
theorem dX3_isSame_68 : decode cX3_isSame 68 = .ok (.imul, 1) := dk_104 (dk_at dksX3_isSame_2 21 rfl rfl)
theorem dX3_isSame_69 : decode cX3_isSame 69 = .ok (.istore 7, 2) := dk_54 7 (dk_at dksX3_isSame_2 22 rfl rfl)
theorem dX3_isSame_71 : decode cX3_isSame 71 = .ok (.iload 7, 2) := dk_21 7 (dk_at dksX3_isSame_3 0 rfl rfl)
theorem dX3_isSame_73 : decode cX3_isSame 73 = .ok (.bipush 24, 2) := dk_16 24 (dk_at dksX3_isSame_3 2 rfl rfl)
theorem dX3_isSame_75 : decode cX3_isSame 75 = .ok (.iload 4, 2) := dk_21 4 (dk_at dksX3_isSame_3 4 rfl rfl)
theorem dX3_isSame_77 : decode cX3_isSame 77 = .ok (.imul, 1) := dk_104 (dk_at dksX3_isSame_3 6 rfl rfl)
theorem dX3_isSame_78 : decode cX3_isSame 78 = .ok (.aload_n 0, 1) := dk_42 (dk_at dksX3_isSame_3 7 rfl rfl)
theorem dX3_isSame_79 : decode cX3_isSame 79 = .ok (.getfield 31, 3) := dk_180 0 31 (dk_at dksX3_isSame_3 8 rfl rfl)
theorem dX3_isSame_82 : decode cX3_isSame 82 = .ok (.iload 4, 2) := dk_21 4 (dk_at dksX3_isSame_3 11 rfl rfl)
theorem dX3_isSame_84 : decode cX3_isSame 84 = .ok (.iaload, 1) := dk_46 (dk_at dksX3_isSame_3 13 rfl rfl)
theorem dX3_isSame_85 : decode cX3_isSame 85 = .ok (.iadd, 1) := dk_96 (dk_at dksX3_isSame_3 14 rfl rfl)
theorem dX3_isSame_86 : decode cX3_isSame 86 = .ok (.if_icmp .ge 45, 3) := dk_162 0 45 (dk_at dksX3_isSame_3 15 rfl rfl)
theorem dX3_isSame_89 : decode cX3_isSame 89 = .ok (.aload_n 0, 1) := dk_42 (dk_at dksX3_isSame_3 18 rfl rfl)
theorem dX3_isSame_90 : decode cX3_isSame 90 = .ok (.iload_n 1, 1) := dk_27 (dk_at dksX3_isSame_3 19 rfl rfl)
theorem dX3_isSame_91 : decode cX3_isSame 91 = .ok (.iload_n 2, 1) := dk_28 (dk_at dksX3_isSame_3 20 rfl rfl)
theorem dX3_isSame_92 : decode cX3_isSame 92 = .ok (.iload_n 3, 1) := dk_29 (dk_at dksX3_isSame_3 21 rfl rfl)
theorem dX3_isSame_93 : decode cX3_isSame 93 = .ok (.aload_n 0, 1) := dk_42 (dk_at dksX3_isSame_3 22 rfl rfl)
theorem dX3_isSame_94 : decode cX3_isSame 94 = .ok (.getfield 37, 3) := dk_180 0 37 (dk_at dksX3_isSame_4 0 rfl rfl)
theorem dX3_isSame_97 : decode cX3_isSame 97 = .ok (.iload 7, 2) := dk_21 7 (dk_at dksX3_isSame_4 3 rfl rfl)
theorem dX3_isSame_99 : decode cX3_isSame 99 = .ok (.iaload, 1) := dk_46 (dk_at dksX3_isSame_4 5 rfl rfl)
theorem dX3_isSame_100 : decode cX3_isSame 100 = .ok (.invokevirtual 347, 3) := dk_182 1 91 (dk_at dksX3_isSame_4 6 rfl rfl)
theorem dX3_isSame_103 : decode cX3_isSame 103 = .ok (.aload_n 0, 1) := dk_42 (dk_at dksX3_isSame_4 9 rfl rfl)
theorem dX3_isSame_104 : decode cX3_isSame 104 = .ok (.iload 4, 2) := dk_21 4 (dk_at dksX3_isSame_4 10 rfl rfl)
theorem dX3_isSame_106 : decode cX3_isSame 106 = .ok (.iload 5, 2) := dk_21 5 (dk_at dksX3_isSame_4 12 rfl rfl)
theorem dX3_isSame_108 : decode cX3_isSame 108 = .ok (.iload 6, 2) := dk_21 6 (dk_at dksX3_isSame_4 14 rfl rfl)
theorem dX3_isSame_110 : decode cX3_isSame 110 = .ok (.aload_n 0, 1) := dk_42 (dk_at dksX3_isSame_4 16 rfl rfl)
theorem dX3_isSame_111 : decode cX3_isSame 111 = .ok (.getfield 37, 3) := dk_180 0 37 (dk_at dksX3_isSame_4 17 rfl rfl)
theorem dX3_isSame_114 : decode cX3_isSame 114 = .ok (.iload 7, 2) := dk_21 7 (dk_at dksX3_isSame_4 20 rfl rfl)
theorem dX3_isSame_116 : decode cX3_isSame 116 = .ok (.iaload, 1) := dk_46 (dk_at dksX3_isSame_4 22 rfl rfl)
theorem dX3_isSame_117 : decode cX3_isSame 117 = .ok (.invokevirtual 347, 3) := dk_182 1 91 (dk_at dksX3_isSame_5 0 rfl rfl)
theorem dX3_isSame_120 : decode cX3_isSame 120 = .ok (.if_icmp .eq 5, 3) := dk_159 0 5 (dk_at dksX3_isSame_5 3 rfl rfl)
theorem dX3_isSame_123 : decode cX3_isSame 123 = .ok (.iconst 0, 1) := dk_3 (dk_at dksX3_isSame_5 6 rfl rfl)
theorem dX3_isSame_124 : decode cX3_isSame 124 = .ok (.ireturn, 1) := dk_172 (dk_at dksX3_isSame_5 7 rfl rfl)
theorem dX3_isSame_125 : decode cX3_isSame 125 = .ok (.iinc 7 1, 3) := dk_132 7 1 (dk_at dksX3_isSame_5 8 rfl rfl)
theorem dX3_isSame_128 : decode cX3_isSame 128 = .ok (.goto (-57), 3) := dk_167 255 199 (dk_at dksX3_isSame_5 11 rfl rfl)
theorem dX3_isSame_131 : decode cX3_isSame 131 = .ok (.iconst 1, 1) := dk_4 (dk_at dksX3_isSame_5 14 rfl rfl)
theorem dX3_isSame_132 : decode cX3_isSame 132 = .ok (.ireturn, 1) := dk_172 (dk_at dksX3_isSame_5 15 rfl rfl)
abbrev cX3_between : ByteArray := prog_26_method_71_code
def yX3_between : MethodName := ⟨RX3, "between", "(IIII)I"⟩
def dkwX3_between_4 : List UInt8 := [21, 4, 160, 0, 7, 4, 167, 0, 4, 3, 96, 54, 5, 132, 6, 1, 167, 255, 159, 21, 5, 172]
abbrev dktX3_between_4 : List UInt8 := dkwX3_between_4 ++ []
def dkwX3_between_3 : List UInt8 := [160, 0, 7, 4, 167, 0, 4, 3, 54, 7, 21, 5, 21, 7, 153, 0, 19, 42, 180, 0, 37, 21, 6, 46]
abbrev dktX3_between_3 : List UInt8 := dkwX3_between_3 ++ dktX3_between_4
def dkwX3_between_2 : List UInt8 := [159, 0, 25, 42, 180, 0, 40, 21, 6, 46, 29, 160, 0, 18, 42, 180, 0, 43, 21, 6, 46, 28]
abbrev dktX3_between_2 : List UInt8 := dkwX3_between_2 ++ dktX3_between_3
def dkwX3_between_1 : List UInt8 := [162, 0, 87, 42, 180, 0, 40, 21, 6, 46, 28, 160, 0, 14, 42, 180, 0, 43, 21, 6, 46, 29]
abbrev dktX3_between_1 : List UInt8 := dkwX3_between_1 ++ dktX3_between_2
def dkwX3_between_0 : List UInt8 := [3, 54, 5, 16, 24, 27, 104, 54, 6, 21, 6, 16, 24, 27, 104, 42, 180, 0, 31, 27, 46, 96]
abbrev dktX3_between_0 : List UInt8 := dkwX3_between_0 ++ dktX3_between_1
theorem dksX3_between_0 : cX3_between.data.toList.drop 0 = dktX3_between_0 := by decide +kernel
theorem dksX3_between_1 : cX3_between.data.toList.drop 22 = dktX3_between_1 := dk_seg dksX3_between_0 22 rfl rfl
theorem dksX3_between_2 : cX3_between.data.toList.drop 44 = dktX3_between_2 := dk_seg dksX3_between_1 22 rfl rfl
theorem dksX3_between_3 : cX3_between.data.toList.drop 66 = dktX3_between_3 := dk_seg dksX3_between_2 22 rfl rfl
theorem dksX3_between_4 : cX3_between.data.toList.drop 90 = dktX3_between_4 := dk_seg dksX3_between_3 24 rfl rfl
theorem dX3_between_0 : decode cX3_between 0 = .ok (.iconst 0, 1) := dk_3 (dk_at dksX3_between_0 0 rfl rfl)
theorem dX3_between_1 : decode cX3_between 1 = .ok (.istore 5, 2) := dk_54 5 (dk_at dksX3_between_0 1 rfl rfl)
theorem dX3_between_3 : decode cX3_between 3 = .ok (.bipush 24, 2) := dk_16 24 (dk_at dksX3_between_0 3 rfl rfl)
theorem dX3_between_5 : decode cX3_between 5 = .ok (.iload_n 1, 1) := dk_27 (dk_at dksX3_between_0 5 rfl rfl)
theorem dX3_between_6 : decode cX3_between 6 = .ok (.imul, 1) := dk_104 (dk_at dksX3_between_0 6 rfl rfl)
theorem dX3_between_7 : decode cX3_between 7 = .ok (.istore 6, 2) := dk_54 6 (dk_at dksX3_between_0 7 rfl rfl)
theorem dX3_between_9 : decode cX3_between 9 = .ok (.iload 6, 2) := dk_21 6 (dk_at dksX3_between_0 9 rfl rfl)
theorem dX3_between_11 : decode cX3_between 11 = .ok (.bipush 24, 2) := dk_16 24 (dk_at dksX3_between_0 11 rfl rfl)
theorem dX3_between_13 : decode cX3_between 13 = .ok (.iload_n 1, 1) := dk_27 (dk_at dksX3_between_0 13 rfl rfl)
theorem dX3_between_14 : decode cX3_between 14 = .ok (.imul, 1) := dk_104 (dk_at dksX3_between_0 14 rfl rfl)
theorem dX3_between_15 : decode cX3_between 15 = .ok (.aload_n 0, 1) := dk_42 (dk_at dksX3_between_0 15 rfl rfl)
theorem dX3_between_16 : decode cX3_between 16 = .ok (.getfield 31, 3) := dk_180 0 31 (dk_at dksX3_between_0 16 rfl rfl)
theorem dX3_between_19 : decode cX3_between 19 = .ok (.iload_n 1, 1) := dk_27 (dk_at dksX3_between_0 19 rfl rfl)
theorem dX3_between_20 : decode cX3_between 20 = .ok (.iaload, 1) := dk_46 (dk_at dksX3_between_0 20 rfl rfl)
theorem dX3_between_21 : decode cX3_between 21 = .ok (.iadd, 1) := dk_96 (dk_at dksX3_between_0 21 rfl rfl)
theorem dX3_between_22 : decode cX3_between 22 = .ok (.if_icmp .ge 87, 3) := dk_162 0 87 (dk_at dksX3_between_1 0 rfl rfl)
theorem dX3_between_25 : decode cX3_between 25 = .ok (.aload_n 0, 1) := dk_42 (dk_at dksX3_between_1 3 rfl rfl)
theorem dX3_between_26 : decode cX3_between 26 = .ok (.getfield 40, 3) := dk_180 0 40 (dk_at dksX3_between_1 4 rfl rfl)
theorem dX3_between_29 : decode cX3_between 29 = .ok (.iload 6, 2) := dk_21 6 (dk_at dksX3_between_1 7 rfl rfl)
theorem dX3_between_31 : decode cX3_between 31 = .ok (.iaload, 1) := dk_46 (dk_at dksX3_between_1 9 rfl rfl)
theorem dX3_between_32 : decode cX3_between 32 = .ok (.iload_n 2, 1) := dk_28 (dk_at dksX3_between_1 10 rfl rfl)
theorem dX3_between_33 : decode cX3_between 33 = .ok (.if_icmp .ne 14, 3) := dk_160 0 14 (dk_at dksX3_between_1 11 rfl rfl)
theorem dX3_between_36 : decode cX3_between 36 = .ok (.aload_n 0, 1) := dk_42 (dk_at dksX3_between_1 14 rfl rfl)
theorem dX3_between_37 : decode cX3_between 37 = .ok (.getfield 43, 3) := dk_180 0 43 (dk_at dksX3_between_1 15 rfl rfl)
theorem dX3_between_40 : decode cX3_between 40 = .ok (.iload 6, 2) := dk_21 6 (dk_at dksX3_between_1 18 rfl rfl)
theorem dX3_between_42 : decode cX3_between 42 = .ok (.iaload, 1) := dk_46 (dk_at dksX3_between_1 20 rfl rfl)
theorem dX3_between_43 : decode cX3_between 43 = .ok (.iload_n 3, 1) := dk_29 (dk_at dksX3_between_1 21 rfl rfl)
theorem dX3_between_44 : decode cX3_between 44 = .ok (.if_icmp .eq 25, 3) := dk_159 0 25 (dk_at dksX3_between_2 0 rfl rfl)
theorem dX3_between_47 : decode cX3_between 47 = .ok (.aload_n 0, 1) := dk_42 (dk_at dksX3_between_2 3 rfl rfl)
theorem dX3_between_48 : decode cX3_between 48 = .ok (.getfield 40, 3) := dk_180 0 40 (dk_at dksX3_between_2 4 rfl rfl)
theorem dX3_between_51 : decode cX3_between 51 = .ok (.iload 6, 2) := dk_21 6 (dk_at dksX3_between_2 7 rfl rfl)
theorem dX3_between_53 : decode cX3_between 53 = .ok (.iaload, 1) := dk_46 (dk_at dksX3_between_2 9 rfl rfl)
theorem dX3_between_54 : decode cX3_between 54 = .ok (.iload_n 3, 1) := dk_29 (dk_at dksX3_between_2 10 rfl rfl)
theorem dX3_between_55 : decode cX3_between 55 = .ok (.if_icmp .ne 18, 3) := dk_160 0 18 (dk_at dksX3_between_2 11 rfl rfl)
theorem dX3_between_58 : decode cX3_between 58 = .ok (.aload_n 0, 1) := dk_42 (dk_at dksX3_between_2 14 rfl rfl)
theorem dX3_between_59 : decode cX3_between 59 = .ok (.getfield 43, 3) := dk_180 0 43 (dk_at dksX3_between_2 15 rfl rfl)
theorem dX3_between_62 : decode cX3_between 62 = .ok (.iload 6, 2) := dk_21 6 (dk_at dksX3_between_2 18 rfl rfl)
theorem dX3_between_64 : decode cX3_between 64 = .ok (.iaload, 1) := dk_46 (dk_at dksX3_between_2 20 rfl rfl)
theorem dX3_between_65 : decode cX3_between 65 = .ok (.iload_n 2, 1) := dk_28 (dk_at dksX3_between_2 21 rfl rfl)
theorem dX3_between_66 : decode cX3_between 66 = .ok (.if_icmp .ne 7, 3) := dk_160 0 7 (dk_at dksX3_between_3 0 rfl rfl)
theorem dX3_between_69 : decode cX3_between 69 = .ok (.iconst 1, 1) := dk_4 (dk_at dksX3_between_3 3 rfl rfl)
theorem dX3_between_70 : decode cX3_between 70 = .ok (.goto 4, 3) := dk_167 0 4 (dk_at dksX3_between_3 4 rfl rfl)
theorem dX3_between_73 : decode cX3_between 73 = .ok (.iconst 0, 1) := dk_3 (dk_at dksX3_between_3 7 rfl rfl)
theorem dX3_between_74 : decode cX3_between 74 = .ok (.istore 7, 2) := dk_54 7 (dk_at dksX3_between_3 8 rfl rfl)
theorem dX3_between_76 : decode cX3_between 76 = .ok (.iload 5, 2) := dk_21 5 (dk_at dksX3_between_3 10 rfl rfl)
theorem dX3_between_78 : decode cX3_between 78 = .ok (.iload 7, 2) := dk_21 7 (dk_at dksX3_between_3 12 rfl rfl)
theorem dX3_between_80 : decode cX3_between 80 = .ok (.ifCond .eq 19, 3) := dk_153 0 19 (dk_at dksX3_between_3 14 rfl rfl)
theorem dX3_between_83 : decode cX3_between 83 = .ok (.aload_n 0, 1) := dk_42 (dk_at dksX3_between_3 17 rfl rfl)
theorem dX3_between_84 : decode cX3_between 84 = .ok (.getfield 37, 3) := dk_180 0 37 (dk_at dksX3_between_3 18 rfl rfl)
theorem dX3_between_87 : decode cX3_between 87 = .ok (.iload 6, 2) := dk_21 6 (dk_at dksX3_between_3 21 rfl rfl)
theorem dX3_between_89 : decode cX3_between 89 = .ok (.iaload, 1) := dk_46 (dk_at dksX3_between_3 23 rfl rfl)
theorem dX3_between_90 : decode cX3_between 90 = .ok (.iload 4, 2) := dk_21 4 (dk_at dksX3_between_4 0 rfl rfl)
theorem dX3_between_92 : decode cX3_between 92 = .ok (.if_icmp .ne 7, 3) := dk_160 0 7 (dk_at dksX3_between_4 2 rfl rfl)
theorem dX3_between_95 : decode cX3_between 95 = .ok (.iconst 1, 1) := dk_4 (dk_at dksX3_between_4 5 rfl rfl)
theorem dX3_between_96 : decode cX3_between 96 = .ok (.goto 4, 3) := dk_167 0 4 (dk_at dksX3_between_4 6 rfl rfl)
theorem dX3_between_99 : decode cX3_between 99 = .ok (.iconst 0, 1) := dk_3 (dk_at dksX3_between_4 9 rfl rfl)
theorem dX3_between_100 : decode cX3_between 100 = .ok (.iadd, 1) := dk_96 (dk_at dksX3_between_4 10 rfl rfl)
theorem dX3_between_101 : decode cX3_between 101 = .ok (.istore 5, 2) := dk_54 5 (dk_at dksX3_between_4 11 rfl rfl)
theorem dX3_between_103 : decode cX3_between 103 = .ok (.iinc 6 1, 3) := dk_132 6 1 (dk_at dksX3_between_4 13 rfl rfl)
theorem dX3_between_106 : decode cX3_between 106 = .ok (.goto (-97), 3) := dk_167 255 159 (dk_at dksX3_between_4 16 rfl rfl)
theorem dX3_between_109 : decode cX3_between 109 = .ok (.iload 5, 2) := dk_21 5 (dk_at dksX3_between_4 19 rfl rfl)
theorem dX3_between_111 : decode cX3_between 111 = .ok (.ireturn, 1) := dk_172 (dk_at dksX3_between_4 21 rfl rfl)
abbrev cX3_match : ByteArray := prog_26_method_77_code
def yX3_match : MethodName := ⟨RX3, "match", "(III)I"⟩
def dkwX3_match_1 : List UInt8 := [153, 0, 12, 42, 180, 0, 77, 29, 46, 167, 0, 4, 2, 172]
abbrev dktX3_match_1 : List UInt8 := dkwX3_match_1 ++ []
def dkwX3_match_0 : List UInt8 := [42, 27, 28, 182, 1, 103, 153, 0, 30, 42, 27, 29, 182, 1, 51, 153, 0, 21, 42, 27, 28, 182, 1, 106]
abbrev dktX3_match_0 : List UInt8 := dkwX3_match_0 ++ dktX3_match_1
theorem dksX3_match_0 : cX3_match.data.toList.drop 0 = dktX3_match_0 := by decide +kernel
theorem dksX3_match_1 : cX3_match.data.toList.drop 24 = dktX3_match_1 := dk_seg dksX3_match_0 24 rfl rfl
theorem dX3_match_0 : decode cX3_match 0 = .ok (.aload_n 0, 1) := dk_42 (dk_at dksX3_match_0 0 rfl rfl)
theorem dX3_match_1 : decode cX3_match 1 = .ok (.iload_n 1, 1) := dk_27 (dk_at dksX3_match_0 1 rfl rfl)
theorem dX3_match_2 : decode cX3_match 2 = .ok (.iload_n 2, 1) := dk_28 (dk_at dksX3_match_0 2 rfl rfl)
theorem dX3_match_3 : decode cX3_match 3 = .ok (.invokevirtual 359, 3) := dk_182 1 103 (dk_at dksX3_match_0 3 rfl rfl)
theorem dX3_match_6 : decode cX3_match 6 = .ok (.ifCond .eq 30, 3) := dk_153 0 30 (dk_at dksX3_match_0 6 rfl rfl)
theorem dX3_match_9 : decode cX3_match 9 = .ok (.aload_n 0, 1) := dk_42 (dk_at dksX3_match_0 9 rfl rfl)
theorem dX3_match_10 : decode cX3_match 10 = .ok (.iload_n 1, 1) := dk_27 (dk_at dksX3_match_0 10 rfl rfl)
theorem dX3_match_11 : decode cX3_match 11 = .ok (.iload_n 3, 1) := dk_29 (dk_at dksX3_match_0 11 rfl rfl)
theorem dX3_match_12 : decode cX3_match 12 = .ok (.invokevirtual 307, 3) := dk_182 1 51 (dk_at dksX3_match_0 12 rfl rfl)
theorem dX3_match_15 : decode cX3_match 15 = .ok (.ifCond .eq 21, 3) := dk_153 0 21 (dk_at dksX3_match_0 15 rfl rfl)
theorem dX3_match_18 : decode cX3_match 18 = .ok (.aload_n 0, 1) := dk_42 (dk_at dksX3_match_0 18 rfl rfl)
theorem dX3_match_19 : decode cX3_match 19 = .ok (.iload_n 1, 1) := dk_27 (dk_at dksX3_match_0 19 rfl rfl)
theorem dX3_match_20 : decode cX3_match 20 = .ok (.iload_n 2, 1) := dk_28 (dk_at dksX3_match_0 20 rfl rfl)
theorem dX3_match_21 : decode cX3_match 21 = .ok (.invokevirtual 362, 3) := dk_182 1 106 (dk_at dksX3_match_0 21 rfl rfl)
theorem dX3_match_24 : decode cX3_match 24 = .ok (.ifCond .eq 12, 3) := dk_153 0 12 (dk_at dksX3_match_1 0 rfl rfl)
theorem dX3_match_27 : decode cX3_match 27 = .ok (.aload_n 0, 1) := dk_42 (dk_at dksX3_match_1 3 rfl rfl)
theorem dX3_match_28 : decode cX3_match 28 = .ok (.getfield 77, 3) := dk_180 0 77 (dk_at dksX3_match_1 4 rfl rfl)
theorem dX3_match_31 : decode cX3_match 31 = .ok (.iload_n 3, 1) := dk_29 (dk_at dksX3_match_1 7 rfl rfl)
theorem dX3_match_32 : decode cX3_match 32 = .ok (.iaload, 1) := dk_46 (dk_at dksX3_match_1 8 rfl rfl)
theorem dX3_match_33 : decode cX3_match 33 = .ok (.goto 4, 3) := dk_167 0 4 (dk_at dksX3_match_1 9 rfl rfl)
theorem dX3_match_36 : decode cX3_match 36 = .ok (.iconst (-1), 1) := dk_2 (dk_at dksX3_match_1 12 rfl rfl)
theorem dX3_match_37 : decode cX3_match 37 = .ok (.ireturn, 1) := dk_172 (dk_at dksX3_match_1 13 rfl rfl)
abbrev cX3_far : ByteArray := prog_26_method_79_code
def yX3_far : MethodName := ⟨RX3, "far", "(III)I"⟩
def dkwX3_far_2 : List UInt8 := [21, 4, 167, 0, 4, 2, 172]
abbrev dktX3_far_2 : List UInt8 := dkwX3_far_2 ++ []
def dkwX3_far_1 : List UInt8 := [182, 1, 110, 42, 180, 0, 80, 16, 60, 28, 104, 29, 96, 46, 54, 4, 21, 4, 19, 1, 109, 162, 0, 8]
abbrev dktX3_far_1 : List UInt8 := dkwX3_far_1 ++ dktX3_far_2
def dkwX3_far_0 : List UInt8 := [42, 27, 28, 182, 1, 51, 153, 0, 12, 42, 27, 29, 182, 1, 51, 154, 0, 5, 2, 172, 42, 27]
abbrev dktX3_far_0 : List UInt8 := dkwX3_far_0 ++ dktX3_far_1
theorem dksX3_far_0 : cX3_far.data.toList.drop 0 = dktX3_far_0 := by decide +kernel
theorem dksX3_far_1 : cX3_far.data.toList.drop 22 = dktX3_far_1 := dk_seg dksX3_far_0 22 rfl rfl
theorem dksX3_far_2 : cX3_far.data.toList.drop 46 = dktX3_far_2 := dk_seg dksX3_far_1 24 rfl rfl
theorem dX3_far_0 : decode cX3_far 0 = .ok (.aload_n 0, 1) := dk_42 (dk_at dksX3_far_0 0 rfl rfl)
theorem dX3_far_1 : decode cX3_far 1 = .ok (.iload_n 1, 1) := dk_27 (dk_at dksX3_far_0 1 rfl rfl)
theorem dX3_far_2 : decode cX3_far 2 = .ok (.iload_n 2, 1) := dk_28 (dk_at dksX3_far_0 2 rfl rfl)
theorem dX3_far_3 : decode cX3_far 3 = .ok (.invokevirtual 307, 3) := dk_182 1 51 (dk_at dksX3_far_0 3 rfl rfl)
theorem dX3_far_6 : decode cX3_far 6 = .ok (.ifCond .eq 12, 3) := dk_153 0 12 (dk_at dksX3_far_0 6 rfl rfl)
theorem dX3_far_9 : decode cX3_far 9 = .ok (.aload_n 0, 1) := dk_42 (dk_at dksX3_far_0 9 rfl rfl)
theorem dX3_far_10 : decode cX3_far 10 = .ok (.iload_n 1, 1) := dk_27 (dk_at dksX3_far_0 10 rfl rfl)
theorem dX3_far_11 : decode cX3_far 11 = .ok (.iload_n 3, 1) := dk_29 (dk_at dksX3_far_0 11 rfl rfl)
theorem dX3_far_12 : decode cX3_far 12 = .ok (.invokevirtual 307, 3) := dk_182 1 51 (dk_at dksX3_far_0 12 rfl rfl)
theorem dX3_far_15 : decode cX3_far 15 = .ok (.ifCond .ne 5, 3) := dk_154 0 5 (dk_at dksX3_far_0 15 rfl rfl)
theorem dX3_far_18 : decode cX3_far 18 = .ok (.iconst (-1), 1) := dk_2 (dk_at dksX3_far_0 18 rfl rfl)
theorem dX3_far_19 : decode cX3_far 19 = .ok (.ireturn, 1) := dk_172 (dk_at dksX3_far_0 19 rfl rfl)
theorem dX3_far_20 : decode cX3_far 20 = .ok (.aload_n 0, 1) := dk_42 (dk_at dksX3_far_0 20 rfl rfl)
theorem dX3_far_21 : decode cX3_far 21 = .ok (.iload_n 1, 1) := dk_27 (dk_at dksX3_far_0 21 rfl rfl)
theorem dX3_far_22 : decode cX3_far 22 = .ok (.invokevirtual 366, 3) := dk_182 1 110 (dk_at dksX3_far_1 0 rfl rfl)
theorem dX3_far_25 : decode cX3_far 25 = .ok (.aload_n 0, 1) := dk_42 (dk_at dksX3_far_1 3 rfl rfl)
theorem dX3_far_26 : decode cX3_far 26 = .ok (.getfield 80, 3) := dk_180 0 80 (dk_at dksX3_far_1 4 rfl rfl)
theorem dX3_far_29 : decode cX3_far 29 = .ok (.bipush 60, 2) := dk_16 60 (dk_at dksX3_far_1 7 rfl rfl)
theorem dX3_far_31 : decode cX3_far 31 = .ok (.iload_n 2, 1) := dk_28 (dk_at dksX3_far_1 9 rfl rfl)
theorem dX3_far_32 : decode cX3_far 32 = .ok (.imul, 1) := dk_104 (dk_at dksX3_far_1 10 rfl rfl)
theorem dX3_far_33 : decode cX3_far 33 = .ok (.iload_n 3, 1) := dk_29 (dk_at dksX3_far_1 11 rfl rfl)
theorem dX3_far_34 : decode cX3_far 34 = .ok (.iadd, 1) := dk_96 (dk_at dksX3_far_1 12 rfl rfl)
theorem dX3_far_35 : decode cX3_far 35 = .ok (.iaload, 1) := dk_46 (dk_at dksX3_far_1 13 rfl rfl)
theorem dX3_far_36 : decode cX3_far 36 = .ok (.istore 4, 2) := dk_54 4 (dk_at dksX3_far_1 14 rfl rfl)
theorem dX3_far_38 : decode cX3_far 38 = .ok (.iload 4, 2) := dk_21 4 (dk_at dksX3_far_1 16 rfl rfl)
theorem dX3_far_40 : decode cX3_far 40 = .ok (.ldc_w 365, 3) := dk_19 1 109 (dk_at dksX3_far_1 18 rfl rfl)
theorem dX3_far_43 : decode cX3_far 43 = .ok (.if_icmp .ge 8, 3) := dk_162 0 8 (dk_at dksX3_far_1 21 rfl rfl)
theorem dX3_far_46 : decode cX3_far 46 = .ok (.iload 4, 2) := dk_21 4 (dk_at dksX3_far_2 0 rfl rfl)
theorem dX3_far_48 : decode cX3_far 48 = .ok (.goto 4, 3) := dk_167 0 4 (dk_at dksX3_far_2 2 rfl rfl)
theorem dX3_far_51 : decode cX3_far 51 = .ok (.iconst (-1), 1) := dk_2 (dk_at dksX3_far_2 5 rfl rfl)
theorem dX3_far_52 : decode cX3_far 52 = .ok (.ireturn, 1) := dk_172 (dk_at dksX3_far_2 6 rfl rfl)
abbrev cX3_findFars : ByteArray := prog_26_method_78_code
def yX3_findFars : MethodName := ⟨RX3, "findFars", "(I)V"⟩
def dkwX3_findFars_11 : List UInt8 := [132, 3, 1, 167, 255, 164, 177]
abbrev dktX3_findFars_11 : List UInt8 := dkwX3_findFars_11 ++ []
def dkwX3_findFars_10 : List UInt8 := [104, 21, 5, 96, 46, 96, 184, 0, 155, 79, 132, 5, 1, 167, 255, 193, 132, 4, 1, 167, 255, 178]
abbrev dktX3_findFars_10 : List UInt8 := dkwX3_findFars_10 ++ dktX3_findFars_11
def dkwX3_findFars_9 : List UInt8 := [104, 21, 5, 96, 46, 42, 180, 0, 80, 16, 60, 21, 4, 104, 29, 96, 46, 42, 180, 0, 80, 16, 60, 29]
abbrev dktX3_findFars_9 : List UInt8 := dkwX3_findFars_9 ++ dktX3_findFars_10
def dkwX3_findFars_8 : List UInt8 := [28, 162, 0, 63, 42, 180, 0, 80, 16, 60, 21, 4, 104, 21, 5, 96, 42, 180, 0, 80, 16, 60, 21, 4]
abbrev dktX3_findFars_8 : List UInt8 := dkwX3_findFars_8 ++ dktX3_findFars_9
def dkwX3_findFars_7 : List UInt8 := [167, 255, 160, 3, 62, 29, 28, 162, 0, 93, 3, 54, 4, 21, 4, 28, 162, 0, 78, 3, 54, 5, 21, 5]
abbrev dktX3_findFars_7 : List UInt8 := dkwX3_findFars_7 ++ dktX3_findFars_8
def dkwX3_findFars_6 : List UInt8 := [16, 60, 42, 180, 0, 43, 29, 46, 104, 42, 180, 0, 40, 29, 46, 96, 21, 4, 79, 132, 3, 1]
abbrev dktX3_findFars_6 : List UInt8 := dkwX3_findFars_6 ++ dktX3_findFars_7
def dkwX3_findFars_5 : List UInt8 := [16, 60, 42, 180, 0, 40, 29, 46, 104, 42, 180, 0, 43, 29, 46, 96, 21, 4, 79, 42, 180, 0, 80]
abbrev dktX3_findFars_5 : List UInt8 := dkwX3_findFars_5 ++ dktX3_findFars_6
def dkwX3_findFars_4 : List UInt8 := [180, 0, 40, 29, 46, 104, 42, 180, 0, 43, 29, 46, 96, 46, 184, 0, 155, 54, 4, 42, 180, 0, 80]
abbrev dktX3_findFars_4 : List UInt8 := dkwX3_findFars_4 ++ dktX3_findFars_5
def dkwX3_findFars_3 : List UInt8 := [180, 0, 31, 27, 46, 96, 162, 0, 87, 42, 180, 0, 37, 29, 46, 42, 180, 0, 80, 16, 60, 42]
abbrev dktX3_findFars_3 : List UInt8 := dkwX3_findFars_3 ++ dktX3_findFars_4
def dkwX3_findFars_2 : List UInt8 := [132, 4, 1, 167, 255, 222, 132, 3, 1, 167, 255, 208, 16, 24, 27, 104, 62, 29, 16, 24, 27, 104, 42]
abbrev dktX3_findFars_2 : List UInt8 := dkwX3_findFars_2 ++ dktX3_findFars_3
def dkwX3_findFars_1 : List UInt8 := [180, 0, 80, 16, 60, 29, 104, 21, 4, 96, 29, 21, 4, 160, 0, 7, 3, 167, 0, 6, 19, 1, 109, 79]
abbrev dktX3_findFars_1 : List UInt8 := dkwX3_findFars_1 ++ dktX3_findFars_2
def dkwX3_findFars_0 : List UInt8 := [42, 180, 0, 34, 27, 46, 61, 3, 62, 29, 28, 162, 0, 49, 3, 54, 4, 21, 4, 28, 162, 0, 34, 42]
abbrev dktX3_findFars_0 : List UInt8 := dkwX3_findFars_0 ++ dktX3_findFars_1
theorem dksX3_findFars_0 : cX3_findFars.data.toList.drop 0 = dktX3_findFars_0 := by decide +kernel
theorem dksX3_findFars_1 : cX3_findFars.data.toList.drop 24 = dktX3_findFars_1 := dk_seg dksX3_findFars_0 24 rfl rfl
theorem dksX3_findFars_2 : cX3_findFars.data.toList.drop 48 = dktX3_findFars_2 := dk_seg dksX3_findFars_1 24 rfl rfl
theorem dksX3_findFars_3 : cX3_findFars.data.toList.drop 71 = dktX3_findFars_3 := dk_seg dksX3_findFars_2 23 rfl rfl
theorem dksX3_findFars_4 : cX3_findFars.data.toList.drop 93 = dktX3_findFars_4 := dk_seg dksX3_findFars_3 22 rfl rfl
theorem dksX3_findFars_5 : cX3_findFars.data.toList.drop 116 = dktX3_findFars_5 := dk_seg dksX3_findFars_4 23 rfl rfl
theorem dksX3_findFars_6 : cX3_findFars.data.toList.drop 139 = dktX3_findFars_6 := dk_seg dksX3_findFars_5 23 rfl rfl
theorem dksX3_findFars_7 : cX3_findFars.data.toList.drop 161 = dktX3_findFars_7 := dk_seg dksX3_findFars_6 22 rfl rfl
theorem dksX3_findFars_8 : cX3_findFars.data.toList.drop 185 = dktX3_findFars_8 := dk_seg dksX3_findFars_7 24 rfl rfl
theorem dksX3_findFars_9 : cX3_findFars.data.toList.drop 209 = dktX3_findFars_9 := dk_seg dksX3_findFars_8 24 rfl rfl
theorem dksX3_findFars_10 : cX3_findFars.data.toList.drop 233 = dktX3_findFars_10 := dk_seg dksX3_findFars_9 24 rfl rfl
theorem dksX3_findFars_11 : cX3_findFars.data.toList.drop 255 = dktX3_findFars_11 := dk_seg dksX3_findFars_10 22 rfl rfl
theorem dX3_findFars_0 : decode cX3_findFars 0 = .ok (.aload_n 0, 1) := dk_42 (dk_at dksX3_findFars_0 0 rfl rfl)
theorem dX3_findFars_1 : decode cX3_findFars 1 = .ok (.getfield 34, 3) := dk_180 0 34 (dk_at dksX3_findFars_0 1 rfl rfl)
theorem dX3_findFars_4 : decode cX3_findFars 4 = .ok (.iload_n 1, 1) := dk_27 (dk_at dksX3_findFars_0 4 rfl rfl)
theorem dX3_findFars_5 : decode cX3_findFars 5 = .ok (.iaload, 1) := dk_46 (dk_at dksX3_findFars_0 5 rfl rfl)
theorem dX3_findFars_6 : decode cX3_findFars 6 = .ok (.istore_n 2, 1) := dk_61 (dk_at dksX3_findFars_0 6 rfl rfl)
theorem dX3_findFars_7 : decode cX3_findFars 7 = .ok (.iconst 0, 1) := dk_3 (dk_at dksX3_findFars_0 7 rfl rfl)
theorem dX3_findFars_8 : decode cX3_findFars 8 = .ok (.istore_n 3, 1) := dk_62 (dk_at dksX3_findFars_0 8 rfl rfl)
theorem dX3_findFars_9 : decode cX3_findFars 9 = .ok (.iload_n 3, 1) := dk_29 (dk_at dksX3_findFars_0 9 rfl rfl)
theorem dX3_findFars_10 : decode cX3_findFars 10 = .ok (.iload_n 2, 1) := dk_28 (dk_at dksX3_findFars_0 10 rfl rfl)
theorem dX3_findFars_11 : decode cX3_findFars 11 = .ok (.if_icmp .ge 49, 3) := dk_162 0 49 (dk_at dksX3_findFars_0 11 rfl rfl)
theorem dX3_findFars_14 : decode cX3_findFars 14 = .ok (.iconst 0, 1) := dk_3 (dk_at dksX3_findFars_0 14 rfl rfl)
theorem dX3_findFars_15 : decode cX3_findFars 15 = .ok (.istore 4, 2) := dk_54 4 (dk_at dksX3_findFars_0 15 rfl rfl)
theorem dX3_findFars_17 : decode cX3_findFars 17 = .ok (.iload 4, 2) := dk_21 4 (dk_at dksX3_findFars_0 17 rfl rfl)
theorem dX3_findFars_19 : decode cX3_findFars 19 = .ok (.iload_n 2, 1) := dk_28 (dk_at dksX3_findFars_0 19 rfl rfl)
theorem dX3_findFars_20 : decode cX3_findFars 20 = .ok (.if_icmp .ge 34, 3) := dk_162 0 34 (dk_at dksX3_findFars_0 20 rfl rfl)
theorem dX3_findFars_23 : decode cX3_findFars 23 = .ok (.aload_n 0, 1) := dk_42 (dk_at dksX3_findFars_0 23 rfl rfl)
theorem dX3_findFars_24 : decode cX3_findFars 24 = .ok (.getfield 80, 3) := dk_180 0 80 (dk_at dksX3_findFars_1 0 rfl rfl)
theorem dX3_findFars_27 : decode cX3_findFars 27 = .ok (.bipush 60, 2) := dk_16 60 (dk_at dksX3_findFars_1 3 rfl rfl)
theorem dX3_findFars_29 : decode cX3_findFars 29 = .ok (.iload_n 3, 1) := dk_29 (dk_at dksX3_findFars_1 5 rfl rfl)
theorem dX3_findFars_30 : decode cX3_findFars 30 = .ok (.imul, 1) := dk_104 (dk_at dksX3_findFars_1 6 rfl rfl)
theorem dX3_findFars_31 : decode cX3_findFars 31 = .ok (.iload 4, 2) := dk_21 4 (dk_at dksX3_findFars_1 7 rfl rfl)
theorem dX3_findFars_33 : decode cX3_findFars 33 = .ok (.iadd, 1) := dk_96 (dk_at dksX3_findFars_1 9 rfl rfl)
theorem dX3_findFars_34 : decode cX3_findFars 34 = .ok (.iload_n 3, 1) := dk_29 (dk_at dksX3_findFars_1 10 rfl rfl)
theorem dX3_findFars_35 : decode cX3_findFars 35 = .ok (.iload 4, 2) := dk_21 4 (dk_at dksX3_findFars_1 11 rfl rfl)
theorem dX3_findFars_37 : decode cX3_findFars 37 = .ok (.if_icmp .ne 7, 3) := dk_160 0 7 (dk_at dksX3_findFars_1 13 rfl rfl)
theorem dX3_findFars_40 : decode cX3_findFars 40 = .ok (.iconst 0, 1) := dk_3 (dk_at dksX3_findFars_1 16 rfl rfl)
theorem dX3_findFars_41 : decode cX3_findFars 41 = .ok (.goto 6, 3) := dk_167 0 6 (dk_at dksX3_findFars_1 17 rfl rfl)
theorem dX3_findFars_44 : decode cX3_findFars 44 = .ok (.ldc_w 365, 3) := dk_19 1 109 (dk_at dksX3_findFars_1 20 rfl rfl)
theorem dX3_findFars_47 : decode cX3_findFars 47 = .ok (.iastore, 1) := dk_79 (dk_at dksX3_findFars_1 23 rfl rfl)
theorem dX3_findFars_48 : decode cX3_findFars 48 = .ok (.iinc 4 1, 3) := dk_132 4 1 (dk_at dksX3_findFars_2 0 rfl rfl)
theorem dX3_findFars_51 : decode cX3_findFars 51 = .ok (.goto (-34), 3) := dk_167 255 222 (dk_at dksX3_findFars_2 3 rfl rfl)
theorem dX3_findFars_54 : decode cX3_findFars 54 = .ok (.iinc 3 1, 3) := dk_132 3 1 (dk_at dksX3_findFars_2 6 rfl rfl)
theorem dX3_findFars_57 : decode cX3_findFars 57 = .ok (.goto (-48), 3) := dk_167 255 208 (dk_at dksX3_findFars_2 9 rfl rfl)
theorem dX3_findFars_60 : decode cX3_findFars 60 = .ok (.bipush 24, 2) := dk_16 24 (dk_at dksX3_findFars_2 12 rfl rfl)
theorem dX3_findFars_62 : decode cX3_findFars 62 = .ok (.iload_n 1, 1) := dk_27 (dk_at dksX3_findFars_2 14 rfl rfl)
theorem dX3_findFars_63 : decode cX3_findFars 63 = .ok (.imul, 1) := dk_104 (dk_at dksX3_findFars_2 15 rfl rfl)
theorem dX3_findFars_64 : decode cX3_findFars 64 = .ok (.istore_n 3, 1) := dk_62 (dk_at dksX3_findFars_2 16 rfl rfl)
theorem dX3_findFars_65 : decode cX3_findFars 65 = .ok (.iload_n 3, 1) := dk_29 (dk_at dksX3_findFars_2 17 rfl rfl)
theorem dX3_findFars_66 : decode cX3_findFars 66 = .ok (.bipush 24, 2) := dk_16 24 (dk_at dksX3_findFars_2 18 rfl rfl)
theorem dX3_findFars_68 : decode cX3_findFars 68 = .ok (.iload_n 1, 1) := dk_27 (dk_at dksX3_findFars_2 20 rfl rfl)
theorem dX3_findFars_69 : decode cX3_findFars 69 = .ok (.imul, 1) := dk_104 (dk_at dksX3_findFars_2 21 rfl rfl)
theorem dX3_findFars_70 : decode cX3_findFars 70 = .ok (.aload_n 0, 1) := dk_42 (dk_at dksX3_findFars_2 22 rfl rfl)
theorem dX3_findFars_71 : decode cX3_findFars 71 = .ok (.getfield 31, 3) := dk_180 0 31 (dk_at dksX3_findFars_3 0 rfl rfl)
theorem dX3_findFars_74 : decode cX3_findFars 74 = .ok (.iload_n 1, 1) := dk_27 (dk_at dksX3_findFars_3 3 rfl rfl)
theorem dX3_findFars_75 : decode cX3_findFars 75 = .ok (.iaload, 1) := dk_46 (dk_at dksX3_findFars_3 4 rfl rfl)
theorem dX3_findFars_76 : decode cX3_findFars 76 = .ok (.iadd, 1) := dk_96 (dk_at dksX3_findFars_3 5 rfl rfl)
theorem dX3_findFars_77 : decode cX3_findFars 77 = .ok (.if_icmp .ge 87, 3) := dk_162 0 87 (dk_at dksX3_findFars_3 6 rfl rfl)
theorem dX3_findFars_80 : decode cX3_findFars 80 = .ok (.aload_n 0, 1) := dk_42 (dk_at dksX3_findFars_3 9 rfl rfl)
theorem dX3_findFars_81 : decode cX3_findFars 81 = .ok (.getfield 37, 3) := dk_180 0 37 (dk_at dksX3_findFars_3 10 rfl rfl)
theorem dX3_findFars_84 : decode cX3_findFars 84 = .ok (.iload_n 3, 1) := dk_29 (dk_at dksX3_findFars_3 13 rfl rfl)
theorem dX3_findFars_85 : decode cX3_findFars 85 = .ok (.iaload, 1) := dk_46 (dk_at dksX3_findFars_3 14 rfl rfl)
theorem dX3_findFars_86 : decode cX3_findFars 86 = .ok (.aload_n 0, 1) := dk_42 (dk_at dksX3_findFars_3 15 rfl rfl)
theorem dX3_findFars_87 : decode cX3_findFars 87 = .ok (.getfield 80, 3) := dk_180 0 80 (dk_at dksX3_findFars_3 16 rfl rfl)
theorem dX3_findFars_90 : decode cX3_findFars 90 = .ok (.bipush 60, 2) := dk_16 60 (dk_at dksX3_findFars_3 19 rfl rfl)
theorem dX3_findFars_92 : decode cX3_findFars 92 = .ok (.aload_n 0, 1) := dk_42 (dk_at dksX3_findFars_3 21 rfl rfl)
theorem dX3_findFars_93 : decode cX3_findFars 93 = .ok (.getfield 40, 3) := dk_180 0 40 (dk_at dksX3_findFars_4 0 rfl rfl)
theorem dX3_findFars_96 : decode cX3_findFars 96 = .ok (.iload_n 3, 1) := dk_29 (dk_at dksX3_findFars_4 3 rfl rfl)
theorem dX3_findFars_97 : decode cX3_findFars 97 = .ok (.iaload, 1) := dk_46 (dk_at dksX3_findFars_4 4 rfl rfl)
theorem dX3_findFars_98 : decode cX3_findFars 98 = .ok (.imul, 1) := dk_104 (dk_at dksX3_findFars_4 5 rfl rfl)
theorem dX3_findFars_99 : decode cX3_findFars 99 = .ok (.aload_n 0, 1) := dk_42 (dk_at dksX3_findFars_4 6 rfl rfl)
theorem dX3_findFars_100 : decode cX3_findFars 100 = .ok (.getfield 43, 3) := dk_180 0 43 (dk_at dksX3_findFars_4 7 rfl rfl)
theorem dX3_findFars_103 : decode cX3_findFars 103 = .ok (.iload_n 3, 1) := dk_29 (dk_at dksX3_findFars_4 10 rfl rfl)
theorem dX3_findFars_104 : decode cX3_findFars 104 = .ok (.iaload, 1) := dk_46 (dk_at dksX3_findFars_4 11 rfl rfl)
theorem dX3_findFars_105 : decode cX3_findFars 105 = .ok (.iadd, 1) := dk_96 (dk_at dksX3_findFars_4 12 rfl rfl)
theorem dX3_findFars_106 : decode cX3_findFars 106 = .ok (.iaload, 1) := dk_46 (dk_at dksX3_findFars_4 13 rfl rfl)
theorem dX3_findFars_107 : decode cX3_findFars 107 = .ok (.invokestatic 155, 3) := dk_184 0 155 (dk_at dksX3_findFars_4 14 rfl rfl)
theorem dX3_findFars_110 : decode cX3_findFars 110 = .ok (.istore 4, 2) := dk_54 4 (dk_at dksX3_findFars_4 17 rfl rfl)
theorem dX3_findFars_112 : decode cX3_findFars 112 = .ok (.aload_n 0, 1) := dk_42 (dk_at dksX3_findFars_4 19 rfl rfl)
theorem dX3_findFars_113 : decode cX3_findFars 113 = .ok (.getfield 80, 3) := dk_180 0 80 (dk_at dksX3_findFars_4 20 rfl rfl)
theorem dX3_findFars_116 : decode cX3_findFars 116 = .ok (.bipush 60, 2) := dk_16 60 (dk_at dksX3_findFars_5 0 rfl rfl)
theorem dX3_findFars_118 : decode cX3_findFars 118 = .ok (.aload_n 0, 1) := dk_42 (dk_at dksX3_findFars_5 2 rfl rfl)
theorem dX3_findFars_119 : decode cX3_findFars 119 = .ok (.getfield 40, 3) := dk_180 0 40 (dk_at dksX3_findFars_5 3 rfl rfl)
theorem dX3_findFars_122 : decode cX3_findFars 122 = .ok (.iload_n 3, 1) := dk_29 (dk_at dksX3_findFars_5 6 rfl rfl)
theorem dX3_findFars_123 : decode cX3_findFars 123 = .ok (.iaload, 1) := dk_46 (dk_at dksX3_findFars_5 7 rfl rfl)
theorem dX3_findFars_124 : decode cX3_findFars 124 = .ok (.imul, 1) := dk_104 (dk_at dksX3_findFars_5 8 rfl rfl)
theorem dX3_findFars_125 : decode cX3_findFars 125 = .ok (.aload_n 0, 1) := dk_42 (dk_at dksX3_findFars_5 9 rfl rfl)
theorem dX3_findFars_126 : decode cX3_findFars 126 = .ok (.getfield 43, 3) := dk_180 0 43 (dk_at dksX3_findFars_5 10 rfl rfl)
theorem dX3_findFars_129 : decode cX3_findFars 129 = .ok (.iload_n 3, 1) := dk_29 (dk_at dksX3_findFars_5 13 rfl rfl)
theorem dX3_findFars_130 : decode cX3_findFars 130 = .ok (.iaload, 1) := dk_46 (dk_at dksX3_findFars_5 14 rfl rfl)
theorem dX3_findFars_131 : decode cX3_findFars 131 = .ok (.iadd, 1) := dk_96 (dk_at dksX3_findFars_5 15 rfl rfl)
theorem dX3_findFars_132 : decode cX3_findFars 132 = .ok (.iload 4, 2) := dk_21 4 (dk_at dksX3_findFars_5 16 rfl rfl)
theorem dX3_findFars_134 : decode cX3_findFars 134 = .ok (.iastore, 1) := dk_79 (dk_at dksX3_findFars_5 18 rfl rfl)
theorem dX3_findFars_135 : decode cX3_findFars 135 = .ok (.aload_n 0, 1) := dk_42 (dk_at dksX3_findFars_5 19 rfl rfl)
theorem dX3_findFars_136 : decode cX3_findFars 136 = .ok (.getfield 80, 3) := dk_180 0 80 (dk_at dksX3_findFars_5 20 rfl rfl)
theorem dX3_findFars_139 : decode cX3_findFars 139 = .ok (.bipush 60, 2) := dk_16 60 (dk_at dksX3_findFars_6 0 rfl rfl)
theorem dX3_findFars_141 : decode cX3_findFars 141 = .ok (.aload_n 0, 1) := dk_42 (dk_at dksX3_findFars_6 2 rfl rfl)
theorem dX3_findFars_142 : decode cX3_findFars 142 = .ok (.getfield 43, 3) := dk_180 0 43 (dk_at dksX3_findFars_6 3 rfl rfl)
theorem dX3_findFars_145 : decode cX3_findFars 145 = .ok (.iload_n 3, 1) := dk_29 (dk_at dksX3_findFars_6 6 rfl rfl)
theorem dX3_findFars_146 : decode cX3_findFars 146 = .ok (.iaload, 1) := dk_46 (dk_at dksX3_findFars_6 7 rfl rfl)
theorem dX3_findFars_147 : decode cX3_findFars 147 = .ok (.imul, 1) := dk_104 (dk_at dksX3_findFars_6 8 rfl rfl)
theorem dX3_findFars_148 : decode cX3_findFars 148 = .ok (.aload_n 0, 1) := dk_42 (dk_at dksX3_findFars_6 9 rfl rfl)
theorem dX3_findFars_149 : decode cX3_findFars 149 = .ok (.getfield 40, 3) := dk_180 0 40 (dk_at dksX3_findFars_6 10 rfl rfl)
theorem dX3_findFars_152 : decode cX3_findFars 152 = .ok (.iload_n 3, 1) := dk_29 (dk_at dksX3_findFars_6 13 rfl rfl)
theorem dX3_findFars_153 : decode cX3_findFars 153 = .ok (.iaload, 1) := dk_46 (dk_at dksX3_findFars_6 14 rfl rfl)
theorem dX3_findFars_154 : decode cX3_findFars 154 = .ok (.iadd, 1) := dk_96 (dk_at dksX3_findFars_6 15 rfl rfl)
theorem dX3_findFars_155 : decode cX3_findFars 155 = .ok (.iload 4, 2) := dk_21 4 (dk_at dksX3_findFars_6 16 rfl rfl)
theorem dX3_findFars_157 : decode cX3_findFars 157 = .ok (.iastore, 1) := dk_79 (dk_at dksX3_findFars_6 18 rfl rfl)
theorem dX3_findFars_158 : decode cX3_findFars 158 = .ok (.iinc 3 1, 3) := dk_132 3 1 (dk_at dksX3_findFars_6 19 rfl rfl)
theorem dX3_findFars_161 : decode cX3_findFars 161 = .ok (.goto (-96), 3) := dk_167 255 160 (dk_at dksX3_findFars_7 0 rfl rfl)
theorem dX3_findFars_164 : decode cX3_findFars 164 = .ok (.iconst 0, 1) := dk_3 (dk_at dksX3_findFars_7 3 rfl rfl)
theorem dX3_findFars_165 : decode cX3_findFars 165 = .ok (.istore_n 3, 1) := dk_62 (dk_at dksX3_findFars_7 4 rfl rfl)
theorem dX3_findFars_166 : decode cX3_findFars 166 = .ok (.iload_n 3, 1) := dk_29 (dk_at dksX3_findFars_7 5 rfl rfl)
theorem dX3_findFars_167 : decode cX3_findFars 167 = .ok (.iload_n 2, 1) := dk_28 (dk_at dksX3_findFars_7 6 rfl rfl)
theorem dX3_findFars_168 : decode cX3_findFars 168 = .ok (.if_icmp .ge 93, 3) := dk_162 0 93 (dk_at dksX3_findFars_7 7 rfl rfl)
theorem dX3_findFars_171 : decode cX3_findFars 171 = .ok (.iconst 0, 1) := dk_3 (dk_at dksX3_findFars_7 10 rfl rfl)
theorem dX3_findFars_172 : decode cX3_findFars 172 = .ok (.istore 4, 2) := dk_54 4 (dk_at dksX3_findFars_7 11 rfl rfl)
theorem dX3_findFars_174 : decode cX3_findFars 174 = .ok (.iload 4, 2) := dk_21 4 (dk_at dksX3_findFars_7 13 rfl rfl)
theorem dX3_findFars_176 : decode cX3_findFars 176 = .ok (.iload_n 2, 1) := dk_28 (dk_at dksX3_findFars_7 15 rfl rfl)
theorem dX3_findFars_177 : decode cX3_findFars 177 = .ok (.if_icmp .ge 78, 3) := dk_162 0 78 (dk_at dksX3_findFars_7 16 rfl rfl)
theorem dX3_findFars_180 : decode cX3_findFars 180 = .ok (.iconst 0, 1) := dk_3 (dk_at dksX3_findFars_7 19 rfl rfl)
theorem dX3_findFars_181 : decode cX3_findFars 181 = .ok (.istore 5, 2) := dk_54 5 (dk_at dksX3_findFars_7 20 rfl rfl)
theorem dX3_findFars_183 : decode cX3_findFars 183 = .ok (.iload 5, 2) := dk_21 5 (dk_at dksX3_findFars_7 22 rfl rfl)
theorem dX3_findFars_185 : decode cX3_findFars 185 = .ok (.iload_n 2, 1) := dk_28 (dk_at dksX3_findFars_8 0 rfl rfl)
theorem dX3_findFars_186 : decode cX3_findFars 186 = .ok (.if_icmp .ge 63, 3) := dk_162 0 63 (dk_at dksX3_findFars_8 1 rfl rfl)
theorem dX3_findFars_189 : decode cX3_findFars 189 = .ok (.aload_n 0, 1) := dk_42 (dk_at dksX3_findFars_8 4 rfl rfl)
theorem dX3_findFars_190 : decode cX3_findFars 190 = .ok (.getfield 80, 3) := dk_180 0 80 (dk_at dksX3_findFars_8 5 rfl rfl)
theorem dX3_findFars_193 : decode cX3_findFars 193 = .ok (.bipush 60, 2) := dk_16 60 (dk_at dksX3_findFars_8 8 rfl rfl)
theorem dX3_findFars_195 : decode cX3_findFars 195 = .ok (.iload 4, 2) := dk_21 4 (dk_at dksX3_findFars_8 10 rfl rfl)
theorem dX3_findFars_197 : decode cX3_findFars 197 = .ok (.imul, 1) := dk_104 (dk_at dksX3_findFars_8 12 rfl rfl)
theorem dX3_findFars_198 : decode cX3_findFars 198 = .ok (.iload 5, 2) := dk_21 5 (dk_at dksX3_findFars_8 13 rfl rfl)
theorem dX3_findFars_200 : decode cX3_findFars 200 = .ok (.iadd, 1) := dk_96 (dk_at dksX3_findFars_8 15 rfl rfl)
theorem dX3_findFars_201 : decode cX3_findFars 201 = .ok (.aload_n 0, 1) := dk_42 (dk_at dksX3_findFars_8 16 rfl rfl)
theorem dX3_findFars_202 : decode cX3_findFars 202 = .ok (.getfield 80, 3) := dk_180 0 80 (dk_at dksX3_findFars_8 17 rfl rfl)
theorem dX3_findFars_205 : decode cX3_findFars 205 = .ok (.bipush 60, 2) := dk_16 60 (dk_at dksX3_findFars_8 20 rfl rfl)
theorem dX3_findFars_207 : decode cX3_findFars 207 = .ok (.iload 4, 2) := dk_21 4 (dk_at dksX3_findFars_8 22 rfl rfl)
theorem dX3_findFars_209 : decode cX3_findFars 209 = .ok (.imul, 1) := dk_104 (dk_at dksX3_findFars_9 0 rfl rfl)
theorem dX3_findFars_210 : decode cX3_findFars 210 = .ok (.iload 5, 2) := dk_21 5 (dk_at dksX3_findFars_9 1 rfl rfl)
theorem dX3_findFars_212 : decode cX3_findFars 212 = .ok (.iadd, 1) := dk_96 (dk_at dksX3_findFars_9 3 rfl rfl)
theorem dX3_findFars_213 : decode cX3_findFars 213 = .ok (.iaload, 1) := dk_46 (dk_at dksX3_findFars_9 4 rfl rfl)
theorem dX3_findFars_214 : decode cX3_findFars 214 = .ok (.aload_n 0, 1) := dk_42 (dk_at dksX3_findFars_9 5 rfl rfl)
theorem dX3_findFars_215 : decode cX3_findFars 215 = .ok (.getfield 80, 3) := dk_180 0 80 (dk_at dksX3_findFars_9 6 rfl rfl)
theorem dX3_findFars_218 : decode cX3_findFars 218 = .ok (.bipush 60, 2) := dk_16 60 (dk_at dksX3_findFars_9 9 rfl rfl)
theorem dX3_findFars_220 : decode cX3_findFars 220 = .ok (.iload 4, 2) := dk_21 4 (dk_at dksX3_findFars_9 11 rfl rfl)
theorem dX3_findFars_222 : decode cX3_findFars 222 = .ok (.imul, 1) := dk_104 (dk_at dksX3_findFars_9 13 rfl rfl)
theorem dX3_findFars_223 : decode cX3_findFars 223 = .ok (.iload_n 3, 1) := dk_29 (dk_at dksX3_findFars_9 14 rfl rfl)
theorem dX3_findFars_224 : decode cX3_findFars 224 = .ok (.iadd, 1) := dk_96 (dk_at dksX3_findFars_9 15 rfl rfl)
theorem dX3_findFars_225 : decode cX3_findFars 225 = .ok (.iaload, 1) := dk_46 (dk_at dksX3_findFars_9 16 rfl rfl)
theorem dX3_findFars_226 : decode cX3_findFars 226 = .ok (.aload_n 0, 1) := dk_42 (dk_at dksX3_findFars_9 17 rfl rfl)
theorem dX3_findFars_227 : decode cX3_findFars 227 = .ok (.getfield 80, 3) := dk_180 0 80 (dk_at dksX3_findFars_9 18 rfl rfl)
theorem dX3_findFars_230 : decode cX3_findFars 230 = .ok (.bipush 60, 2) := dk_16 60 (dk_at dksX3_findFars_9 21 rfl rfl)
theorem dX3_findFars_232 : decode cX3_findFars 232 = .ok (.iload_n 3, 1) := dk_29 (dk_at dksX3_findFars_9 23 rfl rfl)
theorem dX3_findFars_233 : decode cX3_findFars 233 = .ok (.imul, 1) := dk_104 (dk_at dksX3_findFars_10 0 rfl rfl)
theorem dX3_findFars_234 : decode cX3_findFars 234 = .ok (.iload 5, 2) := dk_21 5 (dk_at dksX3_findFars_10 1 rfl rfl)
theorem dX3_findFars_236 : decode cX3_findFars 236 = .ok (.iadd, 1) := dk_96 (dk_at dksX3_findFars_10 3 rfl rfl)
theorem dX3_findFars_237 : decode cX3_findFars 237 = .ok (.iaload, 1) := dk_46 (dk_at dksX3_findFars_10 4 rfl rfl)
theorem dX3_findFars_238 : decode cX3_findFars 238 = .ok (.iadd, 1) := dk_96 (dk_at dksX3_findFars_10 5 rfl rfl)
theorem dX3_findFars_239 : decode cX3_findFars 239 = .ok (.invokestatic 155, 3) := dk_184 0 155 (dk_at dksX3_findFars_10 6 rfl rfl)
theorem dX3_findFars_242 : decode cX3_findFars 242 = .ok (.iastore, 1) := dk_79 (dk_at dksX3_findFars_10 9 rfl rfl)
theorem dX3_findFars_243 : decode cX3_findFars 243 = .ok (.iinc 5 1, 3) := dk_132 5 1 (dk_at dksX3_findFars_10 10 rfl rfl)
theorem dX3_findFars_246 : decode cX3_findFars 246 = .ok (.goto (-63), 3) := dk_167 255 193 (dk_at dksX3_findFars_10 13 rfl rfl)
theorem dX3_findFars_249 : decode cX3_findFars 249 = .ok (.iinc 4 1, 3) := dk_132 4 1 (dk_at dksX3_findFars_10 16 rfl rfl)
theorem dX3_findFars_252 : decode cX3_findFars 252 = .ok (.goto (-78), 3) := dk_167 255 178 (dk_at dksX3_findFars_10 19 rfl rfl)
theorem dX3_findFars_255 : decode cX3_findFars 255 = .ok (.iinc 3 1, 3) := dk_132 3 1 (dk_at dksX3_findFars_11 0 rfl rfl)
theorem dX3_findFars_258 : decode cX3_findFars 258 = .ok (.goto (-92), 3) := dk_167 255 164 (dk_at dksX3_findFars_11 3 rfl rfl)
theorem dX3_findFars_261 : decode cX3_findFars 261 = .ok (.return_, 1) := dk_177 (dk_at dksX3_findFars_11 6 rfl rfl)
abbrev cX3_span : ByteArray := prog_26_method_80_code
def yX3_span : MethodName := ⟨RX3, "span", "(I)I"⟩
def dkwX3_span_4 : List UInt8 := [28, 172]
abbrev dktX3_span_4 : List UInt8 := dkwX3_span_4 ++ []
def dkwX3_span_3 : List UInt8 := [21, 4, 96, 46, 184, 0, 149, 167, 0, 4, 28, 61, 132, 4, 1, 167, 255, 203, 132, 3, 1, 167, 255, 184]
abbrev dktX3_span_3 : List UInt8 := dkwX3_span_3 ++ dktX3_span_4
def dkwX3_span_2 : List UInt8 := [16, 60, 29, 104, 21, 4, 96, 46, 19, 1, 109, 162, 0, 22, 28, 42, 180, 0, 80, 16, 60, 29, 104]
abbrev dktX3_span_2 : List UInt8 := dkwX3_span_2 ++ dktX3_span_3
def dkwX3_span_1 : List UInt8 := [27, 46, 162, 0, 68, 3, 54, 4, 21, 4, 42, 180, 0, 34, 27, 46, 162, 0, 48, 42, 180, 0, 80]
abbrev dktX3_span_1 : List UInt8 := dkwX3_span_1 ++ dktX3_span_2
def dkwX3_span_0 : List UInt8 := [42, 27, 182, 1, 28, 154, 0, 5, 2, 172, 42, 27, 182, 1, 110, 3, 61, 3, 62, 29, 42, 180, 0, 34]
abbrev dktX3_span_0 : List UInt8 := dkwX3_span_0 ++ dktX3_span_1
theorem dksX3_span_0 : cX3_span.data.toList.drop 0 = dktX3_span_0 := by decide +kernel
theorem dksX3_span_1 : cX3_span.data.toList.drop 24 = dktX3_span_1 := dk_seg dksX3_span_0 24 rfl rfl
theorem dksX3_span_2 : cX3_span.data.toList.drop 47 = dktX3_span_2 := dk_seg dksX3_span_1 23 rfl rfl
theorem dksX3_span_3 : cX3_span.data.toList.drop 70 = dktX3_span_3 := dk_seg dksX3_span_2 23 rfl rfl
theorem dksX3_span_4 : cX3_span.data.toList.drop 94 = dktX3_span_4 := dk_seg dksX3_span_3 24 rfl rfl
theorem dX3_span_0 : decode cX3_span 0 = .ok (.aload_n 0, 1) := dk_42 (dk_at dksX3_span_0 0 rfl rfl)
theorem dX3_span_1 : decode cX3_span 1 = .ok (.iload_n 1, 1) := dk_27 (dk_at dksX3_span_0 1 rfl rfl)
theorem dX3_span_2 : decode cX3_span 2 = .ok (.invokevirtual 284, 3) := dk_182 1 28 (dk_at dksX3_span_0 2 rfl rfl)
theorem dX3_span_5 : decode cX3_span 5 = .ok (.ifCond .ne 5, 3) := dk_154 0 5 (dk_at dksX3_span_0 5 rfl rfl)
theorem dX3_span_8 : decode cX3_span 8 = .ok (.iconst (-1), 1) := dk_2 (dk_at dksX3_span_0 8 rfl rfl)
theorem dX3_span_9 : decode cX3_span 9 = .ok (.ireturn, 1) := dk_172 (dk_at dksX3_span_0 9 rfl rfl)
theorem dX3_span_10 : decode cX3_span 10 = .ok (.aload_n 0, 1) := dk_42 (dk_at dksX3_span_0 10 rfl rfl)
theorem dX3_span_11 : decode cX3_span 11 = .ok (.iload_n 1, 1) := dk_27 (dk_at dksX3_span_0 11 rfl rfl)
theorem dX3_span_12 : decode cX3_span 12 = .ok (.invokevirtual 366, 3) := dk_182 1 110 (dk_at dksX3_span_0 12 rfl rfl)
theorem dX3_span_15 : decode cX3_span 15 = .ok (.iconst 0, 1) := dk_3 (dk_at dksX3_span_0 15 rfl rfl)
theorem dX3_span_16 : decode cX3_span 16 = .ok (.istore_n 2, 1) := dk_61 (dk_at dksX3_span_0 16 rfl rfl)
theorem dX3_span_17 : decode cX3_span 17 = .ok (.iconst 0, 1) := dk_3 (dk_at dksX3_span_0 17 rfl rfl)
theorem dX3_span_18 : decode cX3_span 18 = .ok (.istore_n 3, 1) := dk_62 (dk_at dksX3_span_0 18 rfl rfl)
theorem dX3_span_19 : decode cX3_span 19 = .ok (.iload_n 3, 1) := dk_29 (dk_at dksX3_span_0 19 rfl rfl)
theorem dX3_span_20 : decode cX3_span 20 = .ok (.aload_n 0, 1) := dk_42 (dk_at dksX3_span_0 20 rfl rfl)
theorem dX3_span_21 : decode cX3_span 21 = .ok (.getfield 34, 3) := dk_180 0 34 (dk_at dksX3_span_0 21 rfl rfl)
theorem dX3_span_24 : decode cX3_span 24 = .ok (.iload_n 1, 1) := dk_27 (dk_at dksX3_span_1 0 rfl rfl)
theorem dX3_span_25 : decode cX3_span 25 = .ok (.iaload, 1) := dk_46 (dk_at dksX3_span_1 1 rfl rfl)
theorem dX3_span_26 : decode cX3_span 26 = .ok (.if_icmp .ge 68, 3) := dk_162 0 68 (dk_at dksX3_span_1 2 rfl rfl)
theorem dX3_span_29 : decode cX3_span 29 = .ok (.iconst 0, 1) := dk_3 (dk_at dksX3_span_1 5 rfl rfl)
theorem dX3_span_30 : decode cX3_span 30 = .ok (.istore 4, 2) := dk_54 4 (dk_at dksX3_span_1 6 rfl rfl)
theorem dX3_span_32 : decode cX3_span 32 = .ok (.iload 4, 2) := dk_21 4 (dk_at dksX3_span_1 8 rfl rfl)
theorem dX3_span_34 : decode cX3_span 34 = .ok (.aload_n 0, 1) := dk_42 (dk_at dksX3_span_1 10 rfl rfl)
theorem dX3_span_35 : decode cX3_span 35 = .ok (.getfield 34, 3) := dk_180 0 34 (dk_at dksX3_span_1 11 rfl rfl)
theorem dX3_span_38 : decode cX3_span 38 = .ok (.iload_n 1, 1) := dk_27 (dk_at dksX3_span_1 14 rfl rfl)
theorem dX3_span_39 : decode cX3_span 39 = .ok (.iaload, 1) := dk_46 (dk_at dksX3_span_1 15 rfl rfl)
theorem dX3_span_40 : decode cX3_span 40 = .ok (.if_icmp .ge 48, 3) := dk_162 0 48 (dk_at dksX3_span_1 16 rfl rfl)
theorem dX3_span_43 : decode cX3_span 43 = .ok (.aload_n 0, 1) := dk_42 (dk_at dksX3_span_1 19 rfl rfl)
theorem dX3_span_44 : decode cX3_span 44 = .ok (.getfield 80, 3) := dk_180 0 80 (dk_at dksX3_span_1 20 rfl rfl)
theorem dX3_span_47 : decode cX3_span 47 = .ok (.bipush 60, 2) := dk_16 60 (dk_at dksX3_span_2 0 rfl rfl)
theorem dX3_span_49 : decode cX3_span 49 = .ok (.iload_n 3, 1) := dk_29 (dk_at dksX3_span_2 2 rfl rfl)
theorem dX3_span_50 : decode cX3_span 50 = .ok (.imul, 1) := dk_104 (dk_at dksX3_span_2 3 rfl rfl)
theorem dX3_span_51 : decode cX3_span 51 = .ok (.iload 4, 2) := dk_21 4 (dk_at dksX3_span_2 4 rfl rfl)
theorem dX3_span_53 : decode cX3_span 53 = .ok (.iadd, 1) := dk_96 (dk_at dksX3_span_2 6 rfl rfl)
theorem dX3_span_54 : decode cX3_span 54 = .ok (.iaload, 1) := dk_46 (dk_at dksX3_span_2 7 rfl rfl)
theorem dX3_span_55 : decode cX3_span 55 = .ok (.ldc_w 365, 3) := dk_19 1 109 (dk_at dksX3_span_2 8 rfl rfl)
theorem dX3_span_58 : decode cX3_span 58 = .ok (.if_icmp .ge 22, 3) := dk_162 0 22 (dk_at dksX3_span_2 11 rfl rfl)
theorem dX3_span_61 : decode cX3_span 61 = .ok (.iload_n 2, 1) := dk_28 (dk_at dksX3_span_2 14 rfl rfl)
theorem dX3_span_62 : decode cX3_span 62 = .ok (.aload_n 0, 1) := dk_42 (dk_at dksX3_span_2 15 rfl rfl)
theorem dX3_span_63 : decode cX3_span 63 = .ok (.getfield 80, 3) := dk_180 0 80 (dk_at dksX3_span_2 16 rfl rfl)
theorem dX3_span_66 : decode cX3_span 66 = .ok (.bipush 60, 2) := dk_16 60 (dk_at dksX3_span_2 19 rfl rfl)
theorem dX3_span_68 : decode cX3_span 68 = .ok (.iload_n 3, 1) := dk_29 (dk_at dksX3_span_2 21 rfl rfl)
theorem dX3_span_69 : decode cX3_span 69 = .ok (.imul, 1) := dk_104 (dk_at dksX3_span_2 22 rfl rfl)
theorem dX3_span_70 : decode cX3_span 70 = .ok (.iload 4, 2) := dk_21 4 (dk_at dksX3_span_3 0 rfl rfl)
theorem dX3_span_72 : decode cX3_span 72 = .ok (.iadd, 1) := dk_96 (dk_at dksX3_span_3 2 rfl rfl)
theorem dX3_span_73 : decode cX3_span 73 = .ok (.iaload, 1) := dk_46 (dk_at dksX3_span_3 3 rfl rfl)
theorem dX3_span_74 : decode cX3_span 74 = .ok (.invokestatic 149, 3) := dk_184 0 149 (dk_at dksX3_span_3 4 rfl rfl)
theorem dX3_span_77 : decode cX3_span 77 = .ok (.goto 4, 3) := dk_167 0 4 (dk_at dksX3_span_3 7 rfl rfl)
theorem dX3_span_80 : decode cX3_span 80 = .ok (.iload_n 2, 1) := dk_28 (dk_at dksX3_span_3 10 rfl rfl)
theorem dX3_span_81 : decode cX3_span 81 = .ok (.istore_n 2, 1) := dk_61 (dk_at dksX3_span_3 11 rfl rfl)
theorem dX3_span_82 : decode cX3_span 82 = .ok (.iinc 4 1, 3) := dk_132 4 1 (dk_at dksX3_span_3 12 rfl rfl)
theorem dX3_span_85 : decode cX3_span 85 = .ok (.goto (-53), 3) := dk_167 255 203 (dk_at dksX3_span_3 15 rfl rfl)
theorem dX3_span_88 : decode cX3_span 88 = .ok (.iinc 3 1, 3) := dk_132 3 1 (dk_at dksX3_span_3 18 rfl rfl)
theorem dX3_span_91 : decode cX3_span 91 = .ok (.goto (-72), 3) := dk_167 255 184 (dk_at dksX3_span_3 21 rfl rfl)
theorem dX3_span_94 : decode cX3_span 94 = .ok (.iload_n 2, 1) := dk_28 (dk_at dksX3_span_4 0 rfl rfl)
theorem dX3_span_95 : decode cX3_span 95 = .ok (.ireturn, 1) := dk_172 (dk_at dksX3_span_4 1 rfl rfl)
abbrev cX3_strokes : ByteArray := prog_26_method_82_code
def yX3_strokes : MethodName := ⟨RX3, "strokes", "(I)I"⟩
def dkwX3_strokes_2 : List UInt8 := [21, 4, 2, 130, 126, 61, 167, 255, 221, 29, 172]
abbrev dktX3_strokes_2 : List UInt8 := dkwX3_strokes_2 ++ []
def dkwX3_strokes_1 : List UInt8 := [28, 182, 1, 113, 54, 4, 29, 4, 42, 27, 21, 4, 182, 1, 45, 5, 108, 184, 0, 149, 96, 62, 28]
abbrev dktX3_strokes_1 : List UInt8 := dkwX3_strokes_1 ++ dktX3_strokes_2
def dkwX3_strokes_0 : List UInt8 := [42, 27, 182, 1, 28, 154, 0, 5, 2, 172, 42, 27, 182, 1, 31, 61, 3, 62, 28, 153, 0, 37, 42, 27]
abbrev dktX3_strokes_0 : List UInt8 := dkwX3_strokes_0 ++ dktX3_strokes_1
theorem dksX3_strokes_0 : cX3_strokes.data.toList.drop 0 = dktX3_strokes_0 := by decide +kernel
theorem dksX3_strokes_1 : cX3_strokes.data.toList.drop 24 = dktX3_strokes_1 := dk_seg dksX3_strokes_0 24 rfl rfl
theorem dksX3_strokes_2 : cX3_strokes.data.toList.drop 47 = dktX3_strokes_2 := dk_seg dksX3_strokes_1 23 rfl rfl
theorem dX3_strokes_0 : decode cX3_strokes 0 = .ok (.aload_n 0, 1) := dk_42 (dk_at dksX3_strokes_0 0 rfl rfl)
theorem dX3_strokes_1 : decode cX3_strokes 1 = .ok (.iload_n 1, 1) := dk_27 (dk_at dksX3_strokes_0 1 rfl rfl)
theorem dX3_strokes_2 : decode cX3_strokes 2 = .ok (.invokevirtual 284, 3) := dk_182 1 28 (dk_at dksX3_strokes_0 2 rfl rfl)
theorem dX3_strokes_5 : decode cX3_strokes 5 = .ok (.ifCond .ne 5, 3) := dk_154 0 5 (dk_at dksX3_strokes_0 5 rfl rfl)
theorem dX3_strokes_8 : decode cX3_strokes 8 = .ok (.iconst (-1), 1) := dk_2 (dk_at dksX3_strokes_0 8 rfl rfl)
theorem dX3_strokes_9 : decode cX3_strokes 9 = .ok (.ireturn, 1) := dk_172 (dk_at dksX3_strokes_0 9 rfl rfl)
theorem dX3_strokes_10 : decode cX3_strokes 10 = .ok (.aload_n 0, 1) := dk_42 (dk_at dksX3_strokes_0 10 rfl rfl)
theorem dX3_strokes_11 : decode cX3_strokes 11 = .ok (.iload_n 1, 1) := dk_27 (dk_at dksX3_strokes_0 11 rfl rfl)
theorem dX3_strokes_12 : decode cX3_strokes 12 = .ok (.invokevirtual 287, 3) := dk_182 1 31 (dk_at dksX3_strokes_0 12 rfl rfl)
theorem dX3_strokes_15 : decode cX3_strokes 15 = .ok (.istore_n 2, 1) := dk_61 (dk_at dksX3_strokes_0 15 rfl rfl)
theorem dX3_strokes_16 : decode cX3_strokes 16 = .ok (.iconst 0, 1) := dk_3 (dk_at dksX3_strokes_0 16 rfl rfl)
theorem dX3_strokes_17 : decode cX3_strokes 17 = .ok (.istore_n 3, 1) := dk_62 (dk_at dksX3_strokes_0 17 rfl rfl)
theorem dX3_strokes_18 : decode cX3_strokes 18 = .ok (.iload_n 2, 1) := dk_28 (dk_at dksX3_strokes_0 18 rfl rfl)
theorem dX3_strokes_19 : decode cX3_strokes 19 = .ok (.ifCond .eq 37, 3) := dk_153 0 37 (dk_at dksX3_strokes_0 19 rfl rfl)
theorem dX3_strokes_22 : decode cX3_strokes 22 = .ok (.aload_n 0, 1) := dk_42 (dk_at dksX3_strokes_0 22 rfl rfl)
theorem dX3_strokes_23 : decode cX3_strokes 23 = .ok (.iload_n 1, 1) := dk_27 (dk_at dksX3_strokes_0 23 rfl rfl)
theorem dX3_strokes_24 : decode cX3_strokes 24 = .ok (.iload_n 2, 1) := dk_28 (dk_at dksX3_strokes_1 0 rfl rfl)
theorem dX3_strokes_25 : decode cX3_strokes 25 = .ok (.invokevirtual 369, 3) := dk_182 1 113 (dk_at dksX3_strokes_1 1 rfl rfl)
theorem dX3_strokes_28 : decode cX3_strokes 28 = .ok (.istore 4, 2) := dk_54 4 (dk_at dksX3_strokes_1 4 rfl rfl)
theorem dX3_strokes_30 : decode cX3_strokes 30 = .ok (.iload_n 3, 1) := dk_29 (dk_at dksX3_strokes_1 6 rfl rfl)
theorem dX3_strokes_31 : decode cX3_strokes 31 = .ok (.iconst 1, 1) := dk_4 (dk_at dksX3_strokes_1 7 rfl rfl)
theorem dX3_strokes_32 : decode cX3_strokes 32 = .ok (.aload_n 0, 1) := dk_42 (dk_at dksX3_strokes_1 8 rfl rfl)
theorem dX3_strokes_33 : decode cX3_strokes 33 = .ok (.iload_n 1, 1) := dk_27 (dk_at dksX3_strokes_1 9 rfl rfl)
theorem dX3_strokes_34 : decode cX3_strokes 34 = .ok (.iload 4, 2) := dk_21 4 (dk_at dksX3_strokes_1 10 rfl rfl)
theorem dX3_strokes_36 : decode cX3_strokes 36 = .ok (.invokevirtual 301, 3) := dk_182 1 45 (dk_at dksX3_strokes_1 12 rfl rfl)
theorem dX3_strokes_39 : decode cX3_strokes 39 = .ok (.iconst 2, 1) := dk_5 (dk_at dksX3_strokes_1 15 rfl rfl)
theorem dX3_strokes_40 : decode cX3_strokes 40 = .ok (.idiv, 1) := dk_108 (dk_at dksX3_strokes_1 16 rfl rfl)
theorem dX3_strokes_41 : decode cX3_strokes 41 = .ok (.invokestatic 149, 3) := dk_184 0 149 (dk_at dksX3_strokes_1 17 rfl rfl)
theorem dX3_strokes_44 : decode cX3_strokes 44 = .ok (.iadd, 1) := dk_96 (dk_at dksX3_strokes_1 20 rfl rfl)
theorem dX3_strokes_45 : decode cX3_strokes 45 = .ok (.istore_n 3, 1) := dk_62 (dk_at dksX3_strokes_1 21 rfl rfl)
theorem dX3_strokes_46 : decode cX3_strokes 46 = .ok (.iload_n 2, 1) := dk_28 (dk_at dksX3_strokes_1 22 rfl rfl)
theorem dX3_strokes_47 : decode cX3_strokes 47 = .ok (.iload 4, 2) := dk_21 4 (dk_at dksX3_strokes_2 0 rfl rfl)
theorem dX3_strokes_49 : decode cX3_strokes 49 = .ok (.iconst (-1), 1) := dk_2 (dk_at dksX3_strokes_2 2 rfl rfl)
theorem dX3_strokes_50 : decode cX3_strokes 50 = .ok (.ixor, 1) := dk_130 (dk_at dksX3_strokes_2 3 rfl rfl)
theorem dX3_strokes_51 : decode cX3_strokes 51 = .ok (.iand, 1) := dk_126 (dk_at dksX3_strokes_2 4 rfl rfl)
theorem dX3_strokes_52 : decode cX3_strokes 52 = .ok (.istore_n 2, 1) := dk_61 (dk_at dksX3_strokes_2 5 rfl rfl)
theorem dX3_strokes_53 : decode cX3_strokes 53 = .ok (.goto (-35), 3) := dk_167 255 221 (dk_at dksX3_strokes_2 6 rfl rfl)
theorem dX3_strokes_56 : decode cX3_strokes 56 = .ok (.iload_n 3, 1) := dk_29 (dk_at dksX3_strokes_2 9 rfl rfl)
theorem dX3_strokes_57 : decode cX3_strokes 57 = .ok (.ireturn, 1) := dk_172 (dk_at dksX3_strokes_2 10 rfl rfl)
abbrev cX3_firstPart : ByteArray := prog_26_method_81_code
def yX3_firstPart : MethodName := ⟨RX3, "firstPart", "(II)I"⟩
def dkwX3_firstPart_3 : List UInt8 := [167, 255, 195, 29, 172]
abbrev dktX3_firstPart_3 : List UInt8 := dkwX3_firstPart_3 ++ []
def dkwX3_firstPart_2 : List UInt8 := [182, 1, 74, 153, 0, 10, 4, 21, 5, 120, 167, 0, 4, 3, 128, 62, 132, 5, 1, 167, 255, 210]
abbrev dktX3_firstPart_2 : List UInt8 := dkwX3_firstPart_2 ++ dktX3_firstPart_3
def dkwX3_firstPart_1 : List UInt8 := [180, 0, 31, 27, 46, 162, 0, 41, 29, 28, 21, 5, 122, 4, 126, 4, 160, 0, 21, 42, 27, 21, 5, 29]
abbrev dktX3_firstPart_1 : List UInt8 := dkwX3_firstPart_1 ++ dktX3_firstPart_2
def dkwX3_firstPart_0 : List UInt8 := [28, 28, 116, 126, 62, 3, 54, 4, 21, 4, 29, 159, 0, 61, 29, 54, 4, 3, 54, 5, 21, 5, 42]
abbrev dktX3_firstPart_0 : List UInt8 := dkwX3_firstPart_0 ++ dktX3_firstPart_1
theorem dksX3_firstPart_0 : cX3_firstPart.data.toList.drop 0 = dktX3_firstPart_0 := by decide +kernel
theorem dksX3_firstPart_1 : cX3_firstPart.data.toList.drop 23 = dktX3_firstPart_1 := dk_seg dksX3_firstPart_0 23 rfl rfl
theorem dksX3_firstPart_2 : cX3_firstPart.data.toList.drop 47 = dktX3_firstPart_2 := dk_seg dksX3_firstPart_1 24 rfl rfl
theorem dksX3_firstPart_3 : cX3_firstPart.data.toList.drop 69 = dktX3_firstPart_3 := dk_seg dksX3_firstPart_2 22 rfl rfl
theorem dX3_firstPart_0 : decode cX3_firstPart 0 = .ok (.iload_n 2, 1) := dk_28 (dk_at dksX3_firstPart_0 0 rfl rfl)
theorem dX3_firstPart_1 : decode cX3_firstPart 1 = .ok (.iload_n 2, 1) := dk_28 (dk_at dksX3_firstPart_0 1 rfl rfl)
theorem dX3_firstPart_2 : decode cX3_firstPart 2 = .ok (.ineg, 1) := dk_116 (dk_at dksX3_firstPart_0 2 rfl rfl)
theorem dX3_firstPart_3 : decode cX3_firstPart 3 = .ok (.iand, 1) := dk_126 (dk_at dksX3_firstPart_0 3 rfl rfl)
theorem dX3_firstPart_4 : decode cX3_firstPart 4 = .ok (.istore_n 3, 1) := dk_62 (dk_at dksX3_firstPart_0 4 rfl rfl)
theorem dX3_firstPart_5 : decode cX3_firstPart 5 = .ok (.iconst 0, 1) := dk_3 (dk_at dksX3_firstPart_0 5 rfl rfl)
theorem dX3_firstPart_6 : decode cX3_firstPart 6 = .ok (.istore 4, 2) := dk_54 4 (dk_at dksX3_firstPart_0 6 rfl rfl)
theorem dX3_firstPart_8 : decode cX3_firstPart 8 = .ok (.iload 4, 2) := dk_21 4 (dk_at dksX3_firstPart_0 8 rfl rfl)
theorem dX3_firstPart_10 : decode cX3_firstPart 10 = .ok (.iload_n 3, 1) := dk_29 (dk_at dksX3_firstPart_0 10 rfl rfl)
theorem dX3_firstPart_11 : decode cX3_firstPart 11 = .ok (.if_icmp .eq 61, 3) := dk_159 0 61 (dk_at dksX3_firstPart_0 11 rfl rfl)
theorem dX3_firstPart_14 : decode cX3_firstPart 14 = .ok (.iload_n 3, 1) := dk_29 (dk_at dksX3_firstPart_0 14 rfl rfl)
theorem dX3_firstPart_15 : decode cX3_firstPart 15 = .ok (.istore 4, 2) := dk_54 4 (dk_at dksX3_firstPart_0 15 rfl rfl)
theorem dX3_firstPart_17 : decode cX3_firstPart 17 = .ok (.iconst 0, 1) := dk_3 (dk_at dksX3_firstPart_0 17 rfl rfl)
theorem dX3_firstPart_18 : decode cX3_firstPart 18 = .ok (.istore 5, 2) := dk_54 5 (dk_at dksX3_firstPart_0 18 rfl rfl)
theorem dX3_firstPart_20 : decode cX3_firstPart 20 = .ok (.iload 5, 2) := dk_21 5 (dk_at dksX3_firstPart_0 20 rfl rfl)
theorem dX3_firstPart_22 : decode cX3_firstPart 22 = .ok (.aload_n 0, 1) := dk_42 (dk_at dksX3_firstPart_0 22 rfl rfl)
theorem dX3_firstPart_23 : decode cX3_firstPart 23 = .ok (.getfield 31, 3) := dk_180 0 31 (dk_at dksX3_firstPart_1 0 rfl rfl)
theorem dX3_firstPart_26 : decode cX3_firstPart 26 = .ok (.iload_n 1, 1) := dk_27 (dk_at dksX3_firstPart_1 3 rfl rfl)
theorem dX3_firstPart_27 : decode cX3_firstPart 27 = .ok (.iaload, 1) := dk_46 (dk_at dksX3_firstPart_1 4 rfl rfl)
theorem dX3_firstPart_28 : decode cX3_firstPart 28 = .ok (.if_icmp .ge 41, 3) := dk_162 0 41 (dk_at dksX3_firstPart_1 5 rfl rfl)
theorem dX3_firstPart_31 : decode cX3_firstPart 31 = .ok (.iload_n 3, 1) := dk_29 (dk_at dksX3_firstPart_1 8 rfl rfl)
theorem dX3_firstPart_32 : decode cX3_firstPart 32 = .ok (.iload_n 2, 1) := dk_28 (dk_at dksX3_firstPart_1 9 rfl rfl)
theorem dX3_firstPart_33 : decode cX3_firstPart 33 = .ok (.iload 5, 2) := dk_21 5 (dk_at dksX3_firstPart_1 10 rfl rfl)
theorem dX3_firstPart_35 : decode cX3_firstPart 35 = .ok (.ishr, 1) := dk_122 (dk_at dksX3_firstPart_1 12 rfl rfl)
theorem dX3_firstPart_36 : decode cX3_firstPart 36 = .ok (.iconst 1, 1) := dk_4 (dk_at dksX3_firstPart_1 13 rfl rfl)
theorem dX3_firstPart_37 : decode cX3_firstPart 37 = .ok (.iand, 1) := dk_126 (dk_at dksX3_firstPart_1 14 rfl rfl)
theorem dX3_firstPart_38 : decode cX3_firstPart 38 = .ok (.iconst 1, 1) := dk_4 (dk_at dksX3_firstPart_1 15 rfl rfl)
theorem dX3_firstPart_39 : decode cX3_firstPart 39 = .ok (.if_icmp .ne 21, 3) := dk_160 0 21 (dk_at dksX3_firstPart_1 16 rfl rfl)
theorem dX3_firstPart_42 : decode cX3_firstPart 42 = .ok (.aload_n 0, 1) := dk_42 (dk_at dksX3_firstPart_1 19 rfl rfl)
theorem dX3_firstPart_43 : decode cX3_firstPart 43 = .ok (.iload_n 1, 1) := dk_27 (dk_at dksX3_firstPart_1 20 rfl rfl)
theorem dX3_firstPart_44 : decode cX3_firstPart 44 = .ok (.iload 5, 2) := dk_21 5 (dk_at dksX3_firstPart_1 21 rfl rfl)
theorem dX3_firstPart_46 : decode cX3_firstPart 46 = .ok (.iload_n 3, 1) := dk_29 (dk_at dksX3_firstPart_1 23 rfl rfl)
theorem dX3_firstPart_47 : decode cX3_firstPart 47 = .ok (.invokevirtual 330, 3) := dk_182 1 74 (dk_at dksX3_firstPart_2 0 rfl rfl)
theorem dX3_firstPart_50 : decode cX3_firstPart 50 = .ok (.ifCond .eq 10, 3) := dk_153 0 10 (dk_at dksX3_firstPart_2 3 rfl rfl)
theorem dX3_firstPart_53 : decode cX3_firstPart 53 = .ok (.iconst 1, 1) := dk_4 (dk_at dksX3_firstPart_2 6 rfl rfl)
theorem dX3_firstPart_54 : decode cX3_firstPart 54 = .ok (.iload 5, 2) := dk_21 5 (dk_at dksX3_firstPart_2 7 rfl rfl)
theorem dX3_firstPart_56 : decode cX3_firstPart 56 = .ok (.ishl, 1) := dk_120 (dk_at dksX3_firstPart_2 9 rfl rfl)
theorem dX3_firstPart_57 : decode cX3_firstPart 57 = .ok (.goto 4, 3) := dk_167 0 4 (dk_at dksX3_firstPart_2 10 rfl rfl)
theorem dX3_firstPart_60 : decode cX3_firstPart 60 = .ok (.iconst 0, 1) := dk_3 (dk_at dksX3_firstPart_2 13 rfl rfl)
theorem dX3_firstPart_61 : decode cX3_firstPart 61 = .ok (.ior, 1) := dk_128 (dk_at dksX3_firstPart_2 14 rfl rfl)
theorem dX3_firstPart_62 : decode cX3_firstPart 62 = .ok (.istore_n 3, 1) := dk_62 (dk_at dksX3_firstPart_2 15 rfl rfl)
theorem dX3_firstPart_63 : decode cX3_firstPart 63 = .ok (.iinc 5 1, 3) := dk_132 5 1 (dk_at dksX3_firstPart_2 16 rfl rfl)
theorem dX3_firstPart_66 : decode cX3_firstPart 66 = .ok (.goto (-46), 3) := dk_167 255 210 (dk_at dksX3_firstPart_2 19 rfl rfl)
theorem dX3_firstPart_69 : decode cX3_firstPart 69 = .ok (.goto (-61), 3) := dk_167 255 195 (dk_at dksX3_firstPart_3 0 rfl rfl)
theorem dX3_firstPart_72 : decode cX3_firstPart 72 = .ok (.iload_n 3, 1) := dk_29 (dk_at dksX3_firstPart_3 3 rfl rfl)
theorem dX3_firstPart_73 : decode cX3_firstPart 73 = .ok (.ireturn, 1) := dk_172 (dk_at dksX3_firstPart_3 4 rfl rfl)
abbrev cX3_made : ByteArray := prog_26_method_86_code
def yX3_made : MethodName := ⟨RX3, "made", "(II)I"⟩
def dkwX3_made_0 : List UInt8 := [42, 27, 28, 182, 1, 125, 153, 0, 16, 42, 180, 0, 83, 42, 27, 182, 1, 31, 46, 167, 0, 4, 2, 172]
abbrev dktX3_made_0 : List UInt8 := dkwX3_made_0 ++ []
theorem dksX3_made_0 : cX3_made.data.toList.drop 0 = dktX3_made_0 := by decide +kernel
theorem dX3_made_0 : decode cX3_made 0 = .ok (.aload_n 0, 1) := dk_42 (dk_at dksX3_made_0 0 rfl rfl)
theorem dX3_made_1 : decode cX3_made 1 = .ok (.iload_n 1, 1) := dk_27 (dk_at dksX3_made_0 1 rfl rfl)
theorem dX3_made_2 : decode cX3_made 2 = .ok (.iload_n 2, 1) := dk_28 (dk_at dksX3_made_0 2 rfl rfl)
theorem dX3_made_3 : decode cX3_made 3 = .ok (.invokevirtual 381, 3) := dk_182 1 125 (dk_at dksX3_made_0 3 rfl rfl)
theorem dX3_made_6 : decode cX3_made 6 = .ok (.ifCond .eq 16, 3) := dk_153 0 16 (dk_at dksX3_made_0 6 rfl rfl)
theorem dX3_made_9 : decode cX3_made 9 = .ok (.aload_n 0, 1) := dk_42 (dk_at dksX3_made_0 9 rfl rfl)
theorem dX3_made_10 : decode cX3_made 10 = .ok (.getfield 83, 3) := dk_180 0 83 (dk_at dksX3_made_0 10 rfl rfl)
theorem dX3_made_13 : decode cX3_made 13 = .ok (.aload_n 0, 1) := dk_42 (dk_at dksX3_made_0 13 rfl rfl)
theorem dX3_made_14 : decode cX3_made 14 = .ok (.iload_n 1, 1) := dk_27 (dk_at dksX3_made_0 14 rfl rfl)
theorem dX3_made_15 : decode cX3_made 15 = .ok (.invokevirtual 287, 3) := dk_182 1 31 (dk_at dksX3_made_0 15 rfl rfl)
theorem dX3_made_18 : decode cX3_made 18 = .ok (.iaload, 1) := dk_46 (dk_at dksX3_made_0 18 rfl rfl)
theorem dX3_made_19 : decode cX3_made 19 = .ok (.goto 4, 3) := dk_167 0 4 (dk_at dksX3_made_0 19 rfl rfl)
theorem dX3_made_22 : decode cX3_made 22 = .ok (.iconst (-1), 1) := dk_2 (dk_at dksX3_made_0 22 rfl rfl)
theorem dX3_made_23 : decode cX3_made 23 = .ok (.ireturn, 1) := dk_172 (dk_at dksX3_made_0 23 rfl rfl)
abbrev cX3_mayBeMade : ByteArray := prog_26_method_85_code
def yX3_mayBeMade : MethodName := ⟨RX3, "mayBeMade", "(II)Z"⟩
def dkwX3_mayBeMade_2 : List UInt8 := [162, 0, 7, 4, 167, 0, 4, 3, 172]
abbrev dktX3_mayBeMade_2 : List UInt8 := dkwX3_mayBeMade_2 ++ []
def dkwX3_mayBeMade_1 : List UInt8 := [164, 0, 5, 3, 172, 42, 27, 28, 182, 1, 122, 42, 180, 0, 83, 42, 27, 182, 1, 31, 46, 19, 1, 109]
abbrev dktX3_mayBeMade_1 : List UInt8 := dkwX3_mayBeMade_1 ++ dktX3_mayBeMade_2
def dkwX3_mayBeMade_0 : List UInt8 := [42, 27, 182, 1, 28, 153, 0, 22, 42, 28, 182, 1, 119, 153, 0, 14, 42, 180, 0, 31, 27, 46, 16, 10]
abbrev dktX3_mayBeMade_0 : List UInt8 := dkwX3_mayBeMade_0 ++ dktX3_mayBeMade_1
theorem dksX3_mayBeMade_0 : cX3_mayBeMade.data.toList.drop 0 = dktX3_mayBeMade_0 := by decide +kernel
theorem dksX3_mayBeMade_1 : cX3_mayBeMade.data.toList.drop 24 = dktX3_mayBeMade_1 := dk_seg dksX3_mayBeMade_0 24 rfl rfl
theorem dksX3_mayBeMade_2 : cX3_mayBeMade.data.toList.drop 48 = dktX3_mayBeMade_2 := dk_seg dksX3_mayBeMade_1 24 rfl rfl
theorem dX3_mayBeMade_0 : decode cX3_mayBeMade 0 = .ok (.aload_n 0, 1) := dk_42 (dk_at dksX3_mayBeMade_0 0 rfl rfl)
theorem dX3_mayBeMade_1 : decode cX3_mayBeMade 1 = .ok (.iload_n 1, 1) := dk_27 (dk_at dksX3_mayBeMade_0 1 rfl rfl)
theorem dX3_mayBeMade_2 : decode cX3_mayBeMade 2 = .ok (.invokevirtual 284, 3) := dk_182 1 28 (dk_at dksX3_mayBeMade_0 2 rfl rfl)
theorem dX3_mayBeMade_5 : decode cX3_mayBeMade 5 = .ok (.ifCond .eq 22, 3) := dk_153 0 22 (dk_at dksX3_mayBeMade_0 5 rfl rfl)
theorem dX3_mayBeMade_8 : decode cX3_mayBeMade 8 = .ok (.aload_n 0, 1) := dk_42 (dk_at dksX3_mayBeMade_0 8 rfl rfl)
theorem dX3_mayBeMade_9 : decode cX3_mayBeMade 9 = .ok (.iload_n 2, 1) := dk_28 (dk_at dksX3_mayBeMade_0 9 rfl rfl)
theorem dX3_mayBeMade_10 : decode cX3_mayBeMade 10 = .ok (.invokevirtual 375, 3) := dk_182 1 119 (dk_at dksX3_mayBeMade_0 10 rfl rfl)
theorem dX3_mayBeMade_13 : decode cX3_mayBeMade 13 = .ok (.ifCond .eq 14, 3) := dk_153 0 14 (dk_at dksX3_mayBeMade_0 13 rfl rfl)
theorem dX3_mayBeMade_16 : decode cX3_mayBeMade 16 = .ok (.aload_n 0, 1) := dk_42 (dk_at dksX3_mayBeMade_0 16 rfl rfl)
theorem dX3_mayBeMade_17 : decode cX3_mayBeMade 17 = .ok (.getfield 31, 3) := dk_180 0 31 (dk_at dksX3_mayBeMade_0 17 rfl rfl)
theorem dX3_mayBeMade_20 : decode cX3_mayBeMade 20 = .ok (.iload_n 1, 1) := dk_27 (dk_at dksX3_mayBeMade_0 20 rfl rfl)
theorem dX3_mayBeMade_21 : decode cX3_mayBeMade 21 = .ok (.iaload, 1) := dk_46 (dk_at dksX3_mayBeMade_0 21 rfl rfl)
theorem dX3_mayBeMade_22 : decode cX3_mayBeMade 22 = .ok (.bipush 10, 2) := dk_16 10 (dk_at dksX3_mayBeMade_0 22 rfl rfl)
theorem dX3_mayBeMade_24 : decode cX3_mayBeMade 24 = .ok (.if_icmp .le 5, 3) := dk_164 0 5 (dk_at dksX3_mayBeMade_1 0 rfl rfl)
theorem dX3_mayBeMade_27 : decode cX3_mayBeMade 27 = .ok (.iconst 0, 1) := dk_3 (dk_at dksX3_mayBeMade_1 3 rfl rfl)
theorem dX3_mayBeMade_28 : decode cX3_mayBeMade 28 = .ok (.ireturn, 1) := dk_172 (dk_at dksX3_mayBeMade_1 4 rfl rfl)
theorem dX3_mayBeMade_29 : decode cX3_mayBeMade 29 = .ok (.aload_n 0, 1) := dk_42 (dk_at dksX3_mayBeMade_1 5 rfl rfl)
theorem dX3_mayBeMade_30 : decode cX3_mayBeMade 30 = .ok (.iload_n 1, 1) := dk_27 (dk_at dksX3_mayBeMade_1 6 rfl rfl)
theorem dX3_mayBeMade_31 : decode cX3_mayBeMade 31 = .ok (.iload_n 2, 1) := dk_28 (dk_at dksX3_mayBeMade_1 7 rfl rfl)
theorem dX3_mayBeMade_32 : decode cX3_mayBeMade 32 = .ok (.invokevirtual 378, 3) := dk_182 1 122 (dk_at dksX3_mayBeMade_1 8 rfl rfl)
theorem dX3_mayBeMade_35 : decode cX3_mayBeMade 35 = .ok (.aload_n 0, 1) := dk_42 (dk_at dksX3_mayBeMade_1 11 rfl rfl)
theorem dX3_mayBeMade_36 : decode cX3_mayBeMade 36 = .ok (.getfield 83, 3) := dk_180 0 83 (dk_at dksX3_mayBeMade_1 12 rfl rfl)
theorem dX3_mayBeMade_39 : decode cX3_mayBeMade 39 = .ok (.aload_n 0, 1) := dk_42 (dk_at dksX3_mayBeMade_1 15 rfl rfl)
theorem dX3_mayBeMade_40 : decode cX3_mayBeMade 40 = .ok (.iload_n 1, 1) := dk_27 (dk_at dksX3_mayBeMade_1 16 rfl rfl)
theorem dX3_mayBeMade_41 : decode cX3_mayBeMade 41 = .ok (.invokevirtual 287, 3) := dk_182 1 31 (dk_at dksX3_mayBeMade_1 17 rfl rfl)
theorem dX3_mayBeMade_44 : decode cX3_mayBeMade 44 = .ok (.iaload, 1) := dk_46 (dk_at dksX3_mayBeMade_1 20 rfl rfl)
theorem dX3_mayBeMade_45 : decode cX3_mayBeMade 45 = .ok (.ldc_w 365, 3) := dk_19 1 109 (dk_at dksX3_mayBeMade_1 21 rfl rfl)
theorem dX3_mayBeMade_48 : decode cX3_mayBeMade 48 = .ok (.if_icmp .ge 7, 3) := dk_162 0 7 (dk_at dksX3_mayBeMade_2 0 rfl rfl)
theorem dX3_mayBeMade_51 : decode cX3_mayBeMade 51 = .ok (.iconst 1, 1) := dk_4 (dk_at dksX3_mayBeMade_2 3 rfl rfl)
theorem dX3_mayBeMade_52 : decode cX3_mayBeMade 52 = .ok (.goto 4, 3) := dk_167 0 4 (dk_at dksX3_mayBeMade_2 4 rfl rfl)
theorem dX3_mayBeMade_55 : decode cX3_mayBeMade 55 = .ok (.iconst 0, 1) := dk_3 (dk_at dksX3_mayBeMade_2 7 rfl rfl)
theorem dX3_mayBeMade_56 : decode cX3_mayBeMade 56 = .ok (.ireturn, 1) := dk_172 (dk_at dksX3_mayBeMade_2 8 rfl rfl)
abbrev cX3_isSort : ByteArray := prog_26_method_46_code
def yX3_isSort : MethodName := ⟨RX3, "isSort", "(I)Z"⟩
def dkwX3_isSort_0 : List UInt8 := [27, 3, 42, 180, 0, 125, 4, 100, 184, 0, 121, 172]
abbrev dktX3_isSort_0 : List UInt8 := dkwX3_isSort_0 ++ []
theorem dksX3_isSort_0 : cX3_isSort.data.toList.drop 0 = dktX3_isSort_0 := by decide +kernel
theorem dX3_isSort_0 : decode cX3_isSort 0 = .ok (.iload_n 1, 1) := dk_27 (dk_at dksX3_isSort_0 0 rfl rfl)
theorem dX3_isSort_1 : decode cX3_isSort 1 = .ok (.iconst 0, 1) := dk_3 (dk_at dksX3_isSort_0 1 rfl rfl)
theorem dX3_isSort_2 : decode cX3_isSort 2 = .ok (.aload_n 0, 1) := dk_42 (dk_at dksX3_isSort_0 2 rfl rfl)
theorem dX3_isSort_3 : decode cX3_isSort 3 = .ok (.getfield 125, 3) := dk_180 0 125 (dk_at dksX3_isSort_0 3 rfl rfl)
theorem dX3_isSort_6 : decode cX3_isSort 6 = .ok (.iconst 1, 1) := dk_4 (dk_at dksX3_isSort_0 6 rfl rfl)
theorem dX3_isSort_7 : decode cX3_isSort 7 = .ok (.isub, 1) := dk_100 (dk_at dksX3_isSort_0 7 rfl rfl)
theorem dX3_isSort_8 : decode cX3_isSort 8 = .ok (.invokestatic 121, 3) := dk_184 0 121 (dk_at dksX3_isSort_0 8 rfl rfl)
theorem dX3_isSort_11 : decode cX3_isSort 11 = .ok (.ireturn, 1) := dk_172 (dk_at dksX3_isSort_0 11 rfl rfl)
abbrev cX3_findFewest : ByteArray := prog_26_method_84_code
def yX3_findFewest : MethodName := ⟨RX3, "findFewest", "(II)V"⟩
def dkwX3_findFewest_5 : List UInt8 := [100, 21, 4, 126, 54, 6, 167, 255, 193, 132, 4, 1, 167, 255, 144, 177]
abbrev dktX3_findFewest_5 : List UInt8 := dkwX3_findFewest_5 ++ []
def dkwX3_findFewest_4 : List UInt8 := [21, 4, 46, 4, 42, 180, 0, 83, 21, 4, 21, 6, 2, 130, 126, 46, 96, 184, 0, 155, 79, 21, 6, 4]
abbrev dktX3_findFewest_4 : List UInt8 := dkwX3_findFewest_4 ++ dktX3_findFewest_5
def dkwX3_findFewest_3 : List UInt8 := [153, 0, 44, 42, 180, 0, 86, 21, 6, 51, 153, 0, 34, 42, 180, 0, 83, 21, 4, 42, 180, 0, 83]
abbrev dktX3_findFewest_3 : List UInt8 := dkwX3_findFewest_3 ++ dktX3_findFewest_4
def dkwX3_findFewest_2 : List UInt8 := [21, 4, 21, 4, 116, 126, 54, 5, 21, 4, 54, 6, 21, 6, 158, 0, 64, 21, 6, 21, 5, 126]
abbrev dktX3_findFewest_2 : List UInt8 := dkwX3_findFewest_2 ++ dktX3_findFewest_3
def dkwX3_findFewest_1 : List UInt8 := [180, 0, 86, 21, 4, 42, 27, 28, 21, 4, 182, 1, 116, 84, 42, 180, 0, 83, 21, 4, 19, 1, 109, 79]
abbrev dktX3_findFewest_1 : List UInt8 := dkwX3_findFewest_1 ++ dktX3_findFewest_2
def dkwX3_findFewest_0 : List UInt8 := [42, 27, 182, 1, 31, 62, 42, 180, 0, 83, 3, 3, 79, 4, 54, 4, 21, 4, 29, 163, 0, 112, 42]
abbrev dktX3_findFewest_0 : List UInt8 := dkwX3_findFewest_0 ++ dktX3_findFewest_1
theorem dksX3_findFewest_0 : cX3_findFewest.data.toList.drop 0 = dktX3_findFewest_0 := by decide +kernel
theorem dksX3_findFewest_1 : cX3_findFewest.data.toList.drop 23 = dktX3_findFewest_1 := dk_seg dksX3_findFewest_0 23 rfl rfl
theorem dksX3_findFewest_2 : cX3_findFewest.data.toList.drop 47 = dktX3_findFewest_2 := dk_seg dksX3_findFewest_1 24 rfl rfl
theorem dksX3_findFewest_3 : cX3_findFewest.data.toList.drop 69 = dktX3_findFewest_3 := dk_seg dksX3_findFewest_2 22 rfl rfl
theorem dksX3_findFewest_4 : cX3_findFewest.data.toList.drop 92 = dktX3_findFewest_4 := dk_seg dksX3_findFewest_3 23 rfl rfl
theorem dksX3_findFewest_5 : cX3_findFewest.data.toList.drop 116 = dktX3_findFewest_5 := dk_seg dksX3_findFewest_4 24 rfl rfl
theorem dX3_findFewest_0 : decode cX3_findFewest 0 = .ok (.aload_n 0, 1) := dk_42 (dk_at dksX3_findFewest_0 0 rfl rfl)
theorem dX3_findFewest_1 : decode cX3_findFewest 1 = .ok (.iload_n 1, 1) := dk_27 (dk_at dksX3_findFewest_0 1 rfl rfl)
theorem dX3_findFewest_2 : decode cX3_findFewest 2 = .ok (.invokevirtual 287, 3) := dk_182 1 31 (dk_at dksX3_findFewest_0 2 rfl rfl)
theorem dX3_findFewest_5 : decode cX3_findFewest 5 = .ok (.istore_n 3, 1) := dk_62 (dk_at dksX3_findFewest_0 5 rfl rfl)
theorem dX3_findFewest_6 : decode cX3_findFewest 6 = .ok (.aload_n 0, 1) := dk_42 (dk_at dksX3_findFewest_0 6 rfl rfl)
theorem dX3_findFewest_7 : decode cX3_findFewest 7 = .ok (.getfield 83, 3) := dk_180 0 83 (dk_at dksX3_findFewest_0 7 rfl rfl)
theorem dX3_findFewest_10 : decode cX3_findFewest 10 = .ok (.iconst 0, 1) := dk_3 (dk_at dksX3_findFewest_0 10 rfl rfl)
theorem dX3_findFewest_11 : decode cX3_findFewest 11 = .ok (.iconst 0, 1) := dk_3 (dk_at dksX3_findFewest_0 11 rfl rfl)
theorem dX3_findFewest_12 : decode cX3_findFewest 12 = .ok (.iastore, 1) := dk_79 (dk_at dksX3_findFewest_0 12 rfl rfl)
theorem dX3_findFewest_13 : decode cX3_findFewest 13 = .ok (.iconst 1, 1) := dk_4 (dk_at dksX3_findFewest_0 13 rfl rfl)
theorem dX3_findFewest_14 : decode cX3_findFewest 14 = .ok (.istore 4, 2) := dk_54 4 (dk_at dksX3_findFewest_0 14 rfl rfl)
theorem dX3_findFewest_16 : decode cX3_findFewest 16 = .ok (.iload 4, 2) := dk_21 4 (dk_at dksX3_findFewest_0 16 rfl rfl)
theorem dX3_findFewest_18 : decode cX3_findFewest 18 = .ok (.iload_n 3, 1) := dk_29 (dk_at dksX3_findFewest_0 18 rfl rfl)
theorem dX3_findFewest_19 : decode cX3_findFewest 19 = .ok (.if_icmp .gt 112, 3) := dk_163 0 112 (dk_at dksX3_findFewest_0 19 rfl rfl)
theorem dX3_findFewest_22 : decode cX3_findFewest 22 = .ok (.aload_n 0, 1) := dk_42 (dk_at dksX3_findFewest_0 22 rfl rfl)
theorem dX3_findFewest_23 : decode cX3_findFewest 23 = .ok (.getfield 86, 3) := dk_180 0 86 (dk_at dksX3_findFewest_1 0 rfl rfl)
theorem dX3_findFewest_26 : decode cX3_findFewest 26 = .ok (.iload 4, 2) := dk_21 4 (dk_at dksX3_findFewest_1 3 rfl rfl)
theorem dX3_findFewest_28 : decode cX3_findFewest 28 = .ok (.aload_n 0, 1) := dk_42 (dk_at dksX3_findFewest_1 5 rfl rfl)
theorem dX3_findFewest_29 : decode cX3_findFewest 29 = .ok (.iload_n 1, 1) := dk_27 (dk_at dksX3_findFewest_1 6 rfl rfl)
theorem dX3_findFewest_30 : decode cX3_findFewest 30 = .ok (.iload_n 2, 1) := dk_28 (dk_at dksX3_findFewest_1 7 rfl rfl)
theorem dX3_findFewest_31 : decode cX3_findFewest 31 = .ok (.iload 4, 2) := dk_21 4 (dk_at dksX3_findFewest_1 8 rfl rfl)
theorem dX3_findFewest_33 : decode cX3_findFewest 33 = .ok (.invokevirtual 372, 3) := dk_182 1 116 (dk_at dksX3_findFewest_1 10 rfl rfl)
theorem dX3_findFewest_36 : decode cX3_findFewest 36 = .ok (.bastore, 1) := dk_84 (dk_at dksX3_findFewest_1 13 rfl rfl)
theorem dX3_findFewest_37 : decode cX3_findFewest 37 = .ok (.aload_n 0, 1) := dk_42 (dk_at dksX3_findFewest_1 14 rfl rfl)
theorem dX3_findFewest_38 : decode cX3_findFewest 38 = .ok (.getfield 83, 3) := dk_180 0 83 (dk_at dksX3_findFewest_1 15 rfl rfl)
theorem dX3_findFewest_41 : decode cX3_findFewest 41 = .ok (.iload 4, 2) := dk_21 4 (dk_at dksX3_findFewest_1 18 rfl rfl)
theorem dX3_findFewest_43 : decode cX3_findFewest 43 = .ok (.ldc_w 365, 3) := dk_19 1 109 (dk_at dksX3_findFewest_1 20 rfl rfl)
theorem dX3_findFewest_46 : decode cX3_findFewest 46 = .ok (.iastore, 1) := dk_79 (dk_at dksX3_findFewest_1 23 rfl rfl)
theorem dX3_findFewest_47 : decode cX3_findFewest 47 = .ok (.iload 4, 2) := dk_21 4 (dk_at dksX3_findFewest_2 0 rfl rfl)
theorem dX3_findFewest_49 : decode cX3_findFewest 49 = .ok (.iload 4, 2) := dk_21 4 (dk_at dksX3_findFewest_2 2 rfl rfl)
theorem dX3_findFewest_51 : decode cX3_findFewest 51 = .ok (.ineg, 1) := dk_116 (dk_at dksX3_findFewest_2 4 rfl rfl)
theorem dX3_findFewest_52 : decode cX3_findFewest 52 = .ok (.iand, 1) := dk_126 (dk_at dksX3_findFewest_2 5 rfl rfl)
theorem dX3_findFewest_53 : decode cX3_findFewest 53 = .ok (.istore 5, 2) := dk_54 5 (dk_at dksX3_findFewest_2 6 rfl rfl)
theorem dX3_findFewest_55 : decode cX3_findFewest 55 = .ok (.iload 4, 2) := dk_21 4 (dk_at dksX3_findFewest_2 8 rfl rfl)
theorem dX3_findFewest_57 : decode cX3_findFewest 57 = .ok (.istore 6, 2) := dk_54 6 (dk_at dksX3_findFewest_2 10 rfl rfl)
theorem dX3_findFewest_59 : decode cX3_findFewest 59 = .ok (.iload 6, 2) := dk_21 6 (dk_at dksX3_findFewest_2 12 rfl rfl)
theorem dX3_findFewest_61 : decode cX3_findFewest 61 = .ok (.ifCond .le 64, 3) := dk_158 0 64 (dk_at dksX3_findFewest_2 14 rfl rfl)
theorem dX3_findFewest_64 : decode cX3_findFewest 64 = .ok (.iload 6, 2) := dk_21 6 (dk_at dksX3_findFewest_2 17 rfl rfl)
theorem dX3_findFewest_66 : decode cX3_findFewest 66 = .ok (.iload 5, 2) := dk_21 5 (dk_at dksX3_findFewest_2 19 rfl rfl)
theorem dX3_findFewest_68 : decode cX3_findFewest 68 = .ok (.iand, 1) := dk_126 (dk_at dksX3_findFewest_2 21 rfl rfl)
theorem dX3_findFewest_69 : decode cX3_findFewest 69 = .ok (.ifCond .eq 44, 3) := dk_153 0 44 (dk_at dksX3_findFewest_3 0 rfl rfl)
theorem dX3_findFewest_72 : decode cX3_findFewest 72 = .ok (.aload_n 0, 1) := dk_42 (dk_at dksX3_findFewest_3 3 rfl rfl)
theorem dX3_findFewest_73 : decode cX3_findFewest 73 = .ok (.getfield 86, 3) := dk_180 0 86 (dk_at dksX3_findFewest_3 4 rfl rfl)
theorem dX3_findFewest_76 : decode cX3_findFewest 76 = .ok (.iload 6, 2) := dk_21 6 (dk_at dksX3_findFewest_3 7 rfl rfl)
theorem dX3_findFewest_78 : decode cX3_findFewest 78 = .ok (.baload, 1) := dk_51 (dk_at dksX3_findFewest_3 9 rfl rfl)
theorem dX3_findFewest_79 : decode cX3_findFewest 79 = .ok (.ifCond .eq 34, 3) := dk_153 0 34 (dk_at dksX3_findFewest_3 10 rfl rfl)
theorem dX3_findFewest_82 : decode cX3_findFewest 82 = .ok (.aload_n 0, 1) := dk_42 (dk_at dksX3_findFewest_3 13 rfl rfl)
theorem dX3_findFewest_83 : decode cX3_findFewest 83 = .ok (.getfield 83, 3) := dk_180 0 83 (dk_at dksX3_findFewest_3 14 rfl rfl)
theorem dX3_findFewest_86 : decode cX3_findFewest 86 = .ok (.iload 4, 2) := dk_21 4 (dk_at dksX3_findFewest_3 17 rfl rfl)
theorem dX3_findFewest_88 : decode cX3_findFewest 88 = .ok (.aload_n 0, 1) := dk_42 (dk_at dksX3_findFewest_3 19 rfl rfl)
theorem dX3_findFewest_89 : decode cX3_findFewest 89 = .ok (.getfield 83, 3) := dk_180 0 83 (dk_at dksX3_findFewest_3 20 rfl rfl)
theorem dX3_findFewest_92 : decode cX3_findFewest 92 = .ok (.iload 4, 2) := dk_21 4 (dk_at dksX3_findFewest_4 0 rfl rfl)
theorem dX3_findFewest_94 : decode cX3_findFewest 94 = .ok (.iaload, 1) := dk_46 (dk_at dksX3_findFewest_4 2 rfl rfl)
theorem dX3_findFewest_95 : decode cX3_findFewest 95 = .ok (.iconst 1, 1) := dk_4 (dk_at dksX3_findFewest_4 3 rfl rfl)
theorem dX3_findFewest_96 : decode cX3_findFewest 96 = .ok (.aload_n 0, 1) := dk_42 (dk_at dksX3_findFewest_4 4 rfl rfl)
theorem dX3_findFewest_97 : decode cX3_findFewest 97 = .ok (.getfield 83, 3) := dk_180 0 83 (dk_at dksX3_findFewest_4 5 rfl rfl)
theorem dX3_findFewest_100 : decode cX3_findFewest 100 = .ok (.iload 4, 2) := dk_21 4 (dk_at dksX3_findFewest_4 8 rfl rfl)
theorem dX3_findFewest_102 : decode cX3_findFewest 102 = .ok (.iload 6, 2) := dk_21 6 (dk_at dksX3_findFewest_4 10 rfl rfl)
theorem dX3_findFewest_104 : decode cX3_findFewest 104 = .ok (.iconst (-1), 1) := dk_2 (dk_at dksX3_findFewest_4 12 rfl rfl)
theorem dX3_findFewest_105 : decode cX3_findFewest 105 = .ok (.ixor, 1) := dk_130 (dk_at dksX3_findFewest_4 13 rfl rfl)
theorem dX3_findFewest_106 : decode cX3_findFewest 106 = .ok (.iand, 1) := dk_126 (dk_at dksX3_findFewest_4 14 rfl rfl)
theorem dX3_findFewest_107 : decode cX3_findFewest 107 = .ok (.iaload, 1) := dk_46 (dk_at dksX3_findFewest_4 15 rfl rfl)
theorem dX3_findFewest_108 : decode cX3_findFewest 108 = .ok (.iadd, 1) := dk_96 (dk_at dksX3_findFewest_4 16 rfl rfl)
theorem dX3_findFewest_109 : decode cX3_findFewest 109 = .ok (.invokestatic 155, 3) := dk_184 0 155 (dk_at dksX3_findFewest_4 17 rfl rfl)
theorem dX3_findFewest_112 : decode cX3_findFewest 112 = .ok (.iastore, 1) := dk_79 (dk_at dksX3_findFewest_4 20 rfl rfl)
theorem dX3_findFewest_113 : decode cX3_findFewest 113 = .ok (.iload 6, 2) := dk_21 6 (dk_at dksX3_findFewest_4 21 rfl rfl)
theorem dX3_findFewest_115 : decode cX3_findFewest 115 = .ok (.iconst 1, 1) := dk_4 (dk_at dksX3_findFewest_4 23 rfl rfl)
theorem dX3_findFewest_116 : decode cX3_findFewest 116 = .ok (.isub, 1) := dk_100 (dk_at dksX3_findFewest_5 0 rfl rfl)
theorem dX3_findFewest_117 : decode cX3_findFewest 117 = .ok (.iload 4, 2) := dk_21 4 (dk_at dksX3_findFewest_5 1 rfl rfl)
theorem dX3_findFewest_119 : decode cX3_findFewest 119 = .ok (.iand, 1) := dk_126 (dk_at dksX3_findFewest_5 3 rfl rfl)
theorem dX3_findFewest_120 : decode cX3_findFewest 120 = .ok (.istore 6, 2) := dk_54 6 (dk_at dksX3_findFewest_5 4 rfl rfl)
theorem dX3_findFewest_122 : decode cX3_findFewest 122 = .ok (.goto (-63), 3) := dk_167 255 193 (dk_at dksX3_findFewest_5 6 rfl rfl)
theorem dX3_findFewest_125 : decode cX3_findFewest 125 = .ok (.iinc 4 1, 3) := dk_132 4 1 (dk_at dksX3_findFewest_5 9 rfl rfl)
theorem dX3_findFewest_128 : decode cX3_findFewest 128 = .ok (.goto (-112), 3) := dk_167 255 144 (dk_at dksX3_findFewest_5 12 rfl rfl)
theorem dX3_findFewest_131 : decode cX3_findFewest 131 = .ok (.return_, 1) := dk_177 (dk_at dksX3_findFewest_5 15 rfl rfl)
abbrev cX3_isOneWay : ByteArray := prog_26_method_83_code
def yX3_isOneWay : MethodName := ⟨RX3, "isOneWay", "(III)Z"⟩
def dkwX3_isOneWay_4 : List UInt8 := [163, 0, 7, 4, 167, 0, 4, 3, 172]
abbrev dktX3_isOneWay_4 : List UInt8 := dkwX3_isOneWay_4 ++ []
def dkwX3_isOneWay_3 : List UInt8 := [28, 46, 163, 0, 27, 42, 27, 29, 182, 1, 113, 29, 160, 0, 17, 42, 27, 29, 182, 1, 45, 5]
abbrev dktX3_isOneWay_3 : List UInt8 := dkwX3_isOneWay_3 ++ dktX3_isOneWay_4
def dkwX3_isOneWay_2 : List UInt8 := [104, 21, 5, 96, 46, 167, 0, 4, 3, 96, 54, 4, 132, 5, 1, 167, 255, 211, 21, 4, 42, 180, 0, 9]
abbrev dktX3_isOneWay_2 : List UInt8 := dkwX3_isOneWay_2 ++ dktX3_isOneWay_3
def dkwX3_isOneWay_1 : List UInt8 := [27, 46, 162, 0, 40, 21, 4, 29, 21, 5, 122, 4, 126, 4, 160, 0, 18, 42, 180, 0, 37, 16, 24, 27]
abbrev dktX3_isOneWay_1 : List UInt8 := dkwX3_isOneWay_1 ++ dktX3_isOneWay_2
def dkwX3_isOneWay_0 : List UInt8 := [42, 180, 0, 13, 28, 46, 29, 184, 1, 80, 4, 100, 104, 54, 4, 3, 54, 5, 21, 5, 42, 180, 0, 31]
abbrev dktX3_isOneWay_0 : List UInt8 := dkwX3_isOneWay_0 ++ dktX3_isOneWay_1
theorem dksX3_isOneWay_0 : cX3_isOneWay.data.toList.drop 0 = dktX3_isOneWay_0 := by decide +kernel
theorem dksX3_isOneWay_1 : cX3_isOneWay.data.toList.drop 24 = dktX3_isOneWay_1 := dk_seg dksX3_isOneWay_0 24 rfl rfl
theorem dksX3_isOneWay_2 : cX3_isOneWay.data.toList.drop 48 = dktX3_isOneWay_2 := dk_seg dksX3_isOneWay_1 24 rfl rfl
theorem dksX3_isOneWay_3 : cX3_isOneWay.data.toList.drop 72 = dktX3_isOneWay_3 := dk_seg dksX3_isOneWay_2 24 rfl rfl
theorem dksX3_isOneWay_4 : cX3_isOneWay.data.toList.drop 94 = dktX3_isOneWay_4 := dk_seg dksX3_isOneWay_3 22 rfl rfl
theorem dX3_isOneWay_0 : decode cX3_isOneWay 0 = .ok (.aload_n 0, 1) := dk_42 (dk_at dksX3_isOneWay_0 0 rfl rfl)
theorem dX3_isOneWay_1 : decode cX3_isOneWay 1 = .ok (.getfield 13, 3) := dk_180 0 13 (dk_at dksX3_isOneWay_0 1 rfl rfl)
theorem dX3_isOneWay_4 : decode cX3_isOneWay 4 = .ok (.iload_n 2, 1) := dk_28 (dk_at dksX3_isOneWay_0 4 rfl rfl)
theorem dX3_isOneWay_5 : decode cX3_isOneWay 5 = .ok (.iaload, 1) := dk_46 (dk_at dksX3_isOneWay_0 5 rfl rfl)
theorem dX3_isOneWay_6 : decode cX3_isOneWay 6 = .ok (.iload_n 3, 1) := dk_29 (dk_at dksX3_isOneWay_0 6 rfl rfl)
theorem dX3_isOneWay_7 : decode cX3_isOneWay 7 = .ok (.invokestatic 336, 3) := dk_184 1 80 (dk_at dksX3_isOneWay_0 7 rfl rfl)
theorem dX3_isOneWay_10 : decode cX3_isOneWay 10 = .ok (.iconst 1, 1) := dk_4 (dk_at dksX3_isOneWay_0 10 rfl rfl)
theorem dX3_isOneWay_11 : decode cX3_isOneWay 11 = .ok (.isub, 1) := dk_100 (dk_at dksX3_isOneWay_0 11 rfl rfl)
theorem dX3_isOneWay_12 : decode cX3_isOneWay 12 = .ok (.imul, 1) := dk_104 (dk_at dksX3_isOneWay_0 12 rfl rfl)
theorem dX3_isOneWay_13 : decode cX3_isOneWay 13 = .ok (.istore 4, 2) := dk_54 4 (dk_at dksX3_isOneWay_0 13 rfl rfl)
theorem dX3_isOneWay_15 : decode cX3_isOneWay 15 = .ok (.iconst 0, 1) := dk_3 (dk_at dksX3_isOneWay_0 15 rfl rfl)
theorem dX3_isOneWay_16 : decode cX3_isOneWay 16 = .ok (.istore 5, 2) := dk_54 5 (dk_at dksX3_isOneWay_0 16 rfl rfl)
theorem dX3_isOneWay_18 : decode cX3_isOneWay 18 = .ok (.iload 5, 2) := dk_21 5 (dk_at dksX3_isOneWay_0 18 rfl rfl)
theorem dX3_isOneWay_20 : decode cX3_isOneWay 20 = .ok (.aload_n 0, 1) := dk_42 (dk_at dksX3_isOneWay_0 20 rfl rfl)
theorem dX3_isOneWay_21 : decode cX3_isOneWay 21 = .ok (.getfield 31, 3) := dk_180 0 31 (dk_at dksX3_isOneWay_0 21 rfl rfl)
theorem dX3_isOneWay_24 : decode cX3_isOneWay 24 = .ok (.iload_n 1, 1) := dk_27 (dk_at dksX3_isOneWay_1 0 rfl rfl)
theorem dX3_isOneWay_25 : decode cX3_isOneWay 25 = .ok (.iaload, 1) := dk_46 (dk_at dksX3_isOneWay_1 1 rfl rfl)
theorem dX3_isOneWay_26 : decode cX3_isOneWay 26 = .ok (.if_icmp .ge 40, 3) := dk_162 0 40 (dk_at dksX3_isOneWay_1 2 rfl rfl)
theorem dX3_isOneWay_29 : decode cX3_isOneWay 29 = .ok (.iload 4, 2) := dk_21 4 (dk_at dksX3_isOneWay_1 5 rfl rfl)
theorem dX3_isOneWay_31 : decode cX3_isOneWay 31 = .ok (.iload_n 3, 1) := dk_29 (dk_at dksX3_isOneWay_1 7 rfl rfl)
theorem dX3_isOneWay_32 : decode cX3_isOneWay 32 = .ok (.iload 5, 2) := dk_21 5 (dk_at dksX3_isOneWay_1 8 rfl rfl)
theorem dX3_isOneWay_34 : decode cX3_isOneWay 34 = .ok (.ishr, 1) := dk_122 (dk_at dksX3_isOneWay_1 10 rfl rfl)
theorem dX3_isOneWay_35 : decode cX3_isOneWay 35 = .ok (.iconst 1, 1) := dk_4 (dk_at dksX3_isOneWay_1 11 rfl rfl)
theorem dX3_isOneWay_36 : decode cX3_isOneWay 36 = .ok (.iand, 1) := dk_126 (dk_at dksX3_isOneWay_1 12 rfl rfl)
theorem dX3_isOneWay_37 : decode cX3_isOneWay 37 = .ok (.iconst 1, 1) := dk_4 (dk_at dksX3_isOneWay_1 13 rfl rfl)
theorem dX3_isOneWay_38 : decode cX3_isOneWay 38 = .ok (.if_icmp .ne 18, 3) := dk_160 0 18 (dk_at dksX3_isOneWay_1 14 rfl rfl)
theorem dX3_isOneWay_41 : decode cX3_isOneWay 41 = .ok (.aload_n 0, 1) := dk_42 (dk_at dksX3_isOneWay_1 17 rfl rfl)
theorem dX3_isOneWay_42 : decode cX3_isOneWay 42 = .ok (.getfield 37, 3) := dk_180 0 37 (dk_at dksX3_isOneWay_1 18 rfl rfl)
theorem dX3_isOneWay_45 : decode cX3_isOneWay 45 = .ok (.bipush 24, 2) := dk_16 24 (dk_at dksX3_isOneWay_1 21 rfl rfl)
theorem dX3_isOneWay_47 : decode cX3_isOneWay 47 = .ok (.iload_n 1, 1) := dk_27 (dk_at dksX3_isOneWay_1 23 rfl rfl)
theorem dX3_isOneWay_48 : decode cX3_isOneWay 48 = .ok (.imul, 1) := dk_104 (dk_at dksX3_isOneWay_2 0 rfl rfl)
theorem dX3_isOneWay_49 : decode cX3_isOneWay 49 = .ok (.iload 5, 2) := dk_21 5 (dk_at dksX3_isOneWay_2 1 rfl rfl)
theorem dX3_isOneWay_51 : decode cX3_isOneWay 51 = .ok (.iadd, 1) := dk_96 (dk_at dksX3_isOneWay_2 3 rfl rfl)
theorem dX3_isOneWay_52 : decode cX3_isOneWay 52 = .ok (.iaload, 1) := dk_46 (dk_at dksX3_isOneWay_2 4 rfl rfl)
theorem dX3_isOneWay_53 : decode cX3_isOneWay 53 = .ok (.goto 4, 3) := dk_167 0 4 (dk_at dksX3_isOneWay_2 5 rfl rfl)
theorem dX3_isOneWay_56 : decode cX3_isOneWay 56 = .ok (.iconst 0, 1) := dk_3 (dk_at dksX3_isOneWay_2 8 rfl rfl)
theorem dX3_isOneWay_57 : decode cX3_isOneWay 57 = .ok (.iadd, 1) := dk_96 (dk_at dksX3_isOneWay_2 9 rfl rfl)
theorem dX3_isOneWay_58 : decode cX3_isOneWay 58 = .ok (.istore 4, 2) := dk_54 4 (dk_at dksX3_isOneWay_2 10 rfl rfl)
theorem dX3_isOneWay_60 : decode cX3_isOneWay 60 = .ok (.iinc 5 1, 3) := dk_132 5 1 (dk_at dksX3_isOneWay_2 12 rfl rfl)
theorem dX3_isOneWay_63 : decode cX3_isOneWay 63 = .ok (.goto (-45), 3) := dk_167 255 211 (dk_at dksX3_isOneWay_2 15 rfl rfl)
theorem dX3_isOneWay_66 : decode cX3_isOneWay 66 = .ok (.iload 4, 2) := dk_21 4 (dk_at dksX3_isOneWay_2 18 rfl rfl)
theorem dX3_isOneWay_68 : decode cX3_isOneWay 68 = .ok (.aload_n 0, 1) := dk_42 (dk_at dksX3_isOneWay_2 20 rfl rfl)
theorem dX3_isOneWay_69 : decode cX3_isOneWay 69 = .ok (.getfield 9, 3) := dk_180 0 9 (dk_at dksX3_isOneWay_2 21 rfl rfl)
theorem dX3_isOneWay_72 : decode cX3_isOneWay 72 = .ok (.iload_n 2, 1) := dk_28 (dk_at dksX3_isOneWay_3 0 rfl rfl)
theorem dX3_isOneWay_73 : decode cX3_isOneWay 73 = .ok (.iaload, 1) := dk_46 (dk_at dksX3_isOneWay_3 1 rfl rfl)
theorem dX3_isOneWay_74 : decode cX3_isOneWay 74 = .ok (.if_icmp .gt 27, 3) := dk_163 0 27 (dk_at dksX3_isOneWay_3 2 rfl rfl)
theorem dX3_isOneWay_77 : decode cX3_isOneWay 77 = .ok (.aload_n 0, 1) := dk_42 (dk_at dksX3_isOneWay_3 5 rfl rfl)
theorem dX3_isOneWay_78 : decode cX3_isOneWay 78 = .ok (.iload_n 1, 1) := dk_27 (dk_at dksX3_isOneWay_3 6 rfl rfl)
theorem dX3_isOneWay_79 : decode cX3_isOneWay 79 = .ok (.iload_n 3, 1) := dk_29 (dk_at dksX3_isOneWay_3 7 rfl rfl)
theorem dX3_isOneWay_80 : decode cX3_isOneWay 80 = .ok (.invokevirtual 369, 3) := dk_182 1 113 (dk_at dksX3_isOneWay_3 8 rfl rfl)
theorem dX3_isOneWay_83 : decode cX3_isOneWay 83 = .ok (.iload_n 3, 1) := dk_29 (dk_at dksX3_isOneWay_3 11 rfl rfl)
theorem dX3_isOneWay_84 : decode cX3_isOneWay 84 = .ok (.if_icmp .ne 17, 3) := dk_160 0 17 (dk_at dksX3_isOneWay_3 12 rfl rfl)
theorem dX3_isOneWay_87 : decode cX3_isOneWay 87 = .ok (.aload_n 0, 1) := dk_42 (dk_at dksX3_isOneWay_3 15 rfl rfl)
theorem dX3_isOneWay_88 : decode cX3_isOneWay 88 = .ok (.iload_n 1, 1) := dk_27 (dk_at dksX3_isOneWay_3 16 rfl rfl)
theorem dX3_isOneWay_89 : decode cX3_isOneWay 89 = .ok (.iload_n 3, 1) := dk_29 (dk_at dksX3_isOneWay_3 17 rfl rfl)
theorem dX3_isOneWay_90 : decode cX3_isOneWay 90 = .ok (.invokevirtual 301, 3) := dk_182 1 45 (dk_at dksX3_isOneWay_3 18 rfl rfl)
theorem dX3_isOneWay_93 : decode cX3_isOneWay 93 = .ok (.iconst 2, 1) := dk_5 (dk_at dksX3_isOneWay_3 21 rfl rfl)
theorem dX3_isOneWay_94 : decode cX3_isOneWay 94 = .ok (.if_icmp .gt 7, 3) := dk_163 0 7 (dk_at dksX3_isOneWay_4 0 rfl rfl)
theorem dX3_isOneWay_97 : decode cX3_isOneWay 97 = .ok (.iconst 1, 1) := dk_4 (dk_at dksX3_isOneWay_4 3 rfl rfl)
theorem dX3_isOneWay_98 : decode cX3_isOneWay 98 = .ok (.goto 4, 3) := dk_167 0 4 (dk_at dksX3_isOneWay_4 4 rfl rfl)
theorem dX3_isOneWay_101 : decode cX3_isOneWay 101 = .ok (.iconst 0, 1) := dk_3 (dk_at dksX3_isOneWay_4 7 rfl rfl)
theorem dX3_isOneWay_102 : decode cX3_isOneWay 102 = .ok (.ireturn, 1) := dk_172 (dk_at dksX3_isOneWay_4 8 rfl rfl)
abbrev cX3_set : ByteArray := prog_26_method_87_code
def yX3_set : MethodName := ⟨RX3, "set", "(III)I"⟩
def dkwX3_set_6 : List UInt8 := [2, 172]
abbrev dktX3_set_6 : List UInt8 := dkwX3_set_6 ++ []
def dkwX3_set_5 : List UInt8 := [21, 5, 29, 160, 0, 6, 21, 7, 172, 21, 4, 21, 7, 2, 130, 126, 54, 4, 132, 5, 1, 167, 255, 159]
abbrev dktX3_set_5 : List UInt8 := dkwX3_set_5 ++ dktX3_set_6
def dkwX3_set_4 : List UInt8 := [21, 7, 2, 130, 126, 46, 96, 42, 180, 0, 83, 21, 4, 46, 159, 0, 9, 132, 7, 1, 167, 255, 201]
abbrev dktX3_set_4 : List UInt8 := dkwX3_set_4 ++ dktX3_set_5
def dkwX3_set_3 : List UInt8 := [21, 6, 126, 153, 0, 37, 42, 180, 0, 86, 21, 7, 51, 153, 0, 27, 4, 42, 180, 0, 83, 21, 4]
abbrev dktX3_set_3 : List UInt8 := dkwX3_set_3 ++ dktX3_set_4
def dkwX3_set_2 : List UInt8 := [21, 4, 21, 4, 116, 126, 54, 6, 21, 6, 54, 7, 21, 7, 21, 4, 2, 130, 126, 154, 0, 45, 21, 7]
abbrev dktX3_set_2 : List UInt8 := dkwX3_set_2 ++ dktX3_set_3
def dkwX3_set_1 : List UInt8 := [184, 0, 121, 154, 0, 5, 2, 172, 42, 27, 182, 1, 31, 54, 4, 3, 54, 5, 21, 5, 29, 163, 0, 97]
abbrev dktX3_set_1 : List UInt8 := dkwX3_set_1 ++ dktX3_set_2
def dkwX3_set_0 : List UInt8 := [42, 27, 28, 182, 1, 125, 153, 0, 23, 29, 3, 42, 180, 0, 83, 42, 27, 182, 1, 31, 46, 4, 100]
abbrev dktX3_set_0 : List UInt8 := dkwX3_set_0 ++ dktX3_set_1
theorem dksX3_set_0 : cX3_set.data.toList.drop 0 = dktX3_set_0 := by decide +kernel
theorem dksX3_set_1 : cX3_set.data.toList.drop 23 = dktX3_set_1 := dk_seg dksX3_set_0 23 rfl rfl
theorem dksX3_set_2 : cX3_set.data.toList.drop 47 = dktX3_set_2 := dk_seg dksX3_set_1 24 rfl rfl
theorem dksX3_set_3 : cX3_set.data.toList.drop 71 = dktX3_set_3 := dk_seg dksX3_set_2 24 rfl rfl
theorem dksX3_set_4 : cX3_set.data.toList.drop 94 = dktX3_set_4 := dk_seg dksX3_set_3 23 rfl rfl
theorem dksX3_set_5 : cX3_set.data.toList.drop 117 = dktX3_set_5 := dk_seg dksX3_set_4 23 rfl rfl
theorem dksX3_set_6 : cX3_set.data.toList.drop 141 = dktX3_set_6 := dk_seg dksX3_set_5 24 rfl rfl
theorem dX3_set_0 : decode cX3_set 0 = .ok (.aload_n 0, 1) := dk_42 (dk_at dksX3_set_0 0 rfl rfl)
theorem dX3_set_1 : decode cX3_set 1 = .ok (.iload_n 1, 1) := dk_27 (dk_at dksX3_set_0 1 rfl rfl)
theorem dX3_set_2 : decode cX3_set 2 = .ok (.iload_n 2, 1) := dk_28 (dk_at dksX3_set_0 2 rfl rfl)
theorem dX3_set_3 : decode cX3_set 3 = .ok (.invokevirtual 381, 3) := dk_182 1 125 (dk_at dksX3_set_0 3 rfl rfl)
theorem dX3_set_6 : decode cX3_set 6 = .ok (.ifCond .eq 23, 3) := dk_153 0 23 (dk_at dksX3_set_0 6 rfl rfl)
theorem dX3_set_9 : decode cX3_set 9 = .ok (.iload_n 3, 1) := dk_29 (dk_at dksX3_set_0 9 rfl rfl)
theorem dX3_set_10 : decode cX3_set 10 = .ok (.iconst 0, 1) := dk_3 (dk_at dksX3_set_0 10 rfl rfl)
theorem dX3_set_11 : decode cX3_set 11 = .ok (.aload_n 0, 1) := dk_42 (dk_at dksX3_set_0 11 rfl rfl)
theorem dX3_set_12 : decode cX3_set 12 = .ok (.getfield 83, 3) := dk_180 0 83 (dk_at dksX3_set_0 12 rfl rfl)
theorem dX3_set_15 : decode cX3_set 15 = .ok (.aload_n 0, 1) := dk_42 (dk_at dksX3_set_0 15 rfl rfl)
theorem dX3_set_16 : decode cX3_set 16 = .ok (.iload_n 1, 1) := dk_27 (dk_at dksX3_set_0 16 rfl rfl)
theorem dX3_set_17 : decode cX3_set 17 = .ok (.invokevirtual 287, 3) := dk_182 1 31 (dk_at dksX3_set_0 17 rfl rfl)
theorem dX3_set_20 : decode cX3_set 20 = .ok (.iaload, 1) := dk_46 (dk_at dksX3_set_0 20 rfl rfl)
theorem dX3_set_21 : decode cX3_set 21 = .ok (.iconst 1, 1) := dk_4 (dk_at dksX3_set_0 21 rfl rfl)
theorem dX3_set_22 : decode cX3_set 22 = .ok (.isub, 1) := dk_100 (dk_at dksX3_set_0 22 rfl rfl)
theorem dX3_set_23 : decode cX3_set 23 = .ok (.invokestatic 121, 3) := dk_184 0 121 (dk_at dksX3_set_1 0 rfl rfl)
theorem dX3_set_26 : decode cX3_set 26 = .ok (.ifCond .ne 5, 3) := dk_154 0 5 (dk_at dksX3_set_1 3 rfl rfl)
theorem dX3_set_29 : decode cX3_set 29 = .ok (.iconst (-1), 1) := dk_2 (dk_at dksX3_set_1 6 rfl rfl)
theorem dX3_set_30 : decode cX3_set 30 = .ok (.ireturn, 1) := dk_172 (dk_at dksX3_set_1 7 rfl rfl)
theorem dX3_set_31 : decode cX3_set 31 = .ok (.aload_n 0, 1) := dk_42 (dk_at dksX3_set_1 8 rfl rfl)
theorem dX3_set_32 : decode cX3_set 32 = .ok (.iload_n 1, 1) := dk_27 (dk_at dksX3_set_1 9 rfl rfl)
theorem dX3_set_33 : decode cX3_set 33 = .ok (.invokevirtual 287, 3) := dk_182 1 31 (dk_at dksX3_set_1 10 rfl rfl)
theorem dX3_set_36 : decode cX3_set 36 = .ok (.istore 4, 2) := dk_54 4 (dk_at dksX3_set_1 13 rfl rfl)
theorem dX3_set_38 : decode cX3_set 38 = .ok (.iconst 0, 1) := dk_3 (dk_at dksX3_set_1 15 rfl rfl)
theorem dX3_set_39 : decode cX3_set 39 = .ok (.istore 5, 2) := dk_54 5 (dk_at dksX3_set_1 16 rfl rfl)
theorem dX3_set_41 : decode cX3_set 41 = .ok (.iload 5, 2) := dk_21 5 (dk_at dksX3_set_1 18 rfl rfl)
theorem dX3_set_43 : decode cX3_set 43 = .ok (.iload_n 3, 1) := dk_29 (dk_at dksX3_set_1 20 rfl rfl)
theorem dX3_set_44 : decode cX3_set 44 = .ok (.if_icmp .gt 97, 3) := dk_163 0 97 (dk_at dksX3_set_1 21 rfl rfl)
theorem dX3_set_47 : decode cX3_set 47 = .ok (.iload 4, 2) := dk_21 4 (dk_at dksX3_set_2 0 rfl rfl)
theorem dX3_set_49 : decode cX3_set 49 = .ok (.iload 4, 2) := dk_21 4 (dk_at dksX3_set_2 2 rfl rfl)
theorem dX3_set_51 : decode cX3_set 51 = .ok (.ineg, 1) := dk_116 (dk_at dksX3_set_2 4 rfl rfl)
theorem dX3_set_52 : decode cX3_set 52 = .ok (.iand, 1) := dk_126 (dk_at dksX3_set_2 5 rfl rfl)
theorem dX3_set_53 : decode cX3_set 53 = .ok (.istore 6, 2) := dk_54 6 (dk_at dksX3_set_2 6 rfl rfl)
theorem dX3_set_55 : decode cX3_set 55 = .ok (.iload 6, 2) := dk_21 6 (dk_at dksX3_set_2 8 rfl rfl)
theorem dX3_set_57 : decode cX3_set 57 = .ok (.istore 7, 2) := dk_54 7 (dk_at dksX3_set_2 10 rfl rfl)
theorem dX3_set_59 : decode cX3_set 59 = .ok (.iload 7, 2) := dk_21 7 (dk_at dksX3_set_2 12 rfl rfl)
theorem dX3_set_61 : decode cX3_set 61 = .ok (.iload 4, 2) := dk_21 4 (dk_at dksX3_set_2 14 rfl rfl)
theorem dX3_set_63 : decode cX3_set 63 = .ok (.iconst (-1), 1) := dk_2 (dk_at dksX3_set_2 16 rfl rfl)
theorem dX3_set_64 : decode cX3_set 64 = .ok (.ixor, 1) := dk_130 (dk_at dksX3_set_2 17 rfl rfl)
theorem dX3_set_65 : decode cX3_set 65 = .ok (.iand, 1) := dk_126 (dk_at dksX3_set_2 18 rfl rfl)
theorem dX3_set_66 : decode cX3_set 66 = .ok (.ifCond .ne 45, 3) := dk_154 0 45 (dk_at dksX3_set_2 19 rfl rfl)
theorem dX3_set_69 : decode cX3_set 69 = .ok (.iload 7, 2) := dk_21 7 (dk_at dksX3_set_2 22 rfl rfl)
theorem dX3_set_71 : decode cX3_set 71 = .ok (.iload 6, 2) := dk_21 6 (dk_at dksX3_set_3 0 rfl rfl)
theorem dX3_set_73 : decode cX3_set 73 = .ok (.iand, 1) := dk_126 (dk_at dksX3_set_3 2 rfl rfl)
theorem dX3_set_74 : decode cX3_set 74 = .ok (.ifCond .eq 37, 3) := dk_153 0 37 (dk_at dksX3_set_3 3 rfl rfl)
theorem dX3_set_77 : decode cX3_set 77 = .ok (.aload_n 0, 1) := dk_42 (dk_at dksX3_set_3 6 rfl rfl)
theorem dX3_set_78 : decode cX3_set 78 = .ok (.getfield 86, 3) := dk_180 0 86 (dk_at dksX3_set_3 7 rfl rfl)
theorem dX3_set_81 : decode cX3_set 81 = .ok (.iload 7, 2) := dk_21 7 (dk_at dksX3_set_3 10 rfl rfl)
theorem dX3_set_83 : decode cX3_set 83 = .ok (.baload, 1) := dk_51 (dk_at dksX3_set_3 12 rfl rfl)
theorem dX3_set_84 : decode cX3_set 84 = .ok (.ifCond .eq 27, 3) := dk_153 0 27 (dk_at dksX3_set_3 13 rfl rfl)
theorem dX3_set_87 : decode cX3_set 87 = .ok (.iconst 1, 1) := dk_4 (dk_at dksX3_set_3 16 rfl rfl)
theorem dX3_set_88 : decode cX3_set 88 = .ok (.aload_n 0, 1) := dk_42 (dk_at dksX3_set_3 17 rfl rfl)
theorem dX3_set_89 : decode cX3_set 89 = .ok (.getfield 83, 3) := dk_180 0 83 (dk_at dksX3_set_3 18 rfl rfl)
theorem dX3_set_92 : decode cX3_set 92 = .ok (.iload 4, 2) := dk_21 4 (dk_at dksX3_set_3 21 rfl rfl)
theorem dX3_set_94 : decode cX3_set 94 = .ok (.iload 7, 2) := dk_21 7 (dk_at dksX3_set_4 0 rfl rfl)
theorem dX3_set_96 : decode cX3_set 96 = .ok (.iconst (-1), 1) := dk_2 (dk_at dksX3_set_4 2 rfl rfl)
theorem dX3_set_97 : decode cX3_set 97 = .ok (.ixor, 1) := dk_130 (dk_at dksX3_set_4 3 rfl rfl)
theorem dX3_set_98 : decode cX3_set 98 = .ok (.iand, 1) := dk_126 (dk_at dksX3_set_4 4 rfl rfl)
theorem dX3_set_99 : decode cX3_set 99 = .ok (.iaload, 1) := dk_46 (dk_at dksX3_set_4 5 rfl rfl)
theorem dX3_set_100 : decode cX3_set 100 = .ok (.iadd, 1) := dk_96 (dk_at dksX3_set_4 6 rfl rfl)
theorem dX3_set_101 : decode cX3_set 101 = .ok (.aload_n 0, 1) := dk_42 (dk_at dksX3_set_4 7 rfl rfl)
theorem dX3_set_102 : decode cX3_set 102 = .ok (.getfield 83, 3) := dk_180 0 83 (dk_at dksX3_set_4 8 rfl rfl)
theorem dX3_set_105 : decode cX3_set 105 = .ok (.iload 4, 2) := dk_21 4 (dk_at dksX3_set_4 11 rfl rfl)
theorem dX3_set_107 : decode cX3_set 107 = .ok (.iaload, 1) := dk_46 (dk_at dksX3_set_4 13 rfl rfl)
theorem dX3_set_108 : decode cX3_set 108 = .ok (.if_icmp .eq 9, 3) := dk_159 0 9 (dk_at dksX3_set_4 14 rfl rfl)
theorem dX3_set_111 : decode cX3_set 111 = .ok (.iinc 7 1, 3) := dk_132 7 1 (dk_at dksX3_set_4 17 rfl rfl)
theorem dX3_set_114 : decode cX3_set 114 = .ok (.goto (-55), 3) := dk_167 255 201 (dk_at dksX3_set_4 20 rfl rfl)
theorem dX3_set_117 : decode cX3_set 117 = .ok (.iload 5, 2) := dk_21 5 (dk_at dksX3_set_5 0 rfl rfl)
theorem dX3_set_119 : decode cX3_set 119 = .ok (.iload_n 3, 1) := dk_29 (dk_at dksX3_set_5 2 rfl rfl)
theorem dX3_set_120 : decode cX3_set 120 = .ok (.if_icmp .ne 6, 3) := dk_160 0 6 (dk_at dksX3_set_5 3 rfl rfl)
theorem dX3_set_123 : decode cX3_set 123 = .ok (.iload 7, 2) := dk_21 7 (dk_at dksX3_set_5 6 rfl rfl)
theorem dX3_set_125 : decode cX3_set 125 = .ok (.ireturn, 1) := dk_172 (dk_at dksX3_set_5 8 rfl rfl)
theorem dX3_set_126 : decode cX3_set 126 = .ok (.iload 4, 2) := dk_21 4 (dk_at dksX3_set_5 9 rfl rfl)
theorem dX3_set_128 : decode cX3_set 128 = .ok (.iload 7, 2) := dk_21 7 (dk_at dksX3_set_5 11 rfl rfl)
theorem dX3_set_130 : decode cX3_set 130 = .ok (.iconst (-1), 1) := dk_2 (dk_at dksX3_set_5 13 rfl rfl)
theorem dX3_set_131 : decode cX3_set 131 = .ok (.ixor, 1) := dk_130 (dk_at dksX3_set_5 14 rfl rfl)
theorem dX3_set_132 : decode cX3_set 132 = .ok (.iand, 1) := dk_126 (dk_at dksX3_set_5 15 rfl rfl)
theorem dX3_set_133 : decode cX3_set 133 = .ok (.istore 4, 2) := dk_54 4 (dk_at dksX3_set_5 16 rfl rfl)
theorem dX3_set_135 : decode cX3_set 135 = .ok (.iinc 5 1, 3) := dk_132 5 1 (dk_at dksX3_set_5 18 rfl rfl)
theorem dX3_set_138 : decode cX3_set 138 = .ok (.goto (-97), 3) := dk_167 255 159 (dk_at dksX3_set_5 21 rfl rfl)
theorem dX3_set_141 : decode cX3_set 141 = .ok (.iconst (-1), 1) := dk_2 (dk_at dksX3_set_6 0 rfl rfl)
theorem dX3_set_142 : decode cX3_set 142 = .ok (.ireturn, 1) := dk_172 (dk_at dksX3_set_6 1 rfl rfl)
abbrev cX3_twice : ByteArray := prog_26_method_89_code
def yX3_twice : MethodName := ⟨RX3, "twice", "(I)I"⟩
def dkwX3_twice_4 : List UInt8 := [167, 0, 14, 42, 4, 28, 120, 4, 100, 28, 5, 182, 1, 131, 172]
abbrev dktX3_twice_4 : List UInt8 := dkwX3_twice_4 ++ []
def dkwX3_twice_3 : List UInt8 := [28, 29, 79, 132, 2, 1, 132, 3, 1, 167, 255, 216, 42, 27, 182, 1, 110, 28, 154, 0, 7, 3]
abbrev dktX3_twice_3 : List UInt8 := dkwX3_twice_3 ++ dktX3_twice_4
def dkwX3_twice_2 : List UInt8 := [162, 0, 36, 42, 27, 29, 42, 27, 182, 1, 31, 182, 1, 34, 5, 112, 4, 160, 0, 13, 42, 180, 0, 90]
abbrev dktX3_twice_2 : List UInt8 := dkwX3_twice_2 ++ dktX3_twice_3
def dkwX3_twice_1 : List UInt8 := [182, 1, 31, 182, 1, 85, 4, 164, 0, 5, 2, 172, 3, 61, 3, 62, 29, 42, 180, 0, 34, 27, 46]
abbrev dktX3_twice_1 : List UInt8 := dkwX3_twice_1 ++ dktX3_twice_2
def dkwX3_twice_0 : List UInt8 := [42, 27, 182, 1, 28, 153, 0, 28, 42, 180, 0, 31, 27, 46, 16, 12, 163, 0, 17, 42, 27, 42, 27]
abbrev dktX3_twice_0 : List UInt8 := dkwX3_twice_0 ++ dktX3_twice_1
theorem dksX3_twice_0 : cX3_twice.data.toList.drop 0 = dktX3_twice_0 := by decide +kernel
theorem dksX3_twice_1 : cX3_twice.data.toList.drop 23 = dktX3_twice_1 := dk_seg dksX3_twice_0 23 rfl rfl
theorem dksX3_twice_2 : cX3_twice.data.toList.drop 46 = dktX3_twice_2 := dk_seg dksX3_twice_1 23 rfl rfl
theorem dksX3_twice_3 : cX3_twice.data.toList.drop 70 = dktX3_twice_3 := dk_seg dksX3_twice_2 24 rfl rfl
theorem dksX3_twice_4 : cX3_twice.data.toList.drop 92 = dktX3_twice_4 := dk_seg dksX3_twice_3 22 rfl rfl
theorem dX3_twice_0 : decode cX3_twice 0 = .ok (.aload_n 0, 1) := dk_42 (dk_at dksX3_twice_0 0 rfl rfl)
theorem dX3_twice_1 : decode cX3_twice 1 = .ok (.iload_n 1, 1) := dk_27 (dk_at dksX3_twice_0 1 rfl rfl)
theorem dX3_twice_2 : decode cX3_twice 2 = .ok (.invokevirtual 284, 3) := dk_182 1 28 (dk_at dksX3_twice_0 2 rfl rfl)
theorem dX3_twice_5 : decode cX3_twice 5 = .ok (.ifCond .eq 28, 3) := dk_153 0 28 (dk_at dksX3_twice_0 5 rfl rfl)
theorem dX3_twice_8 : decode cX3_twice 8 = .ok (.aload_n 0, 1) := dk_42 (dk_at dksX3_twice_0 8 rfl rfl)
theorem dX3_twice_9 : decode cX3_twice 9 = .ok (.getfield 31, 3) := dk_180 0 31 (dk_at dksX3_twice_0 9 rfl rfl)
theorem dX3_twice_12 : decode cX3_twice 12 = .ok (.iload_n 1, 1) := dk_27 (dk_at dksX3_twice_0 12 rfl rfl)
theorem dX3_twice_13 : decode cX3_twice 13 = .ok (.iaload, 1) := dk_46 (dk_at dksX3_twice_0 13 rfl rfl)
theorem dX3_twice_14 : decode cX3_twice 14 = .ok (.bipush 12, 2) := dk_16 12 (dk_at dksX3_twice_0 14 rfl rfl)
theorem dX3_twice_16 : decode cX3_twice 16 = .ok (.if_icmp .gt 17, 3) := dk_163 0 17 (dk_at dksX3_twice_0 16 rfl rfl)
theorem dX3_twice_19 : decode cX3_twice 19 = .ok (.aload_n 0, 1) := dk_42 (dk_at dksX3_twice_0 19 rfl rfl)
theorem dX3_twice_20 : decode cX3_twice 20 = .ok (.iload_n 1, 1) := dk_27 (dk_at dksX3_twice_0 20 rfl rfl)
theorem dX3_twice_21 : decode cX3_twice 21 = .ok (.aload_n 0, 1) := dk_42 (dk_at dksX3_twice_0 21 rfl rfl)
theorem dX3_twice_22 : decode cX3_twice 22 = .ok (.iload_n 1, 1) := dk_27 (dk_at dksX3_twice_0 22 rfl rfl)
theorem dX3_twice_23 : decode cX3_twice 23 = .ok (.invokevirtual 287, 3) := dk_182 1 31 (dk_at dksX3_twice_1 0 rfl rfl)
theorem dX3_twice_26 : decode cX3_twice 26 = .ok (.invokevirtual 341, 3) := dk_182 1 85 (dk_at dksX3_twice_1 3 rfl rfl)
theorem dX3_twice_29 : decode cX3_twice 29 = .ok (.iconst 1, 1) := dk_4 (dk_at dksX3_twice_1 6 rfl rfl)
theorem dX3_twice_30 : decode cX3_twice 30 = .ok (.if_icmp .le 5, 3) := dk_164 0 5 (dk_at dksX3_twice_1 7 rfl rfl)
theorem dX3_twice_33 : decode cX3_twice 33 = .ok (.iconst (-1), 1) := dk_2 (dk_at dksX3_twice_1 10 rfl rfl)
theorem dX3_twice_34 : decode cX3_twice 34 = .ok (.ireturn, 1) := dk_172 (dk_at dksX3_twice_1 11 rfl rfl)
theorem dX3_twice_35 : decode cX3_twice 35 = .ok (.iconst 0, 1) := dk_3 (dk_at dksX3_twice_1 12 rfl rfl)
theorem dX3_twice_36 : decode cX3_twice 36 = .ok (.istore_n 2, 1) := dk_61 (dk_at dksX3_twice_1 13 rfl rfl)
theorem dX3_twice_37 : decode cX3_twice 37 = .ok (.iconst 0, 1) := dk_3 (dk_at dksX3_twice_1 14 rfl rfl)
theorem dX3_twice_38 : decode cX3_twice 38 = .ok (.istore_n 3, 1) := dk_62 (dk_at dksX3_twice_1 15 rfl rfl)
theorem dX3_twice_39 : decode cX3_twice 39 = .ok (.iload_n 3, 1) := dk_29 (dk_at dksX3_twice_1 16 rfl rfl)
theorem dX3_twice_40 : decode cX3_twice 40 = .ok (.aload_n 0, 1) := dk_42 (dk_at dksX3_twice_1 17 rfl rfl)
theorem dX3_twice_41 : decode cX3_twice 41 = .ok (.getfield 34, 3) := dk_180 0 34 (dk_at dksX3_twice_1 18 rfl rfl)
theorem dX3_twice_44 : decode cX3_twice 44 = .ok (.iload_n 1, 1) := dk_27 (dk_at dksX3_twice_1 21 rfl rfl)
theorem dX3_twice_45 : decode cX3_twice 45 = .ok (.iaload, 1) := dk_46 (dk_at dksX3_twice_1 22 rfl rfl)
theorem dX3_twice_46 : decode cX3_twice 46 = .ok (.if_icmp .ge 36, 3) := dk_162 0 36 (dk_at dksX3_twice_2 0 rfl rfl)
theorem dX3_twice_49 : decode cX3_twice 49 = .ok (.aload_n 0, 1) := dk_42 (dk_at dksX3_twice_2 3 rfl rfl)
theorem dX3_twice_50 : decode cX3_twice 50 = .ok (.iload_n 1, 1) := dk_27 (dk_at dksX3_twice_2 4 rfl rfl)
theorem dX3_twice_51 : decode cX3_twice 51 = .ok (.iload_n 3, 1) := dk_29 (dk_at dksX3_twice_2 5 rfl rfl)
theorem dX3_twice_52 : decode cX3_twice 52 = .ok (.aload_n 0, 1) := dk_42 (dk_at dksX3_twice_2 6 rfl rfl)
theorem dX3_twice_53 : decode cX3_twice 53 = .ok (.iload_n 1, 1) := dk_27 (dk_at dksX3_twice_2 7 rfl rfl)
theorem dX3_twice_54 : decode cX3_twice 54 = .ok (.invokevirtual 287, 3) := dk_182 1 31 (dk_at dksX3_twice_2 8 rfl rfl)
theorem dX3_twice_57 : decode cX3_twice 57 = .ok (.invokevirtual 290, 3) := dk_182 1 34 (dk_at dksX3_twice_2 11 rfl rfl)
theorem dX3_twice_60 : decode cX3_twice 60 = .ok (.iconst 2, 1) := dk_5 (dk_at dksX3_twice_2 14 rfl rfl)
theorem dX3_twice_61 : decode cX3_twice 61 = .ok (.irem, 1) := dk_112 (dk_at dksX3_twice_2 15 rfl rfl)
theorem dX3_twice_62 : decode cX3_twice 62 = .ok (.iconst 1, 1) := dk_4 (dk_at dksX3_twice_2 16 rfl rfl)
theorem dX3_twice_63 : decode cX3_twice 63 = .ok (.if_icmp .ne 13, 3) := dk_160 0 13 (dk_at dksX3_twice_2 17 rfl rfl)
theorem dX3_twice_66 : decode cX3_twice 66 = .ok (.aload_n 0, 1) := dk_42 (dk_at dksX3_twice_2 20 rfl rfl)
theorem dX3_twice_67 : decode cX3_twice 67 = .ok (.getfield 90, 3) := dk_180 0 90 (dk_at dksX3_twice_2 21 rfl rfl)
theorem dX3_twice_70 : decode cX3_twice 70 = .ok (.iload_n 2, 1) := dk_28 (dk_at dksX3_twice_3 0 rfl rfl)
theorem dX3_twice_71 : decode cX3_twice 71 = .ok (.iload_n 3, 1) := dk_29 (dk_at dksX3_twice_3 1 rfl rfl)
theorem dX3_twice_72 : decode cX3_twice 72 = .ok (.iastore, 1) := dk_79 (dk_at dksX3_twice_3 2 rfl rfl)
theorem dX3_twice_73 : decode cX3_twice 73 = .ok (.iinc 2 1, 3) := dk_132 2 1 (dk_at dksX3_twice_3 3 rfl rfl)
theorem dX3_twice_76 : decode cX3_twice 76 = .ok (.iinc 3 1, 3) := dk_132 3 1 (dk_at dksX3_twice_3 6 rfl rfl)
theorem dX3_twice_79 : decode cX3_twice 79 = .ok (.goto (-40), 3) := dk_167 255 216 (dk_at dksX3_twice_3 9 rfl rfl)
theorem dX3_twice_82 : decode cX3_twice 82 = .ok (.aload_n 0, 1) := dk_42 (dk_at dksX3_twice_3 12 rfl rfl)
theorem dX3_twice_83 : decode cX3_twice 83 = .ok (.iload_n 1, 1) := dk_27 (dk_at dksX3_twice_3 13 rfl rfl)
theorem dX3_twice_84 : decode cX3_twice 84 = .ok (.invokevirtual 366, 3) := dk_182 1 110 (dk_at dksX3_twice_3 14 rfl rfl)
theorem dX3_twice_87 : decode cX3_twice 87 = .ok (.iload_n 2, 1) := dk_28 (dk_at dksX3_twice_3 17 rfl rfl)
theorem dX3_twice_88 : decode cX3_twice 88 = .ok (.ifCond .ne 7, 3) := dk_154 0 7 (dk_at dksX3_twice_3 18 rfl rfl)
theorem dX3_twice_91 : decode cX3_twice 91 = .ok (.iconst 0, 1) := dk_3 (dk_at dksX3_twice_3 21 rfl rfl)
theorem dX3_twice_92 : decode cX3_twice 92 = .ok (.goto 14, 3) := dk_167 0 14 (dk_at dksX3_twice_4 0 rfl rfl)
theorem dX3_twice_95 : decode cX3_twice 95 = .ok (.aload_n 0, 1) := dk_42 (dk_at dksX3_twice_4 3 rfl rfl)
theorem dX3_twice_96 : decode cX3_twice 96 = .ok (.iconst 1, 1) := dk_4 (dk_at dksX3_twice_4 4 rfl rfl)
theorem dX3_twice_97 : decode cX3_twice 97 = .ok (.iload_n 2, 1) := dk_28 (dk_at dksX3_twice_4 5 rfl rfl)
theorem dX3_twice_98 : decode cX3_twice 98 = .ok (.ishl, 1) := dk_120 (dk_at dksX3_twice_4 6 rfl rfl)
theorem dX3_twice_99 : decode cX3_twice 99 = .ok (.iconst 1, 1) := dk_4 (dk_at dksX3_twice_4 7 rfl rfl)
theorem dX3_twice_100 : decode cX3_twice 100 = .ok (.isub, 1) := dk_100 (dk_at dksX3_twice_4 8 rfl rfl)
theorem dX3_twice_101 : decode cX3_twice 101 = .ok (.iload_n 2, 1) := dk_28 (dk_at dksX3_twice_4 9 rfl rfl)
theorem dX3_twice_102 : decode cX3_twice 102 = .ok (.iconst 2, 1) := dk_5 (dk_at dksX3_twice_4 10 rfl rfl)
theorem dX3_twice_103 : decode cX3_twice 103 = .ok (.invokevirtual 387, 3) := dk_182 1 131 (dk_at dksX3_twice_4 11 rfl rfl)
theorem dX3_twice_106 : decode cX3_twice 106 = .ok (.ireturn, 1) := dk_172 (dk_at dksX3_twice_4 14 rfl rfl)
abbrev cX3_pairing : ByteArray := prog_26_method_88_code
def yX3_pairing : MethodName := ⟨RX3, "pairing", "(III)I"⟩
def dkwX3_pairing_5 : List UInt8 := [167, 255, 190, 21, 6, 172]
abbrev dktX3_pairing_5 : List UInt8 := dkwX3_pairing_5 ++ []
def dkwX3_pairing_4 : List UInt8 := [21, 5, 4, 21, 7, 120, 2, 130, 126, 28, 29, 182, 1, 131, 96, 184, 0, 155, 54, 6, 132, 7, 1]
abbrev dktX3_pairing_4 : List UInt8 := dkwX3_pairing_4 ++ dktX3_pairing_5
def dkwX3_pairing_3 : List UInt8 := [180, 0, 80, 16, 60, 42, 180, 0, 90, 21, 4, 46, 104, 42, 180, 0, 90, 21, 7, 46, 96, 46, 42]
abbrev dktX3_pairing_3 : List UInt8 := dkwX3_pairing_3 ++ dktX3_pairing_4
def dkwX3_pairing_2 : List UInt8 := [96, 54, 7, 21, 7, 28, 162, 0, 66, 21, 5, 21, 7, 122, 4, 126, 4, 160, 0, 49, 21, 6, 42]
abbrev dktX3_pairing_2 : List UInt8 := dkwX3_pairing_2 ++ dktX3_pairing_3
def dkwX3_pairing_1 : List UInt8 := [158, 0, 16, 42, 21, 5, 28, 29, 4, 100, 182, 1, 131, 167, 0, 6, 19, 1, 109, 54, 6, 21, 4, 4]
abbrev dktX3_pairing_1 : List UInt8 := dkwX3_pairing_1 ++ dktX3_pairing_2
def dkwX3_pairing_0 : List UInt8 := [27, 154, 0, 5, 3, 172, 27, 184, 1, 128, 54, 4, 27, 4, 21, 4, 120, 2, 130, 126, 54, 5, 29]
abbrev dktX3_pairing_0 : List UInt8 := dkwX3_pairing_0 ++ dktX3_pairing_1
theorem dksX3_pairing_0 : cX3_pairing.data.toList.drop 0 = dktX3_pairing_0 := by decide +kernel
theorem dksX3_pairing_1 : cX3_pairing.data.toList.drop 23 = dktX3_pairing_1 := dk_seg dksX3_pairing_0 23 rfl rfl
theorem dksX3_pairing_2 : cX3_pairing.data.toList.drop 47 = dktX3_pairing_2 := dk_seg dksX3_pairing_1 24 rfl rfl
theorem dksX3_pairing_3 : cX3_pairing.data.toList.drop 70 = dktX3_pairing_3 := dk_seg dksX3_pairing_2 23 rfl rfl
theorem dksX3_pairing_4 : cX3_pairing.data.toList.drop 93 = dktX3_pairing_4 := dk_seg dksX3_pairing_3 23 rfl rfl
theorem dksX3_pairing_5 : cX3_pairing.data.toList.drop 116 = dktX3_pairing_5 := dk_seg dksX3_pairing_4 23 rfl rfl
theorem dX3_pairing_0 : decode cX3_pairing 0 = .ok (.iload_n 1, 1) := dk_27 (dk_at dksX3_pairing_0 0 rfl rfl)
theorem dX3_pairing_1 : decode cX3_pairing 1 = .ok (.ifCond .ne 5, 3) := dk_154 0 5 (dk_at dksX3_pairing_0 1 rfl rfl)
theorem dX3_pairing_4 : decode cX3_pairing 4 = .ok (.iconst 0, 1) := dk_3 (dk_at dksX3_pairing_0 4 rfl rfl)
theorem dX3_pairing_5 : decode cX3_pairing 5 = .ok (.ireturn, 1) := dk_172 (dk_at dksX3_pairing_0 5 rfl rfl)
theorem dX3_pairing_6 : decode cX3_pairing 6 = .ok (.iload_n 1, 1) := dk_27 (dk_at dksX3_pairing_0 6 rfl rfl)
theorem dX3_pairing_7 : decode cX3_pairing 7 = .ok (.invokestatic 384, 3) := dk_184 1 128 (dk_at dksX3_pairing_0 7 rfl rfl)
theorem dX3_pairing_10 : decode cX3_pairing 10 = .ok (.istore 4, 2) := dk_54 4 (dk_at dksX3_pairing_0 10 rfl rfl)
theorem dX3_pairing_12 : decode cX3_pairing 12 = .ok (.iload_n 1, 1) := dk_27 (dk_at dksX3_pairing_0 12 rfl rfl)
theorem dX3_pairing_13 : decode cX3_pairing 13 = .ok (.iconst 1, 1) := dk_4 (dk_at dksX3_pairing_0 13 rfl rfl)
theorem dX3_pairing_14 : decode cX3_pairing 14 = .ok (.iload 4, 2) := dk_21 4 (dk_at dksX3_pairing_0 14 rfl rfl)
theorem dX3_pairing_16 : decode cX3_pairing 16 = .ok (.ishl, 1) := dk_120 (dk_at dksX3_pairing_0 16 rfl rfl)
theorem dX3_pairing_17 : decode cX3_pairing 17 = .ok (.iconst (-1), 1) := dk_2 (dk_at dksX3_pairing_0 17 rfl rfl)
theorem dX3_pairing_18 : decode cX3_pairing 18 = .ok (.ixor, 1) := dk_130 (dk_at dksX3_pairing_0 18 rfl rfl)
theorem dX3_pairing_19 : decode cX3_pairing 19 = .ok (.iand, 1) := dk_126 (dk_at dksX3_pairing_0 19 rfl rfl)
theorem dX3_pairing_20 : decode cX3_pairing 20 = .ok (.istore 5, 2) := dk_54 5 (dk_at dksX3_pairing_0 20 rfl rfl)
theorem dX3_pairing_22 : decode cX3_pairing 22 = .ok (.iload_n 3, 1) := dk_29 (dk_at dksX3_pairing_0 22 rfl rfl)
theorem dX3_pairing_23 : decode cX3_pairing 23 = .ok (.ifCond .le 16, 3) := dk_158 0 16 (dk_at dksX3_pairing_1 0 rfl rfl)
theorem dX3_pairing_26 : decode cX3_pairing 26 = .ok (.aload_n 0, 1) := dk_42 (dk_at dksX3_pairing_1 3 rfl rfl)
theorem dX3_pairing_27 : decode cX3_pairing 27 = .ok (.iload 5, 2) := dk_21 5 (dk_at dksX3_pairing_1 4 rfl rfl)
theorem dX3_pairing_29 : decode cX3_pairing 29 = .ok (.iload_n 2, 1) := dk_28 (dk_at dksX3_pairing_1 6 rfl rfl)
theorem dX3_pairing_30 : decode cX3_pairing 30 = .ok (.iload_n 3, 1) := dk_29 (dk_at dksX3_pairing_1 7 rfl rfl)
theorem dX3_pairing_31 : decode cX3_pairing 31 = .ok (.iconst 1, 1) := dk_4 (dk_at dksX3_pairing_1 8 rfl rfl)
theorem dX3_pairing_32 : decode cX3_pairing 32 = .ok (.isub, 1) := dk_100 (dk_at dksX3_pairing_1 9 rfl rfl)
theorem dX3_pairing_33 : decode cX3_pairing 33 = .ok (.invokevirtual 387, 3) := dk_182 1 131 (dk_at dksX3_pairing_1 10 rfl rfl)
theorem dX3_pairing_36 : decode cX3_pairing 36 = .ok (.goto 6, 3) := dk_167 0 6 (dk_at dksX3_pairing_1 13 rfl rfl)
theorem dX3_pairing_39 : decode cX3_pairing 39 = .ok (.ldc_w 365, 3) := dk_19 1 109 (dk_at dksX3_pairing_1 16 rfl rfl)
theorem dX3_pairing_42 : decode cX3_pairing 42 = .ok (.istore 6, 2) := dk_54 6 (dk_at dksX3_pairing_1 19 rfl rfl)
theorem dX3_pairing_44 : decode cX3_pairing 44 = .ok (.iload 4, 2) := dk_21 4 (dk_at dksX3_pairing_1 21 rfl rfl)
theorem dX3_pairing_46 : decode cX3_pairing 46 = .ok (.iconst 1, 1) := dk_4 (dk_at dksX3_pairing_1 23 rfl rfl)
theorem dX3_pairing_47 : decode cX3_pairing 47 = .ok (.iadd, 1) := dk_96 (dk_at dksX3_pairing_2 0 rfl rfl)
theorem dX3_pairing_48 : decode cX3_pairing 48 = .ok (.istore 7, 2) := dk_54 7 (dk_at dksX3_pairing_2 1 rfl rfl)
theorem dX3_pairing_50 : decode cX3_pairing 50 = .ok (.iload 7, 2) := dk_21 7 (dk_at dksX3_pairing_2 3 rfl rfl)
theorem dX3_pairing_52 : decode cX3_pairing 52 = .ok (.iload_n 2, 1) := dk_28 (dk_at dksX3_pairing_2 5 rfl rfl)
theorem dX3_pairing_53 : decode cX3_pairing 53 = .ok (.if_icmp .ge 66, 3) := dk_162 0 66 (dk_at dksX3_pairing_2 6 rfl rfl)
theorem dX3_pairing_56 : decode cX3_pairing 56 = .ok (.iload 5, 2) := dk_21 5 (dk_at dksX3_pairing_2 9 rfl rfl)
theorem dX3_pairing_58 : decode cX3_pairing 58 = .ok (.iload 7, 2) := dk_21 7 (dk_at dksX3_pairing_2 11 rfl rfl)
theorem dX3_pairing_60 : decode cX3_pairing 60 = .ok (.ishr, 1) := dk_122 (dk_at dksX3_pairing_2 13 rfl rfl)
theorem dX3_pairing_61 : decode cX3_pairing 61 = .ok (.iconst 1, 1) := dk_4 (dk_at dksX3_pairing_2 14 rfl rfl)
theorem dX3_pairing_62 : decode cX3_pairing 62 = .ok (.iand, 1) := dk_126 (dk_at dksX3_pairing_2 15 rfl rfl)
theorem dX3_pairing_63 : decode cX3_pairing 63 = .ok (.iconst 1, 1) := dk_4 (dk_at dksX3_pairing_2 16 rfl rfl)
theorem dX3_pairing_64 : decode cX3_pairing 64 = .ok (.if_icmp .ne 49, 3) := dk_160 0 49 (dk_at dksX3_pairing_2 17 rfl rfl)
theorem dX3_pairing_67 : decode cX3_pairing 67 = .ok (.iload 6, 2) := dk_21 6 (dk_at dksX3_pairing_2 20 rfl rfl)
theorem dX3_pairing_69 : decode cX3_pairing 69 = .ok (.aload_n 0, 1) := dk_42 (dk_at dksX3_pairing_2 22 rfl rfl)
theorem dX3_pairing_70 : decode cX3_pairing 70 = .ok (.getfield 80, 3) := dk_180 0 80 (dk_at dksX3_pairing_3 0 rfl rfl)
theorem dX3_pairing_73 : decode cX3_pairing 73 = .ok (.bipush 60, 2) := dk_16 60 (dk_at dksX3_pairing_3 3 rfl rfl)
theorem dX3_pairing_75 : decode cX3_pairing 75 = .ok (.aload_n 0, 1) := dk_42 (dk_at dksX3_pairing_3 5 rfl rfl)
theorem dX3_pairing_76 : decode cX3_pairing 76 = .ok (.getfield 90, 3) := dk_180 0 90 (dk_at dksX3_pairing_3 6 rfl rfl)
theorem dX3_pairing_79 : decode cX3_pairing 79 = .ok (.iload 4, 2) := dk_21 4 (dk_at dksX3_pairing_3 9 rfl rfl)
theorem dX3_pairing_81 : decode cX3_pairing 81 = .ok (.iaload, 1) := dk_46 (dk_at dksX3_pairing_3 11 rfl rfl)
theorem dX3_pairing_82 : decode cX3_pairing 82 = .ok (.imul, 1) := dk_104 (dk_at dksX3_pairing_3 12 rfl rfl)
theorem dX3_pairing_83 : decode cX3_pairing 83 = .ok (.aload_n 0, 1) := dk_42 (dk_at dksX3_pairing_3 13 rfl rfl)
theorem dX3_pairing_84 : decode cX3_pairing 84 = .ok (.getfield 90, 3) := dk_180 0 90 (dk_at dksX3_pairing_3 14 rfl rfl)
theorem dX3_pairing_87 : decode cX3_pairing 87 = .ok (.iload 7, 2) := dk_21 7 (dk_at dksX3_pairing_3 17 rfl rfl)
theorem dX3_pairing_89 : decode cX3_pairing 89 = .ok (.iaload, 1) := dk_46 (dk_at dksX3_pairing_3 19 rfl rfl)
theorem dX3_pairing_90 : decode cX3_pairing 90 = .ok (.iadd, 1) := dk_96 (dk_at dksX3_pairing_3 20 rfl rfl)
theorem dX3_pairing_91 : decode cX3_pairing 91 = .ok (.iaload, 1) := dk_46 (dk_at dksX3_pairing_3 21 rfl rfl)
theorem dX3_pairing_92 : decode cX3_pairing 92 = .ok (.aload_n 0, 1) := dk_42 (dk_at dksX3_pairing_3 22 rfl rfl)
theorem dX3_pairing_93 : decode cX3_pairing 93 = .ok (.iload 5, 2) := dk_21 5 (dk_at dksX3_pairing_4 0 rfl rfl)
theorem dX3_pairing_95 : decode cX3_pairing 95 = .ok (.iconst 1, 1) := dk_4 (dk_at dksX3_pairing_4 2 rfl rfl)
theorem dX3_pairing_96 : decode cX3_pairing 96 = .ok (.iload 7, 2) := dk_21 7 (dk_at dksX3_pairing_4 3 rfl rfl)
theorem dX3_pairing_98 : decode cX3_pairing 98 = .ok (.ishl, 1) := dk_120 (dk_at dksX3_pairing_4 5 rfl rfl)
theorem dX3_pairing_99 : decode cX3_pairing 99 = .ok (.iconst (-1), 1) := dk_2 (dk_at dksX3_pairing_4 6 rfl rfl)
theorem dX3_pairing_100 : decode cX3_pairing 100 = .ok (.ixor, 1) := dk_130 (dk_at dksX3_pairing_4 7 rfl rfl)
theorem dX3_pairing_101 : decode cX3_pairing 101 = .ok (.iand, 1) := dk_126 (dk_at dksX3_pairing_4 8 rfl rfl)
theorem dX3_pairing_102 : decode cX3_pairing 102 = .ok (.iload_n 2, 1) := dk_28 (dk_at dksX3_pairing_4 9 rfl rfl)
theorem dX3_pairing_103 : decode cX3_pairing 103 = .ok (.iload_n 3, 1) := dk_29 (dk_at dksX3_pairing_4 10 rfl rfl)
theorem dX3_pairing_104 : decode cX3_pairing 104 = .ok (.invokevirtual 387, 3) := dk_182 1 131 (dk_at dksX3_pairing_4 11 rfl rfl)
theorem dX3_pairing_107 : decode cX3_pairing 107 = .ok (.iadd, 1) := dk_96 (dk_at dksX3_pairing_4 14 rfl rfl)
theorem dX3_pairing_108 : decode cX3_pairing 108 = .ok (.invokestatic 155, 3) := dk_184 0 155 (dk_at dksX3_pairing_4 15 rfl rfl)
theorem dX3_pairing_111 : decode cX3_pairing 111 = .ok (.istore 6, 2) := dk_54 6 (dk_at dksX3_pairing_4 18 rfl rfl)
theorem dX3_pairing_113 : decode cX3_pairing 113 = .ok (.iinc 7 1, 3) := dk_132 7 1 (dk_at dksX3_pairing_4 20 rfl rfl)
theorem dX3_pairing_116 : decode cX3_pairing 116 = .ok (.goto (-66), 3) := dk_167 255 190 (dk_at dksX3_pairing_5 0 rfl rfl)
theorem dX3_pairing_119 : decode cX3_pairing 119 = .ok (.iload 6, 2) := dk_21 6 (dk_at dksX3_pairing_5 3 rfl rfl)
theorem dX3_pairing_121 : decode cX3_pairing 121 = .ok (.ireturn, 1) := dk_172 (dk_at dksX3_pairing_5 5 rfl rfl)
abbrev cX3_stock : ByteArray := prog_26_method_90_code
def yX3_stock : MethodName := ⟨RX3, "stock", "(II)Z"⟩
def dkwX3_stock_1 : List UInt8 := [27, 28, 79, 4, 172]
abbrev dktX3_stock_1 : List UInt8 := dkwX3_stock_1 ++ []
def dkwX3_stock_0 : List UInt8 := [42, 27, 182, 1, 119, 153, 0, 13, 28, 3, 16, 99, 184, 0, 121, 154, 0, 5, 3, 172, 42, 180, 0, 19]
abbrev dktX3_stock_0 : List UInt8 := dkwX3_stock_0 ++ dktX3_stock_1
theorem dksX3_stock_0 : cX3_stock.data.toList.drop 0 = dktX3_stock_0 := by decide +kernel
theorem dksX3_stock_1 : cX3_stock.data.toList.drop 24 = dktX3_stock_1 := dk_seg dksX3_stock_0 24 rfl rfl
theorem dX3_stock_0 : decode cX3_stock 0 = .ok (.aload_n 0, 1) := dk_42 (dk_at dksX3_stock_0 0 rfl rfl)
theorem dX3_stock_1 : decode cX3_stock 1 = .ok (.iload_n 1, 1) := dk_27 (dk_at dksX3_stock_0 1 rfl rfl)
theorem dX3_stock_2 : decode cX3_stock 2 = .ok (.invokevirtual 375, 3) := dk_182 1 119 (dk_at dksX3_stock_0 2 rfl rfl)
theorem dX3_stock_5 : decode cX3_stock 5 = .ok (.ifCond .eq 13, 3) := dk_153 0 13 (dk_at dksX3_stock_0 5 rfl rfl)
theorem dX3_stock_8 : decode cX3_stock 8 = .ok (.iload_n 2, 1) := dk_28 (dk_at dksX3_stock_0 8 rfl rfl)
theorem dX3_stock_9 : decode cX3_stock 9 = .ok (.iconst 0, 1) := dk_3 (dk_at dksX3_stock_0 9 rfl rfl)
theorem dX3_stock_10 : decode cX3_stock 10 = .ok (.bipush 99, 2) := dk_16 99 (dk_at dksX3_stock_0 10 rfl rfl)
theorem dX3_stock_12 : decode cX3_stock 12 = .ok (.invokestatic 121, 3) := dk_184 0 121 (dk_at dksX3_stock_0 12 rfl rfl)
theorem dX3_stock_15 : decode cX3_stock 15 = .ok (.ifCond .ne 5, 3) := dk_154 0 5 (dk_at dksX3_stock_0 15 rfl rfl)
theorem dX3_stock_18 : decode cX3_stock 18 = .ok (.iconst 0, 1) := dk_3 (dk_at dksX3_stock_0 18 rfl rfl)
theorem dX3_stock_19 : decode cX3_stock 19 = .ok (.ireturn, 1) := dk_172 (dk_at dksX3_stock_0 19 rfl rfl)
theorem dX3_stock_20 : decode cX3_stock 20 = .ok (.aload_n 0, 1) := dk_42 (dk_at dksX3_stock_0 20 rfl rfl)
theorem dX3_stock_21 : decode cX3_stock 21 = .ok (.getfield 19, 3) := dk_180 0 19 (dk_at dksX3_stock_0 21 rfl rfl)
theorem dX3_stock_24 : decode cX3_stock 24 = .ok (.iload_n 1, 1) := dk_27 (dk_at dksX3_stock_1 0 rfl rfl)
theorem dX3_stock_25 : decode cX3_stock 25 = .ok (.iload_n 2, 1) := dk_28 (dk_at dksX3_stock_1 1 rfl rfl)
theorem dX3_stock_26 : decode cX3_stock 26 = .ok (.iastore, 1) := dk_79 (dk_at dksX3_stock_1 2 rfl rfl)
theorem dX3_stock_27 : decode cX3_stock 27 = .ok (.iconst 1, 1) := dk_4 (dk_at dksX3_stock_1 3 rfl rfl)
theorem dX3_stock_28 : decode cX3_stock 28 = .ok (.ireturn, 1) := dk_172 (dk_at dksX3_stock_1 4 rfl rfl)
abbrev cX3_pace : ByteArray := prog_26_method_91_code
def yX3_pace : MethodName := ⟨RX3, "pace", "(II)Z"⟩
def dkwX3_pace_1 : List UInt8 := [181, 0, 108, 42, 28, 181, 1, 134, 4, 172]
abbrev dktX3_pace_1 : List UInt8 := dkwX3_pace_1 ++ []
def dkwX3_pace_0 : List UInt8 := [27, 4, 16, 9, 184, 0, 121, 153, 0, 13, 28, 3, 16, 9, 184, 0, 121, 154, 0, 5, 3, 172, 42, 27]
abbrev dktX3_pace_0 : List UInt8 := dkwX3_pace_0 ++ dktX3_pace_1
theorem dksX3_pace_0 : cX3_pace.data.toList.drop 0 = dktX3_pace_0 := by decide +kernel
theorem dksX3_pace_1 : cX3_pace.data.toList.drop 24 = dktX3_pace_1 := dk_seg dksX3_pace_0 24 rfl rfl
theorem dX3_pace_0 : decode cX3_pace 0 = .ok (.iload_n 1, 1) := dk_27 (dk_at dksX3_pace_0 0 rfl rfl)
theorem dX3_pace_1 : decode cX3_pace 1 = .ok (.iconst 1, 1) := dk_4 (dk_at dksX3_pace_0 1 rfl rfl)
theorem dX3_pace_2 : decode cX3_pace 2 = .ok (.bipush 9, 2) := dk_16 9 (dk_at dksX3_pace_0 2 rfl rfl)
theorem dX3_pace_4 : decode cX3_pace 4 = .ok (.invokestatic 121, 3) := dk_184 0 121 (dk_at dksX3_pace_0 4 rfl rfl)
theorem dX3_pace_7 : decode cX3_pace 7 = .ok (.ifCond .eq 13, 3) := dk_153 0 13 (dk_at dksX3_pace_0 7 rfl rfl)
theorem dX3_pace_10 : decode cX3_pace 10 = .ok (.iload_n 2, 1) := dk_28 (dk_at dksX3_pace_0 10 rfl rfl)
theorem dX3_pace_11 : decode cX3_pace 11 = .ok (.iconst 0, 1) := dk_3 (dk_at dksX3_pace_0 11 rfl rfl)
theorem dX3_pace_12 : decode cX3_pace 12 = .ok (.bipush 9, 2) := dk_16 9 (dk_at dksX3_pace_0 12 rfl rfl)
theorem dX3_pace_14 : decode cX3_pace 14 = .ok (.invokestatic 121, 3) := dk_184 0 121 (dk_at dksX3_pace_0 14 rfl rfl)
theorem dX3_pace_17 : decode cX3_pace 17 = .ok (.ifCond .ne 5, 3) := dk_154 0 5 (dk_at dksX3_pace_0 17 rfl rfl)
theorem dX3_pace_20 : decode cX3_pace 20 = .ok (.iconst 0, 1) := dk_3 (dk_at dksX3_pace_0 20 rfl rfl)
theorem dX3_pace_21 : decode cX3_pace 21 = .ok (.ireturn, 1) := dk_172 (dk_at dksX3_pace_0 21 rfl rfl)
theorem dX3_pace_22 : decode cX3_pace 22 = .ok (.aload_n 0, 1) := dk_42 (dk_at dksX3_pace_0 22 rfl rfl)
theorem dX3_pace_23 : decode cX3_pace 23 = .ok (.iload_n 1, 1) := dk_27 (dk_at dksX3_pace_0 23 rfl rfl)
theorem dX3_pace_24 : decode cX3_pace 24 = .ok (.putfield 108, 3) := dk_181 0 108 (dk_at dksX3_pace_1 0 rfl rfl)
theorem dX3_pace_27 : decode cX3_pace 27 = .ok (.aload_n 0, 1) := dk_42 (dk_at dksX3_pace_1 3 rfl rfl)
theorem dX3_pace_28 : decode cX3_pace 28 = .ok (.iload_n 2, 1) := dk_28 (dk_at dksX3_pace_1 4 rfl rfl)
theorem dX3_pace_29 : decode cX3_pace 29 = .ok (.putfield 390, 3) := dk_181 1 134 (dk_at dksX3_pace_1 5 rfl rfl)
theorem dX3_pace_32 : decode cX3_pace 32 = .ok (.iconst 1, 1) := dk_4 (dk_at dksX3_pace_1 8 rfl rfl)
theorem dX3_pace_33 : decode cX3_pace 33 = .ok (.ireturn, 1) := dk_172 (dk_at dksX3_pace_1 9 rfl rfl)
abbrev cX3_comes : ByteArray := prog_26_method_92_code
def yX3_comes : MethodName := ⟨RX3, "comes", "(III)I"⟩
def dkwX3_comes_4 : List UInt8 := [180, 1, 137, 4, 96, 181, 1, 137, 42, 180, 1, 137, 4, 100, 172]
abbrev dktX3_comes_4 : List UInt8 := dkwX3_comes_4 ++ []
def dkwX3_comes_3 : List UInt8 := [42, 180, 0, 96, 42, 180, 1, 137, 28, 79, 42, 180, 0, 99, 42, 180, 1, 137, 29, 79, 42, 89]
abbrev dktX3_comes_3 : List UInt8 := dkwX3_comes_3 ++ dktX3_comes_4
def dkwX3_comes_2 : List UInt8 := [153, 0, 12, 42, 180, 1, 137, 16, 30, 160, 0, 5, 2, 172, 42, 180, 0, 93, 42, 180, 1, 137, 27, 79]
abbrev dktX3_comes_2 : List UInt8 := dkwX3_comes_2 ++ dktX3_comes_3
def dkwX3_comes_1 : List UInt8 := [42, 180, 1, 137, 4, 100, 46, 17, 39, 15, 184, 0, 121, 153, 0, 23, 29, 3, 17, 3, 231, 184, 0, 121]
abbrev dktX3_comes_1 : List UInt8 := dkwX3_comes_1 ++ dktX3_comes_2
def dkwX3_comes_0 : List UInt8 := [42, 28, 182, 1, 28, 153, 0, 55, 27, 42, 180, 1, 137, 154, 0, 7, 3, 167, 0, 14, 42, 180, 0, 93]
abbrev dktX3_comes_0 : List UInt8 := dkwX3_comes_0 ++ dktX3_comes_1
theorem dksX3_comes_0 : cX3_comes.data.toList.drop 0 = dktX3_comes_0 := by decide +kernel
theorem dksX3_comes_1 : cX3_comes.data.toList.drop 24 = dktX3_comes_1 := dk_seg dksX3_comes_0 24 rfl rfl
theorem dksX3_comes_2 : cX3_comes.data.toList.drop 48 = dktX3_comes_2 := dk_seg dksX3_comes_1 24 rfl rfl
theorem dksX3_comes_3 : cX3_comes.data.toList.drop 72 = dktX3_comes_3 := dk_seg dksX3_comes_2 24 rfl rfl
theorem dksX3_comes_4 : cX3_comes.data.toList.drop 94 = dktX3_comes_4 := dk_seg dksX3_comes_3 22 rfl rfl
theorem dX3_comes_0 : decode cX3_comes 0 = .ok (.aload_n 0, 1) := dk_42 (dk_at dksX3_comes_0 0 rfl rfl)
theorem dX3_comes_1 : decode cX3_comes 1 = .ok (.iload_n 2, 1) := dk_28 (dk_at dksX3_comes_0 1 rfl rfl)
theorem dX3_comes_2 : decode cX3_comes 2 = .ok (.invokevirtual 284, 3) := dk_182 1 28 (dk_at dksX3_comes_0 2 rfl rfl)
theorem dX3_comes_5 : decode cX3_comes 5 = .ok (.ifCond .eq 55, 3) := dk_153 0 55 (dk_at dksX3_comes_0 5 rfl rfl)
theorem dX3_comes_8 : decode cX3_comes 8 = .ok (.iload_n 1, 1) := dk_27 (dk_at dksX3_comes_0 8 rfl rfl)
theorem dX3_comes_9 : decode cX3_comes 9 = .ok (.aload_n 0, 1) := dk_42 (dk_at dksX3_comes_0 9 rfl rfl)
theorem dX3_comes_10 : decode cX3_comes 10 = .ok (.getfield 393, 3) := dk_180 1 137 (dk_at dksX3_comes_0 10 rfl rfl)
theorem dX3_comes_13 : decode cX3_comes 13 = .ok (.ifCond .ne 7, 3) := dk_154 0 7 (dk_at dksX3_comes_0 13 rfl rfl)
theorem dX3_comes_16 : decode cX3_comes 16 = .ok (.iconst 0, 1) := dk_3 (dk_at dksX3_comes_0 16 rfl rfl)
theorem dX3_comes_17 : decode cX3_comes 17 = .ok (.goto 14, 3) := dk_167 0 14 (dk_at dksX3_comes_0 17 rfl rfl)
theorem dX3_comes_20 : decode cX3_comes 20 = .ok (.aload_n 0, 1) := dk_42 (dk_at dksX3_comes_0 20 rfl rfl)
theorem dX3_comes_21 : decode cX3_comes 21 = .ok (.getfield 93, 3) := dk_180 0 93 (dk_at dksX3_comes_0 21 rfl rfl)
theorem dX3_comes_24 : decode cX3_comes 24 = .ok (.aload_n 0, 1) := dk_42 (dk_at dksX3_comes_1 0 rfl rfl)
theorem dX3_comes_25 : decode cX3_comes 25 = .ok (.getfield 393, 3) := dk_180 1 137 (dk_at dksX3_comes_1 1 rfl rfl)
theorem dX3_comes_28 : decode cX3_comes 28 = .ok (.iconst 1, 1) := dk_4 (dk_at dksX3_comes_1 4 rfl rfl)
theorem dX3_comes_29 : decode cX3_comes 29 = .ok (.isub, 1) := dk_100 (dk_at dksX3_comes_1 5 rfl rfl)
theorem dX3_comes_30 : decode cX3_comes 30 = .ok (.iaload, 1) := dk_46 (dk_at dksX3_comes_1 6 rfl rfl)
theorem dX3_comes_31 : decode cX3_comes 31 = .ok (.sipush 9999, 3) := dk_17 39 15 (dk_at dksX3_comes_1 7 rfl rfl)
theorem dX3_comes_34 : decode cX3_comes 34 = .ok (.invokestatic 121, 3) := dk_184 0 121 (dk_at dksX3_comes_1 10 rfl rfl)
theorem dX3_comes_37 : decode cX3_comes 37 = .ok (.ifCond .eq 23, 3) := dk_153 0 23 (dk_at dksX3_comes_1 13 rfl rfl)
theorem dX3_comes_40 : decode cX3_comes 40 = .ok (.iload_n 3, 1) := dk_29 (dk_at dksX3_comes_1 16 rfl rfl)
theorem dX3_comes_41 : decode cX3_comes 41 = .ok (.iconst 0, 1) := dk_3 (dk_at dksX3_comes_1 17 rfl rfl)
theorem dX3_comes_42 : decode cX3_comes 42 = .ok (.sipush 999, 3) := dk_17 3 231 (dk_at dksX3_comes_1 18 rfl rfl)
theorem dX3_comes_45 : decode cX3_comes 45 = .ok (.invokestatic 121, 3) := dk_184 0 121 (dk_at dksX3_comes_1 21 rfl rfl)
theorem dX3_comes_48 : decode cX3_comes 48 = .ok (.ifCond .eq 12, 3) := dk_153 0 12 (dk_at dksX3_comes_2 0 rfl rfl)
theorem dX3_comes_51 : decode cX3_comes 51 = .ok (.aload_n 0, 1) := dk_42 (dk_at dksX3_comes_2 3 rfl rfl)
theorem dX3_comes_52 : decode cX3_comes 52 = .ok (.getfield 393, 3) := dk_180 1 137 (dk_at dksX3_comes_2 4 rfl rfl)
theorem dX3_comes_55 : decode cX3_comes 55 = .ok (.bipush 30, 2) := dk_16 30 (dk_at dksX3_comes_2 7 rfl rfl)
theorem dX3_comes_57 : decode cX3_comes 57 = .ok (.if_icmp .ne 5, 3) := dk_160 0 5 (dk_at dksX3_comes_2 9 rfl rfl)
theorem dX3_comes_60 : decode cX3_comes 60 = .ok (.iconst (-1), 1) := dk_2 (dk_at dksX3_comes_2 12 rfl rfl)
theorem dX3_comes_61 : decode cX3_comes 61 = .ok (.ireturn, 1) := dk_172 (dk_at dksX3_comes_2 13 rfl rfl)
theorem dX3_comes_62 : decode cX3_comes 62 = .ok (.aload_n 0, 1) := dk_42 (dk_at dksX3_comes_2 14 rfl rfl)
theorem dX3_comes_63 : decode cX3_comes 63 = .ok (.getfield 93, 3) := dk_180 0 93 (dk_at dksX3_comes_2 15 rfl rfl)
theorem dX3_comes_66 : decode cX3_comes 66 = .ok (.aload_n 0, 1) := dk_42 (dk_at dksX3_comes_2 18 rfl rfl)
theorem dX3_comes_67 : decode cX3_comes 67 = .ok (.getfield 393, 3) := dk_180 1 137 (dk_at dksX3_comes_2 19 rfl rfl)
theorem dX3_comes_70 : decode cX3_comes 70 = .ok (.iload_n 1, 1) := dk_27 (dk_at dksX3_comes_2 22 rfl rfl)
theorem dX3_comes_71 : decode cX3_comes 71 = .ok (.iastore, 1) := dk_79 (dk_at dksX3_comes_2 23 rfl rfl)
theorem dX3_comes_72 : decode cX3_comes 72 = .ok (.aload_n 0, 1) := dk_42 (dk_at dksX3_comes_3 0 rfl rfl)
theorem dX3_comes_73 : decode cX3_comes 73 = .ok (.getfield 96, 3) := dk_180 0 96 (dk_at dksX3_comes_3 1 rfl rfl)
theorem dX3_comes_76 : decode cX3_comes 76 = .ok (.aload_n 0, 1) := dk_42 (dk_at dksX3_comes_3 4 rfl rfl)
theorem dX3_comes_77 : decode cX3_comes 77 = .ok (.getfield 393, 3) := dk_180 1 137 (dk_at dksX3_comes_3 5 rfl rfl)
theorem dX3_comes_80 : decode cX3_comes 80 = .ok (.iload_n 2, 1) := dk_28 (dk_at dksX3_comes_3 8 rfl rfl)
theorem dX3_comes_81 : decode cX3_comes 81 = .ok (.iastore, 1) := dk_79 (dk_at dksX3_comes_3 9 rfl rfl)
theorem dX3_comes_82 : decode cX3_comes 82 = .ok (.aload_n 0, 1) := dk_42 (dk_at dksX3_comes_3 10 rfl rfl)
theorem dX3_comes_83 : decode cX3_comes 83 = .ok (.getfield 99, 3) := dk_180 0 99 (dk_at dksX3_comes_3 11 rfl rfl)
theorem dX3_comes_86 : decode cX3_comes 86 = .ok (.aload_n 0, 1) := dk_42 (dk_at dksX3_comes_3 14 rfl rfl)
theorem dX3_comes_87 : decode cX3_comes 87 = .ok (.getfield 393, 3) := dk_180 1 137 (dk_at dksX3_comes_3 15 rfl rfl)
theorem dX3_comes_90 : decode cX3_comes 90 = .ok (.iload_n 3, 1) := dk_29 (dk_at dksX3_comes_3 18 rfl rfl)
theorem dX3_comes_91 : decode cX3_comes 91 = .ok (.iastore, 1) := dk_79 (dk_at dksX3_comes_3 19 rfl rfl)
theorem dX3_comes_92 : decode cX3_comes 92 = .ok (.aload_n 0, 1) := dk_42 (dk_at dksX3_comes_3 20 rfl rfl)
theorem dX3_comes_93 : decode cX3_comes 93 = .ok (.dup, 1) := dk_89 (dk_at dksX3_comes_3 21 rfl rfl)
theorem dX3_comes_94 : decode cX3_comes 94 = .ok (.getfield 393, 3) := dk_180 1 137 (dk_at dksX3_comes_4 0 rfl rfl)
theorem dX3_comes_97 : decode cX3_comes 97 = .ok (.iconst 1, 1) := dk_4 (dk_at dksX3_comes_4 3 rfl rfl)
theorem dX3_comes_98 : decode cX3_comes 98 = .ok (.iadd, 1) := dk_96 (dk_at dksX3_comes_4 4 rfl rfl)
theorem dX3_comes_99 : decode cX3_comes 99 = .ok (.putfield 393, 3) := dk_181 1 137 (dk_at dksX3_comes_4 5 rfl rfl)
theorem dX3_comes_102 : decode cX3_comes 102 = .ok (.aload_n 0, 1) := dk_42 (dk_at dksX3_comes_4 8 rfl rfl)
theorem dX3_comes_103 : decode cX3_comes 103 = .ok (.getfield 393, 3) := dk_180 1 137 (dk_at dksX3_comes_4 9 rfl rfl)
theorem dX3_comes_106 : decode cX3_comes 106 = .ok (.iconst 1, 1) := dk_4 (dk_at dksX3_comes_4 12 rfl rfl)
theorem dX3_comes_107 : decode cX3_comes 107 = .ok (.isub, 1) := dk_100 (dk_at dksX3_comes_4 13 rfl rfl)
theorem dX3_comes_108 : decode cX3_comes 108 = .ok (.ireturn, 1) := dk_172 (dk_at dksX3_comes_4 14 rfl rfl)
abbrev cX3_close : ByteArray := prog_26_method_93_code
def yX3_close : MethodName := ⟨RX3, "close", "()I"⟩
def dkwX3_close_0 : List UInt8 := [42, 180, 1, 137, 60, 42, 3, 181, 1, 137, 42, 3, 181, 1, 140, 27, 172]
abbrev dktX3_close_0 : List UInt8 := dkwX3_close_0 ++ []
theorem dksX3_close_0 : cX3_close.data.toList.drop 0 = dktX3_close_0 := by decide +kernel
theorem dX3_close_0 : decode cX3_close 0 = .ok (.aload_n 0, 1) := dk_42 (dk_at dksX3_close_0 0 rfl rfl)
theorem dX3_close_1 : decode cX3_close 1 = .ok (.getfield 393, 3) := dk_180 1 137 (dk_at dksX3_close_0 1 rfl rfl)
theorem dX3_close_4 : decode cX3_close 4 = .ok (.istore_n 1, 1) := dk_60 (dk_at dksX3_close_0 4 rfl rfl)
theorem dX3_close_5 : decode cX3_close 5 = .ok (.aload_n 0, 1) := dk_42 (dk_at dksX3_close_0 5 rfl rfl)
theorem dX3_close_6 : decode cX3_close 6 = .ok (.iconst 0, 1) := dk_3 (dk_at dksX3_close_0 6 rfl rfl)
theorem dX3_close_7 : decode cX3_close 7 = .ok (.putfield 393, 3) := dk_181 1 137 (dk_at dksX3_close_0 7 rfl rfl)
theorem dX3_close_10 : decode cX3_close 10 = .ok (.aload_n 0, 1) := dk_42 (dk_at dksX3_close_0 10 rfl rfl)
theorem dX3_close_11 : decode cX3_close 11 = .ok (.iconst 0, 1) := dk_3 (dk_at dksX3_close_0 11 rfl rfl)
theorem dX3_close_12 : decode cX3_close 12 = .ok (.putfield 396, 3) := dk_181 1 140 (dk_at dksX3_close_0 12 rfl rfl)
theorem dX3_close_15 : decode cX3_close 15 = .ok (.iload_n 1, 1) := dk_27 (dk_at dksX3_close_0 15 rfl rfl)
theorem dX3_close_16 : decode cX3_close 16 = .ok (.ireturn, 1) := dk_172 (dk_at dksX3_close_0 16 rfl rfl)
abbrev cX3_run : ByteArray := prog_26_method_96_code
def yX3_run : MethodName := ⟨RX3, "run", "(J)I"⟩
def dkwX3_run_14 : List UInt8 := [21, 9, 54, 5, 132, 7, 1, 167, 254, 218, 42, 42, 180, 1, 137, 181, 1, 140, 21, 6, 172]
abbrev dktX3_run_14 : List UInt8 := dkwX3_run_14 ++ []
def dkwX3_run_13 : List UInt8 := [21, 7, 104, 6, 96, 21, 11, 79, 21, 6, 21, 10, 154, 0, 7, 4, 167, 0, 4, 3, 96, 54, 6]
abbrev dktX3_run_13 : List UInt8 := dkwX3_run_13 ++ dktX3_run_14
def dkwX3_run_12 : List UInt8 := [21, 7, 104, 21, 10, 79, 42, 180, 0, 102, 7, 21, 7, 104, 5, 96, 21, 9, 79, 42, 180, 0, 102, 7]
abbrev dktX3_run_12 : List UInt8 := dkwX3_run_12 ++ dktX3_run_13
def dkwX3_run_11 : List UInt8 := [155, 0, 7, 4, 167, 0, 4, 3, 54, 14, 167, 255, 156, 132, 12, 1, 167, 255, 115, 42, 180, 0, 102, 7]
abbrev dktX3_run_11 : List UInt8 := dkwX3_run_11 ++ dktX3_run_12
def dkwX3_run_10 : List UInt8 := [105, 20, 1, 151, 97, 66, 33, 16, 33, 125, 20, 1, 153, 113, 42, 180, 0, 16, 21, 13, 46, 133, 148]
abbrev dktX3_run_10 : List UInt8 := dkwX3_run_10 ++ dktX3_run_11
def dkwX3_run_9 : List UInt8 := [180, 1, 134, 42, 180, 0, 108, 42, 21, 8, 21, 12, 182, 1, 146, 104, 96, 96, 54, 9, 33, 20, 1, 149]
abbrev dktX3_run_9 : List UInt8 := dkwX3_run_9 ++ dktX3_run_10
def dkwX3_run_8 : List UInt8 := [54, 10, 167, 255, 233, 42, 180, 0, 105, 21, 13, 92, 46, 4, 100, 79, 132, 11, 1, 21, 9, 42]
abbrev dktX3_run_8 : List UInt8 := dkwX3_run_8 ++ dktX3_run_9
def dkwX3_run_7 : List UInt8 := [54, 14, 21, 14, 154, 0, 101, 21, 10, 154, 0, 96, 42, 180, 0, 105, 21, 13, 46, 154, 0, 9, 6]
abbrev dktX3_run_7 : List UInt8 := dkwX3_run_7 ++ dktX3_run_8
def dkwX3_run_6 : List UInt8 := [162, 0, 135, 21, 10, 154, 0, 130, 42, 180, 0, 28, 16, 6, 21, 8, 104, 21, 12, 96, 46, 54, 13, 3]
abbrev dktX3_run_6 : List UInt8 := dkwX3_run_6 ++ dktX3_run_7
def dkwX3_run_5 : List UInt8 := [3, 167, 0, 4, 5, 54, 10, 3, 54, 11, 3, 54, 12, 21, 12, 42, 180, 0, 25, 21, 8, 46]
abbrev dktX3_run_5 : List UInt8 := dkwX3_run_5 ++ dktX3_run_6
def dkwX3_run_4 : List UInt8 := [100, 42, 180, 0, 99, 21, 7, 46, 164, 0, 7, 4, 167, 0, 17, 42, 21, 8, 182, 1, 143, 153, 0, 7]
abbrev dktX3_run_4 : List UInt8 := dkwX3_run_4 ++ dktX3_run_5
def dkwX3_run_3 : List UInt8 := [54, 9, 42, 180, 0, 102, 7, 21, 7, 104, 4, 96, 21, 9, 79, 21, 9, 42, 180, 0, 93, 21, 7, 46]
abbrev dktX3_run_3 : List UInt8 := dkwX3_run_3 ++ dktX3_run_4
def dkwX3_run_2 : List UInt8 := [162, 1, 35, 42, 180, 0, 96, 21, 7, 46, 54, 8, 21, 5, 42, 180, 0, 93, 21, 7, 46, 184, 0, 149]
abbrev dktX3_run_2 : List UInt8 := dkwX3_run_2 ++ dktX3_run_3
def dkwX3_run_1 : List UInt8 := [132, 3, 1, 167, 255, 233, 31, 66, 3, 54, 5, 3, 54, 6, 3, 54, 7, 21, 7, 42, 180, 1, 137]
abbrev dktX3_run_1 : List UInt8 := dkwX3_run_1 ++ dktX3_run_2
def dkwX3_run_0 : List UInt8 := [3, 62, 29, 42, 180, 0, 125, 162, 0, 21, 42, 180, 0, 105, 29, 42, 180, 0, 19, 29, 46, 79]
abbrev dktX3_run_0 : List UInt8 := dkwX3_run_0 ++ dktX3_run_1
theorem dksX3_run_0 : cX3_run.data.toList.drop 0 = dktX3_run_0 := by decide +kernel
theorem dksX3_run_1 : cX3_run.data.toList.drop 22 = dktX3_run_1 := dk_seg dksX3_run_0 22 rfl rfl
theorem dksX3_run_2 : cX3_run.data.toList.drop 45 = dktX3_run_2 := dk_seg dksX3_run_1 23 rfl rfl
theorem dksX3_run_3 : cX3_run.data.toList.drop 69 = dktX3_run_3 := dk_seg dksX3_run_2 24 rfl rfl
theorem dksX3_run_4 : cX3_run.data.toList.drop 93 = dktX3_run_4 := dk_seg dksX3_run_3 24 rfl rfl
theorem dksX3_run_5 : cX3_run.data.toList.drop 117 = dktX3_run_5 := dk_seg dksX3_run_4 24 rfl rfl
theorem dksX3_run_6 : cX3_run.data.toList.drop 139 = dktX3_run_6 := dk_seg dksX3_run_5 22 rfl rfl
theorem dksX3_run_7 : cX3_run.data.toList.drop 163 = dktX3_run_7 := dk_seg dksX3_run_6 24 rfl rfl
theorem dksX3_run_8 : cX3_run.data.toList.drop 186 = dktX3_run_8 := dk_seg dksX3_run_7 23 rfl rfl
theorem dksX3_run_9 : cX3_run.data.toList.drop 208 = dktX3_run_9 := dk_seg dksX3_run_8 22 rfl rfl
theorem dksX3_run_10 : cX3_run.data.toList.drop 232 = dktX3_run_10 := dk_seg dksX3_run_9 24 rfl rfl
theorem dksX3_run_11 : cX3_run.data.toList.drop 255 = dktX3_run_11 := dk_seg dksX3_run_10 23 rfl rfl
theorem dksX3_run_12 : cX3_run.data.toList.drop 279 = dktX3_run_12 := dk_seg dksX3_run_11 24 rfl rfl
theorem dksX3_run_13 : cX3_run.data.toList.drop 303 = dktX3_run_13 := dk_seg dksX3_run_12 24 rfl rfl
theorem dksX3_run_14 : cX3_run.data.toList.drop 326 = dktX3_run_14 := dk_seg dksX3_run_13 23 rfl rfl
theorem dX3_run_0 : decode cX3_run 0 = .ok (.iconst 0, 1) := dk_3 (dk_at dksX3_run_0 0 rfl rfl)
theorem dX3_run_1 : decode cX3_run 1 = .ok (.istore_n 3, 1) := dk_62 (dk_at dksX3_run_0 1 rfl rfl)
theorem dX3_run_2 : decode cX3_run 2 = .ok (.iload_n 3, 1) := dk_29 (dk_at dksX3_run_0 2 rfl rfl)
theorem dX3_run_3 : decode cX3_run 3 = .ok (.aload_n 0, 1) := dk_42 (dk_at dksX3_run_0 3 rfl rfl)
theorem dX3_run_4 : decode cX3_run 4 = .ok (.getfield 125, 3) := dk_180 0 125 (dk_at dksX3_run_0 4 rfl rfl)
theorem dX3_run_7 : decode cX3_run 7 = .ok (.if_icmp .ge 21, 3) := dk_162 0 21 (dk_at dksX3_run_0 7 rfl rfl)
theorem dX3_run_10 : decode cX3_run 10 = .ok (.aload_n 0, 1) := dk_42 (dk_at dksX3_run_0 10 rfl rfl)
theorem dX3_run_11 : decode cX3_run 11 = .ok (.getfield 105, 3) := dk_180 0 105 (dk_at dksX3_run_0 11 rfl rfl)
theorem dX3_run_14 : decode cX3_run 14 = .ok (.iload_n 3, 1) := dk_29 (dk_at dksX3_run_0 14 rfl rfl)
theorem dX3_run_15 : decode cX3_run 15 = .ok (.aload_n 0, 1) := dk_42 (dk_at dksX3_run_0 15 rfl rfl)
theorem dX3_run_16 : decode cX3_run 16 = .ok (.getfield 19, 3) := dk_180 0 19 (dk_at dksX3_run_0 16 rfl rfl)
theorem dX3_run_19 : decode cX3_run 19 = .ok (.iload_n 3, 1) := dk_29 (dk_at dksX3_run_0 19 rfl rfl)
theorem dX3_run_20 : decode cX3_run 20 = .ok (.iaload, 1) := dk_46 (dk_at dksX3_run_0 20 rfl rfl)
theorem dX3_run_21 : decode cX3_run 21 = .ok (.iastore, 1) := dk_79 (dk_at dksX3_run_0 21 rfl rfl)
theorem dX3_run_22 : decode cX3_run 22 = .ok (.iinc 3 1, 3) := dk_132 3 1 (dk_at dksX3_run_1 0 rfl rfl)
theorem dX3_run_25 : decode cX3_run 25 = .ok (.goto (-23), 3) := dk_167 255 233 (dk_at dksX3_run_1 3 rfl rfl)
theorem dX3_run_28 : decode cX3_run 28 = .ok (.lload_n 1, 1) := dk_31 (dk_at dksX3_run_1 6 rfl rfl)
theorem dX3_run_29 : decode cX3_run 29 = .ok (.lstore_n 3, 1) := dk_66 (dk_at dksX3_run_1 7 rfl rfl)
theorem dX3_run_30 : decode cX3_run 30 = .ok (.iconst 0, 1) := dk_3 (dk_at dksX3_run_1 8 rfl rfl)
theorem dX3_run_31 : decode cX3_run 31 = .ok (.istore 5, 2) := dk_54 5 (dk_at dksX3_run_1 9 rfl rfl)
theorem dX3_run_33 : decode cX3_run 33 = .ok (.iconst 0, 1) := dk_3 (dk_at dksX3_run_1 11 rfl rfl)
theorem dX3_run_34 : decode cX3_run 34 = .ok (.istore 6, 2) := dk_54 6 (dk_at dksX3_run_1 12 rfl rfl)
theorem dX3_run_36 : decode cX3_run 36 = .ok (.iconst 0, 1) := dk_3 (dk_at dksX3_run_1 14 rfl rfl)
theorem dX3_run_37 : decode cX3_run 37 = .ok (.istore 7, 2) := dk_54 7 (dk_at dksX3_run_1 15 rfl rfl)
theorem dX3_run_39 : decode cX3_run 39 = .ok (.iload 7, 2) := dk_21 7 (dk_at dksX3_run_1 17 rfl rfl)
theorem dX3_run_41 : decode cX3_run 41 = .ok (.aload_n 0, 1) := dk_42 (dk_at dksX3_run_1 19 rfl rfl)
theorem dX3_run_42 : decode cX3_run 42 = .ok (.getfield 393, 3) := dk_180 1 137 (dk_at dksX3_run_1 20 rfl rfl)
theorem dX3_run_45 : decode cX3_run 45 = .ok (.if_icmp .ge 291, 3) := dk_162 1 35 (dk_at dksX3_run_2 0 rfl rfl)
theorem dX3_run_48 : decode cX3_run 48 = .ok (.aload_n 0, 1) := dk_42 (dk_at dksX3_run_2 3 rfl rfl)
theorem dX3_run_49 : decode cX3_run 49 = .ok (.getfield 96, 3) := dk_180 0 96 (dk_at dksX3_run_2 4 rfl rfl)
theorem dX3_run_52 : decode cX3_run 52 = .ok (.iload 7, 2) := dk_21 7 (dk_at dksX3_run_2 7 rfl rfl)
theorem dX3_run_54 : decode cX3_run 54 = .ok (.iaload, 1) := dk_46 (dk_at dksX3_run_2 9 rfl rfl)
theorem dX3_run_55 : decode cX3_run 55 = .ok (.istore 8, 2) := dk_54 8 (dk_at dksX3_run_2 10 rfl rfl)
theorem dX3_run_57 : decode cX3_run 57 = .ok (.iload 5, 2) := dk_21 5 (dk_at dksX3_run_2 12 rfl rfl)
theorem dX3_run_59 : decode cX3_run 59 = .ok (.aload_n 0, 1) := dk_42 (dk_at dksX3_run_2 14 rfl rfl)
theorem dX3_run_60 : decode cX3_run 60 = .ok (.getfield 93, 3) := dk_180 0 93 (dk_at dksX3_run_2 15 rfl rfl)
theorem dX3_run_63 : decode cX3_run 63 = .ok (.iload 7, 2) := dk_21 7 (dk_at dksX3_run_2 18 rfl rfl)
theorem dX3_run_65 : decode cX3_run 65 = .ok (.iaload, 1) := dk_46 (dk_at dksX3_run_2 20 rfl rfl)
theorem dX3_run_66 : decode cX3_run 66 = .ok (.invokestatic 149, 3) := dk_184 0 149 (dk_at dksX3_run_2 21 rfl rfl)
theorem dX3_run_69 : decode cX3_run 69 = .ok (.istore 9, 2) := dk_54 9 (dk_at dksX3_run_3 0 rfl rfl)
theorem dX3_run_71 : decode cX3_run 71 = .ok (.aload_n 0, 1) := dk_42 (dk_at dksX3_run_3 2 rfl rfl)
theorem dX3_run_72 : decode cX3_run 72 = .ok (.getfield 102, 3) := dk_180 0 102 (dk_at dksX3_run_3 3 rfl rfl)
theorem dX3_run_75 : decode cX3_run 75 = .ok (.iconst 4, 1) := dk_7 (dk_at dksX3_run_3 6 rfl rfl)
theorem dX3_run_76 : decode cX3_run 76 = .ok (.iload 7, 2) := dk_21 7 (dk_at dksX3_run_3 7 rfl rfl)
theorem dX3_run_78 : decode cX3_run 78 = .ok (.imul, 1) := dk_104 (dk_at dksX3_run_3 9 rfl rfl)
theorem dX3_run_79 : decode cX3_run 79 = .ok (.iconst 1, 1) := dk_4 (dk_at dksX3_run_3 10 rfl rfl)
theorem dX3_run_80 : decode cX3_run 80 = .ok (.iadd, 1) := dk_96 (dk_at dksX3_run_3 11 rfl rfl)
theorem dX3_run_81 : decode cX3_run 81 = .ok (.iload 9, 2) := dk_21 9 (dk_at dksX3_run_3 12 rfl rfl)
theorem dX3_run_83 : decode cX3_run 83 = .ok (.iastore, 1) := dk_79 (dk_at dksX3_run_3 14 rfl rfl)
theorem dX3_run_84 : decode cX3_run 84 = .ok (.iload 9, 2) := dk_21 9 (dk_at dksX3_run_3 15 rfl rfl)
theorem dX3_run_86 : decode cX3_run 86 = .ok (.aload_n 0, 1) := dk_42 (dk_at dksX3_run_3 17 rfl rfl)
theorem dX3_run_87 : decode cX3_run 87 = .ok (.getfield 93, 3) := dk_180 0 93 (dk_at dksX3_run_3 18 rfl rfl)
theorem dX3_run_90 : decode cX3_run 90 = .ok (.iload 7, 2) := dk_21 7 (dk_at dksX3_run_3 21 rfl rfl)
theorem dX3_run_92 : decode cX3_run 92 = .ok (.iaload, 1) := dk_46 (dk_at dksX3_run_3 23 rfl rfl)
theorem dX3_run_93 : decode cX3_run 93 = .ok (.isub, 1) := dk_100 (dk_at dksX3_run_4 0 rfl rfl)
theorem dX3_run_94 : decode cX3_run 94 = .ok (.aload_n 0, 1) := dk_42 (dk_at dksX3_run_4 1 rfl rfl)
theorem dX3_run_95 : decode cX3_run 95 = .ok (.getfield 99, 3) := dk_180 0 99 (dk_at dksX3_run_4 2 rfl rfl)
theorem dX3_run_98 : decode cX3_run 98 = .ok (.iload 7, 2) := dk_21 7 (dk_at dksX3_run_4 5 rfl rfl)
theorem dX3_run_100 : decode cX3_run 100 = .ok (.iaload, 1) := dk_46 (dk_at dksX3_run_4 7 rfl rfl)
theorem dX3_run_101 : decode cX3_run 101 = .ok (.if_icmp .le 7, 3) := dk_164 0 7 (dk_at dksX3_run_4 8 rfl rfl)
theorem dX3_run_104 : decode cX3_run 104 = .ok (.iconst 1, 1) := dk_4 (dk_at dksX3_run_4 11 rfl rfl)
theorem dX3_run_105 : decode cX3_run 105 = .ok (.goto 17, 3) := dk_167 0 17 (dk_at dksX3_run_4 12 rfl rfl)
theorem dX3_run_108 : decode cX3_run 108 = .ok (.aload_n 0, 1) := dk_42 (dk_at dksX3_run_4 15 rfl rfl)
theorem dX3_run_109 : decode cX3_run 109 = .ok (.iload 8, 2) := dk_21 8 (dk_at dksX3_run_4 16 rfl rfl)
theorem dX3_run_111 : decode cX3_run 111 = .ok (.invokevirtual 399, 3) := dk_182 1 143 (dk_at dksX3_run_4 18 rfl rfl)
theorem dX3_run_114 : decode cX3_run 114 = .ok (.ifCond .eq 7, 3) := dk_153 0 7 (dk_at dksX3_run_4 21 rfl rfl)
theorem dX3_run_117 : decode cX3_run 117 = .ok (.iconst 0, 1) := dk_3 (dk_at dksX3_run_5 0 rfl rfl)
theorem dX3_run_118 : decode cX3_run 118 = .ok (.goto 4, 3) := dk_167 0 4 (dk_at dksX3_run_5 1 rfl rfl)
theorem dX3_run_121 : decode cX3_run 121 = .ok (.iconst 2, 1) := dk_5 (dk_at dksX3_run_5 4 rfl rfl)
theorem dX3_run_122 : decode cX3_run 122 = .ok (.istore 10, 2) := dk_54 10 (dk_at dksX3_run_5 5 rfl rfl)
theorem dX3_run_124 : decode cX3_run 124 = .ok (.iconst 0, 1) := dk_3 (dk_at dksX3_run_5 7 rfl rfl)
theorem dX3_run_125 : decode cX3_run 125 = .ok (.istore 11, 2) := dk_54 11 (dk_at dksX3_run_5 8 rfl rfl)
theorem dX3_run_127 : decode cX3_run 127 = .ok (.iconst 0, 1) := dk_3 (dk_at dksX3_run_5 10 rfl rfl)
theorem dX3_run_128 : decode cX3_run 128 = .ok (.istore 12, 2) := dk_54 12 (dk_at dksX3_run_5 11 rfl rfl)
theorem dX3_run_130 : decode cX3_run 130 = .ok (.iload 12, 2) := dk_21 12 (dk_at dksX3_run_5 13 rfl rfl)
theorem dX3_run_132 : decode cX3_run 132 = .ok (.aload_n 0, 1) := dk_42 (dk_at dksX3_run_5 15 rfl rfl)
theorem dX3_run_133 : decode cX3_run 133 = .ok (.getfield 25, 3) := dk_180 0 25 (dk_at dksX3_run_5 16 rfl rfl)
theorem dX3_run_136 : decode cX3_run 136 = .ok (.iload 8, 2) := dk_21 8 (dk_at dksX3_run_5 19 rfl rfl)
theorem dX3_run_138 : decode cX3_run 138 = .ok (.iaload, 1) := dk_46 (dk_at dksX3_run_5 21 rfl rfl)
theorem dX3_run_139 : decode cX3_run 139 = .ok (.if_icmp .ge 135, 3) := dk_162 0 135 (dk_at dksX3_run_6 0 rfl rfl)
theorem dX3_run_142 : decode cX3_run 142 = .ok (.iload 10, 2) := dk_21 10 (dk_at dksX3_run_6 3 rfl rfl)
theorem dX3_run_144 : decode cX3_run 144 = .ok (.ifCond .ne 130, 3) := dk_154 0 130 (dk_at dksX3_run_6 5 rfl rfl)
theorem dX3_run_147 : decode cX3_run 147 = .ok (.aload_n 0, 1) := dk_42 (dk_at dksX3_run_6 8 rfl rfl)
theorem dX3_run_148 : decode cX3_run 148 = .ok (.getfield 28, 3) := dk_180 0 28 (dk_at dksX3_run_6 9 rfl rfl)
theorem dX3_run_151 : decode cX3_run 151 = .ok (.bipush 6, 2) := dk_16 6 (dk_at dksX3_run_6 12 rfl rfl)
theorem dX3_run_153 : decode cX3_run 153 = .ok (.iload 8, 2) := dk_21 8 (dk_at dksX3_run_6 14 rfl rfl)
theorem dX3_run_155 : decode cX3_run 155 = .ok (.imul, 1) := dk_104 (dk_at dksX3_run_6 16 rfl rfl)
theorem dX3_run_156 : decode cX3_run 156 = .ok (.iload 12, 2) := dk_21 12 (dk_at dksX3_run_6 17 rfl rfl)
theorem dX3_run_158 : decode cX3_run 158 = .ok (.iadd, 1) := dk_96 (dk_at dksX3_run_6 19 rfl rfl)
theorem dX3_run_159 : decode cX3_run 159 = .ok (.iaload, 1) := dk_46 (dk_at dksX3_run_6 20 rfl rfl)
theorem dX3_run_160 : decode cX3_run 160 = .ok (.istore 13, 2) := dk_54 13 (dk_at dksX3_run_6 21 rfl rfl)
theorem dX3_run_162 : decode cX3_run 162 = .ok (.iconst 0, 1) := dk_3 (dk_at dksX3_run_6 23 rfl rfl)
theorem dX3_run_163 : decode cX3_run 163 = .ok (.istore 14, 2) := dk_54 14 (dk_at dksX3_run_7 0 rfl rfl)
theorem dX3_run_165 : decode cX3_run 165 = .ok (.iload 14, 2) := dk_21 14 (dk_at dksX3_run_7 2 rfl rfl)
theorem dX3_run_167 : decode cX3_run 167 = .ok (.ifCond .ne 101, 3) := dk_154 0 101 (dk_at dksX3_run_7 4 rfl rfl)
theorem dX3_run_170 : decode cX3_run 170 = .ok (.iload 10, 2) := dk_21 10 (dk_at dksX3_run_7 7 rfl rfl)
theorem dX3_run_172 : decode cX3_run 172 = .ok (.ifCond .ne 96, 3) := dk_154 0 96 (dk_at dksX3_run_7 9 rfl rfl)
theorem dX3_run_175 : decode cX3_run 175 = .ok (.aload_n 0, 1) := dk_42 (dk_at dksX3_run_7 12 rfl rfl)
theorem dX3_run_176 : decode cX3_run 176 = .ok (.getfield 105, 3) := dk_180 0 105 (dk_at dksX3_run_7 13 rfl rfl)
theorem dX3_run_179 : decode cX3_run 179 = .ok (.iload 13, 2) := dk_21 13 (dk_at dksX3_run_7 16 rfl rfl)
theorem dX3_run_181 : decode cX3_run 181 = .ok (.iaload, 1) := dk_46 (dk_at dksX3_run_7 18 rfl rfl)
theorem dX3_run_182 : decode cX3_run 182 = .ok (.ifCond .ne 9, 3) := dk_154 0 9 (dk_at dksX3_run_7 19 rfl rfl)
theorem dX3_run_185 : decode cX3_run 185 = .ok (.iconst 3, 1) := dk_6 (dk_at dksX3_run_7 22 rfl rfl)
theorem dX3_run_186 : decode cX3_run 186 = .ok (.istore 10, 2) := dk_54 10 (dk_at dksX3_run_8 0 rfl rfl)
theorem dX3_run_188 : decode cX3_run 188 = .ok (.goto (-23), 3) := dk_167 255 233 (dk_at dksX3_run_8 2 rfl rfl)
theorem dX3_run_191 : decode cX3_run 191 = .ok (.aload_n 0, 1) := dk_42 (dk_at dksX3_run_8 5 rfl rfl)
theorem dX3_run_192 : decode cX3_run 192 = .ok (.getfield 105, 3) := dk_180 0 105 (dk_at dksX3_run_8 6 rfl rfl)
theorem dX3_run_195 : decode cX3_run 195 = .ok (.iload 13, 2) := dk_21 13 (dk_at dksX3_run_8 9 rfl rfl)
theorem dX3_run_197 : decode cX3_run 197 = .ok (.dup2, 1) := dk_92 (dk_at dksX3_run_8 11 rfl rfl)
theorem dX3_run_198 : decode cX3_run 198 = .ok (.iaload, 1) := dk_46 (dk_at dksX3_run_8 12 rfl rfl)
theorem dX3_run_199 : decode cX3_run 199 = .ok (.iconst 1, 1) := dk_4 (dk_at dksX3_run_8 13 rfl rfl)
theorem dX3_run_200 : decode cX3_run 200 = .ok (.isub, 1) := dk_100 (dk_at dksX3_run_8 14 rfl rfl)
theorem dX3_run_201 : decode cX3_run 201 = .ok (.iastore, 1) := dk_79 (dk_at dksX3_run_8 15 rfl rfl)
theorem dX3_run_202 : decode cX3_run 202 = .ok (.iinc 11 1, 3) := dk_132 11 1 (dk_at dksX3_run_8 16 rfl rfl)
theorem dX3_run_205 : decode cX3_run 205 = .ok (.iload 9, 2) := dk_21 9 (dk_at dksX3_run_8 19 rfl rfl)
theorem dX3_run_207 : decode cX3_run 207 = .ok (.aload_n 0, 1) := dk_42 (dk_at dksX3_run_8 21 rfl rfl)
theorem dX3_run_208 : decode cX3_run 208 = .ok (.getfield 390, 3) := dk_180 1 134 (dk_at dksX3_run_9 0 rfl rfl)
theorem dX3_run_211 : decode cX3_run 211 = .ok (.aload_n 0, 1) := dk_42 (dk_at dksX3_run_9 3 rfl rfl)
theorem dX3_run_212 : decode cX3_run 212 = .ok (.getfield 108, 3) := dk_180 0 108 (dk_at dksX3_run_9 4 rfl rfl)
theorem dX3_run_215 : decode cX3_run 215 = .ok (.aload_n 0, 1) := dk_42 (dk_at dksX3_run_9 7 rfl rfl)
theorem dX3_run_216 : decode cX3_run 216 = .ok (.iload 8, 2) := dk_21 8 (dk_at dksX3_run_9 8 rfl rfl)
theorem dX3_run_218 : decode cX3_run 218 = .ok (.iload 12, 2) := dk_21 12 (dk_at dksX3_run_9 10 rfl rfl)
theorem dX3_run_220 : decode cX3_run 220 = .ok (.invokevirtual 402, 3) := dk_182 1 146 (dk_at dksX3_run_9 12 rfl rfl)
theorem dX3_run_223 : decode cX3_run 223 = .ok (.imul, 1) := dk_104 (dk_at dksX3_run_9 15 rfl rfl)
theorem dX3_run_224 : decode cX3_run 224 = .ok (.iadd, 1) := dk_96 (dk_at dksX3_run_9 16 rfl rfl)
theorem dX3_run_225 : decode cX3_run 225 = .ok (.iadd, 1) := dk_96 (dk_at dksX3_run_9 17 rfl rfl)
theorem dX3_run_226 : decode cX3_run 226 = .ok (.istore 9, 2) := dk_54 9 (dk_at dksX3_run_9 18 rfl rfl)
theorem dX3_run_228 : decode cX3_run 228 = .ok (.lload_n 3, 1) := dk_33 (dk_at dksX3_run_9 20 rfl rfl)
theorem dX3_run_229 : decode cX3_run 229 = .ok (.ldc2_w 405, 3) := dk_20 1 149 (dk_at dksX3_run_9 21 rfl rfl)
theorem dX3_run_232 : decode cX3_run 232 = .ok (.lmul, 1) := dk_105 (dk_at dksX3_run_10 0 rfl rfl)
theorem dX3_run_233 : decode cX3_run 233 = .ok (.ldc2_w 407, 3) := dk_20 1 151 (dk_at dksX3_run_10 1 rfl rfl)
theorem dX3_run_236 : decode cX3_run 236 = .ok (.ladd, 1) := dk_97 (dk_at dksX3_run_10 4 rfl rfl)
theorem dX3_run_237 : decode cX3_run 237 = .ok (.lstore_n 3, 1) := dk_66 (dk_at dksX3_run_10 5 rfl rfl)
theorem dX3_run_238 : decode cX3_run 238 = .ok (.lload_n 3, 1) := dk_33 (dk_at dksX3_run_10 6 rfl rfl)
theorem dX3_run_239 : decode cX3_run 239 = .ok (.bipush 33, 2) := dk_16 33 (dk_at dksX3_run_10 7 rfl rfl)
theorem dX3_run_241 : decode cX3_run 241 = .ok (.lushr, 1) := dk_125 (dk_at dksX3_run_10 9 rfl rfl)
theorem dX3_run_242 : decode cX3_run 242 = .ok (.ldc2_w 409, 3) := dk_20 1 153 (dk_at dksX3_run_10 10 rfl rfl)
theorem dX3_run_245 : decode cX3_run 245 = .ok (.lrem, 1) := dk_113 (dk_at dksX3_run_10 13 rfl rfl)
theorem dX3_run_246 : decode cX3_run 246 = .ok (.aload_n 0, 1) := dk_42 (dk_at dksX3_run_10 14 rfl rfl)
theorem dX3_run_247 : decode cX3_run 247 = .ok (.getfield 16, 3) := dk_180 0 16 (dk_at dksX3_run_10 15 rfl rfl)
theorem dX3_run_250 : decode cX3_run 250 = .ok (.iload 13, 2) := dk_21 13 (dk_at dksX3_run_10 18 rfl rfl)
theorem dX3_run_252 : decode cX3_run 252 = .ok (.iaload, 1) := dk_46 (dk_at dksX3_run_10 20 rfl rfl)
theorem dX3_run_253 : decode cX3_run 253 = .ok (.i2l, 1) := dk_133 (dk_at dksX3_run_10 21 rfl rfl)
theorem dX3_run_254 : decode cX3_run 254 = .ok (.lcmp, 1) := dk_148 (dk_at dksX3_run_10 22 rfl rfl)
theorem dX3_run_255 : decode cX3_run 255 = .ok (.ifCond .lt 7, 3) := dk_155 0 7 (dk_at dksX3_run_11 0 rfl rfl)
theorem dX3_run_258 : decode cX3_run 258 = .ok (.iconst 1, 1) := dk_4 (dk_at dksX3_run_11 3 rfl rfl)
theorem dX3_run_259 : decode cX3_run 259 = .ok (.goto 4, 3) := dk_167 0 4 (dk_at dksX3_run_11 4 rfl rfl)
theorem dX3_run_262 : decode cX3_run 262 = .ok (.iconst 0, 1) := dk_3 (dk_at dksX3_run_11 7 rfl rfl)
theorem dX3_run_263 : decode cX3_run 263 = .ok (.istore 14, 2) := dk_54 14 (dk_at dksX3_run_11 8 rfl rfl)
theorem dX3_run_265 : decode cX3_run 265 = .ok (.goto (-100), 3) := dk_167 255 156 (dk_at dksX3_run_11 10 rfl rfl)
theorem dX3_run_268 : decode cX3_run 268 = .ok (.iinc 12 1, 3) := dk_132 12 1 (dk_at dksX3_run_11 13 rfl rfl)
theorem dX3_run_271 : decode cX3_run 271 = .ok (.goto (-141), 3) := dk_167 255 115 (dk_at dksX3_run_11 16 rfl rfl)
theorem dX3_run_274 : decode cX3_run 274 = .ok (.aload_n 0, 1) := dk_42 (dk_at dksX3_run_11 19 rfl rfl)
theorem dX3_run_275 : decode cX3_run 275 = .ok (.getfield 102, 3) := dk_180 0 102 (dk_at dksX3_run_11 20 rfl rfl)
theorem dX3_run_278 : decode cX3_run 278 = .ok (.iconst 4, 1) := dk_7 (dk_at dksX3_run_11 23 rfl rfl)
theorem dX3_run_279 : decode cX3_run 279 = .ok (.iload 7, 2) := dk_21 7 (dk_at dksX3_run_12 0 rfl rfl)
theorem dX3_run_281 : decode cX3_run 281 = .ok (.imul, 1) := dk_104 (dk_at dksX3_run_12 2 rfl rfl)
theorem dX3_run_282 : decode cX3_run 282 = .ok (.iload 10, 2) := dk_21 10 (dk_at dksX3_run_12 3 rfl rfl)
theorem dX3_run_284 : decode cX3_run 284 = .ok (.iastore, 1) := dk_79 (dk_at dksX3_run_12 5 rfl rfl)
theorem dX3_run_285 : decode cX3_run 285 = .ok (.aload_n 0, 1) := dk_42 (dk_at dksX3_run_12 6 rfl rfl)
theorem dX3_run_286 : decode cX3_run 286 = .ok (.getfield 102, 3) := dk_180 0 102 (dk_at dksX3_run_12 7 rfl rfl)
theorem dX3_run_289 : decode cX3_run 289 = .ok (.iconst 4, 1) := dk_7 (dk_at dksX3_run_12 10 rfl rfl)
theorem dX3_run_290 : decode cX3_run 290 = .ok (.iload 7, 2) := dk_21 7 (dk_at dksX3_run_12 11 rfl rfl)
theorem dX3_run_292 : decode cX3_run 292 = .ok (.imul, 1) := dk_104 (dk_at dksX3_run_12 13 rfl rfl)
theorem dX3_run_293 : decode cX3_run 293 = .ok (.iconst 2, 1) := dk_5 (dk_at dksX3_run_12 14 rfl rfl)
theorem dX3_run_294 : decode cX3_run 294 = .ok (.iadd, 1) := dk_96 (dk_at dksX3_run_12 15 rfl rfl)
theorem dX3_run_295 : decode cX3_run 295 = .ok (.iload 9, 2) := dk_21 9 (dk_at dksX3_run_12 16 rfl rfl)
theorem dX3_run_297 : decode cX3_run 297 = .ok (.iastore, 1) := dk_79 (dk_at dksX3_run_12 18 rfl rfl)
theorem dX3_run_298 : decode cX3_run 298 = .ok (.aload_n 0, 1) := dk_42 (dk_at dksX3_run_12 19 rfl rfl)
theorem dX3_run_299 : decode cX3_run 299 = .ok (.getfield 102, 3) := dk_180 0 102 (dk_at dksX3_run_12 20 rfl rfl)
theorem dX3_run_302 : decode cX3_run 302 = .ok (.iconst 4, 1) := dk_7 (dk_at dksX3_run_12 23 rfl rfl)
theorem dX3_run_303 : decode cX3_run 303 = .ok (.iload 7, 2) := dk_21 7 (dk_at dksX3_run_13 0 rfl rfl)
theorem dX3_run_305 : decode cX3_run 305 = .ok (.imul, 1) := dk_104 (dk_at dksX3_run_13 2 rfl rfl)
theorem dX3_run_306 : decode cX3_run 306 = .ok (.iconst 3, 1) := dk_6 (dk_at dksX3_run_13 3 rfl rfl)
theorem dX3_run_307 : decode cX3_run 307 = .ok (.iadd, 1) := dk_96 (dk_at dksX3_run_13 4 rfl rfl)
theorem dX3_run_308 : decode cX3_run 308 = .ok (.iload 11, 2) := dk_21 11 (dk_at dksX3_run_13 5 rfl rfl)
theorem dX3_run_310 : decode cX3_run 310 = .ok (.iastore, 1) := dk_79 (dk_at dksX3_run_13 7 rfl rfl)
theorem dX3_run_311 : decode cX3_run 311 = .ok (.iload 6, 2) := dk_21 6 (dk_at dksX3_run_13 8 rfl rfl)
theorem dX3_run_313 : decode cX3_run 313 = .ok (.iload 10, 2) := dk_21 10 (dk_at dksX3_run_13 10 rfl rfl)
theorem dX3_run_315 : decode cX3_run 315 = .ok (.ifCond .ne 7, 3) := dk_154 0 7 (dk_at dksX3_run_13 12 rfl rfl)
theorem dX3_run_318 : decode cX3_run 318 = .ok (.iconst 1, 1) := dk_4 (dk_at dksX3_run_13 15 rfl rfl)
theorem dX3_run_319 : decode cX3_run 319 = .ok (.goto 4, 3) := dk_167 0 4 (dk_at dksX3_run_13 16 rfl rfl)
theorem dX3_run_322 : decode cX3_run 322 = .ok (.iconst 0, 1) := dk_3 (dk_at dksX3_run_13 19 rfl rfl)
theorem dX3_run_323 : decode cX3_run 323 = .ok (.iadd, 1) := dk_96 (dk_at dksX3_run_13 20 rfl rfl)
theorem dX3_run_324 : decode cX3_run 324 = .ok (.istore 6, 2) := dk_54 6 (dk_at dksX3_run_13 21 rfl rfl)
theorem dX3_run_326 : decode cX3_run 326 = .ok (.iload 9, 2) := dk_21 9 (dk_at dksX3_run_14 0 rfl rfl)
theorem dX3_run_328 : decode cX3_run 328 = .ok (.istore 5, 2) := dk_54 5 (dk_at dksX3_run_14 2 rfl rfl)
theorem dX3_run_330 : decode cX3_run 330 = .ok (.iinc 7 1, 3) := dk_132 7 1 (dk_at dksX3_run_14 4 rfl rfl)
theorem dX3_run_333 : decode cX3_run 333 = .ok (.goto (-294), 3) := dk_167 254 218 (dk_at dksX3_run_14 7 rfl rfl)
theorem dX3_run_336 : decode cX3_run 336 = .ok (.aload_n 0, 1) := dk_42 (dk_at dksX3_run_14 10 rfl rfl)
theorem dX3_run_337 : decode cX3_run 337 = .ok (.aload_n 0, 1) := dk_42 (dk_at dksX3_run_14 11 rfl rfl)
theorem dX3_run_338 : decode cX3_run 338 = .ok (.getfield 393, 3) := dk_180 1 137 (dk_at dksX3_run_14 12 rfl rfl)
theorem dX3_run_341 : decode cX3_run 341 = .ok (.putfield 396, 3) := dk_181 1 140 (dk_at dksX3_run_14 15 rfl rfl)
theorem dX3_run_344 : decode cX3_run 344 = .ok (.iload 6, 2) := dk_21 6 (dk_at dksX3_run_14 18 rfl rfl)
theorem dX3_run_346 : decode cX3_run 346 = .ok (.ireturn, 1) := dk_172 (dk_at dksX3_run_14 20 rfl rfl)
abbrev cX3_isThere : ByteArray := prog_26_method_94_code
def yX3_isThere : MethodName := ⟨RX3, "isThere", "(I)Z"⟩
def dkwX3_isThere_3 : List UInt8 := [167, 255, 187, 4, 172]
abbrev dktX3_isThere_3 : List UInt8 := dkwX3_isThere_3 ++ []
def dkwX3_isThere_2 : List UInt8 := [3, 96, 62, 132, 4, 1, 167, 255, 218, 42, 180, 0, 105, 28, 46, 29, 162, 0, 5, 3, 172, 132, 2, 1]
abbrev dktX3_isThere_2 : List UInt8 := dkwX3_isThere_2 ++ dktX3_isThere_3
def dkwX3_isThere_1 : List UInt8 := [162, 0, 33, 29, 42, 180, 0, 28, 16, 6, 27, 104, 21, 4, 96, 46, 28, 160, 0, 7, 4, 167, 0, 4]
abbrev dktX3_isThere_1 : List UInt8 := dkwX3_isThere_1 ++ dktX3_isThere_2
def dkwX3_isThere_0 : List UInt8 := [3, 61, 28, 42, 180, 0, 125, 162, 0, 67, 3, 62, 3, 54, 4, 21, 4, 42, 180, 0, 25, 27, 46]
abbrev dktX3_isThere_0 : List UInt8 := dkwX3_isThere_0 ++ dktX3_isThere_1
theorem dksX3_isThere_0 : cX3_isThere.data.toList.drop 0 = dktX3_isThere_0 := by decide +kernel
theorem dksX3_isThere_1 : cX3_isThere.data.toList.drop 23 = dktX3_isThere_1 := dk_seg dksX3_isThere_0 23 rfl rfl
theorem dksX3_isThere_2 : cX3_isThere.data.toList.drop 47 = dktX3_isThere_2 := dk_seg dksX3_isThere_1 24 rfl rfl
theorem dksX3_isThere_3 : cX3_isThere.data.toList.drop 71 = dktX3_isThere_3 := dk_seg dksX3_isThere_2 24 rfl rfl
theorem dX3_isThere_0 : decode cX3_isThere 0 = .ok (.iconst 0, 1) := dk_3 (dk_at dksX3_isThere_0 0 rfl rfl)
theorem dX3_isThere_1 : decode cX3_isThere 1 = .ok (.istore_n 2, 1) := dk_61 (dk_at dksX3_isThere_0 1 rfl rfl)
theorem dX3_isThere_2 : decode cX3_isThere 2 = .ok (.iload_n 2, 1) := dk_28 (dk_at dksX3_isThere_0 2 rfl rfl)
theorem dX3_isThere_3 : decode cX3_isThere 3 = .ok (.aload_n 0, 1) := dk_42 (dk_at dksX3_isThere_0 3 rfl rfl)
theorem dX3_isThere_4 : decode cX3_isThere 4 = .ok (.getfield 125, 3) := dk_180 0 125 (dk_at dksX3_isThere_0 4 rfl rfl)
theorem dX3_isThere_7 : decode cX3_isThere 7 = .ok (.if_icmp .ge 67, 3) := dk_162 0 67 (dk_at dksX3_isThere_0 7 rfl rfl)
theorem dX3_isThere_10 : decode cX3_isThere 10 = .ok (.iconst 0, 1) := dk_3 (dk_at dksX3_isThere_0 10 rfl rfl)
theorem dX3_isThere_11 : decode cX3_isThere 11 = .ok (.istore_n 3, 1) := dk_62 (dk_at dksX3_isThere_0 11 rfl rfl)
theorem dX3_isThere_12 : decode cX3_isThere 12 = .ok (.iconst 0, 1) := dk_3 (dk_at dksX3_isThere_0 12 rfl rfl)
theorem dX3_isThere_13 : decode cX3_isThere 13 = .ok (.istore 4, 2) := dk_54 4 (dk_at dksX3_isThere_0 13 rfl rfl)
theorem dX3_isThere_15 : decode cX3_isThere 15 = .ok (.iload 4, 2) := dk_21 4 (dk_at dksX3_isThere_0 15 rfl rfl)
theorem dX3_isThere_17 : decode cX3_isThere 17 = .ok (.aload_n 0, 1) := dk_42 (dk_at dksX3_isThere_0 17 rfl rfl)
theorem dX3_isThere_18 : decode cX3_isThere 18 = .ok (.getfield 25, 3) := dk_180 0 25 (dk_at dksX3_isThere_0 18 rfl rfl)
theorem dX3_isThere_21 : decode cX3_isThere 21 = .ok (.iload_n 1, 1) := dk_27 (dk_at dksX3_isThere_0 21 rfl rfl)
theorem dX3_isThere_22 : decode cX3_isThere 22 = .ok (.iaload, 1) := dk_46 (dk_at dksX3_isThere_0 22 rfl rfl)
theorem dX3_isThere_23 : decode cX3_isThere 23 = .ok (.if_icmp .ge 33, 3) := dk_162 0 33 (dk_at dksX3_isThere_1 0 rfl rfl)
theorem dX3_isThere_26 : decode cX3_isThere 26 = .ok (.iload_n 3, 1) := dk_29 (dk_at dksX3_isThere_1 3 rfl rfl)
theorem dX3_isThere_27 : decode cX3_isThere 27 = .ok (.aload_n 0, 1) := dk_42 (dk_at dksX3_isThere_1 4 rfl rfl)
theorem dX3_isThere_28 : decode cX3_isThere 28 = .ok (.getfield 28, 3) := dk_180 0 28 (dk_at dksX3_isThere_1 5 rfl rfl)
theorem dX3_isThere_31 : decode cX3_isThere 31 = .ok (.bipush 6, 2) := dk_16 6 (dk_at dksX3_isThere_1 8 rfl rfl)
theorem dX3_isThere_33 : decode cX3_isThere 33 = .ok (.iload_n 1, 1) := dk_27 (dk_at dksX3_isThere_1 10 rfl rfl)
theorem dX3_isThere_34 : decode cX3_isThere 34 = .ok (.imul, 1) := dk_104 (dk_at dksX3_isThere_1 11 rfl rfl)
theorem dX3_isThere_35 : decode cX3_isThere 35 = .ok (.iload 4, 2) := dk_21 4 (dk_at dksX3_isThere_1 12 rfl rfl)
theorem dX3_isThere_37 : decode cX3_isThere 37 = .ok (.iadd, 1) := dk_96 (dk_at dksX3_isThere_1 14 rfl rfl)
theorem dX3_isThere_38 : decode cX3_isThere 38 = .ok (.iaload, 1) := dk_46 (dk_at dksX3_isThere_1 15 rfl rfl)
theorem dX3_isThere_39 : decode cX3_isThere 39 = .ok (.iload_n 2, 1) := dk_28 (dk_at dksX3_isThere_1 16 rfl rfl)
theorem dX3_isThere_40 : decode cX3_isThere 40 = .ok (.if_icmp .ne 7, 3) := dk_160 0 7 (dk_at dksX3_isThere_1 17 rfl rfl)
theorem dX3_isThere_43 : decode cX3_isThere 43 = .ok (.iconst 1, 1) := dk_4 (dk_at dksX3_isThere_1 20 rfl rfl)
theorem dX3_isThere_44 : decode cX3_isThere 44 = .ok (.goto 4, 3) := dk_167 0 4 (dk_at dksX3_isThere_1 21 rfl rfl)
theorem dX3_isThere_47 : decode cX3_isThere 47 = .ok (.iconst 0, 1) := dk_3 (dk_at dksX3_isThere_2 0 rfl rfl)
theorem dX3_isThere_48 : decode cX3_isThere 48 = .ok (.iadd, 1) := dk_96 (dk_at dksX3_isThere_2 1 rfl rfl)
theorem dX3_isThere_49 : decode cX3_isThere 49 = .ok (.istore_n 3, 1) := dk_62 (dk_at dksX3_isThere_2 2 rfl rfl)
theorem dX3_isThere_50 : decode cX3_isThere 50 = .ok (.iinc 4 1, 3) := dk_132 4 1 (dk_at dksX3_isThere_2 3 rfl rfl)
theorem dX3_isThere_53 : decode cX3_isThere 53 = .ok (.goto (-38), 3) := dk_167 255 218 (dk_at dksX3_isThere_2 6 rfl rfl)
theorem dX3_isThere_56 : decode cX3_isThere 56 = .ok (.aload_n 0, 1) := dk_42 (dk_at dksX3_isThere_2 9 rfl rfl)
theorem dX3_isThere_57 : decode cX3_isThere 57 = .ok (.getfield 105, 3) := dk_180 0 105 (dk_at dksX3_isThere_2 10 rfl rfl)
theorem dX3_isThere_60 : decode cX3_isThere 60 = .ok (.iload_n 2, 1) := dk_28 (dk_at dksX3_isThere_2 13 rfl rfl)
theorem dX3_isThere_61 : decode cX3_isThere 61 = .ok (.iaload, 1) := dk_46 (dk_at dksX3_isThere_2 14 rfl rfl)
theorem dX3_isThere_62 : decode cX3_isThere 62 = .ok (.iload_n 3, 1) := dk_29 (dk_at dksX3_isThere_2 15 rfl rfl)
theorem dX3_isThere_63 : decode cX3_isThere 63 = .ok (.if_icmp .ge 5, 3) := dk_162 0 5 (dk_at dksX3_isThere_2 16 rfl rfl)
theorem dX3_isThere_66 : decode cX3_isThere 66 = .ok (.iconst 0, 1) := dk_3 (dk_at dksX3_isThere_2 19 rfl rfl)
theorem dX3_isThere_67 : decode cX3_isThere 67 = .ok (.ireturn, 1) := dk_172 (dk_at dksX3_isThere_2 20 rfl rfl)
theorem dX3_isThere_68 : decode cX3_isThere 68 = .ok (.iinc 2 1, 3) := dk_132 2 1 (dk_at dksX3_isThere_2 21 rfl rfl)
theorem dX3_isThere_71 : decode cX3_isThere 71 = .ok (.goto (-69), 3) := dk_167 255 187 (dk_at dksX3_isThere_3 0 rfl rfl)
theorem dX3_isThere_74 : decode cX3_isThere 74 = .ok (.iconst 1, 1) := dk_4 (dk_at dksX3_isThere_3 3 rfl rfl)
theorem dX3_isThere_75 : decode cX3_isThere 75 = .ok (.ireturn, 1) := dk_172 (dk_at dksX3_isThere_3 4 rfl rfl)
abbrev cX3_inBalloon : ByteArray := prog_26_method_95_code
def yX3_inBalloon : MethodName := ⟨RX3, "inBalloon", "(II)I"⟩
def dkwX3_inBalloon_1 : List UInt8 := [104, 21, 4, 96, 46, 28, 160, 0, 7, 4, 167, 0, 4, 3, 96, 62, 132, 4, 1, 167, 255, 218, 29, 172]
abbrev dktX3_inBalloon_1 : List UInt8 := dkwX3_inBalloon_1 ++ []
def dkwX3_inBalloon_0 : List UInt8 := [3, 62, 3, 54, 4, 21, 4, 42, 180, 0, 31, 27, 46, 162, 0, 33, 29, 42, 180, 0, 46, 16, 24, 27]
abbrev dktX3_inBalloon_0 : List UInt8 := dkwX3_inBalloon_0 ++ dktX3_inBalloon_1
theorem dksX3_inBalloon_0 : cX3_inBalloon.data.toList.drop 0 = dktX3_inBalloon_0 := by decide +kernel
theorem dksX3_inBalloon_1 : cX3_inBalloon.data.toList.drop 24 = dktX3_inBalloon_1 := dk_seg dksX3_inBalloon_0 24 rfl rfl
theorem dX3_inBalloon_0 : decode cX3_inBalloon 0 = .ok (.iconst 0, 1) := dk_3 (dk_at dksX3_inBalloon_0 0 rfl rfl)
theorem dX3_inBalloon_1 : decode cX3_inBalloon 1 = .ok (.istore_n 3, 1) := dk_62 (dk_at dksX3_inBalloon_0 1 rfl rfl)
theorem dX3_inBalloon_2 : decode cX3_inBalloon 2 = .ok (.iconst 0, 1) := dk_3 (dk_at dksX3_inBalloon_0 2 rfl rfl)
theorem dX3_inBalloon_3 : decode cX3_inBalloon 3 = .ok (.istore 4, 2) := dk_54 4 (dk_at dksX3_inBalloon_0 3 rfl rfl)
theorem dX3_inBalloon_5 : decode cX3_inBalloon 5 = .ok (.iload 4, 2) := dk_21 4 (dk_at dksX3_inBalloon_0 5 rfl rfl)
theorem dX3_inBalloon_7 : decode cX3_inBalloon 7 = .ok (.aload_n 0, 1) := dk_42 (dk_at dksX3_inBalloon_0 7 rfl rfl)
theorem dX3_inBalloon_8 : decode cX3_inBalloon 8 = .ok (.getfield 31, 3) := dk_180 0 31 (dk_at dksX3_inBalloon_0 8 rfl rfl)
theorem dX3_inBalloon_11 : decode cX3_inBalloon 11 = .ok (.iload_n 1, 1) := dk_27 (dk_at dksX3_inBalloon_0 11 rfl rfl)
theorem dX3_inBalloon_12 : decode cX3_inBalloon 12 = .ok (.iaload, 1) := dk_46 (dk_at dksX3_inBalloon_0 12 rfl rfl)
theorem dX3_inBalloon_13 : decode cX3_inBalloon 13 = .ok (.if_icmp .ge 33, 3) := dk_162 0 33 (dk_at dksX3_inBalloon_0 13 rfl rfl)
theorem dX3_inBalloon_16 : decode cX3_inBalloon 16 = .ok (.iload_n 3, 1) := dk_29 (dk_at dksX3_inBalloon_0 16 rfl rfl)
theorem dX3_inBalloon_17 : decode cX3_inBalloon 17 = .ok (.aload_n 0, 1) := dk_42 (dk_at dksX3_inBalloon_0 17 rfl rfl)
theorem dX3_inBalloon_18 : decode cX3_inBalloon 18 = .ok (.getfield 46, 3) := dk_180 0 46 (dk_at dksX3_inBalloon_0 18 rfl rfl)
theorem dX3_inBalloon_21 : decode cX3_inBalloon 21 = .ok (.bipush 24, 2) := dk_16 24 (dk_at dksX3_inBalloon_0 21 rfl rfl)
theorem dX3_inBalloon_23 : decode cX3_inBalloon 23 = .ok (.iload_n 1, 1) := dk_27 (dk_at dksX3_inBalloon_0 23 rfl rfl)
theorem dX3_inBalloon_24 : decode cX3_inBalloon 24 = .ok (.imul, 1) := dk_104 (dk_at dksX3_inBalloon_1 0 rfl rfl)
theorem dX3_inBalloon_25 : decode cX3_inBalloon 25 = .ok (.iload 4, 2) := dk_21 4 (dk_at dksX3_inBalloon_1 1 rfl rfl)
theorem dX3_inBalloon_27 : decode cX3_inBalloon 27 = .ok (.iadd, 1) := dk_96 (dk_at dksX3_inBalloon_1 3 rfl rfl)
theorem dX3_inBalloon_28 : decode cX3_inBalloon 28 = .ok (.iaload, 1) := dk_46 (dk_at dksX3_inBalloon_1 4 rfl rfl)
theorem dX3_inBalloon_29 : decode cX3_inBalloon 29 = .ok (.iload_n 2, 1) := dk_28 (dk_at dksX3_inBalloon_1 5 rfl rfl)
theorem dX3_inBalloon_30 : decode cX3_inBalloon 30 = .ok (.if_icmp .ne 7, 3) := dk_160 0 7 (dk_at dksX3_inBalloon_1 6 rfl rfl)
theorem dX3_inBalloon_33 : decode cX3_inBalloon 33 = .ok (.iconst 1, 1) := dk_4 (dk_at dksX3_inBalloon_1 9 rfl rfl)
theorem dX3_inBalloon_34 : decode cX3_inBalloon 34 = .ok (.goto 4, 3) := dk_167 0 4 (dk_at dksX3_inBalloon_1 10 rfl rfl)
theorem dX3_inBalloon_37 : decode cX3_inBalloon 37 = .ok (.iconst 0, 1) := dk_3 (dk_at dksX3_inBalloon_1 13 rfl rfl)
theorem dX3_inBalloon_38 : decode cX3_inBalloon 38 = .ok (.iadd, 1) := dk_96 (dk_at dksX3_inBalloon_1 14 rfl rfl)
theorem dX3_inBalloon_39 : decode cX3_inBalloon 39 = .ok (.istore_n 3, 1) := dk_62 (dk_at dksX3_inBalloon_1 15 rfl rfl)
theorem dX3_inBalloon_40 : decode cX3_inBalloon 40 = .ok (.iinc 4 1, 3) := dk_132 4 1 (dk_at dksX3_inBalloon_1 16 rfl rfl)
theorem dX3_inBalloon_43 : decode cX3_inBalloon 43 = .ok (.goto (-38), 3) := dk_167 255 218 (dk_at dksX3_inBalloon_1 19 rfl rfl)
theorem dX3_inBalloon_46 : decode cX3_inBalloon 46 = .ok (.iload_n 3, 1) := dk_29 (dk_at dksX3_inBalloon_1 22 rfl rfl)
theorem dX3_inBalloon_47 : decode cX3_inBalloon 47 = .ok (.ireturn, 1) := dk_172 (dk_at dksX3_inBalloon_1 23 rfl rfl)
abbrev cX3_guest : ByteArray := prog_26_method_97_code
def yX3_guest : MethodName := ⟨RX3, "guest", "(II)I"⟩
def dkwX3_guest_2 : List UInt8 := [7, 27, 104, 28, 96, 46, 172]
abbrev dktX3_guest_2 : List UInt8 := dkwX3_guest_2 ++ []
def dkwX3_guest_1 : List UInt8 := [3, 167, 0, 4, 4, 181, 0, 118, 42, 180, 0, 118, 4, 160, 0, 7, 3, 167, 0, 13, 42, 180, 0, 102]
abbrev dktX3_guest_1 : List UInt8 := dkwX3_guest_1 ++ dktX3_guest_2
def dkwX3_guest_0 : List UInt8 := [42, 27, 3, 42, 180, 1, 140, 4, 100, 184, 0, 121, 153, 0, 16, 28, 3, 6, 184, 0, 121, 153, 0, 7]
abbrev dktX3_guest_0 : List UInt8 := dkwX3_guest_0 ++ dktX3_guest_1
theorem dksX3_guest_0 : cX3_guest.data.toList.drop 0 = dktX3_guest_0 := by decide +kernel
theorem dksX3_guest_1 : cX3_guest.data.toList.drop 24 = dktX3_guest_1 := dk_seg dksX3_guest_0 24 rfl rfl
theorem dksX3_guest_2 : cX3_guest.data.toList.drop 48 = dktX3_guest_2 := dk_seg dksX3_guest_1 24 rfl rfl
theorem dX3_guest_0 : decode cX3_guest 0 = .ok (.aload_n 0, 1) := dk_42 (dk_at dksX3_guest_0 0 rfl rfl)
theorem dX3_guest_1 : decode cX3_guest 1 = .ok (.iload_n 1, 1) := dk_27 (dk_at dksX3_guest_0 1 rfl rfl)
theorem dX3_guest_2 : decode cX3_guest 2 = .ok (.iconst 0, 1) := dk_3 (dk_at dksX3_guest_0 2 rfl rfl)
theorem dX3_guest_3 : decode cX3_guest 3 = .ok (.aload_n 0, 1) := dk_42 (dk_at dksX3_guest_0 3 rfl rfl)
theorem dX3_guest_4 : decode cX3_guest 4 = .ok (.getfield 396, 3) := dk_180 1 140 (dk_at dksX3_guest_0 4 rfl rfl)
theorem dX3_guest_7 : decode cX3_guest 7 = .ok (.iconst 1, 1) := dk_4 (dk_at dksX3_guest_0 7 rfl rfl)
theorem dX3_guest_8 : decode cX3_guest 8 = .ok (.isub, 1) := dk_100 (dk_at dksX3_guest_0 8 rfl rfl)
theorem dX3_guest_9 : decode cX3_guest 9 = .ok (.invokestatic 121, 3) := dk_184 0 121 (dk_at dksX3_guest_0 9 rfl rfl)
theorem dX3_guest_12 : decode cX3_guest 12 = .ok (.ifCond .eq 16, 3) := dk_153 0 16 (dk_at dksX3_guest_0 12 rfl rfl)
theorem dX3_guest_15 : decode cX3_guest 15 = .ok (.iload_n 2, 1) := dk_28 (dk_at dksX3_guest_0 15 rfl rfl)
theorem dX3_guest_16 : decode cX3_guest 16 = .ok (.iconst 0, 1) := dk_3 (dk_at dksX3_guest_0 16 rfl rfl)
theorem dX3_guest_17 : decode cX3_guest 17 = .ok (.iconst 3, 1) := dk_6 (dk_at dksX3_guest_0 17 rfl rfl)
theorem dX3_guest_18 : decode cX3_guest 18 = .ok (.invokestatic 121, 3) := dk_184 0 121 (dk_at dksX3_guest_0 18 rfl rfl)
theorem dX3_guest_21 : decode cX3_guest 21 = .ok (.ifCond .eq 7, 3) := dk_153 0 7 (dk_at dksX3_guest_0 21 rfl rfl)
theorem dX3_guest_24 : decode cX3_guest 24 = .ok (.iconst 0, 1) := dk_3 (dk_at dksX3_guest_1 0 rfl rfl)
theorem dX3_guest_25 : decode cX3_guest 25 = .ok (.goto 4, 3) := dk_167 0 4 (dk_at dksX3_guest_1 1 rfl rfl)
theorem dX3_guest_28 : decode cX3_guest 28 = .ok (.iconst 1, 1) := dk_4 (dk_at dksX3_guest_1 4 rfl rfl)
theorem dX3_guest_29 : decode cX3_guest 29 = .ok (.putfield 118, 3) := dk_181 0 118 (dk_at dksX3_guest_1 5 rfl rfl)
theorem dX3_guest_32 : decode cX3_guest 32 = .ok (.aload_n 0, 1) := dk_42 (dk_at dksX3_guest_1 8 rfl rfl)
theorem dX3_guest_33 : decode cX3_guest 33 = .ok (.getfield 118, 3) := dk_180 0 118 (dk_at dksX3_guest_1 9 rfl rfl)
theorem dX3_guest_36 : decode cX3_guest 36 = .ok (.iconst 1, 1) := dk_4 (dk_at dksX3_guest_1 12 rfl rfl)
theorem dX3_guest_37 : decode cX3_guest 37 = .ok (.if_icmp .ne 7, 3) := dk_160 0 7 (dk_at dksX3_guest_1 13 rfl rfl)
theorem dX3_guest_40 : decode cX3_guest 40 = .ok (.iconst 0, 1) := dk_3 (dk_at dksX3_guest_1 16 rfl rfl)
theorem dX3_guest_41 : decode cX3_guest 41 = .ok (.goto 13, 3) := dk_167 0 13 (dk_at dksX3_guest_1 17 rfl rfl)
theorem dX3_guest_44 : decode cX3_guest 44 = .ok (.aload_n 0, 1) := dk_42 (dk_at dksX3_guest_1 20 rfl rfl)
theorem dX3_guest_45 : decode cX3_guest 45 = .ok (.getfield 102, 3) := dk_180 0 102 (dk_at dksX3_guest_1 21 rfl rfl)
theorem dX3_guest_48 : decode cX3_guest 48 = .ok (.iconst 4, 1) := dk_7 (dk_at dksX3_guest_2 0 rfl rfl)
theorem dX3_guest_49 : decode cX3_guest 49 = .ok (.iload_n 1, 1) := dk_27 (dk_at dksX3_guest_2 1 rfl rfl)
theorem dX3_guest_50 : decode cX3_guest 50 = .ok (.imul, 1) := dk_104 (dk_at dksX3_guest_2 2 rfl rfl)
theorem dX3_guest_51 : decode cX3_guest 51 = .ok (.iload_n 2, 1) := dk_28 (dk_at dksX3_guest_2 3 rfl rfl)
theorem dX3_guest_52 : decode cX3_guest 52 = .ok (.iadd, 1) := dk_96 (dk_at dksX3_guest_2 4 rfl rfl)
theorem dX3_guest_53 : decode cX3_guest 53 = .ok (.iaload, 1) := dk_46 (dk_at dksX3_guest_2 5 rfl rfl)
theorem dX3_guest_54 : decode cX3_guest 54 = .ok (.ireturn, 1) := dk_172 (dk_at dksX3_guest_2 6 rfl rfl)
abbrev cX3_aged : ByteArray := prog_26_method_100_code
def yX3_aged : MethodName := ⟨RX3, "aged", "(IIII)I"⟩
def dkwX3_aged_3 : List UInt8 := [172]
abbrev dktX3_aged_3 : List UInt8 := dkwX3_aged_3 ++ []
def dkwX3_aged_2 : List UInt8 := [163, 0, 17, 42, 27, 28, 21, 5, 182, 1, 161, 132, 5, 1, 167, 255, 239, 42, 180, 0, 112, 21, 4, 46]
abbrev dktX3_aged_2 : List UInt8 := dkwX3_aged_2 ++ dktX3_aged_3
def dkwX3_aged_1 : List UInt8 := [29, 3, 16, 60, 184, 0, 121, 154, 0, 5, 2, 172, 42, 27, 182, 1, 158, 4, 54, 5, 21, 5, 29]
abbrev dktX3_aged_1 : List UInt8 := dkwX3_aged_1 ++ dktX3_aged_2
def dkwX3_aged_0 : List UInt8 := [42, 27, 21, 4, 182, 1, 48, 153, 0, 27, 28, 3, 42, 180, 0, 255, 4, 100, 184, 0, 121, 153, 0, 13]
abbrev dktX3_aged_0 : List UInt8 := dkwX3_aged_0 ++ dktX3_aged_1
theorem dksX3_aged_0 : cX3_aged.data.toList.drop 0 = dktX3_aged_0 := by decide +kernel
theorem dksX3_aged_1 : cX3_aged.data.toList.drop 24 = dktX3_aged_1 := dk_seg dksX3_aged_0 24 rfl rfl
theorem dksX3_aged_2 : cX3_aged.data.toList.drop 47 = dktX3_aged_2 := dk_seg dksX3_aged_1 23 rfl rfl
theorem dksX3_aged_3 : cX3_aged.data.toList.drop 71 = dktX3_aged_3 := dk_seg dksX3_aged_2 24 rfl rfl
theorem dX3_aged_0 : decode cX3_aged 0 = .ok (.aload_n 0, 1) := dk_42 (dk_at dksX3_aged_0 0 rfl rfl)
theorem dX3_aged_1 : decode cX3_aged 1 = .ok (.iload_n 1, 1) := dk_27 (dk_at dksX3_aged_0 1 rfl rfl)
theorem dX3_aged_2 : decode cX3_aged 2 = .ok (.iload 4, 2) := dk_21 4 (dk_at dksX3_aged_0 2 rfl rfl)
theorem dX3_aged_4 : decode cX3_aged 4 = .ok (.invokevirtual 304, 3) := dk_182 1 48 (dk_at dksX3_aged_0 4 rfl rfl)
theorem dX3_aged_7 : decode cX3_aged 7 = .ok (.ifCond .eq 27, 3) := dk_153 0 27 (dk_at dksX3_aged_0 7 rfl rfl)
theorem dX3_aged_10 : decode cX3_aged 10 = .ok (.iload_n 2, 1) := dk_28 (dk_at dksX3_aged_0 10 rfl rfl)
theorem dX3_aged_11 : decode cX3_aged 11 = .ok (.iconst 0, 1) := dk_3 (dk_at dksX3_aged_0 11 rfl rfl)
theorem dX3_aged_12 : decode cX3_aged 12 = .ok (.aload_n 0, 1) := dk_42 (dk_at dksX3_aged_0 12 rfl rfl)
theorem dX3_aged_13 : decode cX3_aged 13 = .ok (.getfield 255, 3) := dk_180 0 255 (dk_at dksX3_aged_0 13 rfl rfl)
theorem dX3_aged_16 : decode cX3_aged 16 = .ok (.iconst 1, 1) := dk_4 (dk_at dksX3_aged_0 16 rfl rfl)
theorem dX3_aged_17 : decode cX3_aged 17 = .ok (.isub, 1) := dk_100 (dk_at dksX3_aged_0 17 rfl rfl)
theorem dX3_aged_18 : decode cX3_aged 18 = .ok (.invokestatic 121, 3) := dk_184 0 121 (dk_at dksX3_aged_0 18 rfl rfl)
theorem dX3_aged_21 : decode cX3_aged 21 = .ok (.ifCond .eq 13, 3) := dk_153 0 13 (dk_at dksX3_aged_0 21 rfl rfl)
theorem dX3_aged_24 : decode cX3_aged 24 = .ok (.iload_n 3, 1) := dk_29 (dk_at dksX3_aged_1 0 rfl rfl)
theorem dX3_aged_25 : decode cX3_aged 25 = .ok (.iconst 0, 1) := dk_3 (dk_at dksX3_aged_1 1 rfl rfl)
theorem dX3_aged_26 : decode cX3_aged 26 = .ok (.bipush 60, 2) := dk_16 60 (dk_at dksX3_aged_1 2 rfl rfl)
theorem dX3_aged_28 : decode cX3_aged 28 = .ok (.invokestatic 121, 3) := dk_184 0 121 (dk_at dksX3_aged_1 4 rfl rfl)
theorem dX3_aged_31 : decode cX3_aged 31 = .ok (.ifCond .ne 5, 3) := dk_154 0 5 (dk_at dksX3_aged_1 7 rfl rfl)
theorem dX3_aged_34 : decode cX3_aged 34 = .ok (.iconst (-1), 1) := dk_2 (dk_at dksX3_aged_1 10 rfl rfl)
theorem dX3_aged_35 : decode cX3_aged 35 = .ok (.ireturn, 1) := dk_172 (dk_at dksX3_aged_1 11 rfl rfl)
theorem dX3_aged_36 : decode cX3_aged 36 = .ok (.aload_n 0, 1) := dk_42 (dk_at dksX3_aged_1 12 rfl rfl)
theorem dX3_aged_37 : decode cX3_aged 37 = .ok (.iload_n 1, 1) := dk_27 (dk_at dksX3_aged_1 13 rfl rfl)
theorem dX3_aged_38 : decode cX3_aged 38 = .ok (.invokevirtual 414, 3) := dk_182 1 158 (dk_at dksX3_aged_1 14 rfl rfl)
theorem dX3_aged_41 : decode cX3_aged 41 = .ok (.iconst 1, 1) := dk_4 (dk_at dksX3_aged_1 17 rfl rfl)
theorem dX3_aged_42 : decode cX3_aged 42 = .ok (.istore 5, 2) := dk_54 5 (dk_at dksX3_aged_1 18 rfl rfl)
theorem dX3_aged_44 : decode cX3_aged 44 = .ok (.iload 5, 2) := dk_21 5 (dk_at dksX3_aged_1 20 rfl rfl)
theorem dX3_aged_46 : decode cX3_aged 46 = .ok (.iload_n 3, 1) := dk_29 (dk_at dksX3_aged_1 22 rfl rfl)
theorem dX3_aged_47 : decode cX3_aged 47 = .ok (.if_icmp .gt 17, 3) := dk_163 0 17 (dk_at dksX3_aged_2 0 rfl rfl)
theorem dX3_aged_50 : decode cX3_aged 50 = .ok (.aload_n 0, 1) := dk_42 (dk_at dksX3_aged_2 3 rfl rfl)
theorem dX3_aged_51 : decode cX3_aged 51 = .ok (.iload_n 1, 1) := dk_27 (dk_at dksX3_aged_2 4 rfl rfl)
theorem dX3_aged_52 : decode cX3_aged 52 = .ok (.iload_n 2, 1) := dk_28 (dk_at dksX3_aged_2 5 rfl rfl)
theorem dX3_aged_53 : decode cX3_aged 53 = .ok (.iload 5, 2) := dk_21 5 (dk_at dksX3_aged_2 6 rfl rfl)
theorem dX3_aged_55 : decode cX3_aged 55 = .ok (.invokevirtual 417, 3) := dk_182 1 161 (dk_at dksX3_aged_2 8 rfl rfl)
theorem dX3_aged_58 : decode cX3_aged 58 = .ok (.iinc 5 1, 3) := dk_132 5 1 (dk_at dksX3_aged_2 11 rfl rfl)
theorem dX3_aged_61 : decode cX3_aged 61 = .ok (.goto (-17), 3) := dk_167 255 239 (dk_at dksX3_aged_2 14 rfl rfl)
theorem dX3_aged_64 : decode cX3_aged 64 = .ok (.aload_n 0, 1) := dk_42 (dk_at dksX3_aged_2 17 rfl rfl)
theorem dX3_aged_65 : decode cX3_aged 65 = .ok (.getfield 112, 3) := dk_180 0 112 (dk_at dksX3_aged_2 18 rfl rfl)
theorem dX3_aged_68 : decode cX3_aged 68 = .ok (.iload 4, 2) := dk_21 4 (dk_at dksX3_aged_2 21 rfl rfl)
theorem dX3_aged_70 : decode cX3_aged 70 = .ok (.iaload, 1) := dk_46 (dk_at dksX3_aged_2 23 rfl rfl)
theorem dX3_aged_71 : decode cX3_aged 71 = .ok (.ireturn, 1) := dk_172 (dk_at dksX3_aged_3 0 rfl rfl)
abbrev cX3_startAging : ByteArray := prog_26_method_98_code
def yX3_startAging : MethodName := ⟨RX3, "startAging", "(I)V"⟩
def dkwX3_startAging_1 : List UInt8 := [180, 0, 112, 28, 42, 180, 0, 37, 16, 24, 27, 104, 28, 96, 46, 79, 132, 2, 1, 167, 255, 226, 177]
abbrev dktX3_startAging_1 : List UInt8 := dkwX3_startAging_1 ++ []
def dkwX3_startAging_0 : List UInt8 := [42, 42, 27, 182, 1, 31, 181, 1, 155, 3, 61, 28, 42, 180, 0, 31, 27, 46, 162, 0, 26, 42]
abbrev dktX3_startAging_0 : List UInt8 := dkwX3_startAging_0 ++ dktX3_startAging_1
theorem dksX3_startAging_0 : cX3_startAging.data.toList.drop 0 = dktX3_startAging_0 := by decide +kernel
theorem dksX3_startAging_1 : cX3_startAging.data.toList.drop 22 = dktX3_startAging_1 := dk_seg dksX3_startAging_0 22 rfl rfl
theorem dX3_startAging_0 : decode cX3_startAging 0 = .ok (.aload_n 0, 1) := dk_42 (dk_at dksX3_startAging_0 0 rfl rfl)
theorem dX3_startAging_1 : decode cX3_startAging 1 = .ok (.aload_n 0, 1) := dk_42 (dk_at dksX3_startAging_0 1 rfl rfl)
theorem dX3_startAging_2 : decode cX3_startAging 2 = .ok (.iload_n 1, 1) := dk_27 (dk_at dksX3_startAging_0 2 rfl rfl)
theorem dX3_startAging_3 : decode cX3_startAging 3 = .ok (.invokevirtual 287, 3) := dk_182 1 31 (dk_at dksX3_startAging_0 3 rfl rfl)
theorem dX3_startAging_6 : decode cX3_startAging 6 = .ok (.putfield 411, 3) := dk_181 1 155 (dk_at dksX3_startAging_0 6 rfl rfl)
theorem dX3_startAging_9 : decode cX3_startAging 9 = .ok (.iconst 0, 1) := dk_3 (dk_at dksX3_startAging_0 9 rfl rfl)
theorem dX3_startAging_10 : decode cX3_startAging 10 = .ok (.istore_n 2, 1) := dk_61 (dk_at dksX3_startAging_0 10 rfl rfl)
theorem dX3_startAging_11 : decode cX3_startAging 11 = .ok (.iload_n 2, 1) := dk_28 (dk_at dksX3_startAging_0 11 rfl rfl)
theorem dX3_startAging_12 : decode cX3_startAging 12 = .ok (.aload_n 0, 1) := dk_42 (dk_at dksX3_startAging_0 12 rfl rfl)
theorem dX3_startAging_13 : decode cX3_startAging 13 = .ok (.getfield 31, 3) := dk_180 0 31 (dk_at dksX3_startAging_0 13 rfl rfl)
theorem dX3_startAging_16 : decode cX3_startAging 16 = .ok (.iload_n 1, 1) := dk_27 (dk_at dksX3_startAging_0 16 rfl rfl)
theorem dX3_startAging_17 : decode cX3_startAging 17 = .ok (.iaload, 1) := dk_46 (dk_at dksX3_startAging_0 17 rfl rfl)
theorem dX3_startAging_18 : decode cX3_startAging 18 = .ok (.if_icmp .ge 26, 3) := dk_162 0 26 (dk_at dksX3_startAging_0 18 rfl rfl)
theorem dX3_startAging_21 : decode cX3_startAging 21 = .ok (.aload_n 0, 1) := dk_42 (dk_at dksX3_startAging_0 21 rfl rfl)
theorem dX3_startAging_22 : decode cX3_startAging 22 = .ok (.getfield 112, 3) := dk_180 0 112 (dk_at dksX3_startAging_1 0 rfl rfl)
theorem dX3_startAging_25 : decode cX3_startAging 25 = .ok (.iload_n 2, 1) := dk_28 (dk_at dksX3_startAging_1 3 rfl rfl)
theorem dX3_startAging_26 : decode cX3_startAging 26 = .ok (.aload_n 0, 1) := dk_42 (dk_at dksX3_startAging_1 4 rfl rfl)
theorem dX3_startAging_27 : decode cX3_startAging 27 = .ok (.getfield 37, 3) := dk_180 0 37 (dk_at dksX3_startAging_1 5 rfl rfl)
theorem dX3_startAging_30 : decode cX3_startAging 30 = .ok (.bipush 24, 2) := dk_16 24 (dk_at dksX3_startAging_1 8 rfl rfl)
theorem dX3_startAging_32 : decode cX3_startAging 32 = .ok (.iload_n 1, 1) := dk_27 (dk_at dksX3_startAging_1 10 rfl rfl)
theorem dX3_startAging_33 : decode cX3_startAging 33 = .ok (.imul, 1) := dk_104 (dk_at dksX3_startAging_1 11 rfl rfl)
theorem dX3_startAging_34 : decode cX3_startAging 34 = .ok (.iload_n 2, 1) := dk_28 (dk_at dksX3_startAging_1 12 rfl rfl)
theorem dX3_startAging_35 : decode cX3_startAging 35 = .ok (.iadd, 1) := dk_96 (dk_at dksX3_startAging_1 13 rfl rfl)
theorem dX3_startAging_36 : decode cX3_startAging 36 = .ok (.iaload, 1) := dk_46 (dk_at dksX3_startAging_1 14 rfl rfl)
theorem dX3_startAging_37 : decode cX3_startAging 37 = .ok (.iastore, 1) := dk_79 (dk_at dksX3_startAging_1 15 rfl rfl)
theorem dX3_startAging_38 : decode cX3_startAging 38 = .ok (.iinc 2 1, 3) := dk_132 2 1 (dk_at dksX3_startAging_1 16 rfl rfl)
theorem dX3_startAging_41 : decode cX3_startAging 41 = .ok (.goto (-30), 3) := dk_167 255 226 (dk_at dksX3_startAging_1 19 rfl rfl)
theorem dX3_startAging_44 : decode cX3_startAging 44 = .ok (.return_, 1) := dk_177 (dk_at dksX3_startAging_1 22 rfl rfl)
abbrev cX3_age : ByteArray := prog_26_method_99_code
def yX3_age : MethodName := ⟨RX3, "age", "(III)V"⟩
def dkwX3_age_12 : List UInt8 := [177]
abbrev dktX3_age_12 : List UInt8 := dkwX3_age_12 ++ []
def dkwX3_age_11 : List UInt8 := [4, 126, 4, 160, 0, 13, 42, 180, 0, 112, 21, 5, 46, 167, 0, 4, 3, 79, 132, 5, 1, 167, 255, 211]
abbrev dktX3_age_11 : List UInt8 := dkwX3_age_11 ++ dktX3_age_12
def dkwX3_age_10 : List UInt8 := [21, 5, 42, 180, 0, 31, 27, 46, 162, 0, 40, 42, 180, 0, 112, 21, 5, 42, 180, 1, 155, 21, 5, 122]
abbrev dktX3_age_10 : List UInt8 := dkwX3_age_10 ++ dktX3_age_11
def dkwX3_age_9 : List UInt8 := [126, 54, 4, 132, 5, 1, 167, 255, 200, 42, 42, 27, 21, 4, 182, 1, 77, 181, 1, 155, 3, 54, 5]
abbrev dktX3_age_9 : List UInt8 := dkwX3_age_9 ++ dktX3_age_10
def dkwX3_age_8 : List UInt8 := [100, 79, 21, 4, 42, 180, 0, 112, 21, 5, 46, 154, 0, 12, 4, 21, 5, 120, 2, 130, 167, 0, 4, 2]
abbrev dktX3_age_8 : List UInt8 := dkwX3_age_8 ++ dktX3_age_9
def dkwX3_age_7 : List UInt8 := [42, 180, 0, 31, 27, 46, 162, 0, 51, 42, 180, 0, 112, 21, 5, 92, 46, 42, 180, 0, 115, 21, 5, 46]
abbrev dktX3_age_7 : List UInt8 := dkwX3_age_7 ++ dktX3_age_8
def dkwX3_age_6 : List UInt8 := [180, 0, 115, 21, 4, 3, 79, 132, 4, 1, 167, 255, 105, 42, 180, 1, 155, 54, 4, 3, 54, 5, 21, 5]
abbrev dktX3_age_6 : List UInt8 := dkwX3_age_6 ++ dktX3_age_7
def dkwX3_age_5 : List UInt8 := [21, 6, 46, 42, 180, 0, 9, 21, 6, 46, 182, 1, 25, 184, 0, 155, 184, 0, 149, 79, 167, 0, 11, 42]
abbrev dktX3_age_5 : List UInt8 := dkwX3_age_5 ++ dktX3_age_6
def dkwX3_age_4 : List UInt8 := [3, 42, 180, 0, 112, 21, 4, 46, 42, 28, 42, 180, 0, 112, 21, 4, 46, 29, 21, 7, 42, 180, 0, 13]
abbrev dktX3_age_4 : List UInt8 := dkwX3_age_4 ++ dktX3_age_5
def dkwX3_age_3 : List UInt8 := [27, 42, 180, 0, 43, 21, 5, 46, 42, 180, 1, 155, 182, 1, 34, 96, 54, 7, 42, 180, 0, 115, 21, 4]
abbrev dktX3_age_3 : List UInt8 := dkwX3_age_3 ++ dktX3_age_4
def dkwX3_age_2 : List UInt8 := [21, 5, 46, 96, 46, 54, 6, 42, 27, 42, 180, 0, 40, 21, 5, 46, 42, 180, 1, 155, 182, 1, 34, 42]
abbrev dktX3_age_2 : List UInt8 := dkwX3_age_2 ++ dktX3_age_3
def dkwX3_age_1 : List UInt8 := [160, 0, 119, 16, 24, 27, 104, 21, 4, 96, 54, 5, 42, 180, 0, 28, 16, 6, 27, 104, 42, 180, 0, 46]
abbrev dktX3_age_1 : List UInt8 := dkwX3_age_1 ++ dktX3_age_2
def dkwX3_age_0 : List UInt8 := [3, 54, 4, 21, 4, 42, 180, 0, 31, 27, 46, 162, 0, 146, 42, 180, 1, 155, 21, 4, 122, 4, 126, 4]
abbrev dktX3_age_0 : List UInt8 := dkwX3_age_0 ++ dktX3_age_1
theorem dksX3_age_0 : cX3_age.data.toList.drop 0 = dktX3_age_0 := by decide +kernel
theorem dksX3_age_1 : cX3_age.data.toList.drop 24 = dktX3_age_1 := dk_seg dksX3_age_0 24 rfl rfl
theorem dksX3_age_2 : cX3_age.data.toList.drop 48 = dktX3_age_2 := dk_seg dksX3_age_1 24 rfl rfl
theorem dksX3_age_3 : cX3_age.data.toList.drop 72 = dktX3_age_3 := dk_seg dksX3_age_2 24 rfl rfl
theorem dksX3_age_4 : cX3_age.data.toList.drop 96 = dktX3_age_4 := dk_seg dksX3_age_3 24 rfl rfl
theorem dksX3_age_5 : cX3_age.data.toList.drop 120 = dktX3_age_5 := dk_seg dksX3_age_4 24 rfl rfl
theorem dksX3_age_6 : cX3_age.data.toList.drop 144 = dktX3_age_6 := dk_seg dksX3_age_5 24 rfl rfl
theorem dksX3_age_7 : cX3_age.data.toList.drop 168 = dktX3_age_7 := dk_seg dksX3_age_6 24 rfl rfl
theorem dksX3_age_8 : cX3_age.data.toList.drop 192 = dktX3_age_8 := dk_seg dksX3_age_7 24 rfl rfl
theorem dksX3_age_9 : cX3_age.data.toList.drop 216 = dktX3_age_9 := dk_seg dksX3_age_8 24 rfl rfl
theorem dksX3_age_10 : cX3_age.data.toList.drop 239 = dktX3_age_10 := dk_seg dksX3_age_9 23 rfl rfl
theorem dksX3_age_11 : cX3_age.data.toList.drop 263 = dktX3_age_11 := dk_seg dksX3_age_10 24 rfl rfl
theorem dksX3_age_12 : cX3_age.data.toList.drop 287 = dktX3_age_12 := dk_seg dksX3_age_11 24 rfl rfl
theorem dX3_age_0 : decode cX3_age 0 = .ok (.iconst 0, 1) := dk_3 (dk_at dksX3_age_0 0 rfl rfl)
theorem dX3_age_1 : decode cX3_age 1 = .ok (.istore 4, 2) := dk_54 4 (dk_at dksX3_age_0 1 rfl rfl)
theorem dX3_age_3 : decode cX3_age 3 = .ok (.iload 4, 2) := dk_21 4 (dk_at dksX3_age_0 3 rfl rfl)
theorem dX3_age_5 : decode cX3_age 5 = .ok (.aload_n 0, 1) := dk_42 (dk_at dksX3_age_0 5 rfl rfl)
theorem dX3_age_6 : decode cX3_age 6 = .ok (.getfield 31, 3) := dk_180 0 31 (dk_at dksX3_age_0 6 rfl rfl)
theorem dX3_age_9 : decode cX3_age 9 = .ok (.iload_n 1, 1) := dk_27 (dk_at dksX3_age_0 9 rfl rfl)
theorem dX3_age_10 : decode cX3_age 10 = .ok (.iaload, 1) := dk_46 (dk_at dksX3_age_0 10 rfl rfl)
theorem dX3_age_11 : decode cX3_age 11 = .ok (.if_icmp .ge 146, 3) := dk_162 0 146 (dk_at dksX3_age_0 11 rfl rfl)
theorem dX3_age_14 : decode cX3_age 14 = .ok (.aload_n 0, 1) := dk_42 (dk_at dksX3_age_0 14 rfl rfl)
theorem dX3_age_15 : decode cX3_age 15 = .ok (.getfield 411, 3) := dk_180 1 155 (dk_at dksX3_age_0 15 rfl rfl)
theorem dX3_age_18 : decode cX3_age 18 = .ok (.iload 4, 2) := dk_21 4 (dk_at dksX3_age_0 18 rfl rfl)
theorem dX3_age_20 : decode cX3_age 20 = .ok (.ishr, 1) := dk_122 (dk_at dksX3_age_0 20 rfl rfl)
theorem dX3_age_21 : decode cX3_age 21 = .ok (.iconst 1, 1) := dk_4 (dk_at dksX3_age_0 21 rfl rfl)
theorem dX3_age_22 : decode cX3_age 22 = .ok (.iand, 1) := dk_126 (dk_at dksX3_age_0 22 rfl rfl)
theorem dX3_age_23 : decode cX3_age 23 = .ok (.iconst 1, 1) := dk_4 (dk_at dksX3_age_0 23 rfl rfl)
theorem dX3_age_24 : decode cX3_age 24 = .ok (.if_icmp .ne 119, 3) := dk_160 0 119 (dk_at dksX3_age_1 0 rfl rfl)
theorem dX3_age_27 : decode cX3_age 27 = .ok (.bipush 24, 2) := dk_16 24 (dk_at dksX3_age_1 3 rfl rfl)
theorem dX3_age_29 : decode cX3_age 29 = .ok (.iload_n 1, 1) := dk_27 (dk_at dksX3_age_1 5 rfl rfl)
theorem dX3_age_30 : decode cX3_age 30 = .ok (.imul, 1) := dk_104 (dk_at dksX3_age_1 6 rfl rfl)
theorem dX3_age_31 : decode cX3_age 31 = .ok (.iload 4, 2) := dk_21 4 (dk_at dksX3_age_1 7 rfl rfl)
theorem dX3_age_33 : decode cX3_age 33 = .ok (.iadd, 1) := dk_96 (dk_at dksX3_age_1 9 rfl rfl)
theorem dX3_age_34 : decode cX3_age 34 = .ok (.istore 5, 2) := dk_54 5 (dk_at dksX3_age_1 10 rfl rfl)
theorem dX3_age_36 : decode cX3_age 36 = .ok (.aload_n 0, 1) := dk_42 (dk_at dksX3_age_1 12 rfl rfl)
theorem dX3_age_37 : decode cX3_age 37 = .ok (.getfield 28, 3) := dk_180 0 28 (dk_at dksX3_age_1 13 rfl rfl)
theorem dX3_age_40 : decode cX3_age 40 = .ok (.bipush 6, 2) := dk_16 6 (dk_at dksX3_age_1 16 rfl rfl)
theorem dX3_age_42 : decode cX3_age 42 = .ok (.iload_n 1, 1) := dk_27 (dk_at dksX3_age_1 18 rfl rfl)
theorem dX3_age_43 : decode cX3_age 43 = .ok (.imul, 1) := dk_104 (dk_at dksX3_age_1 19 rfl rfl)
theorem dX3_age_44 : decode cX3_age 44 = .ok (.aload_n 0, 1) := dk_42 (dk_at dksX3_age_1 20 rfl rfl)
theorem dX3_age_45 : decode cX3_age 45 = .ok (.getfield 46, 3) := dk_180 0 46 (dk_at dksX3_age_1 21 rfl rfl)
theorem dX3_age_48 : decode cX3_age 48 = .ok (.iload 5, 2) := dk_21 5 (dk_at dksX3_age_2 0 rfl rfl)
theorem dX3_age_50 : decode cX3_age 50 = .ok (.iaload, 1) := dk_46 (dk_at dksX3_age_2 2 rfl rfl)
theorem dX3_age_51 : decode cX3_age 51 = .ok (.iadd, 1) := dk_96 (dk_at dksX3_age_2 3 rfl rfl)
theorem dX3_age_52 : decode cX3_age 52 = .ok (.iaload, 1) := dk_46 (dk_at dksX3_age_2 4 rfl rfl)
theorem dX3_age_53 : decode cX3_age 53 = .ok (.istore 6, 2) := dk_54 6 (dk_at dksX3_age_2 5 rfl rfl)
theorem dX3_age_55 : decode cX3_age 55 = .ok (.aload_n 0, 1) := dk_42 (dk_at dksX3_age_2 7 rfl rfl)
theorem dX3_age_56 : decode cX3_age 56 = .ok (.iload_n 1, 1) := dk_27 (dk_at dksX3_age_2 8 rfl rfl)
theorem dX3_age_57 : decode cX3_age 57 = .ok (.aload_n 0, 1) := dk_42 (dk_at dksX3_age_2 9 rfl rfl)
theorem dX3_age_58 : decode cX3_age 58 = .ok (.getfield 40, 3) := dk_180 0 40 (dk_at dksX3_age_2 10 rfl rfl)
theorem dX3_age_61 : decode cX3_age 61 = .ok (.iload 5, 2) := dk_21 5 (dk_at dksX3_age_2 13 rfl rfl)
theorem dX3_age_63 : decode cX3_age 63 = .ok (.iaload, 1) := dk_46 (dk_at dksX3_age_2 15 rfl rfl)
theorem dX3_age_64 : decode cX3_age 64 = .ok (.aload_n 0, 1) := dk_42 (dk_at dksX3_age_2 16 rfl rfl)
theorem dX3_age_65 : decode cX3_age 65 = .ok (.getfield 411, 3) := dk_180 1 155 (dk_at dksX3_age_2 17 rfl rfl)
theorem dX3_age_68 : decode cX3_age 68 = .ok (.invokevirtual 290, 3) := dk_182 1 34 (dk_at dksX3_age_2 20 rfl rfl)
theorem dX3_age_71 : decode cX3_age 71 = .ok (.aload_n 0, 1) := dk_42 (dk_at dksX3_age_2 23 rfl rfl)
theorem dX3_age_72 : decode cX3_age 72 = .ok (.iload_n 1, 1) := dk_27 (dk_at dksX3_age_3 0 rfl rfl)
theorem dX3_age_73 : decode cX3_age 73 = .ok (.aload_n 0, 1) := dk_42 (dk_at dksX3_age_3 1 rfl rfl)
theorem dX3_age_74 : decode cX3_age 74 = .ok (.getfield 43, 3) := dk_180 0 43 (dk_at dksX3_age_3 2 rfl rfl)
theorem dX3_age_77 : decode cX3_age 77 = .ok (.iload 5, 2) := dk_21 5 (dk_at dksX3_age_3 5 rfl rfl)
theorem dX3_age_79 : decode cX3_age 79 = .ok (.iaload, 1) := dk_46 (dk_at dksX3_age_3 7 rfl rfl)
theorem dX3_age_80 : decode cX3_age 80 = .ok (.aload_n 0, 1) := dk_42 (dk_at dksX3_age_3 8 rfl rfl)
theorem dX3_age_81 : decode cX3_age 81 = .ok (.getfield 411, 3) := dk_180 1 155 (dk_at dksX3_age_3 9 rfl rfl)
theorem dX3_age_84 : decode cX3_age 84 = .ok (.invokevirtual 290, 3) := dk_182 1 34 (dk_at dksX3_age_3 12 rfl rfl)
theorem dX3_age_87 : decode cX3_age 87 = .ok (.iadd, 1) := dk_96 (dk_at dksX3_age_3 15 rfl rfl)
theorem dX3_age_88 : decode cX3_age 88 = .ok (.istore 7, 2) := dk_54 7 (dk_at dksX3_age_3 16 rfl rfl)
theorem dX3_age_90 : decode cX3_age 90 = .ok (.aload_n 0, 1) := dk_42 (dk_at dksX3_age_3 18 rfl rfl)
theorem dX3_age_91 : decode cX3_age 91 = .ok (.getfield 115, 3) := dk_180 0 115 (dk_at dksX3_age_3 19 rfl rfl)
theorem dX3_age_94 : decode cX3_age 94 = .ok (.iload 4, 2) := dk_21 4 (dk_at dksX3_age_3 22 rfl rfl)
theorem dX3_age_96 : decode cX3_age 96 = .ok (.iconst 0, 1) := dk_3 (dk_at dksX3_age_4 0 rfl rfl)
theorem dX3_age_97 : decode cX3_age 97 = .ok (.aload_n 0, 1) := dk_42 (dk_at dksX3_age_4 1 rfl rfl)
theorem dX3_age_98 : decode cX3_age 98 = .ok (.getfield 112, 3) := dk_180 0 112 (dk_at dksX3_age_4 2 rfl rfl)
theorem dX3_age_101 : decode cX3_age 101 = .ok (.iload 4, 2) := dk_21 4 (dk_at dksX3_age_4 5 rfl rfl)
theorem dX3_age_103 : decode cX3_age 103 = .ok (.iaload, 1) := dk_46 (dk_at dksX3_age_4 7 rfl rfl)
theorem dX3_age_104 : decode cX3_age 104 = .ok (.aload_n 0, 1) := dk_42 (dk_at dksX3_age_4 8 rfl rfl)
theorem dX3_age_105 : decode cX3_age 105 = .ok (.iload_n 2, 1) := dk_28 (dk_at dksX3_age_4 9 rfl rfl)
theorem dX3_age_106 : decode cX3_age 106 = .ok (.aload_n 0, 1) := dk_42 (dk_at dksX3_age_4 10 rfl rfl)
theorem dX3_age_107 : decode cX3_age 107 = .ok (.getfield 112, 3) := dk_180 0 112 (dk_at dksX3_age_4 11 rfl rfl)
theorem dX3_age_110 : decode cX3_age 110 = .ok (.iload 4, 2) := dk_21 4 (dk_at dksX3_age_4 14 rfl rfl)
theorem dX3_age_112 : decode cX3_age 112 = .ok (.iaload, 1) := dk_46 (dk_at dksX3_age_4 16 rfl rfl)
theorem dX3_age_113 : decode cX3_age 113 = .ok (.iload_n 3, 1) := dk_29 (dk_at dksX3_age_4 17 rfl rfl)
theorem dX3_age_114 : decode cX3_age 114 = .ok (.iload 7, 2) := dk_21 7 (dk_at dksX3_age_4 18 rfl rfl)
theorem dX3_age_116 : decode cX3_age 116 = .ok (.aload_n 0, 1) := dk_42 (dk_at dksX3_age_4 20 rfl rfl)
theorem dX3_age_117 : decode cX3_age 117 = .ok (.getfield 13, 3) := dk_180 0 13 (dk_at dksX3_age_4 21 rfl rfl)
theorem dX3_age_120 : decode cX3_age 120 = .ok (.iload 6, 2) := dk_21 6 (dk_at dksX3_age_5 0 rfl rfl)
theorem dX3_age_122 : decode cX3_age 122 = .ok (.iaload, 1) := dk_46 (dk_at dksX3_age_5 2 rfl rfl)
theorem dX3_age_123 : decode cX3_age 123 = .ok (.aload_n 0, 1) := dk_42 (dk_at dksX3_age_5 3 rfl rfl)
theorem dX3_age_124 : decode cX3_age 124 = .ok (.getfield 9, 3) := dk_180 0 9 (dk_at dksX3_age_5 4 rfl rfl)
theorem dX3_age_127 : decode cX3_age 127 = .ok (.iload 6, 2) := dk_21 6 (dk_at dksX3_age_5 7 rfl rfl)
theorem dX3_age_129 : decode cX3_age 129 = .ok (.iaload, 1) := dk_46 (dk_at dksX3_age_5 9 rfl rfl)
theorem dX3_age_130 : decode cX3_age 130 = .ok (.invokevirtual 281, 3) := dk_182 1 25 (dk_at dksX3_age_5 10 rfl rfl)
theorem dX3_age_133 : decode cX3_age 133 = .ok (.invokestatic 155, 3) := dk_184 0 155 (dk_at dksX3_age_5 13 rfl rfl)
theorem dX3_age_136 : decode cX3_age 136 = .ok (.invokestatic 149, 3) := dk_184 0 149 (dk_at dksX3_age_5 16 rfl rfl)
theorem dX3_age_139 : decode cX3_age 139 = .ok (.iastore, 1) := dk_79 (dk_at dksX3_age_5 19 rfl rfl)
theorem dX3_age_140 : decode cX3_age 140 = .ok (.goto 11, 3) := dk_167 0 11 (dk_at dksX3_age_5 20 rfl rfl)
theorem dX3_age_143 : decode cX3_age 143 = .ok (.aload_n 0, 1) := dk_42 (dk_at dksX3_age_5 23 rfl rfl)
theorem dX3_age_144 : decode cX3_age 144 = .ok (.getfield 115, 3) := dk_180 0 115 (dk_at dksX3_age_6 0 rfl rfl)
theorem dX3_age_147 : decode cX3_age 147 = .ok (.iload 4, 2) := dk_21 4 (dk_at dksX3_age_6 3 rfl rfl)
theorem dX3_age_149 : decode cX3_age 149 = .ok (.iconst 0, 1) := dk_3 (dk_at dksX3_age_6 5 rfl rfl)
theorem dX3_age_150 : decode cX3_age 150 = .ok (.iastore, 1) := dk_79 (dk_at dksX3_age_6 6 rfl rfl)
theorem dX3_age_151 : decode cX3_age 151 = .ok (.iinc 4 1, 3) := dk_132 4 1 (dk_at dksX3_age_6 7 rfl rfl)
theorem dX3_age_154 : decode cX3_age 154 = .ok (.goto (-151), 3) := dk_167 255 105 (dk_at dksX3_age_6 10 rfl rfl)
theorem dX3_age_157 : decode cX3_age 157 = .ok (.aload_n 0, 1) := dk_42 (dk_at dksX3_age_6 13 rfl rfl)
theorem dX3_age_158 : decode cX3_age 158 = .ok (.getfield 411, 3) := dk_180 1 155 (dk_at dksX3_age_6 14 rfl rfl)
theorem dX3_age_161 : decode cX3_age 161 = .ok (.istore 4, 2) := dk_54 4 (dk_at dksX3_age_6 17 rfl rfl)
theorem dX3_age_163 : decode cX3_age 163 = .ok (.iconst 0, 1) := dk_3 (dk_at dksX3_age_6 19 rfl rfl)
theorem dX3_age_164 : decode cX3_age 164 = .ok (.istore 5, 2) := dk_54 5 (dk_at dksX3_age_6 20 rfl rfl)
theorem dX3_age_166 : decode cX3_age 166 = .ok (.iload 5, 2) := dk_21 5 (dk_at dksX3_age_6 22 rfl rfl)
theorem dX3_age_168 : decode cX3_age 168 = .ok (.aload_n 0, 1) := dk_42 (dk_at dksX3_age_7 0 rfl rfl)
theorem dX3_age_169 : decode cX3_age 169 = .ok (.getfield 31, 3) := dk_180 0 31 (dk_at dksX3_age_7 1 rfl rfl)
theorem dX3_age_172 : decode cX3_age 172 = .ok (.iload_n 1, 1) := dk_27 (dk_at dksX3_age_7 4 rfl rfl)
theorem dX3_age_173 : decode cX3_age 173 = .ok (.iaload, 1) := dk_46 (dk_at dksX3_age_7 5 rfl rfl)
theorem dX3_age_174 : decode cX3_age 174 = .ok (.if_icmp .ge 51, 3) := dk_162 0 51 (dk_at dksX3_age_7 6 rfl rfl)
theorem dX3_age_177 : decode cX3_age 177 = .ok (.aload_n 0, 1) := dk_42 (dk_at dksX3_age_7 9 rfl rfl)
theorem dX3_age_178 : decode cX3_age 178 = .ok (.getfield 112, 3) := dk_180 0 112 (dk_at dksX3_age_7 10 rfl rfl)
theorem dX3_age_181 : decode cX3_age 181 = .ok (.iload 5, 2) := dk_21 5 (dk_at dksX3_age_7 13 rfl rfl)
theorem dX3_age_183 : decode cX3_age 183 = .ok (.dup2, 1) := dk_92 (dk_at dksX3_age_7 15 rfl rfl)
theorem dX3_age_184 : decode cX3_age 184 = .ok (.iaload, 1) := dk_46 (dk_at dksX3_age_7 16 rfl rfl)
theorem dX3_age_185 : decode cX3_age 185 = .ok (.aload_n 0, 1) := dk_42 (dk_at dksX3_age_7 17 rfl rfl)
theorem dX3_age_186 : decode cX3_age 186 = .ok (.getfield 115, 3) := dk_180 0 115 (dk_at dksX3_age_7 18 rfl rfl)
theorem dX3_age_189 : decode cX3_age 189 = .ok (.iload 5, 2) := dk_21 5 (dk_at dksX3_age_7 21 rfl rfl)
theorem dX3_age_191 : decode cX3_age 191 = .ok (.iaload, 1) := dk_46 (dk_at dksX3_age_7 23 rfl rfl)
theorem dX3_age_192 : decode cX3_age 192 = .ok (.isub, 1) := dk_100 (dk_at dksX3_age_8 0 rfl rfl)
theorem dX3_age_193 : decode cX3_age 193 = .ok (.iastore, 1) := dk_79 (dk_at dksX3_age_8 1 rfl rfl)
theorem dX3_age_194 : decode cX3_age 194 = .ok (.iload 4, 2) := dk_21 4 (dk_at dksX3_age_8 2 rfl rfl)
theorem dX3_age_196 : decode cX3_age 196 = .ok (.aload_n 0, 1) := dk_42 (dk_at dksX3_age_8 4 rfl rfl)
theorem dX3_age_197 : decode cX3_age 197 = .ok (.getfield 112, 3) := dk_180 0 112 (dk_at dksX3_age_8 5 rfl rfl)
theorem dX3_age_200 : decode cX3_age 200 = .ok (.iload 5, 2) := dk_21 5 (dk_at dksX3_age_8 8 rfl rfl)
theorem dX3_age_202 : decode cX3_age 202 = .ok (.iaload, 1) := dk_46 (dk_at dksX3_age_8 10 rfl rfl)
theorem dX3_age_203 : decode cX3_age 203 = .ok (.ifCond .ne 12, 3) := dk_154 0 12 (dk_at dksX3_age_8 11 rfl rfl)
theorem dX3_age_206 : decode cX3_age 206 = .ok (.iconst 1, 1) := dk_4 (dk_at dksX3_age_8 14 rfl rfl)
theorem dX3_age_207 : decode cX3_age 207 = .ok (.iload 5, 2) := dk_21 5 (dk_at dksX3_age_8 15 rfl rfl)
theorem dX3_age_209 : decode cX3_age 209 = .ok (.ishl, 1) := dk_120 (dk_at dksX3_age_8 17 rfl rfl)
theorem dX3_age_210 : decode cX3_age 210 = .ok (.iconst (-1), 1) := dk_2 (dk_at dksX3_age_8 18 rfl rfl)
theorem dX3_age_211 : decode cX3_age 211 = .ok (.ixor, 1) := dk_130 (dk_at dksX3_age_8 19 rfl rfl)
theorem dX3_age_212 : decode cX3_age 212 = .ok (.goto 4, 3) := dk_167 0 4 (dk_at dksX3_age_8 20 rfl rfl)
theorem dX3_age_215 : decode cX3_age 215 = .ok (.iconst (-1), 1) := dk_2 (dk_at dksX3_age_8 23 rfl rfl)
theorem dX3_age_216 : decode cX3_age 216 = .ok (.iand, 1) := dk_126 (dk_at dksX3_age_9 0 rfl rfl)
theorem dX3_age_217 : decode cX3_age 217 = .ok (.istore 4, 2) := dk_54 4 (dk_at dksX3_age_9 1 rfl rfl)
theorem dX3_age_219 : decode cX3_age 219 = .ok (.iinc 5 1, 3) := dk_132 5 1 (dk_at dksX3_age_9 3 rfl rfl)
theorem dX3_age_222 : decode cX3_age 222 = .ok (.goto (-56), 3) := dk_167 255 200 (dk_at dksX3_age_9 6 rfl rfl)
theorem dX3_age_225 : decode cX3_age 225 = .ok (.aload_n 0, 1) := dk_42 (dk_at dksX3_age_9 9 rfl rfl)
theorem dX3_age_226 : decode cX3_age 226 = .ok (.aload_n 0, 1) := dk_42 (dk_at dksX3_age_9 10 rfl rfl)
theorem dX3_age_227 : decode cX3_age 227 = .ok (.iload_n 1, 1) := dk_27 (dk_at dksX3_age_9 11 rfl rfl)
theorem dX3_age_228 : decode cX3_age 228 = .ok (.iload 4, 2) := dk_21 4 (dk_at dksX3_age_9 12 rfl rfl)
theorem dX3_age_230 : decode cX3_age 230 = .ok (.invokevirtual 333, 3) := dk_182 1 77 (dk_at dksX3_age_9 14 rfl rfl)
theorem dX3_age_233 : decode cX3_age 233 = .ok (.putfield 411, 3) := dk_181 1 155 (dk_at dksX3_age_9 17 rfl rfl)
theorem dX3_age_236 : decode cX3_age 236 = .ok (.iconst 0, 1) := dk_3 (dk_at dksX3_age_9 20 rfl rfl)
theorem dX3_age_237 : decode cX3_age 237 = .ok (.istore 5, 2) := dk_54 5 (dk_at dksX3_age_9 21 rfl rfl)
theorem dX3_age_239 : decode cX3_age 239 = .ok (.iload 5, 2) := dk_21 5 (dk_at dksX3_age_10 0 rfl rfl)
theorem dX3_age_241 : decode cX3_age 241 = .ok (.aload_n 0, 1) := dk_42 (dk_at dksX3_age_10 2 rfl rfl)
theorem dX3_age_242 : decode cX3_age 242 = .ok (.getfield 31, 3) := dk_180 0 31 (dk_at dksX3_age_10 3 rfl rfl)
theorem dX3_age_245 : decode cX3_age 245 = .ok (.iload_n 1, 1) := dk_27 (dk_at dksX3_age_10 6 rfl rfl)
theorem dX3_age_246 : decode cX3_age 246 = .ok (.iaload, 1) := dk_46 (dk_at dksX3_age_10 7 rfl rfl)
theorem dX3_age_247 : decode cX3_age 247 = .ok (.if_icmp .ge 40, 3) := dk_162 0 40 (dk_at dksX3_age_10 8 rfl rfl)
theorem dX3_age_250 : decode cX3_age 250 = .ok (.aload_n 0, 1) := dk_42 (dk_at dksX3_age_10 11 rfl rfl)
theorem dX3_age_251 : decode cX3_age 251 = .ok (.getfield 112, 3) := dk_180 0 112 (dk_at dksX3_age_10 12 rfl rfl)
theorem dX3_age_254 : decode cX3_age 254 = .ok (.iload 5, 2) := dk_21 5 (dk_at dksX3_age_10 15 rfl rfl)
theorem dX3_age_256 : decode cX3_age 256 = .ok (.aload_n 0, 1) := dk_42 (dk_at dksX3_age_10 17 rfl rfl)
theorem dX3_age_257 : decode cX3_age 257 = .ok (.getfield 411, 3) := dk_180 1 155 (dk_at dksX3_age_10 18 rfl rfl)
theorem dX3_age_260 : decode cX3_age 260 = .ok (.iload 5, 2) := dk_21 5 (dk_at dksX3_age_10 21 rfl rfl)
theorem dX3_age_262 : decode cX3_age 262 = .ok (.ishr, 1) := dk_122 (dk_at dksX3_age_10 23 rfl rfl)
theorem dX3_age_263 : decode cX3_age 263 = .ok (.iconst 1, 1) := dk_4 (dk_at dksX3_age_11 0 rfl rfl)
theorem dX3_age_264 : decode cX3_age 264 = .ok (.iand, 1) := dk_126 (dk_at dksX3_age_11 1 rfl rfl)
theorem dX3_age_265 : decode cX3_age 265 = .ok (.iconst 1, 1) := dk_4 (dk_at dksX3_age_11 2 rfl rfl)
theorem dX3_age_266 : decode cX3_age 266 = .ok (.if_icmp .ne 13, 3) := dk_160 0 13 (dk_at dksX3_age_11 3 rfl rfl)
theorem dX3_age_269 : decode cX3_age 269 = .ok (.aload_n 0, 1) := dk_42 (dk_at dksX3_age_11 6 rfl rfl)
theorem dX3_age_270 : decode cX3_age 270 = .ok (.getfield 112, 3) := dk_180 0 112 (dk_at dksX3_age_11 7 rfl rfl)
theorem dX3_age_273 : decode cX3_age 273 = .ok (.iload 5, 2) := dk_21 5 (dk_at dksX3_age_11 10 rfl rfl)
theorem dX3_age_275 : decode cX3_age 275 = .ok (.iaload, 1) := dk_46 (dk_at dksX3_age_11 12 rfl rfl)
theorem dX3_age_276 : decode cX3_age 276 = .ok (.goto 4, 3) := dk_167 0 4 (dk_at dksX3_age_11 13 rfl rfl)
theorem dX3_age_279 : decode cX3_age 279 = .ok (.iconst 0, 1) := dk_3 (dk_at dksX3_age_11 16 rfl rfl)
theorem dX3_age_280 : decode cX3_age 280 = .ok (.iastore, 1) := dk_79 (dk_at dksX3_age_11 17 rfl rfl)
theorem dX3_age_281 : decode cX3_age 281 = .ok (.iinc 5 1, 3) := dk_132 5 1 (dk_at dksX3_age_11 18 rfl rfl)
theorem dX3_age_284 : decode cX3_age 284 = .ok (.goto (-45), 3) := dk_167 255 211 (dk_at dksX3_age_11 21 rfl rfl)
theorem dX3_age_287 : decode cX3_age 287 = .ok (.return_, 1) := dk_177 (dk_at dksX3_age_12 0 rfl rfl)
abbrev cX3_falls : ByteArray := prog_26_method_101_code
def yX3_falls : MethodName := ⟨RX3, "falls", "(III)I"⟩
def dkwX3_falls_5 : List UInt8 := [132, 4, 1, 167, 255, 188, 2, 172]
abbrev dktX3_falls_5 : List UInt8 := dkwX3_falls_5 ++ []
def dkwX3_falls_4 : List UInt8 := [180, 1, 155, 182, 1, 85, 4, 164, 0, 16, 167, 0, 10, 42, 180, 1, 155, 154, 0, 6, 21, 4, 172]
abbrev dktX3_falls_4 : List UInt8 := dkwX3_falls_4 ++ dktX3_falls_5
def dkwX3_falls_3 : List UInt8 := [180, 1, 155, 42, 27, 182, 1, 31, 159, 0, 37, 167, 0, 31, 29, 4, 160, 0, 19, 42, 27, 42]
abbrev dktX3_falls_3 : List UInt8 := dkwX3_falls_3 ++ dktX3_falls_4
def dkwX3_falls_2 : List UInt8 := [54, 4, 21, 4, 16, 60, 163, 0, 67, 42, 27, 28, 21, 4, 182, 1, 161, 29, 154, 0, 18, 42]
abbrev dktX3_falls_2 : List UInt8 := dkwX3_falls_2 ++ dktX3_falls_3
def dkwX3_falls_1 : List UInt8 := [5, 184, 0, 121, 153, 0, 12, 42, 180, 0, 31, 27, 46, 154, 0, 5, 2, 172, 42, 27, 182, 1, 158, 4]
abbrev dktX3_falls_1 : List UInt8 := dkwX3_falls_1 ++ dktX3_falls_2
def dkwX3_falls_0 : List UInt8 := [42, 27, 182, 1, 28, 153, 0, 35, 28, 3, 42, 180, 0, 255, 4, 100, 184, 0, 121, 153, 0, 21, 29, 3]
abbrev dktX3_falls_0 : List UInt8 := dkwX3_falls_0 ++ dktX3_falls_1
theorem dksX3_falls_0 : cX3_falls.data.toList.drop 0 = dktX3_falls_0 := by decide +kernel
theorem dksX3_falls_1 : cX3_falls.data.toList.drop 24 = dktX3_falls_1 := dk_seg dksX3_falls_0 24 rfl rfl
theorem dksX3_falls_2 : cX3_falls.data.toList.drop 48 = dktX3_falls_2 := dk_seg dksX3_falls_1 24 rfl rfl
theorem dksX3_falls_3 : cX3_falls.data.toList.drop 70 = dktX3_falls_3 := dk_seg dksX3_falls_2 22 rfl rfl
theorem dksX3_falls_4 : cX3_falls.data.toList.drop 92 = dktX3_falls_4 := dk_seg dksX3_falls_3 22 rfl rfl
theorem dksX3_falls_5 : cX3_falls.data.toList.drop 115 = dktX3_falls_5 := dk_seg dksX3_falls_4 23 rfl rfl
theorem dX3_falls_0 : decode cX3_falls 0 = .ok (.aload_n 0, 1) := dk_42 (dk_at dksX3_falls_0 0 rfl rfl)
theorem dX3_falls_1 : decode cX3_falls 1 = .ok (.iload_n 1, 1) := dk_27 (dk_at dksX3_falls_0 1 rfl rfl)
theorem dX3_falls_2 : decode cX3_falls 2 = .ok (.invokevirtual 284, 3) := dk_182 1 28 (dk_at dksX3_falls_0 2 rfl rfl)
theorem dX3_falls_5 : decode cX3_falls 5 = .ok (.ifCond .eq 35, 3) := dk_153 0 35 (dk_at dksX3_falls_0 5 rfl rfl)
theorem dX3_falls_8 : decode cX3_falls 8 = .ok (.iload_n 2, 1) := dk_28 (dk_at dksX3_falls_0 8 rfl rfl)
theorem dX3_falls_9 : decode cX3_falls 9 = .ok (.iconst 0, 1) := dk_3 (dk_at dksX3_falls_0 9 rfl rfl)
theorem dX3_falls_10 : decode cX3_falls 10 = .ok (.aload_n 0, 1) := dk_42 (dk_at dksX3_falls_0 10 rfl rfl)
theorem dX3_falls_11 : decode cX3_falls 11 = .ok (.getfield 255, 3) := dk_180 0 255 (dk_at dksX3_falls_0 11 rfl rfl)
theorem dX3_falls_14 : decode cX3_falls 14 = .ok (.iconst 1, 1) := dk_4 (dk_at dksX3_falls_0 14 rfl rfl)
theorem dX3_falls_15 : decode cX3_falls 15 = .ok (.isub, 1) := dk_100 (dk_at dksX3_falls_0 15 rfl rfl)
theorem dX3_falls_16 : decode cX3_falls 16 = .ok (.invokestatic 121, 3) := dk_184 0 121 (dk_at dksX3_falls_0 16 rfl rfl)
theorem dX3_falls_19 : decode cX3_falls 19 = .ok (.ifCond .eq 21, 3) := dk_153 0 21 (dk_at dksX3_falls_0 19 rfl rfl)
theorem dX3_falls_22 : decode cX3_falls 22 = .ok (.iload_n 3, 1) := dk_29 (dk_at dksX3_falls_0 22 rfl rfl)
theorem dX3_falls_23 : decode cX3_falls 23 = .ok (.iconst 0, 1) := dk_3 (dk_at dksX3_falls_0 23 rfl rfl)
theorem dX3_falls_24 : decode cX3_falls 24 = .ok (.iconst 2, 1) := dk_5 (dk_at dksX3_falls_1 0 rfl rfl)
theorem dX3_falls_25 : decode cX3_falls 25 = .ok (.invokestatic 121, 3) := dk_184 0 121 (dk_at dksX3_falls_1 1 rfl rfl)
theorem dX3_falls_28 : decode cX3_falls 28 = .ok (.ifCond .eq 12, 3) := dk_153 0 12 (dk_at dksX3_falls_1 4 rfl rfl)
theorem dX3_falls_31 : decode cX3_falls 31 = .ok (.aload_n 0, 1) := dk_42 (dk_at dksX3_falls_1 7 rfl rfl)
theorem dX3_falls_32 : decode cX3_falls 32 = .ok (.getfield 31, 3) := dk_180 0 31 (dk_at dksX3_falls_1 8 rfl rfl)
theorem dX3_falls_35 : decode cX3_falls 35 = .ok (.iload_n 1, 1) := dk_27 (dk_at dksX3_falls_1 11 rfl rfl)
theorem dX3_falls_36 : decode cX3_falls 36 = .ok (.iaload, 1) := dk_46 (dk_at dksX3_falls_1 12 rfl rfl)
theorem dX3_falls_37 : decode cX3_falls 37 = .ok (.ifCond .ne 5, 3) := dk_154 0 5 (dk_at dksX3_falls_1 13 rfl rfl)
theorem dX3_falls_40 : decode cX3_falls 40 = .ok (.iconst (-1), 1) := dk_2 (dk_at dksX3_falls_1 16 rfl rfl)
theorem dX3_falls_41 : decode cX3_falls 41 = .ok (.ireturn, 1) := dk_172 (dk_at dksX3_falls_1 17 rfl rfl)
theorem dX3_falls_42 : decode cX3_falls 42 = .ok (.aload_n 0, 1) := dk_42 (dk_at dksX3_falls_1 18 rfl rfl)
theorem dX3_falls_43 : decode cX3_falls 43 = .ok (.iload_n 1, 1) := dk_27 (dk_at dksX3_falls_1 19 rfl rfl)
theorem dX3_falls_44 : decode cX3_falls 44 = .ok (.invokevirtual 414, 3) := dk_182 1 158 (dk_at dksX3_falls_1 20 rfl rfl)
theorem dX3_falls_47 : decode cX3_falls 47 = .ok (.iconst 1, 1) := dk_4 (dk_at dksX3_falls_1 23 rfl rfl)
theorem dX3_falls_48 : decode cX3_falls 48 = .ok (.istore 4, 2) := dk_54 4 (dk_at dksX3_falls_2 0 rfl rfl)
theorem dX3_falls_50 : decode cX3_falls 50 = .ok (.iload 4, 2) := dk_21 4 (dk_at dksX3_falls_2 2 rfl rfl)
theorem dX3_falls_52 : decode cX3_falls 52 = .ok (.bipush 60, 2) := dk_16 60 (dk_at dksX3_falls_2 4 rfl rfl)
theorem dX3_falls_54 : decode cX3_falls 54 = .ok (.if_icmp .gt 67, 3) := dk_163 0 67 (dk_at dksX3_falls_2 6 rfl rfl)
theorem dX3_falls_57 : decode cX3_falls 57 = .ok (.aload_n 0, 1) := dk_42 (dk_at dksX3_falls_2 9 rfl rfl)
theorem dX3_falls_58 : decode cX3_falls 58 = .ok (.iload_n 1, 1) := dk_27 (dk_at dksX3_falls_2 10 rfl rfl)
theorem dX3_falls_59 : decode cX3_falls 59 = .ok (.iload_n 2, 1) := dk_28 (dk_at dksX3_falls_2 11 rfl rfl)
theorem dX3_falls_60 : decode cX3_falls 60 = .ok (.iload 4, 2) := dk_21 4 (dk_at dksX3_falls_2 12 rfl rfl)
theorem dX3_falls_62 : decode cX3_falls 62 = .ok (.invokevirtual 417, 3) := dk_182 1 161 (dk_at dksX3_falls_2 14 rfl rfl)
theorem dX3_falls_65 : decode cX3_falls 65 = .ok (.iload_n 3, 1) := dk_29 (dk_at dksX3_falls_2 17 rfl rfl)
theorem dX3_falls_66 : decode cX3_falls 66 = .ok (.ifCond .ne 18, 3) := dk_154 0 18 (dk_at dksX3_falls_2 18 rfl rfl)
theorem dX3_falls_69 : decode cX3_falls 69 = .ok (.aload_n 0, 1) := dk_42 (dk_at dksX3_falls_2 21 rfl rfl)
theorem dX3_falls_70 : decode cX3_falls 70 = .ok (.getfield 411, 3) := dk_180 1 155 (dk_at dksX3_falls_3 0 rfl rfl)
theorem dX3_falls_73 : decode cX3_falls 73 = .ok (.aload_n 0, 1) := dk_42 (dk_at dksX3_falls_3 3 rfl rfl)
theorem dX3_falls_74 : decode cX3_falls 74 = .ok (.iload_n 1, 1) := dk_27 (dk_at dksX3_falls_3 4 rfl rfl)
theorem dX3_falls_75 : decode cX3_falls 75 = .ok (.invokevirtual 287, 3) := dk_182 1 31 (dk_at dksX3_falls_3 5 rfl rfl)
theorem dX3_falls_78 : decode cX3_falls 78 = .ok (.if_icmp .eq 37, 3) := dk_159 0 37 (dk_at dksX3_falls_3 8 rfl rfl)
theorem dX3_falls_81 : decode cX3_falls 81 = .ok (.goto 31, 3) := dk_167 0 31 (dk_at dksX3_falls_3 11 rfl rfl)
theorem dX3_falls_84 : decode cX3_falls 84 = .ok (.iload_n 3, 1) := dk_29 (dk_at dksX3_falls_3 14 rfl rfl)
theorem dX3_falls_85 : decode cX3_falls 85 = .ok (.iconst 1, 1) := dk_4 (dk_at dksX3_falls_3 15 rfl rfl)
theorem dX3_falls_86 : decode cX3_falls 86 = .ok (.if_icmp .ne 19, 3) := dk_160 0 19 (dk_at dksX3_falls_3 16 rfl rfl)
theorem dX3_falls_89 : decode cX3_falls 89 = .ok (.aload_n 0, 1) := dk_42 (dk_at dksX3_falls_3 19 rfl rfl)
theorem dX3_falls_90 : decode cX3_falls 90 = .ok (.iload_n 1, 1) := dk_27 (dk_at dksX3_falls_3 20 rfl rfl)
theorem dX3_falls_91 : decode cX3_falls 91 = .ok (.aload_n 0, 1) := dk_42 (dk_at dksX3_falls_3 21 rfl rfl)
theorem dX3_falls_92 : decode cX3_falls 92 = .ok (.getfield 411, 3) := dk_180 1 155 (dk_at dksX3_falls_4 0 rfl rfl)
theorem dX3_falls_95 : decode cX3_falls 95 = .ok (.invokevirtual 341, 3) := dk_182 1 85 (dk_at dksX3_falls_4 3 rfl rfl)
theorem dX3_falls_98 : decode cX3_falls 98 = .ok (.iconst 1, 1) := dk_4 (dk_at dksX3_falls_4 6 rfl rfl)
theorem dX3_falls_99 : decode cX3_falls 99 = .ok (.if_icmp .le 16, 3) := dk_164 0 16 (dk_at dksX3_falls_4 7 rfl rfl)
theorem dX3_falls_102 : decode cX3_falls 102 = .ok (.goto 10, 3) := dk_167 0 10 (dk_at dksX3_falls_4 10 rfl rfl)
theorem dX3_falls_105 : decode cX3_falls 105 = .ok (.aload_n 0, 1) := dk_42 (dk_at dksX3_falls_4 13 rfl rfl)
theorem dX3_falls_106 : decode cX3_falls 106 = .ok (.getfield 411, 3) := dk_180 1 155 (dk_at dksX3_falls_4 14 rfl rfl)
theorem dX3_falls_109 : decode cX3_falls 109 = .ok (.ifCond .ne 6, 3) := dk_154 0 6 (dk_at dksX3_falls_4 17 rfl rfl)
theorem dX3_falls_112 : decode cX3_falls 112 = .ok (.iload 4, 2) := dk_21 4 (dk_at dksX3_falls_4 20 rfl rfl)
theorem dX3_falls_114 : decode cX3_falls 114 = .ok (.ireturn, 1) := dk_172 (dk_at dksX3_falls_4 22 rfl rfl)
theorem dX3_falls_115 : decode cX3_falls 115 = .ok (.iinc 4 1, 3) := dk_132 4 1 (dk_at dksX3_falls_5 0 rfl rfl)
theorem dX3_falls_118 : decode cX3_falls 118 = .ok (.goto (-68), 3) := dk_167 255 188 (dk_at dksX3_falls_5 3 rfl rfl)
theorem dX3_falls_121 : decode cX3_falls 121 = .ok (.iconst (-1), 1) := dk_2 (dk_at dksX3_falls_5 6 rfl rfl)
theorem dX3_falls_122 : decode cX3_falls 122 = .ok (.ireturn, 1) := dk_172 (dk_at dksX3_falls_5 7 rfl rfl)
abbrev cX3_count : ByteArray := prog_26_method_102_code
def yX3_count : MethodName := ⟨RX3, "count", "(I)I"⟩
def dkwX3_count_3 : List UInt8 := [172, 2, 172]
abbrev dktX3_count_3 : List UInt8 := dkwX3_count_3 ++ []
def dkwX3_count_2 : List UInt8 := [42, 180, 0, 125, 172, 42, 180, 0, 252, 172, 42, 180, 1, 137, 172, 42, 180, 0, 132, 172, 42, 180, 0, 255]
abbrev dktX3_count_2 : List UInt8 := dkwX3_count_2 ++ dktX3_count_3
def dkwX3_count_1 : List UInt8 := [170, 0, 0, 0, 0, 0, 60, 0, 0, 0, 0, 0, 0, 0, 4, 0, 0, 0, 35, 0, 0, 0, 40, 0, 0, 0, 45, 0, 0, 0, 50, 0, 0, 0, 55]
abbrev dktX3_count_1 : List UInt8 := dkwX3_count_1 ++ dktX3_count_2
def dkwX3_count_0 : List UInt8 := [27]
abbrev dktX3_count_0 : List UInt8 := dkwX3_count_0 ++ dktX3_count_1
theorem dksX3_count_0 : cX3_count.data.toList.drop 0 = dktX3_count_0 := by decide +kernel
theorem dksX3_count_1 : cX3_count.data.toList.drop 1 = dktX3_count_1 := dk_seg dksX3_count_0 1 rfl rfl
theorem dksX3_count_2 : cX3_count.data.toList.drop 36 = dktX3_count_2 := dk_seg dksX3_count_1 35 rfl rfl
theorem dksX3_count_3 : cX3_count.data.toList.drop 60 = dktX3_count_3 := dk_seg dksX3_count_2 24 rfl rfl
theorem dX3_count_0 : decode cX3_count 0 = .ok (.iload_n 1, 1) := dk_27 (dk_at dksX3_count_0 0 rfl rfl)
theorem dX3_count_1 : decode cX3_count 1 = .ok (.tableswitch 60 0 4 #[35, 40, 45, 50, 55], 35) := by decide +kernel
theorem dX3_count_36 : decode cX3_count 36 = .ok (.aload_n 0, 1) := dk_42 (dk_at dksX3_count_2 0 rfl rfl)
theorem dX3_count_37 : decode cX3_count 37 = .ok (.getfield 125, 3) := dk_180 0 125 (dk_at dksX3_count_2 1 rfl rfl)
theorem dX3_count_40 : decode cX3_count 40 = .ok (.ireturn, 1) := dk_172 (dk_at dksX3_count_2 4 rfl rfl)
theorem dX3_count_41 : decode cX3_count 41 = .ok (.aload_n 0, 1) := dk_42 (dk_at dksX3_count_2 5 rfl rfl)
theorem dX3_count_42 : decode cX3_count 42 = .ok (.getfield 252, 3) := dk_180 0 252 (dk_at dksX3_count_2 6 rfl rfl)
theorem dX3_count_45 : decode cX3_count 45 = .ok (.ireturn, 1) := dk_172 (dk_at dksX3_count_2 9 rfl rfl)
theorem dX3_count_46 : decode cX3_count 46 = .ok (.aload_n 0, 1) := dk_42 (dk_at dksX3_count_2 10 rfl rfl)
theorem dX3_count_47 : decode cX3_count 47 = .ok (.getfield 393, 3) := dk_180 1 137 (dk_at dksX3_count_2 11 rfl rfl)
theorem dX3_count_50 : decode cX3_count 50 = .ok (.ireturn, 1) := dk_172 (dk_at dksX3_count_2 14 rfl rfl)
theorem dX3_count_51 : decode cX3_count 51 = .ok (.aload_n 0, 1) := dk_42 (dk_at dksX3_count_2 15 rfl rfl)
theorem dX3_count_52 : decode cX3_count 52 = .ok (.getfield 132, 3) := dk_180 0 132 (dk_at dksX3_count_2 16 rfl rfl)
theorem dX3_count_55 : decode cX3_count 55 = .ok (.ireturn, 1) := dk_172 (dk_at dksX3_count_2 19 rfl rfl)
theorem dX3_count_56 : decode cX3_count 56 = .ok (.aload_n 0, 1) := dk_42 (dk_at dksX3_count_2 20 rfl rfl)
theorem dX3_count_57 : decode cX3_count 57 = .ok (.getfield 255, 3) := dk_180 0 255 (dk_at dksX3_count_2 21 rfl rfl)
theorem dX3_count_60 : decode cX3_count 60 = .ok (.ireturn, 1) := dk_172 (dk_at dksX3_count_3 0 rfl rfl)
theorem dX3_count_61 : decode cX3_count 61 = .ok (.iconst (-1), 1) := dk_2 (dk_at dksX3_count_3 1 rfl rfl)
theorem dX3_count_62 : decode cX3_count 62 = .ok (.ireturn, 1) := dk_172 (dk_at dksX3_count_3 2 rfl rfl)
theorem q105 : (Jvm.Cond.initialized "BalloonStallModel") ∈ lw_all := lw_g (lw_at lw_m1 3 rfl) rfl
theorem q1307 : (Jvm.Cond.instantiable "BalloonStallModel" (52 : Nat)) ∈ lw_all := lw_g (lw_at lw_m6 5 rfl) rfl
theorem q1309 : (Jvm.Cond.instanceMethod ({ cls := "BalloonStallModel", name := "<init>", desc := "()V" } : Jvm.MethodName)) ∈ lw_all := lw_g (lw_at lw_m6 7 rfl) rfl
theorem q1310 : (Jvm.Cond.code ({ cls := "BalloonStallModel", name := "<init>", desc := "()V" } : Jvm.MethodName) prog_26_method_2_code (1 : Nat) (Option.none : Option Jvm.ClassFile.FieldType)) ∈ lw_all := lw_g (lw_at lw_m6 8 rfl) rfl
theorem q1311 : (Jvm.Cond.methodLink "BalloonStallModel" (1 : Nat) ({ cls := "java/lang/Object", name := "<init>", desc := "()V" } : Jvm.MethodName)) ∈ lw_all := lw_g (lw_at lw_m6 9 rfl) rfl
theorem q1312 : (Jvm.Cond.fieldLink "BalloonStallModel" (118 : Nat) "BalloonStallModel" "thrown" "I") ∈ lw_all := lw_g (lw_at lw_m6 10 rfl) rfl
theorem q1313 : (Jvm.Cond.fieldLink "BalloonStallModel" (9 : Nat) "BalloonStallModel" "air" "[I") ∈ lw_all := lw_g (lw_at lw_m6 11 rfl) rfl
theorem q1314 : (Jvm.Cond.fieldLink "BalloonStallModel" (13 : Nat) "BalloonStallModel" "strain" "[I") ∈ lw_all := lw_g (lw_at lw_m6 12 rfl) rfl
theorem q1315 : (Jvm.Cond.fieldLink "BalloonStallModel" (16 : Nat) "BalloonStallModel" "chance" "[I") ∈ lw_all := lw_g (lw_at lw_m6 13 rfl) rfl
theorem q1316 : (Jvm.Cond.fieldLink "BalloonStallModel" (19 : Nat) "BalloonStallModel" "stock" "[I") ∈ lw_all := lw_g (lw_at lw_m6 14 rfl) rfl
theorem q1317 : (Jvm.Cond.fieldLink "BalloonStallModel" (125 : Nat) "BalloonStallModel" "sorts" "I") ∈ lw_all := lw_g (lw_at lw_m6 15 rfl) rfl
theorem q1318 : (Jvm.Cond.fieldLink "BalloonStallModel" (22 : Nat) "BalloonStallModel" "tape" "[I") ∈ lw_all := lw_g (lw_at lw_m6 16 rfl) rfl
theorem q1319 : (Jvm.Cond.fieldLink "BalloonStallModel" (132 : Nat) "BalloonStallModel" "size" "I") ∈ lw_all := lw_g (lw_at lw_m6 17 rfl) rfl
theorem q1320 : (Jvm.Cond.fieldLink "BalloonStallModel" (135 : Nat) "BalloonStallModel" "at" "I") ∈ lw_all := lw_g (lw_at lw_m6 18 rfl) rfl
theorem q1321 : (Jvm.Cond.fieldLink "BalloonStallModel" (142 : Nat) "BalloonStallModel" "wrong" "I") ∈ lw_all := lw_g (lw_at lw_m6 19 rfl) rfl
theorem q1322 : (Jvm.Cond.fieldLink "BalloonStallModel" (193 : Nat) "BalloonStallModel" "deep" "I") ∈ lw_all := lw_g (lw_at lw_m6 20 rfl) rfl
theorem q1323 : (Jvm.Cond.fieldLink "BalloonStallModel" (25 : Nat) "BalloonStallModel" "balloons" "[I") ∈ lw_all := lw_g (lw_at lw_m6 21 rfl) rfl
theorem q1324 : (Jvm.Cond.fieldLink "BalloonStallModel" (28 : Nat) "BalloonStallModel" "sortOf" "[I") ∈ lw_all := lw_g (lw_at lw_m6 22 rfl) rfl
theorem q1325 : (Jvm.Cond.fieldLink "BalloonStallModel" (31 : Nat) "BalloonStallModel" "bubbles" "[I") ∈ lw_all := lw_g (lw_at lw_m6 23 rfl) rfl
theorem q1326 : (Jvm.Cond.fieldLink "BalloonStallModel" (34 : Nat) "BalloonStallModel" "points" "[I") ∈ lw_all := lw_g (lw_at lw_m6 24 rfl) rfl
theorem q1327 : (Jvm.Cond.fieldLink "BalloonStallModel" (37 : Nat) "BalloonStallModel" "length" "[I") ∈ lw_all := lw_g (lw_at lw_m6 25 rfl) rfl
theorem q1328 : (Jvm.Cond.fieldLink "BalloonStallModel" (40 : Nat) "BalloonStallModel" "from" "[I") ∈ lw_all := lw_g (lw_at lw_m6 26 rfl) rfl
theorem q1329 : (Jvm.Cond.fieldLink "BalloonStallModel" (43 : Nat) "BalloonStallModel" "to" "[I") ∈ lw_all := lw_g (lw_at lw_m6 27 rfl) rfl
theorem q1330 : (Jvm.Cond.fieldLink "BalloonStallModel" (46 : Nat) "BalloonStallModel" "balloonOf" "[I") ∈ lw_all := lw_g (lw_at lw_m6 28 rfl) rfl
theorem q1331 : (Jvm.Cond.fieldLink "BalloonStallModel" (49 : Nat) "BalloonStallModel" "hands" "[I") ∈ lw_all := lw_g (lw_at lw_m6 29 rfl) rfl
theorem q1332 : (Jvm.Cond.fieldLink "BalloonStallModel" (252 : Nat) "BalloonStallModel" "figures" "I") ∈ lw_all := lw_g (lw_at lw_m6 30 rfl) rfl
theorem q1333 : (Jvm.Cond.fieldLink "BalloonStallModel" (52 : Nat) "BalloonStallModel" "head" "[I") ∈ lw_all := lw_g (lw_at lw_m6 31 rfl) rfl
theorem q1334 : (Jvm.Cond.fieldLink "BalloonStallModel" (55 : Nat) "BalloonStallModel" "named" "[I") ∈ lw_all := lw_g (lw_at lw_m6 32 rfl) rfl
theorem q1335 : (Jvm.Cond.fieldLink "BalloonStallModel" (158 : Nat) "BalloonStallModel" "raw" "I") ∈ lw_all := lw_g (lw_at lw_m6 33 rfl) rfl
theorem q1336 : (Jvm.Cond.fieldLink "BalloonStallModel" (171 : Nat) "BalloonStallModel" "where" "I") ∈ lw_all := lw_g (lw_at lw_m6 34 rfl) rfl
theorem q1337 : (Jvm.Cond.fieldLink "BalloonStallModel" (161 : Nat) "BalloonStallModel" "f" "I") ∈ lw_all := lw_g (lw_at lw_m6 35 rfl) rfl
theorem q1338 : (Jvm.Cond.fieldLink "BalloonStallModel" (58 : Nat) "BalloonStallModel" "number" "[I") ∈ lw_all := lw_g (lw_at lw_m6 36 rfl) rfl
theorem q1339 : (Jvm.Cond.fieldLink "BalloonStallModel" (61 : Nat) "BalloonStallModel" "codes" "[I") ∈ lw_all := lw_g (lw_at lw_m6 37 rfl) rfl
theorem q1340 : (Jvm.Cond.fieldLink "BalloonStallModel" (64 : Nat) "BalloonStallModel" "clauses" "[I") ∈ lw_all := lw_g (lw_at lw_m6 38 rfl) rfl
theorem q1341 : (Jvm.Cond.fieldLink "BalloonStallModel" (67 : Nat) "BalloonStallModel" "testTo" "[I") ∈ lw_all := lw_g (lw_at lw_m6 39 rfl) rfl
theorem q1342 : (Jvm.Cond.fieldLink "BalloonStallModel" (70 : Nat) "BalloonStallModel" "sumTo" "[I") ∈ lw_all := lw_g (lw_at lw_m6 40 rfl) rfl
theorem q1343 : (Jvm.Cond.fieldLink "BalloonStallModel" (255 : Nat) "BalloonStallModel" "rules" "I") ∈ lw_all := lw_g (lw_at lw_m6 41 rfl) rfl
theorem q1344 : (Jvm.Cond.fieldLink "BalloonStallModel" (205 : Nat) "BalloonStallModel" "into" "I") ∈ lw_all := lw_g (lw_at lw_m6 42 rfl) rfl
theorem q1345 : (Jvm.Cond.fieldLink "BalloonStallModel" (208 : Nat) "BalloonStallModel" "said" "I") ∈ lw_all := lw_g (lw_at lw_m6 43 rfl) rfl
theorem q1346 : (Jvm.Cond.fieldLink "BalloonStallModel" (73 : Nat) "BalloonStallModel" "pile" "[J") ∈ lw_all := lw_g (lw_at lw_m6 44 rfl) rfl
theorem q1347 : (Jvm.Cond.fieldLink "BalloonStallModel" (77 : Nat) "BalloonStallModel" "partner" "[I") ∈ lw_all := lw_g (lw_at lw_m6 45 rfl) rfl
theorem q1348 : (Jvm.Cond.fieldLink "BalloonStallModel" (80 : Nat) "BalloonStallModel" "fars" "[I") ∈ lw_all := lw_g (lw_at lw_m6 46 rfl) rfl
theorem q1349 : (Jvm.Cond.fieldLink "BalloonStallModel" (83 : Nat) "BalloonStallModel" "fewest" "[I") ∈ lw_all := lw_g (lw_at lw_m6 47 rfl) rfl
theorem q1350 : (Jvm.Cond.fieldLink "BalloonStallModel" (86 : Nat) "BalloonStallModel" "isWay" "[Z") ∈ lw_all := lw_g (lw_at lw_m6 48 rfl) rfl
theorem q1351 : (Jvm.Cond.fieldLink "BalloonStallModel" (90 : Nat) "BalloonStallModel" "odds" "[I") ∈ lw_all := lw_g (lw_at lw_m6 49 rfl) rfl
theorem q1352 : (Jvm.Cond.fieldLink "BalloonStallModel" (93 : Nat) "BalloonStallModel" "comes" "[I") ∈ lw_all := lw_g (lw_at lw_m6 50 rfl) rfl
theorem q1353 : (Jvm.Cond.fieldLink "BalloonStallModel" (96 : Nat) "BalloonStallModel" "wants" "[I") ∈ lw_all := lw_g (lw_at lw_m6 51 rfl) rfl
theorem q1354 : (Jvm.Cond.fieldLink "BalloonStallModel" (99 : Nat) "BalloonStallModel" "patience" "[I") ∈ lw_all := lw_g (lw_at lw_m6 52 rfl) rfl
theorem q1355 : (Jvm.Cond.fieldLink "BalloonStallModel" (102 : Nat) "BalloonStallModel" "went" "[I") ∈ lw_all := lw_g (lw_at lw_m6 53 rfl) rfl
theorem q1356 : (Jvm.Cond.fieldLink "BalloonStallModel" (105 : Nat) "BalloonStallModel" "shelf" "[I") ∈ lw_all := lw_g (lw_at lw_m6 54 rfl) rfl
theorem q1357 : (Jvm.Cond.fieldLink "BalloonStallModel" (393 : Nat) "BalloonStallModel" "guests" "I") ∈ lw_all := lw_g (lw_at lw_m6 55 rfl) rfl
theorem q1358 : (Jvm.Cond.fieldLink "BalloonStallModel" (396 : Nat) "BalloonStallModel" "ran" "I") ∈ lw_all := lw_g (lw_at lw_m6 56 rfl) rfl
theorem q1359 : (Jvm.Cond.fieldLink "BalloonStallModel" (108 : Nat) "BalloonStallModel" "paceBubble" "I") ∈ lw_all := lw_g (lw_at lw_m6 57 rfl) rfl
theorem q1360 : (Jvm.Cond.fieldLink "BalloonStallModel" (390 : Nat) "BalloonStallModel" "paceBalloon" "I") ∈ lw_all := lw_g (lw_at lw_m6 58 rfl) rfl
theorem q1361 : (Jvm.Cond.fieldLink "BalloonStallModel" (112 : Nat) "BalloonStallModel" "now" "[I") ∈ lw_all := lw_g (lw_at lw_m6 59 rfl) rfl
theorem q1362 : (Jvm.Cond.fieldLink "BalloonStallModel" (115 : Nat) "BalloonStallModel" "lose" "[I") ∈ lw_all := lw_g (lw_at lw_m6 60 rfl) rfl
theorem q1363 : (Jvm.Cond.fieldLink "BalloonStallModel" (411 : Nat) "BalloonStallModel" "lasting" "I") ∈ lw_all := lw_g (lw_at lw_m6 61 rfl) rfl
theorem q1364 : (Jvm.Cond.lays "BalloonStallModel" "BalloonStallModel" "thrown" "I") ∈ lw_all := lw_g (lw_at lw_m6 62 rfl) rfl
theorem q1365 : (Jvm.Cond.soleField "BalloonStallModel" "thrown") ∈ lw_all := lw_g (lw_at lw_m6 63 rfl) rfl
theorem q1366 : (Jvm.Cond.laysFinal "BalloonStallModel" "BalloonStallModel" "air" "[I") ∈ lw_all := lw_g (lw_at lw_m6 64 rfl) rfl
theorem q1367 : (Jvm.Cond.soleField "BalloonStallModel" "air") ∈ lw_all := lw_g (lw_at lw_m6 65 rfl) rfl
theorem q1368 : (Jvm.Cond.laysFinal "BalloonStallModel" "BalloonStallModel" "strain" "[I") ∈ lw_all := lw_g (lw_at lw_m6 66 rfl) rfl
theorem q1369 : (Jvm.Cond.soleField "BalloonStallModel" "strain") ∈ lw_all := lw_g (lw_at lw_m6 67 rfl) rfl
theorem q1370 : (Jvm.Cond.laysFinal "BalloonStallModel" "BalloonStallModel" "chance" "[I") ∈ lw_all := lw_g (lw_at lw_m6 68 rfl) rfl
theorem q1371 : (Jvm.Cond.soleField "BalloonStallModel" "chance") ∈ lw_all := lw_g (lw_at lw_m6 69 rfl) rfl
theorem q1372 : (Jvm.Cond.laysFinal "BalloonStallModel" "BalloonStallModel" "stock" "[I") ∈ lw_all := lw_g (lw_at lw_m6 70 rfl) rfl
theorem q1373 : (Jvm.Cond.soleField "BalloonStallModel" "stock") ∈ lw_all := lw_g (lw_at lw_m6 71 rfl) rfl
theorem q1374 : (Jvm.Cond.lays "BalloonStallModel" "BalloonStallModel" "sorts" "I") ∈ lw_all := lw_g (lw_at lw_m6 72 rfl) rfl
theorem q1375 : (Jvm.Cond.soleField "BalloonStallModel" "sorts") ∈ lw_all := lw_g (lw_at lw_m6 73 rfl) rfl
theorem q1376 : (Jvm.Cond.laysFinal "BalloonStallModel" "BalloonStallModel" "tape" "[I") ∈ lw_all := lw_g (lw_at lw_m6 74 rfl) rfl
theorem q1377 : (Jvm.Cond.soleField "BalloonStallModel" "tape") ∈ lw_all := lw_g (lw_at lw_m6 75 rfl) rfl
theorem q1378 : (Jvm.Cond.lays "BalloonStallModel" "BalloonStallModel" "size" "I") ∈ lw_all := lw_g (lw_at lw_m6 76 rfl) rfl
theorem q1379 : (Jvm.Cond.soleField "BalloonStallModel" "size") ∈ lw_all := lw_g (lw_at lw_m6 77 rfl) rfl
theorem q1380 : (Jvm.Cond.lays "BalloonStallModel" "BalloonStallModel" "at" "I") ∈ lw_all := lw_g (lw_at lw_m6 78 rfl) rfl
theorem q1381 : (Jvm.Cond.soleField "BalloonStallModel" "at") ∈ lw_all := lw_g (lw_at lw_m6 79 rfl) rfl
theorem q1382 : (Jvm.Cond.lays "BalloonStallModel" "BalloonStallModel" "wrong" "I") ∈ lw_all := lw_g (lw_at lw_m6 80 rfl) rfl
theorem q1383 : (Jvm.Cond.soleField "BalloonStallModel" "wrong") ∈ lw_all := lw_g (lw_at lw_m6 81 rfl) rfl
theorem q1384 : (Jvm.Cond.lays "BalloonStallModel" "BalloonStallModel" "deep" "I") ∈ lw_all := lw_g (lw_at lw_m6 82 rfl) rfl
theorem q1385 : (Jvm.Cond.soleField "BalloonStallModel" "deep") ∈ lw_all := lw_g (lw_at lw_m6 83 rfl) rfl
theorem q1386 : (Jvm.Cond.laysFinal "BalloonStallModel" "BalloonStallModel" "balloons" "[I") ∈ lw_all := lw_g (lw_at lw_m6 84 rfl) rfl
theorem q1387 : (Jvm.Cond.soleField "BalloonStallModel" "balloons") ∈ lw_all := lw_g (lw_at lw_m6 85 rfl) rfl
theorem q1388 : (Jvm.Cond.laysFinal "BalloonStallModel" "BalloonStallModel" "sortOf" "[I") ∈ lw_all := lw_g (lw_at lw_m6 86 rfl) rfl
theorem q1389 : (Jvm.Cond.soleField "BalloonStallModel" "sortOf") ∈ lw_all := lw_g (lw_at lw_m6 87 rfl) rfl
theorem q1390 : (Jvm.Cond.laysFinal "BalloonStallModel" "BalloonStallModel" "bubbles" "[I") ∈ lw_all := lw_g (lw_at lw_m6 88 rfl) rfl
theorem q1391 : (Jvm.Cond.soleField "BalloonStallModel" "bubbles") ∈ lw_all := lw_g (lw_at lw_m6 89 rfl) rfl
theorem q1392 : (Jvm.Cond.laysFinal "BalloonStallModel" "BalloonStallModel" "points" "[I") ∈ lw_all := lw_g (lw_at lw_m6 90 rfl) rfl
theorem q1393 : (Jvm.Cond.soleField "BalloonStallModel" "points") ∈ lw_all := lw_g (lw_at lw_m6 91 rfl) rfl
theorem q1394 : (Jvm.Cond.laysFinal "BalloonStallModel" "BalloonStallModel" "length" "[I") ∈ lw_all := lw_g (lw_at lw_m6 92 rfl) rfl
theorem q1395 : (Jvm.Cond.soleField "BalloonStallModel" "length") ∈ lw_all := lw_g (lw_at lw_m6 93 rfl) rfl
theorem q1396 : (Jvm.Cond.laysFinal "BalloonStallModel" "BalloonStallModel" "from" "[I") ∈ lw_all := lw_g (lw_at lw_m6 94 rfl) rfl
theorem q1397 : (Jvm.Cond.soleField "BalloonStallModel" "from") ∈ lw_all := lw_g (lw_at lw_m6 95 rfl) rfl
theorem q1398 : (Jvm.Cond.laysFinal "BalloonStallModel" "BalloonStallModel" "to" "[I") ∈ lw_all := lw_g (lw_at lw_m6 96 rfl) rfl
theorem q1399 : (Jvm.Cond.soleField "BalloonStallModel" "to") ∈ lw_all := lw_g (lw_at lw_m6 97 rfl) rfl
theorem q1400 : (Jvm.Cond.laysFinal "BalloonStallModel" "BalloonStallModel" "balloonOf" "[I") ∈ lw_all := lw_g (lw_at lw_m6 98 rfl) rfl
theorem q1401 : (Jvm.Cond.soleField "BalloonStallModel" "balloonOf") ∈ lw_all := lw_g (lw_at lw_m6 99 rfl) rfl
theorem q1402 : (Jvm.Cond.laysFinal "BalloonStallModel" "BalloonStallModel" "hands" "[I") ∈ lw_all := lw_g (lw_at lw_m6 100 rfl) rfl
theorem q1403 : (Jvm.Cond.soleField "BalloonStallModel" "hands") ∈ lw_all := lw_g (lw_at lw_m6 101 rfl) rfl
theorem q1404 : (Jvm.Cond.lays "BalloonStallModel" "BalloonStallModel" "figures" "I") ∈ lw_all := lw_g (lw_at lw_m6 102 rfl) rfl
theorem q1405 : (Jvm.Cond.soleField "BalloonStallModel" "figures") ∈ lw_all := lw_g (lw_at lw_m6 103 rfl) rfl
theorem q1406 : (Jvm.Cond.laysFinal "BalloonStallModel" "BalloonStallModel" "head" "[I") ∈ lw_all := lw_g (lw_at lw_m6 104 rfl) rfl
theorem q1407 : (Jvm.Cond.soleField "BalloonStallModel" "head") ∈ lw_all := lw_g (lw_at lw_m6 105 rfl) rfl
theorem q1408 : (Jvm.Cond.laysFinal "BalloonStallModel" "BalloonStallModel" "named" "[I") ∈ lw_all := lw_g (lw_at lw_m6 106 rfl) rfl
theorem q1409 : (Jvm.Cond.soleField "BalloonStallModel" "named") ∈ lw_all := lw_g (lw_at lw_m6 107 rfl) rfl
theorem q1410 : (Jvm.Cond.lays "BalloonStallModel" "BalloonStallModel" "raw" "I") ∈ lw_all := lw_g (lw_at lw_m6 108 rfl) rfl
theorem q1411 : (Jvm.Cond.soleField "BalloonStallModel" "raw") ∈ lw_all := lw_g (lw_at lw_m6 109 rfl) rfl
theorem q1412 : (Jvm.Cond.lays "BalloonStallModel" "BalloonStallModel" "where" "I") ∈ lw_all := lw_g (lw_at lw_m6 110 rfl) rfl
theorem q1413 : (Jvm.Cond.soleField "BalloonStallModel" "where") ∈ lw_all := lw_g (lw_at lw_m6 111 rfl) rfl
theorem q1414 : (Jvm.Cond.lays "BalloonStallModel" "BalloonStallModel" "f" "I") ∈ lw_all := lw_g (lw_at lw_m6 112 rfl) rfl
theorem q1415 : (Jvm.Cond.soleField "BalloonStallModel" "f") ∈ lw_all := lw_g (lw_at lw_m6 113 rfl) rfl
theorem q1416 : (Jvm.Cond.laysFinal "BalloonStallModel" "BalloonStallModel" "number" "[I") ∈ lw_all := lw_g (lw_at lw_m6 114 rfl) rfl
theorem q1417 : (Jvm.Cond.soleField "BalloonStallModel" "number") ∈ lw_all := lw_g (lw_at lw_m6 115 rfl) rfl
theorem q1418 : (Jvm.Cond.laysFinal "BalloonStallModel" "BalloonStallModel" "codes" "[I") ∈ lw_all := lw_g (lw_at lw_m6 116 rfl) rfl
theorem q1419 : (Jvm.Cond.soleField "BalloonStallModel" "codes") ∈ lw_all := lw_g (lw_at lw_m6 117 rfl) rfl
theorem q1420 : (Jvm.Cond.laysFinal "BalloonStallModel" "BalloonStallModel" "clauses" "[I") ∈ lw_all := lw_g (lw_at lw_m6 118 rfl) rfl
theorem q1421 : (Jvm.Cond.soleField "BalloonStallModel" "clauses") ∈ lw_all := lw_g (lw_at lw_m6 119 rfl) rfl
theorem q1422 : (Jvm.Cond.laysFinal "BalloonStallModel" "BalloonStallModel" "testTo" "[I") ∈ lw_all := lw_g (lw_at lw_m6 120 rfl) rfl
theorem q1423 : (Jvm.Cond.soleField "BalloonStallModel" "testTo") ∈ lw_all := lw_g (lw_at lw_m6 121 rfl) rfl
theorem q1424 : (Jvm.Cond.laysFinal "BalloonStallModel" "BalloonStallModel" "sumTo" "[I") ∈ lw_all := lw_g (lw_at lw_m6 122 rfl) rfl
theorem q1425 : (Jvm.Cond.soleField "BalloonStallModel" "sumTo") ∈ lw_all := lw_g (lw_at lw_m6 123 rfl) rfl
theorem q1426 : (Jvm.Cond.lays "BalloonStallModel" "BalloonStallModel" "rules" "I") ∈ lw_all := lw_g (lw_at lw_m6 124 rfl) rfl
theorem q1427 : (Jvm.Cond.soleField "BalloonStallModel" "rules") ∈ lw_all := lw_g (lw_at lw_m6 125 rfl) rfl
theorem q1428 : (Jvm.Cond.lays "BalloonStallModel" "BalloonStallModel" "into" "I") ∈ lw_all := lw_g (lw_at lw_m6 126 rfl) rfl
theorem q1429 : (Jvm.Cond.soleField "BalloonStallModel" "into") ∈ lw_all := lw_g (lw_at lw_m6 127 rfl) rfl
theorem q1430 : (Jvm.Cond.lays "BalloonStallModel" "BalloonStallModel" "said" "I") ∈ lw_all := lw_g (lw_at lw_m6 128 rfl) rfl
theorem q1431 : (Jvm.Cond.soleField "BalloonStallModel" "said") ∈ lw_all := lw_g (lw_at lw_m6 129 rfl) rfl
theorem q1432 : (Jvm.Cond.laysFinal "BalloonStallModel" "BalloonStallModel" "pile" "[J") ∈ lw_all := lw_g (lw_at lw_m6 130 rfl) rfl
theorem q1433 : (Jvm.Cond.soleField "BalloonStallModel" "pile") ∈ lw_all := lw_g (lw_at lw_m6 131 rfl) rfl
theorem q1434 : (Jvm.Cond.laysFinal "BalloonStallModel" "BalloonStallModel" "partner" "[I") ∈ lw_all := lw_g (lw_at lw_m6 132 rfl) rfl
theorem q1435 : (Jvm.Cond.soleField "BalloonStallModel" "partner") ∈ lw_all := lw_g (lw_at lw_m6 133 rfl) rfl
theorem q1436 : (Jvm.Cond.laysFinal "BalloonStallModel" "BalloonStallModel" "fars" "[I") ∈ lw_all := lw_g (lw_at lw_m6 134 rfl) rfl
theorem q1437 : (Jvm.Cond.soleField "BalloonStallModel" "fars") ∈ lw_all := lw_g (lw_at lw_m6 135 rfl) rfl
theorem q1438 : (Jvm.Cond.laysFinal "BalloonStallModel" "BalloonStallModel" "fewest" "[I") ∈ lw_all := lw_g (lw_at lw_m6 136 rfl) rfl
theorem q1439 : (Jvm.Cond.soleField "BalloonStallModel" "fewest") ∈ lw_all := lw_g (lw_at lw_m6 137 rfl) rfl
theorem q1440 : (Jvm.Cond.laysFinal "BalloonStallModel" "BalloonStallModel" "isWay" "[Z") ∈ lw_all := lw_g (lw_at lw_m6 138 rfl) rfl
theorem q1441 : (Jvm.Cond.soleField "BalloonStallModel" "isWay") ∈ lw_all := lw_g (lw_at lw_m6 139 rfl) rfl
theorem q1442 : (Jvm.Cond.laysFinal "BalloonStallModel" "BalloonStallModel" "odds" "[I") ∈ lw_all := lw_g (lw_at lw_m6 140 rfl) rfl
theorem q1443 : (Jvm.Cond.soleField "BalloonStallModel" "odds") ∈ lw_all := lw_g (lw_at lw_m6 141 rfl) rfl
theorem q1444 : (Jvm.Cond.laysFinal "BalloonStallModel" "BalloonStallModel" "comes" "[I") ∈ lw_all := lw_g (lw_at lw_m6 142 rfl) rfl
theorem q1445 : (Jvm.Cond.soleField "BalloonStallModel" "comes") ∈ lw_all := lw_g (lw_at lw_m6 143 rfl) rfl
theorem q1446 : (Jvm.Cond.laysFinal "BalloonStallModel" "BalloonStallModel" "wants" "[I") ∈ lw_all := lw_g (lw_at lw_m6 144 rfl) rfl
theorem q1447 : (Jvm.Cond.soleField "BalloonStallModel" "wants") ∈ lw_all := lw_g (lw_at lw_m6 145 rfl) rfl
theorem q1448 : (Jvm.Cond.laysFinal "BalloonStallModel" "BalloonStallModel" "patience" "[I") ∈ lw_all := lw_g (lw_at lw_m6 146 rfl) rfl
theorem q1449 : (Jvm.Cond.soleField "BalloonStallModel" "patience") ∈ lw_all := lw_g (lw_at lw_m6 147 rfl) rfl
theorem q1450 : (Jvm.Cond.laysFinal "BalloonStallModel" "BalloonStallModel" "went" "[I") ∈ lw_all := lw_g (lw_at lw_m6 148 rfl) rfl
theorem q1451 : (Jvm.Cond.soleField "BalloonStallModel" "went") ∈ lw_all := lw_g (lw_at lw_m6 149 rfl) rfl
theorem q1452 : (Jvm.Cond.laysFinal "BalloonStallModel" "BalloonStallModel" "shelf" "[I") ∈ lw_all := lw_g (lw_at lw_m6 150 rfl) rfl
theorem q1453 : (Jvm.Cond.soleField "BalloonStallModel" "shelf") ∈ lw_all := lw_g (lw_at lw_m6 151 rfl) rfl
theorem q1454 : (Jvm.Cond.lays "BalloonStallModel" "BalloonStallModel" "guests" "I") ∈ lw_all := lw_g (lw_at lw_m6 152 rfl) rfl
theorem q1455 : (Jvm.Cond.soleField "BalloonStallModel" "guests") ∈ lw_all := lw_g (lw_at lw_m6 153 rfl) rfl
theorem q1456 : (Jvm.Cond.lays "BalloonStallModel" "BalloonStallModel" "ran" "I") ∈ lw_all := lw_g (lw_at lw_m6 154 rfl) rfl
theorem q1457 : (Jvm.Cond.soleField "BalloonStallModel" "ran") ∈ lw_all := lw_g (lw_at lw_m6 155 rfl) rfl
theorem q1458 : (Jvm.Cond.lays "BalloonStallModel" "BalloonStallModel" "paceBubble" "I") ∈ lw_all := lw_g (lw_at lw_m6 156 rfl) rfl
theorem q1459 : (Jvm.Cond.soleField "BalloonStallModel" "paceBubble") ∈ lw_all := lw_g (lw_at lw_m6 157 rfl) rfl
theorem q1460 : (Jvm.Cond.lays "BalloonStallModel" "BalloonStallModel" "paceBalloon" "I") ∈ lw_all := lw_g (lw_at lw_m6 158 rfl) rfl
theorem q1461 : (Jvm.Cond.soleField "BalloonStallModel" "paceBalloon") ∈ lw_all := lw_g (lw_at lw_m6 159 rfl) rfl
theorem q1462 : (Jvm.Cond.laysFinal "BalloonStallModel" "BalloonStallModel" "now" "[I") ∈ lw_all := lw_g (lw_at lw_m6 160 rfl) rfl
theorem q1463 : (Jvm.Cond.soleField "BalloonStallModel" "now") ∈ lw_all := lw_g (lw_at lw_m6 161 rfl) rfl
theorem q1464 : (Jvm.Cond.laysFinal "BalloonStallModel" "BalloonStallModel" "lose" "[I") ∈ lw_all := lw_g (lw_at lw_m6 162 rfl) rfl
theorem q1465 : (Jvm.Cond.soleField "BalloonStallModel" "lose") ∈ lw_all := lw_g (lw_at lw_m6 163 rfl) rfl
theorem q1466 : (Jvm.Cond.lays "BalloonStallModel" "BalloonStallModel" "lasting" "I") ∈ lw_all := lw_g (lw_at lw_m6 164 rfl) rfl
theorem q1467 : (Jvm.Cond.soleField "BalloonStallModel" "lasting") ∈ lw_all := lw_g (lw_at lw_m6 165 rfl) rfl
theorem q1468 : (Jvm.Cond.superclass "BalloonStallModel" "java/lang/Object") ∈ lw_all := lw_g (lw_at lw_m6 166 rfl) rfl
theorem q1472 : (Jvm.Cond.instanceMethod ({ cls := "BalloonStallModel", name := "thrown", desc := "()I" } : Jvm.MethodName)) ∈ lw_all := lw_g (lw_at lw_m6 170 rfl) rfl
theorem q1473 : (Jvm.Cond.selects "BalloonStallModel" ({ cls := "BalloonStallModel", name := "thrown", desc := "()I" } : Jvm.MethodName) ({ cls := "BalloonStallModel", name := "thrown", desc := "()I" } : Jvm.MethodName)) ∈ lw_all := lw_g (lw_at lw_m6 171 rfl) rfl
theorem q1474 : (Jvm.Cond.code ({ cls := "BalloonStallModel", name := "thrown", desc := "()I" } : Jvm.MethodName) prog_26_method_3_code (1 : Nat) (Option.some Jvm.ClassFile.FieldType.int)) ∈ lw_all := lw_g (lw_at lw_m6 172 rfl) rfl
theorem q1476 : (Jvm.Cond.instanceMethod ({ cls := "BalloonStallModel", name := "sort", desc := "(III)I" } : Jvm.MethodName)) ∈ lw_all := lw_g (lw_at lw_m6 174 rfl) rfl
theorem q1477 : (Jvm.Cond.selects "BalloonStallModel" ({ cls := "BalloonStallModel", name := "sort", desc := "(III)I" } : Jvm.MethodName) ({ cls := "BalloonStallModel", name := "sort", desc := "(III)I" } : Jvm.MethodName)) ∈ lw_all := lw_g (lw_at lw_m6 175 rfl) rfl
theorem q1478 : (Jvm.Cond.code ({ cls := "BalloonStallModel", name := "sort", desc := "(III)I" } : Jvm.MethodName) prog_26_method_4_code (4 : Nat) (Option.some Jvm.ClassFile.FieldType.int)) ∈ lw_all := lw_g (lw_at lw_m6 176 rfl) rfl
theorem q1479 : (Jvm.Cond.methodLink "BalloonStallModel" (121 : Nat) ({ cls := "BalloonStallModel", name := "in", desc := "(III)Z" } : Jvm.MethodName)) ∈ lw_all := lw_g (lw_at lw_m6 177 rfl) rfl
theorem q1480 : (Jvm.Cond.static ({ cls := "BalloonStallModel", name := "in", desc := "(III)Z" } : Jvm.MethodName)) ∈ lw_all := lw_g (lw_at lw_m6 178 rfl) rfl
theorem q1481 : (Jvm.Cond.code ({ cls := "BalloonStallModel", name := "in", desc := "(III)Z" } : Jvm.MethodName) prog_26_method_1_code (3 : Nat) (Option.some Jvm.ClassFile.FieldType.boolean)) ∈ lw_all := lw_g (lw_at lw_m6 179 rfl) rfl
theorem q1483 : (Jvm.Cond.instanceMethod ({ cls := "BalloonStallModel", name := "feed", desc := "(IIIII)I" } : Jvm.MethodName)) ∈ lw_all := lw_g (lw_at lw_m6 181 rfl) rfl
theorem q1484 : (Jvm.Cond.selects "BalloonStallModel" ({ cls := "BalloonStallModel", name := "feed", desc := "(IIIII)I" } : Jvm.MethodName) ({ cls := "BalloonStallModel", name := "feed", desc := "(IIIII)I" } : Jvm.MethodName)) ∈ lw_all := lw_g (lw_at lw_m6 182 rfl) rfl
theorem q1485 : (Jvm.Cond.code ({ cls := "BalloonStallModel", name := "feed", desc := "(IIIII)I" } : Jvm.MethodName) prog_26_method_6_code (9 : Nat) (Option.some Jvm.ClassFile.FieldType.int)) ∈ lw_all := lw_g (lw_at lw_m6 183 rfl) rfl
theorem q1486 : (Jvm.Cond.methodLink "BalloonStallModel" (128 : Nat) ({ cls := "BalloonStallModel", name := "byteOf", desc := "(IIIIII)I" } : Jvm.MethodName)) ∈ lw_all := lw_g (lw_at lw_m6 184 rfl) rfl
theorem q1487 : (Jvm.Cond.static ({ cls := "BalloonStallModel", name := "byteOf", desc := "(IIIIII)I" } : Jvm.MethodName)) ∈ lw_all := lw_g (lw_at lw_m6 185 rfl) rfl
theorem q1488 : (Jvm.Cond.code ({ cls := "BalloonStallModel", name := "byteOf", desc := "(IIIIII)I" } : Jvm.MethodName) prog_26_method_5_code (7 : Nat) (Option.some Jvm.ClassFile.FieldType.int)) ∈ lw_all := lw_g (lw_at lw_m6 186 rfl) rfl
theorem q1490 : (Jvm.Cond.instanceMethod ({ cls := "BalloonStallModel", name := "end", desc := "(I)Z" } : Jvm.MethodName)) ∈ lw_all := lw_g (lw_at lw_m6 188 rfl) rfl
theorem q1491 : (Jvm.Cond.selects "BalloonStallModel" ({ cls := "BalloonStallModel", name := "end", desc := "(I)Z" } : Jvm.MethodName) ({ cls := "BalloonStallModel", name := "end", desc := "(I)Z" } : Jvm.MethodName)) ∈ lw_all := lw_g (lw_at lw_m6 189 rfl) rfl
theorem q1492 : (Jvm.Cond.code ({ cls := "BalloonStallModel", name := "end", desc := "(I)Z" } : Jvm.MethodName) prog_26_method_7_code (2 : Nat) (Option.some Jvm.ClassFile.FieldType.boolean)) ∈ lw_all := lw_g (lw_at lw_m6 190 rfl) rfl
theorem q1494 : (Jvm.Cond.instanceMethod ({ cls := "BalloonStallModel", name := "fault", desc := "(I)I" } : Jvm.MethodName)) ∈ lw_all := lw_g (lw_at lw_m6 192 rfl) rfl
theorem q1495 : (Jvm.Cond.selects "BalloonStallModel" ({ cls := "BalloonStallModel", name := "fault", desc := "(I)I" } : Jvm.MethodName) ({ cls := "BalloonStallModel", name := "fault", desc := "(I)I" } : Jvm.MethodName)) ∈ lw_all := lw_g (lw_at lw_m6 193 rfl) rfl
theorem q1496 : (Jvm.Cond.code ({ cls := "BalloonStallModel", name := "fault", desc := "(I)I" } : Jvm.MethodName) prog_26_method_34_code (2 : Nat) (Option.some Jvm.ClassFile.FieldType.int)) ∈ lw_all := lw_g (lw_at lw_m6 194 rfl) rfl
theorem q1497 : (Jvm.Cond.methodLink "BalloonStallModel" (246 : Nat) ({ cls := "BalloonStallModel", name := "readFigure", desc := "(I)I" } : Jvm.MethodName)) ∈ lw_all := lw_g (lw_at lw_m6 195 rfl) rfl
theorem q1498 : (Jvm.Cond.privateMethod ({ cls := "BalloonStallModel", name := "readFigure", desc := "(I)I" } : Jvm.MethodName)) ∈ lw_tbl := lw_at lw_m6 196 rfl
theorem q1499 : (Jvm.Cond.instanceMethod ({ cls := "BalloonStallModel", name := "readFigure", desc := "(I)I" } : Jvm.MethodName)) ∈ lw_all := lw_g (lw_at lw_m6 197 rfl) rfl
theorem q1500 : (Jvm.Cond.code ({ cls := "BalloonStallModel", name := "readFigure", desc := "(I)I" } : Jvm.MethodName) prog_26_method_20_code (3 : Nat) (Option.some Jvm.ClassFile.FieldType.int)) ∈ lw_all := lw_g (lw_at lw_m6 198 rfl) rfl
theorem q1501 : (Jvm.Cond.methodLink "BalloonStallModel" (199 : Nat) ({ cls := "BalloonStallModel", name := "balloon", desc := "()V" } : Jvm.MethodName)) ∈ lw_all := lw_g (lw_at lw_m6 199 rfl) rfl
theorem q1502 : (Jvm.Cond.privateMethod ({ cls := "BalloonStallModel", name := "balloon", desc := "()V" } : Jvm.MethodName)) ∈ lw_tbl := lw_at lw_m6 200 rfl
theorem q1503 : (Jvm.Cond.instanceMethod ({ cls := "BalloonStallModel", name := "balloon", desc := "()V" } : Jvm.MethodName)) ∈ lw_all := lw_g (lw_at lw_m6 201 rfl) rfl
theorem q1504 : (Jvm.Cond.code ({ cls := "BalloonStallModel", name := "balloon", desc := "()V" } : Jvm.MethodName) prog_26_method_19_code (2 : Nat) (Option.none : Option Jvm.ClassFile.FieldType)) ∈ lw_all := lw_g (lw_at lw_m6 202 rfl) rfl
theorem q1505 : (Jvm.Cond.methodLink "BalloonStallModel" (180 : Nat) ({ cls := "BalloonStallModel", name := "look", desc := "()I" } : Jvm.MethodName)) ∈ lw_all := lw_g (lw_at lw_m6 203 rfl) rfl
theorem q1506 : (Jvm.Cond.privateMethod ({ cls := "BalloonStallModel", name := "look", desc := "()I" } : Jvm.MethodName)) ∈ lw_tbl := lw_at lw_m6 204 rfl
theorem q1507 : (Jvm.Cond.instanceMethod ({ cls := "BalloonStallModel", name := "look", desc := "()I" } : Jvm.MethodName)) ∈ lw_all := lw_g (lw_at lw_m6 205 rfl) rfl
theorem q1508 : (Jvm.Cond.code ({ cls := "BalloonStallModel", name := "look", desc := "()I" } : Jvm.MethodName) prog_26_method_9_code (1 : Nat) (Option.some Jvm.ClassFile.FieldType.int)) ∈ lw_all := lw_g (lw_at lw_m6 206 rfl) rfl
theorem q1509 : (Jvm.Cond.methodLink "BalloonStallModel" (138 : Nat) ({ cls := "BalloonStallModel", name := "here", desc := "()I" } : Jvm.MethodName)) ∈ lw_all := lw_g (lw_at lw_m6 207 rfl) rfl
theorem q1510 : (Jvm.Cond.privateMethod ({ cls := "BalloonStallModel", name := "here", desc := "()I" } : Jvm.MethodName)) ∈ lw_tbl := lw_at lw_m6 208 rfl
theorem q1511 : (Jvm.Cond.instanceMethod ({ cls := "BalloonStallModel", name := "here", desc := "()I" } : Jvm.MethodName)) ∈ lw_all := lw_g (lw_at lw_m6 209 rfl) rfl
theorem q1512 : (Jvm.Cond.code ({ cls := "BalloonStallModel", name := "here", desc := "()I" } : Jvm.MethodName) prog_26_method_8_code (1 : Nat) (Option.some Jvm.ClassFile.FieldType.int)) ∈ lw_all := lw_g (lw_at lw_m6 210 rfl) rfl
theorem q1513 : (Jvm.Cond.methodLink "BalloonStallModel" (164 : Nat) ({ cls := "BalloonStallModel", name := "bad", desc := "()V" } : Jvm.MethodName)) ∈ lw_all := lw_g (lw_at lw_m6 211 rfl) rfl
theorem q1514 : (Jvm.Cond.privateMethod ({ cls := "BalloonStallModel", name := "bad", desc := "()V" } : Jvm.MethodName)) ∈ lw_tbl := lw_at lw_m6 212 rfl
theorem q1515 : (Jvm.Cond.instanceMethod ({ cls := "BalloonStallModel", name := "bad", desc := "()V" } : Jvm.MethodName)) ∈ lw_all := lw_g (lw_at lw_m6 213 rfl) rfl
theorem q1516 : (Jvm.Cond.code ({ cls := "BalloonStallModel", name := "bad", desc := "()V" } : Jvm.MethodName) prog_26_method_10_code (1 : Nat) (Option.none : Option Jvm.ClassFile.FieldType)) ∈ lw_all := lw_g (lw_at lw_m6 214 rfl) rfl
theorem q1517 : (Jvm.Cond.methodLink "BalloonStallModel" (167 : Nat) ({ cls := "BalloonStallModel", name := "isDigit", desc := "(I)Z" } : Jvm.MethodName)) ∈ lw_all := lw_g (lw_at lw_m6 215 rfl) rfl
theorem q1518 : (Jvm.Cond.static ({ cls := "BalloonStallModel", name := "isDigit", desc := "(I)Z" } : Jvm.MethodName)) ∈ lw_all := lw_g (lw_at lw_m6 216 rfl) rfl
theorem q1519 : (Jvm.Cond.code ({ cls := "BalloonStallModel", name := "isDigit", desc := "(I)Z" } : Jvm.MethodName) prog_26_method_11_code (1 : Nat) (Option.some Jvm.ClassFile.FieldType.boolean)) ∈ lw_all := lw_g (lw_at lw_m6 217 rfl) rfl
theorem q1520 : (Jvm.Cond.methodLink "BalloonStallModel" (174 : Nat) ({ cls := "BalloonStallModel", name := "newPoint", desc := "()I" } : Jvm.MethodName)) ∈ lw_all := lw_g (lw_at lw_m6 218 rfl) rfl
theorem q1521 : (Jvm.Cond.privateMethod ({ cls := "BalloonStallModel", name := "newPoint", desc := "()I" } : Jvm.MethodName)) ∈ lw_tbl := lw_at lw_m6 219 rfl
theorem q1522 : (Jvm.Cond.instanceMethod ({ cls := "BalloonStallModel", name := "newPoint", desc := "()I" } : Jvm.MethodName)) ∈ lw_all := lw_g (lw_at lw_m6 220 rfl) rfl
theorem q1523 : (Jvm.Cond.code ({ cls := "BalloonStallModel", name := "newPoint", desc := "()I" } : Jvm.MethodName) prog_26_method_14_code (1 : Nat) (Option.some Jvm.ClassFile.FieldType.int)) ∈ lw_all := lw_g (lw_at lw_m6 221 rfl) rfl
theorem q1524 : (Jvm.Cond.methodLink "BalloonStallModel" (196 : Nat) ({ cls := "BalloonStallModel", name := "moves", desc := "()V" } : Jvm.MethodName)) ∈ lw_all := lw_g (lw_at lw_m6 222 rfl) rfl
theorem q1525 : (Jvm.Cond.privateMethod ({ cls := "BalloonStallModel", name := "moves", desc := "()V" } : Jvm.MethodName)) ∈ lw_tbl := lw_at lw_m6 223 rfl
theorem q1526 : (Jvm.Cond.instanceMethod ({ cls := "BalloonStallModel", name := "moves", desc := "()V" } : Jvm.MethodName)) ∈ lw_all := lw_g (lw_at lw_m6 224 rfl) rfl
theorem q1527 : (Jvm.Cond.code ({ cls := "BalloonStallModel", name := "moves", desc := "()V" } : Jvm.MethodName) prog_26_method_17_code (4 : Nat) (Option.none : Option Jvm.ClassFile.FieldType)) ∈ lw_all := lw_g (lw_at lw_m6 225 rfl) rfl
theorem q1528 : (Jvm.Cond.methodLink "BalloonStallModel" (183 : Nat) ({ cls := "BalloonStallModel", name := "bubble", desc := "()V" } : Jvm.MethodName)) ∈ lw_all := lw_g (lw_at lw_m6 226 rfl) rfl
theorem q1529 : (Jvm.Cond.privateMethod ({ cls := "BalloonStallModel", name := "bubble", desc := "()V" } : Jvm.MethodName)) ∈ lw_tbl := lw_at lw_m6 227 rfl
theorem q1530 : (Jvm.Cond.instanceMethod ({ cls := "BalloonStallModel", name := "bubble", desc := "()V" } : Jvm.MethodName)) ∈ lw_all := lw_g (lw_at lw_m6 228 rfl) rfl
theorem q1531 : (Jvm.Cond.code ({ cls := "BalloonStallModel", name := "bubble", desc := "()V" } : Jvm.MethodName) prog_26_method_15_code (3 : Nat) (Option.none : Option Jvm.ClassFile.FieldType)) ∈ lw_all := lw_g (lw_at lw_m6 229 rfl) rfl
theorem q1532 : (Jvm.Cond.methodLink "BalloonStallModel" (177 : Nat) ({ cls := "BalloonStallModel", name := "held", desc := "()I" } : Jvm.MethodName)) ∈ lw_all := lw_g (lw_at lw_m6 230 rfl) rfl
theorem q1533 : (Jvm.Cond.privateMethod ({ cls := "BalloonStallModel", name := "held", desc := "()I" } : Jvm.MethodName)) ∈ lw_tbl := lw_at lw_m6 231 rfl
theorem q1534 : (Jvm.Cond.instanceMethod ({ cls := "BalloonStallModel", name := "held", desc := "()I" } : Jvm.MethodName)) ∈ lw_all := lw_g (lw_at lw_m6 232 rfl) rfl
theorem q1535 : (Jvm.Cond.code ({ cls := "BalloonStallModel", name := "held", desc := "()I" } : Jvm.MethodName) prog_26_method_16_code (6 : Nat) (Option.some Jvm.ClassFile.FieldType.int)) ∈ lw_all := lw_g (lw_at lw_m6 233 rfl) rfl
theorem q1536 : (Jvm.Cond.methodLink "BalloonStallModel" (145 : Nat) ({ cls := "BalloonStallModel", name := "find", desc := "(I)I" } : Jvm.MethodName)) ∈ lw_all := lw_g (lw_at lw_m6 234 rfl) rfl
theorem q1537 : (Jvm.Cond.privateMethod ({ cls := "BalloonStallModel", name := "find", desc := "(I)I" } : Jvm.MethodName)) ∈ lw_tbl := lw_at lw_m6 235 rfl
theorem q1538 : (Jvm.Cond.instanceMethod ({ cls := "BalloonStallModel", name := "find", desc := "(I)I" } : Jvm.MethodName)) ∈ lw_all := lw_g (lw_at lw_m6 236 rfl) rfl
theorem q1539 : (Jvm.Cond.code ({ cls := "BalloonStallModel", name := "find", desc := "(I)I" } : Jvm.MethodName) prog_26_method_12_code (3 : Nat) (Option.some Jvm.ClassFile.FieldType.int)) ∈ lw_all := lw_g (lw_at lw_m6 237 rfl) rfl
theorem q1540 : (Jvm.Cond.methodLink "BalloonStallModel" (149 : Nat) ({ cls := "java/lang/Math", name := "max", desc := "(II)I" } : Jvm.MethodName)) ∈ lw_all := lw_g (lw_at lw_m6 238 rfl) rfl
theorem q1541 : (Jvm.Cond.methodLink "BalloonStallModel" (186 : Nat) ({ cls := "BalloonStallModel", name := "joinTo", desc := "(II)V" } : Jvm.MethodName)) ∈ lw_all := lw_g (lw_at lw_m6 239 rfl) rfl
theorem q1542 : (Jvm.Cond.privateMethod ({ cls := "BalloonStallModel", name := "joinTo", desc := "(II)V" } : Jvm.MethodName)) ∈ lw_tbl := lw_at lw_m7 0 rfl
theorem q1543 : (Jvm.Cond.instanceMethod ({ cls := "BalloonStallModel", name := "joinTo", desc := "(II)V" } : Jvm.MethodName)) ∈ lw_all := lw_g (lw_at lw_m7 1 rfl) rfl
theorem q1544 : (Jvm.Cond.code ({ cls := "BalloonStallModel", name := "joinTo", desc := "(II)V" } : Jvm.MethodName) prog_26_method_13_code (5 : Nat) (Option.none : Option Jvm.ClassFile.FieldType)) ∈ lw_all := lw_g (lw_at lw_m7 2 rfl) rfl
theorem q1545 : (Jvm.Cond.methodLink "BalloonStallModel" (155 : Nat) ({ cls := "java/lang/Math", name := "min", desc := "(II)I" } : Jvm.MethodName)) ∈ lw_all := lw_g (lw_at lw_m7 3 rfl) rfl
theorem q1546 : (Jvm.Cond.methodLink "BalloonStallModel" (190 : Nat) ({ cls := "BalloonStallModel", name := "nested", desc := "()V" } : Jvm.MethodName)) ∈ lw_all := lw_g (lw_at lw_m7 4 rfl) rfl
theorem q1547 : (Jvm.Cond.privateMethod ({ cls := "BalloonStallModel", name := "nested", desc := "()V" } : Jvm.MethodName)) ∈ lw_tbl := lw_at lw_m7 5 rfl
theorem q1548 : (Jvm.Cond.instanceMethod ({ cls := "BalloonStallModel", name := "nested", desc := "()V" } : Jvm.MethodName)) ∈ lw_all := lw_g (lw_at lw_m7 6 rfl) rfl
theorem q1549 : (Jvm.Cond.code ({ cls := "BalloonStallModel", name := "nested", desc := "()V" } : Jvm.MethodName) prog_26_method_18_code (2 : Nat) (Option.none : Option Jvm.ClassFile.FieldType)) ∈ lw_all := lw_g (lw_at lw_m7 7 rfl) rfl
theorem q1550 : (Jvm.Cond.methodLink "BalloonStallModel" (202 : Nat) ({ cls := "BalloonStallModel", name := "numberPoints", desc := "()V" } : Jvm.MethodName)) ∈ lw_all := lw_g (lw_at lw_m7 8 rfl) rfl
theorem q1551 : (Jvm.Cond.privateMethod ({ cls := "BalloonStallModel", name := "numberPoints", desc := "()V" } : Jvm.MethodName)) ∈ lw_tbl := lw_at lw_m7 9 rfl
theorem q1552 : (Jvm.Cond.instanceMethod ({ cls := "BalloonStallModel", name := "numberPoints", desc := "()V" } : Jvm.MethodName)) ∈ lw_all := lw_g (lw_at lw_m7 10 rfl) rfl
theorem q1553 : (Jvm.Cond.code ({ cls := "BalloonStallModel", name := "numberPoints", desc := "()V" } : Jvm.MethodName) prog_26_method_21_code (3 : Nat) (Option.none : Option Jvm.ClassFile.FieldType)) ∈ lw_all := lw_g (lw_at lw_m7 11 rfl) rfl
theorem q1554 : (Jvm.Cond.methodLink "BalloonStallModel" (249 : Nat) ({ cls := "BalloonStallModel", name := "readRule", desc := "(I)I" } : Jvm.MethodName)) ∈ lw_all := lw_g (lw_at lw_m7 12 rfl) rfl
theorem q1555 : (Jvm.Cond.privateMethod ({ cls := "BalloonStallModel", name := "readRule", desc := "(I)I" } : Jvm.MethodName)) ∈ lw_tbl := lw_at lw_m7 13 rfl
theorem q1556 : (Jvm.Cond.instanceMethod ({ cls := "BalloonStallModel", name := "readRule", desc := "(I)I" } : Jvm.MethodName)) ∈ lw_all := lw_g (lw_at lw_m7 14 rfl) rfl
theorem q1557 : (Jvm.Cond.code ({ cls := "BalloonStallModel", name := "readRule", desc := "(I)I" } : Jvm.MethodName) prog_26_method_33_code (2 : Nat) (Option.some Jvm.ClassFile.FieldType.int)) ∈ lw_all := lw_g (lw_at lw_m7 15 rfl) rfl
theorem q1558 : (Jvm.Cond.methodLink "BalloonStallModel" (243 : Nat) ({ cls := "BalloonStallModel", name := "clause", desc := "()V" } : Jvm.MethodName)) ∈ lw_all := lw_g (lw_at lw_m7 16 rfl) rfl
theorem q1559 : (Jvm.Cond.privateMethod ({ cls := "BalloonStallModel", name := "clause", desc := "()V" } : Jvm.MethodName)) ∈ lw_tbl := lw_at lw_m7 17 rfl
theorem q1560 : (Jvm.Cond.instanceMethod ({ cls := "BalloonStallModel", name := "clause", desc := "()V" } : Jvm.MethodName)) ∈ lw_all := lw_g (lw_at lw_m7 18 rfl) rfl
theorem q1561 : (Jvm.Cond.code ({ cls := "BalloonStallModel", name := "clause", desc := "()V" } : Jvm.MethodName) prog_26_method_32_code (4 : Nat) (Option.none : Option Jvm.ClassFile.FieldType)) ∈ lw_all := lw_g (lw_at lw_m7 19 rfl) rfl
theorem q1562 : (Jvm.Cond.methodLink "BalloonStallModel" (237 : Nat) ({ cls := "BalloonStallModel", name := "condition", desc := "(Z)V" } : Jvm.MethodName)) ∈ lw_all := lw_g (lw_at lw_m7 20 rfl) rfl
theorem q1563 : (Jvm.Cond.privateMethod ({ cls := "BalloonStallModel", name := "condition", desc := "(Z)V" } : Jvm.MethodName)) ∈ lw_tbl := lw_at lw_m7 21 rfl
theorem q1564 : (Jvm.Cond.instanceMethod ({ cls := "BalloonStallModel", name := "condition", desc := "(Z)V" } : Jvm.MethodName)) ∈ lw_all := lw_g (lw_at lw_m7 22 rfl) rfl
theorem q1565 : (Jvm.Cond.code ({ cls := "BalloonStallModel", name := "condition", desc := "(Z)V" } : Jvm.MethodName) prog_26_method_31_code (2 : Nat) (Option.none : Option Jvm.ClassFile.FieldType)) ∈ lw_all := lw_g (lw_at lw_m7 23 rfl) rfl
theorem q1566 : (Jvm.Cond.methodLink "BalloonStallModel" (240 : Nat) ({ cls := "BalloonStallModel", name := "truth", desc := "(Z)V" } : Jvm.MethodName)) ∈ lw_all := lw_g (lw_at lw_m7 24 rfl) rfl
theorem q1567 : (Jvm.Cond.privateMethod ({ cls := "BalloonStallModel", name := "truth", desc := "(Z)V" } : Jvm.MethodName)) ∈ lw_tbl := lw_at lw_m7 25 rfl
theorem q1568 : (Jvm.Cond.instanceMethod ({ cls := "BalloonStallModel", name := "truth", desc := "(Z)V" } : Jvm.MethodName)) ∈ lw_all := lw_g (lw_at lw_m7 26 rfl) rfl
theorem q1569 : (Jvm.Cond.code ({ cls := "BalloonStallModel", name := "truth", desc := "(Z)V" } : Jvm.MethodName) prog_26_method_30_code (2 : Nat) (Option.none : Option Jvm.ClassFile.FieldType)) ∈ lw_all := lw_g (lw_at lw_m7 27 rfl) rfl
theorem q1570 : (Jvm.Cond.methodLink "BalloonStallModel" (233 : Nat) ({ cls := "BalloonStallModel", name := "unit", desc := "(Z)V" } : Jvm.MethodName)) ∈ lw_all := lw_g (lw_at lw_m7 28 rfl) rfl
theorem q1571 : (Jvm.Cond.privateMethod ({ cls := "BalloonStallModel", name := "unit", desc := "(Z)V" } : Jvm.MethodName)) ∈ lw_tbl := lw_at lw_m7 29 rfl
theorem q1572 : (Jvm.Cond.instanceMethod ({ cls := "BalloonStallModel", name := "unit", desc := "(Z)V" } : Jvm.MethodName)) ∈ lw_all := lw_g (lw_at lw_m7 30 rfl) rfl
theorem q1573 : (Jvm.Cond.code ({ cls := "BalloonStallModel", name := "unit", desc := "(Z)V" } : Jvm.MethodName) prog_26_method_29_code (3 : Nat) (Option.none : Option Jvm.ClassFile.FieldType)) ∈ lw_all := lw_g (lw_at lw_m7 31 rfl) rfl
theorem q1574 : (Jvm.Cond.methodLink "BalloonStallModel" (218 : Nat) ({ cls := "BalloonStallModel", name := "opens", desc := "()V" } : Jvm.MethodName)) ∈ lw_all := lw_g (lw_at lw_m7 32 rfl) rfl
theorem q1575 : (Jvm.Cond.privateMethod ({ cls := "BalloonStallModel", name := "opens", desc := "()V" } : Jvm.MethodName)) ∈ lw_tbl := lw_at lw_m7 33 rfl
theorem q1576 : (Jvm.Cond.instanceMethod ({ cls := "BalloonStallModel", name := "opens", desc := "()V" } : Jvm.MethodName)) ∈ lw_all := lw_g (lw_at lw_m7 34 rfl) rfl
theorem q1577 : (Jvm.Cond.code ({ cls := "BalloonStallModel", name := "opens", desc := "()V" } : Jvm.MethodName) prog_26_method_23_code (1 : Nat) (Option.none : Option Jvm.ClassFile.FieldType)) ∈ lw_all := lw_g (lw_at lw_m7 35 rfl) rfl
theorem q1578 : (Jvm.Cond.methodLink "BalloonStallModel" (211 : Nat) ({ cls := "BalloonStallModel", name := "say", desc := "(I)V" } : Jvm.MethodName)) ∈ lw_all := lw_g (lw_at lw_m7 36 rfl) rfl
theorem q1579 : (Jvm.Cond.privateMethod ({ cls := "BalloonStallModel", name := "say", desc := "(I)V" } : Jvm.MethodName)) ∈ lw_tbl := lw_at lw_m7 37 rfl
theorem q1580 : (Jvm.Cond.instanceMethod ({ cls := "BalloonStallModel", name := "say", desc := "(I)V" } : Jvm.MethodName)) ∈ lw_all := lw_g (lw_at lw_m7 38 rfl) rfl
theorem q1581 : (Jvm.Cond.code ({ cls := "BalloonStallModel", name := "say", desc := "(I)V" } : Jvm.MethodName) prog_26_method_22_code (2 : Nat) (Option.none : Option Jvm.ClassFile.FieldType)) ∈ lw_all := lw_g (lw_at lw_m7 39 rfl) rfl
theorem q1582 : (Jvm.Cond.methodLink "BalloonStallModel" (224 : Nat) ({ cls := "BalloonStallModel", name := "sign", desc := "(I)V" } : Jvm.MethodName)) ∈ lw_all := lw_g (lw_at lw_m7 40 rfl) rfl
theorem q1583 : (Jvm.Cond.privateMethod ({ cls := "BalloonStallModel", name := "sign", desc := "(I)V" } : Jvm.MethodName)) ∈ lw_tbl := lw_at lw_m7 41 rfl
theorem q1584 : (Jvm.Cond.instanceMethod ({ cls := "BalloonStallModel", name := "sign", desc := "(I)V" } : Jvm.MethodName)) ∈ lw_all := lw_g (lw_at lw_m7 42 rfl) rfl
theorem q1585 : (Jvm.Cond.code ({ cls := "BalloonStallModel", name := "sign", desc := "(I)V" } : Jvm.MethodName) prog_26_method_24_code (2 : Nat) (Option.none : Option Jvm.ClassFile.FieldType)) ∈ lw_all := lw_g (lw_at lw_m7 43 rfl) rfl
theorem q1586 : (Jvm.Cond.methodLink "BalloonStallModel" (221 : Nat) ({ cls := "BalloonStallModel", name := "sum", desc := "()V" } : Jvm.MethodName)) ∈ lw_all := lw_g (lw_at lw_m7 44 rfl) rfl
theorem q1587 : (Jvm.Cond.privateMethod ({ cls := "BalloonStallModel", name := "sum", desc := "()V" } : Jvm.MethodName)) ∈ lw_tbl := lw_at lw_m7 45 rfl
theorem q1588 : (Jvm.Cond.instanceMethod ({ cls := "BalloonStallModel", name := "sum", desc := "()V" } : Jvm.MethodName)) ∈ lw_all := lw_g (lw_at lw_m7 46 rfl) rfl
theorem q1589 : (Jvm.Cond.code ({ cls := "BalloonStallModel", name := "sum", desc := "()V" } : Jvm.MethodName) prog_26_method_28_code (2 : Nat) (Option.none : Option Jvm.ClassFile.FieldType)) ∈ lw_all := lw_g (lw_at lw_m7 47 rfl) rfl
theorem q1590 : (Jvm.Cond.methodLink "BalloonStallModel" (230 : Nat) ({ cls := "BalloonStallModel", name := "term", desc := "()V" } : Jvm.MethodName)) ∈ lw_all := lw_g (lw_at lw_m7 48 rfl) rfl
theorem q1591 : (Jvm.Cond.privateMethod ({ cls := "BalloonStallModel", name := "term", desc := "()V" } : Jvm.MethodName)) ∈ lw_tbl := lw_at lw_m7 49 rfl
theorem q1592 : (Jvm.Cond.instanceMethod ({ cls := "BalloonStallModel", name := "term", desc := "()V" } : Jvm.MethodName)) ∈ lw_all := lw_g (lw_at lw_m7 50 rfl) rfl
theorem q1593 : (Jvm.Cond.code ({ cls := "BalloonStallModel", name := "term", desc := "()V" } : Jvm.MethodName) prog_26_method_27_code (2 : Nat) (Option.none : Option Jvm.ClassFile.FieldType)) ∈ lw_all := lw_g (lw_at lw_m7 51 rfl) rfl
theorem q1594 : (Jvm.Cond.methodLink "BalloonStallModel" (227 : Nat) ({ cls := "BalloonStallModel", name := "atom", desc := "()V" } : Jvm.MethodName)) ∈ lw_all := lw_g (lw_at lw_m7 52 rfl) rfl
theorem q1595 : (Jvm.Cond.privateMethod ({ cls := "BalloonStallModel", name := "atom", desc := "()V" } : Jvm.MethodName)) ∈ lw_tbl := lw_at lw_m7 53 rfl
theorem q1596 : (Jvm.Cond.instanceMethod ({ cls := "BalloonStallModel", name := "atom", desc := "()V" } : Jvm.MethodName)) ∈ lw_all := lw_g (lw_at lw_m7 54 rfl) rfl
theorem q1597 : (Jvm.Cond.code ({ cls := "BalloonStallModel", name := "atom", desc := "()V" } : Jvm.MethodName) prog_26_method_26_code (4 : Nat) (Option.none : Option Jvm.ClassFile.FieldType)) ∈ lw_all := lw_g (lw_at lw_m7 55 rfl) rfl
theorem q1598 : (Jvm.Cond.methodLink "BalloonStallModel" (215 : Nat) ({ cls := "BalloonStallModel", name := "isLetter", desc := "(I)Z" } : Jvm.MethodName)) ∈ lw_all := lw_g (lw_at lw_m7 56 rfl) rfl
theorem q1599 : (Jvm.Cond.static ({ cls := "BalloonStallModel", name := "isLetter", desc := "(I)Z" } : Jvm.MethodName)) ∈ lw_all := lw_g (lw_at lw_m7 57 rfl) rfl
theorem q1600 : (Jvm.Cond.code ({ cls := "BalloonStallModel", name := "isLetter", desc := "(I)Z" } : Jvm.MethodName) prog_26_method_25_code (1 : Nat) (Option.some Jvm.ClassFile.FieldType.boolean)) ∈ lw_all := lw_g (lw_at lw_m7 58 rfl) rfl
theorem q1602 : (Jvm.Cond.instanceMethod ({ cls := "BalloonStallModel", name := "figure", desc := "()I" } : Jvm.MethodName)) ∈ lw_all := lw_g (lw_at lw_m7 60 rfl) rfl
theorem q1603 : (Jvm.Cond.selects "BalloonStallModel" ({ cls := "BalloonStallModel", name := "figure", desc := "()I" } : Jvm.MethodName) ({ cls := "BalloonStallModel", name := "figure", desc := "()I" } : Jvm.MethodName)) ∈ lw_all := lw_g (lw_at lw_m7 61 rfl) rfl
theorem q1604 : (Jvm.Cond.code ({ cls := "BalloonStallModel", name := "figure", desc := "()I" } : Jvm.MethodName) prog_26_method_35_code (1 : Nat) (Option.some Jvm.ClassFile.FieldType.int)) ∈ lw_all := lw_g (lw_at lw_m7 62 rfl) rfl
theorem q1606 : (Jvm.Cond.instanceMethod ({ cls := "BalloonStallModel", name := "rule", desc := "()I" } : Jvm.MethodName)) ∈ lw_all := lw_g (lw_at lw_m7 64 rfl) rfl
theorem q1607 : (Jvm.Cond.selects "BalloonStallModel" ({ cls := "BalloonStallModel", name := "rule", desc := "()I" } : Jvm.MethodName) ({ cls := "BalloonStallModel", name := "rule", desc := "()I" } : Jvm.MethodName)) ∈ lw_all := lw_g (lw_at lw_m7 65 rfl) rfl
theorem q1608 : (Jvm.Cond.code ({ cls := "BalloonStallModel", name := "rule", desc := "()I" } : Jvm.MethodName) prog_26_method_36_code (1 : Nat) (Option.some Jvm.ClassFile.FieldType.int)) ∈ lw_all := lw_g (lw_at lw_m7 66 rfl) rfl
theorem q1610 : (Jvm.Cond.instanceMethod ({ cls := "BalloonStallModel", name := "worth", desc := "(IIIIII)I" } : Jvm.MethodName)) ∈ lw_all := lw_g (lw_at lw_m7 68 rfl) rfl
theorem q1611 : (Jvm.Cond.selects "BalloonStallModel" ({ cls := "BalloonStallModel", name := "worth", desc := "(IIIIII)I" } : Jvm.MethodName) ({ cls := "BalloonStallModel", name := "worth", desc := "(IIIIII)I" } : Jvm.MethodName)) ∈ lw_all := lw_g (lw_at lw_m7 69 rfl) rfl
theorem q1612 : (Jvm.Cond.code ({ cls := "BalloonStallModel", name := "worth", desc := "(IIIIII)I" } : Jvm.MethodName) prog_26_method_41_code (7 : Nat) (Option.some Jvm.ClassFile.FieldType.int)) ∈ lw_all := lw_g (lw_at lw_m7 70 rfl) rfl
theorem q1613 : (Jvm.Cond.methodLink "BalloonStallModel" (281 : Nat) ({ cls := "BalloonStallModel", name := "worthOf", desc := "(IIIIII)I" } : Jvm.MethodName)) ∈ lw_all := lw_g (lw_at lw_m7 71 rfl) rfl
theorem q1614 : (Jvm.Cond.privateMethod ({ cls := "BalloonStallModel", name := "worthOf", desc := "(IIIIII)I" } : Jvm.MethodName)) ∈ lw_tbl := lw_at lw_m7 72 rfl
theorem q1615 : (Jvm.Cond.instanceMethod ({ cls := "BalloonStallModel", name := "worthOf", desc := "(IIIIII)I" } : Jvm.MethodName)) ∈ lw_all := lw_g (lw_at lw_m7 73 rfl) rfl
theorem q1616 : (Jvm.Cond.code ({ cls := "BalloonStallModel", name := "worthOf", desc := "(IIIIII)I" } : Jvm.MethodName) prog_26_method_40_code (11 : Nat) (Option.some Jvm.ClassFile.FieldType.int)) ∈ lw_all := lw_g (lw_at lw_m7 74 rfl) rfl
theorem q1617 : (Jvm.Cond.methodLink "BalloonStallModel" (277 : Nat) ({ cls := "BalloonStallModel", name := "work", desc := "(IIIIIIII)J" } : Jvm.MethodName)) ∈ lw_all := lw_g (lw_at lw_m7 75 rfl) rfl
theorem q1618 : (Jvm.Cond.privateMethod ({ cls := "BalloonStallModel", name := "work", desc := "(IIIIIIII)J" } : Jvm.MethodName)) ∈ lw_tbl := lw_at lw_m7 76 rfl
theorem q1619 : (Jvm.Cond.instanceMethod ({ cls := "BalloonStallModel", name := "work", desc := "(IIIIIIII)J" } : Jvm.MethodName)) ∈ lw_all := lw_g (lw_at lw_m7 77 rfl) rfl
theorem q1620 : (Jvm.Cond.code ({ cls := "BalloonStallModel", name := "work", desc := "(IIIIIIII)J" } : Jvm.MethodName) prog_26_method_39_code (13 : Nat) (Option.some Jvm.ClassFile.FieldType.long)) ∈ lw_all := lw_g (lw_at lw_m7 78 rfl) rfl
theorem q1621 : (Jvm.Cond.methodLink "BalloonStallModel" (273 : Nat) ({ cls := "BalloonStallModel", name := "both", desc := "(IJJ)J" } : Jvm.MethodName)) ∈ lw_all := lw_g (lw_at lw_m7 79 rfl) rfl
theorem q1622 : (Jvm.Cond.static ({ cls := "BalloonStallModel", name := "both", desc := "(IJJ)J" } : Jvm.MethodName)) ∈ lw_all := lw_g (lw_at lw_m7 80 rfl) rfl
theorem q1623 : (Jvm.Cond.code ({ cls := "BalloonStallModel", name := "both", desc := "(IJJ)J" } : Jvm.MethodName) prog_26_method_38_code (5 : Nat) (Option.some Jvm.ClassFile.FieldType.long)) ∈ lw_all := lw_g (lw_at lw_m7 81 rfl) rfl
theorem q1624 : (Jvm.Cond.methodLink "BalloonStallModel" (267 : Nat) ({ cls := "BalloonStallModel", name := "within", desc := "(J)J" } : Jvm.MethodName)) ∈ lw_all := lw_g (lw_at lw_m7 82 rfl) rfl
theorem q1625 : (Jvm.Cond.static ({ cls := "BalloonStallModel", name := "within", desc := "(J)J" } : Jvm.MethodName)) ∈ lw_all := lw_g (lw_at lw_m7 83 rfl) rfl
theorem q1626 : (Jvm.Cond.code ({ cls := "BalloonStallModel", name := "within", desc := "(J)J" } : Jvm.MethodName) prog_26_method_37_code (2 : Nat) (Option.some Jvm.ClassFile.FieldType.long)) ∈ lw_all := lw_g (lw_at lw_m7 84 rfl) rfl
theorem q1627 : (Jvm.Cond.constantLong "BalloonStallModel" (258 : Nat) (-1000000 : Int64)) ∈ lw_all := lw_g (lw_at lw_m7 85 rfl) rfl
theorem q1628 : (Jvm.Cond.constantLong "BalloonStallModel" (260 : Nat) (1000000 : Int64)) ∈ lw_all := lw_g (lw_at lw_m7 86 rfl) rfl
theorem q1629 : (Jvm.Cond.methodLink "BalloonStallModel" (262 : Nat) ({ cls := "java/lang/Math", name := "min", desc := "(JJ)J" } : Jvm.MethodName)) ∈ lw_all := lw_g (lw_at lw_m7 87 rfl) rfl
theorem q1630 : (Jvm.Cond.methodLink "BalloonStallModel" (265 : Nat) ({ cls := "java/lang/Math", name := "max", desc := "(JJ)J" } : Jvm.MethodName)) ∈ lw_all := lw_g (lw_at lw_m7 88 rfl) rfl
theorem q1631 : (Jvm.Cond.constantLong "BalloonStallModel" (271 : Nat) (2 : Int64)) ∈ lw_all := lw_g (lw_at lw_m7 89 rfl) rfl
theorem q1633 : (Jvm.Cond.instanceMethod ({ cls := "BalloonStallModel", name := "many", desc := "(II)I" } : Jvm.MethodName)) ∈ lw_all := lw_g (lw_at lw_m7 91 rfl) rfl
theorem q1634 : (Jvm.Cond.selects "BalloonStallModel" ({ cls := "BalloonStallModel", name := "many", desc := "(II)I" } : Jvm.MethodName) ({ cls := "BalloonStallModel", name := "many", desc := "(II)I" } : Jvm.MethodName)) ∈ lw_all := lw_g (lw_at lw_m7 92 rfl) rfl
theorem q1635 : (Jvm.Cond.code ({ cls := "BalloonStallModel", name := "many", desc := "(II)I" } : Jvm.MethodName) prog_26_method_52_code (6 : Nat) (Option.some Jvm.ClassFile.FieldType.int)) ∈ lw_all := lw_g (lw_at lw_m7 93 rfl) rfl
theorem q1636 : (Jvm.Cond.methodLink "BalloonStallModel" (284 : Nat) ({ cls := "BalloonStallModel", name := "isFigure", desc := "(I)Z" } : Jvm.MethodName)) ∈ lw_all := lw_g (lw_at lw_m7 94 rfl) rfl
theorem q1637 : (Jvm.Cond.privateMethod ({ cls := "BalloonStallModel", name := "isFigure", desc := "(I)Z" } : Jvm.MethodName)) ∈ lw_tbl := lw_at lw_m7 95 rfl
theorem q1638 : (Jvm.Cond.instanceMethod ({ cls := "BalloonStallModel", name := "isFigure", desc := "(I)Z" } : Jvm.MethodName)) ∈ lw_all := lw_g (lw_at lw_m7 96 rfl) rfl
theorem q1639 : (Jvm.Cond.code ({ cls := "BalloonStallModel", name := "isFigure", desc := "(I)Z" } : Jvm.MethodName) prog_26_method_42_code (2 : Nat) (Option.some Jvm.ClassFile.FieldType.boolean)) ∈ lw_all := lw_g (lw_at lw_m7 97 rfl) rfl
theorem q1640 : (Jvm.Cond.methodLink "BalloonStallModel" (294 : Nat) ({ cls := "BalloonStallModel", name := "isTwist", desc := "(II)Z" } : Jvm.MethodName)) ∈ lw_all := lw_g (lw_at lw_m7 98 rfl) rfl
theorem q1641 : (Jvm.Cond.privateMethod ({ cls := "BalloonStallModel", name := "isTwist", desc := "(II)Z" } : Jvm.MethodName)) ∈ lw_tbl := lw_at lw_m7 99 rfl
theorem q1642 : (Jvm.Cond.instanceMethod ({ cls := "BalloonStallModel", name := "isTwist", desc := "(II)Z" } : Jvm.MethodName)) ∈ lw_all := lw_g (lw_at lw_m7 100 rfl) rfl
theorem q1643 : (Jvm.Cond.code ({ cls := "BalloonStallModel", name := "isTwist", desc := "(II)Z" } : Jvm.MethodName) prog_26_method_49_code (3 : Nat) (Option.some Jvm.ClassFile.FieldType.boolean)) ∈ lw_all := lw_g (lw_at lw_m7 101 rfl) rfl
theorem q1644 : (Jvm.Cond.methodLink "BalloonStallModel" (298 : Nat) ({ cls := "BalloonStallModel", name := "isSlack", desc := "(II)Z" } : Jvm.MethodName)) ∈ lw_all := lw_g (lw_at lw_m7 102 rfl) rfl
theorem q1645 : (Jvm.Cond.privateMethod ({ cls := "BalloonStallModel", name := "isSlack", desc := "(II)Z" } : Jvm.MethodName)) ∈ lw_tbl := lw_at lw_m7 103 rfl
theorem q1646 : (Jvm.Cond.instanceMethod ({ cls := "BalloonStallModel", name := "isSlack", desc := "(II)Z" } : Jvm.MethodName)) ∈ lw_all := lw_g (lw_at lw_m7 104 rfl) rfl
theorem q1647 : (Jvm.Cond.code ({ cls := "BalloonStallModel", name := "isSlack", desc := "(II)Z" } : Jvm.MethodName) prog_26_method_50_code (3 : Nat) (Option.some Jvm.ClassFile.FieldType.boolean)) ∈ lw_all := lw_g (lw_at lw_m7 105 rfl) rfl
theorem q1648 : (Jvm.Cond.methodLink "BalloonStallModel" (287 : Nat) ({ cls := "BalloonStallModel", name := "all", desc := "(I)I" } : Jvm.MethodName)) ∈ lw_all := lw_g (lw_at lw_m7 106 rfl) rfl
theorem q1649 : (Jvm.Cond.privateMethod ({ cls := "BalloonStallModel", name := "all", desc := "(I)I" } : Jvm.MethodName)) ∈ lw_tbl := lw_at lw_m7 107 rfl
theorem q1650 : (Jvm.Cond.instanceMethod ({ cls := "BalloonStallModel", name := "all", desc := "(I)I" } : Jvm.MethodName)) ∈ lw_all := lw_g (lw_at lw_m7 108 rfl) rfl
theorem q1651 : (Jvm.Cond.code ({ cls := "BalloonStallModel", name := "all", desc := "(I)I" } : Jvm.MethodName) prog_26_method_48_code (2 : Nat) (Option.some Jvm.ClassFile.FieldType.int)) ∈ lw_all := lw_g (lw_at lw_m7 109 rfl) rfl
theorem q1652 : (Jvm.Cond.methodLink "BalloonStallModel" (290 : Nat) ({ cls := "BalloonStallModel", name := "endsIn", desc := "(III)I" } : Jvm.MethodName)) ∈ lw_all := lw_g (lw_at lw_m7 110 rfl) rfl
theorem q1653 : (Jvm.Cond.privateMethod ({ cls := "BalloonStallModel", name := "endsIn", desc := "(III)I" } : Jvm.MethodName)) ∈ lw_tbl := lw_at lw_m7 111 rfl
theorem q1654 : (Jvm.Cond.instanceMethod ({ cls := "BalloonStallModel", name := "endsIn", desc := "(III)I" } : Jvm.MethodName)) ∈ lw_all := lw_g (lw_at lw_m7 112 rfl) rfl
theorem q1655 : (Jvm.Cond.code ({ cls := "BalloonStallModel", name := "endsIn", desc := "(III)I" } : Jvm.MethodName) prog_26_method_47_code (6 : Nat) (Option.some Jvm.ClassFile.FieldType.int)) ∈ lw_all := lw_g (lw_at lw_m7 113 rfl) rfl
theorem q1656 : (Jvm.Cond.methodLink "BalloonStallModel" (301 : Nat) ({ cls := "BalloonStallModel", name := "odd", desc := "(II)I" } : Jvm.MethodName)) ∈ lw_all := lw_g (lw_at lw_m7 114 rfl) rfl
theorem q1657 : (Jvm.Cond.privateMethod ({ cls := "BalloonStallModel", name := "odd", desc := "(II)I" } : Jvm.MethodName)) ∈ lw_tbl := lw_at lw_m7 115 rfl
theorem q1658 : (Jvm.Cond.instanceMethod ({ cls := "BalloonStallModel", name := "odd", desc := "(II)I" } : Jvm.MethodName)) ∈ lw_all := lw_g (lw_at lw_m7 116 rfl) rfl
theorem q1659 : (Jvm.Cond.code ({ cls := "BalloonStallModel", name := "odd", desc := "(II)I" } : Jvm.MethodName) prog_26_method_51_code (5 : Nat) (Option.some Jvm.ClassFile.FieldType.int)) ∈ lw_all := lw_g (lw_at lw_m7 117 rfl) rfl
theorem q1661 : (Jvm.Cond.instanceMethod ({ cls := "BalloonStallModel", name := "bubble", desc := "(III)I" } : Jvm.MethodName)) ∈ lw_all := lw_g (lw_at lw_m7 119 rfl) rfl
theorem q1662 : (Jvm.Cond.selects "BalloonStallModel" ({ cls := "BalloonStallModel", name := "bubble", desc := "(III)I" } : Jvm.MethodName) ({ cls := "BalloonStallModel", name := "bubble", desc := "(III)I" } : Jvm.MethodName)) ∈ lw_all := lw_g (lw_at lw_m7 120 rfl) rfl
theorem q1663 : (Jvm.Cond.code ({ cls := "BalloonStallModel", name := "bubble", desc := "(III)I" } : Jvm.MethodName) prog_26_method_53_code (5 : Nat) (Option.some Jvm.ClassFile.FieldType.int)) ∈ lw_all := lw_g (lw_at lw_m7 121 rfl) rfl
theorem q1664 : (Jvm.Cond.methodLink "BalloonStallModel" (304 : Nat) ({ cls := "BalloonStallModel", name := "isBubble", desc := "(II)Z" } : Jvm.MethodName)) ∈ lw_all := lw_g (lw_at lw_m7 122 rfl) rfl
theorem q1665 : (Jvm.Cond.privateMethod ({ cls := "BalloonStallModel", name := "isBubble", desc := "(II)Z" } : Jvm.MethodName)) ∈ lw_tbl := lw_at lw_m7 123 rfl
theorem q1666 : (Jvm.Cond.instanceMethod ({ cls := "BalloonStallModel", name := "isBubble", desc := "(II)Z" } : Jvm.MethodName)) ∈ lw_all := lw_g (lw_at lw_m7 124 rfl) rfl
theorem q1667 : (Jvm.Cond.code ({ cls := "BalloonStallModel", name := "isBubble", desc := "(II)Z" } : Jvm.MethodName) prog_26_method_44_code (3 : Nat) (Option.some Jvm.ClassFile.FieldType.boolean)) ∈ lw_all := lw_g (lw_at lw_m7 125 rfl) rfl
theorem q1669 : (Jvm.Cond.instanceMethod ({ cls := "BalloonStallModel", name := "ends", desc := "(II)I" } : Jvm.MethodName)) ∈ lw_all := lw_g (lw_at lw_m7 127 rfl) rfl
theorem q1670 : (Jvm.Cond.selects "BalloonStallModel" ({ cls := "BalloonStallModel", name := "ends", desc := "(II)I" } : Jvm.MethodName) ({ cls := "BalloonStallModel", name := "ends", desc := "(II)I" } : Jvm.MethodName)) ∈ lw_all := lw_g (lw_at lw_m7 128 rfl) rfl
theorem q1671 : (Jvm.Cond.code ({ cls := "BalloonStallModel", name := "ends", desc := "(II)I" } : Jvm.MethodName) prog_26_method_54_code (3 : Nat) (Option.some Jvm.ClassFile.FieldType.int)) ∈ lw_all := lw_g (lw_at lw_m7 129 rfl) rfl
theorem q1672 : (Jvm.Cond.methodLink "BalloonStallModel" (307 : Nat) ({ cls := "BalloonStallModel", name := "isPoint", desc := "(II)Z" } : Jvm.MethodName)) ∈ lw_all := lw_g (lw_at lw_m7 130 rfl) rfl
theorem q1673 : (Jvm.Cond.privateMethod ({ cls := "BalloonStallModel", name := "isPoint", desc := "(II)Z" } : Jvm.MethodName)) ∈ lw_tbl := lw_at lw_m7 131 rfl
theorem q1674 : (Jvm.Cond.instanceMethod ({ cls := "BalloonStallModel", name := "isPoint", desc := "(II)Z" } : Jvm.MethodName)) ∈ lw_all := lw_g (lw_at lw_m7 132 rfl) rfl
theorem q1675 : (Jvm.Cond.code ({ cls := "BalloonStallModel", name := "isPoint", desc := "(II)Z" } : Jvm.MethodName) prog_26_method_43_code (3 : Nat) (Option.some Jvm.ClassFile.FieldType.boolean)) ∈ lw_all := lw_g (lw_at lw_m7 133 rfl) rfl
theorem q1677 : (Jvm.Cond.instanceMethod ({ cls := "BalloonStallModel", name := "bursts", desc := "(II)I" } : Jvm.MethodName)) ∈ lw_all := lw_g (lw_at lw_m7 135 rfl) rfl
theorem q1678 : (Jvm.Cond.selects "BalloonStallModel" ({ cls := "BalloonStallModel", name := "bursts", desc := "(II)I" } : Jvm.MethodName) ({ cls := "BalloonStallModel", name := "bursts", desc := "(II)I" } : Jvm.MethodName)) ∈ lw_all := lw_g (lw_at lw_m7 136 rfl) rfl
theorem q1679 : (Jvm.Cond.code ({ cls := "BalloonStallModel", name := "bursts", desc := "(II)I" } : Jvm.MethodName) prog_26_method_55_code (6 : Nat) (Option.some Jvm.ClassFile.FieldType.int)) ∈ lw_all := lw_g (lw_at lw_m7 137 rfl) rfl
theorem q1680 : (Jvm.Cond.methodLink "BalloonStallModel" (310 : Nat) ({ cls := "BalloonStallModel", name := "isBalloon", desc := "(II)Z" } : Jvm.MethodName)) ∈ lw_all := lw_g (lw_at lw_m7 138 rfl) rfl
theorem q1681 : (Jvm.Cond.privateMethod ({ cls := "BalloonStallModel", name := "isBalloon", desc := "(II)Z" } : Jvm.MethodName)) ∈ lw_tbl := lw_at lw_m7 139 rfl
theorem q1682 : (Jvm.Cond.instanceMethod ({ cls := "BalloonStallModel", name := "isBalloon", desc := "(II)Z" } : Jvm.MethodName)) ∈ lw_all := lw_g (lw_at lw_m7 140 rfl) rfl
theorem q1683 : (Jvm.Cond.code ({ cls := "BalloonStallModel", name := "isBalloon", desc := "(II)Z" } : Jvm.MethodName) prog_26_method_45_code (3 : Nat) (Option.some Jvm.ClassFile.FieldType.boolean)) ∈ lw_all := lw_g (lw_at lw_m7 141 rfl) rfl
theorem q1685 : (Jvm.Cond.instanceMethod ({ cls := "BalloonStallModel", name := "rest", desc := "(II)I" } : Jvm.MethodName)) ∈ lw_all := lw_g (lw_at lw_m7 143 rfl) rfl
theorem q1686 : (Jvm.Cond.selects "BalloonStallModel" ({ cls := "BalloonStallModel", name := "rest", desc := "(II)I" } : Jvm.MethodName) ({ cls := "BalloonStallModel", name := "rest", desc := "(II)I" } : Jvm.MethodName)) ∈ lw_all := lw_g (lw_at lw_m7 144 rfl) rfl
theorem q1687 : (Jvm.Cond.code ({ cls := "BalloonStallModel", name := "rest", desc := "(II)I" } : Jvm.MethodName) prog_26_method_56_code (7 : Nat) (Option.some Jvm.ClassFile.FieldType.int)) ∈ lw_all := lw_g (lw_at lw_m7 145 rfl) rfl
theorem q1689 : (Jvm.Cond.instanceMethod ({ cls := "BalloonStallModel", name := "hands", desc := "(I)I" } : Jvm.MethodName)) ∈ lw_all := lw_g (lw_at lw_m7 147 rfl) rfl
theorem q1690 : (Jvm.Cond.selects "BalloonStallModel" ({ cls := "BalloonStallModel", name := "hands", desc := "(I)I" } : Jvm.MethodName) ({ cls := "BalloonStallModel", name := "hands", desc := "(I)I" } : Jvm.MethodName)) ∈ lw_all := lw_g (lw_at lw_m7 148 rfl) rfl
theorem q1691 : (Jvm.Cond.code ({ cls := "BalloonStallModel", name := "hands", desc := "(I)I" } : Jvm.MethodName) prog_26_method_57_code (2 : Nat) (Option.some Jvm.ClassFile.FieldType.int)) ∈ lw_all := lw_g (lw_at lw_m7 149 rfl) rfl
theorem q1693 : (Jvm.Cond.instanceMethod ({ cls := "BalloonStallModel", name := "holds", desc := "(II)I" } : Jvm.MethodName)) ∈ lw_all := lw_g (lw_at lw_m7 151 rfl) rfl
theorem q1694 : (Jvm.Cond.selects "BalloonStallModel" ({ cls := "BalloonStallModel", name := "holds", desc := "(II)I" } : Jvm.MethodName) ({ cls := "BalloonStallModel", name := "holds", desc := "(II)I" } : Jvm.MethodName)) ∈ lw_all := lw_g (lw_at lw_m7 152 rfl) rfl
theorem q1695 : (Jvm.Cond.code ({ cls := "BalloonStallModel", name := "holds", desc := "(II)I" } : Jvm.MethodName) prog_26_method_58_code (3 : Nat) (Option.some Jvm.ClassFile.FieldType.int)) ∈ lw_all := lw_g (lw_at lw_m7 153 rfl) rfl
theorem q1697 : (Jvm.Cond.instanceMethod ({ cls := "BalloonStallModel", name := "plain", desc := "(I)I" } : Jvm.MethodName)) ∈ lw_all := lw_g (lw_at lw_m7 155 rfl) rfl
theorem q1698 : (Jvm.Cond.selects "BalloonStallModel" ({ cls := "BalloonStallModel", name := "plain", desc := "(I)I" } : Jvm.MethodName) ({ cls := "BalloonStallModel", name := "plain", desc := "(I)I" } : Jvm.MethodName)) ∈ lw_all := lw_g (lw_at lw_m7 156 rfl) rfl
theorem q1699 : (Jvm.Cond.code ({ cls := "BalloonStallModel", name := "plain", desc := "(I)I" } : Jvm.MethodName) prog_26_method_63_code (7 : Nat) (Option.some Jvm.ClassFile.FieldType.int)) ∈ lw_all := lw_g (lw_at lw_m7 157 rfl) rfl
theorem q1700 : (Jvm.Cond.methodLink "BalloonStallModel" (316 : Nat) ({ cls := "BalloonStallModel", name := "startFigure", desc := "()V" } : Jvm.MethodName)) ∈ lw_all := lw_g (lw_at lw_m7 158 rfl) rfl
theorem q1701 : (Jvm.Cond.privateMethod ({ cls := "BalloonStallModel", name := "startFigure", desc := "()V" } : Jvm.MethodName)) ∈ lw_tbl := lw_at lw_m7 159 rfl
theorem q1702 : (Jvm.Cond.instanceMethod ({ cls := "BalloonStallModel", name := "startFigure", desc := "()V" } : Jvm.MethodName)) ∈ lw_all := lw_g (lw_at lw_m7 160 rfl) rfl
theorem q1703 : (Jvm.Cond.code ({ cls := "BalloonStallModel", name := "startFigure", desc := "()V" } : Jvm.MethodName) prog_26_method_61_code (1 : Nat) (Option.none : Option Jvm.ClassFile.FieldType)) ∈ lw_all := lw_g (lw_at lw_m7 161 rfl) rfl
theorem q1704 : (Jvm.Cond.methodLink "BalloonStallModel" (319 : Nat) ({ cls := "BalloonStallModel", name := "put", desc := "(IIII)V" } : Jvm.MethodName)) ∈ lw_all := lw_g (lw_at lw_m7 162 rfl) rfl
theorem q1705 : (Jvm.Cond.privateMethod ({ cls := "BalloonStallModel", name := "put", desc := "(IIII)V" } : Jvm.MethodName)) ∈ lw_tbl := lw_at lw_m7 163 rfl
theorem q1706 : (Jvm.Cond.instanceMethod ({ cls := "BalloonStallModel", name := "put", desc := "(IIII)V" } : Jvm.MethodName)) ∈ lw_all := lw_g (lw_at lw_m7 164 rfl) rfl
theorem q1707 : (Jvm.Cond.code ({ cls := "BalloonStallModel", name := "put", desc := "(IIII)V" } : Jvm.MethodName) prog_26_method_60_code (6 : Nat) (Option.none : Option Jvm.ClassFile.FieldType)) ∈ lw_all := lw_g (lw_at lw_m7 165 rfl) rfl
theorem q1708 : (Jvm.Cond.methodLink "BalloonStallModel" (323 : Nat) ({ cls := "BalloonStallModel", name := "endFigure", desc := "(I)V" } : Jvm.MethodName)) ∈ lw_all := lw_g (lw_at lw_m7 166 rfl) rfl
theorem q1709 : (Jvm.Cond.privateMethod ({ cls := "BalloonStallModel", name := "endFigure", desc := "(I)V" } : Jvm.MethodName)) ∈ lw_tbl := lw_at lw_m7 167 rfl
theorem q1710 : (Jvm.Cond.instanceMethod ({ cls := "BalloonStallModel", name := "endFigure", desc := "(I)V" } : Jvm.MethodName)) ∈ lw_all := lw_g (lw_at lw_m7 168 rfl) rfl
theorem q1711 : (Jvm.Cond.code ({ cls := "BalloonStallModel", name := "endFigure", desc := "(I)V" } : Jvm.MethodName) prog_26_method_62_code (4 : Nat) (Option.none : Option Jvm.ClassFile.FieldType)) ∈ lw_all := lw_g (lw_at lw_m7 169 rfl) rfl
theorem q1712 : (Jvm.Cond.methodLink "BalloonStallModel" (313 : Nat) ({ cls := "BalloonStallModel", name := "handsOf", desc := "(I)I" } : Jvm.MethodName)) ∈ lw_all := lw_g (lw_at lw_m7 170 rfl) rfl
theorem q1713 : (Jvm.Cond.privateMethod ({ cls := "BalloonStallModel", name := "handsOf", desc := "(I)I" } : Jvm.MethodName)) ∈ lw_tbl := lw_at lw_m7 171 rfl
theorem q1714 : (Jvm.Cond.instanceMethod ({ cls := "BalloonStallModel", name := "handsOf", desc := "(I)I" } : Jvm.MethodName)) ∈ lw_all := lw_g (lw_at lw_m7 172 rfl) rfl
theorem q1715 : (Jvm.Cond.code ({ cls := "BalloonStallModel", name := "handsOf", desc := "(I)I" } : Jvm.MethodName) prog_26_method_59_code (7 : Nat) (Option.some Jvm.ClassFile.FieldType.int)) ∈ lw_all := lw_g (lw_at lw_m7 173 rfl) rfl
theorem q1717 : (Jvm.Cond.instanceMethod ({ cls := "BalloonStallModel", name := "add", desc := "(IIII)I" } : Jvm.MethodName)) ∈ lw_all := lw_g (lw_at lw_m7 175 rfl) rfl
theorem q1718 : (Jvm.Cond.selects "BalloonStallModel" ({ cls := "BalloonStallModel", name := "add", desc := "(IIII)I" } : Jvm.MethodName) ({ cls := "BalloonStallModel", name := "add", desc := "(IIII)I" } : Jvm.MethodName)) ∈ lw_all := lw_g (lw_at lw_m7 176 rfl) rfl
theorem q1719 : (Jvm.Cond.code ({ cls := "BalloonStallModel", name := "add", desc := "(IIII)I" } : Jvm.MethodName) prog_26_method_64_code (6 : Nat) (Option.some Jvm.ClassFile.FieldType.int)) ∈ lw_all := lw_g (lw_at lw_m7 177 rfl) rfl
theorem q1720 : (Jvm.Cond.methodLink "BalloonStallModel" (326 : Nat) ({ cls := "BalloonStallModel", name := "addAll", desc := "(III)V" } : Jvm.MethodName)) ∈ lw_all := lw_g (lw_at lw_m7 178 rfl) rfl
theorem q1721 : (Jvm.Cond.privateMethod ({ cls := "BalloonStallModel", name := "addAll", desc := "(III)V" } : Jvm.MethodName)) ∈ lw_tbl := lw_at lw_m7 179 rfl
theorem q1722 : (Jvm.Cond.instanceMethod ({ cls := "BalloonStallModel", name := "addAll", desc := "(III)V" } : Jvm.MethodName)) ∈ lw_all := lw_g (lw_at lw_m7 180 rfl) rfl
theorem q1723 : (Jvm.Cond.code ({ cls := "BalloonStallModel", name := "addAll", desc := "(III)V" } : Jvm.MethodName) prog_26_method_65_code (6 : Nat) (Option.none : Option Jvm.ClassFile.FieldType)) ∈ lw_all := lw_g (lw_at lw_m7 181 rfl) rfl
theorem q1725 : (Jvm.Cond.instanceMethod ({ cls := "BalloonStallModel", name := "pop", desc := "(III)I" } : Jvm.MethodName)) ∈ lw_all := lw_g (lw_at lw_m7 183 rfl) rfl
theorem q1726 : (Jvm.Cond.selects "BalloonStallModel" ({ cls := "BalloonStallModel", name := "pop", desc := "(III)I" } : Jvm.MethodName) ({ cls := "BalloonStallModel", name := "pop", desc := "(III)I" } : Jvm.MethodName)) ∈ lw_all := lw_g (lw_at lw_m7 184 rfl) rfl
theorem q1727 : (Jvm.Cond.code ({ cls := "BalloonStallModel", name := "pop", desc := "(III)I" } : Jvm.MethodName) prog_26_method_69_code (6 : Nat) (Option.some Jvm.ClassFile.FieldType.int)) ∈ lw_all := lw_g (lw_at lw_m7 185 rfl) rfl
theorem q1728 : (Jvm.Cond.methodLink "BalloonStallModel" (333 : Nat) ({ cls := "BalloonStallModel", name := "leftOf", desc := "(II)I" } : Jvm.MethodName)) ∈ lw_all := lw_g (lw_at lw_m7 186 rfl) rfl
theorem q1729 : (Jvm.Cond.privateMethod ({ cls := "BalloonStallModel", name := "leftOf", desc := "(II)I" } : Jvm.MethodName)) ∈ lw_tbl := lw_at lw_m7 187 rfl
theorem q1730 : (Jvm.Cond.instanceMethod ({ cls := "BalloonStallModel", name := "leftOf", desc := "(II)I" } : Jvm.MethodName)) ∈ lw_all := lw_g (lw_at lw_m7 188 rfl) rfl
theorem q1731 : (Jvm.Cond.code ({ cls := "BalloonStallModel", name := "leftOf", desc := "(II)I" } : Jvm.MethodName) prog_26_method_66_code (8 : Nat) (Option.some Jvm.ClassFile.FieldType.int)) ∈ lw_all := lw_g (lw_at lw_m7 189 rfl) rfl
theorem q1732 : (Jvm.Cond.methodLink "BalloonStallModel" (336 : Nat) ({ cls := "java/lang/Integer", name := "bitCount", desc := "(I)I" } : Jvm.MethodName)) ∈ lw_all := lw_g (lw_at lw_m7 190 rfl) rfl
theorem q1733 : (Jvm.Cond.methodLink "BalloonStallModel" (341 : Nat) ({ cls := "BalloonStallModel", name := "partsOf", desc := "(II)I" } : Jvm.MethodName)) ∈ lw_all := lw_g (lw_at lw_m7 191 rfl) rfl
theorem q1734 : (Jvm.Cond.privateMethod ({ cls := "BalloonStallModel", name := "partsOf", desc := "(II)I" } : Jvm.MethodName)) ∈ lw_tbl := lw_at lw_m7 192 rfl
theorem q1735 : (Jvm.Cond.instanceMethod ({ cls := "BalloonStallModel", name := "partsOf", desc := "(II)I" } : Jvm.MethodName)) ∈ lw_all := lw_g (lw_at lw_m7 193 rfl) rfl
theorem q1736 : (Jvm.Cond.code ({ cls := "BalloonStallModel", name := "partsOf", desc := "(II)I" } : Jvm.MethodName) prog_26_method_67_code (8 : Nat) (Option.some Jvm.ClassFile.FieldType.int)) ∈ lw_all := lw_g (lw_at lw_m7 194 rfl) rfl
theorem q1737 : (Jvm.Cond.methodLink "BalloonStallModel" (330 : Nat) ({ cls := "BalloonStallModel", name := "meets", desc := "(III)Z" } : Jvm.MethodName)) ∈ lw_all := lw_g (lw_at lw_m7 195 rfl) rfl
theorem q1738 : (Jvm.Cond.privateMethod ({ cls := "BalloonStallModel", name := "meets", desc := "(III)Z" } : Jvm.MethodName)) ∈ lw_tbl := lw_at lw_m7 196 rfl
theorem q1739 : (Jvm.Cond.instanceMethod ({ cls := "BalloonStallModel", name := "meets", desc := "(III)Z" } : Jvm.MethodName)) ∈ lw_all := lw_g (lw_at lw_m7 197 rfl) rfl
theorem q1740 : (Jvm.Cond.code ({ cls := "BalloonStallModel", name := "meets", desc := "(III)Z" } : Jvm.MethodName) prog_26_method_68_code (7 : Nat) (Option.some Jvm.ClassFile.FieldType.boolean)) ∈ lw_all := lw_g (lw_at lw_m7 198 rfl) rfl
theorem q1742 : (Jvm.Cond.instanceMethod ({ cls := "BalloonStallModel", name := "weakest", desc := "(I)I" } : Jvm.MethodName)) ∈ lw_all := lw_g (lw_at lw_m7 200 rfl) rfl
theorem q1743 : (Jvm.Cond.selects "BalloonStallModel" ({ cls := "BalloonStallModel", name := "weakest", desc := "(I)I" } : Jvm.MethodName) ({ cls := "BalloonStallModel", name := "weakest", desc := "(I)I" } : Jvm.MethodName)) ∈ lw_all := lw_g (lw_at lw_m7 201 rfl) rfl
theorem q1744 : (Jvm.Cond.code ({ cls := "BalloonStallModel", name := "weakest", desc := "(I)I" } : Jvm.MethodName) prog_26_method_70_code (4 : Nat) (Option.some Jvm.ClassFile.FieldType.int)) ∈ lw_all := lw_g (lw_at lw_m7 202 rfl) rfl
theorem q1745 : (Jvm.Cond.methodLink "BalloonStallModel" (344 : Nat) ({ cls := "BalloonStallModel", name := "pop", desc := "(III)I" } : Jvm.MethodName)) ∈ lw_all := lw_g (lw_at lw_m7 203 rfl) rfl
theorem q1747 : (Jvm.Cond.instanceMethod ({ cls := "BalloonStallModel", name := "alike", desc := "(II)I" } : Jvm.MethodName)) ∈ lw_all := lw_g (lw_at lw_m7 205 rfl) rfl
theorem q1748 : (Jvm.Cond.selects "BalloonStallModel" ({ cls := "BalloonStallModel", name := "alike", desc := "(II)I" } : Jvm.MethodName) ({ cls := "BalloonStallModel", name := "alike", desc := "(II)I" } : Jvm.MethodName)) ∈ lw_all := lw_g (lw_at lw_m7 206 rfl) rfl
theorem q1749 : (Jvm.Cond.code ({ cls := "BalloonStallModel", name := "alike", desc := "(II)I" } : Jvm.MethodName) prog_26_method_76_code (3 : Nat) (Option.some Jvm.ClassFile.FieldType.int)) ∈ lw_all := lw_g (lw_at lw_m7 207 rfl) rfl
theorem q1750 : (Jvm.Cond.methodLink "BalloonStallModel" (359 : Nat) ({ cls := "BalloonStallModel", name := "mayMatch", desc := "(II)Z" } : Jvm.MethodName)) ∈ lw_all := lw_g (lw_at lw_m7 208 rfl) rfl
theorem q1751 : (Jvm.Cond.privateMethod ({ cls := "BalloonStallModel", name := "mayMatch", desc := "(II)Z" } : Jvm.MethodName)) ∈ lw_tbl := lw_at lw_m7 209 rfl
theorem q1752 : (Jvm.Cond.instanceMethod ({ cls := "BalloonStallModel", name := "mayMatch", desc := "(II)Z" } : Jvm.MethodName)) ∈ lw_all := lw_g (lw_at lw_m7 210 rfl) rfl
theorem q1753 : (Jvm.Cond.code ({ cls := "BalloonStallModel", name := "mayMatch", desc := "(II)Z" } : Jvm.MethodName) prog_26_method_74_code (3 : Nat) (Option.some Jvm.ClassFile.FieldType.boolean)) ∈ lw_all := lw_g (lw_at lw_m7 211 rfl) rfl
theorem q1754 : (Jvm.Cond.methodLink "BalloonStallModel" (362 : Nat) ({ cls := "BalloonStallModel", name := "areAlike", desc := "(II)Z" } : Jvm.MethodName)) ∈ lw_all := lw_g (lw_at lw_m7 212 rfl) rfl
theorem q1755 : (Jvm.Cond.privateMethod ({ cls := "BalloonStallModel", name := "areAlike", desc := "(II)Z" } : Jvm.MethodName)) ∈ lw_tbl := lw_at lw_m7 213 rfl
theorem q1756 : (Jvm.Cond.instanceMethod ({ cls := "BalloonStallModel", name := "areAlike", desc := "(II)Z" } : Jvm.MethodName)) ∈ lw_all := lw_g (lw_at lw_m7 214 rfl) rfl
theorem q1757 : (Jvm.Cond.code ({ cls := "BalloonStallModel", name := "areAlike", desc := "(II)Z" } : Jvm.MethodName) prog_26_method_75_code (3 : Nat) (Option.some Jvm.ClassFile.FieldType.boolean)) ∈ lw_all := lw_g (lw_at lw_m7 215 rfl) rfl
theorem q1758 : (Jvm.Cond.methodLink "BalloonStallModel" (355 : Nat) ({ cls := "BalloonStallModel", name := "pairs", desc := "(IIII)Z" } : Jvm.MethodName)) ∈ lw_all := lw_g (lw_at lw_m7 216 rfl) rfl
theorem q1759 : (Jvm.Cond.privateMethod ({ cls := "BalloonStallModel", name := "pairs", desc := "(IIII)Z" } : Jvm.MethodName)) ∈ lw_tbl := lw_at lw_m7 217 rfl
theorem q1760 : (Jvm.Cond.instanceMethod ({ cls := "BalloonStallModel", name := "pairs", desc := "(IIII)Z" } : Jvm.MethodName)) ∈ lw_all := lw_g (lw_at lw_m7 218 rfl) rfl
theorem q1761 : (Jvm.Cond.code ({ cls := "BalloonStallModel", name := "pairs", desc := "(IIII)Z" } : Jvm.MethodName) prog_26_method_73_code (8 : Nat) (Option.some Jvm.ClassFile.FieldType.boolean)) ∈ lw_all := lw_g (lw_at lw_m7 219 rfl) rfl
theorem q1762 : (Jvm.Cond.methodLink "BalloonStallModel" (351 : Nat) ({ cls := "BalloonStallModel", name := "isSame", desc := "(IIIIII)Z" } : Jvm.MethodName)) ∈ lw_all := lw_g (lw_at lw_m7 220 rfl) rfl
theorem q1763 : (Jvm.Cond.privateMethod ({ cls := "BalloonStallModel", name := "isSame", desc := "(IIIIII)Z" } : Jvm.MethodName)) ∈ lw_tbl := lw_at lw_m7 221 rfl
theorem q1764 : (Jvm.Cond.instanceMethod ({ cls := "BalloonStallModel", name := "isSame", desc := "(IIIIII)Z" } : Jvm.MethodName)) ∈ lw_all := lw_g (lw_at lw_m7 222 rfl) rfl
theorem q1765 : (Jvm.Cond.code ({ cls := "BalloonStallModel", name := "isSame", desc := "(IIIIII)Z" } : Jvm.MethodName) prog_26_method_72_code (8 : Nat) (Option.some Jvm.ClassFile.FieldType.boolean)) ∈ lw_all := lw_g (lw_at lw_m7 223 rfl) rfl
theorem q1766 : (Jvm.Cond.methodLink "BalloonStallModel" (347 : Nat) ({ cls := "BalloonStallModel", name := "between", desc := "(IIII)I" } : Jvm.MethodName)) ∈ lw_all := lw_g (lw_at lw_m7 224 rfl) rfl
theorem q1767 : (Jvm.Cond.privateMethod ({ cls := "BalloonStallModel", name := "between", desc := "(IIII)I" } : Jvm.MethodName)) ∈ lw_tbl := lw_at lw_m7 225 rfl
theorem q1768 : (Jvm.Cond.instanceMethod ({ cls := "BalloonStallModel", name := "between", desc := "(IIII)I" } : Jvm.MethodName)) ∈ lw_all := lw_g (lw_at lw_m7 226 rfl) rfl
theorem q1769 : (Jvm.Cond.code ({ cls := "BalloonStallModel", name := "between", desc := "(IIII)I" } : Jvm.MethodName) prog_26_method_71_code (8 : Nat) (Option.some Jvm.ClassFile.FieldType.int)) ∈ lw_all := lw_g (lw_at lw_m7 227 rfl) rfl
theorem q1771 : (Jvm.Cond.instanceMethod ({ cls := "BalloonStallModel", name := "match", desc := "(III)I" } : Jvm.MethodName)) ∈ lw_all := lw_g (lw_at lw_m7 229 rfl) rfl
theorem q1772 : (Jvm.Cond.selects "BalloonStallModel" ({ cls := "BalloonStallModel", name := "match", desc := "(III)I" } : Jvm.MethodName) ({ cls := "BalloonStallModel", name := "match", desc := "(III)I" } : Jvm.MethodName)) ∈ lw_all := lw_g (lw_at lw_m7 230 rfl) rfl
theorem q1773 : (Jvm.Cond.code ({ cls := "BalloonStallModel", name := "match", desc := "(III)I" } : Jvm.MethodName) prog_26_method_77_code (4 : Nat) (Option.some Jvm.ClassFile.FieldType.int)) ∈ lw_all := lw_g (lw_at lw_m7 231 rfl) rfl
theorem q1775 : (Jvm.Cond.instanceMethod ({ cls := "BalloonStallModel", name := "far", desc := "(III)I" } : Jvm.MethodName)) ∈ lw_all := lw_g (lw_at lw_m7 233 rfl) rfl
theorem q1776 : (Jvm.Cond.selects "BalloonStallModel" ({ cls := "BalloonStallModel", name := "far", desc := "(III)I" } : Jvm.MethodName) ({ cls := "BalloonStallModel", name := "far", desc := "(III)I" } : Jvm.MethodName)) ∈ lw_all := lw_g (lw_at lw_m7 234 rfl) rfl
theorem q1777 : (Jvm.Cond.code ({ cls := "BalloonStallModel", name := "far", desc := "(III)I" } : Jvm.MethodName) prog_26_method_79_code (5 : Nat) (Option.some Jvm.ClassFile.FieldType.int)) ∈ lw_all := lw_g (lw_at lw_m7 235 rfl) rfl
theorem q1778 : (Jvm.Cond.methodLink "BalloonStallModel" (366 : Nat) ({ cls := "BalloonStallModel", name := "findFars", desc := "(I)V" } : Jvm.MethodName)) ∈ lw_all := lw_g (lw_at lw_m7 236 rfl) rfl
theorem q1779 : (Jvm.Cond.privateMethod ({ cls := "BalloonStallModel", name := "findFars", desc := "(I)V" } : Jvm.MethodName)) ∈ lw_tbl := lw_at lw_m7 237 rfl
theorem q1780 : (Jvm.Cond.instanceMethod ({ cls := "BalloonStallModel", name := "findFars", desc := "(I)V" } : Jvm.MethodName)) ∈ lw_all := lw_g (lw_at lw_m7 238 rfl) rfl
theorem q1781 : (Jvm.Cond.code ({ cls := "BalloonStallModel", name := "findFars", desc := "(I)V" } : Jvm.MethodName) prog_26_method_78_code (6 : Nat) (Option.none : Option Jvm.ClassFile.FieldType)) ∈ lw_all := lw_g (lw_at lw_m7 239 rfl) rfl
theorem q1782 : (Jvm.Cond.constant "BalloonStallModel" (365 : Nat) (1000000 : Int32)) ∈ lw_all := lw_g (lw_at lw_m8 0 rfl) rfl
theorem q1784 : (Jvm.Cond.instanceMethod ({ cls := "BalloonStallModel", name := "span", desc := "(I)I" } : Jvm.MethodName)) ∈ lw_all := lw_g (lw_at lw_m8 2 rfl) rfl
theorem q1785 : (Jvm.Cond.selects "BalloonStallModel" ({ cls := "BalloonStallModel", name := "span", desc := "(I)I" } : Jvm.MethodName) ({ cls := "BalloonStallModel", name := "span", desc := "(I)I" } : Jvm.MethodName)) ∈ lw_all := lw_g (lw_at lw_m8 3 rfl) rfl
theorem q1786 : (Jvm.Cond.code ({ cls := "BalloonStallModel", name := "span", desc := "(I)I" } : Jvm.MethodName) prog_26_method_80_code (5 : Nat) (Option.some Jvm.ClassFile.FieldType.int)) ∈ lw_all := lw_g (lw_at lw_m8 4 rfl) rfl
theorem q1788 : (Jvm.Cond.instanceMethod ({ cls := "BalloonStallModel", name := "strokes", desc := "(I)I" } : Jvm.MethodName)) ∈ lw_all := lw_g (lw_at lw_m8 6 rfl) rfl
theorem q1789 : (Jvm.Cond.selects "BalloonStallModel" ({ cls := "BalloonStallModel", name := "strokes", desc := "(I)I" } : Jvm.MethodName) ({ cls := "BalloonStallModel", name := "strokes", desc := "(I)I" } : Jvm.MethodName)) ∈ lw_all := lw_g (lw_at lw_m8 7 rfl) rfl
theorem q1790 : (Jvm.Cond.code ({ cls := "BalloonStallModel", name := "strokes", desc := "(I)I" } : Jvm.MethodName) prog_26_method_82_code (5 : Nat) (Option.some Jvm.ClassFile.FieldType.int)) ∈ lw_all := lw_g (lw_at lw_m8 8 rfl) rfl
theorem q1791 : (Jvm.Cond.methodLink "BalloonStallModel" (369 : Nat) ({ cls := "BalloonStallModel", name := "firstPart", desc := "(II)I" } : Jvm.MethodName)) ∈ lw_all := lw_g (lw_at lw_m8 9 rfl) rfl
theorem q1792 : (Jvm.Cond.privateMethod ({ cls := "BalloonStallModel", name := "firstPart", desc := "(II)I" } : Jvm.MethodName)) ∈ lw_tbl := lw_at lw_m8 10 rfl
theorem q1793 : (Jvm.Cond.instanceMethod ({ cls := "BalloonStallModel", name := "firstPart", desc := "(II)I" } : Jvm.MethodName)) ∈ lw_all := lw_g (lw_at lw_m8 11 rfl) rfl
theorem q1794 : (Jvm.Cond.code ({ cls := "BalloonStallModel", name := "firstPart", desc := "(II)I" } : Jvm.MethodName) prog_26_method_81_code (6 : Nat) (Option.some Jvm.ClassFile.FieldType.int)) ∈ lw_all := lw_g (lw_at lw_m8 12 rfl) rfl
theorem q1796 : (Jvm.Cond.instanceMethod ({ cls := "BalloonStallModel", name := "made", desc := "(II)I" } : Jvm.MethodName)) ∈ lw_all := lw_g (lw_at lw_m8 14 rfl) rfl
theorem q1797 : (Jvm.Cond.selects "BalloonStallModel" ({ cls := "BalloonStallModel", name := "made", desc := "(II)I" } : Jvm.MethodName) ({ cls := "BalloonStallModel", name := "made", desc := "(II)I" } : Jvm.MethodName)) ∈ lw_all := lw_g (lw_at lw_m8 15 rfl) rfl
theorem q1798 : (Jvm.Cond.code ({ cls := "BalloonStallModel", name := "made", desc := "(II)I" } : Jvm.MethodName) prog_26_method_86_code (3 : Nat) (Option.some Jvm.ClassFile.FieldType.int)) ∈ lw_all := lw_g (lw_at lw_m8 16 rfl) rfl
theorem q1799 : (Jvm.Cond.methodLink "BalloonStallModel" (381 : Nat) ({ cls := "BalloonStallModel", name := "mayBeMade", desc := "(II)Z" } : Jvm.MethodName)) ∈ lw_all := lw_g (lw_at lw_m8 17 rfl) rfl
theorem q1800 : (Jvm.Cond.privateMethod ({ cls := "BalloonStallModel", name := "mayBeMade", desc := "(II)Z" } : Jvm.MethodName)) ∈ lw_tbl := lw_at lw_m8 18 rfl
theorem q1801 : (Jvm.Cond.instanceMethod ({ cls := "BalloonStallModel", name := "mayBeMade", desc := "(II)Z" } : Jvm.MethodName)) ∈ lw_all := lw_g (lw_at lw_m8 19 rfl) rfl
theorem q1802 : (Jvm.Cond.code ({ cls := "BalloonStallModel", name := "mayBeMade", desc := "(II)Z" } : Jvm.MethodName) prog_26_method_85_code (3 : Nat) (Option.some Jvm.ClassFile.FieldType.boolean)) ∈ lw_all := lw_g (lw_at lw_m8 20 rfl) rfl
theorem q1803 : (Jvm.Cond.methodLink "BalloonStallModel" (375 : Nat) ({ cls := "BalloonStallModel", name := "isSort", desc := "(I)Z" } : Jvm.MethodName)) ∈ lw_all := lw_g (lw_at lw_m8 21 rfl) rfl
theorem q1804 : (Jvm.Cond.privateMethod ({ cls := "BalloonStallModel", name := "isSort", desc := "(I)Z" } : Jvm.MethodName)) ∈ lw_tbl := lw_at lw_m8 22 rfl
theorem q1805 : (Jvm.Cond.instanceMethod ({ cls := "BalloonStallModel", name := "isSort", desc := "(I)Z" } : Jvm.MethodName)) ∈ lw_all := lw_g (lw_at lw_m8 23 rfl) rfl
theorem q1806 : (Jvm.Cond.code ({ cls := "BalloonStallModel", name := "isSort", desc := "(I)Z" } : Jvm.MethodName) prog_26_method_46_code (2 : Nat) (Option.some Jvm.ClassFile.FieldType.boolean)) ∈ lw_all := lw_g (lw_at lw_m8 24 rfl) rfl
theorem q1807 : (Jvm.Cond.methodLink "BalloonStallModel" (378 : Nat) ({ cls := "BalloonStallModel", name := "findFewest", desc := "(II)V" } : Jvm.MethodName)) ∈ lw_all := lw_g (lw_at lw_m8 25 rfl) rfl
theorem q1808 : (Jvm.Cond.privateMethod ({ cls := "BalloonStallModel", name := "findFewest", desc := "(II)V" } : Jvm.MethodName)) ∈ lw_tbl := lw_at lw_m8 26 rfl
theorem q1809 : (Jvm.Cond.instanceMethod ({ cls := "BalloonStallModel", name := "findFewest", desc := "(II)V" } : Jvm.MethodName)) ∈ lw_all := lw_g (lw_at lw_m8 27 rfl) rfl
theorem q1810 : (Jvm.Cond.code ({ cls := "BalloonStallModel", name := "findFewest", desc := "(II)V" } : Jvm.MethodName) prog_26_method_84_code (7 : Nat) (Option.none : Option Jvm.ClassFile.FieldType)) ∈ lw_all := lw_g (lw_at lw_m8 28 rfl) rfl
theorem q1811 : (Jvm.Cond.methodLink "BalloonStallModel" (372 : Nat) ({ cls := "BalloonStallModel", name := "isOneWay", desc := "(III)Z" } : Jvm.MethodName)) ∈ lw_all := lw_g (lw_at lw_m8 29 rfl) rfl
theorem q1812 : (Jvm.Cond.privateMethod ({ cls := "BalloonStallModel", name := "isOneWay", desc := "(III)Z" } : Jvm.MethodName)) ∈ lw_tbl := lw_at lw_m8 30 rfl
theorem q1813 : (Jvm.Cond.instanceMethod ({ cls := "BalloonStallModel", name := "isOneWay", desc := "(III)Z" } : Jvm.MethodName)) ∈ lw_all := lw_g (lw_at lw_m8 31 rfl) rfl
theorem q1814 : (Jvm.Cond.code ({ cls := "BalloonStallModel", name := "isOneWay", desc := "(III)Z" } : Jvm.MethodName) prog_26_method_83_code (6 : Nat) (Option.some Jvm.ClassFile.FieldType.boolean)) ∈ lw_all := lw_g (lw_at lw_m8 32 rfl) rfl
theorem q1816 : (Jvm.Cond.instanceMethod ({ cls := "BalloonStallModel", name := "set", desc := "(III)I" } : Jvm.MethodName)) ∈ lw_all := lw_g (lw_at lw_m8 34 rfl) rfl
theorem q1817 : (Jvm.Cond.selects "BalloonStallModel" ({ cls := "BalloonStallModel", name := "set", desc := "(III)I" } : Jvm.MethodName) ({ cls := "BalloonStallModel", name := "set", desc := "(III)I" } : Jvm.MethodName)) ∈ lw_all := lw_g (lw_at lw_m8 35 rfl) rfl
theorem q1818 : (Jvm.Cond.code ({ cls := "BalloonStallModel", name := "set", desc := "(III)I" } : Jvm.MethodName) prog_26_method_87_code (8 : Nat) (Option.some Jvm.ClassFile.FieldType.int)) ∈ lw_all := lw_g (lw_at lw_m8 36 rfl) rfl
theorem q1820 : (Jvm.Cond.instanceMethod ({ cls := "BalloonStallModel", name := "twice", desc := "(I)I" } : Jvm.MethodName)) ∈ lw_all := lw_g (lw_at lw_m8 38 rfl) rfl
theorem q1821 : (Jvm.Cond.selects "BalloonStallModel" ({ cls := "BalloonStallModel", name := "twice", desc := "(I)I" } : Jvm.MethodName) ({ cls := "BalloonStallModel", name := "twice", desc := "(I)I" } : Jvm.MethodName)) ∈ lw_all := lw_g (lw_at lw_m8 39 rfl) rfl
theorem q1822 : (Jvm.Cond.code ({ cls := "BalloonStallModel", name := "twice", desc := "(I)I" } : Jvm.MethodName) prog_26_method_89_code (4 : Nat) (Option.some Jvm.ClassFile.FieldType.int)) ∈ lw_all := lw_g (lw_at lw_m8 40 rfl) rfl
theorem q1823 : (Jvm.Cond.methodLink "BalloonStallModel" (387 : Nat) ({ cls := "BalloonStallModel", name := "pairing", desc := "(III)I" } : Jvm.MethodName)) ∈ lw_all := lw_g (lw_at lw_m8 41 rfl) rfl
theorem q1824 : (Jvm.Cond.privateMethod ({ cls := "BalloonStallModel", name := "pairing", desc := "(III)I" } : Jvm.MethodName)) ∈ lw_tbl := lw_at lw_m8 42 rfl
theorem q1825 : (Jvm.Cond.instanceMethod ({ cls := "BalloonStallModel", name := "pairing", desc := "(III)I" } : Jvm.MethodName)) ∈ lw_all := lw_g (lw_at lw_m8 43 rfl) rfl
theorem q1826 : (Jvm.Cond.code ({ cls := "BalloonStallModel", name := "pairing", desc := "(III)I" } : Jvm.MethodName) prog_26_method_88_code (8 : Nat) (Option.some Jvm.ClassFile.FieldType.int)) ∈ lw_all := lw_g (lw_at lw_m8 44 rfl) rfl
theorem q1827 : (Jvm.Cond.methodLink "BalloonStallModel" (384 : Nat) ({ cls := "java/lang/Integer", name := "numberOfTrailingZeros", desc := "(I)I" } : Jvm.MethodName)) ∈ lw_all := lw_g (lw_at lw_m8 45 rfl) rfl
theorem q1829 : (Jvm.Cond.instanceMethod ({ cls := "BalloonStallModel", name := "stock", desc := "(II)Z" } : Jvm.MethodName)) ∈ lw_all := lw_g (lw_at lw_m8 47 rfl) rfl
theorem q1830 : (Jvm.Cond.selects "BalloonStallModel" ({ cls := "BalloonStallModel", name := "stock", desc := "(II)Z" } : Jvm.MethodName) ({ cls := "BalloonStallModel", name := "stock", desc := "(II)Z" } : Jvm.MethodName)) ∈ lw_all := lw_g (lw_at lw_m8 48 rfl) rfl
theorem q1831 : (Jvm.Cond.code ({ cls := "BalloonStallModel", name := "stock", desc := "(II)Z" } : Jvm.MethodName) prog_26_method_90_code (3 : Nat) (Option.some Jvm.ClassFile.FieldType.boolean)) ∈ lw_all := lw_g (lw_at lw_m8 49 rfl) rfl
theorem q1833 : (Jvm.Cond.instanceMethod ({ cls := "BalloonStallModel", name := "pace", desc := "(II)Z" } : Jvm.MethodName)) ∈ lw_all := lw_g (lw_at lw_m8 51 rfl) rfl
theorem q1834 : (Jvm.Cond.selects "BalloonStallModel" ({ cls := "BalloonStallModel", name := "pace", desc := "(II)Z" } : Jvm.MethodName) ({ cls := "BalloonStallModel", name := "pace", desc := "(II)Z" } : Jvm.MethodName)) ∈ lw_all := lw_g (lw_at lw_m8 52 rfl) rfl
theorem q1835 : (Jvm.Cond.code ({ cls := "BalloonStallModel", name := "pace", desc := "(II)Z" } : Jvm.MethodName) prog_26_method_91_code (3 : Nat) (Option.some Jvm.ClassFile.FieldType.boolean)) ∈ lw_all := lw_g (lw_at lw_m8 53 rfl) rfl
theorem q1837 : (Jvm.Cond.instanceMethod ({ cls := "BalloonStallModel", name := "comes", desc := "(III)I" } : Jvm.MethodName)) ∈ lw_all := lw_g (lw_at lw_m8 55 rfl) rfl
theorem q1838 : (Jvm.Cond.selects "BalloonStallModel" ({ cls := "BalloonStallModel", name := "comes", desc := "(III)I" } : Jvm.MethodName) ({ cls := "BalloonStallModel", name := "comes", desc := "(III)I" } : Jvm.MethodName)) ∈ lw_all := lw_g (lw_at lw_m8 56 rfl) rfl
theorem q1839 : (Jvm.Cond.code ({ cls := "BalloonStallModel", name := "comes", desc := "(III)I" } : Jvm.MethodName) prog_26_method_92_code (4 : Nat) (Option.some Jvm.ClassFile.FieldType.int)) ∈ lw_all := lw_g (lw_at lw_m8 57 rfl) rfl
theorem q1841 : (Jvm.Cond.instanceMethod ({ cls := "BalloonStallModel", name := "close", desc := "()I" } : Jvm.MethodName)) ∈ lw_all := lw_g (lw_at lw_m8 59 rfl) rfl
theorem q1842 : (Jvm.Cond.selects "BalloonStallModel" ({ cls := "BalloonStallModel", name := "close", desc := "()I" } : Jvm.MethodName) ({ cls := "BalloonStallModel", name := "close", desc := "()I" } : Jvm.MethodName)) ∈ lw_all := lw_g (lw_at lw_m8 60 rfl) rfl
theorem q1843 : (Jvm.Cond.code ({ cls := "BalloonStallModel", name := "close", desc := "()I" } : Jvm.MethodName) prog_26_method_93_code (2 : Nat) (Option.some Jvm.ClassFile.FieldType.int)) ∈ lw_all := lw_g (lw_at lw_m8 61 rfl) rfl
theorem q1845 : (Jvm.Cond.instanceMethod ({ cls := "BalloonStallModel", name := "run", desc := "(J)I" } : Jvm.MethodName)) ∈ lw_all := lw_g (lw_at lw_m8 63 rfl) rfl
theorem q1846 : (Jvm.Cond.selects "BalloonStallModel" ({ cls := "BalloonStallModel", name := "run", desc := "(J)I" } : Jvm.MethodName) ({ cls := "BalloonStallModel", name := "run", desc := "(J)I" } : Jvm.MethodName)) ∈ lw_all := lw_g (lw_at lw_m8 64 rfl) rfl
theorem q1847 : (Jvm.Cond.code ({ cls := "BalloonStallModel", name := "run", desc := "(J)I" } : Jvm.MethodName) prog_26_method_96_code (15 : Nat) (Option.some Jvm.ClassFile.FieldType.int)) ∈ lw_all := lw_g (lw_at lw_m8 65 rfl) rfl
theorem q1848 : (Jvm.Cond.methodLink "BalloonStallModel" (399 : Nat) ({ cls := "BalloonStallModel", name := "isThere", desc := "(I)Z" } : Jvm.MethodName)) ∈ lw_all := lw_g (lw_at lw_m8 66 rfl) rfl
theorem q1849 : (Jvm.Cond.privateMethod ({ cls := "BalloonStallModel", name := "isThere", desc := "(I)Z" } : Jvm.MethodName)) ∈ lw_tbl := lw_at lw_m8 67 rfl
theorem q1850 : (Jvm.Cond.instanceMethod ({ cls := "BalloonStallModel", name := "isThere", desc := "(I)Z" } : Jvm.MethodName)) ∈ lw_all := lw_g (lw_at lw_m8 68 rfl) rfl
theorem q1851 : (Jvm.Cond.code ({ cls := "BalloonStallModel", name := "isThere", desc := "(I)Z" } : Jvm.MethodName) prog_26_method_94_code (5 : Nat) (Option.some Jvm.ClassFile.FieldType.boolean)) ∈ lw_all := lw_g (lw_at lw_m8 69 rfl) rfl
theorem q1852 : (Jvm.Cond.methodLink "BalloonStallModel" (402 : Nat) ({ cls := "BalloonStallModel", name := "inBalloon", desc := "(II)I" } : Jvm.MethodName)) ∈ lw_all := lw_g (lw_at lw_m8 70 rfl) rfl
theorem q1853 : (Jvm.Cond.privateMethod ({ cls := "BalloonStallModel", name := "inBalloon", desc := "(II)I" } : Jvm.MethodName)) ∈ lw_tbl := lw_at lw_m8 71 rfl
theorem q1854 : (Jvm.Cond.instanceMethod ({ cls := "BalloonStallModel", name := "inBalloon", desc := "(II)I" } : Jvm.MethodName)) ∈ lw_all := lw_g (lw_at lw_m8 72 rfl) rfl
theorem q1855 : (Jvm.Cond.code ({ cls := "BalloonStallModel", name := "inBalloon", desc := "(II)I" } : Jvm.MethodName) prog_26_method_95_code (5 : Nat) (Option.some Jvm.ClassFile.FieldType.int)) ∈ lw_all := lw_g (lw_at lw_m8 73 rfl) rfl
theorem q1856 : (Jvm.Cond.constantLong "BalloonStallModel" (405 : Nat) (6364136223846793005 : Int64)) ∈ lw_all := lw_g (lw_at lw_m8 74 rfl) rfl
theorem q1857 : (Jvm.Cond.constantLong "BalloonStallModel" (407 : Nat) (1442695040888963407 : Int64)) ∈ lw_all := lw_g (lw_at lw_m8 75 rfl) rfl
theorem q1858 : (Jvm.Cond.constantLong "BalloonStallModel" (409 : Nat) (100 : Int64)) ∈ lw_all := lw_g (lw_at lw_m8 76 rfl) rfl
theorem q1860 : (Jvm.Cond.instanceMethod ({ cls := "BalloonStallModel", name := "guest", desc := "(II)I" } : Jvm.MethodName)) ∈ lw_all := lw_g (lw_at lw_m8 78 rfl) rfl
theorem q1861 : (Jvm.Cond.selects "BalloonStallModel" ({ cls := "BalloonStallModel", name := "guest", desc := "(II)I" } : Jvm.MethodName) ({ cls := "BalloonStallModel", name := "guest", desc := "(II)I" } : Jvm.MethodName)) ∈ lw_all := lw_g (lw_at lw_m8 79 rfl) rfl
theorem q1862 : (Jvm.Cond.code ({ cls := "BalloonStallModel", name := "guest", desc := "(II)I" } : Jvm.MethodName) prog_26_method_97_code (3 : Nat) (Option.some Jvm.ClassFile.FieldType.int)) ∈ lw_all := lw_g (lw_at lw_m8 80 rfl) rfl
theorem q1864 : (Jvm.Cond.instanceMethod ({ cls := "BalloonStallModel", name := "aged", desc := "(IIII)I" } : Jvm.MethodName)) ∈ lw_all := lw_g (lw_at lw_m8 82 rfl) rfl
theorem q1865 : (Jvm.Cond.selects "BalloonStallModel" ({ cls := "BalloonStallModel", name := "aged", desc := "(IIII)I" } : Jvm.MethodName) ({ cls := "BalloonStallModel", name := "aged", desc := "(IIII)I" } : Jvm.MethodName)) ∈ lw_all := lw_g (lw_at lw_m8 83 rfl) rfl
theorem q1866 : (Jvm.Cond.code ({ cls := "BalloonStallModel", name := "aged", desc := "(IIII)I" } : Jvm.MethodName) prog_26_method_100_code (6 : Nat) (Option.some Jvm.ClassFile.FieldType.int)) ∈ lw_all := lw_g (lw_at lw_m8 84 rfl) rfl
theorem q1867 : (Jvm.Cond.methodLink "BalloonStallModel" (414 : Nat) ({ cls := "BalloonStallModel", name := "startAging", desc := "(I)V" } : Jvm.MethodName)) ∈ lw_all := lw_g (lw_at lw_m8 85 rfl) rfl
theorem q1868 : (Jvm.Cond.privateMethod ({ cls := "BalloonStallModel", name := "startAging", desc := "(I)V" } : Jvm.MethodName)) ∈ lw_tbl := lw_at lw_m8 86 rfl
theorem q1869 : (Jvm.Cond.instanceMethod ({ cls := "BalloonStallModel", name := "startAging", desc := "(I)V" } : Jvm.MethodName)) ∈ lw_all := lw_g (lw_at lw_m8 87 rfl) rfl
theorem q1870 : (Jvm.Cond.code ({ cls := "BalloonStallModel", name := "startAging", desc := "(I)V" } : Jvm.MethodName) prog_26_method_98_code (3 : Nat) (Option.none : Option Jvm.ClassFile.FieldType)) ∈ lw_all := lw_g (lw_at lw_m8 88 rfl) rfl
theorem q1871 : (Jvm.Cond.methodLink "BalloonStallModel" (417 : Nat) ({ cls := "BalloonStallModel", name := "age", desc := "(III)V" } : Jvm.MethodName)) ∈ lw_all := lw_g (lw_at lw_m8 89 rfl) rfl
theorem q1872 : (Jvm.Cond.privateMethod ({ cls := "BalloonStallModel", name := "age", desc := "(III)V" } : Jvm.MethodName)) ∈ lw_tbl := lw_at lw_m8 90 rfl
theorem q1873 : (Jvm.Cond.instanceMethod ({ cls := "BalloonStallModel", name := "age", desc := "(III)V" } : Jvm.MethodName)) ∈ lw_all := lw_g (lw_at lw_m8 91 rfl) rfl
theorem q1874 : (Jvm.Cond.code ({ cls := "BalloonStallModel", name := "age", desc := "(III)V" } : Jvm.MethodName) prog_26_method_99_code (8 : Nat) (Option.none : Option Jvm.ClassFile.FieldType)) ∈ lw_all := lw_g (lw_at lw_m8 92 rfl) rfl
theorem q1876 : (Jvm.Cond.instanceMethod ({ cls := "BalloonStallModel", name := "falls", desc := "(III)I" } : Jvm.MethodName)) ∈ lw_all := lw_g (lw_at lw_m8 94 rfl) rfl
theorem q1877 : (Jvm.Cond.selects "BalloonStallModel" ({ cls := "BalloonStallModel", name := "falls", desc := "(III)I" } : Jvm.MethodName) ({ cls := "BalloonStallModel", name := "falls", desc := "(III)I" } : Jvm.MethodName)) ∈ lw_all := lw_g (lw_at lw_m8 95 rfl) rfl
theorem q1878 : (Jvm.Cond.code ({ cls := "BalloonStallModel", name := "falls", desc := "(III)I" } : Jvm.MethodName) prog_26_method_101_code (5 : Nat) (Option.some Jvm.ClassFile.FieldType.int)) ∈ lw_all := lw_g (lw_at lw_m8 96 rfl) rfl
theorem q1880 : (Jvm.Cond.instanceMethod ({ cls := "BalloonStallModel", name := "count", desc := "(I)I" } : Jvm.MethodName)) ∈ lw_all := lw_g (lw_at lw_m8 98 rfl) rfl
theorem q1881 : (Jvm.Cond.selects "BalloonStallModel" ({ cls := "BalloonStallModel", name := "count", desc := "(I)I" } : Jvm.MethodName) ({ cls := "BalloonStallModel", name := "count", desc := "(I)I" } : Jvm.MethodName)) ∈ lw_all := lw_g (lw_at lw_m8 99 rfl) rfl
theorem q1882 : (Jvm.Cond.code ({ cls := "BalloonStallModel", name := "count", desc := "(I)I" } : Jvm.MethodName) prog_26_method_102_code (2 : Nat) (Option.some Jvm.ClassFile.FieldType.int)) ∈ lw_all := lw_g (lw_at lw_m8 100 rfl) rfl
theorem q1893 : (Jvm.Cond.castable "BalloonStallModel" "java/lang/Object") ∈ lw_tbl := lw_at lw_m8 111 rfl
theorem in_X3 : ∀ w ∈ wsX30, w ∈ lw_all := lw_in wsX30 [1364, 1366, 1368, 1370, 1372, 1374, 1376, 1378, 1380, 1382, 1384, 1386, 1388, 1390, 1392, 1394, 1396, 1398, 1400, 1402, 1404, 1406, 1408, 1410, 1412, 1414, 1416, 1418, 1420, 1422, 1424, 1426, 1428, 1430, 1432, 1434, 1436, 1438, 1440, 1442, 1444, 1446, 1448, 1450, 1452, 1454, 1456, 1458, 1460, 1462, 1464, 1466] (by decide +kernel) (by decide +kernel)
