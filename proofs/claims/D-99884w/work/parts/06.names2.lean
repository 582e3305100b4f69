/-! FigureKneeModel -/
set_option maxRecDepth 100000
def RX2 : String := "FigureKneeModel"
def TX2 : u_T := fun k => match k with
  | 0 => ("FigureKneeModel", "thrown", "I", false)
  | 1 => ("FigureKneeModel", "tape", "[I", true)
  | 2 => ("FigureKneeModel", "taped", "I", false)
  | 3 => ("FigureKneeModel", "size", "I", false)
  | 4 => ("FigureKneeModel", "at", "I", false)
  | 5 => ("FigureKneeModel", "end", "I", false)
  | 6 => ("FigureKneeModel", "token", "I", false)
  | 7 => ("FigureKneeModel", "whole", "I", false)
  | 8 => ("FigureKneeModel", "nameSize", "I", false)
  | 9 => ("FigureKneeModel", "fault", "I", false)
  | 10 => ("FigureKneeModel", "place", "I", false)
  | 11 => ("FigureKneeModel", "trouble", "I", false)
  | 12 => ("FigureKneeModel", "letters", "[I", true)
  | 13 => ("FigureKneeModel", "failed", "Z", false)
  | 14 => ("FigureKneeModel", "hasPier", "Z", false)
  | 15 => ("FigureKneeModel", "\x72", "[I", true)
  | 16 => ("FigureKneeModel", "fresh", "[I", true)
  | 17 => ("FigureKneeModel", "told", "[I", true)
  | 18 => ("FigureKneeModel", "read", "[I", true)
  | 19 => ("FigureKneeModel", "st", "[I", true)
  | 20 => ("FigureKneeModel", "undone", "[I", true)
  | 21 => ("FigureKneeModel", "kept", "[I", true)
  | 22 => ("FigureKneeModel", "undos", "I", false)
  | 23 => ("FigureKneeModel", "images", "I", false)
  | 24 => ("FigureKneeModel", "said", "[I", true)
  | 25 => ("FigureKneeModel", "metAt", "[I", true)
  | 26 => ("FigureKneeModel", "stateFrom", "I", false)
  | 27 => ("FigureKneeModel", "stateRound", "I", false)
  | 28 => ("FigureKneeModel", "from", "I", false)
  | 29 => ("FigureKneeModel", "roundLong", "I", false)
  | 30 => ("FigureKneeModel", "often", "[I", true)
  | 31 => ("FigureKneeModel", "setMany", "I", false)
  | 32 => ("FigureKneeModel", "someOf", "I", false)
  | 33 => ("FigureKneeModel", "allOf", "I", false)
  | 34 => ("FigureKneeModel", "way", "[I", true)
  | 35 => ("FigureKneeModel", "ring", "[I", true)
  | 36 => ("FigureKneeModel", "ringMany", "I", false)
  | 37 => ("FigureKneeModel", "firstRest", "I", false)
  | 38 => ("FigureKneeModel", "looked", "[I", true)
  | 39 => ("FigureKneeModel", "allWeight", "J", false)
  | 40 => ("FigureKneeModel", "moreWeight", "J", false)
  | _ => ("FigureKneeModel", "saidSum", "J", false)
def tyX2 : Nat → FieldType := fun k => match k with
  | 0 => .int
  | 1 => .array .int
  | 2 => .int
  | 3 => .int
  | 4 => .int
  | 5 => .int
  | 6 => .int
  | 7 => .int
  | 8 => .int
  | 9 => .int
  | 10 => .int
  | 11 => .int
  | 12 => .array .int
  | 13 => .boolean
  | 14 => .boolean
  | 15 => .array .int
  | 16 => .array .int
  | 17 => .array .int
  | 18 => .array .int
  | 19 => .array .int
  | 20 => .array .int
  | 21 => .array .int
  | 22 => .int
  | 23 => .int
  | 24 => .array .int
  | 25 => .array .int
  | 26 => .int
  | 27 => .int
  | 28 => .int
  | 29 => .int
  | 30 => .array .int
  | 31 => .int
  | 32 => .int
  | 33 => .int
  | 34 => .array .int
  | 35 => .array .int
  | 36 => .int
  | 37 => .int
  | 38 => .array .int
  | 39 => .long
  | 40 => .long
  | _ => .long
abbrev wsX20 : List Cond := u_ws RX2 TX2 42
set_option maxRecDepth 100000 in
theorem nmX2 : ∀ a, a < 42 → ∀ b, b < 42 → a ≠ b → (TX2 a).2.1 ≠ (TX2 b).2.1 := by decide +kernel
set_option maxRecDepth 100000 in
theorem tyX2_ok : ∀ k, k < 42 → parseFieldDescriptor (TX2 k).2.2.1 = some (tyX2 k) := by decide +kernel
abbrev cX2_init : ByteArray := prog_16_method_1_code
def yX2_init : MethodName := ⟨RX2, "<init>", "()V"⟩
def dkwX2_init_5 : List UInt8 := [188, 10, 181, 0, 53, 42, 8, 188, 10, 181, 0, 56, 177]
abbrev dktX2_init_5 : List UInt8 := dkwX2_init_5 ++ []
def dkwX2_init_4 : List UInt8 := [17, 3, 132, 188, 10, 181, 0, 44, 42, 7, 188, 10, 181, 0, 47, 42, 8, 188, 10, 181, 0, 50, 42, 8]
abbrev dktX2_init_4 : List UInt8 := dkwX2_init_4 ++ dktX2_init_5
def dkwX2_init_3 : List UInt8 := [188, 10, 181, 0, 35, 42, 16, 108, 188, 10, 181, 0, 38, 42, 17, 10, 40, 188, 10, 181, 0, 41, 42]
abbrev dktX2_init_3 : List UInt8 := dkwX2_init_3 ++ dktX2_init_4
def dkwX2_init_2 : List UInt8 := [181, 0, 26, 42, 16, 36, 188, 10, 181, 0, 29, 42, 16, 36, 188, 10, 181, 0, 32, 42, 17, 2, 64]
abbrev dktX2_init_2 : List UInt8 := dkwX2_init_2 ++ dktX2_init_3
def dkwX2_init_1 : List UInt8 := [181, 0, 17, 42, 16, 95, 188, 10, 181, 0, 20, 42, 16, 95, 188, 10, 181, 0, 23, 42, 16, 36, 188, 10]
abbrev dktX2_init_1 : List UInt8 := dkwX2_init_1 ++ dktX2_init_2
def dkwX2_init_0 : List UInt8 := [42, 183, 0, 1, 42, 17, 3, 132, 188, 10, 181, 0, 7, 42, 2, 181, 0, 13, 42, 16, 8, 188, 10]
abbrev dktX2_init_0 : List UInt8 := dkwX2_init_0 ++ dktX2_init_1
theorem dksX2_init_0 : cX2_init.data.toList.drop 0 = dktX2_init_0 := by decide +kernel
theorem dksX2_init_1 : cX2_init.data.toList.drop 23 = dktX2_init_1 := dk_seg dksX2_init_0 23 rfl rfl
theorem dksX2_init_2 : cX2_init.data.toList.drop 47 = dktX2_init_2 := dk_seg dksX2_init_1 24 rfl rfl
theorem dksX2_init_3 : cX2_init.data.toList.drop 70 = dktX2_init_3 := dk_seg dksX2_init_2 23 rfl rfl
theorem dksX2_init_4 : cX2_init.data.toList.drop 93 = dktX2_init_4 := dk_seg dksX2_init_3 23 rfl rfl
theorem dksX2_init_5 : cX2_init.data.toList.drop 117 = dktX2_init_5 := dk_seg dksX2_init_4 24 rfl rfl
theorem dX2_init_0 : decode cX2_init 0 = .ok (.aload_n 0, 1) := dk_42 (dk_at dksX2_init_0 0 rfl rfl)
theorem dX2_init_1 : decode cX2_init 1 = .ok (.invokespecial 1, 3) := dk_183 0 1 (dk_at dksX2_init_0 1 rfl rfl)
theorem dX2_init_4 : decode cX2_init 4 = .ok (.aload_n 0, 1) := dk_42 (dk_at dksX2_init_0 4 rfl rfl)
theorem dX2_init_5 : decode cX2_init 5 = .ok (.sipush 900, 3) := dk_17 3 132 (dk_at dksX2_init_0 5 rfl rfl)
theorem dX2_init_8 : decode cX2_init 8 = .ok (.newarray .int, 2) := dk_188_10 (dk_at dksX2_init_0 8 rfl rfl)
theorem dX2_init_10 : decode cX2_init 10 = .ok (.putfield 7, 3) := dk_181 0 7 (dk_at dksX2_init_0 10 rfl rfl)
theorem dX2_init_13 : decode cX2_init 13 = .ok (.aload_n 0, 1) := dk_42 (dk_at dksX2_init_0 13 rfl rfl)
theorem dX2_init_14 : decode cX2_init 14 = .ok (.iconst (-1), 1) := dk_2 (dk_at dksX2_init_0 14 rfl rfl)
theorem dX2_init_15 : decode cX2_init 15 = .ok (.putfield 13, 3) := dk_181 0 13 (dk_at dksX2_init_0 15 rfl rfl)
theorem dX2_init_18 : decode cX2_init 18 = .ok (.aload_n 0, 1) := dk_42 (dk_at dksX2_init_0 18 rfl rfl)
theorem dX2_init_19 : decode cX2_init 19 = .ok (.bipush 8, 2) := dk_16 8 (dk_at dksX2_init_0 19 rfl rfl)
theorem dX2_init_21 : decode cX2_init 21 = .ok (.newarray .int, 2) := dk_188_10 (dk_at dksX2_init_0 21 rfl rfl)
theorem dX2_init_23 : decode cX2_init 23 = .ok (.putfield 17, 3) := dk_181 0 17 (dk_at dksX2_init_1 0 rfl rfl)
theorem dX2_init_26 : decode cX2_init 26 = .ok (.aload_n 0, 1) := dk_42 (dk_at dksX2_init_1 3 rfl rfl)
theorem dX2_init_27 : decode cX2_init 27 = .ok (.bipush 95, 2) := dk_16 95 (dk_at dksX2_init_1 4 rfl rfl)
theorem dX2_init_29 : decode cX2_init 29 = .ok (.newarray .int, 2) := dk_188_10 (dk_at dksX2_init_1 6 rfl rfl)
theorem dX2_init_31 : decode cX2_init 31 = .ok (.putfield 20, 3) := dk_181 0 20 (dk_at dksX2_init_1 8 rfl rfl)
theorem dX2_init_34 : decode cX2_init 34 = .ok (.aload_n 0, 1) := dk_42 (dk_at dksX2_init_1 11 rfl rfl)
theorem dX2_init_35 : decode cX2_init 35 = .ok (.bipush 95, 2) := dk_16 95 (dk_at dksX2_init_1 12 rfl rfl)
theorem dX2_init_37 : decode cX2_init 37 = .ok (.newarray .int, 2) := dk_188_10 (dk_at dksX2_init_1 14 rfl rfl)
theorem dX2_init_39 : decode cX2_init 39 = .ok (.putfield 23, 3) := dk_181 0 23 (dk_at dksX2_init_1 16 rfl rfl)
theorem dX2_init_42 : decode cX2_init 42 = .ok (.aload_n 0, 1) := dk_42 (dk_at dksX2_init_1 19 rfl rfl)
theorem dX2_init_43 : decode cX2_init 43 = .ok (.bipush 36, 2) := dk_16 36 (dk_at dksX2_init_1 20 rfl rfl)
theorem dX2_init_45 : decode cX2_init 45 = .ok (.newarray .int, 2) := dk_188_10 (dk_at dksX2_init_1 22 rfl rfl)
theorem dX2_init_47 : decode cX2_init 47 = .ok (.putfield 26, 3) := dk_181 0 26 (dk_at dksX2_init_2 0 rfl rfl)
theorem dX2_init_50 : decode cX2_init 50 = .ok (.aload_n 0, 1) := dk_42 (dk_at dksX2_init_2 3 rfl rfl)
theorem dX2_init_51 : decode cX2_init 51 = .ok (.bipush 36, 2) := dk_16 36 (dk_at dksX2_init_2 4 rfl rfl)
theorem dX2_init_53 : decode cX2_init 53 = .ok (.newarray .int, 2) := dk_188_10 (dk_at dksX2_init_2 6 rfl rfl)
theorem dX2_init_55 : decode cX2_init 55 = .ok (.putfield 29, 3) := dk_181 0 29 (dk_at dksX2_init_2 8 rfl rfl)
theorem dX2_init_58 : decode cX2_init 58 = .ok (.aload_n 0, 1) := dk_42 (dk_at dksX2_init_2 11 rfl rfl)
theorem dX2_init_59 : decode cX2_init 59 = .ok (.bipush 36, 2) := dk_16 36 (dk_at dksX2_init_2 12 rfl rfl)
theorem dX2_init_61 : decode cX2_init 61 = .ok (.newarray .int, 2) := dk_188_10 (dk_at dksX2_init_2 14 rfl rfl)
theorem dX2_init_63 : decode cX2_init 63 = .ok (.putfield 32, 3) := dk_181 0 32 (dk_at dksX2_init_2 16 rfl rfl)
theorem dX2_init_66 : decode cX2_init 66 = .ok (.aload_n 0, 1) := dk_42 (dk_at dksX2_init_2 19 rfl rfl)
theorem dX2_init_67 : decode cX2_init 67 = .ok (.sipush 576, 3) := dk_17 2 64 (dk_at dksX2_init_2 20 rfl rfl)
theorem dX2_init_70 : decode cX2_init 70 = .ok (.newarray .int, 2) := dk_188_10 (dk_at dksX2_init_3 0 rfl rfl)
theorem dX2_init_72 : decode cX2_init 72 = .ok (.putfield 35, 3) := dk_181 0 35 (dk_at dksX2_init_3 2 rfl rfl)
theorem dX2_init_75 : decode cX2_init 75 = .ok (.aload_n 0, 1) := dk_42 (dk_at dksX2_init_3 5 rfl rfl)
theorem dX2_init_76 : decode cX2_init 76 = .ok (.bipush 108, 2) := dk_16 108 (dk_at dksX2_init_3 6 rfl rfl)
theorem dX2_init_78 : decode cX2_init 78 = .ok (.newarray .int, 2) := dk_188_10 (dk_at dksX2_init_3 8 rfl rfl)
theorem dX2_init_80 : decode cX2_init 80 = .ok (.putfield 38, 3) := dk_181 0 38 (dk_at dksX2_init_3 10 rfl rfl)
theorem dX2_init_83 : decode cX2_init 83 = .ok (.aload_n 0, 1) := dk_42 (dk_at dksX2_init_3 13 rfl rfl)
theorem dX2_init_84 : decode cX2_init 84 = .ok (.sipush 2600, 3) := dk_17 10 40 (dk_at dksX2_init_3 14 rfl rfl)
theorem dX2_init_87 : decode cX2_init 87 = .ok (.newarray .int, 2) := dk_188_10 (dk_at dksX2_init_3 17 rfl rfl)
theorem dX2_init_89 : decode cX2_init 89 = .ok (.putfield 41, 3) := dk_181 0 41 (dk_at dksX2_init_3 19 rfl rfl)
theorem dX2_init_92 : decode cX2_init 92 = .ok (.aload_n 0, 1) := dk_42 (dk_at dksX2_init_3 22 rfl rfl)
theorem dX2_init_93 : decode cX2_init 93 = .ok (.sipush 900, 3) := dk_17 3 132 (dk_at dksX2_init_4 0 rfl rfl)
theorem dX2_init_96 : decode cX2_init 96 = .ok (.newarray .int, 2) := dk_188_10 (dk_at dksX2_init_4 3 rfl rfl)
theorem dX2_init_98 : decode cX2_init 98 = .ok (.putfield 44, 3) := dk_181 0 44 (dk_at dksX2_init_4 5 rfl rfl)
theorem dX2_init_101 : decode cX2_init 101 = .ok (.aload_n 0, 1) := dk_42 (dk_at dksX2_init_4 8 rfl rfl)
theorem dX2_init_102 : decode cX2_init 102 = .ok (.iconst 4, 1) := dk_7 (dk_at dksX2_init_4 9 rfl rfl)
theorem dX2_init_103 : decode cX2_init 103 = .ok (.newarray .int, 2) := dk_188_10 (dk_at dksX2_init_4 10 rfl rfl)
theorem dX2_init_105 : decode cX2_init 105 = .ok (.putfield 47, 3) := dk_181 0 47 (dk_at dksX2_init_4 12 rfl rfl)
theorem dX2_init_108 : decode cX2_init 108 = .ok (.aload_n 0, 1) := dk_42 (dk_at dksX2_init_4 15 rfl rfl)
theorem dX2_init_109 : decode cX2_init 109 = .ok (.iconst 5, 1) := dk_8 (dk_at dksX2_init_4 16 rfl rfl)
theorem dX2_init_110 : decode cX2_init 110 = .ok (.newarray .int, 2) := dk_188_10 (dk_at dksX2_init_4 17 rfl rfl)
theorem dX2_init_112 : decode cX2_init 112 = .ok (.putfield 50, 3) := dk_181 0 50 (dk_at dksX2_init_4 19 rfl rfl)
theorem dX2_init_115 : decode cX2_init 115 = .ok (.aload_n 0, 1) := dk_42 (dk_at dksX2_init_4 22 rfl rfl)
theorem dX2_init_116 : decode cX2_init 116 = .ok (.iconst 5, 1) := dk_8 (dk_at dksX2_init_4 23 rfl rfl)
theorem dX2_init_117 : decode cX2_init 117 = .ok (.newarray .int, 2) := dk_188_10 (dk_at dksX2_init_5 0 rfl rfl)
theorem dX2_init_119 : decode cX2_init 119 = .ok (.putfield 53, 3) := dk_181 0 53 (dk_at dksX2_init_5 2 rfl rfl)
theorem dX2_init_122 : decode cX2_init 122 = .ok (.aload_n 0, 1) := dk_42 (dk_at dksX2_init_5 5 rfl rfl)
theorem dX2_init_123 : decode cX2_init 123 = .ok (.iconst 5, 1) := dk_8 (dk_at dksX2_init_5 6 rfl rfl)
theorem dX2_init_124 : decode cX2_init 124 = .ok (.newarray .int, 2) := dk_188_10 (dk_at dksX2_init_5 7 rfl rfl)
theorem dX2_init_126 : decode cX2_init 126 = .ok (.putfield 56, 3) := dk_181 0 56 (dk_at dksX2_init_5 9 rfl rfl)
theorem dX2_init_129 : decode cX2_init 129 = .ok (.return_, 1) := dk_177 (dk_at dksX2_init_5 12 rfl rfl)
abbrev cX2_thrown : ByteArray := prog_16_method_2_code
def yX2_thrown : MethodName := ⟨RX2, "thrown", "()I"⟩
theorem dX2_thrown_0 : decode cX2_thrown 0 = .ok (.aload_n 0, 1) := by decide +kernel
theorem dX2_thrown_1 : decode cX2_thrown 1 = .ok (.getfield 59, 3) := by decide +kernel
theorem dX2_thrown_4 : decode cX2_thrown 4 = .ok (.ireturn, 1) := by decide +kernel
abbrev cX2_feed : ByteArray := prog_16_method_11_code
def yX2_feed : MethodName := ⟨RX2, "feed", "(IIIII)I"⟩
def dkwX2_feed_5 : List UInt8 := [167, 255, 162, 42, 180, 0, 65, 172]
abbrev dktX2_feed_5 : List UInt8 := dkwX2_feed_5 ++ []
def dkwX2_feed_4 : List UInt8 := [112, 104, 100, 122, 17, 0, 255, 126, 79, 42, 89, 180, 0, 65, 4, 96, 181, 0, 65, 132, 6, 1]
abbrev dktX2_feed_4 : List UInt8 := dkwX2_feed_4 ++ dktX2_feed_5
def dkwX2_feed_3 : List UInt8 := [167, 0, 5, 21, 5, 54, 7, 42, 180, 0, 7, 42, 180, 0, 65, 21, 7, 16, 24, 16, 8, 21, 6, 7]
abbrev dktX2_feed_3 : List UInt8 := dkwX2_feed_3 ++ dktX2_feed_4
def dkwX2_feed_2 : List UInt8 := [28, 167, 0, 28, 21, 6, 16, 12, 162, 0, 7, 29, 167, 0, 17, 21, 6, 16, 16, 162, 0, 8, 21, 4]
abbrev dktX2_feed_2 : List UInt8 := dkwX2_feed_2 ++ dktX2_feed_3
def dkwX2_feed_1 : List UInt8 := [21, 6, 16, 20, 162, 0, 93, 21, 6, 7, 162, 0, 7, 27, 167, 0, 39, 21, 6, 16, 8, 162, 0, 7]
abbrev dktX2_feed_1 : List UInt8 := dkwX2_feed_1 ++ dktX2_feed_2
def dkwX2_feed_0 : List UInt8 := [42, 3, 181, 0, 59, 42, 180, 0, 65, 16, 20, 96, 17, 3, 132, 164, 0, 5, 2, 172, 3, 54, 6]
abbrev dktX2_feed_0 : List UInt8 := dkwX2_feed_0 ++ dktX2_feed_1
theorem dksX2_feed_0 : cX2_feed.data.toList.drop 0 = dktX2_feed_0 := by decide +kernel
theorem dksX2_feed_1 : cX2_feed.data.toList.drop 23 = dktX2_feed_1 := dk_seg dksX2_feed_0 23 rfl rfl
theorem dksX2_feed_2 : cX2_feed.data.toList.drop 47 = dktX2_feed_2 := dk_seg dksX2_feed_1 24 rfl rfl
theorem dksX2_feed_3 : cX2_feed.data.toList.drop 71 = dktX2_feed_3 := dk_seg dksX2_feed_2 24 rfl rfl
theorem dksX2_feed_4 : cX2_feed.data.toList.drop 95 = dktX2_feed_4 := dk_seg dksX2_feed_3 24 rfl rfl
theorem dksX2_feed_5 : cX2_feed.data.toList.drop 117 = dktX2_feed_5 := dk_seg dksX2_feed_4 22 rfl rfl
theorem dX2_feed_0 : decode cX2_feed 0 = .ok (.aload_n 0, 1) := dk_42 (dk_at dksX2_feed_0 0 rfl rfl)
theorem dX2_feed_1 : decode cX2_feed 1 = .ok (.iconst 0, 1) := dk_3 (dk_at dksX2_feed_0 1 rfl rfl)
theorem dX2_feed_2 : decode cX2_feed 2 = .ok (.putfield 59, 3) := dk_181 0 59 (dk_at dksX2_feed_0 2 rfl rfl)
theorem dX2_feed_5 : decode cX2_feed 5 = .ok (.aload_n 0, 1) := dk_42 (dk_at dksX2_feed_0 5 rfl rfl)
theorem dX2_feed_6 : decode cX2_feed 6 = .ok (.getfield 65, 3) := dk_180 0 65 (dk_at dksX2_feed_0 6 rfl rfl)
theorem dX2_feed_9 : decode cX2_feed 9 = .ok (.bipush 20, 2) := dk_16 20 (dk_at dksX2_feed_0 9 rfl rfl)
theorem dX2_feed_11 : decode cX2_feed 11 = .ok (.iadd, 1) := dk_96 (dk_at dksX2_feed_0 11 rfl rfl)
theorem dX2_feed_12 : decode cX2_feed 12 = .ok (.sipush 900, 3) := dk_17 3 132 (dk_at dksX2_feed_0 12 rfl rfl)
theorem dX2_feed_15 : decode cX2_feed 15 = .ok (.if_icmp .le 5, 3) := dk_164 0 5 (dk_at dksX2_feed_0 15 rfl rfl)
theorem dX2_feed_18 : decode cX2_feed 18 = .ok (.iconst (-1), 1) := dk_2 (dk_at dksX2_feed_0 18 rfl rfl)
theorem dX2_feed_19 : decode cX2_feed 19 = .ok (.ireturn, 1) := dk_172 (dk_at dksX2_feed_0 19 rfl rfl)
theorem dX2_feed_20 : decode cX2_feed 20 = .ok (.iconst 0, 1) := dk_3 (dk_at dksX2_feed_0 20 rfl rfl)
theorem dX2_feed_21 : decode cX2_feed 21 = .ok (.istore 6, 2) := dk_54 6 (dk_at dksX2_feed_0 21 rfl rfl)
theorem dX2_feed_23 : decode cX2_feed 23 = .ok (.iload 6, 2) := dk_21 6 (dk_at dksX2_feed_1 0 rfl rfl)
theorem dX2_feed_25 : decode cX2_feed 25 = .ok (.bipush 20, 2) := dk_16 20 (dk_at dksX2_feed_1 2 rfl rfl)
theorem dX2_feed_27 : decode cX2_feed 27 = .ok (.if_icmp .ge 93, 3) := dk_162 0 93 (dk_at dksX2_feed_1 4 rfl rfl)
theorem dX2_feed_30 : decode cX2_feed 30 = .ok (.iload 6, 2) := dk_21 6 (dk_at dksX2_feed_1 7 rfl rfl)
theorem dX2_feed_32 : decode cX2_feed 32 = .ok (.iconst 4, 1) := dk_7 (dk_at dksX2_feed_1 9 rfl rfl)
theorem dX2_feed_33 : decode cX2_feed 33 = .ok (.if_icmp .ge 7, 3) := dk_162 0 7 (dk_at dksX2_feed_1 10 rfl rfl)
theorem dX2_feed_36 : decode cX2_feed 36 = .ok (.iload_n 1, 1) := dk_27 (dk_at dksX2_feed_1 13 rfl rfl)
theorem dX2_feed_37 : decode cX2_feed 37 = .ok (.goto 39, 3) := dk_167 0 39 (dk_at dksX2_feed_1 14 rfl rfl)
theorem dX2_feed_40 : decode cX2_feed 40 = .ok (.iload 6, 2) := dk_21 6 (dk_at dksX2_feed_1 17 rfl rfl)
theorem dX2_feed_42 : decode cX2_feed 42 = .ok (.bipush 8, 2) := dk_16 8 (dk_at dksX2_feed_1 19 rfl rfl)
theorem dX2_feed_44 : decode cX2_feed 44 = .ok (.if_icmp .ge 7, 3) := dk_162 0 7 (dk_at dksX2_feed_1 21 rfl rfl)
theorem dX2_feed_47 : decode cX2_feed 47 = .ok (.iload_n 2, 1) := dk_28 (dk_at dksX2_feed_2 0 rfl rfl)
theorem dX2_feed_48 : decode cX2_feed 48 = .ok (.goto 28, 3) := dk_167 0 28 (dk_at dksX2_feed_2 1 rfl rfl)
theorem dX2_feed_51 : decode cX2_feed 51 = .ok (.iload 6, 2) := dk_21 6 (dk_at dksX2_feed_2 4 rfl rfl)
theorem dX2_feed_53 : decode cX2_feed 53 = .ok (.bipush 12, 2) := dk_16 12 (dk_at dksX2_feed_2 6 rfl rfl)
theorem dX2_feed_55 : decode cX2_feed 55 = .ok (.if_icmp .ge 7, 3) := dk_162 0 7 (dk_at dksX2_feed_2 8 rfl rfl)
theorem dX2_feed_58 : decode cX2_feed 58 = .ok (.iload_n 3, 1) := dk_29 (dk_at dksX2_feed_2 11 rfl rfl)
theorem dX2_feed_59 : decode cX2_feed 59 = .ok (.goto 17, 3) := dk_167 0 17 (dk_at dksX2_feed_2 12 rfl rfl)
theorem dX2_feed_62 : decode cX2_feed 62 = .ok (.iload 6, 2) := dk_21 6 (dk_at dksX2_feed_2 15 rfl rfl)
theorem dX2_feed_64 : decode cX2_feed 64 = .ok (.bipush 16, 2) := dk_16 16 (dk_at dksX2_feed_2 17 rfl rfl)
theorem dX2_feed_66 : decode cX2_feed 66 = .ok (.if_icmp .ge 8, 3) := dk_162 0 8 (dk_at dksX2_feed_2 19 rfl rfl)
theorem dX2_feed_69 : decode cX2_feed 69 = .ok (.iload 4, 2) := dk_21 4 (dk_at dksX2_feed_2 22 rfl rfl)
theorem dX2_feed_71 : decode cX2_feed 71 = .ok (.goto 5, 3) := dk_167 0 5 (dk_at dksX2_feed_3 0 rfl rfl)
theorem dX2_feed_74 : decode cX2_feed 74 = .ok (.iload 5, 2) := dk_21 5 (dk_at dksX2_feed_3 3 rfl rfl)
theorem dX2_feed_76 : decode cX2_feed 76 = .ok (.istore 7, 2) := dk_54 7 (dk_at dksX2_feed_3 5 rfl rfl)
theorem dX2_feed_78 : decode cX2_feed 78 = .ok (.aload_n 0, 1) := dk_42 (dk_at dksX2_feed_3 7 rfl rfl)
theorem dX2_feed_79 : decode cX2_feed 79 = .ok (.getfield 7, 3) := dk_180 0 7 (dk_at dksX2_feed_3 8 rfl rfl)
theorem dX2_feed_82 : decode cX2_feed 82 = .ok (.aload_n 0, 1) := dk_42 (dk_at dksX2_feed_3 11 rfl rfl)
theorem dX2_feed_83 : decode cX2_feed 83 = .ok (.getfield 65, 3) := dk_180 0 65 (dk_at dksX2_feed_3 12 rfl rfl)
theorem dX2_feed_86 : decode cX2_feed 86 = .ok (.iload 7, 2) := dk_21 7 (dk_at dksX2_feed_3 15 rfl rfl)
theorem dX2_feed_88 : decode cX2_feed 88 = .ok (.bipush 24, 2) := dk_16 24 (dk_at dksX2_feed_3 17 rfl rfl)
theorem dX2_feed_90 : decode cX2_feed 90 = .ok (.bipush 8, 2) := dk_16 8 (dk_at dksX2_feed_3 19 rfl rfl)
theorem dX2_feed_92 : decode cX2_feed 92 = .ok (.iload 6, 2) := dk_21 6 (dk_at dksX2_feed_3 21 rfl rfl)
theorem dX2_feed_94 : decode cX2_feed 94 = .ok (.iconst 4, 1) := dk_7 (dk_at dksX2_feed_3 23 rfl rfl)
theorem dX2_feed_95 : decode cX2_feed 95 = .ok (.irem, 1) := dk_112 (dk_at dksX2_feed_4 0 rfl rfl)
theorem dX2_feed_96 : decode cX2_feed 96 = .ok (.imul, 1) := dk_104 (dk_at dksX2_feed_4 1 rfl rfl)
theorem dX2_feed_97 : decode cX2_feed 97 = .ok (.isub, 1) := dk_100 (dk_at dksX2_feed_4 2 rfl rfl)
theorem dX2_feed_98 : decode cX2_feed 98 = .ok (.ishr, 1) := dk_122 (dk_at dksX2_feed_4 3 rfl rfl)
theorem dX2_feed_99 : decode cX2_feed 99 = .ok (.sipush 255, 3) := dk_17 0 255 (dk_at dksX2_feed_4 4 rfl rfl)
theorem dX2_feed_102 : decode cX2_feed 102 = .ok (.iand, 1) := dk_126 (dk_at dksX2_feed_4 7 rfl rfl)
theorem dX2_feed_103 : decode cX2_feed 103 = .ok (.iastore, 1) := dk_79 (dk_at dksX2_feed_4 8 rfl rfl)
theorem dX2_feed_104 : decode cX2_feed 104 = .ok (.aload_n 0, 1) := dk_42 (dk_at dksX2_feed_4 9 rfl rfl)
theorem dX2_feed_105 : decode cX2_feed 105 = .ok (.dup, 1) := dk_89 (dk_at dksX2_feed_4 10 rfl rfl)
theorem dX2_feed_106 : decode cX2_feed 106 = .ok (.getfield 65, 3) := dk_180 0 65 (dk_at dksX2_feed_4 11 rfl rfl)
theorem dX2_feed_109 : decode cX2_feed 109 = .ok (.iconst 1, 1) := dk_4 (dk_at dksX2_feed_4 14 rfl rfl)
theorem dX2_feed_110 : decode cX2_feed 110 = .ok (.iadd, 1) := dk_96 (dk_at dksX2_feed_4 15 rfl rfl)
theorem dX2_feed_111 : decode cX2_feed 111 = .ok (.putfield 65, 3) := dk_181 0 65 (dk_at dksX2_feed_4 16 rfl rfl)
theorem dX2_feed_114 : decode cX2_feed 114 = .ok (.iinc 6 1, 3) := dk_132 6 1 (dk_at dksX2_feed_4 19 rfl rfl)
theorem dX2_feed_117 : decode cX2_feed 117 = .ok (.goto (-94), 3) := dk_167 255 162 (dk_at dksX2_feed_5 0 rfl rfl)
theorem dX2_feed_120 : decode cX2_feed 120 = .ok (.aload_n 0, 1) := dk_42 (dk_at dksX2_feed_5 3 rfl rfl)
theorem dX2_feed_121 : decode cX2_feed 121 = .ok (.getfield 65, 3) := dk_180 0 65 (dk_at dksX2_feed_5 4 rfl rfl)
theorem dX2_feed_124 : decode cX2_feed 124 = .ok (.ireturn, 1) := dk_172 (dk_at dksX2_feed_5 7 rfl rfl)
abbrev cX2_pier : ByteArray := prog_16_method_28_code
def yX2_pier : MethodName := ⟨RX2, "pier", "(I)I"⟩
def dkwX2_pier_11 : List UInt8 := [180, 0, 20, 5, 46, 172]
abbrev dktX2_pier_11 : List UInt8 := dkwX2_pier_11 ++ []
def dkwX2_pier_10 : List UInt8 := [3, 16, 36, 184, 0, 173, 42, 4, 181, 0, 177, 42, 3, 181, 0, 180, 42, 3, 181, 0, 183, 42]
abbrev dktX2_pier_10 : List UInt8 := dkwX2_pier_10 ++ dktX2_pier_11
def dkwX2_pier_9 : List UInt8 := [42, 180, 0, 29, 3, 42, 180, 0, 26, 3, 16, 36, 184, 0, 173, 42, 180, 0, 29, 3, 42, 180, 0, 32]
abbrev dktX2_pier_9 : List UInt8 := dkwX2_pier_9 ++ dktX2_pier_10
def dkwX2_pier_8 : List UInt8 := [153, 0, 9, 42, 7, 182, 0, 167, 172, 42, 180, 0, 23, 3, 42, 180, 0, 20, 3, 16, 95, 184, 0, 173]
abbrev dktX2_pier_8 : List UInt8 := dkwX2_pier_8 ++ dktX2_pier_9
def dkwX2_pier_7 : List UInt8 := [180, 0, 23, 5, 46, 154, 0, 13, 42, 16, 6, 42, 180, 0, 78, 182, 0, 124, 42, 180, 0, 97]
abbrev dktX2_pier_7 : List UInt8 := dkwX2_pier_7 ++ dktX2_pier_8
def dkwX2_pier_6 : List UInt8 := [180, 0, 78, 182, 0, 124, 42, 180, 0, 97, 154, 0, 32, 42, 180, 0, 23, 16, 7, 46, 153, 0, 12, 42]
abbrev dktX2_pier_6 : List UInt8 := dkwX2_pier_6 ++ dktX2_pier_7
def dkwX2_pier_5 : List UInt8 := [182, 0, 170, 167, 255, 232, 42, 180, 0, 97, 154, 0, 19, 42, 180, 0, 87, 153, 0, 12, 42, 4, 42]
abbrev dktX2_pier_5 : List UInt8 := dkwX2_pier_5 ++ dktX2_pier_6
def dkwX2_pier_4 : List UInt8 := [182, 0, 170, 42, 180, 0, 97, 154, 0, 23, 42, 180, 0, 87, 16, 59, 160, 0, 14, 42, 182, 0, 118, 42]
abbrev dktX2_pier_4 : List UInt8 := dkwX2_pier_4 ++ dktX2_pier_5
def dkwX2_pier_3 : List UInt8 := [28, 3, 79, 132, 2, 1, 167, 255, 240, 42, 27, 181, 0, 68, 42, 3, 181, 0, 71, 42, 182, 0, 118, 42]
abbrev dktX2_pier_3 : List UInt8 := dkwX2_pier_3 ++ dktX2_pier_4
def dkwX2_pier_2 : List UInt8 := [180, 0, 23, 28, 3, 79, 132, 2, 1, 167, 255, 240, 3, 61, 28, 16, 36, 162, 0, 16, 42, 180, 0, 29]
abbrev dktX2_pier_2 : List UInt8 := dkwX2_pier_2 ++ dktX2_pier_3
def dkwX2_pier_1 : List UInt8 := [181, 0, 65, 42, 3, 181, 0, 101, 42, 3, 181, 0, 97, 3, 61, 28, 16, 95, 162, 0, 16, 42]
abbrev dktX2_pier_1 : List UInt8 := dkwX2_pier_1 ++ dktX2_pier_2
def dkwX2_pier_0 : List UInt8 := [42, 182, 0, 164, 27, 3, 42, 180, 0, 65, 184, 0, 146, 154, 0, 9, 42, 5, 182, 0, 167, 172, 42, 3]
abbrev dktX2_pier_0 : List UInt8 := dkwX2_pier_0 ++ dktX2_pier_1
theorem dksX2_pier_0 : cX2_pier.data.toList.drop 0 = dktX2_pier_0 := by decide +kernel
theorem dksX2_pier_1 : cX2_pier.data.toList.drop 24 = dktX2_pier_1 := dk_seg dksX2_pier_0 24 rfl rfl
theorem dksX2_pier_2 : cX2_pier.data.toList.drop 46 = dktX2_pier_2 := dk_seg dksX2_pier_1 22 rfl rfl
theorem dksX2_pier_3 : cX2_pier.data.toList.drop 70 = dktX2_pier_3 := dk_seg dksX2_pier_2 24 rfl rfl
theorem dksX2_pier_4 : cX2_pier.data.toList.drop 94 = dktX2_pier_4 := dk_seg dksX2_pier_3 24 rfl rfl
theorem dksX2_pier_5 : cX2_pier.data.toList.drop 118 = dktX2_pier_5 := dk_seg dksX2_pier_4 24 rfl rfl
theorem dksX2_pier_6 : cX2_pier.data.toList.drop 141 = dktX2_pier_6 := dk_seg dksX2_pier_5 23 rfl rfl
theorem dksX2_pier_7 : cX2_pier.data.toList.drop 165 = dktX2_pier_7 := dk_seg dksX2_pier_6 24 rfl rfl
theorem dksX2_pier_8 : cX2_pier.data.toList.drop 187 = dktX2_pier_8 := dk_seg dksX2_pier_7 22 rfl rfl
theorem dksX2_pier_9 : cX2_pier.data.toList.drop 211 = dktX2_pier_9 := dk_seg dksX2_pier_8 24 rfl rfl
theorem dksX2_pier_10 : cX2_pier.data.toList.drop 235 = dktX2_pier_10 := dk_seg dksX2_pier_9 24 rfl rfl
theorem dksX2_pier_11 : cX2_pier.data.toList.drop 257 = dktX2_pier_11 := dk_seg dksX2_pier_10 22 rfl rfl
theorem dX2_pier_0 : decode cX2_pier 0 = .ok (.aload_n 0, 1) := dk_42 (dk_at dksX2_pier_0 0 rfl rfl)
theorem dX2_pier_1 : decode cX2_pier 1 = .ok (.invokevirtual 164, 3) := dk_182 0 164 (dk_at dksX2_pier_0 1 rfl rfl)
theorem dX2_pier_4 : decode cX2_pier 4 = .ok (.iload_n 1, 1) := dk_27 (dk_at dksX2_pier_0 4 rfl rfl)
theorem dX2_pier_5 : decode cX2_pier 5 = .ok (.iconst 0, 1) := dk_3 (dk_at dksX2_pier_0 5 rfl rfl)
theorem dX2_pier_6 : decode cX2_pier 6 = .ok (.aload_n 0, 1) := dk_42 (dk_at dksX2_pier_0 6 rfl rfl)
theorem dX2_pier_7 : decode cX2_pier 7 = .ok (.getfield 65, 3) := dk_180 0 65 (dk_at dksX2_pier_0 7 rfl rfl)
theorem dX2_pier_10 : decode cX2_pier 10 = .ok (.invokestatic 146, 3) := dk_184 0 146 (dk_at dksX2_pier_0 10 rfl rfl)
theorem dX2_pier_13 : decode cX2_pier 13 = .ok (.ifCond .ne 9, 3) := dk_154 0 9 (dk_at dksX2_pier_0 13 rfl rfl)
theorem dX2_pier_16 : decode cX2_pier 16 = .ok (.aload_n 0, 1) := dk_42 (dk_at dksX2_pier_0 16 rfl rfl)
theorem dX2_pier_17 : decode cX2_pier 17 = .ok (.iconst 2, 1) := dk_5 (dk_at dksX2_pier_0 17 rfl rfl)
theorem dX2_pier_18 : decode cX2_pier 18 = .ok (.invokevirtual 167, 3) := dk_182 0 167 (dk_at dksX2_pier_0 18 rfl rfl)
theorem dX2_pier_21 : decode cX2_pier 21 = .ok (.ireturn, 1) := dk_172 (dk_at dksX2_pier_0 21 rfl rfl)
theorem dX2_pier_22 : decode cX2_pier 22 = .ok (.aload_n 0, 1) := dk_42 (dk_at dksX2_pier_0 22 rfl rfl)
theorem dX2_pier_23 : decode cX2_pier 23 = .ok (.iconst 0, 1) := dk_3 (dk_at dksX2_pier_0 23 rfl rfl)
theorem dX2_pier_24 : decode cX2_pier 24 = .ok (.putfield 65, 3) := dk_181 0 65 (dk_at dksX2_pier_1 0 rfl rfl)
theorem dX2_pier_27 : decode cX2_pier 27 = .ok (.aload_n 0, 1) := dk_42 (dk_at dksX2_pier_1 3 rfl rfl)
theorem dX2_pier_28 : decode cX2_pier 28 = .ok (.iconst 0, 1) := dk_3 (dk_at dksX2_pier_1 4 rfl rfl)
theorem dX2_pier_29 : decode cX2_pier 29 = .ok (.putfield 101, 3) := dk_181 0 101 (dk_at dksX2_pier_1 5 rfl rfl)
theorem dX2_pier_32 : decode cX2_pier 32 = .ok (.aload_n 0, 1) := dk_42 (dk_at dksX2_pier_1 8 rfl rfl)
theorem dX2_pier_33 : decode cX2_pier 33 = .ok (.iconst 0, 1) := dk_3 (dk_at dksX2_pier_1 9 rfl rfl)
theorem dX2_pier_34 : decode cX2_pier 34 = .ok (.putfield 97, 3) := dk_181 0 97 (dk_at dksX2_pier_1 10 rfl rfl)
theorem dX2_pier_37 : decode cX2_pier 37 = .ok (.iconst 0, 1) := dk_3 (dk_at dksX2_pier_1 13 rfl rfl)
theorem dX2_pier_38 : decode cX2_pier 38 = .ok (.istore_n 2, 1) := dk_61 (dk_at dksX2_pier_1 14 rfl rfl)
theorem dX2_pier_39 : decode cX2_pier 39 = .ok (.iload_n 2, 1) := dk_28 (dk_at dksX2_pier_1 15 rfl rfl)
theorem dX2_pier_40 : decode cX2_pier 40 = .ok (.bipush 95, 2) := dk_16 95 (dk_at dksX2_pier_1 16 rfl rfl)
theorem dX2_pier_42 : decode cX2_pier 42 = .ok (.if_icmp .ge 16, 3) := dk_162 0 16 (dk_at dksX2_pier_1 18 rfl rfl)
theorem dX2_pier_45 : decode cX2_pier 45 = .ok (.aload_n 0, 1) := dk_42 (dk_at dksX2_pier_1 21 rfl rfl)
theorem dX2_pier_46 : decode cX2_pier 46 = .ok (.getfield 23, 3) := dk_180 0 23 (dk_at dksX2_pier_2 0 rfl rfl)
theorem dX2_pier_49 : decode cX2_pier 49 = .ok (.iload_n 2, 1) := dk_28 (dk_at dksX2_pier_2 3 rfl rfl)
theorem dX2_pier_50 : decode cX2_pier 50 = .ok (.iconst 0, 1) := dk_3 (dk_at dksX2_pier_2 4 rfl rfl)
theorem dX2_pier_51 : decode cX2_pier 51 = .ok (.iastore, 1) := dk_79 (dk_at dksX2_pier_2 5 rfl rfl)
theorem dX2_pier_52 : decode cX2_pier 52 = .ok (.iinc 2 1, 3) := dk_132 2 1 (dk_at dksX2_pier_2 6 rfl rfl)
theorem dX2_pier_55 : decode cX2_pier 55 = .ok (.goto (-16), 3) := dk_167 255 240 (dk_at dksX2_pier_2 9 rfl rfl)
theorem dX2_pier_58 : decode cX2_pier 58 = .ok (.iconst 0, 1) := dk_3 (dk_at dksX2_pier_2 12 rfl rfl)
theorem dX2_pier_59 : decode cX2_pier 59 = .ok (.istore_n 2, 1) := dk_61 (dk_at dksX2_pier_2 13 rfl rfl)
theorem dX2_pier_60 : decode cX2_pier 60 = .ok (.iload_n 2, 1) := dk_28 (dk_at dksX2_pier_2 14 rfl rfl)
theorem dX2_pier_61 : decode cX2_pier 61 = .ok (.bipush 36, 2) := dk_16 36 (dk_at dksX2_pier_2 15 rfl rfl)
theorem dX2_pier_63 : decode cX2_pier 63 = .ok (.if_icmp .ge 16, 3) := dk_162 0 16 (dk_at dksX2_pier_2 17 rfl rfl)
theorem dX2_pier_66 : decode cX2_pier 66 = .ok (.aload_n 0, 1) := dk_42 (dk_at dksX2_pier_2 20 rfl rfl)
theorem dX2_pier_67 : decode cX2_pier 67 = .ok (.getfield 29, 3) := dk_180 0 29 (dk_at dksX2_pier_2 21 rfl rfl)
theorem dX2_pier_70 : decode cX2_pier 70 = .ok (.iload_n 2, 1) := dk_28 (dk_at dksX2_pier_3 0 rfl rfl)
theorem dX2_pier_71 : decode cX2_pier 71 = .ok (.iconst 0, 1) := dk_3 (dk_at dksX2_pier_3 1 rfl rfl)
theorem dX2_pier_72 : decode cX2_pier 72 = .ok (.iastore, 1) := dk_79 (dk_at dksX2_pier_3 2 rfl rfl)
theorem dX2_pier_73 : decode cX2_pier 73 = .ok (.iinc 2 1, 3) := dk_132 2 1 (dk_at dksX2_pier_3 3 rfl rfl)
theorem dX2_pier_76 : decode cX2_pier 76 = .ok (.goto (-16), 3) := dk_167 255 240 (dk_at dksX2_pier_3 6 rfl rfl)
theorem dX2_pier_79 : decode cX2_pier 79 = .ok (.aload_n 0, 1) := dk_42 (dk_at dksX2_pier_3 9 rfl rfl)
theorem dX2_pier_80 : decode cX2_pier 80 = .ok (.iload_n 1, 1) := dk_27 (dk_at dksX2_pier_3 10 rfl rfl)
theorem dX2_pier_81 : decode cX2_pier 81 = .ok (.putfield 68, 3) := dk_181 0 68 (dk_at dksX2_pier_3 11 rfl rfl)
theorem dX2_pier_84 : decode cX2_pier 84 = .ok (.aload_n 0, 1) := dk_42 (dk_at dksX2_pier_3 14 rfl rfl)
theorem dX2_pier_85 : decode cX2_pier 85 = .ok (.iconst 0, 1) := dk_3 (dk_at dksX2_pier_3 15 rfl rfl)
theorem dX2_pier_86 : decode cX2_pier 86 = .ok (.putfield 71, 3) := dk_181 0 71 (dk_at dksX2_pier_3 16 rfl rfl)
theorem dX2_pier_89 : decode cX2_pier 89 = .ok (.aload_n 0, 1) := dk_42 (dk_at dksX2_pier_3 19 rfl rfl)
theorem dX2_pier_90 : decode cX2_pier 90 = .ok (.invokevirtual 118, 3) := dk_182 0 118 (dk_at dksX2_pier_3 20 rfl rfl)
theorem dX2_pier_93 : decode cX2_pier 93 = .ok (.aload_n 0, 1) := dk_42 (dk_at dksX2_pier_3 23 rfl rfl)
theorem dX2_pier_94 : decode cX2_pier 94 = .ok (.invokevirtual 170, 3) := dk_182 0 170 (dk_at dksX2_pier_4 0 rfl rfl)
theorem dX2_pier_97 : decode cX2_pier 97 = .ok (.aload_n 0, 1) := dk_42 (dk_at dksX2_pier_4 3 rfl rfl)
theorem dX2_pier_98 : decode cX2_pier 98 = .ok (.getfield 97, 3) := dk_180 0 97 (dk_at dksX2_pier_4 4 rfl rfl)
theorem dX2_pier_101 : decode cX2_pier 101 = .ok (.ifCond .ne 23, 3) := dk_154 0 23 (dk_at dksX2_pier_4 7 rfl rfl)
theorem dX2_pier_104 : decode cX2_pier 104 = .ok (.aload_n 0, 1) := dk_42 (dk_at dksX2_pier_4 10 rfl rfl)
theorem dX2_pier_105 : decode cX2_pier 105 = .ok (.getfield 87, 3) := dk_180 0 87 (dk_at dksX2_pier_4 11 rfl rfl)
theorem dX2_pier_108 : decode cX2_pier 108 = .ok (.bipush 59, 2) := dk_16 59 (dk_at dksX2_pier_4 14 rfl rfl)
theorem dX2_pier_110 : decode cX2_pier 110 = .ok (.if_icmp .ne 14, 3) := dk_160 0 14 (dk_at dksX2_pier_4 16 rfl rfl)
theorem dX2_pier_113 : decode cX2_pier 113 = .ok (.aload_n 0, 1) := dk_42 (dk_at dksX2_pier_4 19 rfl rfl)
theorem dX2_pier_114 : decode cX2_pier 114 = .ok (.invokevirtual 118, 3) := dk_182 0 118 (dk_at dksX2_pier_4 20 rfl rfl)
theorem dX2_pier_117 : decode cX2_pier 117 = .ok (.aload_n 0, 1) := dk_42 (dk_at dksX2_pier_4 23 rfl rfl)
theorem dX2_pier_118 : decode cX2_pier 118 = .ok (.invokevirtual 170, 3) := dk_182 0 170 (dk_at dksX2_pier_5 0 rfl rfl)
theorem dX2_pier_121 : decode cX2_pier 121 = .ok (.goto (-24), 3) := dk_167 255 232 (dk_at dksX2_pier_5 3 rfl rfl)
theorem dX2_pier_124 : decode cX2_pier 124 = .ok (.aload_n 0, 1) := dk_42 (dk_at dksX2_pier_5 6 rfl rfl)
theorem dX2_pier_125 : decode cX2_pier 125 = .ok (.getfield 97, 3) := dk_180 0 97 (dk_at dksX2_pier_5 7 rfl rfl)
theorem dX2_pier_128 : decode cX2_pier 128 = .ok (.ifCond .ne 19, 3) := dk_154 0 19 (dk_at dksX2_pier_5 10 rfl rfl)
theorem dX2_pier_131 : decode cX2_pier 131 = .ok (.aload_n 0, 1) := dk_42 (dk_at dksX2_pier_5 13 rfl rfl)
theorem dX2_pier_132 : decode cX2_pier 132 = .ok (.getfield 87, 3) := dk_180 0 87 (dk_at dksX2_pier_5 14 rfl rfl)
theorem dX2_pier_135 : decode cX2_pier 135 = .ok (.ifCond .eq 12, 3) := dk_153 0 12 (dk_at dksX2_pier_5 17 rfl rfl)
theorem dX2_pier_138 : decode cX2_pier 138 = .ok (.aload_n 0, 1) := dk_42 (dk_at dksX2_pier_5 20 rfl rfl)
theorem dX2_pier_139 : decode cX2_pier 139 = .ok (.iconst 1, 1) := dk_4 (dk_at dksX2_pier_5 21 rfl rfl)
theorem dX2_pier_140 : decode cX2_pier 140 = .ok (.aload_n 0, 1) := dk_42 (dk_at dksX2_pier_5 22 rfl rfl)
theorem dX2_pier_141 : decode cX2_pier 141 = .ok (.getfield 78, 3) := dk_180 0 78 (dk_at dksX2_pier_6 0 rfl rfl)
theorem dX2_pier_144 : decode cX2_pier 144 = .ok (.invokevirtual 124, 3) := dk_182 0 124 (dk_at dksX2_pier_6 3 rfl rfl)
theorem dX2_pier_147 : decode cX2_pier 147 = .ok (.aload_n 0, 1) := dk_42 (dk_at dksX2_pier_6 6 rfl rfl)
theorem dX2_pier_148 : decode cX2_pier 148 = .ok (.getfield 97, 3) := dk_180 0 97 (dk_at dksX2_pier_6 7 rfl rfl)
theorem dX2_pier_151 : decode cX2_pier 151 = .ok (.ifCond .ne 32, 3) := dk_154 0 32 (dk_at dksX2_pier_6 10 rfl rfl)
theorem dX2_pier_154 : decode cX2_pier 154 = .ok (.aload_n 0, 1) := dk_42 (dk_at dksX2_pier_6 13 rfl rfl)
theorem dX2_pier_155 : decode cX2_pier 155 = .ok (.getfield 23, 3) := dk_180 0 23 (dk_at dksX2_pier_6 14 rfl rfl)
theorem dX2_pier_158 : decode cX2_pier 158 = .ok (.bipush 7, 2) := dk_16 7 (dk_at dksX2_pier_6 17 rfl rfl)
theorem dX2_pier_160 : decode cX2_pier 160 = .ok (.iaload, 1) := dk_46 (dk_at dksX2_pier_6 19 rfl rfl)
theorem dX2_pier_161 : decode cX2_pier 161 = .ok (.ifCond .eq 12, 3) := dk_153 0 12 (dk_at dksX2_pier_6 20 rfl rfl)
theorem dX2_pier_164 : decode cX2_pier 164 = .ok (.aload_n 0, 1) := dk_42 (dk_at dksX2_pier_6 23 rfl rfl)
theorem dX2_pier_165 : decode cX2_pier 165 = .ok (.getfield 23, 3) := dk_180 0 23 (dk_at dksX2_pier_7 0 rfl rfl)
theorem dX2_pier_168 : decode cX2_pier 168 = .ok (.iconst 2, 1) := dk_5 (dk_at dksX2_pier_7 3 rfl rfl)
theorem dX2_pier_169 : decode cX2_pier 169 = .ok (.iaload, 1) := dk_46 (dk_at dksX2_pier_7 4 rfl rfl)
theorem dX2_pier_170 : decode cX2_pier 170 = .ok (.ifCond .ne 13, 3) := dk_154 0 13 (dk_at dksX2_pier_7 5 rfl rfl)
theorem dX2_pier_173 : decode cX2_pier 173 = .ok (.aload_n 0, 1) := dk_42 (dk_at dksX2_pier_7 8 rfl rfl)
theorem dX2_pier_174 : decode cX2_pier 174 = .ok (.bipush 6, 2) := dk_16 6 (dk_at dksX2_pier_7 9 rfl rfl)
theorem dX2_pier_176 : decode cX2_pier 176 = .ok (.aload_n 0, 1) := dk_42 (dk_at dksX2_pier_7 11 rfl rfl)
theorem dX2_pier_177 : decode cX2_pier 177 = .ok (.getfield 78, 3) := dk_180 0 78 (dk_at dksX2_pier_7 12 rfl rfl)
theorem dX2_pier_180 : decode cX2_pier 180 = .ok (.invokevirtual 124, 3) := dk_182 0 124 (dk_at dksX2_pier_7 15 rfl rfl)
theorem dX2_pier_183 : decode cX2_pier 183 = .ok (.aload_n 0, 1) := dk_42 (dk_at dksX2_pier_7 18 rfl rfl)
theorem dX2_pier_184 : decode cX2_pier 184 = .ok (.getfield 97, 3) := dk_180 0 97 (dk_at dksX2_pier_7 19 rfl rfl)
theorem dX2_pier_187 : decode cX2_pier 187 = .ok (.ifCond .eq 9, 3) := dk_153 0 9 (dk_at dksX2_pier_8 0 rfl rfl)
theorem dX2_pier_190 : decode cX2_pier 190 = .ok (.aload_n 0, 1) := dk_42 (dk_at dksX2_pier_8 3 rfl rfl)
theorem dX2_pier_191 : decode cX2_pier 191 = .ok (.iconst 4, 1) := dk_7 (dk_at dksX2_pier_8 4 rfl rfl)
theorem dX2_pier_192 : decode cX2_pier 192 = .ok (.invokevirtual 167, 3) := dk_182 0 167 (dk_at dksX2_pier_8 5 rfl rfl)
theorem dX2_pier_195 : decode cX2_pier 195 = .ok (.ireturn, 1) := dk_172 (dk_at dksX2_pier_8 8 rfl rfl)
theorem dX2_pier_196 : decode cX2_pier 196 = .ok (.aload_n 0, 1) := dk_42 (dk_at dksX2_pier_8 9 rfl rfl)
theorem dX2_pier_197 : decode cX2_pier 197 = .ok (.getfield 23, 3) := dk_180 0 23 (dk_at dksX2_pier_8 10 rfl rfl)
theorem dX2_pier_200 : decode cX2_pier 200 = .ok (.iconst 0, 1) := dk_3 (dk_at dksX2_pier_8 13 rfl rfl)
theorem dX2_pier_201 : decode cX2_pier 201 = .ok (.aload_n 0, 1) := dk_42 (dk_at dksX2_pier_8 14 rfl rfl)
theorem dX2_pier_202 : decode cX2_pier 202 = .ok (.getfield 20, 3) := dk_180 0 20 (dk_at dksX2_pier_8 15 rfl rfl)
theorem dX2_pier_205 : decode cX2_pier 205 = .ok (.iconst 0, 1) := dk_3 (dk_at dksX2_pier_8 18 rfl rfl)
theorem dX2_pier_206 : decode cX2_pier 206 = .ok (.bipush 95, 2) := dk_16 95 (dk_at dksX2_pier_8 19 rfl rfl)
theorem dX2_pier_208 : decode cX2_pier 208 = .ok (.invokestatic 173, 3) := dk_184 0 173 (dk_at dksX2_pier_8 21 rfl rfl)
theorem dX2_pier_211 : decode cX2_pier 211 = .ok (.aload_n 0, 1) := dk_42 (dk_at dksX2_pier_9 0 rfl rfl)
theorem dX2_pier_212 : decode cX2_pier 212 = .ok (.getfield 29, 3) := dk_180 0 29 (dk_at dksX2_pier_9 1 rfl rfl)
theorem dX2_pier_215 : decode cX2_pier 215 = .ok (.iconst 0, 1) := dk_3 (dk_at dksX2_pier_9 4 rfl rfl)
theorem dX2_pier_216 : decode cX2_pier 216 = .ok (.aload_n 0, 1) := dk_42 (dk_at dksX2_pier_9 5 rfl rfl)
theorem dX2_pier_217 : decode cX2_pier 217 = .ok (.getfield 26, 3) := dk_180 0 26 (dk_at dksX2_pier_9 6 rfl rfl)
theorem dX2_pier_220 : decode cX2_pier 220 = .ok (.iconst 0, 1) := dk_3 (dk_at dksX2_pier_9 9 rfl rfl)
theorem dX2_pier_221 : decode cX2_pier 221 = .ok (.bipush 36, 2) := dk_16 36 (dk_at dksX2_pier_9 10 rfl rfl)
theorem dX2_pier_223 : decode cX2_pier 223 = .ok (.invokestatic 173, 3) := dk_184 0 173 (dk_at dksX2_pier_9 12 rfl rfl)
theorem dX2_pier_226 : decode cX2_pier 226 = .ok (.aload_n 0, 1) := dk_42 (dk_at dksX2_pier_9 15 rfl rfl)
theorem dX2_pier_227 : decode cX2_pier 227 = .ok (.getfield 29, 3) := dk_180 0 29 (dk_at dksX2_pier_9 16 rfl rfl)
theorem dX2_pier_230 : decode cX2_pier 230 = .ok (.iconst 0, 1) := dk_3 (dk_at dksX2_pier_9 19 rfl rfl)
theorem dX2_pier_231 : decode cX2_pier 231 = .ok (.aload_n 0, 1) := dk_42 (dk_at dksX2_pier_9 20 rfl rfl)
theorem dX2_pier_232 : decode cX2_pier 232 = .ok (.getfield 32, 3) := dk_180 0 32 (dk_at dksX2_pier_9 21 rfl rfl)
theorem dX2_pier_235 : decode cX2_pier 235 = .ok (.iconst 0, 1) := dk_3 (dk_at dksX2_pier_10 0 rfl rfl)
theorem dX2_pier_236 : decode cX2_pier 236 = .ok (.bipush 36, 2) := dk_16 36 (dk_at dksX2_pier_10 1 rfl rfl)
theorem dX2_pier_238 : decode cX2_pier 238 = .ok (.invokestatic 173, 3) := dk_184 0 173 (dk_at dksX2_pier_10 3 rfl rfl)
theorem dX2_pier_241 : decode cX2_pier 241 = .ok (.aload_n 0, 1) := dk_42 (dk_at dksX2_pier_10 6 rfl rfl)
theorem dX2_pier_242 : decode cX2_pier 242 = .ok (.iconst 1, 1) := dk_4 (dk_at dksX2_pier_10 7 rfl rfl)
theorem dX2_pier_243 : decode cX2_pier 243 = .ok (.putfield 177, 3) := dk_181 0 177 (dk_at dksX2_pier_10 8 rfl rfl)
theorem dX2_pier_246 : decode cX2_pier 246 = .ok (.aload_n 0, 1) := dk_42 (dk_at dksX2_pier_10 11 rfl rfl)
theorem dX2_pier_247 : decode cX2_pier 247 = .ok (.iconst 0, 1) := dk_3 (dk_at dksX2_pier_10 12 rfl rfl)
theorem dX2_pier_248 : decode cX2_pier 248 = .ok (.putfield 180, 3) := dk_181 0 180 (dk_at dksX2_pier_10 13 rfl rfl)
theorem dX2_pier_251 : decode cX2_pier 251 = .ok (.aload_n 0, 1) := dk_42 (dk_at dksX2_pier_10 16 rfl rfl)
theorem dX2_pier_252 : decode cX2_pier 252 = .ok (.iconst 0, 1) := dk_3 (dk_at dksX2_pier_10 17 rfl rfl)
theorem dX2_pier_253 : decode cX2_pier 253 = .ok (.putfield 183, 3) := dk_181 0 183 (dk_at dksX2_pier_10 18 rfl rfl)
theorem dX2_pier_256 : decode cX2_pier 256 = .ok (.aload_n 0, 1) := dk_42 (dk_at dksX2_pier_10 21 rfl rfl)
theorem dX2_pier_257 : decode cX2_pier 257 = .ok (.getfield 20, 3) := dk_180 0 20 (dk_at dksX2_pier_11 0 rfl rfl)
theorem dX2_pier_260 : decode cX2_pier 260 = .ok (.iconst 2, 1) := dk_5 (dk_at dksX2_pier_11 3 rfl rfl)
theorem dX2_pier_261 : decode cX2_pier 261 = .ok (.iaload, 1) := dk_46 (dk_at dksX2_pier_11 4 rfl rfl)
theorem dX2_pier_262 : decode cX2_pier 262 = .ok (.ireturn, 1) := dk_172 (dk_at dksX2_pier_11 5 rfl rfl)
abbrev cX2_good : ByteArray := prog_16_method_3_code
def yX2_good : MethodName := ⟨RX2, "good", "()V"⟩
def dkwX2_good_0 : List UInt8 := [42, 3, 181, 0, 59, 42, 3, 181, 0, 62, 177]
abbrev dktX2_good_0 : List UInt8 := dkwX2_good_0 ++ []
theorem dksX2_good_0 : cX2_good.data.toList.drop 0 = dktX2_good_0 := by decide +kernel
theorem dX2_good_0 : decode cX2_good 0 = .ok (.aload_n 0, 1) := dk_42 (dk_at dksX2_good_0 0 rfl rfl)
theorem dX2_good_1 : decode cX2_good 1 = .ok (.iconst 0, 1) := dk_3 (dk_at dksX2_good_0 1 rfl rfl)
theorem dX2_good_2 : decode cX2_good 2 = .ok (.putfield 59, 3) := dk_181 0 59 (dk_at dksX2_good_0 2 rfl rfl)
theorem dX2_good_5 : decode cX2_good 5 = .ok (.aload_n 0, 1) := dk_42 (dk_at dksX2_good_0 5 rfl rfl)
theorem dX2_good_6 : decode cX2_good 6 = .ok (.iconst 0, 1) := dk_3 (dk_at dksX2_good_0 6 rfl rfl)
theorem dX2_good_7 : decode cX2_good 7 = .ok (.putfield 62, 3) := dk_181 0 62 (dk_at dksX2_good_0 7 rfl rfl)
theorem dX2_good_10 : decode cX2_good 10 = .ok (.return_, 1) := dk_177 (dk_at dksX2_good_0 10 rfl rfl)
abbrev cX2_in : ByteArray := prog_16_method_6_code
def yX2_in : MethodName := ⟨RX2, "in", "(III)Z"⟩
def dkwX2_in_0 : List UInt8 := [26, 27, 161, 0, 12, 26, 28, 163, 0, 7, 4, 167, 0, 4, 3, 172]
abbrev dktX2_in_0 : List UInt8 := dkwX2_in_0 ++ []
theorem dksX2_in_0 : cX2_in.data.toList.drop 0 = dktX2_in_0 := by decide +kernel
theorem dX2_in_0 : decode cX2_in 0 = .ok (.iload_n 0, 1) := dk_26 (dk_at dksX2_in_0 0 rfl rfl)
theorem dX2_in_1 : decode cX2_in 1 = .ok (.iload_n 1, 1) := dk_27 (dk_at dksX2_in_0 1 rfl rfl)
theorem dX2_in_2 : decode cX2_in 2 = .ok (.if_icmp .lt 12, 3) := dk_161 0 12 (dk_at dksX2_in_0 2 rfl rfl)
theorem dX2_in_5 : decode cX2_in 5 = .ok (.iload_n 0, 1) := dk_26 (dk_at dksX2_in_0 5 rfl rfl)
theorem dX2_in_6 : decode cX2_in 6 = .ok (.iload_n 2, 1) := dk_28 (dk_at dksX2_in_0 6 rfl rfl)
theorem dX2_in_7 : decode cX2_in 7 = .ok (.if_icmp .gt 7, 3) := dk_163 0 7 (dk_at dksX2_in_0 7 rfl rfl)
theorem dX2_in_10 : decode cX2_in 10 = .ok (.iconst 1, 1) := dk_4 (dk_at dksX2_in_0 10 rfl rfl)
theorem dX2_in_11 : decode cX2_in 11 = .ok (.goto 4, 3) := dk_167 0 4 (dk_at dksX2_in_0 11 rfl rfl)
theorem dX2_in_14 : decode cX2_in 14 = .ok (.iconst 0, 1) := dk_3 (dk_at dksX2_in_0 14 rfl rfl)
theorem dX2_in_15 : decode cX2_in 15 = .ok (.ireturn, 1) := dk_172 (dk_at dksX2_in_0 15 rfl rfl)
abbrev cX2_no : ByteArray := prog_16_method_4_code
def yX2_no : MethodName := ⟨RX2, "no", "(I)I"⟩
def dkwX2_no_0 : List UInt8 := [42, 27, 181, 0, 62, 2, 172]
abbrev dktX2_no_0 : List UInt8 := dkwX2_no_0 ++ []
theorem dksX2_no_0 : cX2_no.data.toList.drop 0 = dktX2_no_0 := by decide +kernel
theorem dX2_no_0 : decode cX2_no 0 = .ok (.aload_n 0, 1) := dk_42 (dk_at dksX2_no_0 0 rfl rfl)
theorem dX2_no_1 : decode cX2_no 1 = .ok (.iload_n 1, 1) := dk_27 (dk_at dksX2_no_0 1 rfl rfl)
theorem dX2_no_2 : decode cX2_no 2 = .ok (.putfield 62, 3) := dk_181 0 62 (dk_at dksX2_no_0 2 rfl rfl)
theorem dX2_no_5 : decode cX2_no 5 = .ok (.iconst (-1), 1) := dk_2 (dk_at dksX2_no_0 5 rfl rfl)
theorem dX2_no_6 : decode cX2_no 6 = .ok (.ireturn, 1) := dk_172 (dk_at dksX2_no_0 6 rfl rfl)
abbrev cX2_next : ByteArray := prog_16_method_15_code
def yX2_next : MethodName := ⟨RX2, "next", "()V"⟩
def dkwX2_next_10 : List UInt8 := [160, 0, 7, 28, 167, 0, 4, 4, 181, 0, 87, 177]
abbrev dktX2_next_10 : List UInt8 := dkwX2_next_10 ++ []
def dkwX2_next_9 : List UInt8 := [4, 167, 0, 4, 6, 181, 0, 87, 167, 0, 25, 42, 27, 4, 96, 181, 0, 71, 42, 28, 16, 59]
abbrev dktX2_next_9 : List UInt8 := dkwX2_next_9 ++ dktX2_next_10
def dkwX2_next_8 : List UInt8 := [100, 181, 0, 84, 132, 3, 1, 132, 1, 1, 167, 255, 214, 42, 27, 181, 0, 71, 42, 29, 6, 164, 0, 7]
abbrev dktX2_next_8 : List UInt8 := dkwX2_next_8 ++ dktX2_next_9
def dkwX2_next_7 : List UInt8 := [153, 0, 37, 29, 6, 162, 0, 23, 42, 16, 10, 42, 180, 0, 84, 104, 42, 27, 182, 0, 74, 96, 16, 48]
abbrev dktX2_next_7 : List UInt8 := dkwX2_next_7 ++ dktX2_next_8
def dkwX2_next_6 : List UInt8 := [181, 0, 87, 167, 0, 101, 28, 184, 0, 94, 153, 0, 72, 3, 62, 42, 27, 182, 0, 74, 184, 0, 94]
abbrev dktX2_next_6 : List UInt8 := dkwX2_next_6 ++ dktX2_next_7
def dkwX2_next_5 : List UInt8 := [167, 255, 209, 42, 27, 181, 0, 71, 42, 42, 180, 0, 81, 16, 8, 164, 0, 7, 4, 167, 0, 4, 5]
abbrev dktX2_next_5 : List UInt8 := dkwX2_next_5 ++ dktX2_next_6
def dkwX2_next_4 : List UInt8 := [180, 0, 81, 42, 27, 182, 0, 74, 79, 42, 89, 180, 0, 81, 4, 96, 181, 0, 81, 132, 1, 1]
abbrev dktX2_next_4 : List UInt8 := dkwX2_next_4 ++ dktX2_next_5
def dkwX2_next_3 : List UInt8 := [182, 0, 74, 184, 0, 90, 153, 0, 42, 42, 180, 0, 81, 16, 8, 162, 0, 17, 42, 180, 0, 17, 42]
abbrev dktX2_next_3 : List UInt8 := dkwX2_next_3 ++ dktX2_next_4
def dkwX2_next_2 : List UInt8 := [42, 3, 181, 0, 87, 42, 27, 181, 0, 71, 167, 0, 184, 28, 184, 0, 90, 153, 0, 79, 42, 27]
abbrev dktX2_next_2 : List UInt8 := dkwX2_next_2 ++ dktX2_next_3
def dkwX2_next_1 : List UInt8 := [181, 0, 78, 42, 27, 182, 0, 74, 61, 42, 3, 181, 0, 81, 42, 3, 181, 0, 84, 28, 2, 160, 0, 16]
abbrev dktX2_next_1 : List UInt8 := dkwX2_next_1 ++ dktX2_next_2
def dkwX2_next_0 : List UInt8 := [42, 180, 0, 71, 60, 42, 27, 182, 0, 74, 16, 32, 160, 0, 9, 132, 1, 1, 167, 255, 243, 42, 27]
abbrev dktX2_next_0 : List UInt8 := dkwX2_next_0 ++ dktX2_next_1
theorem dksX2_next_0 : cX2_next.data.toList.drop 0 = dktX2_next_0 := by decide +kernel
theorem dksX2_next_1 : cX2_next.data.toList.drop 23 = dktX2_next_1 := dk_seg dksX2_next_0 23 rfl rfl
theorem dksX2_next_2 : cX2_next.data.toList.drop 47 = dktX2_next_2 := dk_seg dksX2_next_1 24 rfl rfl
theorem dksX2_next_3 : cX2_next.data.toList.drop 69 = dktX2_next_3 := dk_seg dksX2_next_2 22 rfl rfl
theorem dksX2_next_4 : cX2_next.data.toList.drop 92 = dktX2_next_4 := dk_seg dksX2_next_3 23 rfl rfl
theorem dksX2_next_5 : cX2_next.data.toList.drop 114 = dktX2_next_5 := dk_seg dksX2_next_4 22 rfl rfl
theorem dksX2_next_6 : cX2_next.data.toList.drop 137 = dktX2_next_6 := dk_seg dksX2_next_5 23 rfl rfl
theorem dksX2_next_7 : cX2_next.data.toList.drop 160 = dktX2_next_7 := dk_seg dksX2_next_6 23 rfl rfl
theorem dksX2_next_8 : cX2_next.data.toList.drop 184 = dktX2_next_8 := dk_seg dksX2_next_7 24 rfl rfl
theorem dksX2_next_9 : cX2_next.data.toList.drop 208 = dktX2_next_9 := dk_seg dksX2_next_8 24 rfl rfl
theorem dksX2_next_10 : cX2_next.data.toList.drop 230 = dktX2_next_10 := dk_seg dksX2_next_9 22 rfl rfl
theorem dX2_next_0 : decode cX2_next 0 = .ok (.aload_n 0, 1) := dk_42 (dk_at dksX2_next_0 0 rfl rfl)
theorem dX2_next_1 : decode cX2_next 1 = .ok (.getfield 71, 3) := dk_180 0 71 (dk_at dksX2_next_0 1 rfl rfl)
theorem dX2_next_4 : decode cX2_next 4 = .ok (.istore_n 1, 1) := dk_60 (dk_at dksX2_next_0 4 rfl rfl)
theorem dX2_next_5 : decode cX2_next 5 = .ok (.aload_n 0, 1) := dk_42 (dk_at dksX2_next_0 5 rfl rfl)
theorem dX2_next_6 : decode cX2_next 6 = .ok (.iload_n 1, 1) := dk_27 (dk_at dksX2_next_0 6 rfl rfl)
theorem dX2_next_7 : decode cX2_next 7 = .ok (.invokevirtual 74, 3) := dk_182 0 74 (dk_at dksX2_next_0 7 rfl rfl)
theorem dX2_next_10 : decode cX2_next 10 = .ok (.bipush 32, 2) := dk_16 32 (dk_at dksX2_next_0 10 rfl rfl)
theorem dX2_next_12 : decode cX2_next 12 = .ok (.if_icmp .ne 9, 3) := dk_160 0 9 (dk_at dksX2_next_0 12 rfl rfl)
theorem dX2_next_15 : decode cX2_next 15 = .ok (.iinc 1 1, 3) := dk_132 1 1 (dk_at dksX2_next_0 15 rfl rfl)
theorem dX2_next_18 : decode cX2_next 18 = .ok (.goto (-13), 3) := dk_167 255 243 (dk_at dksX2_next_0 18 rfl rfl)
theorem dX2_next_21 : decode cX2_next 21 = .ok (.aload_n 0, 1) := dk_42 (dk_at dksX2_next_0 21 rfl rfl)
theorem dX2_next_22 : decode cX2_next 22 = .ok (.iload_n 1, 1) := dk_27 (dk_at dksX2_next_0 22 rfl rfl)
theorem dX2_next_23 : decode cX2_next 23 = .ok (.putfield 78, 3) := dk_181 0 78 (dk_at dksX2_next_1 0 rfl rfl)
theorem dX2_next_26 : decode cX2_next 26 = .ok (.aload_n 0, 1) := dk_42 (dk_at dksX2_next_1 3 rfl rfl)
theorem dX2_next_27 : decode cX2_next 27 = .ok (.iload_n 1, 1) := dk_27 (dk_at dksX2_next_1 4 rfl rfl)
theorem dX2_next_28 : decode cX2_next 28 = .ok (.invokevirtual 74, 3) := dk_182 0 74 (dk_at dksX2_next_1 5 rfl rfl)
theorem dX2_next_31 : decode cX2_next 31 = .ok (.istore_n 2, 1) := dk_61 (dk_at dksX2_next_1 8 rfl rfl)
theorem dX2_next_32 : decode cX2_next 32 = .ok (.aload_n 0, 1) := dk_42 (dk_at dksX2_next_1 9 rfl rfl)
theorem dX2_next_33 : decode cX2_next 33 = .ok (.iconst 0, 1) := dk_3 (dk_at dksX2_next_1 10 rfl rfl)
theorem dX2_next_34 : decode cX2_next 34 = .ok (.putfield 81, 3) := dk_181 0 81 (dk_at dksX2_next_1 11 rfl rfl)
theorem dX2_next_37 : decode cX2_next 37 = .ok (.aload_n 0, 1) := dk_42 (dk_at dksX2_next_1 14 rfl rfl)
theorem dX2_next_38 : decode cX2_next 38 = .ok (.iconst 0, 1) := dk_3 (dk_at dksX2_next_1 15 rfl rfl)
theorem dX2_next_39 : decode cX2_next 39 = .ok (.putfield 84, 3) := dk_181 0 84 (dk_at dksX2_next_1 16 rfl rfl)
theorem dX2_next_42 : decode cX2_next 42 = .ok (.iload_n 2, 1) := dk_28 (dk_at dksX2_next_1 19 rfl rfl)
theorem dX2_next_43 : decode cX2_next 43 = .ok (.iconst (-1), 1) := dk_2 (dk_at dksX2_next_1 20 rfl rfl)
theorem dX2_next_44 : decode cX2_next 44 = .ok (.if_icmp .ne 16, 3) := dk_160 0 16 (dk_at dksX2_next_1 21 rfl rfl)
theorem dX2_next_47 : decode cX2_next 47 = .ok (.aload_n 0, 1) := dk_42 (dk_at dksX2_next_2 0 rfl rfl)
theorem dX2_next_48 : decode cX2_next 48 = .ok (.iconst 0, 1) := dk_3 (dk_at dksX2_next_2 1 rfl rfl)
theorem dX2_next_49 : decode cX2_next 49 = .ok (.putfield 87, 3) := dk_181 0 87 (dk_at dksX2_next_2 2 rfl rfl)
theorem dX2_next_52 : decode cX2_next 52 = .ok (.aload_n 0, 1) := dk_42 (dk_at dksX2_next_2 5 rfl rfl)
theorem dX2_next_53 : decode cX2_next 53 = .ok (.iload_n 1, 1) := dk_27 (dk_at dksX2_next_2 6 rfl rfl)
theorem dX2_next_54 : decode cX2_next 54 = .ok (.putfield 71, 3) := dk_181 0 71 (dk_at dksX2_next_2 7 rfl rfl)
theorem dX2_next_57 : decode cX2_next 57 = .ok (.goto 184, 3) := dk_167 0 184 (dk_at dksX2_next_2 10 rfl rfl)
theorem dX2_next_60 : decode cX2_next 60 = .ok (.iload_n 2, 1) := dk_28 (dk_at dksX2_next_2 13 rfl rfl)
theorem dX2_next_61 : decode cX2_next 61 = .ok (.invokestatic 90, 3) := dk_184 0 90 (dk_at dksX2_next_2 14 rfl rfl)
theorem dX2_next_64 : decode cX2_next 64 = .ok (.ifCond .eq 79, 3) := dk_153 0 79 (dk_at dksX2_next_2 17 rfl rfl)
theorem dX2_next_67 : decode cX2_next 67 = .ok (.aload_n 0, 1) := dk_42 (dk_at dksX2_next_2 20 rfl rfl)
theorem dX2_next_68 : decode cX2_next 68 = .ok (.iload_n 1, 1) := dk_27 (dk_at dksX2_next_2 21 rfl rfl)
theorem dX2_next_69 : decode cX2_next 69 = .ok (.invokevirtual 74, 3) := dk_182 0 74 (dk_at dksX2_next_3 0 rfl rfl)
theorem dX2_next_72 : decode cX2_next 72 = .ok (.invokestatic 90, 3) := dk_184 0 90 (dk_at dksX2_next_3 3 rfl rfl)
theorem dX2_next_75 : decode cX2_next 75 = .ok (.ifCond .eq 42, 3) := dk_153 0 42 (dk_at dksX2_next_3 6 rfl rfl)
theorem dX2_next_78 : decode cX2_next 78 = .ok (.aload_n 0, 1) := dk_42 (dk_at dksX2_next_3 9 rfl rfl)
theorem dX2_next_79 : decode cX2_next 79 = .ok (.getfield 81, 3) := dk_180 0 81 (dk_at dksX2_next_3 10 rfl rfl)
theorem dX2_next_82 : decode cX2_next 82 = .ok (.bipush 8, 2) := dk_16 8 (dk_at dksX2_next_3 13 rfl rfl)
theorem dX2_next_84 : decode cX2_next 84 = .ok (.if_icmp .ge 17, 3) := dk_162 0 17 (dk_at dksX2_next_3 15 rfl rfl)
theorem dX2_next_87 : decode cX2_next 87 = .ok (.aload_n 0, 1) := dk_42 (dk_at dksX2_next_3 18 rfl rfl)
theorem dX2_next_88 : decode cX2_next 88 = .ok (.getfield 17, 3) := dk_180 0 17 (dk_at dksX2_next_3 19 rfl rfl)
theorem dX2_next_91 : decode cX2_next 91 = .ok (.aload_n 0, 1) := dk_42 (dk_at dksX2_next_3 22 rfl rfl)
theorem dX2_next_92 : decode cX2_next 92 = .ok (.getfield 81, 3) := dk_180 0 81 (dk_at dksX2_next_4 0 rfl rfl)
theorem dX2_next_95 : decode cX2_next 95 = .ok (.aload_n 0, 1) := dk_42 (dk_at dksX2_next_4 3 rfl rfl)
theorem dX2_next_96 : decode cX2_next 96 = .ok (.iload_n 1, 1) := dk_27 (dk_at dksX2_next_4 4 rfl rfl)
theorem dX2_next_97 : decode cX2_next 97 = .ok (.invokevirtual 74, 3) := dk_182 0 74 (dk_at dksX2_next_4 5 rfl rfl)
theorem dX2_next_100 : decode cX2_next 100 = .ok (.iastore, 1) := dk_79 (dk_at dksX2_next_4 8 rfl rfl)
theorem dX2_next_101 : decode cX2_next 101 = .ok (.aload_n 0, 1) := dk_42 (dk_at dksX2_next_4 9 rfl rfl)
theorem dX2_next_102 : decode cX2_next 102 = .ok (.dup, 1) := dk_89 (dk_at dksX2_next_4 10 rfl rfl)
theorem dX2_next_103 : decode cX2_next 103 = .ok (.getfield 81, 3) := dk_180 0 81 (dk_at dksX2_next_4 11 rfl rfl)
theorem dX2_next_106 : decode cX2_next 106 = .ok (.iconst 1, 1) := dk_4 (dk_at dksX2_next_4 14 rfl rfl)
theorem dX2_next_107 : decode cX2_next 107 = .ok (.iadd, 1) := dk_96 (dk_at dksX2_next_4 15 rfl rfl)
theorem dX2_next_108 : decode cX2_next 108 = .ok (.putfield 81, 3) := dk_181 0 81 (dk_at dksX2_next_4 16 rfl rfl)
theorem dX2_next_111 : decode cX2_next 111 = .ok (.iinc 1 1, 3) := dk_132 1 1 (dk_at dksX2_next_4 19 rfl rfl)
theorem dX2_next_114 : decode cX2_next 114 = .ok (.goto (-47), 3) := dk_167 255 209 (dk_at dksX2_next_5 0 rfl rfl)
theorem dX2_next_117 : decode cX2_next 117 = .ok (.aload_n 0, 1) := dk_42 (dk_at dksX2_next_5 3 rfl rfl)
theorem dX2_next_118 : decode cX2_next 118 = .ok (.iload_n 1, 1) := dk_27 (dk_at dksX2_next_5 4 rfl rfl)
theorem dX2_next_119 : decode cX2_next 119 = .ok (.putfield 71, 3) := dk_181 0 71 (dk_at dksX2_next_5 5 rfl rfl)
theorem dX2_next_122 : decode cX2_next 122 = .ok (.aload_n 0, 1) := dk_42 (dk_at dksX2_next_5 8 rfl rfl)
theorem dX2_next_123 : decode cX2_next 123 = .ok (.aload_n 0, 1) := dk_42 (dk_at dksX2_next_5 9 rfl rfl)
theorem dX2_next_124 : decode cX2_next 124 = .ok (.getfield 81, 3) := dk_180 0 81 (dk_at dksX2_next_5 10 rfl rfl)
theorem dX2_next_127 : decode cX2_next 127 = .ok (.bipush 8, 2) := dk_16 8 (dk_at dksX2_next_5 13 rfl rfl)
theorem dX2_next_129 : decode cX2_next 129 = .ok (.if_icmp .le 7, 3) := dk_164 0 7 (dk_at dksX2_next_5 15 rfl rfl)
theorem dX2_next_132 : decode cX2_next 132 = .ok (.iconst 1, 1) := dk_4 (dk_at dksX2_next_5 18 rfl rfl)
theorem dX2_next_133 : decode cX2_next 133 = .ok (.goto 4, 3) := dk_167 0 4 (dk_at dksX2_next_5 19 rfl rfl)
theorem dX2_next_136 : decode cX2_next 136 = .ok (.iconst 2, 1) := dk_5 (dk_at dksX2_next_5 22 rfl rfl)
theorem dX2_next_137 : decode cX2_next 137 = .ok (.putfield 87, 3) := dk_181 0 87 (dk_at dksX2_next_6 0 rfl rfl)
theorem dX2_next_140 : decode cX2_next 140 = .ok (.goto 101, 3) := dk_167 0 101 (dk_at dksX2_next_6 3 rfl rfl)
theorem dX2_next_143 : decode cX2_next 143 = .ok (.iload_n 2, 1) := dk_28 (dk_at dksX2_next_6 6 rfl rfl)
theorem dX2_next_144 : decode cX2_next 144 = .ok (.invokestatic 94, 3) := dk_184 0 94 (dk_at dksX2_next_6 7 rfl rfl)
theorem dX2_next_147 : decode cX2_next 147 = .ok (.ifCond .eq 72, 3) := dk_153 0 72 (dk_at dksX2_next_6 10 rfl rfl)
theorem dX2_next_150 : decode cX2_next 150 = .ok (.iconst 0, 1) := dk_3 (dk_at dksX2_next_6 13 rfl rfl)
theorem dX2_next_151 : decode cX2_next 151 = .ok (.istore_n 3, 1) := dk_62 (dk_at dksX2_next_6 14 rfl rfl)
theorem dX2_next_152 : decode cX2_next 152 = .ok (.aload_n 0, 1) := dk_42 (dk_at dksX2_next_6 15 rfl rfl)
theorem dX2_next_153 : decode cX2_next 153 = .ok (.iload_n 1, 1) := dk_27 (dk_at dksX2_next_6 16 rfl rfl)
theorem dX2_next_154 : decode cX2_next 154 = .ok (.invokevirtual 74, 3) := dk_182 0 74 (dk_at dksX2_next_6 17 rfl rfl)
theorem dX2_next_157 : decode cX2_next 157 = .ok (.invokestatic 94, 3) := dk_184 0 94 (dk_at dksX2_next_6 20 rfl rfl)
theorem dX2_next_160 : decode cX2_next 160 = .ok (.ifCond .eq 37, 3) := dk_153 0 37 (dk_at dksX2_next_7 0 rfl rfl)
theorem dX2_next_163 : decode cX2_next 163 = .ok (.iload_n 3, 1) := dk_29 (dk_at dksX2_next_7 3 rfl rfl)
theorem dX2_next_164 : decode cX2_next 164 = .ok (.iconst 3, 1) := dk_6 (dk_at dksX2_next_7 4 rfl rfl)
theorem dX2_next_165 : decode cX2_next 165 = .ok (.if_icmp .ge 23, 3) := dk_162 0 23 (dk_at dksX2_next_7 5 rfl rfl)
theorem dX2_next_168 : decode cX2_next 168 = .ok (.aload_n 0, 1) := dk_42 (dk_at dksX2_next_7 8 rfl rfl)
theorem dX2_next_169 : decode cX2_next 169 = .ok (.bipush 10, 2) := dk_16 10 (dk_at dksX2_next_7 9 rfl rfl)
theorem dX2_next_171 : decode cX2_next 171 = .ok (.aload_n 0, 1) := dk_42 (dk_at dksX2_next_7 11 rfl rfl)
theorem dX2_next_172 : decode cX2_next 172 = .ok (.getfield 84, 3) := dk_180 0 84 (dk_at dksX2_next_7 12 rfl rfl)
theorem dX2_next_175 : decode cX2_next 175 = .ok (.imul, 1) := dk_104 (dk_at dksX2_next_7 15 rfl rfl)
theorem dX2_next_176 : decode cX2_next 176 = .ok (.aload_n 0, 1) := dk_42 (dk_at dksX2_next_7 16 rfl rfl)
theorem dX2_next_177 : decode cX2_next 177 = .ok (.iload_n 1, 1) := dk_27 (dk_at dksX2_next_7 17 rfl rfl)
theorem dX2_next_178 : decode cX2_next 178 = .ok (.invokevirtual 74, 3) := dk_182 0 74 (dk_at dksX2_next_7 18 rfl rfl)
theorem dX2_next_181 : decode cX2_next 181 = .ok (.iadd, 1) := dk_96 (dk_at dksX2_next_7 21 rfl rfl)
theorem dX2_next_182 : decode cX2_next 182 = .ok (.bipush 48, 2) := dk_16 48 (dk_at dksX2_next_7 22 rfl rfl)
theorem dX2_next_184 : decode cX2_next 184 = .ok (.isub, 1) := dk_100 (dk_at dksX2_next_8 0 rfl rfl)
theorem dX2_next_185 : decode cX2_next 185 = .ok (.putfield 84, 3) := dk_181 0 84 (dk_at dksX2_next_8 1 rfl rfl)
theorem dX2_next_188 : decode cX2_next 188 = .ok (.iinc 3 1, 3) := dk_132 3 1 (dk_at dksX2_next_8 4 rfl rfl)
theorem dX2_next_191 : decode cX2_next 191 = .ok (.iinc 1 1, 3) := dk_132 1 1 (dk_at dksX2_next_8 7 rfl rfl)
theorem dX2_next_194 : decode cX2_next 194 = .ok (.goto (-42), 3) := dk_167 255 214 (dk_at dksX2_next_8 10 rfl rfl)
theorem dX2_next_197 : decode cX2_next 197 = .ok (.aload_n 0, 1) := dk_42 (dk_at dksX2_next_8 13 rfl rfl)
theorem dX2_next_198 : decode cX2_next 198 = .ok (.iload_n 1, 1) := dk_27 (dk_at dksX2_next_8 14 rfl rfl)
theorem dX2_next_199 : decode cX2_next 199 = .ok (.putfield 71, 3) := dk_181 0 71 (dk_at dksX2_next_8 15 rfl rfl)
theorem dX2_next_202 : decode cX2_next 202 = .ok (.aload_n 0, 1) := dk_42 (dk_at dksX2_next_8 18 rfl rfl)
theorem dX2_next_203 : decode cX2_next 203 = .ok (.iload_n 3, 1) := dk_29 (dk_at dksX2_next_8 19 rfl rfl)
theorem dX2_next_204 : decode cX2_next 204 = .ok (.iconst 3, 1) := dk_6 (dk_at dksX2_next_8 20 rfl rfl)
theorem dX2_next_205 : decode cX2_next 205 = .ok (.if_icmp .le 7, 3) := dk_164 0 7 (dk_at dksX2_next_8 21 rfl rfl)
theorem dX2_next_208 : decode cX2_next 208 = .ok (.iconst 1, 1) := dk_4 (dk_at dksX2_next_9 0 rfl rfl)
theorem dX2_next_209 : decode cX2_next 209 = .ok (.goto 4, 3) := dk_167 0 4 (dk_at dksX2_next_9 1 rfl rfl)
theorem dX2_next_212 : decode cX2_next 212 = .ok (.iconst 3, 1) := dk_6 (dk_at dksX2_next_9 4 rfl rfl)
theorem dX2_next_213 : decode cX2_next 213 = .ok (.putfield 87, 3) := dk_181 0 87 (dk_at dksX2_next_9 5 rfl rfl)
theorem dX2_next_216 : decode cX2_next 216 = .ok (.goto 25, 3) := dk_167 0 25 (dk_at dksX2_next_9 8 rfl rfl)
theorem dX2_next_219 : decode cX2_next 219 = .ok (.aload_n 0, 1) := dk_42 (dk_at dksX2_next_9 11 rfl rfl)
theorem dX2_next_220 : decode cX2_next 220 = .ok (.iload_n 1, 1) := dk_27 (dk_at dksX2_next_9 12 rfl rfl)
theorem dX2_next_221 : decode cX2_next 221 = .ok (.iconst 1, 1) := dk_4 (dk_at dksX2_next_9 13 rfl rfl)
theorem dX2_next_222 : decode cX2_next 222 = .ok (.iadd, 1) := dk_96 (dk_at dksX2_next_9 14 rfl rfl)
theorem dX2_next_223 : decode cX2_next 223 = .ok (.putfield 71, 3) := dk_181 0 71 (dk_at dksX2_next_9 15 rfl rfl)
theorem dX2_next_226 : decode cX2_next 226 = .ok (.aload_n 0, 1) := dk_42 (dk_at dksX2_next_9 18 rfl rfl)
theorem dX2_next_227 : decode cX2_next 227 = .ok (.iload_n 2, 1) := dk_28 (dk_at dksX2_next_9 19 rfl rfl)
theorem dX2_next_228 : decode cX2_next 228 = .ok (.bipush 59, 2) := dk_16 59 (dk_at dksX2_next_9 20 rfl rfl)
theorem dX2_next_230 : decode cX2_next 230 = .ok (.if_icmp .ne 7, 3) := dk_160 0 7 (dk_at dksX2_next_10 0 rfl rfl)
theorem dX2_next_233 : decode cX2_next 233 = .ok (.iload_n 2, 1) := dk_28 (dk_at dksX2_next_10 3 rfl rfl)
theorem dX2_next_234 : decode cX2_next 234 = .ok (.goto 4, 3) := dk_167 0 4 (dk_at dksX2_next_10 4 rfl rfl)
theorem dX2_next_237 : decode cX2_next 237 = .ok (.iconst 1, 1) := dk_4 (dk_at dksX2_next_10 7 rfl rfl)
theorem dX2_next_238 : decode cX2_next 238 = .ok (.putfield 87, 3) := dk_181 0 87 (dk_at dksX2_next_10 8 rfl rfl)
theorem dX2_next_241 : decode cX2_next 241 = .ok (.return_, 1) := dk_177 (dk_at dksX2_next_10 11 rfl rfl)
abbrev cX2_see : ByteArray := prog_16_method_12_code
def yX2_see : MethodName := ⟨RX2, "see", "(I)I"⟩
def dkwX2_see_0 : List UInt8 := [27, 42, 180, 0, 68, 162, 0, 12, 42, 180, 0, 7, 27, 46, 167, 0, 4, 2, 172]
abbrev dktX2_see_0 : List UInt8 := dkwX2_see_0 ++ []
theorem dksX2_see_0 : cX2_see.data.toList.drop 0 = dktX2_see_0 := by decide +kernel
theorem dX2_see_0 : decode cX2_see 0 = .ok (.iload_n 1, 1) := dk_27 (dk_at dksX2_see_0 0 rfl rfl)
theorem dX2_see_1 : decode cX2_see 1 = .ok (.aload_n 0, 1) := dk_42 (dk_at dksX2_see_0 1 rfl rfl)
theorem dX2_see_2 : decode cX2_see 2 = .ok (.getfield 68, 3) := dk_180 0 68 (dk_at dksX2_see_0 2 rfl rfl)
theorem dX2_see_5 : decode cX2_see 5 = .ok (.if_icmp .ge 12, 3) := dk_162 0 12 (dk_at dksX2_see_0 5 rfl rfl)
theorem dX2_see_8 : decode cX2_see 8 = .ok (.aload_n 0, 1) := dk_42 (dk_at dksX2_see_0 8 rfl rfl)
theorem dX2_see_9 : decode cX2_see 9 = .ok (.getfield 7, 3) := dk_180 0 7 (dk_at dksX2_see_0 9 rfl rfl)
theorem dX2_see_12 : decode cX2_see 12 = .ok (.iload_n 1, 1) := dk_27 (dk_at dksX2_see_0 12 rfl rfl)
theorem dX2_see_13 : decode cX2_see 13 = .ok (.iaload, 1) := dk_46 (dk_at dksX2_see_0 13 rfl rfl)
theorem dX2_see_14 : decode cX2_see 14 = .ok (.goto 4, 3) := dk_167 0 4 (dk_at dksX2_see_0 14 rfl rfl)
theorem dX2_see_17 : decode cX2_see 17 = .ok (.iconst (-1), 1) := dk_2 (dk_at dksX2_see_0 17 rfl rfl)
theorem dX2_see_18 : decode cX2_see 18 = .ok (.ireturn, 1) := dk_172 (dk_at dksX2_see_0 18 rfl rfl)
abbrev cX2_isSmall : ByteArray := prog_16_method_13_code
def yX2_isSmall : MethodName := ⟨RX2, "isSmall", "(I)Z"⟩
def dkwX2_isSmall_0 : List UInt8 := [26, 16, 97, 161, 0, 13, 26, 16, 122, 163, 0, 7, 4, 167, 0, 4, 3, 172]
abbrev dktX2_isSmall_0 : List UInt8 := dkwX2_isSmall_0 ++ []
theorem dksX2_isSmall_0 : cX2_isSmall.data.toList.drop 0 = dktX2_isSmall_0 := by decide +kernel
theorem dX2_isSmall_0 : decode cX2_isSmall 0 = .ok (.iload_n 0, 1) := dk_26 (dk_at dksX2_isSmall_0 0 rfl rfl)
theorem dX2_isSmall_1 : decode cX2_isSmall 1 = .ok (.bipush 97, 2) := dk_16 97 (dk_at dksX2_isSmall_0 1 rfl rfl)
theorem dX2_isSmall_3 : decode cX2_isSmall 3 = .ok (.if_icmp .lt 13, 3) := dk_161 0 13 (dk_at dksX2_isSmall_0 3 rfl rfl)
theorem dX2_isSmall_6 : decode cX2_isSmall 6 = .ok (.iload_n 0, 1) := dk_26 (dk_at dksX2_isSmall_0 6 rfl rfl)
theorem dX2_isSmall_7 : decode cX2_isSmall 7 = .ok (.bipush 122, 2) := dk_16 122 (dk_at dksX2_isSmall_0 7 rfl rfl)
theorem dX2_isSmall_9 : decode cX2_isSmall 9 = .ok (.if_icmp .gt 7, 3) := dk_163 0 7 (dk_at dksX2_isSmall_0 9 rfl rfl)
theorem dX2_isSmall_12 : decode cX2_isSmall 12 = .ok (.iconst 1, 1) := dk_4 (dk_at dksX2_isSmall_0 12 rfl rfl)
theorem dX2_isSmall_13 : decode cX2_isSmall 13 = .ok (.goto 4, 3) := dk_167 0 4 (dk_at dksX2_isSmall_0 13 rfl rfl)
theorem dX2_isSmall_16 : decode cX2_isSmall 16 = .ok (.iconst 0, 1) := dk_3 (dk_at dksX2_isSmall_0 16 rfl rfl)
theorem dX2_isSmall_17 : decode cX2_isSmall 17 = .ok (.ireturn, 1) := dk_172 (dk_at dksX2_isSmall_0 17 rfl rfl)
abbrev cX2_isDigit : ByteArray := prog_16_method_14_code
def yX2_isDigit : MethodName := ⟨RX2, "isDigit", "(I)Z"⟩
def dkwX2_isDigit_0 : List UInt8 := [26, 16, 48, 161, 0, 13, 26, 16, 57, 163, 0, 7, 4, 167, 0, 4, 3, 172]
abbrev dktX2_isDigit_0 : List UInt8 := dkwX2_isDigit_0 ++ []
theorem dksX2_isDigit_0 : cX2_isDigit.data.toList.drop 0 = dktX2_isDigit_0 := by decide +kernel
theorem dX2_isDigit_0 : decode cX2_isDigit 0 = .ok (.iload_n 0, 1) := dk_26 (dk_at dksX2_isDigit_0 0 rfl rfl)
theorem dX2_isDigit_1 : decode cX2_isDigit 1 = .ok (.bipush 48, 2) := dk_16 48 (dk_at dksX2_isDigit_0 1 rfl rfl)
theorem dX2_isDigit_3 : decode cX2_isDigit 3 = .ok (.if_icmp .lt 13, 3) := dk_161 0 13 (dk_at dksX2_isDigit_0 3 rfl rfl)
theorem dX2_isDigit_6 : decode cX2_isDigit 6 = .ok (.iload_n 0, 1) := dk_26 (dk_at dksX2_isDigit_0 6 rfl rfl)
theorem dX2_isDigit_7 : decode cX2_isDigit 7 = .ok (.bipush 57, 2) := dk_16 57 (dk_at dksX2_isDigit_0 7 rfl rfl)
theorem dX2_isDigit_9 : decode cX2_isDigit 9 = .ok (.if_icmp .gt 7, 3) := dk_163 0 7 (dk_at dksX2_isDigit_0 9 rfl rfl)
theorem dX2_isDigit_12 : decode cX2_isDigit 12 = .ok (.iconst 1, 1) := dk_4 (dk_at dksX2_isDigit_0 12 rfl rfl)
theorem dX2_isDigit_13 : decode cX2_isDigit 13 = .ok (.goto 4, 3) := dk_167 0 4 (dk_at dksX2_isDigit_0 13 rfl rfl)
theorem dX2_isDigit_16 : decode cX2_isDigit 16 = .ok (.iconst 0, 1) := dk_3 (dk_at dksX2_isDigit_0 16 rfl rfl)
theorem dX2_isDigit_17 : decode cX2_isDigit 17 = .ok (.ireturn, 1) := dk_172 (dk_at dksX2_isDigit_0 17 rfl rfl)
abbrev cX2_readLine : ByteArray := prog_16_method_30_code
def yX2_readLine : MethodName := ⟨RX2, "readLine", "()V"⟩
def dkwX2_readLine_7 : List UInt8 := [182, 0, 124, 177]
abbrev dktX2_readLine_7 : List UInt8 := dkwX2_readLine_7 ++ []
def dkwX2_readLine_6 : List UInt8 := [167, 0, 4, 3, 182, 0, 189, 153, 0, 10, 42, 182, 0, 205, 167, 0, 12, 42, 4, 42, 180, 0, 78]
abbrev dktX2_readLine_6 : List UInt8 := dkwX2_readLine_6 ++ dktX2_readLine_7
def dkwX2_readLine_5 : List UInt8 := [42, 182, 0, 202, 167, 0, 45, 42, 18, 138, 42, 180, 0, 23, 16, 6, 46, 16, 8, 162, 0, 7, 4]
abbrev dktX2_readLine_5 : List UInt8 := dkwX2_readLine_5 ++ dktX2_readLine_6
def dkwX2_readLine_4 : List UInt8 := [42, 18, 136, 42, 180, 0, 23, 8, 46, 7, 162, 0, 7, 4, 167, 0, 4, 3, 182, 0, 189, 153, 0, 10]
abbrev dktX2_readLine_4 : List UInt8 := dkwX2_readLine_4 ++ dktX2_readLine_5
def dkwX2_readLine_3 : List UInt8 := [46, 16, 10, 162, 0, 7, 4, 167, 0, 4, 3, 182, 0, 189, 153, 0, 10, 42, 182, 0, 199, 167, 0, 76]
abbrev dktX2_readLine_3 : List UInt8 := dkwX2_readLine_3 ++ dktX2_readLine_4
def dkwX2_readLine_2 : List UInt8 := [18, 132, 4, 182, 0, 189, 153, 0, 10, 42, 182, 0, 196, 167, 0, 108, 42, 18, 134, 42, 180, 0, 23, 7]
abbrev dktX2_readLine_2 : List UInt8 := dkwX2_readLine_2 ++ dktX2_readLine_3
def dkwX2_readLine_1 : List UInt8 := [46, 8, 162, 0, 7, 4, 167, 0, 4, 3, 182, 0, 189, 153, 0, 10, 42, 182, 0, 193, 167, 0, 125, 42]
abbrev dktX2_readLine_1 : List UInt8 := dkwX2_readLine_1 ++ dktX2_readLine_2
def dkwX2_readLine_0 : List UInt8 := [42, 18, 128, 182, 0, 114, 153, 0, 10, 42, 182, 0, 186, 167, 0, 156, 42, 18, 130, 42, 180, 0, 23, 5]
abbrev dktX2_readLine_0 : List UInt8 := dkwX2_readLine_0 ++ dktX2_readLine_1
theorem dksX2_readLine_0 : cX2_readLine.data.toList.drop 0 = dktX2_readLine_0 := by decide +kernel
theorem dksX2_readLine_1 : cX2_readLine.data.toList.drop 24 = dktX2_readLine_1 := dk_seg dksX2_readLine_0 24 rfl rfl
theorem dksX2_readLine_2 : cX2_readLine.data.toList.drop 48 = dktX2_readLine_2 := dk_seg dksX2_readLine_1 24 rfl rfl
theorem dksX2_readLine_3 : cX2_readLine.data.toList.drop 72 = dktX2_readLine_3 := dk_seg dksX2_readLine_2 24 rfl rfl
theorem dksX2_readLine_4 : cX2_readLine.data.toList.drop 96 = dktX2_readLine_4 := dk_seg dksX2_readLine_3 24 rfl rfl
theorem dksX2_readLine_5 : cX2_readLine.data.toList.drop 120 = dktX2_readLine_5 := dk_seg dksX2_readLine_4 24 rfl rfl
theorem dksX2_readLine_6 : cX2_readLine.data.toList.drop 143 = dktX2_readLine_6 := dk_seg dksX2_readLine_5 23 rfl rfl
theorem dksX2_readLine_7 : cX2_readLine.data.toList.drop 166 = dktX2_readLine_7 := dk_seg dksX2_readLine_6 23 rfl rfl
theorem dX2_readLine_0 : decode cX2_readLine 0 = .ok (.aload_n 0, 1) := dk_42 (dk_at dksX2_readLine_0 0 rfl rfl)
theorem dX2_readLine_1 : decode cX2_readLine 1 = .ok (.ldc 128, 2) := dk_18 128 (dk_at dksX2_readLine_0 1 rfl rfl)
theorem dX2_readLine_3 : decode cX2_readLine 3 = .ok (.invokevirtual 114, 3) := dk_182 0 114 (dk_at dksX2_readLine_0 3 rfl rfl)
theorem dX2_readLine_6 : decode cX2_readLine 6 = .ok (.ifCond .eq 10, 3) := dk_153 0 10 (dk_at dksX2_readLine_0 6 rfl rfl)
theorem dX2_readLine_9 : decode cX2_readLine 9 = .ok (.aload_n 0, 1) := dk_42 (dk_at dksX2_readLine_0 9 rfl rfl)
theorem dX2_readLine_10 : decode cX2_readLine 10 = .ok (.invokevirtual 186, 3) := dk_182 0 186 (dk_at dksX2_readLine_0 10 rfl rfl)
theorem dX2_readLine_13 : decode cX2_readLine 13 = .ok (.goto 156, 3) := dk_167 0 156 (dk_at dksX2_readLine_0 13 rfl rfl)
theorem dX2_readLine_16 : decode cX2_readLine 16 = .ok (.aload_n 0, 1) := dk_42 (dk_at dksX2_readLine_0 16 rfl rfl)
theorem dX2_readLine_17 : decode cX2_readLine 17 = .ok (.ldc 130, 2) := dk_18 130 (dk_at dksX2_readLine_0 17 rfl rfl)
theorem dX2_readLine_19 : decode cX2_readLine 19 = .ok (.aload_n 0, 1) := dk_42 (dk_at dksX2_readLine_0 19 rfl rfl)
theorem dX2_readLine_20 : decode cX2_readLine 20 = .ok (.getfield 23, 3) := dk_180 0 23 (dk_at dksX2_readLine_0 20 rfl rfl)
theorem dX2_readLine_23 : decode cX2_readLine 23 = .ok (.iconst 2, 1) := dk_5 (dk_at dksX2_readLine_0 23 rfl rfl)
theorem dX2_readLine_24 : decode cX2_readLine 24 = .ok (.iaload, 1) := dk_46 (dk_at dksX2_readLine_1 0 rfl rfl)
theorem dX2_readLine_25 : decode cX2_readLine 25 = .ok (.iconst 5, 1) := dk_8 (dk_at dksX2_readLine_1 1 rfl rfl)
theorem dX2_readLine_26 : decode cX2_readLine 26 = .ok (.if_icmp .ge 7, 3) := dk_162 0 7 (dk_at dksX2_readLine_1 2 rfl rfl)
theorem dX2_readLine_29 : decode cX2_readLine 29 = .ok (.iconst 1, 1) := dk_4 (dk_at dksX2_readLine_1 5 rfl rfl)
theorem dX2_readLine_30 : decode cX2_readLine 30 = .ok (.goto 4, 3) := dk_167 0 4 (dk_at dksX2_readLine_1 6 rfl rfl)
theorem dX2_readLine_33 : decode cX2_readLine 33 = .ok (.iconst 0, 1) := dk_3 (dk_at dksX2_readLine_1 9 rfl rfl)
theorem dX2_readLine_34 : decode cX2_readLine 34 = .ok (.invokevirtual 189, 3) := dk_182 0 189 (dk_at dksX2_readLine_1 10 rfl rfl)
theorem dX2_readLine_37 : decode cX2_readLine 37 = .ok (.ifCond .eq 10, 3) := dk_153 0 10 (dk_at dksX2_readLine_1 13 rfl rfl)
theorem dX2_readLine_40 : decode cX2_readLine 40 = .ok (.aload_n 0, 1) := dk_42 (dk_at dksX2_readLine_1 16 rfl rfl)
theorem dX2_readLine_41 : decode cX2_readLine 41 = .ok (.invokevirtual 193, 3) := dk_182 0 193 (dk_at dksX2_readLine_1 17 rfl rfl)
theorem dX2_readLine_44 : decode cX2_readLine 44 = .ok (.goto 125, 3) := dk_167 0 125 (dk_at dksX2_readLine_1 20 rfl rfl)
theorem dX2_readLine_47 : decode cX2_readLine 47 = .ok (.aload_n 0, 1) := dk_42 (dk_at dksX2_readLine_1 23 rfl rfl)
theorem dX2_readLine_48 : decode cX2_readLine 48 = .ok (.ldc 132, 2) := dk_18 132 (dk_at dksX2_readLine_2 0 rfl rfl)
theorem dX2_readLine_50 : decode cX2_readLine 50 = .ok (.iconst 1, 1) := dk_4 (dk_at dksX2_readLine_2 2 rfl rfl)
theorem dX2_readLine_51 : decode cX2_readLine 51 = .ok (.invokevirtual 189, 3) := dk_182 0 189 (dk_at dksX2_readLine_2 3 rfl rfl)
theorem dX2_readLine_54 : decode cX2_readLine 54 = .ok (.ifCond .eq 10, 3) := dk_153 0 10 (dk_at dksX2_readLine_2 6 rfl rfl)
theorem dX2_readLine_57 : decode cX2_readLine 57 = .ok (.aload_n 0, 1) := dk_42 (dk_at dksX2_readLine_2 9 rfl rfl)
theorem dX2_readLine_58 : decode cX2_readLine 58 = .ok (.invokevirtual 196, 3) := dk_182 0 196 (dk_at dksX2_readLine_2 10 rfl rfl)
theorem dX2_readLine_61 : decode cX2_readLine 61 = .ok (.goto 108, 3) := dk_167 0 108 (dk_at dksX2_readLine_2 13 rfl rfl)
theorem dX2_readLine_64 : decode cX2_readLine 64 = .ok (.aload_n 0, 1) := dk_42 (dk_at dksX2_readLine_2 16 rfl rfl)
theorem dX2_readLine_65 : decode cX2_readLine 65 = .ok (.ldc 134, 2) := dk_18 134 (dk_at dksX2_readLine_2 17 rfl rfl)
theorem dX2_readLine_67 : decode cX2_readLine 67 = .ok (.aload_n 0, 1) := dk_42 (dk_at dksX2_readLine_2 19 rfl rfl)
theorem dX2_readLine_68 : decode cX2_readLine 68 = .ok (.getfield 23, 3) := dk_180 0 23 (dk_at dksX2_readLine_2 20 rfl rfl)
theorem dX2_readLine_71 : decode cX2_readLine 71 = .ok (.iconst 4, 1) := dk_7 (dk_at dksX2_readLine_2 23 rfl rfl)
theorem dX2_readLine_72 : decode cX2_readLine 72 = .ok (.iaload, 1) := dk_46 (dk_at dksX2_readLine_3 0 rfl rfl)
theorem dX2_readLine_73 : decode cX2_readLine 73 = .ok (.bipush 10, 2) := dk_16 10 (dk_at dksX2_readLine_3 1 rfl rfl)
theorem dX2_readLine_75 : decode cX2_readLine 75 = .ok (.if_icmp .ge 7, 3) := dk_162 0 7 (dk_at dksX2_readLine_3 3 rfl rfl)
theorem dX2_readLine_78 : decode cX2_readLine 78 = .ok (.iconst 1, 1) := dk_4 (dk_at dksX2_readLine_3 6 rfl rfl)
theorem dX2_readLine_79 : decode cX2_readLine 79 = .ok (.goto 4, 3) := dk_167 0 4 (dk_at dksX2_readLine_3 7 rfl rfl)
theorem dX2_readLine_82 : decode cX2_readLine 82 = .ok (.iconst 0, 1) := dk_3 (dk_at dksX2_readLine_3 10 rfl rfl)
theorem dX2_readLine_83 : decode cX2_readLine 83 = .ok (.invokevirtual 189, 3) := dk_182 0 189 (dk_at dksX2_readLine_3 11 rfl rfl)
theorem dX2_readLine_86 : decode cX2_readLine 86 = .ok (.ifCond .eq 10, 3) := dk_153 0 10 (dk_at dksX2_readLine_3 14 rfl rfl)
theorem dX2_readLine_89 : decode cX2_readLine 89 = .ok (.aload_n 0, 1) := dk_42 (dk_at dksX2_readLine_3 17 rfl rfl)
theorem dX2_readLine_90 : decode cX2_readLine 90 = .ok (.invokevirtual 199, 3) := dk_182 0 199 (dk_at dksX2_readLine_3 18 rfl rfl)
theorem dX2_readLine_93 : decode cX2_readLine 93 = .ok (.goto 76, 3) := dk_167 0 76 (dk_at dksX2_readLine_3 21 rfl rfl)
theorem dX2_readLine_96 : decode cX2_readLine 96 = .ok (.aload_n 0, 1) := dk_42 (dk_at dksX2_readLine_4 0 rfl rfl)
theorem dX2_readLine_97 : decode cX2_readLine 97 = .ok (.ldc 136, 2) := dk_18 136 (dk_at dksX2_readLine_4 1 rfl rfl)
theorem dX2_readLine_99 : decode cX2_readLine 99 = .ok (.aload_n 0, 1) := dk_42 (dk_at dksX2_readLine_4 3 rfl rfl)
theorem dX2_readLine_100 : decode cX2_readLine 100 = .ok (.getfield 23, 3) := dk_180 0 23 (dk_at dksX2_readLine_4 4 rfl rfl)
theorem dX2_readLine_103 : decode cX2_readLine 103 = .ok (.iconst 5, 1) := dk_8 (dk_at dksX2_readLine_4 7 rfl rfl)
theorem dX2_readLine_104 : decode cX2_readLine 104 = .ok (.iaload, 1) := dk_46 (dk_at dksX2_readLine_4 8 rfl rfl)
theorem dX2_readLine_105 : decode cX2_readLine 105 = .ok (.iconst 4, 1) := dk_7 (dk_at dksX2_readLine_4 9 rfl rfl)
theorem dX2_readLine_106 : decode cX2_readLine 106 = .ok (.if_icmp .ge 7, 3) := dk_162 0 7 (dk_at dksX2_readLine_4 10 rfl rfl)
theorem dX2_readLine_109 : decode cX2_readLine 109 = .ok (.iconst 1, 1) := dk_4 (dk_at dksX2_readLine_4 13 rfl rfl)
theorem dX2_readLine_110 : decode cX2_readLine 110 = .ok (.goto 4, 3) := dk_167 0 4 (dk_at dksX2_readLine_4 14 rfl rfl)
theorem dX2_readLine_113 : decode cX2_readLine 113 = .ok (.iconst 0, 1) := dk_3 (dk_at dksX2_readLine_4 17 rfl rfl)
theorem dX2_readLine_114 : decode cX2_readLine 114 = .ok (.invokevirtual 189, 3) := dk_182 0 189 (dk_at dksX2_readLine_4 18 rfl rfl)
theorem dX2_readLine_117 : decode cX2_readLine 117 = .ok (.ifCond .eq 10, 3) := dk_153 0 10 (dk_at dksX2_readLine_4 21 rfl rfl)
theorem dX2_readLine_120 : decode cX2_readLine 120 = .ok (.aload_n 0, 1) := dk_42 (dk_at dksX2_readLine_5 0 rfl rfl)
theorem dX2_readLine_121 : decode cX2_readLine 121 = .ok (.invokevirtual 202, 3) := dk_182 0 202 (dk_at dksX2_readLine_5 1 rfl rfl)
theorem dX2_readLine_124 : decode cX2_readLine 124 = .ok (.goto 45, 3) := dk_167 0 45 (dk_at dksX2_readLine_5 4 rfl rfl)
theorem dX2_readLine_127 : decode cX2_readLine 127 = .ok (.aload_n 0, 1) := dk_42 (dk_at dksX2_readLine_5 7 rfl rfl)
theorem dX2_readLine_128 : decode cX2_readLine 128 = .ok (.ldc 138, 2) := dk_18 138 (dk_at dksX2_readLine_5 8 rfl rfl)
theorem dX2_readLine_130 : decode cX2_readLine 130 = .ok (.aload_n 0, 1) := dk_42 (dk_at dksX2_readLine_5 10 rfl rfl)
theorem dX2_readLine_131 : decode cX2_readLine 131 = .ok (.getfield 23, 3) := dk_180 0 23 (dk_at dksX2_readLine_5 11 rfl rfl)
theorem dX2_readLine_134 : decode cX2_readLine 134 = .ok (.bipush 6, 2) := dk_16 6 (dk_at dksX2_readLine_5 14 rfl rfl)
theorem dX2_readLine_136 : decode cX2_readLine 136 = .ok (.iaload, 1) := dk_46 (dk_at dksX2_readLine_5 16 rfl rfl)
theorem dX2_readLine_137 : decode cX2_readLine 137 = .ok (.bipush 8, 2) := dk_16 8 (dk_at dksX2_readLine_5 17 rfl rfl)
theorem dX2_readLine_139 : decode cX2_readLine 139 = .ok (.if_icmp .ge 7, 3) := dk_162 0 7 (dk_at dksX2_readLine_5 19 rfl rfl)
theorem dX2_readLine_142 : decode cX2_readLine 142 = .ok (.iconst 1, 1) := dk_4 (dk_at dksX2_readLine_5 22 rfl rfl)
theorem dX2_readLine_143 : decode cX2_readLine 143 = .ok (.goto 4, 3) := dk_167 0 4 (dk_at dksX2_readLine_6 0 rfl rfl)
theorem dX2_readLine_146 : decode cX2_readLine 146 = .ok (.iconst 0, 1) := dk_3 (dk_at dksX2_readLine_6 3 rfl rfl)
theorem dX2_readLine_147 : decode cX2_readLine 147 = .ok (.invokevirtual 189, 3) := dk_182 0 189 (dk_at dksX2_readLine_6 4 rfl rfl)
theorem dX2_readLine_150 : decode cX2_readLine 150 = .ok (.ifCond .eq 10, 3) := dk_153 0 10 (dk_at dksX2_readLine_6 7 rfl rfl)
theorem dX2_readLine_153 : decode cX2_readLine 153 = .ok (.aload_n 0, 1) := dk_42 (dk_at dksX2_readLine_6 10 rfl rfl)
theorem dX2_readLine_154 : decode cX2_readLine 154 = .ok (.invokevirtual 205, 3) := dk_182 0 205 (dk_at dksX2_readLine_6 11 rfl rfl)
theorem dX2_readLine_157 : decode cX2_readLine 157 = .ok (.goto 12, 3) := dk_167 0 12 (dk_at dksX2_readLine_6 14 rfl rfl)
theorem dX2_readLine_160 : decode cX2_readLine 160 = .ok (.aload_n 0, 1) := dk_42 (dk_at dksX2_readLine_6 17 rfl rfl)
theorem dX2_readLine_161 : decode cX2_readLine 161 = .ok (.iconst 1, 1) := dk_4 (dk_at dksX2_readLine_6 18 rfl rfl)
theorem dX2_readLine_162 : decode cX2_readLine 162 = .ok (.aload_n 0, 1) := dk_42 (dk_at dksX2_readLine_6 19 rfl rfl)
theorem dX2_readLine_163 : decode cX2_readLine 163 = .ok (.getfield 78, 3) := dk_180 0 78 (dk_at dksX2_readLine_6 20 rfl rfl)
theorem dX2_readLine_166 : decode cX2_readLine 166 = .ok (.invokevirtual 124, 3) := dk_182 0 124 (dk_at dksX2_readLine_7 0 rfl rfl)
theorem dX2_readLine_169 : decode cX2_readLine 169 = .ok (.return_, 1) := dk_177 (dk_at dksX2_readLine_7 3 rfl rfl)
abbrev cX2_isWord : ByteArray := prog_16_method_17_code
def yX2_isWord : MethodName := ⟨RX2, "isWord", "(Ljava/lang/String;)Z"⟩
def dkwX2_isWord_3 : List UInt8 := [167, 255, 221, 28, 172]
abbrev dktX2_isWord_3 : List UInt8 := dkwX2_isWord_3 ++ []
def dkwX2_isWord_2 : List UInt8 := [180, 0, 17, 29, 46, 43, 29, 182, 0, 110, 160, 0, 7, 4, 167, 0, 4, 3, 61, 132, 3, 1]
abbrev dktX2_isWord_2 : List UInt8 := dkwX2_isWord_2 ++ dktX2_isWord_3
def dkwX2_isWord_1 : List UInt8 := [159, 0, 5, 3, 172, 4, 61, 3, 62, 29, 42, 180, 0, 81, 162, 0, 33, 28, 153, 0, 21, 42]
abbrev dktX2_isWord_1 : List UInt8 := dkwX2_isWord_1 ++ dktX2_isWord_2
def dkwX2_isWord_0 : List UInt8 := [42, 180, 0, 97, 154, 0, 22, 42, 180, 0, 87, 5, 160, 0, 14, 42, 180, 0, 81, 43, 182, 0, 104]
abbrev dktX2_isWord_0 : List UInt8 := dkwX2_isWord_0 ++ dktX2_isWord_1
theorem dksX2_isWord_0 : cX2_isWord.data.toList.drop 0 = dktX2_isWord_0 := by decide +kernel
theorem dksX2_isWord_1 : cX2_isWord.data.toList.drop 23 = dktX2_isWord_1 := dk_seg dksX2_isWord_0 23 rfl rfl
theorem dksX2_isWord_2 : cX2_isWord.data.toList.drop 45 = dktX2_isWord_2 := dk_seg dksX2_isWord_1 22 rfl rfl
theorem dksX2_isWord_3 : cX2_isWord.data.toList.drop 67 = dktX2_isWord_3 := dk_seg dksX2_isWord_2 22 rfl rfl
theorem dX2_isWord_0 : decode cX2_isWord 0 = .ok (.aload_n 0, 1) := dk_42 (dk_at dksX2_isWord_0 0 rfl rfl)
theorem dX2_isWord_1 : decode cX2_isWord 1 = .ok (.getfield 97, 3) := dk_180 0 97 (dk_at dksX2_isWord_0 1 rfl rfl)
theorem dX2_isWord_4 : decode cX2_isWord 4 = .ok (.ifCond .ne 22, 3) := dk_154 0 22 (dk_at dksX2_isWord_0 4 rfl rfl)
theorem dX2_isWord_7 : decode cX2_isWord 7 = .ok (.aload_n 0, 1) := dk_42 (dk_at dksX2_isWord_0 7 rfl rfl)
theorem dX2_isWord_8 : decode cX2_isWord 8 = .ok (.getfield 87, 3) := dk_180 0 87 (dk_at dksX2_isWord_0 8 rfl rfl)
theorem dX2_isWord_11 : decode cX2_isWord 11 = .ok (.iconst 2, 1) := dk_5 (dk_at dksX2_isWord_0 11 rfl rfl)
theorem dX2_isWord_12 : decode cX2_isWord 12 = .ok (.if_icmp .ne 14, 3) := dk_160 0 14 (dk_at dksX2_isWord_0 12 rfl rfl)
theorem dX2_isWord_15 : decode cX2_isWord 15 = .ok (.aload_n 0, 1) := dk_42 (dk_at dksX2_isWord_0 15 rfl rfl)
theorem dX2_isWord_16 : decode cX2_isWord 16 = .ok (.getfield 81, 3) := dk_180 0 81 (dk_at dksX2_isWord_0 16 rfl rfl)
theorem dX2_isWord_19 : decode cX2_isWord 19 = .ok (.aload_n 1, 1) := dk_43 (dk_at dksX2_isWord_0 19 rfl rfl)
theorem dX2_isWord_20 : decode cX2_isWord 20 = .ok (.invokevirtual 104, 3) := dk_182 0 104 (dk_at dksX2_isWord_0 20 rfl rfl)
theorem dX2_isWord_23 : decode cX2_isWord 23 = .ok (.if_icmp .eq 5, 3) := dk_159 0 5 (dk_at dksX2_isWord_1 0 rfl rfl)
theorem dX2_isWord_26 : decode cX2_isWord 26 = .ok (.iconst 0, 1) := dk_3 (dk_at dksX2_isWord_1 3 rfl rfl)
theorem dX2_isWord_27 : decode cX2_isWord 27 = .ok (.ireturn, 1) := dk_172 (dk_at dksX2_isWord_1 4 rfl rfl)
theorem dX2_isWord_28 : decode cX2_isWord 28 = .ok (.iconst 1, 1) := dk_4 (dk_at dksX2_isWord_1 5 rfl rfl)
theorem dX2_isWord_29 : decode cX2_isWord 29 = .ok (.istore_n 2, 1) := dk_61 (dk_at dksX2_isWord_1 6 rfl rfl)
theorem dX2_isWord_30 : decode cX2_isWord 30 = .ok (.iconst 0, 1) := dk_3 (dk_at dksX2_isWord_1 7 rfl rfl)
theorem dX2_isWord_31 : decode cX2_isWord 31 = .ok (.istore_n 3, 1) := dk_62 (dk_at dksX2_isWord_1 8 rfl rfl)
theorem dX2_isWord_32 : decode cX2_isWord 32 = .ok (.iload_n 3, 1) := dk_29 (dk_at dksX2_isWord_1 9 rfl rfl)
theorem dX2_isWord_33 : decode cX2_isWord 33 = .ok (.aload_n 0, 1) := dk_42 (dk_at dksX2_isWord_1 10 rfl rfl)
theorem dX2_isWord_34 : decode cX2_isWord 34 = .ok (.getfield 81, 3) := dk_180 0 81 (dk_at dksX2_isWord_1 11 rfl rfl)
theorem dX2_isWord_37 : decode cX2_isWord 37 = .ok (.if_icmp .ge 33, 3) := dk_162 0 33 (dk_at dksX2_isWord_1 14 rfl rfl)
theorem dX2_isWord_40 : decode cX2_isWord 40 = .ok (.iload_n 2, 1) := dk_28 (dk_at dksX2_isWord_1 17 rfl rfl)
theorem dX2_isWord_41 : decode cX2_isWord 41 = .ok (.ifCond .eq 21, 3) := dk_153 0 21 (dk_at dksX2_isWord_1 18 rfl rfl)
theorem dX2_isWord_44 : decode cX2_isWord 44 = .ok (.aload_n 0, 1) := dk_42 (dk_at dksX2_isWord_1 21 rfl rfl)
theorem dX2_isWord_45 : decode cX2_isWord 45 = .ok (.getfield 17, 3) := dk_180 0 17 (dk_at dksX2_isWord_2 0 rfl rfl)
theorem dX2_isWord_48 : decode cX2_isWord 48 = .ok (.iload_n 3, 1) := dk_29 (dk_at dksX2_isWord_2 3 rfl rfl)
theorem dX2_isWord_49 : decode cX2_isWord 49 = .ok (.iaload, 1) := dk_46 (dk_at dksX2_isWord_2 4 rfl rfl)
theorem dX2_isWord_50 : decode cX2_isWord 50 = .ok (.aload_n 1, 1) := dk_43 (dk_at dksX2_isWord_2 5 rfl rfl)
theorem dX2_isWord_51 : decode cX2_isWord 51 = .ok (.iload_n 3, 1) := dk_29 (dk_at dksX2_isWord_2 6 rfl rfl)
theorem dX2_isWord_52 : decode cX2_isWord 52 = .ok (.invokevirtual 110, 3) := dk_182 0 110 (dk_at dksX2_isWord_2 7 rfl rfl)
theorem dX2_isWord_55 : decode cX2_isWord 55 = .ok (.if_icmp .ne 7, 3) := dk_160 0 7 (dk_at dksX2_isWord_2 10 rfl rfl)
theorem dX2_isWord_58 : decode cX2_isWord 58 = .ok (.iconst 1, 1) := dk_4 (dk_at dksX2_isWord_2 13 rfl rfl)
theorem dX2_isWord_59 : decode cX2_isWord 59 = .ok (.goto 4, 3) := dk_167 0 4 (dk_at dksX2_isWord_2 14 rfl rfl)
theorem dX2_isWord_62 : decode cX2_isWord 62 = .ok (.iconst 0, 1) := dk_3 (dk_at dksX2_isWord_2 17 rfl rfl)
theorem dX2_isWord_63 : decode cX2_isWord 63 = .ok (.istore_n 2, 1) := dk_61 (dk_at dksX2_isWord_2 18 rfl rfl)
theorem dX2_isWord_64 : decode cX2_isWord 64 = .ok (.iinc 3 1, 3) := dk_132 3 1 (dk_at dksX2_isWord_2 19 rfl rfl)
theorem dX2_isWord_67 : decode cX2_isWord 67 = .ok (.goto (-35), 3) := dk_167 255 221 (dk_at dksX2_isWord_3 0 rfl rfl)
theorem dX2_isWord_70 : decode cX2_isWord 70 = .ok (.iload_n 2, 1) := dk_28 (dk_at dksX2_isWord_3 3 rfl rfl)
theorem dX2_isWord_71 : decode cX2_isWord 71 = .ok (.ireturn, 1) := dk_172 (dk_at dksX2_isWord_3 4 rfl rfl)
abbrev cX2_pierLine : ByteArray := prog_16_method_31_code
def yX2_pierLine : MethodName := ⟨RX2, "pierLine", "()V"⟩
def dkwX2_pierLine_3 : List UInt8 := [180, 0, 23, 16, 7, 4, 79, 177]
abbrev dktX2_pierLine_3 : List UInt8 := dkwX2_pierLine_3 ++ []
def dkwX2_pierLine_2 : List UInt8 := [180, 0, 23, 4, 42, 18, 214, 3, 16, 100, 182, 0, 210, 79, 42, 180, 0, 97, 154, 0, 11, 42]
abbrev dktX2_pierLine_2 : List UInt8 := dkwX2_pierLine_2 ++ dktX2_pierLine_3
def dkwX2_pierLine_1 : List UInt8 := [153, 0, 4, 177, 42, 182, 0, 118, 42, 180, 0, 23, 3, 42, 18, 208, 5, 16, 99, 182, 0, 210, 79, 42]
abbrev dktX2_pierLine_1 : List UInt8 := dkwX2_pierLine_1 ++ dktX2_pierLine_2
def dkwX2_pierLine_0 : List UInt8 := [42, 180, 0, 23, 16, 7, 46, 158, 0, 12, 42, 6, 42, 180, 0, 78, 182, 0, 124, 42, 180, 0, 97]
abbrev dktX2_pierLine_0 : List UInt8 := dkwX2_pierLine_0 ++ dktX2_pierLine_1
theorem dksX2_pierLine_0 : cX2_pierLine.data.toList.drop 0 = dktX2_pierLine_0 := by decide +kernel
theorem dksX2_pierLine_1 : cX2_pierLine.data.toList.drop 23 = dktX2_pierLine_1 := dk_seg dksX2_pierLine_0 23 rfl rfl
theorem dksX2_pierLine_2 : cX2_pierLine.data.toList.drop 47 = dktX2_pierLine_2 := dk_seg dksX2_pierLine_1 24 rfl rfl
theorem dksX2_pierLine_3 : cX2_pierLine.data.toList.drop 69 = dktX2_pierLine_3 := dk_seg dksX2_pierLine_2 22 rfl rfl
theorem dX2_pierLine_0 : decode cX2_pierLine 0 = .ok (.aload_n 0, 1) := dk_42 (dk_at dksX2_pierLine_0 0 rfl rfl)
theorem dX2_pierLine_1 : decode cX2_pierLine 1 = .ok (.getfield 23, 3) := dk_180 0 23 (dk_at dksX2_pierLine_0 1 rfl rfl)
theorem dX2_pierLine_4 : decode cX2_pierLine 4 = .ok (.bipush 7, 2) := dk_16 7 (dk_at dksX2_pierLine_0 4 rfl rfl)
theorem dX2_pierLine_6 : decode cX2_pierLine 6 = .ok (.iaload, 1) := dk_46 (dk_at dksX2_pierLine_0 6 rfl rfl)
theorem dX2_pierLine_7 : decode cX2_pierLine 7 = .ok (.ifCond .le 12, 3) := dk_158 0 12 (dk_at dksX2_pierLine_0 7 rfl rfl)
theorem dX2_pierLine_10 : decode cX2_pierLine 10 = .ok (.aload_n 0, 1) := dk_42 (dk_at dksX2_pierLine_0 10 rfl rfl)
theorem dX2_pierLine_11 : decode cX2_pierLine 11 = .ok (.iconst 3, 1) := dk_6 (dk_at dksX2_pierLine_0 11 rfl rfl)
theorem dX2_pierLine_12 : decode cX2_pierLine 12 = .ok (.aload_n 0, 1) := dk_42 (dk_at dksX2_pierLine_0 12 rfl rfl)
theorem dX2_pierLine_13 : decode cX2_pierLine 13 = .ok (.getfield 78, 3) := dk_180 0 78 (dk_at dksX2_pierLine_0 13 rfl rfl)
theorem dX2_pierLine_16 : decode cX2_pierLine 16 = .ok (.invokevirtual 124, 3) := dk_182 0 124 (dk_at dksX2_pierLine_0 16 rfl rfl)
theorem dX2_pierLine_19 : decode cX2_pierLine 19 = .ok (.aload_n 0, 1) := dk_42 (dk_at dksX2_pierLine_0 19 rfl rfl)
theorem dX2_pierLine_20 : decode cX2_pierLine 20 = .ok (.getfield 97, 3) := dk_180 0 97 (dk_at dksX2_pierLine_0 20 rfl rfl)
theorem dX2_pierLine_23 : decode cX2_pierLine 23 = .ok (.ifCond .eq 4, 3) := dk_153 0 4 (dk_at dksX2_pierLine_1 0 rfl rfl)
theorem dX2_pierLine_26 : decode cX2_pierLine 26 = .ok (.return_, 1) := dk_177 (dk_at dksX2_pierLine_1 3 rfl rfl)
theorem dX2_pierLine_27 : decode cX2_pierLine 27 = .ok (.aload_n 0, 1) := dk_42 (dk_at dksX2_pierLine_1 4 rfl rfl)
theorem dX2_pierLine_28 : decode cX2_pierLine 28 = .ok (.invokevirtual 118, 3) := dk_182 0 118 (dk_at dksX2_pierLine_1 5 rfl rfl)
theorem dX2_pierLine_31 : decode cX2_pierLine 31 = .ok (.aload_n 0, 1) := dk_42 (dk_at dksX2_pierLine_1 8 rfl rfl)
theorem dX2_pierLine_32 : decode cX2_pierLine 32 = .ok (.getfield 23, 3) := dk_180 0 23 (dk_at dksX2_pierLine_1 9 rfl rfl)
theorem dX2_pierLine_35 : decode cX2_pierLine 35 = .ok (.iconst 0, 1) := dk_3 (dk_at dksX2_pierLine_1 12 rfl rfl)
theorem dX2_pierLine_36 : decode cX2_pierLine 36 = .ok (.aload_n 0, 1) := dk_42 (dk_at dksX2_pierLine_1 13 rfl rfl)
theorem dX2_pierLine_37 : decode cX2_pierLine 37 = .ok (.ldc 208, 2) := dk_18 208 (dk_at dksX2_pierLine_1 14 rfl rfl)
theorem dX2_pierLine_39 : decode cX2_pierLine 39 = .ok (.iconst 2, 1) := dk_5 (dk_at dksX2_pierLine_1 16 rfl rfl)
theorem dX2_pierLine_40 : decode cX2_pierLine 40 = .ok (.bipush 99, 2) := dk_16 99 (dk_at dksX2_pierLine_1 17 rfl rfl)
theorem dX2_pierLine_42 : decode cX2_pierLine 42 = .ok (.invokevirtual 210, 3) := dk_182 0 210 (dk_at dksX2_pierLine_1 19 rfl rfl)
theorem dX2_pierLine_45 : decode cX2_pierLine 45 = .ok (.iastore, 1) := dk_79 (dk_at dksX2_pierLine_1 22 rfl rfl)
theorem dX2_pierLine_46 : decode cX2_pierLine 46 = .ok (.aload_n 0, 1) := dk_42 (dk_at dksX2_pierLine_1 23 rfl rfl)
theorem dX2_pierLine_47 : decode cX2_pierLine 47 = .ok (.getfield 23, 3) := dk_180 0 23 (dk_at dksX2_pierLine_2 0 rfl rfl)
theorem dX2_pierLine_50 : decode cX2_pierLine 50 = .ok (.iconst 1, 1) := dk_4 (dk_at dksX2_pierLine_2 3 rfl rfl)
theorem dX2_pierLine_51 : decode cX2_pierLine 51 = .ok (.aload_n 0, 1) := dk_42 (dk_at dksX2_pierLine_2 4 rfl rfl)
theorem dX2_pierLine_52 : decode cX2_pierLine 52 = .ok (.ldc 214, 2) := dk_18 214 (dk_at dksX2_pierLine_2 5 rfl rfl)
theorem dX2_pierLine_54 : decode cX2_pierLine 54 = .ok (.iconst 0, 1) := dk_3 (dk_at dksX2_pierLine_2 7 rfl rfl)
theorem dX2_pierLine_55 : decode cX2_pierLine 55 = .ok (.bipush 100, 2) := dk_16 100 (dk_at dksX2_pierLine_2 8 rfl rfl)
theorem dX2_pierLine_57 : decode cX2_pierLine 57 = .ok (.invokevirtual 210, 3) := dk_182 0 210 (dk_at dksX2_pierLine_2 10 rfl rfl)
theorem dX2_pierLine_60 : decode cX2_pierLine 60 = .ok (.iastore, 1) := dk_79 (dk_at dksX2_pierLine_2 13 rfl rfl)
theorem dX2_pierLine_61 : decode cX2_pierLine 61 = .ok (.aload_n 0, 1) := dk_42 (dk_at dksX2_pierLine_2 14 rfl rfl)
theorem dX2_pierLine_62 : decode cX2_pierLine 62 = .ok (.getfield 97, 3) := dk_180 0 97 (dk_at dksX2_pierLine_2 15 rfl rfl)
theorem dX2_pierLine_65 : decode cX2_pierLine 65 = .ok (.ifCond .ne 11, 3) := dk_154 0 11 (dk_at dksX2_pierLine_2 18 rfl rfl)
theorem dX2_pierLine_68 : decode cX2_pierLine 68 = .ok (.aload_n 0, 1) := dk_42 (dk_at dksX2_pierLine_2 21 rfl rfl)
theorem dX2_pierLine_69 : decode cX2_pierLine 69 = .ok (.getfield 23, 3) := dk_180 0 23 (dk_at dksX2_pierLine_3 0 rfl rfl)
theorem dX2_pierLine_72 : decode cX2_pierLine 72 = .ok (.bipush 7, 2) := dk_16 7 (dk_at dksX2_pierLine_3 3 rfl rfl)
theorem dX2_pierLine_74 : decode cX2_pierLine 74 = .ok (.iconst 1, 1) := dk_4 (dk_at dksX2_pierLine_3 5 rfl rfl)
theorem dX2_pierLine_75 : decode cX2_pierLine 75 = .ok (.iastore, 1) := dk_79 (dk_at dksX2_pierLine_3 6 rfl rfl)
theorem dX2_pierLine_76 : decode cX2_pierLine 76 = .ok (.return_, 1) := dk_177 (dk_at dksX2_pierLine_3 7 rfl rfl)
abbrev cX2_wrong : ByteArray := prog_16_method_16_code
def yX2_wrong : MethodName := ⟨RX2, "wrong", "(II)V"⟩
def dkwX2_wrong_0 : List UInt8 := [42, 180, 0, 97, 153, 0, 4, 177, 42, 4, 181, 0, 97, 42, 27, 181, 0, 101, 42, 28, 181, 0, 13, 177]
abbrev dktX2_wrong_0 : List UInt8 := dkwX2_wrong_0 ++ []
theorem dksX2_wrong_0 : cX2_wrong.data.toList.drop 0 = dktX2_wrong_0 := by decide +kernel
theorem dX2_wrong_0 : decode cX2_wrong 0 = .ok (.aload_n 0, 1) := dk_42 (dk_at dksX2_wrong_0 0 rfl rfl)
theorem dX2_wrong_1 : decode cX2_wrong 1 = .ok (.getfield 97, 3) := dk_180 0 97 (dk_at dksX2_wrong_0 1 rfl rfl)
theorem dX2_wrong_4 : decode cX2_wrong 4 = .ok (.ifCond .eq 4, 3) := dk_153 0 4 (dk_at dksX2_wrong_0 4 rfl rfl)
theorem dX2_wrong_7 : decode cX2_wrong 7 = .ok (.return_, 1) := dk_177 (dk_at dksX2_wrong_0 7 rfl rfl)
theorem dX2_wrong_8 : decode cX2_wrong 8 = .ok (.aload_n 0, 1) := dk_42 (dk_at dksX2_wrong_0 8 rfl rfl)
theorem dX2_wrong_9 : decode cX2_wrong 9 = .ok (.iconst 1, 1) := dk_4 (dk_at dksX2_wrong_0 9 rfl rfl)
theorem dX2_wrong_10 : decode cX2_wrong 10 = .ok (.putfield 97, 3) := dk_181 0 97 (dk_at dksX2_wrong_0 10 rfl rfl)
theorem dX2_wrong_13 : decode cX2_wrong 13 = .ok (.aload_n 0, 1) := dk_42 (dk_at dksX2_wrong_0 13 rfl rfl)
theorem dX2_wrong_14 : decode cX2_wrong 14 = .ok (.iload_n 1, 1) := dk_27 (dk_at dksX2_wrong_0 14 rfl rfl)
theorem dX2_wrong_15 : decode cX2_wrong 15 = .ok (.putfield 101, 3) := dk_181 0 101 (dk_at dksX2_wrong_0 15 rfl rfl)
theorem dX2_wrong_18 : decode cX2_wrong 18 = .ok (.aload_n 0, 1) := dk_42 (dk_at dksX2_wrong_0 18 rfl rfl)
theorem dX2_wrong_19 : decode cX2_wrong 19 = .ok (.iload_n 2, 1) := dk_28 (dk_at dksX2_wrong_0 19 rfl rfl)
theorem dX2_wrong_20 : decode cX2_wrong 20 = .ok (.putfield 13, 3) := dk_181 0 13 (dk_at dksX2_wrong_0 20 rfl rfl)
theorem dX2_wrong_23 : decode cX2_wrong 23 = .ok (.return_, 1) := dk_177 (dk_at dksX2_wrong_0 23 rfl rfl)
abbrev cX2_after : ByteArray := prog_16_method_27_code
def yX2_after : MethodName := ⟨RX2, "after", "(Ljava/lang/String;II)I"⟩
def dkwX2_after_0 : List UInt8 := [42, 43, 182, 0, 157, 42, 28, 29, 182, 0, 161, 172]
abbrev dktX2_after_0 : List UInt8 := dkwX2_after_0 ++ []
theorem dksX2_after_0 : cX2_after.data.toList.drop 0 = dktX2_after_0 := by decide +kernel
theorem dX2_after_0 : decode cX2_after 0 = .ok (.aload_n 0, 1) := dk_42 (dk_at dksX2_after_0 0 rfl rfl)
theorem dX2_after_1 : decode cX2_after 1 = .ok (.aload_n 1, 1) := dk_43 (dk_at dksX2_after_0 1 rfl rfl)
theorem dX2_after_2 : decode cX2_after 2 = .ok (.invokevirtual 157, 3) := dk_182 0 157 (dk_at dksX2_after_0 2 rfl rfl)
theorem dX2_after_5 : decode cX2_after 5 = .ok (.aload_n 0, 1) := dk_42 (dk_at dksX2_after_0 5 rfl rfl)
theorem dX2_after_6 : decode cX2_after 6 = .ok (.iload_n 2, 1) := dk_28 (dk_at dksX2_after_0 6 rfl rfl)
theorem dX2_after_7 : decode cX2_after 7 = .ok (.iload_n 3, 1) := dk_29 (dk_at dksX2_after_0 7 rfl rfl)
theorem dX2_after_8 : decode cX2_after 8 = .ok (.invokevirtual 161, 3) := dk_182 0 161 (dk_at dksX2_after_0 8 rfl rfl)
theorem dX2_after_11 : decode cX2_after 11 = .ok (.ireturn, 1) := dk_172 (dk_at dksX2_after_0 11 rfl rfl)
abbrev cX2_must : ByteArray := prog_16_method_19_code
def yX2_must : MethodName := ⟨RX2, "must", "(Ljava/lang/String;)V"⟩
def dkwX2_must_1 : List UInt8 := [177]
abbrev dktX2_must_1 : List UInt8 := dkwX2_must_1 ++ []
def dkwX2_must_0 : List UInt8 := [42, 180, 0, 97, 154, 0, 20, 42, 43, 182, 0, 121, 154, 0, 12, 42, 4, 42, 180, 0, 78, 182, 0, 124]
abbrev dktX2_must_0 : List UInt8 := dkwX2_must_0 ++ dktX2_must_1
theorem dksX2_must_0 : cX2_must.data.toList.drop 0 = dktX2_must_0 := by decide +kernel
theorem dksX2_must_1 : cX2_must.data.toList.drop 24 = dktX2_must_1 := dk_seg dksX2_must_0 24 rfl rfl
theorem dX2_must_0 : decode cX2_must 0 = .ok (.aload_n 0, 1) := dk_42 (dk_at dksX2_must_0 0 rfl rfl)
theorem dX2_must_1 : decode cX2_must 1 = .ok (.getfield 97, 3) := dk_180 0 97 (dk_at dksX2_must_0 1 rfl rfl)
theorem dX2_must_4 : decode cX2_must 4 = .ok (.ifCond .ne 20, 3) := dk_154 0 20 (dk_at dksX2_must_0 4 rfl rfl)
theorem dX2_must_7 : decode cX2_must 7 = .ok (.aload_n 0, 1) := dk_42 (dk_at dksX2_must_0 7 rfl rfl)
theorem dX2_must_8 : decode cX2_must 8 = .ok (.aload_n 1, 1) := dk_43 (dk_at dksX2_must_0 8 rfl rfl)
theorem dX2_must_9 : decode cX2_must 9 = .ok (.invokevirtual 121, 3) := dk_182 0 121 (dk_at dksX2_must_0 9 rfl rfl)
theorem dX2_must_12 : decode cX2_must 12 = .ok (.ifCond .ne 12, 3) := dk_154 0 12 (dk_at dksX2_must_0 12 rfl rfl)
theorem dX2_must_15 : decode cX2_must 15 = .ok (.aload_n 0, 1) := dk_42 (dk_at dksX2_must_0 15 rfl rfl)
theorem dX2_must_16 : decode cX2_must 16 = .ok (.iconst 1, 1) := dk_4 (dk_at dksX2_must_0 16 rfl rfl)
theorem dX2_must_17 : decode cX2_must 17 = .ok (.aload_n 0, 1) := dk_42 (dk_at dksX2_must_0 17 rfl rfl)
theorem dX2_must_18 : decode cX2_must 18 = .ok (.getfield 78, 3) := dk_180 0 78 (dk_at dksX2_must_0 18 rfl rfl)
theorem dX2_must_21 : decode cX2_must 21 = .ok (.invokevirtual 124, 3) := dk_182 0 124 (dk_at dksX2_must_0 21 rfl rfl)
theorem dX2_must_24 : decode cX2_must 24 = .ok (.return_, 1) := dk_177 (dk_at dksX2_must_1 0 rfl rfl)
abbrev cX2_takesWord : ByteArray := prog_16_method_18_code
def yX2_takesWord : MethodName := ⟨RX2, "takesWord", "(Ljava/lang/String;)Z"⟩
def dkwX2_takesWord_0 : List UInt8 := [42, 43, 182, 0, 114, 154, 0, 5, 3, 172, 42, 182, 0, 118, 4, 172]
abbrev dktX2_takesWord_0 : List UInt8 := dkwX2_takesWord_0 ++ []
theorem dksX2_takesWord_0 : cX2_takesWord.data.toList.drop 0 = dktX2_takesWord_0 := by decide +kernel
theorem dX2_takesWord_0 : decode cX2_takesWord 0 = .ok (.aload_n 0, 1) := dk_42 (dk_at dksX2_takesWord_0 0 rfl rfl)
theorem dX2_takesWord_1 : decode cX2_takesWord 1 = .ok (.aload_n 1, 1) := dk_43 (dk_at dksX2_takesWord_0 1 rfl rfl)
theorem dX2_takesWord_2 : decode cX2_takesWord 2 = .ok (.invokevirtual 114, 3) := dk_182 0 114 (dk_at dksX2_takesWord_0 2 rfl rfl)
theorem dX2_takesWord_5 : decode cX2_takesWord 5 = .ok (.ifCond .ne 5, 3) := dk_154 0 5 (dk_at dksX2_takesWord_0 5 rfl rfl)
theorem dX2_takesWord_8 : decode cX2_takesWord 8 = .ok (.iconst 0, 1) := dk_3 (dk_at dksX2_takesWord_0 8 rfl rfl)
theorem dX2_takesWord_9 : decode cX2_takesWord 9 = .ok (.ireturn, 1) := dk_172 (dk_at dksX2_takesWord_0 9 rfl rfl)
theorem dX2_takesWord_10 : decode cX2_takesWord 10 = .ok (.aload_n 0, 1) := dk_42 (dk_at dksX2_takesWord_0 10 rfl rfl)
theorem dX2_takesWord_11 : decode cX2_takesWord 11 = .ok (.invokevirtual 118, 3) := dk_182 0 118 (dk_at dksX2_takesWord_0 11 rfl rfl)
theorem dX2_takesWord_14 : decode cX2_takesWord 14 = .ok (.iconst 1, 1) := dk_4 (dk_at dksX2_takesWord_0 14 rfl rfl)
theorem dX2_takesWord_15 : decode cX2_takesWord 15 = .ok (.ireturn, 1) := dk_172 (dk_at dksX2_takesWord_0 15 rfl rfl)
abbrev cX2_number : ByteArray := prog_16_method_26_code
def yX2_number : MethodName := ⟨RX2, "number", "(II)I"⟩
def dkwX2_number_0 : List UInt8 := [42, 27, 28, 182, 0, 150, 62, 42, 182, 0, 154, 29, 172]
abbrev dktX2_number_0 : List UInt8 := dkwX2_number_0 ++ []
theorem dksX2_number_0 : cX2_number.data.toList.drop 0 = dktX2_number_0 := by decide +kernel
theorem dX2_number_0 : decode cX2_number 0 = .ok (.aload_n 0, 1) := dk_42 (dk_at dksX2_number_0 0 rfl rfl)
theorem dX2_number_1 : decode cX2_number 1 = .ok (.iload_n 1, 1) := dk_27 (dk_at dksX2_number_0 1 rfl rfl)
theorem dX2_number_2 : decode cX2_number 2 = .ok (.iload_n 2, 1) := dk_28 (dk_at dksX2_number_0 2 rfl rfl)
theorem dX2_number_3 : decode cX2_number 3 = .ok (.invokevirtual 150, 3) := dk_182 0 150 (dk_at dksX2_number_0 3 rfl rfl)
theorem dX2_number_6 : decode cX2_number 6 = .ok (.istore_n 3, 1) := dk_62 (dk_at dksX2_number_0 6 rfl rfl)
theorem dX2_number_7 : decode cX2_number 7 = .ok (.aload_n 0, 1) := dk_42 (dk_at dksX2_number_0 7 rfl rfl)
theorem dX2_number_8 : decode cX2_number 8 = .ok (.invokevirtual 154, 3) := dk_182 0 154 (dk_at dksX2_number_0 8 rfl rfl)
theorem dX2_number_11 : decode cX2_number 11 = .ok (.iload_n 3, 1) := dk_29 (dk_at dksX2_number_0 11 rfl rfl)
theorem dX2_number_12 : decode cX2_number 12 = .ok (.ireturn, 1) := dk_172 (dk_at dksX2_number_0 12 rfl rfl)
abbrev cX2_numberHere : ByteArray := prog_16_method_25_code
def yX2_numberHere : MethodName := ⟨RX2, "numberHere", "(II)I"⟩
def dkwX2_numberHere_2 : List UInt8 := [182, 0, 124, 42, 180, 0, 97, 153, 0, 7, 27, 167, 0, 7, 42, 180, 0, 84, 172]
abbrev dktX2_numberHere_2 : List UInt8 := dkwX2_numberHere_2 ++ []
def dkwX2_numberHere_1 : List UInt8 := [182, 0, 124, 167, 0, 24, 42, 180, 0, 84, 27, 28, 184, 0, 146, 154, 0, 12, 42, 7, 42, 180, 0, 78]
abbrev dktX2_numberHere_1 : List UInt8 := dkwX2_numberHere_1 ++ dktX2_numberHere_2
def dkwX2_numberHere_0 : List UInt8 := [42, 180, 0, 97, 153, 0, 5, 27, 172, 42, 180, 0, 87, 6, 159, 0, 15, 42, 4, 42, 180, 0, 78]
abbrev dktX2_numberHere_0 : List UInt8 := dkwX2_numberHere_0 ++ dktX2_numberHere_1
theorem dksX2_numberHere_0 : cX2_numberHere.data.toList.drop 0 = dktX2_numberHere_0 := by decide +kernel
theorem dksX2_numberHere_1 : cX2_numberHere.data.toList.drop 23 = dktX2_numberHere_1 := dk_seg dksX2_numberHere_0 23 rfl rfl
theorem dksX2_numberHere_2 : cX2_numberHere.data.toList.drop 47 = dktX2_numberHere_2 := dk_seg dksX2_numberHere_1 24 rfl rfl
theorem dX2_numberHere_0 : decode cX2_numberHere 0 = .ok (.aload_n 0, 1) := dk_42 (dk_at dksX2_numberHere_0 0 rfl rfl)
theorem dX2_numberHere_1 : decode cX2_numberHere 1 = .ok (.getfield 97, 3) := dk_180 0 97 (dk_at dksX2_numberHere_0 1 rfl rfl)
theorem dX2_numberHere_4 : decode cX2_numberHere 4 = .ok (.ifCond .eq 5, 3) := dk_153 0 5 (dk_at dksX2_numberHere_0 4 rfl rfl)
theorem dX2_numberHere_7 : decode cX2_numberHere 7 = .ok (.iload_n 1, 1) := dk_27 (dk_at dksX2_numberHere_0 7 rfl rfl)
theorem dX2_numberHere_8 : decode cX2_numberHere 8 = .ok (.ireturn, 1) := dk_172 (dk_at dksX2_numberHere_0 8 rfl rfl)
theorem dX2_numberHere_9 : decode cX2_numberHere 9 = .ok (.aload_n 0, 1) := dk_42 (dk_at dksX2_numberHere_0 9 rfl rfl)
theorem dX2_numberHere_10 : decode cX2_numberHere 10 = .ok (.getfield 87, 3) := dk_180 0 87 (dk_at dksX2_numberHere_0 10 rfl rfl)
theorem dX2_numberHere_13 : decode cX2_numberHere 13 = .ok (.iconst 3, 1) := dk_6 (dk_at dksX2_numberHere_0 13 rfl rfl)
theorem dX2_numberHere_14 : decode cX2_numberHere 14 = .ok (.if_icmp .eq 15, 3) := dk_159 0 15 (dk_at dksX2_numberHere_0 14 rfl rfl)
theorem dX2_numberHere_17 : decode cX2_numberHere 17 = .ok (.aload_n 0, 1) := dk_42 (dk_at dksX2_numberHere_0 17 rfl rfl)
theorem dX2_numberHere_18 : decode cX2_numberHere 18 = .ok (.iconst 1, 1) := dk_4 (dk_at dksX2_numberHere_0 18 rfl rfl)
theorem dX2_numberHere_19 : decode cX2_numberHere 19 = .ok (.aload_n 0, 1) := dk_42 (dk_at dksX2_numberHere_0 19 rfl rfl)
theorem dX2_numberHere_20 : decode cX2_numberHere 20 = .ok (.getfield 78, 3) := dk_180 0 78 (dk_at dksX2_numberHere_0 20 rfl rfl)
theorem dX2_numberHere_23 : decode cX2_numberHere 23 = .ok (.invokevirtual 124, 3) := dk_182 0 124 (dk_at dksX2_numberHere_1 0 rfl rfl)
theorem dX2_numberHere_26 : decode cX2_numberHere 26 = .ok (.goto 24, 3) := dk_167 0 24 (dk_at dksX2_numberHere_1 3 rfl rfl)
theorem dX2_numberHere_29 : decode cX2_numberHere 29 = .ok (.aload_n 0, 1) := dk_42 (dk_at dksX2_numberHere_1 6 rfl rfl)
theorem dX2_numberHere_30 : decode cX2_numberHere 30 = .ok (.getfield 84, 3) := dk_180 0 84 (dk_at dksX2_numberHere_1 7 rfl rfl)
theorem dX2_numberHere_33 : decode cX2_numberHere 33 = .ok (.iload_n 1, 1) := dk_27 (dk_at dksX2_numberHere_1 10 rfl rfl)
theorem dX2_numberHere_34 : decode cX2_numberHere 34 = .ok (.iload_n 2, 1) := dk_28 (dk_at dksX2_numberHere_1 11 rfl rfl)
theorem dX2_numberHere_35 : decode cX2_numberHere 35 = .ok (.invokestatic 146, 3) := dk_184 0 146 (dk_at dksX2_numberHere_1 12 rfl rfl)
theorem dX2_numberHere_38 : decode cX2_numberHere 38 = .ok (.ifCond .ne 12, 3) := dk_154 0 12 (dk_at dksX2_numberHere_1 15 rfl rfl)
theorem dX2_numberHere_41 : decode cX2_numberHere 41 = .ok (.aload_n 0, 1) := dk_42 (dk_at dksX2_numberHere_1 18 rfl rfl)
theorem dX2_numberHere_42 : decode cX2_numberHere 42 = .ok (.iconst 4, 1) := dk_7 (dk_at dksX2_numberHere_1 19 rfl rfl)
theorem dX2_numberHere_43 : decode cX2_numberHere 43 = .ok (.aload_n 0, 1) := dk_42 (dk_at dksX2_numberHere_1 20 rfl rfl)
theorem dX2_numberHere_44 : decode cX2_numberHere 44 = .ok (.getfield 78, 3) := dk_180 0 78 (dk_at dksX2_numberHere_1 21 rfl rfl)
theorem dX2_numberHere_47 : decode cX2_numberHere 47 = .ok (.invokevirtual 124, 3) := dk_182 0 124 (dk_at dksX2_numberHere_2 0 rfl rfl)
theorem dX2_numberHere_50 : decode cX2_numberHere 50 = .ok (.aload_n 0, 1) := dk_42 (dk_at dksX2_numberHere_2 3 rfl rfl)
theorem dX2_numberHere_51 : decode cX2_numberHere 51 = .ok (.getfield 97, 3) := dk_180 0 97 (dk_at dksX2_numberHere_2 4 rfl rfl)
theorem dX2_numberHere_54 : decode cX2_numberHere 54 = .ok (.ifCond .eq 7, 3) := dk_153 0 7 (dk_at dksX2_numberHere_2 7 rfl rfl)
theorem dX2_numberHere_57 : decode cX2_numberHere 57 = .ok (.iload_n 1, 1) := dk_27 (dk_at dksX2_numberHere_2 10 rfl rfl)
theorem dX2_numberHere_58 : decode cX2_numberHere 58 = .ok (.goto 7, 3) := dk_167 0 7 (dk_at dksX2_numberHere_2 11 rfl rfl)
theorem dX2_numberHere_61 : decode cX2_numberHere 61 = .ok (.aload_n 0, 1) := dk_42 (dk_at dksX2_numberHere_2 14 rfl rfl)
theorem dX2_numberHere_62 : decode cX2_numberHere 62 = .ok (.getfield 84, 3) := dk_180 0 84 (dk_at dksX2_numberHere_2 15 rfl rfl)
theorem dX2_numberHere_65 : decode cX2_numberHere 65 = .ok (.ireturn, 1) := dk_172 (dk_at dksX2_numberHere_2 18 rfl rfl)
abbrev cX2_pass : ByteArray := prog_16_method_24_code
def yX2_pass : MethodName := ⟨RX2, "pass", "()V"⟩
def dkwX2_pass_0 : List UInt8 := [42, 180, 0, 97, 154, 0, 7, 42, 182, 0, 118, 177]
abbrev dktX2_pass_0 : List UInt8 := dkwX2_pass_0 ++ []
theorem dksX2_pass_0 : cX2_pass.data.toList.drop 0 = dktX2_pass_0 := by decide +kernel
theorem dX2_pass_0 : decode cX2_pass 0 = .ok (.aload_n 0, 1) := dk_42 (dk_at dksX2_pass_0 0 rfl rfl)
theorem dX2_pass_1 : decode cX2_pass 1 = .ok (.getfield 97, 3) := dk_180 0 97 (dk_at dksX2_pass_0 1 rfl rfl)
theorem dX2_pass_4 : decode cX2_pass 4 = .ok (.ifCond .ne 7, 3) := dk_154 0 7 (dk_at dksX2_pass_0 4 rfl rfl)
theorem dX2_pass_7 : decode cX2_pass 7 = .ok (.aload_n 0, 1) := dk_42 (dk_at dksX2_pass_0 7 rfl rfl)
theorem dX2_pass_8 : decode cX2_pass 8 = .ok (.invokevirtual 118, 3) := dk_182 0 118 (dk_at dksX2_pass_0 8 rfl rfl)
theorem dX2_pass_11 : decode cX2_pass 11 = .ok (.return_, 1) := dk_177 (dk_at dksX2_pass_0 11 rfl rfl)
abbrev cX2_begins : ByteArray := prog_16_method_29_code
def yX2_begins : MethodName := ⟨RX2, "begins", "(Ljava/lang/String;Z)Z"⟩
def dkwX2_begins_2 : List UInt8 := [172]
abbrev dktX2_begins_2 : List UInt8 := dkwX2_begins_2 ++ []
def dkwX2_begins_1 : List UInt8 := [180, 0, 23, 16, 7, 46, 154, 0, 13, 42, 16, 6, 42, 180, 0, 78, 182, 0, 124, 42, 182, 0, 154, 4]
abbrev dktX2_begins_1 : List UInt8 := dkwX2_begins_1 ++ dktX2_begins_2
def dkwX2_begins_0 : List UInt8 := [42, 43, 182, 0, 114, 154, 0, 5, 3, 172, 28, 154, 0, 12, 42, 8, 42, 180, 0, 78, 182, 0, 124, 42]
abbrev dktX2_begins_0 : List UInt8 := dkwX2_begins_0 ++ dktX2_begins_1
theorem dksX2_begins_0 : cX2_begins.data.toList.drop 0 = dktX2_begins_0 := by decide +kernel
theorem dksX2_begins_1 : cX2_begins.data.toList.drop 24 = dktX2_begins_1 := dk_seg dksX2_begins_0 24 rfl rfl
theorem dksX2_begins_2 : cX2_begins.data.toList.drop 48 = dktX2_begins_2 := dk_seg dksX2_begins_1 24 rfl rfl
theorem dX2_begins_0 : decode cX2_begins 0 = .ok (.aload_n 0, 1) := dk_42 (dk_at dksX2_begins_0 0 rfl rfl)
theorem dX2_begins_1 : decode cX2_begins 1 = .ok (.aload_n 1, 1) := dk_43 (dk_at dksX2_begins_0 1 rfl rfl)
theorem dX2_begins_2 : decode cX2_begins 2 = .ok (.invokevirtual 114, 3) := dk_182 0 114 (dk_at dksX2_begins_0 2 rfl rfl)
theorem dX2_begins_5 : decode cX2_begins 5 = .ok (.ifCond .ne 5, 3) := dk_154 0 5 (dk_at dksX2_begins_0 5 rfl rfl)
theorem dX2_begins_8 : decode cX2_begins 8 = .ok (.iconst 0, 1) := dk_3 (dk_at dksX2_begins_0 8 rfl rfl)
theorem dX2_begins_9 : decode cX2_begins 9 = .ok (.ireturn, 1) := dk_172 (dk_at dksX2_begins_0 9 rfl rfl)
theorem dX2_begins_10 : decode cX2_begins 10 = .ok (.iload_n 2, 1) := dk_28 (dk_at dksX2_begins_0 10 rfl rfl)
theorem dX2_begins_11 : decode cX2_begins 11 = .ok (.ifCond .ne 12, 3) := dk_154 0 12 (dk_at dksX2_begins_0 11 rfl rfl)
theorem dX2_begins_14 : decode cX2_begins 14 = .ok (.aload_n 0, 1) := dk_42 (dk_at dksX2_begins_0 14 rfl rfl)
theorem dX2_begins_15 : decode cX2_begins 15 = .ok (.iconst 5, 1) := dk_8 (dk_at dksX2_begins_0 15 rfl rfl)
theorem dX2_begins_16 : decode cX2_begins 16 = .ok (.aload_n 0, 1) := dk_42 (dk_at dksX2_begins_0 16 rfl rfl)
theorem dX2_begins_17 : decode cX2_begins 17 = .ok (.getfield 78, 3) := dk_180 0 78 (dk_at dksX2_begins_0 17 rfl rfl)
theorem dX2_begins_20 : decode cX2_begins 20 = .ok (.invokevirtual 124, 3) := dk_182 0 124 (dk_at dksX2_begins_0 20 rfl rfl)
theorem dX2_begins_23 : decode cX2_begins 23 = .ok (.aload_n 0, 1) := dk_42 (dk_at dksX2_begins_0 23 rfl rfl)
theorem dX2_begins_24 : decode cX2_begins 24 = .ok (.getfield 23, 3) := dk_180 0 23 (dk_at dksX2_begins_1 0 rfl rfl)
theorem dX2_begins_27 : decode cX2_begins 27 = .ok (.bipush 7, 2) := dk_16 7 (dk_at dksX2_begins_1 3 rfl rfl)
theorem dX2_begins_29 : decode cX2_begins 29 = .ok (.iaload, 1) := dk_46 (dk_at dksX2_begins_1 5 rfl rfl)
theorem dX2_begins_30 : decode cX2_begins 30 = .ok (.ifCond .ne 13, 3) := dk_154 0 13 (dk_at dksX2_begins_1 6 rfl rfl)
theorem dX2_begins_33 : decode cX2_begins 33 = .ok (.aload_n 0, 1) := dk_42 (dk_at dksX2_begins_1 9 rfl rfl)
theorem dX2_begins_34 : decode cX2_begins 34 = .ok (.bipush 6, 2) := dk_16 6 (dk_at dksX2_begins_1 10 rfl rfl)
theorem dX2_begins_36 : decode cX2_begins 36 = .ok (.aload_n 0, 1) := dk_42 (dk_at dksX2_begins_1 12 rfl rfl)
theorem dX2_begins_37 : decode cX2_begins 37 = .ok (.getfield 78, 3) := dk_180 0 78 (dk_at dksX2_begins_1 13 rfl rfl)
theorem dX2_begins_40 : decode cX2_begins 40 = .ok (.invokevirtual 124, 3) := dk_182 0 124 (dk_at dksX2_begins_1 16 rfl rfl)
theorem dX2_begins_43 : decode cX2_begins 43 = .ok (.aload_n 0, 1) := dk_42 (dk_at dksX2_begins_1 19 rfl rfl)
theorem dX2_begins_44 : decode cX2_begins 44 = .ok (.invokevirtual 154, 3) := dk_182 0 154 (dk_at dksX2_begins_1 20 rfl rfl)
theorem dX2_begins_47 : decode cX2_begins 47 = .ok (.iconst 1, 1) := dk_4 (dk_at dksX2_begins_1 23 rfl rfl)
theorem dX2_begins_48 : decode cX2_begins 48 = .ok (.ireturn, 1) := dk_172 (dk_at dksX2_begins_2 0 rfl rfl)
abbrev cX2_pairLine : ByteArray := prog_16_method_32_code
def yX2_pairLine : MethodName := ⟨RX2, "pairLine", "()V"⟩
def dkwX2_pairLine_6 : List UInt8 := [79, 42, 180, 0, 29, 8, 27, 96, 21, 4, 79, 42, 180, 0, 23, 5, 92, 46, 4, 96, 79, 177]
abbrev dktX2_pairLine_6 : List UInt8 := dkwX2_pairLine_6 ++ []
def dkwX2_pairLine_5 : List UInt8 := [42, 180, 0, 97, 153, 0, 4, 177, 42, 180, 0, 23, 16, 8, 27, 96, 28, 79, 42, 180, 0, 29, 27, 29]
abbrev dktX2_pairLine_5 : List UInt8 := dkwX2_pairLine_5 ++ dktX2_pairLine_6
def dkwX2_pairLine_4 : List UInt8 := [18, 228, 3, 42, 180, 0, 23, 3, 46, 182, 0, 210, 62, 42, 18, 230, 3, 16, 20, 182, 0, 210, 54, 4]
abbrev dktX2_pairLine_4 : List UInt8 := dkwX2_pairLine_4 ++ dktX2_pairLine_5
def dkwX2_pairLine_3 : List UInt8 := [167, 0, 4, 2, 61, 28, 156, 0, 12, 42, 4, 42, 180, 0, 78, 182, 0, 124, 42, 182, 0, 154, 42]
abbrev dktX2_pairLine_3 : List UInt8 := dkwX2_pairLine_3 ++ dktX2_pairLine_4
def dkwX2_pairLine_2 : List UInt8 := [18, 224, 182, 0, 114, 153, 0, 7, 5, 167, 0, 17, 42, 18, 226, 182, 0, 114, 153, 0, 7, 6]
abbrev dktX2_pairLine_2 : List UInt8 := dkwX2_pairLine_2 ++ dktX2_pairLine_3
def dkwX2_pairLine_1 : List UInt8 := [182, 0, 114, 153, 0, 7, 3, 167, 0, 43, 42, 18, 222, 182, 0, 114, 153, 0, 7, 4, 167, 0, 30, 42]
abbrev dktX2_pairLine_1 : List UInt8 := dkwX2_pairLine_1 ++ dktX2_pairLine_2
def dkwX2_pairLine_0 : List UInt8 := [42, 180, 0, 97, 153, 0, 4, 177, 42, 180, 0, 23, 5, 46, 60, 42, 27, 182, 0, 216, 42, 18, 220]
abbrev dktX2_pairLine_0 : List UInt8 := dkwX2_pairLine_0 ++ dktX2_pairLine_1
theorem dksX2_pairLine_0 : cX2_pairLine.data.toList.drop 0 = dktX2_pairLine_0 := by decide +kernel
theorem dksX2_pairLine_1 : cX2_pairLine.data.toList.drop 23 = dktX2_pairLine_1 := dk_seg dksX2_pairLine_0 23 rfl rfl
theorem dksX2_pairLine_2 : cX2_pairLine.data.toList.drop 47 = dktX2_pairLine_2 := dk_seg dksX2_pairLine_1 24 rfl rfl
theorem dksX2_pairLine_3 : cX2_pairLine.data.toList.drop 69 = dktX2_pairLine_3 := dk_seg dksX2_pairLine_2 22 rfl rfl
theorem dksX2_pairLine_4 : cX2_pairLine.data.toList.drop 92 = dktX2_pairLine_4 := dk_seg dksX2_pairLine_3 23 rfl rfl
theorem dksX2_pairLine_5 : cX2_pairLine.data.toList.drop 116 = dktX2_pairLine_5 := dk_seg dksX2_pairLine_4 24 rfl rfl
theorem dksX2_pairLine_6 : cX2_pairLine.data.toList.drop 140 = dktX2_pairLine_6 := dk_seg dksX2_pairLine_5 24 rfl rfl
theorem dX2_pairLine_0 : decode cX2_pairLine 0 = .ok (.aload_n 0, 1) := dk_42 (dk_at dksX2_pairLine_0 0 rfl rfl)
theorem dX2_pairLine_1 : decode cX2_pairLine 1 = .ok (.getfield 97, 3) := dk_180 0 97 (dk_at dksX2_pairLine_0 1 rfl rfl)
theorem dX2_pairLine_4 : decode cX2_pairLine 4 = .ok (.ifCond .eq 4, 3) := dk_153 0 4 (dk_at dksX2_pairLine_0 4 rfl rfl)
theorem dX2_pairLine_7 : decode cX2_pairLine 7 = .ok (.return_, 1) := dk_177 (dk_at dksX2_pairLine_0 7 rfl rfl)
theorem dX2_pairLine_8 : decode cX2_pairLine 8 = .ok (.aload_n 0, 1) := dk_42 (dk_at dksX2_pairLine_0 8 rfl rfl)
theorem dX2_pairLine_9 : decode cX2_pairLine 9 = .ok (.getfield 23, 3) := dk_180 0 23 (dk_at dksX2_pairLine_0 9 rfl rfl)
theorem dX2_pairLine_12 : decode cX2_pairLine 12 = .ok (.iconst 2, 1) := dk_5 (dk_at dksX2_pairLine_0 12 rfl rfl)
theorem dX2_pairLine_13 : decode cX2_pairLine 13 = .ok (.iaload, 1) := dk_46 (dk_at dksX2_pairLine_0 13 rfl rfl)
theorem dX2_pairLine_14 : decode cX2_pairLine 14 = .ok (.istore_n 1, 1) := dk_60 (dk_at dksX2_pairLine_0 14 rfl rfl)
theorem dX2_pairLine_15 : decode cX2_pairLine 15 = .ok (.aload_n 0, 1) := dk_42 (dk_at dksX2_pairLine_0 15 rfl rfl)
theorem dX2_pairLine_16 : decode cX2_pairLine 16 = .ok (.iload_n 1, 1) := dk_27 (dk_at dksX2_pairLine_0 16 rfl rfl)
theorem dX2_pairLine_17 : decode cX2_pairLine 17 = .ok (.invokevirtual 216, 3) := dk_182 0 216 (dk_at dksX2_pairLine_0 17 rfl rfl)
theorem dX2_pairLine_20 : decode cX2_pairLine 20 = .ok (.aload_n 0, 1) := dk_42 (dk_at dksX2_pairLine_0 20 rfl rfl)
theorem dX2_pairLine_21 : decode cX2_pairLine 21 = .ok (.ldc 220, 2) := dk_18 220 (dk_at dksX2_pairLine_0 21 rfl rfl)
theorem dX2_pairLine_23 : decode cX2_pairLine 23 = .ok (.invokevirtual 114, 3) := dk_182 0 114 (dk_at dksX2_pairLine_1 0 rfl rfl)
theorem dX2_pairLine_26 : decode cX2_pairLine 26 = .ok (.ifCond .eq 7, 3) := dk_153 0 7 (dk_at dksX2_pairLine_1 3 rfl rfl)
theorem dX2_pairLine_29 : decode cX2_pairLine 29 = .ok (.iconst 0, 1) := dk_3 (dk_at dksX2_pairLine_1 6 rfl rfl)
theorem dX2_pairLine_30 : decode cX2_pairLine 30 = .ok (.goto 43, 3) := dk_167 0 43 (dk_at dksX2_pairLine_1 7 rfl rfl)
theorem dX2_pairLine_33 : decode cX2_pairLine 33 = .ok (.aload_n 0, 1) := dk_42 (dk_at dksX2_pairLine_1 10 rfl rfl)
theorem dX2_pairLine_34 : decode cX2_pairLine 34 = .ok (.ldc 222, 2) := dk_18 222 (dk_at dksX2_pairLine_1 11 rfl rfl)
theorem dX2_pairLine_36 : decode cX2_pairLine 36 = .ok (.invokevirtual 114, 3) := dk_182 0 114 (dk_at dksX2_pairLine_1 13 rfl rfl)
theorem dX2_pairLine_39 : decode cX2_pairLine 39 = .ok (.ifCond .eq 7, 3) := dk_153 0 7 (dk_at dksX2_pairLine_1 16 rfl rfl)
theorem dX2_pairLine_42 : decode cX2_pairLine 42 = .ok (.iconst 1, 1) := dk_4 (dk_at dksX2_pairLine_1 19 rfl rfl)
theorem dX2_pairLine_43 : decode cX2_pairLine 43 = .ok (.goto 30, 3) := dk_167 0 30 (dk_at dksX2_pairLine_1 20 rfl rfl)
theorem dX2_pairLine_46 : decode cX2_pairLine 46 = .ok (.aload_n 0, 1) := dk_42 (dk_at dksX2_pairLine_1 23 rfl rfl)
theorem dX2_pairLine_47 : decode cX2_pairLine 47 = .ok (.ldc 224, 2) := dk_18 224 (dk_at dksX2_pairLine_2 0 rfl rfl)
theorem dX2_pairLine_49 : decode cX2_pairLine 49 = .ok (.invokevirtual 114, 3) := dk_182 0 114 (dk_at dksX2_pairLine_2 2 rfl rfl)
theorem dX2_pairLine_52 : decode cX2_pairLine 52 = .ok (.ifCond .eq 7, 3) := dk_153 0 7 (dk_at dksX2_pairLine_2 5 rfl rfl)
theorem dX2_pairLine_55 : decode cX2_pairLine 55 = .ok (.iconst 2, 1) := dk_5 (dk_at dksX2_pairLine_2 8 rfl rfl)
theorem dX2_pairLine_56 : decode cX2_pairLine 56 = .ok (.goto 17, 3) := dk_167 0 17 (dk_at dksX2_pairLine_2 9 rfl rfl)
theorem dX2_pairLine_59 : decode cX2_pairLine 59 = .ok (.aload_n 0, 1) := dk_42 (dk_at dksX2_pairLine_2 12 rfl rfl)
theorem dX2_pairLine_60 : decode cX2_pairLine 60 = .ok (.ldc 226, 2) := dk_18 226 (dk_at dksX2_pairLine_2 13 rfl rfl)
theorem dX2_pairLine_62 : decode cX2_pairLine 62 = .ok (.invokevirtual 114, 3) := dk_182 0 114 (dk_at dksX2_pairLine_2 15 rfl rfl)
theorem dX2_pairLine_65 : decode cX2_pairLine 65 = .ok (.ifCond .eq 7, 3) := dk_153 0 7 (dk_at dksX2_pairLine_2 18 rfl rfl)
theorem dX2_pairLine_68 : decode cX2_pairLine 68 = .ok (.iconst 3, 1) := dk_6 (dk_at dksX2_pairLine_2 21 rfl rfl)
theorem dX2_pairLine_69 : decode cX2_pairLine 69 = .ok (.goto 4, 3) := dk_167 0 4 (dk_at dksX2_pairLine_3 0 rfl rfl)
theorem dX2_pairLine_72 : decode cX2_pairLine 72 = .ok (.iconst (-1), 1) := dk_2 (dk_at dksX2_pairLine_3 3 rfl rfl)
theorem dX2_pairLine_73 : decode cX2_pairLine 73 = .ok (.istore_n 2, 1) := dk_61 (dk_at dksX2_pairLine_3 4 rfl rfl)
theorem dX2_pairLine_74 : decode cX2_pairLine 74 = .ok (.iload_n 2, 1) := dk_28 (dk_at dksX2_pairLine_3 5 rfl rfl)
theorem dX2_pairLine_75 : decode cX2_pairLine 75 = .ok (.ifCond .ge 12, 3) := dk_156 0 12 (dk_at dksX2_pairLine_3 6 rfl rfl)
theorem dX2_pairLine_78 : decode cX2_pairLine 78 = .ok (.aload_n 0, 1) := dk_42 (dk_at dksX2_pairLine_3 9 rfl rfl)
theorem dX2_pairLine_79 : decode cX2_pairLine 79 = .ok (.iconst 1, 1) := dk_4 (dk_at dksX2_pairLine_3 10 rfl rfl)
theorem dX2_pairLine_80 : decode cX2_pairLine 80 = .ok (.aload_n 0, 1) := dk_42 (dk_at dksX2_pairLine_3 11 rfl rfl)
theorem dX2_pairLine_81 : decode cX2_pairLine 81 = .ok (.getfield 78, 3) := dk_180 0 78 (dk_at dksX2_pairLine_3 12 rfl rfl)
theorem dX2_pairLine_84 : decode cX2_pairLine 84 = .ok (.invokevirtual 124, 3) := dk_182 0 124 (dk_at dksX2_pairLine_3 15 rfl rfl)
theorem dX2_pairLine_87 : decode cX2_pairLine 87 = .ok (.aload_n 0, 1) := dk_42 (dk_at dksX2_pairLine_3 18 rfl rfl)
theorem dX2_pairLine_88 : decode cX2_pairLine 88 = .ok (.invokevirtual 154, 3) := dk_182 0 154 (dk_at dksX2_pairLine_3 19 rfl rfl)
theorem dX2_pairLine_91 : decode cX2_pairLine 91 = .ok (.aload_n 0, 1) := dk_42 (dk_at dksX2_pairLine_3 22 rfl rfl)
theorem dX2_pairLine_92 : decode cX2_pairLine 92 = .ok (.ldc 228, 2) := dk_18 228 (dk_at dksX2_pairLine_4 0 rfl rfl)
theorem dX2_pairLine_94 : decode cX2_pairLine 94 = .ok (.iconst 0, 1) := dk_3 (dk_at dksX2_pairLine_4 2 rfl rfl)
theorem dX2_pairLine_95 : decode cX2_pairLine 95 = .ok (.aload_n 0, 1) := dk_42 (dk_at dksX2_pairLine_4 3 rfl rfl)
theorem dX2_pairLine_96 : decode cX2_pairLine 96 = .ok (.getfield 23, 3) := dk_180 0 23 (dk_at dksX2_pairLine_4 4 rfl rfl)
theorem dX2_pairLine_99 : decode cX2_pairLine 99 = .ok (.iconst 0, 1) := dk_3 (dk_at dksX2_pairLine_4 7 rfl rfl)
theorem dX2_pairLine_100 : decode cX2_pairLine 100 = .ok (.iaload, 1) := dk_46 (dk_at dksX2_pairLine_4 8 rfl rfl)
theorem dX2_pairLine_101 : decode cX2_pairLine 101 = .ok (.invokevirtual 210, 3) := dk_182 0 210 (dk_at dksX2_pairLine_4 9 rfl rfl)
theorem dX2_pairLine_104 : decode cX2_pairLine 104 = .ok (.istore_n 3, 1) := dk_62 (dk_at dksX2_pairLine_4 12 rfl rfl)
theorem dX2_pairLine_105 : decode cX2_pairLine 105 = .ok (.aload_n 0, 1) := dk_42 (dk_at dksX2_pairLine_4 13 rfl rfl)
theorem dX2_pairLine_106 : decode cX2_pairLine 106 = .ok (.ldc 230, 2) := dk_18 230 (dk_at dksX2_pairLine_4 14 rfl rfl)
theorem dX2_pairLine_108 : decode cX2_pairLine 108 = .ok (.iconst 0, 1) := dk_3 (dk_at dksX2_pairLine_4 16 rfl rfl)
theorem dX2_pairLine_109 : decode cX2_pairLine 109 = .ok (.bipush 20, 2) := dk_16 20 (dk_at dksX2_pairLine_4 17 rfl rfl)
theorem dX2_pairLine_111 : decode cX2_pairLine 111 = .ok (.invokevirtual 210, 3) := dk_182 0 210 (dk_at dksX2_pairLine_4 19 rfl rfl)
theorem dX2_pairLine_114 : decode cX2_pairLine 114 = .ok (.istore 4, 2) := dk_54 4 (dk_at dksX2_pairLine_4 22 rfl rfl)
theorem dX2_pairLine_116 : decode cX2_pairLine 116 = .ok (.aload_n 0, 1) := dk_42 (dk_at dksX2_pairLine_5 0 rfl rfl)
theorem dX2_pairLine_117 : decode cX2_pairLine 117 = .ok (.getfield 97, 3) := dk_180 0 97 (dk_at dksX2_pairLine_5 1 rfl rfl)
theorem dX2_pairLine_120 : decode cX2_pairLine 120 = .ok (.ifCond .eq 4, 3) := dk_153 0 4 (dk_at dksX2_pairLine_5 4 rfl rfl)
theorem dX2_pairLine_123 : decode cX2_pairLine 123 = .ok (.return_, 1) := dk_177 (dk_at dksX2_pairLine_5 7 rfl rfl)
theorem dX2_pairLine_124 : decode cX2_pairLine 124 = .ok (.aload_n 0, 1) := dk_42 (dk_at dksX2_pairLine_5 8 rfl rfl)
theorem dX2_pairLine_125 : decode cX2_pairLine 125 = .ok (.getfield 23, 3) := dk_180 0 23 (dk_at dksX2_pairLine_5 9 rfl rfl)
theorem dX2_pairLine_128 : decode cX2_pairLine 128 = .ok (.bipush 8, 2) := dk_16 8 (dk_at dksX2_pairLine_5 12 rfl rfl)
theorem dX2_pairLine_130 : decode cX2_pairLine 130 = .ok (.iload_n 1, 1) := dk_27 (dk_at dksX2_pairLine_5 14 rfl rfl)
theorem dX2_pairLine_131 : decode cX2_pairLine 131 = .ok (.iadd, 1) := dk_96 (dk_at dksX2_pairLine_5 15 rfl rfl)
theorem dX2_pairLine_132 : decode cX2_pairLine 132 = .ok (.iload_n 2, 1) := dk_28 (dk_at dksX2_pairLine_5 16 rfl rfl)
theorem dX2_pairLine_133 : decode cX2_pairLine 133 = .ok (.iastore, 1) := dk_79 (dk_at dksX2_pairLine_5 17 rfl rfl)
theorem dX2_pairLine_134 : decode cX2_pairLine 134 = .ok (.aload_n 0, 1) := dk_42 (dk_at dksX2_pairLine_5 18 rfl rfl)
theorem dX2_pairLine_135 : decode cX2_pairLine 135 = .ok (.getfield 29, 3) := dk_180 0 29 (dk_at dksX2_pairLine_5 19 rfl rfl)
theorem dX2_pairLine_138 : decode cX2_pairLine 138 = .ok (.iload_n 1, 1) := dk_27 (dk_at dksX2_pairLine_5 22 rfl rfl)
theorem dX2_pairLine_139 : decode cX2_pairLine 139 = .ok (.iload_n 3, 1) := dk_29 (dk_at dksX2_pairLine_5 23 rfl rfl)
theorem dX2_pairLine_140 : decode cX2_pairLine 140 = .ok (.iastore, 1) := dk_79 (dk_at dksX2_pairLine_6 0 rfl rfl)
theorem dX2_pairLine_141 : decode cX2_pairLine 141 = .ok (.aload_n 0, 1) := dk_42 (dk_at dksX2_pairLine_6 1 rfl rfl)
theorem dX2_pairLine_142 : decode cX2_pairLine 142 = .ok (.getfield 29, 3) := dk_180 0 29 (dk_at dksX2_pairLine_6 2 rfl rfl)
theorem dX2_pairLine_145 : decode cX2_pairLine 145 = .ok (.iconst 5, 1) := dk_8 (dk_at dksX2_pairLine_6 5 rfl rfl)
theorem dX2_pairLine_146 : decode cX2_pairLine 146 = .ok (.iload_n 1, 1) := dk_27 (dk_at dksX2_pairLine_6 6 rfl rfl)
theorem dX2_pairLine_147 : decode cX2_pairLine 147 = .ok (.iadd, 1) := dk_96 (dk_at dksX2_pairLine_6 7 rfl rfl)
theorem dX2_pairLine_148 : decode cX2_pairLine 148 = .ok (.iload 4, 2) := dk_21 4 (dk_at dksX2_pairLine_6 8 rfl rfl)
theorem dX2_pairLine_150 : decode cX2_pairLine 150 = .ok (.iastore, 1) := dk_79 (dk_at dksX2_pairLine_6 10 rfl rfl)
theorem dX2_pairLine_151 : decode cX2_pairLine 151 = .ok (.aload_n 0, 1) := dk_42 (dk_at dksX2_pairLine_6 11 rfl rfl)
theorem dX2_pairLine_152 : decode cX2_pairLine 152 = .ok (.getfield 23, 3) := dk_180 0 23 (dk_at dksX2_pairLine_6 12 rfl rfl)
theorem dX2_pairLine_155 : decode cX2_pairLine 155 = .ok (.iconst 2, 1) := dk_5 (dk_at dksX2_pairLine_6 15 rfl rfl)
theorem dX2_pairLine_156 : decode cX2_pairLine 156 = .ok (.dup2, 1) := dk_92 (dk_at dksX2_pairLine_6 16 rfl rfl)
theorem dX2_pairLine_157 : decode cX2_pairLine 157 = .ok (.iaload, 1) := dk_46 (dk_at dksX2_pairLine_6 17 rfl rfl)
theorem dX2_pairLine_158 : decode cX2_pairLine 158 = .ok (.iconst 1, 1) := dk_4 (dk_at dksX2_pairLine_6 18 rfl rfl)
theorem dX2_pairLine_159 : decode cX2_pairLine 159 = .ok (.iadd, 1) := dk_96 (dk_at dksX2_pairLine_6 19 rfl rfl)
theorem dX2_pairLine_160 : decode cX2_pairLine 160 = .ok (.iastore, 1) := dk_79 (dk_at dksX2_pairLine_6 20 rfl rfl)
theorem dX2_pairLine_161 : decode cX2_pairLine 161 = .ok (.return_, 1) := dk_177 (dk_at dksX2_pairLine_6 21 rfl rfl)
abbrev cX2_newName : ByteArray := prog_16_method_22_code
def yX2_newName : MethodName := ⟨RX2, "newName", "(I)V"⟩
def dkwX2_newName_4 : List UInt8 := [182, 0, 118, 177]
abbrev dktX2_newName_4 : List UInt8 := dkwX2_newName_4 ++ []
def dkwX2_newName_3 : List UInt8 := [46, 79, 132, 2, 1, 167, 255, 225, 42, 180, 0, 23, 16, 50, 27, 96, 42, 180, 0, 81, 79, 42]
abbrev dktX2_newName_3 : List UInt8 := dkwX2_newName_3 ++ dktX2_newName_4
def dkwX2_newName_2 : List UInt8 := [180, 0, 81, 162, 0, 29, 42, 180, 0, 23, 16, 55, 16, 8, 27, 104, 96, 28, 96, 42, 180, 0, 17, 28]
abbrev dktX2_newName_2 : List UInt8 := dkwX2_newName_2 ++ dktX2_newName_3
def dkwX2_newName_1 : List UInt8 := [155, 0, 12, 42, 6, 42, 180, 0, 78, 182, 0, 124, 42, 180, 0, 97, 153, 0, 4, 177, 3, 61, 28, 42]
abbrev dktX2_newName_1 : List UInt8 := dkwX2_newName_1 ++ dktX2_newName_2
def dkwX2_newName_0 : List UInt8 := [42, 180, 0, 97, 153, 0, 4, 177, 42, 182, 0, 140, 42, 180, 0, 97, 154, 0, 19, 42, 182, 0, 143]
abbrev dktX2_newName_0 : List UInt8 := dkwX2_newName_0 ++ dktX2_newName_1
theorem dksX2_newName_0 : cX2_newName.data.toList.drop 0 = dktX2_newName_0 := by decide +kernel
theorem dksX2_newName_1 : cX2_newName.data.toList.drop 23 = dktX2_newName_1 := dk_seg dksX2_newName_0 23 rfl rfl
theorem dksX2_newName_2 : cX2_newName.data.toList.drop 47 = dktX2_newName_2 := dk_seg dksX2_newName_1 24 rfl rfl
theorem dksX2_newName_3 : cX2_newName.data.toList.drop 71 = dktX2_newName_3 := dk_seg dksX2_newName_2 24 rfl rfl
theorem dksX2_newName_4 : cX2_newName.data.toList.drop 93 = dktX2_newName_4 := dk_seg dksX2_newName_3 22 rfl rfl
theorem dX2_newName_0 : decode cX2_newName 0 = .ok (.aload_n 0, 1) := dk_42 (dk_at dksX2_newName_0 0 rfl rfl)
theorem dX2_newName_1 : decode cX2_newName 1 = .ok (.getfield 97, 3) := dk_180 0 97 (dk_at dksX2_newName_0 1 rfl rfl)
theorem dX2_newName_4 : decode cX2_newName 4 = .ok (.ifCond .eq 4, 3) := dk_153 0 4 (dk_at dksX2_newName_0 4 rfl rfl)
theorem dX2_newName_7 : decode cX2_newName 7 = .ok (.return_, 1) := dk_177 (dk_at dksX2_newName_0 7 rfl rfl)
theorem dX2_newName_8 : decode cX2_newName 8 = .ok (.aload_n 0, 1) := dk_42 (dk_at dksX2_newName_0 8 rfl rfl)
theorem dX2_newName_9 : decode cX2_newName 9 = .ok (.invokevirtual 140, 3) := dk_182 0 140 (dk_at dksX2_newName_0 9 rfl rfl)
theorem dX2_newName_12 : decode cX2_newName 12 = .ok (.aload_n 0, 1) := dk_42 (dk_at dksX2_newName_0 12 rfl rfl)
theorem dX2_newName_13 : decode cX2_newName 13 = .ok (.getfield 97, 3) := dk_180 0 97 (dk_at dksX2_newName_0 13 rfl rfl)
theorem dX2_newName_16 : decode cX2_newName 16 = .ok (.ifCond .ne 19, 3) := dk_154 0 19 (dk_at dksX2_newName_0 16 rfl rfl)
theorem dX2_newName_19 : decode cX2_newName 19 = .ok (.aload_n 0, 1) := dk_42 (dk_at dksX2_newName_0 19 rfl rfl)
theorem dX2_newName_20 : decode cX2_newName 20 = .ok (.invokevirtual 143, 3) := dk_182 0 143 (dk_at dksX2_newName_0 20 rfl rfl)
theorem dX2_newName_23 : decode cX2_newName 23 = .ok (.ifCond .lt 12, 3) := dk_155 0 12 (dk_at dksX2_newName_1 0 rfl rfl)
theorem dX2_newName_26 : decode cX2_newName 26 = .ok (.aload_n 0, 1) := dk_42 (dk_at dksX2_newName_1 3 rfl rfl)
theorem dX2_newName_27 : decode cX2_newName 27 = .ok (.iconst 3, 1) := dk_6 (dk_at dksX2_newName_1 4 rfl rfl)
theorem dX2_newName_28 : decode cX2_newName 28 = .ok (.aload_n 0, 1) := dk_42 (dk_at dksX2_newName_1 5 rfl rfl)
theorem dX2_newName_29 : decode cX2_newName 29 = .ok (.getfield 78, 3) := dk_180 0 78 (dk_at dksX2_newName_1 6 rfl rfl)
theorem dX2_newName_32 : decode cX2_newName 32 = .ok (.invokevirtual 124, 3) := dk_182 0 124 (dk_at dksX2_newName_1 9 rfl rfl)
theorem dX2_newName_35 : decode cX2_newName 35 = .ok (.aload_n 0, 1) := dk_42 (dk_at dksX2_newName_1 12 rfl rfl)
theorem dX2_newName_36 : decode cX2_newName 36 = .ok (.getfield 97, 3) := dk_180 0 97 (dk_at dksX2_newName_1 13 rfl rfl)
theorem dX2_newName_39 : decode cX2_newName 39 = .ok (.ifCond .eq 4, 3) := dk_153 0 4 (dk_at dksX2_newName_1 16 rfl rfl)
theorem dX2_newName_42 : decode cX2_newName 42 = .ok (.return_, 1) := dk_177 (dk_at dksX2_newName_1 19 rfl rfl)
theorem dX2_newName_43 : decode cX2_newName 43 = .ok (.iconst 0, 1) := dk_3 (dk_at dksX2_newName_1 20 rfl rfl)
theorem dX2_newName_44 : decode cX2_newName 44 = .ok (.istore_n 2, 1) := dk_61 (dk_at dksX2_newName_1 21 rfl rfl)
theorem dX2_newName_45 : decode cX2_newName 45 = .ok (.iload_n 2, 1) := dk_28 (dk_at dksX2_newName_1 22 rfl rfl)
theorem dX2_newName_46 : decode cX2_newName 46 = .ok (.aload_n 0, 1) := dk_42 (dk_at dksX2_newName_1 23 rfl rfl)
theorem dX2_newName_47 : decode cX2_newName 47 = .ok (.getfield 81, 3) := dk_180 0 81 (dk_at dksX2_newName_2 0 rfl rfl)
theorem dX2_newName_50 : decode cX2_newName 50 = .ok (.if_icmp .ge 29, 3) := dk_162 0 29 (dk_at dksX2_newName_2 3 rfl rfl)
theorem dX2_newName_53 : decode cX2_newName 53 = .ok (.aload_n 0, 1) := dk_42 (dk_at dksX2_newName_2 6 rfl rfl)
theorem dX2_newName_54 : decode cX2_newName 54 = .ok (.getfield 23, 3) := dk_180 0 23 (dk_at dksX2_newName_2 7 rfl rfl)
theorem dX2_newName_57 : decode cX2_newName 57 = .ok (.bipush 55, 2) := dk_16 55 (dk_at dksX2_newName_2 10 rfl rfl)
theorem dX2_newName_59 : decode cX2_newName 59 = .ok (.bipush 8, 2) := dk_16 8 (dk_at dksX2_newName_2 12 rfl rfl)
theorem dX2_newName_61 : decode cX2_newName 61 = .ok (.iload_n 1, 1) := dk_27 (dk_at dksX2_newName_2 14 rfl rfl)
theorem dX2_newName_62 : decode cX2_newName 62 = .ok (.imul, 1) := dk_104 (dk_at dksX2_newName_2 15 rfl rfl)
theorem dX2_newName_63 : decode cX2_newName 63 = .ok (.iadd, 1) := dk_96 (dk_at dksX2_newName_2 16 rfl rfl)
theorem dX2_newName_64 : decode cX2_newName 64 = .ok (.iload_n 2, 1) := dk_28 (dk_at dksX2_newName_2 17 rfl rfl)
theorem dX2_newName_65 : decode cX2_newName 65 = .ok (.iadd, 1) := dk_96 (dk_at dksX2_newName_2 18 rfl rfl)
theorem dX2_newName_66 : decode cX2_newName 66 = .ok (.aload_n 0, 1) := dk_42 (dk_at dksX2_newName_2 19 rfl rfl)
theorem dX2_newName_67 : decode cX2_newName 67 = .ok (.getfield 17, 3) := dk_180 0 17 (dk_at dksX2_newName_2 20 rfl rfl)
theorem dX2_newName_70 : decode cX2_newName 70 = .ok (.iload_n 2, 1) := dk_28 (dk_at dksX2_newName_2 23 rfl rfl)
theorem dX2_newName_71 : decode cX2_newName 71 = .ok (.iaload, 1) := dk_46 (dk_at dksX2_newName_3 0 rfl rfl)
theorem dX2_newName_72 : decode cX2_newName 72 = .ok (.iastore, 1) := dk_79 (dk_at dksX2_newName_3 1 rfl rfl)
theorem dX2_newName_73 : decode cX2_newName 73 = .ok (.iinc 2 1, 3) := dk_132 2 1 (dk_at dksX2_newName_3 2 rfl rfl)
theorem dX2_newName_76 : decode cX2_newName 76 = .ok (.goto (-31), 3) := dk_167 255 225 (dk_at dksX2_newName_3 5 rfl rfl)
theorem dX2_newName_79 : decode cX2_newName 79 = .ok (.aload_n 0, 1) := dk_42 (dk_at dksX2_newName_3 8 rfl rfl)
theorem dX2_newName_80 : decode cX2_newName 80 = .ok (.getfield 23, 3) := dk_180 0 23 (dk_at dksX2_newName_3 9 rfl rfl)
theorem dX2_newName_83 : decode cX2_newName 83 = .ok (.bipush 50, 2) := dk_16 50 (dk_at dksX2_newName_3 12 rfl rfl)
theorem dX2_newName_85 : decode cX2_newName 85 = .ok (.iload_n 1, 1) := dk_27 (dk_at dksX2_newName_3 14 rfl rfl)
theorem dX2_newName_86 : decode cX2_newName 86 = .ok (.iadd, 1) := dk_96 (dk_at dksX2_newName_3 15 rfl rfl)
theorem dX2_newName_87 : decode cX2_newName 87 = .ok (.aload_n 0, 1) := dk_42 (dk_at dksX2_newName_3 16 rfl rfl)
theorem dX2_newName_88 : decode cX2_newName 88 = .ok (.getfield 81, 3) := dk_180 0 81 (dk_at dksX2_newName_3 17 rfl rfl)
theorem dX2_newName_91 : decode cX2_newName 91 = .ok (.iastore, 1) := dk_79 (dk_at dksX2_newName_3 20 rfl rfl)
theorem dX2_newName_92 : decode cX2_newName 92 = .ok (.aload_n 0, 1) := dk_42 (dk_at dksX2_newName_3 21 rfl rfl)
theorem dX2_newName_93 : decode cX2_newName 93 = .ok (.invokevirtual 118, 3) := dk_182 0 118 (dk_at dksX2_newName_4 0 rfl rfl)
theorem dX2_newName_96 : decode cX2_newName 96 = .ok (.return_, 1) := dk_177 (dk_at dksX2_newName_4 3 rfl rfl)
abbrev cX2_mustName : ByteArray := prog_16_method_20_code
def yX2_mustName : MethodName := ⟨RX2, "mustName", "()V"⟩
def dkwX2_mustName_3 : List UInt8 := [177]
abbrev dktX2_mustName_3 : List UInt8 := dkwX2_mustName_3 ++ []
def dkwX2_mustName_2 : List UInt8 := [182, 0, 114, 154, 0, 12, 42, 18, 138, 182, 0, 114, 153, 0, 12, 42, 4, 42, 180, 0, 78, 182, 0, 124]
abbrev dktX2_mustName_2 : List UInt8 := dkwX2_mustName_2 ++ dktX2_mustName_3
def dkwX2_mustName_1 : List UInt8 := [154, 0, 39, 42, 18, 132, 182, 0, 114, 154, 0, 30, 42, 18, 134, 182, 0, 114, 154, 0, 21, 42, 18, 136]
abbrev dktX2_mustName_1 : List UInt8 := dkwX2_mustName_1 ++ dktX2_mustName_2
def dkwX2_mustName_0 : List UInt8 := [42, 180, 0, 87, 5, 160, 0, 57, 42, 18, 128, 182, 0, 114, 154, 0, 48, 42, 18, 130, 182, 0, 114]
abbrev dktX2_mustName_0 : List UInt8 := dkwX2_mustName_0 ++ dktX2_mustName_1
theorem dksX2_mustName_0 : cX2_mustName.data.toList.drop 0 = dktX2_mustName_0 := by decide +kernel
theorem dksX2_mustName_1 : cX2_mustName.data.toList.drop 23 = dktX2_mustName_1 := dk_seg dksX2_mustName_0 23 rfl rfl
theorem dksX2_mustName_2 : cX2_mustName.data.toList.drop 47 = dktX2_mustName_2 := dk_seg dksX2_mustName_1 24 rfl rfl
theorem dksX2_mustName_3 : cX2_mustName.data.toList.drop 71 = dktX2_mustName_3 := dk_seg dksX2_mustName_2 24 rfl rfl
theorem dX2_mustName_0 : decode cX2_mustName 0 = .ok (.aload_n 0, 1) := dk_42 (dk_at dksX2_mustName_0 0 rfl rfl)
theorem dX2_mustName_1 : decode cX2_mustName 1 = .ok (.getfield 87, 3) := dk_180 0 87 (dk_at dksX2_mustName_0 1 rfl rfl)
theorem dX2_mustName_4 : decode cX2_mustName 4 = .ok (.iconst 2, 1) := dk_5 (dk_at dksX2_mustName_0 4 rfl rfl)
theorem dX2_mustName_5 : decode cX2_mustName 5 = .ok (.if_icmp .ne 57, 3) := dk_160 0 57 (dk_at dksX2_mustName_0 5 rfl rfl)
theorem dX2_mustName_8 : decode cX2_mustName 8 = .ok (.aload_n 0, 1) := dk_42 (dk_at dksX2_mustName_0 8 rfl rfl)
theorem dX2_mustName_9 : decode cX2_mustName 9 = .ok (.ldc 128, 2) := dk_18 128 (dk_at dksX2_mustName_0 9 rfl rfl)
theorem dX2_mustName_11 : decode cX2_mustName 11 = .ok (.invokevirtual 114, 3) := dk_182 0 114 (dk_at dksX2_mustName_0 11 rfl rfl)
theorem dX2_mustName_14 : decode cX2_mustName 14 = .ok (.ifCond .ne 48, 3) := dk_154 0 48 (dk_at dksX2_mustName_0 14 rfl rfl)
theorem dX2_mustName_17 : decode cX2_mustName 17 = .ok (.aload_n 0, 1) := dk_42 (dk_at dksX2_mustName_0 17 rfl rfl)
theorem dX2_mustName_18 : decode cX2_mustName 18 = .ok (.ldc 130, 2) := dk_18 130 (dk_at dksX2_mustName_0 18 rfl rfl)
theorem dX2_mustName_20 : decode cX2_mustName 20 = .ok (.invokevirtual 114, 3) := dk_182 0 114 (dk_at dksX2_mustName_0 20 rfl rfl)
theorem dX2_mustName_23 : decode cX2_mustName 23 = .ok (.ifCond .ne 39, 3) := dk_154 0 39 (dk_at dksX2_mustName_1 0 rfl rfl)
theorem dX2_mustName_26 : decode cX2_mustName 26 = .ok (.aload_n 0, 1) := dk_42 (dk_at dksX2_mustName_1 3 rfl rfl)
theorem dX2_mustName_27 : decode cX2_mustName 27 = .ok (.ldc 132, 2) := dk_18 132 (dk_at dksX2_mustName_1 4 rfl rfl)
theorem dX2_mustName_29 : decode cX2_mustName 29 = .ok (.invokevirtual 114, 3) := dk_182 0 114 (dk_at dksX2_mustName_1 6 rfl rfl)
theorem dX2_mustName_32 : decode cX2_mustName 32 = .ok (.ifCond .ne 30, 3) := dk_154 0 30 (dk_at dksX2_mustName_1 9 rfl rfl)
theorem dX2_mustName_35 : decode cX2_mustName 35 = .ok (.aload_n 0, 1) := dk_42 (dk_at dksX2_mustName_1 12 rfl rfl)
theorem dX2_mustName_36 : decode cX2_mustName 36 = .ok (.ldc 134, 2) := dk_18 134 (dk_at dksX2_mustName_1 13 rfl rfl)
theorem dX2_mustName_38 : decode cX2_mustName 38 = .ok (.invokevirtual 114, 3) := dk_182 0 114 (dk_at dksX2_mustName_1 15 rfl rfl)
theorem dX2_mustName_41 : decode cX2_mustName 41 = .ok (.ifCond .ne 21, 3) := dk_154 0 21 (dk_at dksX2_mustName_1 18 rfl rfl)
theorem dX2_mustName_44 : decode cX2_mustName 44 = .ok (.aload_n 0, 1) := dk_42 (dk_at dksX2_mustName_1 21 rfl rfl)
theorem dX2_mustName_45 : decode cX2_mustName 45 = .ok (.ldc 136, 2) := dk_18 136 (dk_at dksX2_mustName_1 22 rfl rfl)
theorem dX2_mustName_47 : decode cX2_mustName 47 = .ok (.invokevirtual 114, 3) := dk_182 0 114 (dk_at dksX2_mustName_2 0 rfl rfl)
theorem dX2_mustName_50 : decode cX2_mustName 50 = .ok (.ifCond .ne 12, 3) := dk_154 0 12 (dk_at dksX2_mustName_2 3 rfl rfl)
theorem dX2_mustName_53 : decode cX2_mustName 53 = .ok (.aload_n 0, 1) := dk_42 (dk_at dksX2_mustName_2 6 rfl rfl)
theorem dX2_mustName_54 : decode cX2_mustName 54 = .ok (.ldc 138, 2) := dk_18 138 (dk_at dksX2_mustName_2 7 rfl rfl)
theorem dX2_mustName_56 : decode cX2_mustName 56 = .ok (.invokevirtual 114, 3) := dk_182 0 114 (dk_at dksX2_mustName_2 9 rfl rfl)
theorem dX2_mustName_59 : decode cX2_mustName 59 = .ok (.ifCond .eq 12, 3) := dk_153 0 12 (dk_at dksX2_mustName_2 12 rfl rfl)
theorem dX2_mustName_62 : decode cX2_mustName 62 = .ok (.aload_n 0, 1) := dk_42 (dk_at dksX2_mustName_2 15 rfl rfl)
theorem dX2_mustName_63 : decode cX2_mustName 63 = .ok (.iconst 1, 1) := dk_4 (dk_at dksX2_mustName_2 16 rfl rfl)
theorem dX2_mustName_64 : decode cX2_mustName 64 = .ok (.aload_n 0, 1) := dk_42 (dk_at dksX2_mustName_2 17 rfl rfl)
theorem dX2_mustName_65 : decode cX2_mustName 65 = .ok (.getfield 78, 3) := dk_180 0 78 (dk_at dksX2_mustName_2 18 rfl rfl)
theorem dX2_mustName_68 : decode cX2_mustName 68 = .ok (.invokevirtual 124, 3) := dk_182 0 124 (dk_at dksX2_mustName_2 21 rfl rfl)
theorem dX2_mustName_71 : decode cX2_mustName 71 = .ok (.return_, 1) := dk_177 (dk_at dksX2_mustName_3 0 rfl rfl)
abbrev cX2_find : ByteArray := prog_16_method_21_code
def yX2_find : MethodName := ⟨RX2, "find", "()I"⟩
def dkwX2_find_4 : List UInt8 := [153, 0, 5, 27, 172, 132, 1, 1, 167, 255, 159, 2, 172]
abbrev dktX2_find_4 : List UInt8 := dkwX2_find_4 ++ []
def dkwX2_find_3 : List UInt8 := [42, 180, 0, 17, 29, 46, 160, 0, 7, 4, 167, 0, 4, 3, 61, 132, 3, 1, 167, 255, 212, 28]
abbrev dktX2_find_3 : List UInt8 := dkwX2_find_3 ++ dktX2_find_4
def dkwX2_find_2 : List UInt8 := [180, 0, 81, 162, 0, 42, 28, 153, 0, 38, 42, 180, 0, 23, 16, 55, 16, 8, 27, 104, 96, 29, 96, 46]
abbrev dktX2_find_2 : List UInt8 := dkwX2_find_2 ++ dktX2_find_3
def dkwX2_find_1 : List UInt8 := [16, 50, 27, 96, 46, 42, 180, 0, 81, 160, 0, 7, 4, 167, 0, 4, 3, 61, 3, 62, 29, 42]
abbrev dktX2_find_1 : List UInt8 := dkwX2_find_1 ++ dktX2_find_2
def dkwX2_find_0 : List UInt8 := [3, 60, 27, 8, 162, 0, 98, 42, 180, 0, 23, 16, 50, 27, 96, 46, 158, 0, 23, 42, 180, 0, 23]
abbrev dktX2_find_0 : List UInt8 := dkwX2_find_0 ++ dktX2_find_1
theorem dksX2_find_0 : cX2_find.data.toList.drop 0 = dktX2_find_0 := by decide +kernel
theorem dksX2_find_1 : cX2_find.data.toList.drop 23 = dktX2_find_1 := dk_seg dksX2_find_0 23 rfl rfl
theorem dksX2_find_2 : cX2_find.data.toList.drop 45 = dktX2_find_2 := dk_seg dksX2_find_1 22 rfl rfl
theorem dksX2_find_3 : cX2_find.data.toList.drop 69 = dktX2_find_3 := dk_seg dksX2_find_2 24 rfl rfl
theorem dksX2_find_4 : cX2_find.data.toList.drop 91 = dktX2_find_4 := dk_seg dksX2_find_3 22 rfl rfl
theorem dX2_find_0 : decode cX2_find 0 = .ok (.iconst 0, 1) := dk_3 (dk_at dksX2_find_0 0 rfl rfl)
theorem dX2_find_1 : decode cX2_find 1 = .ok (.istore_n 1, 1) := dk_60 (dk_at dksX2_find_0 1 rfl rfl)
theorem dX2_find_2 : decode cX2_find 2 = .ok (.iload_n 1, 1) := dk_27 (dk_at dksX2_find_0 2 rfl rfl)
theorem dX2_find_3 : decode cX2_find 3 = .ok (.iconst 5, 1) := dk_8 (dk_at dksX2_find_0 3 rfl rfl)
theorem dX2_find_4 : decode cX2_find 4 = .ok (.if_icmp .ge 98, 3) := dk_162 0 98 (dk_at dksX2_find_0 4 rfl rfl)
theorem dX2_find_7 : decode cX2_find 7 = .ok (.aload_n 0, 1) := dk_42 (dk_at dksX2_find_0 7 rfl rfl)
theorem dX2_find_8 : decode cX2_find 8 = .ok (.getfield 23, 3) := dk_180 0 23 (dk_at dksX2_find_0 8 rfl rfl)
theorem dX2_find_11 : decode cX2_find 11 = .ok (.bipush 50, 2) := dk_16 50 (dk_at dksX2_find_0 11 rfl rfl)
theorem dX2_find_13 : decode cX2_find 13 = .ok (.iload_n 1, 1) := dk_27 (dk_at dksX2_find_0 13 rfl rfl)
theorem dX2_find_14 : decode cX2_find 14 = .ok (.iadd, 1) := dk_96 (dk_at dksX2_find_0 14 rfl rfl)
theorem dX2_find_15 : decode cX2_find 15 = .ok (.iaload, 1) := dk_46 (dk_at dksX2_find_0 15 rfl rfl)
theorem dX2_find_16 : decode cX2_find 16 = .ok (.ifCond .le 23, 3) := dk_158 0 23 (dk_at dksX2_find_0 16 rfl rfl)
theorem dX2_find_19 : decode cX2_find 19 = .ok (.aload_n 0, 1) := dk_42 (dk_at dksX2_find_0 19 rfl rfl)
theorem dX2_find_20 : decode cX2_find 20 = .ok (.getfield 23, 3) := dk_180 0 23 (dk_at dksX2_find_0 20 rfl rfl)
theorem dX2_find_23 : decode cX2_find 23 = .ok (.bipush 50, 2) := dk_16 50 (dk_at dksX2_find_1 0 rfl rfl)
theorem dX2_find_25 : decode cX2_find 25 = .ok (.iload_n 1, 1) := dk_27 (dk_at dksX2_find_1 2 rfl rfl)
theorem dX2_find_26 : decode cX2_find 26 = .ok (.iadd, 1) := dk_96 (dk_at dksX2_find_1 3 rfl rfl)
theorem dX2_find_27 : decode cX2_find 27 = .ok (.iaload, 1) := dk_46 (dk_at dksX2_find_1 4 rfl rfl)
theorem dX2_find_28 : decode cX2_find 28 = .ok (.aload_n 0, 1) := dk_42 (dk_at dksX2_find_1 5 rfl rfl)
theorem dX2_find_29 : decode cX2_find 29 = .ok (.getfield 81, 3) := dk_180 0 81 (dk_at dksX2_find_1 6 rfl rfl)
theorem dX2_find_32 : decode cX2_find 32 = .ok (.if_icmp .ne 7, 3) := dk_160 0 7 (dk_at dksX2_find_1 9 rfl rfl)
theorem dX2_find_35 : decode cX2_find 35 = .ok (.iconst 1, 1) := dk_4 (dk_at dksX2_find_1 12 rfl rfl)
theorem dX2_find_36 : decode cX2_find 36 = .ok (.goto 4, 3) := dk_167 0 4 (dk_at dksX2_find_1 13 rfl rfl)
theorem dX2_find_39 : decode cX2_find 39 = .ok (.iconst 0, 1) := dk_3 (dk_at dksX2_find_1 16 rfl rfl)
theorem dX2_find_40 : decode cX2_find 40 = .ok (.istore_n 2, 1) := dk_61 (dk_at dksX2_find_1 17 rfl rfl)
theorem dX2_find_41 : decode cX2_find 41 = .ok (.iconst 0, 1) := dk_3 (dk_at dksX2_find_1 18 rfl rfl)
theorem dX2_find_42 : decode cX2_find 42 = .ok (.istore_n 3, 1) := dk_62 (dk_at dksX2_find_1 19 rfl rfl)
theorem dX2_find_43 : decode cX2_find 43 = .ok (.iload_n 3, 1) := dk_29 (dk_at dksX2_find_1 20 rfl rfl)
theorem dX2_find_44 : decode cX2_find 44 = .ok (.aload_n 0, 1) := dk_42 (dk_at dksX2_find_1 21 rfl rfl)
theorem dX2_find_45 : decode cX2_find 45 = .ok (.getfield 81, 3) := dk_180 0 81 (dk_at dksX2_find_2 0 rfl rfl)
theorem dX2_find_48 : decode cX2_find 48 = .ok (.if_icmp .ge 42, 3) := dk_162 0 42 (dk_at dksX2_find_2 3 rfl rfl)
theorem dX2_find_51 : decode cX2_find 51 = .ok (.iload_n 2, 1) := dk_28 (dk_at dksX2_find_2 6 rfl rfl)
theorem dX2_find_52 : decode cX2_find 52 = .ok (.ifCond .eq 38, 3) := dk_153 0 38 (dk_at dksX2_find_2 7 rfl rfl)
theorem dX2_find_55 : decode cX2_find 55 = .ok (.aload_n 0, 1) := dk_42 (dk_at dksX2_find_2 10 rfl rfl)
theorem dX2_find_56 : decode cX2_find 56 = .ok (.getfield 23, 3) := dk_180 0 23 (dk_at dksX2_find_2 11 rfl rfl)
theorem dX2_find_59 : decode cX2_find 59 = .ok (.bipush 55, 2) := dk_16 55 (dk_at dksX2_find_2 14 rfl rfl)
theorem dX2_find_61 : decode cX2_find 61 = .ok (.bipush 8, 2) := dk_16 8 (dk_at dksX2_find_2 16 rfl rfl)
theorem dX2_find_63 : decode cX2_find 63 = .ok (.iload_n 1, 1) := dk_27 (dk_at dksX2_find_2 18 rfl rfl)
theorem dX2_find_64 : decode cX2_find 64 = .ok (.imul, 1) := dk_104 (dk_at dksX2_find_2 19 rfl rfl)
theorem dX2_find_65 : decode cX2_find 65 = .ok (.iadd, 1) := dk_96 (dk_at dksX2_find_2 20 rfl rfl)
theorem dX2_find_66 : decode cX2_find 66 = .ok (.iload_n 3, 1) := dk_29 (dk_at dksX2_find_2 21 rfl rfl)
theorem dX2_find_67 : decode cX2_find 67 = .ok (.iadd, 1) := dk_96 (dk_at dksX2_find_2 22 rfl rfl)
theorem dX2_find_68 : decode cX2_find 68 = .ok (.iaload, 1) := dk_46 (dk_at dksX2_find_2 23 rfl rfl)
theorem dX2_find_69 : decode cX2_find 69 = .ok (.aload_n 0, 1) := dk_42 (dk_at dksX2_find_3 0 rfl rfl)
theorem dX2_find_70 : decode cX2_find 70 = .ok (.getfield 17, 3) := dk_180 0 17 (dk_at dksX2_find_3 1 rfl rfl)
theorem dX2_find_73 : decode cX2_find 73 = .ok (.iload_n 3, 1) := dk_29 (dk_at dksX2_find_3 4 rfl rfl)
theorem dX2_find_74 : decode cX2_find 74 = .ok (.iaload, 1) := dk_46 (dk_at dksX2_find_3 5 rfl rfl)
theorem dX2_find_75 : decode cX2_find 75 = .ok (.if_icmp .ne 7, 3) := dk_160 0 7 (dk_at dksX2_find_3 6 rfl rfl)
theorem dX2_find_78 : decode cX2_find 78 = .ok (.iconst 1, 1) := dk_4 (dk_at dksX2_find_3 9 rfl rfl)
theorem dX2_find_79 : decode cX2_find 79 = .ok (.goto 4, 3) := dk_167 0 4 (dk_at dksX2_find_3 10 rfl rfl)
theorem dX2_find_82 : decode cX2_find 82 = .ok (.iconst 0, 1) := dk_3 (dk_at dksX2_find_3 13 rfl rfl)
theorem dX2_find_83 : decode cX2_find 83 = .ok (.istore_n 2, 1) := dk_61 (dk_at dksX2_find_3 14 rfl rfl)
theorem dX2_find_84 : decode cX2_find 84 = .ok (.iinc 3 1, 3) := dk_132 3 1 (dk_at dksX2_find_3 15 rfl rfl)
theorem dX2_find_87 : decode cX2_find 87 = .ok (.goto (-44), 3) := dk_167 255 212 (dk_at dksX2_find_3 18 rfl rfl)
theorem dX2_find_90 : decode cX2_find 90 = .ok (.iload_n 2, 1) := dk_28 (dk_at dksX2_find_3 21 rfl rfl)
theorem dX2_find_91 : decode cX2_find 91 = .ok (.ifCond .eq 5, 3) := dk_153 0 5 (dk_at dksX2_find_4 0 rfl rfl)
theorem dX2_find_94 : decode cX2_find 94 = .ok (.iload_n 1, 1) := dk_27 (dk_at dksX2_find_4 3 rfl rfl)
theorem dX2_find_95 : decode cX2_find 95 = .ok (.ireturn, 1) := dk_172 (dk_at dksX2_find_4 4 rfl rfl)
theorem dX2_find_96 : decode cX2_find 96 = .ok (.iinc 1 1, 3) := dk_132 1 1 (dk_at dksX2_find_4 5 rfl rfl)
theorem dX2_find_99 : decode cX2_find 99 = .ok (.goto (-97), 3) := dk_167 255 159 (dk_at dksX2_find_4 8 rfl rfl)
theorem dX2_find_102 : decode cX2_find 102 = .ok (.iconst (-1), 1) := dk_2 (dk_at dksX2_find_4 11 rfl rfl)
theorem dX2_find_103 : decode cX2_find 103 = .ok (.ireturn, 1) := dk_172 (dk_at dksX2_find_4 12 rfl rfl)
abbrev cX2_contractLine : ByteArray := prog_16_method_33_code
def yX2_contractLine : MethodName := ⟨RX2, "contractLine", "()V"⟩
def dkwX2_contractLine_3 : List UInt8 := [4, 96, 79, 177]
abbrev dktX2_contractLine_3 : List UInt8 := dkwX2_contractLine_3 ++ []
def dkwX2_contractLine_2 : List UInt8 := [180, 0, 97, 153, 0, 4, 177, 42, 180, 0, 23, 16, 13, 27, 96, 28, 79, 42, 180, 0, 23, 6, 92, 46]
abbrev dktX2_contractLine_2 : List UInt8 := dkwX2_contractLine_2 ++ dktX2_contractLine_3
def dkwX2_contractLine_1 : List UInt8 := [42, 6, 42, 180, 0, 78, 182, 0, 124, 42, 182, 0, 154, 42, 18, 235, 4, 16, 9, 182, 0, 210, 61, 42]
abbrev dktX2_contractLine_1 : List UInt8 := dkwX2_contractLine_1 ++ dktX2_contractLine_2
def dkwX2_contractLine_0 : List UInt8 := [42, 182, 0, 232, 60, 42, 180, 0, 97, 154, 0, 24, 42, 180, 0, 23, 16, 13, 27, 96, 46, 158, 0, 12]
abbrev dktX2_contractLine_0 : List UInt8 := dkwX2_contractLine_0 ++ dktX2_contractLine_1
theorem dksX2_contractLine_0 : cX2_contractLine.data.toList.drop 0 = dktX2_contractLine_0 := by decide +kernel
theorem dksX2_contractLine_1 : cX2_contractLine.data.toList.drop 24 = dktX2_contractLine_1 := dk_seg dksX2_contractLine_0 24 rfl rfl
theorem dksX2_contractLine_2 : cX2_contractLine.data.toList.drop 48 = dktX2_contractLine_2 := dk_seg dksX2_contractLine_1 24 rfl rfl
theorem dksX2_contractLine_3 : cX2_contractLine.data.toList.drop 72 = dktX2_contractLine_3 := dk_seg dksX2_contractLine_2 24 rfl rfl
theorem dX2_contractLine_0 : decode cX2_contractLine 0 = .ok (.aload_n 0, 1) := dk_42 (dk_at dksX2_contractLine_0 0 rfl rfl)
theorem dX2_contractLine_1 : decode cX2_contractLine 1 = .ok (.invokevirtual 232, 3) := dk_182 0 232 (dk_at dksX2_contractLine_0 1 rfl rfl)
theorem dX2_contractLine_4 : decode cX2_contractLine 4 = .ok (.istore_n 1, 1) := dk_60 (dk_at dksX2_contractLine_0 4 rfl rfl)
theorem dX2_contractLine_5 : decode cX2_contractLine 5 = .ok (.aload_n 0, 1) := dk_42 (dk_at dksX2_contractLine_0 5 rfl rfl)
theorem dX2_contractLine_6 : decode cX2_contractLine 6 = .ok (.getfield 97, 3) := dk_180 0 97 (dk_at dksX2_contractLine_0 6 rfl rfl)
theorem dX2_contractLine_9 : decode cX2_contractLine 9 = .ok (.ifCond .ne 24, 3) := dk_154 0 24 (dk_at dksX2_contractLine_0 9 rfl rfl)
theorem dX2_contractLine_12 : decode cX2_contractLine 12 = .ok (.aload_n 0, 1) := dk_42 (dk_at dksX2_contractLine_0 12 rfl rfl)
theorem dX2_contractLine_13 : decode cX2_contractLine 13 = .ok (.getfield 23, 3) := dk_180 0 23 (dk_at dksX2_contractLine_0 13 rfl rfl)
theorem dX2_contractLine_16 : decode cX2_contractLine 16 = .ok (.bipush 13, 2) := dk_16 13 (dk_at dksX2_contractLine_0 16 rfl rfl)
theorem dX2_contractLine_18 : decode cX2_contractLine 18 = .ok (.iload_n 1, 1) := dk_27 (dk_at dksX2_contractLine_0 18 rfl rfl)
theorem dX2_contractLine_19 : decode cX2_contractLine 19 = .ok (.iadd, 1) := dk_96 (dk_at dksX2_contractLine_0 19 rfl rfl)
theorem dX2_contractLine_20 : decode cX2_contractLine 20 = .ok (.iaload, 1) := dk_46 (dk_at dksX2_contractLine_0 20 rfl rfl)
theorem dX2_contractLine_21 : decode cX2_contractLine 21 = .ok (.ifCond .le 12, 3) := dk_158 0 12 (dk_at dksX2_contractLine_0 21 rfl rfl)
theorem dX2_contractLine_24 : decode cX2_contractLine 24 = .ok (.aload_n 0, 1) := dk_42 (dk_at dksX2_contractLine_1 0 rfl rfl)
theorem dX2_contractLine_25 : decode cX2_contractLine 25 = .ok (.iconst 3, 1) := dk_6 (dk_at dksX2_contractLine_1 1 rfl rfl)
theorem dX2_contractLine_26 : decode cX2_contractLine 26 = .ok (.aload_n 0, 1) := dk_42 (dk_at dksX2_contractLine_1 2 rfl rfl)
theorem dX2_contractLine_27 : decode cX2_contractLine 27 = .ok (.getfield 78, 3) := dk_180 0 78 (dk_at dksX2_contractLine_1 3 rfl rfl)
theorem dX2_contractLine_30 : decode cX2_contractLine 30 = .ok (.invokevirtual 124, 3) := dk_182 0 124 (dk_at dksX2_contractLine_1 6 rfl rfl)
theorem dX2_contractLine_33 : decode cX2_contractLine 33 = .ok (.aload_n 0, 1) := dk_42 (dk_at dksX2_contractLine_1 9 rfl rfl)
theorem dX2_contractLine_34 : decode cX2_contractLine 34 = .ok (.invokevirtual 154, 3) := dk_182 0 154 (dk_at dksX2_contractLine_1 10 rfl rfl)
theorem dX2_contractLine_37 : decode cX2_contractLine 37 = .ok (.aload_n 0, 1) := dk_42 (dk_at dksX2_contractLine_1 13 rfl rfl)
theorem dX2_contractLine_38 : decode cX2_contractLine 38 = .ok (.ldc 235, 2) := dk_18 235 (dk_at dksX2_contractLine_1 14 rfl rfl)
theorem dX2_contractLine_40 : decode cX2_contractLine 40 = .ok (.iconst 1, 1) := dk_4 (dk_at dksX2_contractLine_1 16 rfl rfl)
theorem dX2_contractLine_41 : decode cX2_contractLine 41 = .ok (.bipush 9, 2) := dk_16 9 (dk_at dksX2_contractLine_1 17 rfl rfl)
theorem dX2_contractLine_43 : decode cX2_contractLine 43 = .ok (.invokevirtual 210, 3) := dk_182 0 210 (dk_at dksX2_contractLine_1 19 rfl rfl)
theorem dX2_contractLine_46 : decode cX2_contractLine 46 = .ok (.istore_n 2, 1) := dk_61 (dk_at dksX2_contractLine_1 22 rfl rfl)
theorem dX2_contractLine_47 : decode cX2_contractLine 47 = .ok (.aload_n 0, 1) := dk_42 (dk_at dksX2_contractLine_1 23 rfl rfl)
theorem dX2_contractLine_48 : decode cX2_contractLine 48 = .ok (.getfield 97, 3) := dk_180 0 97 (dk_at dksX2_contractLine_2 0 rfl rfl)
theorem dX2_contractLine_51 : decode cX2_contractLine 51 = .ok (.ifCond .eq 4, 3) := dk_153 0 4 (dk_at dksX2_contractLine_2 3 rfl rfl)
theorem dX2_contractLine_54 : decode cX2_contractLine 54 = .ok (.return_, 1) := dk_177 (dk_at dksX2_contractLine_2 6 rfl rfl)
theorem dX2_contractLine_55 : decode cX2_contractLine 55 = .ok (.aload_n 0, 1) := dk_42 (dk_at dksX2_contractLine_2 7 rfl rfl)
theorem dX2_contractLine_56 : decode cX2_contractLine 56 = .ok (.getfield 23, 3) := dk_180 0 23 (dk_at dksX2_contractLine_2 8 rfl rfl)
theorem dX2_contractLine_59 : decode cX2_contractLine 59 = .ok (.bipush 13, 2) := dk_16 13 (dk_at dksX2_contractLine_2 11 rfl rfl)
theorem dX2_contractLine_61 : decode cX2_contractLine 61 = .ok (.iload_n 1, 1) := dk_27 (dk_at dksX2_contractLine_2 13 rfl rfl)
theorem dX2_contractLine_62 : decode cX2_contractLine 62 = .ok (.iadd, 1) := dk_96 (dk_at dksX2_contractLine_2 14 rfl rfl)
theorem dX2_contractLine_63 : decode cX2_contractLine 63 = .ok (.iload_n 2, 1) := dk_28 (dk_at dksX2_contractLine_2 15 rfl rfl)
theorem dX2_contractLine_64 : decode cX2_contractLine 64 = .ok (.iastore, 1) := dk_79 (dk_at dksX2_contractLine_2 16 rfl rfl)
theorem dX2_contractLine_65 : decode cX2_contractLine 65 = .ok (.aload_n 0, 1) := dk_42 (dk_at dksX2_contractLine_2 17 rfl rfl)
theorem dX2_contractLine_66 : decode cX2_contractLine 66 = .ok (.getfield 23, 3) := dk_180 0 23 (dk_at dksX2_contractLine_2 18 rfl rfl)
theorem dX2_contractLine_69 : decode cX2_contractLine 69 = .ok (.iconst 3, 1) := dk_6 (dk_at dksX2_contractLine_2 21 rfl rfl)
theorem dX2_contractLine_70 : decode cX2_contractLine 70 = .ok (.dup2, 1) := dk_92 (dk_at dksX2_contractLine_2 22 rfl rfl)
theorem dX2_contractLine_71 : decode cX2_contractLine 71 = .ok (.iaload, 1) := dk_46 (dk_at dksX2_contractLine_2 23 rfl rfl)
theorem dX2_contractLine_72 : decode cX2_contractLine 72 = .ok (.iconst 1, 1) := dk_4 (dk_at dksX2_contractLine_3 0 rfl rfl)
theorem dX2_contractLine_73 : decode cX2_contractLine 73 = .ok (.iadd, 1) := dk_96 (dk_at dksX2_contractLine_3 1 rfl rfl)
theorem dX2_contractLine_74 : decode cX2_contractLine 74 = .ok (.iastore, 1) := dk_79 (dk_at dksX2_contractLine_3 2 rfl rfl)
theorem dX2_contractLine_75 : decode cX2_contractLine 75 = .ok (.return_, 1) := dk_177 (dk_at dksX2_contractLine_3 3 rfl rfl)
abbrev cX2_pairHere : ByteArray := prog_16_method_23_code
def yX2_pairHere : MethodName := ⟨RX2, "pairHere", "()I"⟩
def dkwX2_pairHere_2 : List UInt8 := [3, 167, 0, 4, 27, 172]
abbrev dktX2_pairHere_2 : List UInt8 := dkwX2_pairHere_2 ++ []
def dkwX2_pairHere_1 : List UInt8 := [182, 0, 143, 60, 27, 156, 0, 12, 42, 5, 42, 180, 0, 78, 182, 0, 124, 42, 180, 0, 97, 153, 0, 7]
abbrev dktX2_pairHere_1 : List UInt8 := dkwX2_pairHere_1 ++ dktX2_pairHere_2
def dkwX2_pairHere_0 : List UInt8 := [42, 180, 0, 97, 153, 0, 5, 3, 172, 42, 182, 0, 140, 42, 180, 0, 97, 153, 0, 5, 3, 172, 42]
abbrev dktX2_pairHere_0 : List UInt8 := dkwX2_pairHere_0 ++ dktX2_pairHere_1
theorem dksX2_pairHere_0 : cX2_pairHere.data.toList.drop 0 = dktX2_pairHere_0 := by decide +kernel
theorem dksX2_pairHere_1 : cX2_pairHere.data.toList.drop 23 = dktX2_pairHere_1 := dk_seg dksX2_pairHere_0 23 rfl rfl
theorem dksX2_pairHere_2 : cX2_pairHere.data.toList.drop 47 = dktX2_pairHere_2 := dk_seg dksX2_pairHere_1 24 rfl rfl
theorem dX2_pairHere_0 : decode cX2_pairHere 0 = .ok (.aload_n 0, 1) := dk_42 (dk_at dksX2_pairHere_0 0 rfl rfl)
theorem dX2_pairHere_1 : decode cX2_pairHere 1 = .ok (.getfield 97, 3) := dk_180 0 97 (dk_at dksX2_pairHere_0 1 rfl rfl)
theorem dX2_pairHere_4 : decode cX2_pairHere 4 = .ok (.ifCond .eq 5, 3) := dk_153 0 5 (dk_at dksX2_pairHere_0 4 rfl rfl)
theorem dX2_pairHere_7 : decode cX2_pairHere 7 = .ok (.iconst 0, 1) := dk_3 (dk_at dksX2_pairHere_0 7 rfl rfl)
theorem dX2_pairHere_8 : decode cX2_pairHere 8 = .ok (.ireturn, 1) := dk_172 (dk_at dksX2_pairHere_0 8 rfl rfl)
theorem dX2_pairHere_9 : decode cX2_pairHere 9 = .ok (.aload_n 0, 1) := dk_42 (dk_at dksX2_pairHere_0 9 rfl rfl)
theorem dX2_pairHere_10 : decode cX2_pairHere 10 = .ok (.invokevirtual 140, 3) := dk_182 0 140 (dk_at dksX2_pairHere_0 10 rfl rfl)
theorem dX2_pairHere_13 : decode cX2_pairHere 13 = .ok (.aload_n 0, 1) := dk_42 (dk_at dksX2_pairHere_0 13 rfl rfl)
theorem dX2_pairHere_14 : decode cX2_pairHere 14 = .ok (.getfield 97, 3) := dk_180 0 97 (dk_at dksX2_pairHere_0 14 rfl rfl)
theorem dX2_pairHere_17 : decode cX2_pairHere 17 = .ok (.ifCond .eq 5, 3) := dk_153 0 5 (dk_at dksX2_pairHere_0 17 rfl rfl)
theorem dX2_pairHere_20 : decode cX2_pairHere 20 = .ok (.iconst 0, 1) := dk_3 (dk_at dksX2_pairHere_0 20 rfl rfl)
theorem dX2_pairHere_21 : decode cX2_pairHere 21 = .ok (.ireturn, 1) := dk_172 (dk_at dksX2_pairHere_0 21 rfl rfl)
theorem dX2_pairHere_22 : decode cX2_pairHere 22 = .ok (.aload_n 0, 1) := dk_42 (dk_at dksX2_pairHere_0 22 rfl rfl)
theorem dX2_pairHere_23 : decode cX2_pairHere 23 = .ok (.invokevirtual 143, 3) := dk_182 0 143 (dk_at dksX2_pairHere_1 0 rfl rfl)
theorem dX2_pairHere_26 : decode cX2_pairHere 26 = .ok (.istore_n 1, 1) := dk_60 (dk_at dksX2_pairHere_1 3 rfl rfl)
theorem dX2_pairHere_27 : decode cX2_pairHere 27 = .ok (.iload_n 1, 1) := dk_27 (dk_at dksX2_pairHere_1 4 rfl rfl)
theorem dX2_pairHere_28 : decode cX2_pairHere 28 = .ok (.ifCond .ge 12, 3) := dk_156 0 12 (dk_at dksX2_pairHere_1 5 rfl rfl)
theorem dX2_pairHere_31 : decode cX2_pairHere 31 = .ok (.aload_n 0, 1) := dk_42 (dk_at dksX2_pairHere_1 8 rfl rfl)
theorem dX2_pairHere_32 : decode cX2_pairHere 32 = .ok (.iconst 2, 1) := dk_5 (dk_at dksX2_pairHere_1 9 rfl rfl)
theorem dX2_pairHere_33 : decode cX2_pairHere 33 = .ok (.aload_n 0, 1) := dk_42 (dk_at dksX2_pairHere_1 10 rfl rfl)
theorem dX2_pairHere_34 : decode cX2_pairHere 34 = .ok (.getfield 78, 3) := dk_180 0 78 (dk_at dksX2_pairHere_1 11 rfl rfl)
theorem dX2_pairHere_37 : decode cX2_pairHere 37 = .ok (.invokevirtual 124, 3) := dk_182 0 124 (dk_at dksX2_pairHere_1 14 rfl rfl)
theorem dX2_pairHere_40 : decode cX2_pairHere 40 = .ok (.aload_n 0, 1) := dk_42 (dk_at dksX2_pairHere_1 17 rfl rfl)
theorem dX2_pairHere_41 : decode cX2_pairHere 41 = .ok (.getfield 97, 3) := dk_180 0 97 (dk_at dksX2_pairHere_1 18 rfl rfl)
theorem dX2_pairHere_44 : decode cX2_pairHere 44 = .ok (.ifCond .eq 7, 3) := dk_153 0 7 (dk_at dksX2_pairHere_1 21 rfl rfl)
theorem dX2_pairHere_47 : decode cX2_pairHere 47 = .ok (.iconst 0, 1) := dk_3 (dk_at dksX2_pairHere_2 0 rfl rfl)
theorem dX2_pairHere_48 : decode cX2_pairHere 48 = .ok (.goto 4, 3) := dk_167 0 4 (dk_at dksX2_pairHere_2 1 rfl rfl)
theorem dX2_pairHere_51 : decode cX2_pairHere 51 = .ok (.iload_n 1, 1) := dk_27 (dk_at dksX2_pairHere_2 4 rfl rfl)
theorem dX2_pairHere_52 : decode cX2_pairHere 52 = .ok (.ireturn, 1) := dk_172 (dk_at dksX2_pairHere_2 5 rfl rfl)
abbrev cX2_debtLine : ByteArray := prog_16_method_34_code
def yX2_debtLine : MethodName := ⟨RX2, "debtLine", "()V"⟩
def dkwX2_debtLine_4 : List UInt8 := [46, 4, 96, 79, 177]
abbrev dktX2_debtLine_4 : List UInt8 := dkwX2_debtLine_4 ++ []
def dkwX2_debtLine_3 : List UInt8 := [153, 0, 4, 177, 42, 180, 0, 29, 16, 10, 8, 27, 104, 96, 28, 96, 29, 79, 42, 180, 0, 23, 7, 92]
abbrev dktX2_debtLine_3 : List UInt8 := dkwX2_debtLine_3 ++ dktX2_debtLine_4
def dkwX2_debtLine_2 : List UInt8 := [180, 0, 78, 182, 0, 124, 42, 182, 0, 154, 42, 4, 16, 99, 182, 0, 161, 62, 42, 180, 0, 97]
abbrev dktX2_debtLine_2 : List UInt8 := dkwX2_debtLine_2 ++ dktX2_debtLine_3
def dkwX2_debtLine_1 : List UInt8 := [159, 0, 19, 42, 180, 0, 29, 16, 10, 8, 27, 104, 96, 28, 96, 46, 158, 0, 12, 42, 6, 42]
abbrev dktX2_debtLine_1 : List UInt8 := dkwX2_debtLine_1 ++ dktX2_debtLine_2
def dkwX2_debtLine_0 : List UInt8 := [42, 182, 0, 232, 60, 42, 182, 0, 154, 42, 182, 0, 232, 61, 42, 180, 0, 97, 154, 0, 33, 27, 28]
abbrev dktX2_debtLine_0 : List UInt8 := dkwX2_debtLine_0 ++ dktX2_debtLine_1
theorem dksX2_debtLine_0 : cX2_debtLine.data.toList.drop 0 = dktX2_debtLine_0 := by decide +kernel
theorem dksX2_debtLine_1 : cX2_debtLine.data.toList.drop 23 = dktX2_debtLine_1 := dk_seg dksX2_debtLine_0 23 rfl rfl
theorem dksX2_debtLine_2 : cX2_debtLine.data.toList.drop 45 = dktX2_debtLine_2 := dk_seg dksX2_debtLine_1 22 rfl rfl
theorem dksX2_debtLine_3 : cX2_debtLine.data.toList.drop 67 = dktX2_debtLine_3 := dk_seg dksX2_debtLine_2 22 rfl rfl
theorem dksX2_debtLine_4 : cX2_debtLine.data.toList.drop 91 = dktX2_debtLine_4 := dk_seg dksX2_debtLine_3 24 rfl rfl
theorem dX2_debtLine_0 : decode cX2_debtLine 0 = .ok (.aload_n 0, 1) := dk_42 (dk_at dksX2_debtLine_0 0 rfl rfl)
theorem dX2_debtLine_1 : decode cX2_debtLine 1 = .ok (.invokevirtual 232, 3) := dk_182 0 232 (dk_at dksX2_debtLine_0 1 rfl rfl)
theorem dX2_debtLine_4 : decode cX2_debtLine 4 = .ok (.istore_n 1, 1) := dk_60 (dk_at dksX2_debtLine_0 4 rfl rfl)
theorem dX2_debtLine_5 : decode cX2_debtLine 5 = .ok (.aload_n 0, 1) := dk_42 (dk_at dksX2_debtLine_0 5 rfl rfl)
theorem dX2_debtLine_6 : decode cX2_debtLine 6 = .ok (.invokevirtual 154, 3) := dk_182 0 154 (dk_at dksX2_debtLine_0 6 rfl rfl)
theorem dX2_debtLine_9 : decode cX2_debtLine 9 = .ok (.aload_n 0, 1) := dk_42 (dk_at dksX2_debtLine_0 9 rfl rfl)
theorem dX2_debtLine_10 : decode cX2_debtLine 10 = .ok (.invokevirtual 232, 3) := dk_182 0 232 (dk_at dksX2_debtLine_0 10 rfl rfl)
theorem dX2_debtLine_13 : decode cX2_debtLine 13 = .ok (.istore_n 2, 1) := dk_61 (dk_at dksX2_debtLine_0 13 rfl rfl)
theorem dX2_debtLine_14 : decode cX2_debtLine 14 = .ok (.aload_n 0, 1) := dk_42 (dk_at dksX2_debtLine_0 14 rfl rfl)
theorem dX2_debtLine_15 : decode cX2_debtLine 15 = .ok (.getfield 97, 3) := dk_180 0 97 (dk_at dksX2_debtLine_0 15 rfl rfl)
theorem dX2_debtLine_18 : decode cX2_debtLine 18 = .ok (.ifCond .ne 33, 3) := dk_154 0 33 (dk_at dksX2_debtLine_0 18 rfl rfl)
theorem dX2_debtLine_21 : decode cX2_debtLine 21 = .ok (.iload_n 1, 1) := dk_27 (dk_at dksX2_debtLine_0 21 rfl rfl)
theorem dX2_debtLine_22 : decode cX2_debtLine 22 = .ok (.iload_n 2, 1) := dk_28 (dk_at dksX2_debtLine_0 22 rfl rfl)
theorem dX2_debtLine_23 : decode cX2_debtLine 23 = .ok (.if_icmp .eq 19, 3) := dk_159 0 19 (dk_at dksX2_debtLine_1 0 rfl rfl)
theorem dX2_debtLine_26 : decode cX2_debtLine 26 = .ok (.aload_n 0, 1) := dk_42 (dk_at dksX2_debtLine_1 3 rfl rfl)
theorem dX2_debtLine_27 : decode cX2_debtLine 27 = .ok (.getfield 29, 3) := dk_180 0 29 (dk_at dksX2_debtLine_1 4 rfl rfl)
theorem dX2_debtLine_30 : decode cX2_debtLine 30 = .ok (.bipush 10, 2) := dk_16 10 (dk_at dksX2_debtLine_1 7 rfl rfl)
theorem dX2_debtLine_32 : decode cX2_debtLine 32 = .ok (.iconst 5, 1) := dk_8 (dk_at dksX2_debtLine_1 9 rfl rfl)
theorem dX2_debtLine_33 : decode cX2_debtLine 33 = .ok (.iload_n 1, 1) := dk_27 (dk_at dksX2_debtLine_1 10 rfl rfl)
theorem dX2_debtLine_34 : decode cX2_debtLine 34 = .ok (.imul, 1) := dk_104 (dk_at dksX2_debtLine_1 11 rfl rfl)
theorem dX2_debtLine_35 : decode cX2_debtLine 35 = .ok (.iadd, 1) := dk_96 (dk_at dksX2_debtLine_1 12 rfl rfl)
theorem dX2_debtLine_36 : decode cX2_debtLine 36 = .ok (.iload_n 2, 1) := dk_28 (dk_at dksX2_debtLine_1 13 rfl rfl)
theorem dX2_debtLine_37 : decode cX2_debtLine 37 = .ok (.iadd, 1) := dk_96 (dk_at dksX2_debtLine_1 14 rfl rfl)
theorem dX2_debtLine_38 : decode cX2_debtLine 38 = .ok (.iaload, 1) := dk_46 (dk_at dksX2_debtLine_1 15 rfl rfl)
theorem dX2_debtLine_39 : decode cX2_debtLine 39 = .ok (.ifCond .le 12, 3) := dk_158 0 12 (dk_at dksX2_debtLine_1 16 rfl rfl)
theorem dX2_debtLine_42 : decode cX2_debtLine 42 = .ok (.aload_n 0, 1) := dk_42 (dk_at dksX2_debtLine_1 19 rfl rfl)
theorem dX2_debtLine_43 : decode cX2_debtLine 43 = .ok (.iconst 3, 1) := dk_6 (dk_at dksX2_debtLine_1 20 rfl rfl)
theorem dX2_debtLine_44 : decode cX2_debtLine 44 = .ok (.aload_n 0, 1) := dk_42 (dk_at dksX2_debtLine_1 21 rfl rfl)
theorem dX2_debtLine_45 : decode cX2_debtLine 45 = .ok (.getfield 78, 3) := dk_180 0 78 (dk_at dksX2_debtLine_2 0 rfl rfl)
theorem dX2_debtLine_48 : decode cX2_debtLine 48 = .ok (.invokevirtual 124, 3) := dk_182 0 124 (dk_at dksX2_debtLine_2 3 rfl rfl)
theorem dX2_debtLine_51 : decode cX2_debtLine 51 = .ok (.aload_n 0, 1) := dk_42 (dk_at dksX2_debtLine_2 6 rfl rfl)
theorem dX2_debtLine_52 : decode cX2_debtLine 52 = .ok (.invokevirtual 154, 3) := dk_182 0 154 (dk_at dksX2_debtLine_2 7 rfl rfl)
theorem dX2_debtLine_55 : decode cX2_debtLine 55 = .ok (.aload_n 0, 1) := dk_42 (dk_at dksX2_debtLine_2 10 rfl rfl)
theorem dX2_debtLine_56 : decode cX2_debtLine 56 = .ok (.iconst 1, 1) := dk_4 (dk_at dksX2_debtLine_2 11 rfl rfl)
theorem dX2_debtLine_57 : decode cX2_debtLine 57 = .ok (.bipush 99, 2) := dk_16 99 (dk_at dksX2_debtLine_2 12 rfl rfl)
theorem dX2_debtLine_59 : decode cX2_debtLine 59 = .ok (.invokevirtual 161, 3) := dk_182 0 161 (dk_at dksX2_debtLine_2 14 rfl rfl)
theorem dX2_debtLine_62 : decode cX2_debtLine 62 = .ok (.istore_n 3, 1) := dk_62 (dk_at dksX2_debtLine_2 17 rfl rfl)
theorem dX2_debtLine_63 : decode cX2_debtLine 63 = .ok (.aload_n 0, 1) := dk_42 (dk_at dksX2_debtLine_2 18 rfl rfl)
theorem dX2_debtLine_64 : decode cX2_debtLine 64 = .ok (.getfield 97, 3) := dk_180 0 97 (dk_at dksX2_debtLine_2 19 rfl rfl)
theorem dX2_debtLine_67 : decode cX2_debtLine 67 = .ok (.ifCond .eq 4, 3) := dk_153 0 4 (dk_at dksX2_debtLine_3 0 rfl rfl)
theorem dX2_debtLine_70 : decode cX2_debtLine 70 = .ok (.return_, 1) := dk_177 (dk_at dksX2_debtLine_3 3 rfl rfl)
theorem dX2_debtLine_71 : decode cX2_debtLine 71 = .ok (.aload_n 0, 1) := dk_42 (dk_at dksX2_debtLine_3 4 rfl rfl)
theorem dX2_debtLine_72 : decode cX2_debtLine 72 = .ok (.getfield 29, 3) := dk_180 0 29 (dk_at dksX2_debtLine_3 5 rfl rfl)
theorem dX2_debtLine_75 : decode cX2_debtLine 75 = .ok (.bipush 10, 2) := dk_16 10 (dk_at dksX2_debtLine_3 8 rfl rfl)
theorem dX2_debtLine_77 : decode cX2_debtLine 77 = .ok (.iconst 5, 1) := dk_8 (dk_at dksX2_debtLine_3 10 rfl rfl)
theorem dX2_debtLine_78 : decode cX2_debtLine 78 = .ok (.iload_n 1, 1) := dk_27 (dk_at dksX2_debtLine_3 11 rfl rfl)
theorem dX2_debtLine_79 : decode cX2_debtLine 79 = .ok (.imul, 1) := dk_104 (dk_at dksX2_debtLine_3 12 rfl rfl)
theorem dX2_debtLine_80 : decode cX2_debtLine 80 = .ok (.iadd, 1) := dk_96 (dk_at dksX2_debtLine_3 13 rfl rfl)
theorem dX2_debtLine_81 : decode cX2_debtLine 81 = .ok (.iload_n 2, 1) := dk_28 (dk_at dksX2_debtLine_3 14 rfl rfl)
theorem dX2_debtLine_82 : decode cX2_debtLine 82 = .ok (.iadd, 1) := dk_96 (dk_at dksX2_debtLine_3 15 rfl rfl)
theorem dX2_debtLine_83 : decode cX2_debtLine 83 = .ok (.iload_n 3, 1) := dk_29 (dk_at dksX2_debtLine_3 16 rfl rfl)
theorem dX2_debtLine_84 : decode cX2_debtLine 84 = .ok (.iastore, 1) := dk_79 (dk_at dksX2_debtLine_3 17 rfl rfl)
theorem dX2_debtLine_85 : decode cX2_debtLine 85 = .ok (.aload_n 0, 1) := dk_42 (dk_at dksX2_debtLine_3 18 rfl rfl)
theorem dX2_debtLine_86 : decode cX2_debtLine 86 = .ok (.getfield 23, 3) := dk_180 0 23 (dk_at dksX2_debtLine_3 19 rfl rfl)
theorem dX2_debtLine_89 : decode cX2_debtLine 89 = .ok (.iconst 4, 1) := dk_7 (dk_at dksX2_debtLine_3 22 rfl rfl)
theorem dX2_debtLine_90 : decode cX2_debtLine 90 = .ok (.dup2, 1) := dk_92 (dk_at dksX2_debtLine_3 23 rfl rfl)
theorem dX2_debtLine_91 : decode cX2_debtLine 91 = .ok (.iaload, 1) := dk_46 (dk_at dksX2_debtLine_4 0 rfl rfl)
theorem dX2_debtLine_92 : decode cX2_debtLine 92 = .ok (.iconst 1, 1) := dk_4 (dk_at dksX2_debtLine_4 1 rfl rfl)
theorem dX2_debtLine_93 : decode cX2_debtLine 93 = .ok (.iadd, 1) := dk_96 (dk_at dksX2_debtLine_4 2 rfl rfl)
theorem dX2_debtLine_94 : decode cX2_debtLine 94 = .ok (.iastore, 1) := dk_79 (dk_at dksX2_debtLine_4 3 rfl rfl)
theorem dX2_debtLine_95 : decode cX2_debtLine 95 = .ok (.return_, 1) := dk_177 (dk_at dksX2_debtLine_4 4 rfl rfl)
abbrev cX2_unsureLine : ByteArray := prog_16_method_35_code
def yX2_unsureLine : MethodName := ⟨RX2, "unsureLine", "()V"⟩
def dkwX2_unsureLine_5 : List UInt8 := [79, 177]
abbrev dktX2_unsureLine_5 : List UInt8 := dkwX2_unsureLine_5 ++ []
def dkwX2_unsureLine_4 : List UInt8 := [180, 0, 23, 27, 28, 79, 42, 180, 0, 23, 27, 4, 96, 29, 79, 42, 180, 0, 23, 8, 92, 46, 4, 96]
abbrev dktX2_unsureLine_4 : List UInt8 := dkwX2_unsureLine_4 ++ dktX2_unsureLine_5
def dkwX2_unsureLine_3 : List UInt8 := [167, 255, 212, 42, 182, 0, 154, 42, 3, 16, 20, 182, 0, 161, 62, 42, 180, 0, 97, 153, 0, 4, 177, 42]
abbrev dktX2_unsureLine_3 : List UInt8 := dkwX2_unsureLine_3 ++ dktX2_unsureLine_4
def dkwX2_unsureLine_2 : List UInt8 := [16, 18, 5, 29, 104, 96, 46, 28, 160, 0, 12, 42, 6, 42, 180, 0, 78, 182, 0, 124, 132, 3, 1]
abbrev dktX2_unsureLine_2 : List UInt8 := dkwX2_unsureLine_2 ++ dktX2_unsureLine_3
def dkwX2_unsureLine_1 : List UInt8 := [61, 3, 62, 29, 42, 180, 0, 23, 8, 46, 162, 0, 40, 42, 180, 0, 97, 154, 0, 27, 42, 180, 0, 23]
abbrev dktX2_unsureLine_1 : List UInt8 := dkwX2_unsureLine_1 ++ dktX2_unsureLine_2
def dkwX2_unsureLine_0 : List UInt8 := [42, 180, 0, 97, 153, 0, 4, 177, 16, 18, 5, 42, 180, 0, 23, 8, 46, 104, 96, 60, 42, 182, 0, 232]
abbrev dktX2_unsureLine_0 : List UInt8 := dkwX2_unsureLine_0 ++ dktX2_unsureLine_1
theorem dksX2_unsureLine_0 : cX2_unsureLine.data.toList.drop 0 = dktX2_unsureLine_0 := by decide +kernel
theorem dksX2_unsureLine_1 : cX2_unsureLine.data.toList.drop 24 = dktX2_unsureLine_1 := dk_seg dksX2_unsureLine_0 24 rfl rfl
theorem dksX2_unsureLine_2 : cX2_unsureLine.data.toList.drop 48 = dktX2_unsureLine_2 := dk_seg dksX2_unsureLine_1 24 rfl rfl
theorem dksX2_unsureLine_3 : cX2_unsureLine.data.toList.drop 71 = dktX2_unsureLine_3 := dk_seg dksX2_unsureLine_2 23 rfl rfl
theorem dksX2_unsureLine_4 : cX2_unsureLine.data.toList.drop 95 = dktX2_unsureLine_4 := dk_seg dksX2_unsureLine_3 24 rfl rfl
theorem dksX2_unsureLine_5 : cX2_unsureLine.data.toList.drop 119 = dktX2_unsureLine_5 := dk_seg dksX2_unsureLine_4 24 rfl rfl
theorem dX2_unsureLine_0 : decode cX2_unsureLine 0 = .ok (.aload_n 0, 1) := dk_42 (dk_at dksX2_unsureLine_0 0 rfl rfl)
theorem dX2_unsureLine_1 : decode cX2_unsureLine 1 = .ok (.getfield 97, 3) := dk_180 0 97 (dk_at dksX2_unsureLine_0 1 rfl rfl)
theorem dX2_unsureLine_4 : decode cX2_unsureLine 4 = .ok (.ifCond .eq 4, 3) := dk_153 0 4 (dk_at dksX2_unsureLine_0 4 rfl rfl)
theorem dX2_unsureLine_7 : decode cX2_unsureLine 7 = .ok (.return_, 1) := dk_177 (dk_at dksX2_unsureLine_0 7 rfl rfl)
theorem dX2_unsureLine_8 : decode cX2_unsureLine 8 = .ok (.bipush 18, 2) := dk_16 18 (dk_at dksX2_unsureLine_0 8 rfl rfl)
theorem dX2_unsureLine_10 : decode cX2_unsureLine 10 = .ok (.iconst 2, 1) := dk_5 (dk_at dksX2_unsureLine_0 10 rfl rfl)
theorem dX2_unsureLine_11 : decode cX2_unsureLine 11 = .ok (.aload_n 0, 1) := dk_42 (dk_at dksX2_unsureLine_0 11 rfl rfl)
theorem dX2_unsureLine_12 : decode cX2_unsureLine 12 = .ok (.getfield 23, 3) := dk_180 0 23 (dk_at dksX2_unsureLine_0 12 rfl rfl)
theorem dX2_unsureLine_15 : decode cX2_unsureLine 15 = .ok (.iconst 5, 1) := dk_8 (dk_at dksX2_unsureLine_0 15 rfl rfl)
theorem dX2_unsureLine_16 : decode cX2_unsureLine 16 = .ok (.iaload, 1) := dk_46 (dk_at dksX2_unsureLine_0 16 rfl rfl)
theorem dX2_unsureLine_17 : decode cX2_unsureLine 17 = .ok (.imul, 1) := dk_104 (dk_at dksX2_unsureLine_0 17 rfl rfl)
theorem dX2_unsureLine_18 : decode cX2_unsureLine 18 = .ok (.iadd, 1) := dk_96 (dk_at dksX2_unsureLine_0 18 rfl rfl)
theorem dX2_unsureLine_19 : decode cX2_unsureLine 19 = .ok (.istore_n 1, 1) := dk_60 (dk_at dksX2_unsureLine_0 19 rfl rfl)
theorem dX2_unsureLine_20 : decode cX2_unsureLine 20 = .ok (.aload_n 0, 1) := dk_42 (dk_at dksX2_unsureLine_0 20 rfl rfl)
theorem dX2_unsureLine_21 : decode cX2_unsureLine 21 = .ok (.invokevirtual 232, 3) := dk_182 0 232 (dk_at dksX2_unsureLine_0 21 rfl rfl)
theorem dX2_unsureLine_24 : decode cX2_unsureLine 24 = .ok (.istore_n 2, 1) := dk_61 (dk_at dksX2_unsureLine_1 0 rfl rfl)
theorem dX2_unsureLine_25 : decode cX2_unsureLine 25 = .ok (.iconst 0, 1) := dk_3 (dk_at dksX2_unsureLine_1 1 rfl rfl)
theorem dX2_unsureLine_26 : decode cX2_unsureLine 26 = .ok (.istore_n 3, 1) := dk_62 (dk_at dksX2_unsureLine_1 2 rfl rfl)
theorem dX2_unsureLine_27 : decode cX2_unsureLine 27 = .ok (.iload_n 3, 1) := dk_29 (dk_at dksX2_unsureLine_1 3 rfl rfl)
theorem dX2_unsureLine_28 : decode cX2_unsureLine 28 = .ok (.aload_n 0, 1) := dk_42 (dk_at dksX2_unsureLine_1 4 rfl rfl)
theorem dX2_unsureLine_29 : decode cX2_unsureLine 29 = .ok (.getfield 23, 3) := dk_180 0 23 (dk_at dksX2_unsureLine_1 5 rfl rfl)
theorem dX2_unsureLine_32 : decode cX2_unsureLine 32 = .ok (.iconst 5, 1) := dk_8 (dk_at dksX2_unsureLine_1 8 rfl rfl)
theorem dX2_unsureLine_33 : decode cX2_unsureLine 33 = .ok (.iaload, 1) := dk_46 (dk_at dksX2_unsureLine_1 9 rfl rfl)
theorem dX2_unsureLine_34 : decode cX2_unsureLine 34 = .ok (.if_icmp .ge 40, 3) := dk_162 0 40 (dk_at dksX2_unsureLine_1 10 rfl rfl)
theorem dX2_unsureLine_37 : decode cX2_unsureLine 37 = .ok (.aload_n 0, 1) := dk_42 (dk_at dksX2_unsureLine_1 13 rfl rfl)
theorem dX2_unsureLine_38 : decode cX2_unsureLine 38 = .ok (.getfield 97, 3) := dk_180 0 97 (dk_at dksX2_unsureLine_1 14 rfl rfl)
theorem dX2_unsureLine_41 : decode cX2_unsureLine 41 = .ok (.ifCond .ne 27, 3) := dk_154 0 27 (dk_at dksX2_unsureLine_1 17 rfl rfl)
theorem dX2_unsureLine_44 : decode cX2_unsureLine 44 = .ok (.aload_n 0, 1) := dk_42 (dk_at dksX2_unsureLine_1 20 rfl rfl)
theorem dX2_unsureLine_45 : decode cX2_unsureLine 45 = .ok (.getfield 23, 3) := dk_180 0 23 (dk_at dksX2_unsureLine_1 21 rfl rfl)
theorem dX2_unsureLine_48 : decode cX2_unsureLine 48 = .ok (.bipush 18, 2) := dk_16 18 (dk_at dksX2_unsureLine_2 0 rfl rfl)
theorem dX2_unsureLine_50 : decode cX2_unsureLine 50 = .ok (.iconst 2, 1) := dk_5 (dk_at dksX2_unsureLine_2 2 rfl rfl)
theorem dX2_unsureLine_51 : decode cX2_unsureLine 51 = .ok (.iload_n 3, 1) := dk_29 (dk_at dksX2_unsureLine_2 3 rfl rfl)
theorem dX2_unsureLine_52 : decode cX2_unsureLine 52 = .ok (.imul, 1) := dk_104 (dk_at dksX2_unsureLine_2 4 rfl rfl)
theorem dX2_unsureLine_53 : decode cX2_unsureLine 53 = .ok (.iadd, 1) := dk_96 (dk_at dksX2_unsureLine_2 5 rfl rfl)
theorem dX2_unsureLine_54 : decode cX2_unsureLine 54 = .ok (.iaload, 1) := dk_46 (dk_at dksX2_unsureLine_2 6 rfl rfl)
theorem dX2_unsureLine_55 : decode cX2_unsureLine 55 = .ok (.iload_n 2, 1) := dk_28 (dk_at dksX2_unsureLine_2 7 rfl rfl)
theorem dX2_unsureLine_56 : decode cX2_unsureLine 56 = .ok (.if_icmp .ne 12, 3) := dk_160 0 12 (dk_at dksX2_unsureLine_2 8 rfl rfl)
theorem dX2_unsureLine_59 : decode cX2_unsureLine 59 = .ok (.aload_n 0, 1) := dk_42 (dk_at dksX2_unsureLine_2 11 rfl rfl)
theorem dX2_unsureLine_60 : decode cX2_unsureLine 60 = .ok (.iconst 3, 1) := dk_6 (dk_at dksX2_unsureLine_2 12 rfl rfl)
theorem dX2_unsureLine_61 : decode cX2_unsureLine 61 = .ok (.aload_n 0, 1) := dk_42 (dk_at dksX2_unsureLine_2 13 rfl rfl)
theorem dX2_unsureLine_62 : decode cX2_unsureLine 62 = .ok (.getfield 78, 3) := dk_180 0 78 (dk_at dksX2_unsureLine_2 14 rfl rfl)
theorem dX2_unsureLine_65 : decode cX2_unsureLine 65 = .ok (.invokevirtual 124, 3) := dk_182 0 124 (dk_at dksX2_unsureLine_2 17 rfl rfl)
theorem dX2_unsureLine_68 : decode cX2_unsureLine 68 = .ok (.iinc 3 1, 3) := dk_132 3 1 (dk_at dksX2_unsureLine_2 20 rfl rfl)
theorem dX2_unsureLine_71 : decode cX2_unsureLine 71 = .ok (.goto (-44), 3) := dk_167 255 212 (dk_at dksX2_unsureLine_3 0 rfl rfl)
theorem dX2_unsureLine_74 : decode cX2_unsureLine 74 = .ok (.aload_n 0, 1) := dk_42 (dk_at dksX2_unsureLine_3 3 rfl rfl)
theorem dX2_unsureLine_75 : decode cX2_unsureLine 75 = .ok (.invokevirtual 154, 3) := dk_182 0 154 (dk_at dksX2_unsureLine_3 4 rfl rfl)
theorem dX2_unsureLine_78 : decode cX2_unsureLine 78 = .ok (.aload_n 0, 1) := dk_42 (dk_at dksX2_unsureLine_3 7 rfl rfl)
theorem dX2_unsureLine_79 : decode cX2_unsureLine 79 = .ok (.iconst 0, 1) := dk_3 (dk_at dksX2_unsureLine_3 8 rfl rfl)
theorem dX2_unsureLine_80 : decode cX2_unsureLine 80 = .ok (.bipush 20, 2) := dk_16 20 (dk_at dksX2_unsureLine_3 9 rfl rfl)
theorem dX2_unsureLine_82 : decode cX2_unsureLine 82 = .ok (.invokevirtual 161, 3) := dk_182 0 161 (dk_at dksX2_unsureLine_3 11 rfl rfl)
theorem dX2_unsureLine_85 : decode cX2_unsureLine 85 = .ok (.istore_n 3, 1) := dk_62 (dk_at dksX2_unsureLine_3 14 rfl rfl)
theorem dX2_unsureLine_86 : decode cX2_unsureLine 86 = .ok (.aload_n 0, 1) := dk_42 (dk_at dksX2_unsureLine_3 15 rfl rfl)
theorem dX2_unsureLine_87 : decode cX2_unsureLine 87 = .ok (.getfield 97, 3) := dk_180 0 97 (dk_at dksX2_unsureLine_3 16 rfl rfl)
theorem dX2_unsureLine_90 : decode cX2_unsureLine 90 = .ok (.ifCond .eq 4, 3) := dk_153 0 4 (dk_at dksX2_unsureLine_3 19 rfl rfl)
theorem dX2_unsureLine_93 : decode cX2_unsureLine 93 = .ok (.return_, 1) := dk_177 (dk_at dksX2_unsureLine_3 22 rfl rfl)
theorem dX2_unsureLine_94 : decode cX2_unsureLine 94 = .ok (.aload_n 0, 1) := dk_42 (dk_at dksX2_unsureLine_3 23 rfl rfl)
theorem dX2_unsureLine_95 : decode cX2_unsureLine 95 = .ok (.getfield 23, 3) := dk_180 0 23 (dk_at dksX2_unsureLine_4 0 rfl rfl)
theorem dX2_unsureLine_98 : decode cX2_unsureLine 98 = .ok (.iload_n 1, 1) := dk_27 (dk_at dksX2_unsureLine_4 3 rfl rfl)
theorem dX2_unsureLine_99 : decode cX2_unsureLine 99 = .ok (.iload_n 2, 1) := dk_28 (dk_at dksX2_unsureLine_4 4 rfl rfl)
theorem dX2_unsureLine_100 : decode cX2_unsureLine 100 = .ok (.iastore, 1) := dk_79 (dk_at dksX2_unsureLine_4 5 rfl rfl)
theorem dX2_unsureLine_101 : decode cX2_unsureLine 101 = .ok (.aload_n 0, 1) := dk_42 (dk_at dksX2_unsureLine_4 6 rfl rfl)
theorem dX2_unsureLine_102 : decode cX2_unsureLine 102 = .ok (.getfield 23, 3) := dk_180 0 23 (dk_at dksX2_unsureLine_4 7 rfl rfl)
theorem dX2_unsureLine_105 : decode cX2_unsureLine 105 = .ok (.iload_n 1, 1) := dk_27 (dk_at dksX2_unsureLine_4 10 rfl rfl)
theorem dX2_unsureLine_106 : decode cX2_unsureLine 106 = .ok (.iconst 1, 1) := dk_4 (dk_at dksX2_unsureLine_4 11 rfl rfl)
theorem dX2_unsureLine_107 : decode cX2_unsureLine 107 = .ok (.iadd, 1) := dk_96 (dk_at dksX2_unsureLine_4 12 rfl rfl)
theorem dX2_unsureLine_108 : decode cX2_unsureLine 108 = .ok (.iload_n 3, 1) := dk_29 (dk_at dksX2_unsureLine_4 13 rfl rfl)
theorem dX2_unsureLine_109 : decode cX2_unsureLine 109 = .ok (.iastore, 1) := dk_79 (dk_at dksX2_unsureLine_4 14 rfl rfl)
theorem dX2_unsureLine_110 : decode cX2_unsureLine 110 = .ok (.aload_n 0, 1) := dk_42 (dk_at dksX2_unsureLine_4 15 rfl rfl)
theorem dX2_unsureLine_111 : decode cX2_unsureLine 111 = .ok (.getfield 23, 3) := dk_180 0 23 (dk_at dksX2_unsureLine_4 16 rfl rfl)
theorem dX2_unsureLine_114 : decode cX2_unsureLine 114 = .ok (.iconst 5, 1) := dk_8 (dk_at dksX2_unsureLine_4 19 rfl rfl)
theorem dX2_unsureLine_115 : decode cX2_unsureLine 115 = .ok (.dup2, 1) := dk_92 (dk_at dksX2_unsureLine_4 20 rfl rfl)
theorem dX2_unsureLine_116 : decode cX2_unsureLine 116 = .ok (.iaload, 1) := dk_46 (dk_at dksX2_unsureLine_4 21 rfl rfl)
theorem dX2_unsureLine_117 : decode cX2_unsureLine 117 = .ok (.iconst 1, 1) := dk_4 (dk_at dksX2_unsureLine_4 22 rfl rfl)
theorem dX2_unsureLine_118 : decode cX2_unsureLine 118 = .ok (.iadd, 1) := dk_96 (dk_at dksX2_unsureLine_4 23 rfl rfl)
theorem dX2_unsureLine_119 : decode cX2_unsureLine 119 = .ok (.iastore, 1) := dk_79 (dk_at dksX2_unsureLine_5 0 rfl rfl)
theorem dX2_unsureLine_120 : decode cX2_unsureLine 120 = .ok (.return_, 1) := dk_177 (dk_at dksX2_unsureLine_5 1 rfl rfl)
abbrev cX2_heardLine : ByteArray := prog_16_method_36_code
def yX2_heardLine : MethodName := ⟨RX2, "heardLine", "()V"⟩
def dkwX2_heardLine_7 : List UInt8 := [27, 5, 96, 21, 4, 79, 42, 180, 0, 23, 16, 6, 92, 46, 4, 96, 79, 177]
abbrev dktX2_heardLine_7 : List UInt8 := dkwX2_heardLine_7 ++ []
def dkwX2_heardLine_6 : List UInt8 := [153, 0, 4, 177, 42, 180, 0, 23, 27, 28, 79, 42, 180, 0, 23, 27, 4, 96, 29, 79, 42, 180, 0, 23]
abbrev dktX2_heardLine_6 : List UInt8 := dkwX2_heardLine_6 ++ dktX2_heardLine_7
def dkwX2_heardLine_5 : List UInt8 := [42, 182, 0, 154, 42, 18, 228, 3, 42, 180, 0, 23, 3, 46, 182, 0, 210, 54, 4, 42, 180, 0, 97]
abbrev dktX2_heardLine_5 : List UInt8 := dkwX2_heardLine_5 ++ dktX2_heardLine_6
def dkwX2_heardLine_4 : List UInt8 := [104, 96, 4, 96, 46, 29, 160, 0, 12, 42, 6, 42, 180, 0, 78, 182, 0, 124, 132, 4, 1, 167, 255, 191]
abbrev dktX2_heardLine_4 : List UInt8 := dkwX2_heardLine_4 ++ dktX2_heardLine_5
def dkwX2_heardLine_3 : List UInt8 := [180, 0, 23, 16, 26, 6, 21, 4, 104, 96, 46, 28, 160, 0, 30, 42, 180, 0, 23, 16, 26, 6, 21, 4]
abbrev dktX2_heardLine_3 : List UInt8 := dkwX2_heardLine_3 ++ dktX2_heardLine_4
def dkwX2_heardLine_2 : List UInt8 := [54, 4, 21, 4, 42, 180, 0, 23, 16, 6, 46, 162, 0, 59, 42, 180, 0, 97, 154, 0, 46, 42]
abbrev dktX2_heardLine_2 : List UInt8 := dkwX2_heardLine_2 ++ dktX2_heardLine_3
def dkwX2_heardLine_1 : List UInt8 := [182, 0, 232, 61, 42, 182, 0, 154, 42, 18, 237, 182, 0, 157, 42, 4, 16, 30, 182, 0, 150, 62, 3]
abbrev dktX2_heardLine_1 : List UInt8 := dkwX2_heardLine_1 ++ dktX2_heardLine_2
def dkwX2_heardLine_0 : List UInt8 := [42, 180, 0, 97, 153, 0, 4, 177, 16, 26, 6, 42, 180, 0, 23, 16, 6, 46, 104, 96, 60, 42]
abbrev dktX2_heardLine_0 : List UInt8 := dkwX2_heardLine_0 ++ dktX2_heardLine_1
theorem dksX2_heardLine_0 : cX2_heardLine.data.toList.drop 0 = dktX2_heardLine_0 := by decide +kernel
theorem dksX2_heardLine_1 : cX2_heardLine.data.toList.drop 22 = dktX2_heardLine_1 := dk_seg dksX2_heardLine_0 22 rfl rfl
theorem dksX2_heardLine_2 : cX2_heardLine.data.toList.drop 45 = dktX2_heardLine_2 := dk_seg dksX2_heardLine_1 23 rfl rfl
theorem dksX2_heardLine_3 : cX2_heardLine.data.toList.drop 67 = dktX2_heardLine_3 := dk_seg dksX2_heardLine_2 22 rfl rfl
theorem dksX2_heardLine_4 : cX2_heardLine.data.toList.drop 91 = dktX2_heardLine_4 := dk_seg dksX2_heardLine_3 24 rfl rfl
theorem dksX2_heardLine_5 : cX2_heardLine.data.toList.drop 115 = dktX2_heardLine_5 := dk_seg dksX2_heardLine_4 24 rfl rfl
theorem dksX2_heardLine_6 : cX2_heardLine.data.toList.drop 138 = dktX2_heardLine_6 := dk_seg dksX2_heardLine_5 23 rfl rfl
theorem dksX2_heardLine_7 : cX2_heardLine.data.toList.drop 162 = dktX2_heardLine_7 := dk_seg dksX2_heardLine_6 24 rfl rfl
theorem dX2_heardLine_0 : decode cX2_heardLine 0 = .ok (.aload_n 0, 1) := dk_42 (dk_at dksX2_heardLine_0 0 rfl rfl)
theorem dX2_heardLine_1 : decode cX2_heardLine 1 = .ok (.getfield 97, 3) := dk_180 0 97 (dk_at dksX2_heardLine_0 1 rfl rfl)
theorem dX2_heardLine_4 : decode cX2_heardLine 4 = .ok (.ifCond .eq 4, 3) := dk_153 0 4 (dk_at dksX2_heardLine_0 4 rfl rfl)
theorem dX2_heardLine_7 : decode cX2_heardLine 7 = .ok (.return_, 1) := dk_177 (dk_at dksX2_heardLine_0 7 rfl rfl)
theorem dX2_heardLine_8 : decode cX2_heardLine 8 = .ok (.bipush 26, 2) := dk_16 26 (dk_at dksX2_heardLine_0 8 rfl rfl)
theorem dX2_heardLine_10 : decode cX2_heardLine 10 = .ok (.iconst 3, 1) := dk_6 (dk_at dksX2_heardLine_0 10 rfl rfl)
theorem dX2_heardLine_11 : decode cX2_heardLine 11 = .ok (.aload_n 0, 1) := dk_42 (dk_at dksX2_heardLine_0 11 rfl rfl)
theorem dX2_heardLine_12 : decode cX2_heardLine 12 = .ok (.getfield 23, 3) := dk_180 0 23 (dk_at dksX2_heardLine_0 12 rfl rfl)
theorem dX2_heardLine_15 : decode cX2_heardLine 15 = .ok (.bipush 6, 2) := dk_16 6 (dk_at dksX2_heardLine_0 15 rfl rfl)
theorem dX2_heardLine_17 : decode cX2_heardLine 17 = .ok (.iaload, 1) := dk_46 (dk_at dksX2_heardLine_0 17 rfl rfl)
theorem dX2_heardLine_18 : decode cX2_heardLine 18 = .ok (.imul, 1) := dk_104 (dk_at dksX2_heardLine_0 18 rfl rfl)
theorem dX2_heardLine_19 : decode cX2_heardLine 19 = .ok (.iadd, 1) := dk_96 (dk_at dksX2_heardLine_0 19 rfl rfl)
theorem dX2_heardLine_20 : decode cX2_heardLine 20 = .ok (.istore_n 1, 1) := dk_60 (dk_at dksX2_heardLine_0 20 rfl rfl)
theorem dX2_heardLine_21 : decode cX2_heardLine 21 = .ok (.aload_n 0, 1) := dk_42 (dk_at dksX2_heardLine_0 21 rfl rfl)
theorem dX2_heardLine_22 : decode cX2_heardLine 22 = .ok (.invokevirtual 232, 3) := dk_182 0 232 (dk_at dksX2_heardLine_1 0 rfl rfl)
theorem dX2_heardLine_25 : decode cX2_heardLine 25 = .ok (.istore_n 2, 1) := dk_61 (dk_at dksX2_heardLine_1 3 rfl rfl)
theorem dX2_heardLine_26 : decode cX2_heardLine 26 = .ok (.aload_n 0, 1) := dk_42 (dk_at dksX2_heardLine_1 4 rfl rfl)
theorem dX2_heardLine_27 : decode cX2_heardLine 27 = .ok (.invokevirtual 154, 3) := dk_182 0 154 (dk_at dksX2_heardLine_1 5 rfl rfl)
theorem dX2_heardLine_30 : decode cX2_heardLine 30 = .ok (.aload_n 0, 1) := dk_42 (dk_at dksX2_heardLine_1 8 rfl rfl)
theorem dX2_heardLine_31 : decode cX2_heardLine 31 = .ok (.ldc 237, 2) := dk_18 237 (dk_at dksX2_heardLine_1 9 rfl rfl)
theorem dX2_heardLine_33 : decode cX2_heardLine 33 = .ok (.invokevirtual 157, 3) := dk_182 0 157 (dk_at dksX2_heardLine_1 11 rfl rfl)
theorem dX2_heardLine_36 : decode cX2_heardLine 36 = .ok (.aload_n 0, 1) := dk_42 (dk_at dksX2_heardLine_1 14 rfl rfl)
theorem dX2_heardLine_37 : decode cX2_heardLine 37 = .ok (.iconst 1, 1) := dk_4 (dk_at dksX2_heardLine_1 15 rfl rfl)
theorem dX2_heardLine_38 : decode cX2_heardLine 38 = .ok (.bipush 30, 2) := dk_16 30 (dk_at dksX2_heardLine_1 16 rfl rfl)
theorem dX2_heardLine_40 : decode cX2_heardLine 40 = .ok (.invokevirtual 150, 3) := dk_182 0 150 (dk_at dksX2_heardLine_1 18 rfl rfl)
theorem dX2_heardLine_43 : decode cX2_heardLine 43 = .ok (.istore_n 3, 1) := dk_62 (dk_at dksX2_heardLine_1 21 rfl rfl)
theorem dX2_heardLine_44 : decode cX2_heardLine 44 = .ok (.iconst 0, 1) := dk_3 (dk_at dksX2_heardLine_1 22 rfl rfl)
theorem dX2_heardLine_45 : decode cX2_heardLine 45 = .ok (.istore 4, 2) := dk_54 4 (dk_at dksX2_heardLine_2 0 rfl rfl)
theorem dX2_heardLine_47 : decode cX2_heardLine 47 = .ok (.iload 4, 2) := dk_21 4 (dk_at dksX2_heardLine_2 2 rfl rfl)
theorem dX2_heardLine_49 : decode cX2_heardLine 49 = .ok (.aload_n 0, 1) := dk_42 (dk_at dksX2_heardLine_2 4 rfl rfl)
theorem dX2_heardLine_50 : decode cX2_heardLine 50 = .ok (.getfield 23, 3) := dk_180 0 23 (dk_at dksX2_heardLine_2 5 rfl rfl)
theorem dX2_heardLine_53 : decode cX2_heardLine 53 = .ok (.bipush 6, 2) := dk_16 6 (dk_at dksX2_heardLine_2 8 rfl rfl)
theorem dX2_heardLine_55 : decode cX2_heardLine 55 = .ok (.iaload, 1) := dk_46 (dk_at dksX2_heardLine_2 10 rfl rfl)
theorem dX2_heardLine_56 : decode cX2_heardLine 56 = .ok (.if_icmp .ge 59, 3) := dk_162 0 59 (dk_at dksX2_heardLine_2 11 rfl rfl)
theorem dX2_heardLine_59 : decode cX2_heardLine 59 = .ok (.aload_n 0, 1) := dk_42 (dk_at dksX2_heardLine_2 14 rfl rfl)
theorem dX2_heardLine_60 : decode cX2_heardLine 60 = .ok (.getfield 97, 3) := dk_180 0 97 (dk_at dksX2_heardLine_2 15 rfl rfl)
theorem dX2_heardLine_63 : decode cX2_heardLine 63 = .ok (.ifCond .ne 46, 3) := dk_154 0 46 (dk_at dksX2_heardLine_2 18 rfl rfl)
theorem dX2_heardLine_66 : decode cX2_heardLine 66 = .ok (.aload_n 0, 1) := dk_42 (dk_at dksX2_heardLine_2 21 rfl rfl)
theorem dX2_heardLine_67 : decode cX2_heardLine 67 = .ok (.getfield 23, 3) := dk_180 0 23 (dk_at dksX2_heardLine_3 0 rfl rfl)
theorem dX2_heardLine_70 : decode cX2_heardLine 70 = .ok (.bipush 26, 2) := dk_16 26 (dk_at dksX2_heardLine_3 3 rfl rfl)
theorem dX2_heardLine_72 : decode cX2_heardLine 72 = .ok (.iconst 3, 1) := dk_6 (dk_at dksX2_heardLine_3 5 rfl rfl)
theorem dX2_heardLine_73 : decode cX2_heardLine 73 = .ok (.iload 4, 2) := dk_21 4 (dk_at dksX2_heardLine_3 6 rfl rfl)
theorem dX2_heardLine_75 : decode cX2_heardLine 75 = .ok (.imul, 1) := dk_104 (dk_at dksX2_heardLine_3 8 rfl rfl)
theorem dX2_heardLine_76 : decode cX2_heardLine 76 = .ok (.iadd, 1) := dk_96 (dk_at dksX2_heardLine_3 9 rfl rfl)
theorem dX2_heardLine_77 : decode cX2_heardLine 77 = .ok (.iaload, 1) := dk_46 (dk_at dksX2_heardLine_3 10 rfl rfl)
theorem dX2_heardLine_78 : decode cX2_heardLine 78 = .ok (.iload_n 2, 1) := dk_28 (dk_at dksX2_heardLine_3 11 rfl rfl)
theorem dX2_heardLine_79 : decode cX2_heardLine 79 = .ok (.if_icmp .ne 30, 3) := dk_160 0 30 (dk_at dksX2_heardLine_3 12 rfl rfl)
theorem dX2_heardLine_82 : decode cX2_heardLine 82 = .ok (.aload_n 0, 1) := dk_42 (dk_at dksX2_heardLine_3 15 rfl rfl)
theorem dX2_heardLine_83 : decode cX2_heardLine 83 = .ok (.getfield 23, 3) := dk_180 0 23 (dk_at dksX2_heardLine_3 16 rfl rfl)
theorem dX2_heardLine_86 : decode cX2_heardLine 86 = .ok (.bipush 26, 2) := dk_16 26 (dk_at dksX2_heardLine_3 19 rfl rfl)
theorem dX2_heardLine_88 : decode cX2_heardLine 88 = .ok (.iconst 3, 1) := dk_6 (dk_at dksX2_heardLine_3 21 rfl rfl)
theorem dX2_heardLine_89 : decode cX2_heardLine 89 = .ok (.iload 4, 2) := dk_21 4 (dk_at dksX2_heardLine_3 22 rfl rfl)
theorem dX2_heardLine_91 : decode cX2_heardLine 91 = .ok (.imul, 1) := dk_104 (dk_at dksX2_heardLine_4 0 rfl rfl)
theorem dX2_heardLine_92 : decode cX2_heardLine 92 = .ok (.iadd, 1) := dk_96 (dk_at dksX2_heardLine_4 1 rfl rfl)
theorem dX2_heardLine_93 : decode cX2_heardLine 93 = .ok (.iconst 1, 1) := dk_4 (dk_at dksX2_heardLine_4 2 rfl rfl)
theorem dX2_heardLine_94 : decode cX2_heardLine 94 = .ok (.iadd, 1) := dk_96 (dk_at dksX2_heardLine_4 3 rfl rfl)
theorem dX2_heardLine_95 : decode cX2_heardLine 95 = .ok (.iaload, 1) := dk_46 (dk_at dksX2_heardLine_4 4 rfl rfl)
theorem dX2_heardLine_96 : decode cX2_heardLine 96 = .ok (.iload_n 3, 1) := dk_29 (dk_at dksX2_heardLine_4 5 rfl rfl)
theorem dX2_heardLine_97 : decode cX2_heardLine 97 = .ok (.if_icmp .ne 12, 3) := dk_160 0 12 (dk_at dksX2_heardLine_4 6 rfl rfl)
theorem dX2_heardLine_100 : decode cX2_heardLine 100 = .ok (.aload_n 0, 1) := dk_42 (dk_at dksX2_heardLine_4 9 rfl rfl)
theorem dX2_heardLine_101 : decode cX2_heardLine 101 = .ok (.iconst 3, 1) := dk_6 (dk_at dksX2_heardLine_4 10 rfl rfl)
theorem dX2_heardLine_102 : decode cX2_heardLine 102 = .ok (.aload_n 0, 1) := dk_42 (dk_at dksX2_heardLine_4 11 rfl rfl)
theorem dX2_heardLine_103 : decode cX2_heardLine 103 = .ok (.getfield 78, 3) := dk_180 0 78 (dk_at dksX2_heardLine_4 12 rfl rfl)
theorem dX2_heardLine_106 : decode cX2_heardLine 106 = .ok (.invokevirtual 124, 3) := dk_182 0 124 (dk_at dksX2_heardLine_4 15 rfl rfl)
theorem dX2_heardLine_109 : decode cX2_heardLine 109 = .ok (.iinc 4 1, 3) := dk_132 4 1 (dk_at dksX2_heardLine_4 18 rfl rfl)
theorem dX2_heardLine_112 : decode cX2_heardLine 112 = .ok (.goto (-65), 3) := dk_167 255 191 (dk_at dksX2_heardLine_4 21 rfl rfl)
theorem dX2_heardLine_115 : decode cX2_heardLine 115 = .ok (.aload_n 0, 1) := dk_42 (dk_at dksX2_heardLine_5 0 rfl rfl)
theorem dX2_heardLine_116 : decode cX2_heardLine 116 = .ok (.invokevirtual 154, 3) := dk_182 0 154 (dk_at dksX2_heardLine_5 1 rfl rfl)
theorem dX2_heardLine_119 : decode cX2_heardLine 119 = .ok (.aload_n 0, 1) := dk_42 (dk_at dksX2_heardLine_5 4 rfl rfl)
theorem dX2_heardLine_120 : decode cX2_heardLine 120 = .ok (.ldc 228, 2) := dk_18 228 (dk_at dksX2_heardLine_5 5 rfl rfl)
theorem dX2_heardLine_122 : decode cX2_heardLine 122 = .ok (.iconst 0, 1) := dk_3 (dk_at dksX2_heardLine_5 7 rfl rfl)
theorem dX2_heardLine_123 : decode cX2_heardLine 123 = .ok (.aload_n 0, 1) := dk_42 (dk_at dksX2_heardLine_5 8 rfl rfl)
theorem dX2_heardLine_124 : decode cX2_heardLine 124 = .ok (.getfield 23, 3) := dk_180 0 23 (dk_at dksX2_heardLine_5 9 rfl rfl)
theorem dX2_heardLine_127 : decode cX2_heardLine 127 = .ok (.iconst 0, 1) := dk_3 (dk_at dksX2_heardLine_5 12 rfl rfl)
theorem dX2_heardLine_128 : decode cX2_heardLine 128 = .ok (.iaload, 1) := dk_46 (dk_at dksX2_heardLine_5 13 rfl rfl)
theorem dX2_heardLine_129 : decode cX2_heardLine 129 = .ok (.invokevirtual 210, 3) := dk_182 0 210 (dk_at dksX2_heardLine_5 14 rfl rfl)
theorem dX2_heardLine_132 : decode cX2_heardLine 132 = .ok (.istore 4, 2) := dk_54 4 (dk_at dksX2_heardLine_5 17 rfl rfl)
theorem dX2_heardLine_134 : decode cX2_heardLine 134 = .ok (.aload_n 0, 1) := dk_42 (dk_at dksX2_heardLine_5 19 rfl rfl)
theorem dX2_heardLine_135 : decode cX2_heardLine 135 = .ok (.getfield 97, 3) := dk_180 0 97 (dk_at dksX2_heardLine_5 20 rfl rfl)
theorem dX2_heardLine_138 : decode cX2_heardLine 138 = .ok (.ifCond .eq 4, 3) := dk_153 0 4 (dk_at dksX2_heardLine_6 0 rfl rfl)
theorem dX2_heardLine_141 : decode cX2_heardLine 141 = .ok (.return_, 1) := dk_177 (dk_at dksX2_heardLine_6 3 rfl rfl)
theorem dX2_heardLine_142 : decode cX2_heardLine 142 = .ok (.aload_n 0, 1) := dk_42 (dk_at dksX2_heardLine_6 4 rfl rfl)
theorem dX2_heardLine_143 : decode cX2_heardLine 143 = .ok (.getfield 23, 3) := dk_180 0 23 (dk_at dksX2_heardLine_6 5 rfl rfl)
theorem dX2_heardLine_146 : decode cX2_heardLine 146 = .ok (.iload_n 1, 1) := dk_27 (dk_at dksX2_heardLine_6 8 rfl rfl)
theorem dX2_heardLine_147 : decode cX2_heardLine 147 = .ok (.iload_n 2, 1) := dk_28 (dk_at dksX2_heardLine_6 9 rfl rfl)
theorem dX2_heardLine_148 : decode cX2_heardLine 148 = .ok (.iastore, 1) := dk_79 (dk_at dksX2_heardLine_6 10 rfl rfl)
theorem dX2_heardLine_149 : decode cX2_heardLine 149 = .ok (.aload_n 0, 1) := dk_42 (dk_at dksX2_heardLine_6 11 rfl rfl)
theorem dX2_heardLine_150 : decode cX2_heardLine 150 = .ok (.getfield 23, 3) := dk_180 0 23 (dk_at dksX2_heardLine_6 12 rfl rfl)
theorem dX2_heardLine_153 : decode cX2_heardLine 153 = .ok (.iload_n 1, 1) := dk_27 (dk_at dksX2_heardLine_6 15 rfl rfl)
theorem dX2_heardLine_154 : decode cX2_heardLine 154 = .ok (.iconst 1, 1) := dk_4 (dk_at dksX2_heardLine_6 16 rfl rfl)
theorem dX2_heardLine_155 : decode cX2_heardLine 155 = .ok (.iadd, 1) := dk_96 (dk_at dksX2_heardLine_6 17 rfl rfl)
theorem dX2_heardLine_156 : decode cX2_heardLine 156 = .ok (.iload_n 3, 1) := dk_29 (dk_at dksX2_heardLine_6 18 rfl rfl)
theorem dX2_heardLine_157 : decode cX2_heardLine 157 = .ok (.iastore, 1) := dk_79 (dk_at dksX2_heardLine_6 19 rfl rfl)
theorem dX2_heardLine_158 : decode cX2_heardLine 158 = .ok (.aload_n 0, 1) := dk_42 (dk_at dksX2_heardLine_6 20 rfl rfl)
theorem dX2_heardLine_159 : decode cX2_heardLine 159 = .ok (.getfield 23, 3) := dk_180 0 23 (dk_at dksX2_heardLine_6 21 rfl rfl)
theorem dX2_heardLine_162 : decode cX2_heardLine 162 = .ok (.iload_n 1, 1) := dk_27 (dk_at dksX2_heardLine_7 0 rfl rfl)
theorem dX2_heardLine_163 : decode cX2_heardLine 163 = .ok (.iconst 2, 1) := dk_5 (dk_at dksX2_heardLine_7 1 rfl rfl)
theorem dX2_heardLine_164 : decode cX2_heardLine 164 = .ok (.iadd, 1) := dk_96 (dk_at dksX2_heardLine_7 2 rfl rfl)
theorem dX2_heardLine_165 : decode cX2_heardLine 165 = .ok (.iload 4, 2) := dk_21 4 (dk_at dksX2_heardLine_7 3 rfl rfl)
theorem dX2_heardLine_167 : decode cX2_heardLine 167 = .ok (.iastore, 1) := dk_79 (dk_at dksX2_heardLine_7 5 rfl rfl)
theorem dX2_heardLine_168 : decode cX2_heardLine 168 = .ok (.aload_n 0, 1) := dk_42 (dk_at dksX2_heardLine_7 6 rfl rfl)
theorem dX2_heardLine_169 : decode cX2_heardLine 169 = .ok (.getfield 23, 3) := dk_180 0 23 (dk_at dksX2_heardLine_7 7 rfl rfl)
theorem dX2_heardLine_172 : decode cX2_heardLine 172 = .ok (.bipush 6, 2) := dk_16 6 (dk_at dksX2_heardLine_7 10 rfl rfl)
theorem dX2_heardLine_174 : decode cX2_heardLine 174 = .ok (.dup2, 1) := dk_92 (dk_at dksX2_heardLine_7 12 rfl rfl)
theorem dX2_heardLine_175 : decode cX2_heardLine 175 = .ok (.iaload, 1) := dk_46 (dk_at dksX2_heardLine_7 13 rfl rfl)
theorem dX2_heardLine_176 : decode cX2_heardLine 176 = .ok (.iconst 1, 1) := dk_4 (dk_at dksX2_heardLine_7 14 rfl rfl)
theorem dX2_heardLine_177 : decode cX2_heardLine 177 = .ok (.iadd, 1) := dk_96 (dk_at dksX2_heardLine_7 15 rfl rfl)
theorem dX2_heardLine_178 : decode cX2_heardLine 178 = .ok (.iastore, 1) := dk_79 (dk_at dksX2_heardLine_7 16 rfl rfl)
theorem dX2_heardLine_179 : decode cX2_heardLine 179 = .ok (.return_, 1) := dk_177 (dk_at dksX2_heardLine_7 17 rfl rfl)
abbrev cX2_copy : ByteArray := prog_16_method_9_code
def yX2_copy : MethodName := ⟨RX2, "copy", "([II[III)V"⟩
def dkwX2_copy_1 : List UInt8 := [132, 5, 1, 167, 255, 234, 177]
abbrev dktX2_copy_1 : List UInt8 := dkwX2_copy_1 ++ []
def dkwX2_copy_0 : List UInt8 := [3, 54, 5, 21, 5, 21, 4, 162, 0, 21, 44, 29, 21, 5, 96, 42, 27, 21, 5, 96, 46, 79]
abbrev dktX2_copy_0 : List UInt8 := dkwX2_copy_0 ++ dktX2_copy_1
theorem dksX2_copy_0 : cX2_copy.data.toList.drop 0 = dktX2_copy_0 := by decide +kernel
theorem dksX2_copy_1 : cX2_copy.data.toList.drop 22 = dktX2_copy_1 := dk_seg dksX2_copy_0 22 rfl rfl
theorem dX2_copy_0 : decode cX2_copy 0 = .ok (.iconst 0, 1) := dk_3 (dk_at dksX2_copy_0 0 rfl rfl)
theorem dX2_copy_1 : decode cX2_copy 1 = .ok (.istore 5, 2) := dk_54 5 (dk_at dksX2_copy_0 1 rfl rfl)
theorem dX2_copy_3 : decode cX2_copy 3 = .ok (.iload 5, 2) := dk_21 5 (dk_at dksX2_copy_0 3 rfl rfl)
theorem dX2_copy_5 : decode cX2_copy 5 = .ok (.iload 4, 2) := dk_21 4 (dk_at dksX2_copy_0 5 rfl rfl)
theorem dX2_copy_7 : decode cX2_copy 7 = .ok (.if_icmp .ge 21, 3) := dk_162 0 21 (dk_at dksX2_copy_0 7 rfl rfl)
theorem dX2_copy_10 : decode cX2_copy 10 = .ok (.aload_n 2, 1) := dk_44 (dk_at dksX2_copy_0 10 rfl rfl)
theorem dX2_copy_11 : decode cX2_copy 11 = .ok (.iload_n 3, 1) := dk_29 (dk_at dksX2_copy_0 11 rfl rfl)
theorem dX2_copy_12 : decode cX2_copy 12 = .ok (.iload 5, 2) := dk_21 5 (dk_at dksX2_copy_0 12 rfl rfl)
theorem dX2_copy_14 : decode cX2_copy 14 = .ok (.iadd, 1) := dk_96 (dk_at dksX2_copy_0 14 rfl rfl)
theorem dX2_copy_15 : decode cX2_copy 15 = .ok (.aload_n 0, 1) := dk_42 (dk_at dksX2_copy_0 15 rfl rfl)
theorem dX2_copy_16 : decode cX2_copy 16 = .ok (.iload_n 1, 1) := dk_27 (dk_at dksX2_copy_0 16 rfl rfl)
theorem dX2_copy_17 : decode cX2_copy 17 = .ok (.iload 5, 2) := dk_21 5 (dk_at dksX2_copy_0 17 rfl rfl)
theorem dX2_copy_19 : decode cX2_copy 19 = .ok (.iadd, 1) := dk_96 (dk_at dksX2_copy_0 19 rfl rfl)
theorem dX2_copy_20 : decode cX2_copy 20 = .ok (.iaload, 1) := dk_46 (dk_at dksX2_copy_0 20 rfl rfl)
theorem dX2_copy_21 : decode cX2_copy 21 = .ok (.iastore, 1) := dk_79 (dk_at dksX2_copy_0 21 rfl rfl)
theorem dX2_copy_22 : decode cX2_copy 22 = .ok (.iinc 5 1, 3) := dk_132 5 1 (dk_at dksX2_copy_1 0 rfl rfl)
theorem dX2_copy_25 : decode cX2_copy 25 = .ok (.goto (-22), 3) := dk_167 255 234 (dk_at dksX2_copy_1 3 rfl rfl)
theorem dX2_copy_28 : decode cX2_copy 28 = .ok (.return_, 1) := dk_177 (dk_at dksX2_copy_1 6 rfl rfl)
abbrev cX2_fault : ByteArray := prog_16_method_37_code
def yX2_fault : MethodName := ⟨RX2, "fault", "()I"⟩
def dkwX2_fault_0 : List UInt8 := [42, 3, 181, 0, 59, 42, 180, 0, 101, 172]
abbrev dktX2_fault_0 : List UInt8 := dkwX2_fault_0 ++ []
theorem dksX2_fault_0 : cX2_fault.data.toList.drop 0 = dktX2_fault_0 := by decide +kernel
theorem dX2_fault_0 : decode cX2_fault 0 = .ok (.aload_n 0, 1) := dk_42 (dk_at dksX2_fault_0 0 rfl rfl)
theorem dX2_fault_1 : decode cX2_fault 1 = .ok (.iconst 0, 1) := dk_3 (dk_at dksX2_fault_0 1 rfl rfl)
theorem dX2_fault_2 : decode cX2_fault 2 = .ok (.putfield 59, 3) := dk_181 0 59 (dk_at dksX2_fault_0 2 rfl rfl)
theorem dX2_fault_5 : decode cX2_fault 5 = .ok (.aload_n 0, 1) := dk_42 (dk_at dksX2_fault_0 5 rfl rfl)
theorem dX2_fault_6 : decode cX2_fault 6 = .ok (.getfield 101, 3) := dk_180 0 101 (dk_at dksX2_fault_0 6 rfl rfl)
theorem dX2_fault_9 : decode cX2_fault 9 = .ok (.ireturn, 1) := dk_172 (dk_at dksX2_fault_0 9 rfl rfl)
abbrev cX2_where : ByteArray := prog_16_method_38_code
def yX2_where : MethodName := ⟨RX2, "where", "()I"⟩
def dkwX2_where_0 : List UInt8 := [42, 3, 181, 0, 59, 42, 180, 0, 62, 7, 160, 0, 10, 42, 180, 0, 13, 167, 0, 4, 2, 172]
abbrev dktX2_where_0 : List UInt8 := dkwX2_where_0 ++ []
theorem dksX2_where_0 : cX2_where.data.toList.drop 0 = dktX2_where_0 := by decide +kernel
theorem dX2_where_0 : decode cX2_where 0 = .ok (.aload_n 0, 1) := dk_42 (dk_at dksX2_where_0 0 rfl rfl)
theorem dX2_where_1 : decode cX2_where 1 = .ok (.iconst 0, 1) := dk_3 (dk_at dksX2_where_0 1 rfl rfl)
theorem dX2_where_2 : decode cX2_where 2 = .ok (.putfield 59, 3) := dk_181 0 59 (dk_at dksX2_where_0 2 rfl rfl)
theorem dX2_where_5 : decode cX2_where 5 = .ok (.aload_n 0, 1) := dk_42 (dk_at dksX2_where_0 5 rfl rfl)
theorem dX2_where_6 : decode cX2_where 6 = .ok (.getfield 62, 3) := dk_180 0 62 (dk_at dksX2_where_0 6 rfl rfl)
theorem dX2_where_9 : decode cX2_where 9 = .ok (.iconst 4, 1) := dk_7 (dk_at dksX2_where_0 9 rfl rfl)
theorem dX2_where_10 : decode cX2_where 10 = .ok (.if_icmp .ne 10, 3) := dk_160 0 10 (dk_at dksX2_where_0 10 rfl rfl)
theorem dX2_where_13 : decode cX2_where 13 = .ok (.aload_n 0, 1) := dk_42 (dk_at dksX2_where_0 13 rfl rfl)
theorem dX2_where_14 : decode cX2_where 14 = .ok (.getfield 13, 3) := dk_180 0 13 (dk_at dksX2_where_0 14 rfl rfl)
theorem dX2_where_17 : decode cX2_where 17 = .ok (.goto 4, 3) := dk_167 0 4 (dk_at dksX2_where_0 17 rfl rfl)
theorem dX2_where_20 : decode cX2_where 20 = .ok (.iconst (-1), 1) := dk_2 (dk_at dksX2_where_0 20 rfl rfl)
theorem dX2_where_21 : decode cX2_where 21 = .ok (.ireturn, 1) := dk_172 (dk_at dksX2_where_0 21 rfl rfl)
abbrev cX2_pair : ByteArray := prog_16_method_50_code
def yX2_pair : MethodName := ⟨RX2, "pair", "(II)I"⟩
def dkwX2_pair_5 : List UInt8 := [46, 172, 42, 42, 180, 0, 32, 27, 46, 182, 1, 16, 153, 0, 7, 4, 167, 0, 4, 3, 172]
abbrev dktX2_pair_5 : List UInt8 := dkwX2_pair_5 ++ []
def dkwX2_pair_4 : List UInt8 := [180, 0, 32, 27, 46, 100, 172, 42, 180, 0, 32, 8, 27, 96, 46, 172, 42, 180, 0, 20, 16, 13, 27, 96]
abbrev dktX2_pair_4 : List UInt8 := dkwX2_pair_4 ++ dktX2_pair_5
def dkwX2_pair_3 : List UInt8 := [42, 180, 0, 20, 16, 8, 27, 96, 46, 172, 42, 180, 0, 32, 27, 46, 172, 42, 180, 0, 20, 3, 46, 42]
abbrev dktX2_pair_3 : List UInt8 := dkwX2_pair_3 ++ dktX2_pair_4
def dkwX2_pair_2 : List UInt8 := [170, 0, 0, 0, 0, 0, 0, 86, 0, 0, 0, 0, 0, 0, 0, 4, 0, 0, 0, 36, 0, 0, 0, 46, 0, 0, 0, 53, 0, 0, 0, 67, 0, 0, 0, 76]
abbrev dktX2_pair_2 : List UInt8 := dkwX2_pair_2 ++ dktX2_pair_3
def dkwX2_pair_1 : List UInt8 := [182, 0, 167, 172, 28]
abbrev dktX2_pair_1 : List UInt8 := dkwX2_pair_1 ++ dktX2_pair_2
def dkwX2_pair_0 : List UInt8 := [42, 182, 0, 164, 42, 27, 182, 0, 239, 153, 0, 12, 28, 3, 8, 184, 0, 146, 154, 0, 9, 42, 4]
abbrev dktX2_pair_0 : List UInt8 := dkwX2_pair_0 ++ dktX2_pair_1
theorem dksX2_pair_0 : cX2_pair.data.toList.drop 0 = dktX2_pair_0 := by decide +kernel
theorem dksX2_pair_1 : cX2_pair.data.toList.drop 23 = dktX2_pair_1 := dk_seg dksX2_pair_0 23 rfl rfl
theorem dksX2_pair_2 : cX2_pair.data.toList.drop 28 = dktX2_pair_2 := dk_seg dksX2_pair_1 5 rfl rfl
theorem dksX2_pair_3 : cX2_pair.data.toList.drop 64 = dktX2_pair_3 := dk_seg dksX2_pair_2 36 rfl rfl
theorem dksX2_pair_4 : cX2_pair.data.toList.drop 88 = dktX2_pair_4 := dk_seg dksX2_pair_3 24 rfl rfl
theorem dksX2_pair_5 : cX2_pair.data.toList.drop 112 = dktX2_pair_5 := dk_seg dksX2_pair_4 24 rfl rfl
theorem dX2_pair_0 : decode cX2_pair 0 = .ok (.aload_n 0, 1) := dk_42 (dk_at dksX2_pair_0 0 rfl rfl)
theorem dX2_pair_1 : decode cX2_pair 1 = .ok (.invokevirtual 164, 3) := dk_182 0 164 (dk_at dksX2_pair_0 1 rfl rfl)
theorem dX2_pair_4 : decode cX2_pair 4 = .ok (.aload_n 0, 1) := dk_42 (dk_at dksX2_pair_0 4 rfl rfl)
theorem dX2_pair_5 : decode cX2_pair 5 = .ok (.iload_n 1, 1) := dk_27 (dk_at dksX2_pair_0 5 rfl rfl)
theorem dX2_pair_6 : decode cX2_pair 6 = .ok (.invokevirtual 239, 3) := dk_182 0 239 (dk_at dksX2_pair_0 6 rfl rfl)
theorem dX2_pair_9 : decode cX2_pair 9 = .ok (.ifCond .eq 12, 3) := dk_153 0 12 (dk_at dksX2_pair_0 9 rfl rfl)
theorem dX2_pair_12 : decode cX2_pair 12 = .ok (.iload_n 2, 1) := dk_28 (dk_at dksX2_pair_0 12 rfl rfl)
theorem dX2_pair_13 : decode cX2_pair 13 = .ok (.iconst 0, 1) := dk_3 (dk_at dksX2_pair_0 13 rfl rfl)
theorem dX2_pair_14 : decode cX2_pair 14 = .ok (.iconst 5, 1) := dk_8 (dk_at dksX2_pair_0 14 rfl rfl)
theorem dX2_pair_15 : decode cX2_pair 15 = .ok (.invokestatic 146, 3) := dk_184 0 146 (dk_at dksX2_pair_0 15 rfl rfl)
theorem dX2_pair_18 : decode cX2_pair 18 = .ok (.ifCond .ne 9, 3) := dk_154 0 9 (dk_at dksX2_pair_0 18 rfl rfl)
theorem dX2_pair_21 : decode cX2_pair 21 = .ok (.aload_n 0, 1) := dk_42 (dk_at dksX2_pair_0 21 rfl rfl)
theorem dX2_pair_22 : decode cX2_pair 22 = .ok (.iconst 1, 1) := dk_4 (dk_at dksX2_pair_0 22 rfl rfl)
theorem dX2_pair_23 : decode cX2_pair 23 = .ok (.invokevirtual 167, 3) := dk_182 0 167 (dk_at dksX2_pair_1 0 rfl rfl)
theorem dX2_pair_26 : decode cX2_pair 26 = .ok (.ireturn, 1) := dk_172 (dk_at dksX2_pair_1 3 rfl rfl)
theorem dX2_pair_27 : decode cX2_pair 27 = .ok (.iload_n 2, 1) := dk_28 (dk_at dksX2_pair_1 4 rfl rfl)
theorem dX2_pair_28 : decode cX2_pair 28 = .ok (.tableswitch 86 0 4 #[36, 46, 53, 67, 76], 36) := by decide +kernel
theorem dX2_pair_64 : decode cX2_pair 64 = .ok (.aload_n 0, 1) := dk_42 (dk_at dksX2_pair_3 0 rfl rfl)
theorem dX2_pair_65 : decode cX2_pair 65 = .ok (.getfield 20, 3) := dk_180 0 20 (dk_at dksX2_pair_3 1 rfl rfl)
theorem dX2_pair_68 : decode cX2_pair 68 = .ok (.bipush 8, 2) := dk_16 8 (dk_at dksX2_pair_3 4 rfl rfl)
theorem dX2_pair_70 : decode cX2_pair 70 = .ok (.iload_n 1, 1) := dk_27 (dk_at dksX2_pair_3 6 rfl rfl)
theorem dX2_pair_71 : decode cX2_pair 71 = .ok (.iadd, 1) := dk_96 (dk_at dksX2_pair_3 7 rfl rfl)
theorem dX2_pair_72 : decode cX2_pair 72 = .ok (.iaload, 1) := dk_46 (dk_at dksX2_pair_3 8 rfl rfl)
theorem dX2_pair_73 : decode cX2_pair 73 = .ok (.ireturn, 1) := dk_172 (dk_at dksX2_pair_3 9 rfl rfl)
theorem dX2_pair_74 : decode cX2_pair 74 = .ok (.aload_n 0, 1) := dk_42 (dk_at dksX2_pair_3 10 rfl rfl)
theorem dX2_pair_75 : decode cX2_pair 75 = .ok (.getfield 32, 3) := dk_180 0 32 (dk_at dksX2_pair_3 11 rfl rfl)
theorem dX2_pair_78 : decode cX2_pair 78 = .ok (.iload_n 1, 1) := dk_27 (dk_at dksX2_pair_3 14 rfl rfl)
theorem dX2_pair_79 : decode cX2_pair 79 = .ok (.iaload, 1) := dk_46 (dk_at dksX2_pair_3 15 rfl rfl)
theorem dX2_pair_80 : decode cX2_pair 80 = .ok (.ireturn, 1) := dk_172 (dk_at dksX2_pair_3 16 rfl rfl)
theorem dX2_pair_81 : decode cX2_pair 81 = .ok (.aload_n 0, 1) := dk_42 (dk_at dksX2_pair_3 17 rfl rfl)
theorem dX2_pair_82 : decode cX2_pair 82 = .ok (.getfield 20, 3) := dk_180 0 20 (dk_at dksX2_pair_3 18 rfl rfl)
theorem dX2_pair_85 : decode cX2_pair 85 = .ok (.iconst 0, 1) := dk_3 (dk_at dksX2_pair_3 21 rfl rfl)
theorem dX2_pair_86 : decode cX2_pair 86 = .ok (.iaload, 1) := dk_46 (dk_at dksX2_pair_3 22 rfl rfl)
theorem dX2_pair_87 : decode cX2_pair 87 = .ok (.aload_n 0, 1) := dk_42 (dk_at dksX2_pair_3 23 rfl rfl)
theorem dX2_pair_88 : decode cX2_pair 88 = .ok (.getfield 32, 3) := dk_180 0 32 (dk_at dksX2_pair_4 0 rfl rfl)
theorem dX2_pair_91 : decode cX2_pair 91 = .ok (.iload_n 1, 1) := dk_27 (dk_at dksX2_pair_4 3 rfl rfl)
theorem dX2_pair_92 : decode cX2_pair 92 = .ok (.iaload, 1) := dk_46 (dk_at dksX2_pair_4 4 rfl rfl)
theorem dX2_pair_93 : decode cX2_pair 93 = .ok (.isub, 1) := dk_100 (dk_at dksX2_pair_4 5 rfl rfl)
theorem dX2_pair_94 : decode cX2_pair 94 = .ok (.ireturn, 1) := dk_172 (dk_at dksX2_pair_4 6 rfl rfl)
theorem dX2_pair_95 : decode cX2_pair 95 = .ok (.aload_n 0, 1) := dk_42 (dk_at dksX2_pair_4 7 rfl rfl)
theorem dX2_pair_96 : decode cX2_pair 96 = .ok (.getfield 32, 3) := dk_180 0 32 (dk_at dksX2_pair_4 8 rfl rfl)
theorem dX2_pair_99 : decode cX2_pair 99 = .ok (.iconst 5, 1) := dk_8 (dk_at dksX2_pair_4 11 rfl rfl)
theorem dX2_pair_100 : decode cX2_pair 100 = .ok (.iload_n 1, 1) := dk_27 (dk_at dksX2_pair_4 12 rfl rfl)
theorem dX2_pair_101 : decode cX2_pair 101 = .ok (.iadd, 1) := dk_96 (dk_at dksX2_pair_4 13 rfl rfl)
theorem dX2_pair_102 : decode cX2_pair 102 = .ok (.iaload, 1) := dk_46 (dk_at dksX2_pair_4 14 rfl rfl)
theorem dX2_pair_103 : decode cX2_pair 103 = .ok (.ireturn, 1) := dk_172 (dk_at dksX2_pair_4 15 rfl rfl)
theorem dX2_pair_104 : decode cX2_pair 104 = .ok (.aload_n 0, 1) := dk_42 (dk_at dksX2_pair_4 16 rfl rfl)
theorem dX2_pair_105 : decode cX2_pair 105 = .ok (.getfield 20, 3) := dk_180 0 20 (dk_at dksX2_pair_4 17 rfl rfl)
theorem dX2_pair_108 : decode cX2_pair 108 = .ok (.bipush 13, 2) := dk_16 13 (dk_at dksX2_pair_4 20 rfl rfl)
theorem dX2_pair_110 : decode cX2_pair 110 = .ok (.iload_n 1, 1) := dk_27 (dk_at dksX2_pair_4 22 rfl rfl)
theorem dX2_pair_111 : decode cX2_pair 111 = .ok (.iadd, 1) := dk_96 (dk_at dksX2_pair_4 23 rfl rfl)
theorem dX2_pair_112 : decode cX2_pair 112 = .ok (.iaload, 1) := dk_46 (dk_at dksX2_pair_5 0 rfl rfl)
theorem dX2_pair_113 : decode cX2_pair 113 = .ok (.ireturn, 1) := dk_172 (dk_at dksX2_pair_5 1 rfl rfl)
theorem dX2_pair_114 : decode cX2_pair 114 = .ok (.aload_n 0, 1) := dk_42 (dk_at dksX2_pair_5 2 rfl rfl)
theorem dX2_pair_115 : decode cX2_pair 115 = .ok (.aload_n 0, 1) := dk_42 (dk_at dksX2_pair_5 3 rfl rfl)
theorem dX2_pair_116 : decode cX2_pair 116 = .ok (.getfield 32, 3) := dk_180 0 32 (dk_at dksX2_pair_5 4 rfl rfl)
theorem dX2_pair_119 : decode cX2_pair 119 = .ok (.iload_n 1, 1) := dk_27 (dk_at dksX2_pair_5 7 rfl rfl)
theorem dX2_pair_120 : decode cX2_pair 120 = .ok (.iaload, 1) := dk_46 (dk_at dksX2_pair_5 8 rfl rfl)
theorem dX2_pair_121 : decode cX2_pair 121 = .ok (.invokevirtual 272, 3) := dk_182 1 16 (dk_at dksX2_pair_5 9 rfl rfl)
theorem dX2_pair_124 : decode cX2_pair 124 = .ok (.ifCond .eq 7, 3) := dk_153 0 7 (dk_at dksX2_pair_5 12 rfl rfl)
theorem dX2_pair_127 : decode cX2_pair 127 = .ok (.iconst 1, 1) := dk_4 (dk_at dksX2_pair_5 15 rfl rfl)
theorem dX2_pair_128 : decode cX2_pair 128 = .ok (.goto 4, 3) := dk_167 0 4 (dk_at dksX2_pair_5 16 rfl rfl)
theorem dX2_pair_131 : decode cX2_pair 131 = .ok (.iconst 0, 1) := dk_3 (dk_at dksX2_pair_5 19 rfl rfl)
theorem dX2_pair_132 : decode cX2_pair 132 = .ok (.ireturn, 1) := dk_172 (dk_at dksX2_pair_5 20 rfl rfl)
abbrev cX2_isPair : ByteArray := prog_16_method_39_code
def yX2_isPair : MethodName := ⟨RX2, "isPair", "(I)Z"⟩
def dkwX2_isPair_1 : List UInt8 := [167, 0, 4, 3, 172]
abbrev dktX2_isPair_1 : List UInt8 := dkwX2_isPair_1 ++ []
def dkwX2_isPair_0 : List UInt8 := [42, 180, 0, 177, 153, 0, 23, 27, 3, 42, 180, 0, 20, 5, 46, 4, 100, 184, 0, 146, 153, 0, 7, 4]
abbrev dktX2_isPair_0 : List UInt8 := dkwX2_isPair_0 ++ dktX2_isPair_1
theorem dksX2_isPair_0 : cX2_isPair.data.toList.drop 0 = dktX2_isPair_0 := by decide +kernel
theorem dksX2_isPair_1 : cX2_isPair.data.toList.drop 24 = dktX2_isPair_1 := dk_seg dksX2_isPair_0 24 rfl rfl
theorem dX2_isPair_0 : decode cX2_isPair 0 = .ok (.aload_n 0, 1) := dk_42 (dk_at dksX2_isPair_0 0 rfl rfl)
theorem dX2_isPair_1 : decode cX2_isPair 1 = .ok (.getfield 177, 3) := dk_180 0 177 (dk_at dksX2_isPair_0 1 rfl rfl)
theorem dX2_isPair_4 : decode cX2_isPair 4 = .ok (.ifCond .eq 23, 3) := dk_153 0 23 (dk_at dksX2_isPair_0 4 rfl rfl)
theorem dX2_isPair_7 : decode cX2_isPair 7 = .ok (.iload_n 1, 1) := dk_27 (dk_at dksX2_isPair_0 7 rfl rfl)
theorem dX2_isPair_8 : decode cX2_isPair 8 = .ok (.iconst 0, 1) := dk_3 (dk_at dksX2_isPair_0 8 rfl rfl)
theorem dX2_isPair_9 : decode cX2_isPair 9 = .ok (.aload_n 0, 1) := dk_42 (dk_at dksX2_isPair_0 9 rfl rfl)
theorem dX2_isPair_10 : decode cX2_isPair 10 = .ok (.getfield 20, 3) := dk_180 0 20 (dk_at dksX2_isPair_0 10 rfl rfl)
theorem dX2_isPair_13 : decode cX2_isPair 13 = .ok (.iconst 2, 1) := dk_5 (dk_at dksX2_isPair_0 13 rfl rfl)
theorem dX2_isPair_14 : decode cX2_isPair 14 = .ok (.iaload, 1) := dk_46 (dk_at dksX2_isPair_0 14 rfl rfl)
theorem dX2_isPair_15 : decode cX2_isPair 15 = .ok (.iconst 1, 1) := dk_4 (dk_at dksX2_isPair_0 15 rfl rfl)
theorem dX2_isPair_16 : decode cX2_isPair 16 = .ok (.isub, 1) := dk_100 (dk_at dksX2_isPair_0 16 rfl rfl)
theorem dX2_isPair_17 : decode cX2_isPair 17 = .ok (.invokestatic 146, 3) := dk_184 0 146 (dk_at dksX2_isPair_0 17 rfl rfl)
theorem dX2_isPair_20 : decode cX2_isPair 20 = .ok (.ifCond .eq 7, 3) := dk_153 0 7 (dk_at dksX2_isPair_0 20 rfl rfl)
theorem dX2_isPair_23 : decode cX2_isPair 23 = .ok (.iconst 1, 1) := dk_4 (dk_at dksX2_isPair_0 23 rfl rfl)
theorem dX2_isPair_24 : decode cX2_isPair 24 = .ok (.goto 4, 3) := dk_167 0 4 (dk_at dksX2_isPair_1 0 rfl rfl)
theorem dX2_isPair_27 : decode cX2_isPair 27 = .ok (.iconst 0, 1) := dk_3 (dk_at dksX2_isPair_1 3 rfl rfl)
theorem dX2_isPair_28 : decode cX2_isPair 28 = .ok (.ireturn, 1) := dk_172 (dk_at dksX2_isPair_1 4 rfl rfl)
abbrev cX2_isMore : ByteArray := prog_16_method_45_code
def yX2_isMore : MethodName := ⟨RX2, "isMore", "(I)Z"⟩
def dkwX2_isMore_0 : List UInt8 := [5, 27, 104, 42, 180, 0, 20, 3, 46, 164, 0, 7, 4, 167, 0, 4, 3, 172]
abbrev dktX2_isMore_0 : List UInt8 := dkwX2_isMore_0 ++ []
theorem dksX2_isMore_0 : cX2_isMore.data.toList.drop 0 = dktX2_isMore_0 := by decide +kernel
theorem dX2_isMore_0 : decode cX2_isMore 0 = .ok (.iconst 2, 1) := dk_5 (dk_at dksX2_isMore_0 0 rfl rfl)
theorem dX2_isMore_1 : decode cX2_isMore 1 = .ok (.iload_n 1, 1) := dk_27 (dk_at dksX2_isMore_0 1 rfl rfl)
theorem dX2_isMore_2 : decode cX2_isMore 2 = .ok (.imul, 1) := dk_104 (dk_at dksX2_isMore_0 2 rfl rfl)
theorem dX2_isMore_3 : decode cX2_isMore 3 = .ok (.aload_n 0, 1) := dk_42 (dk_at dksX2_isMore_0 3 rfl rfl)
theorem dX2_isMore_4 : decode cX2_isMore 4 = .ok (.getfield 20, 3) := dk_180 0 20 (dk_at dksX2_isMore_0 4 rfl rfl)
theorem dX2_isMore_7 : decode cX2_isMore 7 = .ok (.iconst 0, 1) := dk_3 (dk_at dksX2_isMore_0 7 rfl rfl)
theorem dX2_isMore_8 : decode cX2_isMore 8 = .ok (.iaload, 1) := dk_46 (dk_at dksX2_isMore_0 8 rfl rfl)
theorem dX2_isMore_9 : decode cX2_isMore 9 = .ok (.if_icmp .le 7, 3) := dk_164 0 7 (dk_at dksX2_isMore_0 9 rfl rfl)
theorem dX2_isMore_12 : decode cX2_isMore 12 = .ok (.iconst 1, 1) := dk_4 (dk_at dksX2_isMore_0 12 rfl rfl)
theorem dX2_isMore_13 : decode cX2_isMore 13 = .ok (.goto 4, 3) := dk_167 0 4 (dk_at dksX2_isMore_0 13 rfl rfl)
theorem dX2_isMore_16 : decode cX2_isMore 16 = .ok (.iconst 0, 1) := dk_3 (dk_at dksX2_isMore_0 16 rfl rfl)
theorem dX2_isMore_17 : decode cX2_isMore 17 = .ok (.ireturn, 1) := dk_172 (dk_at dksX2_isMore_0 17 rfl rfl)
abbrev cX2_says : ByteArray := prog_16_method_52_code
def yX2_says : MethodName := ⟨RX2, "says", "(II)I"⟩
def dkwX2_says_1 : List UInt8 := [167, 0, 9, 42, 27, 28, 182, 1, 27, 172]
abbrev dktX2_says_1 : List UInt8 := dkwX2_says_1 ++ []
def dkwX2_says_0 : List UInt8 := [42, 182, 0, 164, 42, 42, 27, 182, 0, 239, 28, 182, 1, 23, 62, 29, 153, 0, 11, 42, 29, 182, 0, 167]
abbrev dktX2_says_0 : List UInt8 := dkwX2_says_0 ++ dktX2_says_1
theorem dksX2_says_0 : cX2_says.data.toList.drop 0 = dktX2_says_0 := by decide +kernel
theorem dksX2_says_1 : cX2_says.data.toList.drop 24 = dktX2_says_1 := dk_seg dksX2_says_0 24 rfl rfl
theorem dX2_says_0 : decode cX2_says 0 = .ok (.aload_n 0, 1) := dk_42 (dk_at dksX2_says_0 0 rfl rfl)
theorem dX2_says_1 : decode cX2_says 1 = .ok (.invokevirtual 164, 3) := dk_182 0 164 (dk_at dksX2_says_0 1 rfl rfl)
theorem dX2_says_4 : decode cX2_says 4 = .ok (.aload_n 0, 1) := dk_42 (dk_at dksX2_says_0 4 rfl rfl)
theorem dX2_says_5 : decode cX2_says 5 = .ok (.aload_n 0, 1) := dk_42 (dk_at dksX2_says_0 5 rfl rfl)
theorem dX2_says_6 : decode cX2_says 6 = .ok (.iload_n 1, 1) := dk_27 (dk_at dksX2_says_0 6 rfl rfl)
theorem dX2_says_7 : decode cX2_says 7 = .ok (.invokevirtual 239, 3) := dk_182 0 239 (dk_at dksX2_says_0 7 rfl rfl)
theorem dX2_says_10 : decode cX2_says 10 = .ok (.iload_n 2, 1) := dk_28 (dk_at dksX2_says_0 10 rfl rfl)
theorem dX2_says_11 : decode cX2_says 11 = .ok (.invokevirtual 279, 3) := dk_182 1 23 (dk_at dksX2_says_0 11 rfl rfl)
theorem dX2_says_14 : decode cX2_says 14 = .ok (.istore_n 3, 1) := dk_62 (dk_at dksX2_says_0 14 rfl rfl)
theorem dX2_says_15 : decode cX2_says 15 = .ok (.iload_n 3, 1) := dk_29 (dk_at dksX2_says_0 15 rfl rfl)
theorem dX2_says_16 : decode cX2_says 16 = .ok (.ifCond .eq 11, 3) := dk_153 0 11 (dk_at dksX2_says_0 16 rfl rfl)
theorem dX2_says_19 : decode cX2_says 19 = .ok (.aload_n 0, 1) := dk_42 (dk_at dksX2_says_0 19 rfl rfl)
theorem dX2_says_20 : decode cX2_says 20 = .ok (.iload_n 3, 1) := dk_29 (dk_at dksX2_says_0 20 rfl rfl)
theorem dX2_says_21 : decode cX2_says 21 = .ok (.invokevirtual 167, 3) := dk_182 0 167 (dk_at dksX2_says_0 21 rfl rfl)
theorem dX2_says_24 : decode cX2_says 24 = .ok (.goto 9, 3) := dk_167 0 9 (dk_at dksX2_says_1 0 rfl rfl)
theorem dX2_says_27 : decode cX2_says 27 = .ok (.aload_n 0, 1) := dk_42 (dk_at dksX2_says_1 3 rfl rfl)
theorem dX2_says_28 : decode cX2_says 28 = .ok (.iload_n 1, 1) := dk_27 (dk_at dksX2_says_1 4 rfl rfl)
theorem dX2_says_29 : decode cX2_says 29 = .ok (.iload_n 2, 1) := dk_28 (dk_at dksX2_says_1 5 rfl rfl)
theorem dX2_says_30 : decode cX2_says 30 = .ok (.invokevirtual 283, 3) := dk_182 1 27 (dk_at dksX2_says_1 6 rfl rfl)
theorem dX2_says_33 : decode cX2_says 33 = .ok (.ireturn, 1) := dk_172 (dk_at dksX2_says_1 9 rfl rfl)
abbrev cX2_aheadWhy : ByteArray := prog_16_method_51_code
def yX2_aheadWhy : MethodName := ⟨RX2, "aheadWhy", "(ZI)I"⟩
def dkwX2_aheadWhy_0 : List UInt8 := [42, 27, 28, 3, 16, 60, 184, 0, 146, 182, 1, 19, 172]
abbrev dktX2_aheadWhy_0 : List UInt8 := dkwX2_aheadWhy_0 ++ []
theorem dksX2_aheadWhy_0 : cX2_aheadWhy.data.toList.drop 0 = dktX2_aheadWhy_0 := by decide +kernel
theorem dX2_aheadWhy_0 : decode cX2_aheadWhy 0 = .ok (.aload_n 0, 1) := dk_42 (dk_at dksX2_aheadWhy_0 0 rfl rfl)
theorem dX2_aheadWhy_1 : decode cX2_aheadWhy 1 = .ok (.iload_n 1, 1) := dk_27 (dk_at dksX2_aheadWhy_0 1 rfl rfl)
theorem dX2_aheadWhy_2 : decode cX2_aheadWhy 2 = .ok (.iload_n 2, 1) := dk_28 (dk_at dksX2_aheadWhy_0 2 rfl rfl)
theorem dX2_aheadWhy_3 : decode cX2_aheadWhy 3 = .ok (.iconst 0, 1) := dk_3 (dk_at dksX2_aheadWhy_0 3 rfl rfl)
theorem dX2_aheadWhy_4 : decode cX2_aheadWhy 4 = .ok (.bipush 60, 2) := dk_16 60 (dk_at dksX2_aheadWhy_0 4 rfl rfl)
theorem dX2_aheadWhy_6 : decode cX2_aheadWhy 6 = .ok (.invokestatic 146, 3) := dk_184 0 146 (dk_at dksX2_aheadWhy_0 6 rfl rfl)
theorem dX2_aheadWhy_9 : decode cX2_aheadWhy 9 = .ok (.invokevirtual 275, 3) := dk_182 1 19 (dk_at dksX2_aheadWhy_0 9 rfl rfl)
theorem dX2_aheadWhy_12 : decode cX2_aheadWhy 12 = .ok (.ireturn, 1) := dk_172 (dk_at dksX2_aheadWhy_0 12 rfl rfl)
abbrev cX2_why : ByteArray := prog_16_method_41_code
def yX2_why : MethodName := ⟨RX2, "why", "(ZZ)I"⟩
def dkwX2_why_0 : List UInt8 := [27, 154, 0, 7, 4, 167, 0, 12, 28, 153, 0, 7, 3, 167, 0, 4, 5, 172]
abbrev dktX2_why_0 : List UInt8 := dkwX2_why_0 ++ []
theorem dksX2_why_0 : cX2_why.data.toList.drop 0 = dktX2_why_0 := by decide +kernel
theorem dX2_why_0 : decode cX2_why 0 = .ok (.iload_n 1, 1) := dk_27 (dk_at dksX2_why_0 0 rfl rfl)
theorem dX2_why_1 : decode cX2_why 1 = .ok (.ifCond .ne 7, 3) := dk_154 0 7 (dk_at dksX2_why_0 1 rfl rfl)
theorem dX2_why_4 : decode cX2_why 4 = .ok (.iconst 1, 1) := dk_4 (dk_at dksX2_why_0 4 rfl rfl)
theorem dX2_why_5 : decode cX2_why 5 = .ok (.goto 12, 3) := dk_167 0 12 (dk_at dksX2_why_0 5 rfl rfl)
theorem dX2_why_8 : decode cX2_why 8 = .ok (.iload_n 2, 1) := dk_28 (dk_at dksX2_why_0 8 rfl rfl)
theorem dX2_why_9 : decode cX2_why 9 = .ok (.ifCond .eq 7, 3) := dk_153 0 7 (dk_at dksX2_why_0 9 rfl rfl)
theorem dX2_why_12 : decode cX2_why 12 = .ok (.iconst 0, 1) := dk_3 (dk_at dksX2_why_0 12 rfl rfl)
theorem dX2_why_13 : decode cX2_why 13 = .ok (.goto 4, 3) := dk_167 0 4 (dk_at dksX2_why_0 13 rfl rfl)
theorem dX2_why_16 : decode cX2_why 16 = .ok (.iconst 2, 1) := dk_5 (dk_at dksX2_why_0 16 rfl rfl)
theorem dX2_why_17 : decode cX2_why 17 = .ok (.ireturn, 1) := dk_172 (dk_at dksX2_why_0 17 rfl rfl)
abbrev cX2_saysIn : ByteArray := prog_16_method_47_code
def yX2_saysIn : MethodName := ⟨RX2, "saysIn", "(II)I"⟩
def dkwX2_saysIn_0 : List UInt8 := [42, 27, 28, 42, 180, 0, 32, 8, 27, 96, 46, 42, 180, 0, 20, 16, 13, 27, 96, 46, 182, 0, 253, 172]
abbrev dktX2_saysIn_0 : List UInt8 := dkwX2_saysIn_0 ++ []
theorem dksX2_saysIn_0 : cX2_saysIn.data.toList.drop 0 = dktX2_saysIn_0 := by decide +kernel
theorem dX2_saysIn_0 : decode cX2_saysIn 0 = .ok (.aload_n 0, 1) := dk_42 (dk_at dksX2_saysIn_0 0 rfl rfl)
theorem dX2_saysIn_1 : decode cX2_saysIn 1 = .ok (.iload_n 1, 1) := dk_27 (dk_at dksX2_saysIn_0 1 rfl rfl)
theorem dX2_saysIn_2 : decode cX2_saysIn 2 = .ok (.iload_n 2, 1) := dk_28 (dk_at dksX2_saysIn_0 2 rfl rfl)
theorem dX2_saysIn_3 : decode cX2_saysIn 3 = .ok (.aload_n 0, 1) := dk_42 (dk_at dksX2_saysIn_0 3 rfl rfl)
theorem dX2_saysIn_4 : decode cX2_saysIn 4 = .ok (.getfield 32, 3) := dk_180 0 32 (dk_at dksX2_saysIn_0 4 rfl rfl)
theorem dX2_saysIn_7 : decode cX2_saysIn 7 = .ok (.iconst 5, 1) := dk_8 (dk_at dksX2_saysIn_0 7 rfl rfl)
theorem dX2_saysIn_8 : decode cX2_saysIn 8 = .ok (.iload_n 1, 1) := dk_27 (dk_at dksX2_saysIn_0 8 rfl rfl)
theorem dX2_saysIn_9 : decode cX2_saysIn 9 = .ok (.iadd, 1) := dk_96 (dk_at dksX2_saysIn_0 9 rfl rfl)
theorem dX2_saysIn_10 : decode cX2_saysIn 10 = .ok (.iaload, 1) := dk_46 (dk_at dksX2_saysIn_0 10 rfl rfl)
theorem dX2_saysIn_11 : decode cX2_saysIn 11 = .ok (.aload_n 0, 1) := dk_42 (dk_at dksX2_saysIn_0 11 rfl rfl)
theorem dX2_saysIn_12 : decode cX2_saysIn 12 = .ok (.getfield 20, 3) := dk_180 0 20 (dk_at dksX2_saysIn_0 12 rfl rfl)
theorem dX2_saysIn_15 : decode cX2_saysIn 15 = .ok (.bipush 13, 2) := dk_16 13 (dk_at dksX2_saysIn_0 15 rfl rfl)
theorem dX2_saysIn_17 : decode cX2_saysIn 17 = .ok (.iload_n 1, 1) := dk_27 (dk_at dksX2_saysIn_0 17 rfl rfl)
theorem dX2_saysIn_18 : decode cX2_saysIn 18 = .ok (.iadd, 1) := dk_96 (dk_at dksX2_saysIn_0 18 rfl rfl)
theorem dX2_saysIn_19 : decode cX2_saysIn 19 = .ok (.iaload, 1) := dk_46 (dk_at dksX2_saysIn_0 19 rfl rfl)
theorem dX2_saysIn_20 : decode cX2_saysIn 20 = .ok (.invokevirtual 253, 3) := dk_182 0 253 (dk_at dksX2_saysIn_0 20 rfl rfl)
theorem dX2_saysIn_23 : decode cX2_saysIn 23 = .ok (.ireturn, 1) := dk_172 (dk_at dksX2_saysIn_0 23 rfl rfl)
abbrev cX2_saysBy : ByteArray := prog_16_method_46_code
def yX2_saysBy : MethodName := ⟨RX2, "saysBy", "(IIII)I"⟩
def dkwX2_saysBy_2 : List UInt8 := [172]
abbrev dktX2_saysBy_2 : List UInt8 := dkwX2_saysBy_2 ++ []
def dkwX2_saysBy_1 : List UInt8 := [42, 180, 0, 32, 16, 35, 46, 21, 6, 96, 3, 182, 0, 249, 54, 5, 132, 6, 1, 167, 255, 224, 21, 5]
abbrev dktX2_saysBy_1 : List UInt8 := dkwX2_saysBy_1 ++ dktX2_saysBy_2
def dkwX2_saysBy_0 : List UInt8 := [42, 180, 0, 32, 27, 46, 54, 5, 4, 54, 6, 21, 6, 28, 163, 0, 32, 42, 27, 21, 5, 29, 21, 4]
abbrev dktX2_saysBy_0 : List UInt8 := dkwX2_saysBy_0 ++ dktX2_saysBy_1
theorem dksX2_saysBy_0 : cX2_saysBy.data.toList.drop 0 = dktX2_saysBy_0 := by decide +kernel
theorem dksX2_saysBy_1 : cX2_saysBy.data.toList.drop 24 = dktX2_saysBy_1 := dk_seg dksX2_saysBy_0 24 rfl rfl
theorem dksX2_saysBy_2 : cX2_saysBy.data.toList.drop 48 = dktX2_saysBy_2 := dk_seg dksX2_saysBy_1 24 rfl rfl
theorem dX2_saysBy_0 : decode cX2_saysBy 0 = .ok (.aload_n 0, 1) := dk_42 (dk_at dksX2_saysBy_0 0 rfl rfl)
theorem dX2_saysBy_1 : decode cX2_saysBy 1 = .ok (.getfield 32, 3) := dk_180 0 32 (dk_at dksX2_saysBy_0 1 rfl rfl)
theorem dX2_saysBy_4 : decode cX2_saysBy 4 = .ok (.iload_n 1, 1) := dk_27 (dk_at dksX2_saysBy_0 4 rfl rfl)
theorem dX2_saysBy_5 : decode cX2_saysBy 5 = .ok (.iaload, 1) := dk_46 (dk_at dksX2_saysBy_0 5 rfl rfl)
theorem dX2_saysBy_6 : decode cX2_saysBy 6 = .ok (.istore 5, 2) := dk_54 5 (dk_at dksX2_saysBy_0 6 rfl rfl)
theorem dX2_saysBy_8 : decode cX2_saysBy 8 = .ok (.iconst 1, 1) := dk_4 (dk_at dksX2_saysBy_0 8 rfl rfl)
theorem dX2_saysBy_9 : decode cX2_saysBy 9 = .ok (.istore 6, 2) := dk_54 6 (dk_at dksX2_saysBy_0 9 rfl rfl)
theorem dX2_saysBy_11 : decode cX2_saysBy 11 = .ok (.iload 6, 2) := dk_21 6 (dk_at dksX2_saysBy_0 11 rfl rfl)
theorem dX2_saysBy_13 : decode cX2_saysBy 13 = .ok (.iload_n 2, 1) := dk_28 (dk_at dksX2_saysBy_0 13 rfl rfl)
theorem dX2_saysBy_14 : decode cX2_saysBy 14 = .ok (.if_icmp .gt 32, 3) := dk_163 0 32 (dk_at dksX2_saysBy_0 14 rfl rfl)
theorem dX2_saysBy_17 : decode cX2_saysBy 17 = .ok (.aload_n 0, 1) := dk_42 (dk_at dksX2_saysBy_0 17 rfl rfl)
theorem dX2_saysBy_18 : decode cX2_saysBy 18 = .ok (.iload_n 1, 1) := dk_27 (dk_at dksX2_saysBy_0 18 rfl rfl)
theorem dX2_saysBy_19 : decode cX2_saysBy 19 = .ok (.iload 5, 2) := dk_21 5 (dk_at dksX2_saysBy_0 19 rfl rfl)
theorem dX2_saysBy_21 : decode cX2_saysBy 21 = .ok (.iload_n 3, 1) := dk_29 (dk_at dksX2_saysBy_0 21 rfl rfl)
theorem dX2_saysBy_22 : decode cX2_saysBy 22 = .ok (.iload 4, 2) := dk_21 4 (dk_at dksX2_saysBy_0 22 rfl rfl)
theorem dX2_saysBy_24 : decode cX2_saysBy 24 = .ok (.aload_n 0, 1) := dk_42 (dk_at dksX2_saysBy_1 0 rfl rfl)
theorem dX2_saysBy_25 : decode cX2_saysBy 25 = .ok (.getfield 32, 3) := dk_180 0 32 (dk_at dksX2_saysBy_1 1 rfl rfl)
theorem dX2_saysBy_28 : decode cX2_saysBy 28 = .ok (.bipush 35, 2) := dk_16 35 (dk_at dksX2_saysBy_1 4 rfl rfl)
theorem dX2_saysBy_30 : decode cX2_saysBy 30 = .ok (.iaload, 1) := dk_46 (dk_at dksX2_saysBy_1 6 rfl rfl)
theorem dX2_saysBy_31 : decode cX2_saysBy 31 = .ok (.iload 6, 2) := dk_21 6 (dk_at dksX2_saysBy_1 7 rfl rfl)
theorem dX2_saysBy_33 : decode cX2_saysBy 33 = .ok (.iadd, 1) := dk_96 (dk_at dksX2_saysBy_1 9 rfl rfl)
theorem dX2_saysBy_34 : decode cX2_saysBy 34 = .ok (.iconst 0, 1) := dk_3 (dk_at dksX2_saysBy_1 10 rfl rfl)
theorem dX2_saysBy_35 : decode cX2_saysBy 35 = .ok (.invokevirtual 249, 3) := dk_182 0 249 (dk_at dksX2_saysBy_1 11 rfl rfl)
theorem dX2_saysBy_38 : decode cX2_saysBy 38 = .ok (.istore 5, 2) := dk_54 5 (dk_at dksX2_saysBy_1 14 rfl rfl)
theorem dX2_saysBy_40 : decode cX2_saysBy 40 = .ok (.iinc 6 1, 3) := dk_132 6 1 (dk_at dksX2_saysBy_1 16 rfl rfl)
theorem dX2_saysBy_43 : decode cX2_saysBy 43 = .ok (.goto (-32), 3) := dk_167 255 224 (dk_at dksX2_saysBy_1 19 rfl rfl)
theorem dX2_saysBy_46 : decode cX2_saysBy 46 = .ok (.iload 5, 2) := dk_21 5 (dk_at dksX2_saysBy_1 22 rfl rfl)
theorem dX2_saysBy_48 : decode cX2_saysBy 48 = .ok (.ireturn, 1) := dk_172 (dk_at dksX2_saysBy_2 0 rfl rfl)
abbrev cX2_behind : ByteArray := prog_16_method_44_code
def yX2_behind : MethodName := ⟨RX2, "behind", "(IIIIIZ)I"⟩
def dkwX2_behind_1 : List UInt8 := [21, 5, 21, 4, 112, 154, 0, 15, 42, 180, 0, 20, 3, 46, 21, 7, 100, 167, 0, 5, 21, 7, 172]
abbrev dktX2_behind_1 : List UInt8 := dkwX2_behind_1 ++ []
def dkwX2_behind_0 : List UInt8 := [21, 6, 153, 0, 7, 28, 167, 0, 10, 42, 27, 28, 29, 182, 0, 245, 54, 7, 21, 4, 158, 0, 23]
abbrev dktX2_behind_0 : List UInt8 := dkwX2_behind_0 ++ dktX2_behind_1
theorem dksX2_behind_0 : cX2_behind.data.toList.drop 0 = dktX2_behind_0 := by decide +kernel
theorem dksX2_behind_1 : cX2_behind.data.toList.drop 23 = dktX2_behind_1 := dk_seg dksX2_behind_0 23 rfl rfl
theorem dX2_behind_0 : decode cX2_behind 0 = .ok (.iload 6, 2) := dk_21 6 (dk_at dksX2_behind_0 0 rfl rfl)
theorem dX2_behind_2 : decode cX2_behind 2 = .ok (.ifCond .eq 7, 3) := dk_153 0 7 (dk_at dksX2_behind_0 2 rfl rfl)
theorem dX2_behind_5 : decode cX2_behind 5 = .ok (.iload_n 2, 1) := dk_28 (dk_at dksX2_behind_0 5 rfl rfl)
theorem dX2_behind_6 : decode cX2_behind 6 = .ok (.goto 10, 3) := dk_167 0 10 (dk_at dksX2_behind_0 6 rfl rfl)
theorem dX2_behind_9 : decode cX2_behind 9 = .ok (.aload_n 0, 1) := dk_42 (dk_at dksX2_behind_0 9 rfl rfl)
theorem dX2_behind_10 : decode cX2_behind 10 = .ok (.iload_n 1, 1) := dk_27 (dk_at dksX2_behind_0 10 rfl rfl)
theorem dX2_behind_11 : decode cX2_behind 11 = .ok (.iload_n 2, 1) := dk_28 (dk_at dksX2_behind_0 11 rfl rfl)
theorem dX2_behind_12 : decode cX2_behind 12 = .ok (.iload_n 3, 1) := dk_29 (dk_at dksX2_behind_0 12 rfl rfl)
theorem dX2_behind_13 : decode cX2_behind 13 = .ok (.invokevirtual 245, 3) := dk_182 0 245 (dk_at dksX2_behind_0 13 rfl rfl)
theorem dX2_behind_16 : decode cX2_behind 16 = .ok (.istore 7, 2) := dk_54 7 (dk_at dksX2_behind_0 16 rfl rfl)
theorem dX2_behind_18 : decode cX2_behind 18 = .ok (.iload 4, 2) := dk_21 4 (dk_at dksX2_behind_0 18 rfl rfl)
theorem dX2_behind_20 : decode cX2_behind 20 = .ok (.ifCond .le 23, 3) := dk_158 0 23 (dk_at dksX2_behind_0 20 rfl rfl)
theorem dX2_behind_23 : decode cX2_behind 23 = .ok (.iload 5, 2) := dk_21 5 (dk_at dksX2_behind_1 0 rfl rfl)
theorem dX2_behind_25 : decode cX2_behind 25 = .ok (.iload 4, 2) := dk_21 4 (dk_at dksX2_behind_1 2 rfl rfl)
theorem dX2_behind_27 : decode cX2_behind 27 = .ok (.irem, 1) := dk_112 (dk_at dksX2_behind_1 4 rfl rfl)
theorem dX2_behind_28 : decode cX2_behind 28 = .ok (.ifCond .ne 15, 3) := dk_154 0 15 (dk_at dksX2_behind_1 5 rfl rfl)
theorem dX2_behind_31 : decode cX2_behind 31 = .ok (.aload_n 0, 1) := dk_42 (dk_at dksX2_behind_1 8 rfl rfl)
theorem dX2_behind_32 : decode cX2_behind 32 = .ok (.getfield 20, 3) := dk_180 0 20 (dk_at dksX2_behind_1 9 rfl rfl)
theorem dX2_behind_35 : decode cX2_behind 35 = .ok (.iconst 0, 1) := dk_3 (dk_at dksX2_behind_1 12 rfl rfl)
theorem dX2_behind_36 : decode cX2_behind 36 = .ok (.iaload, 1) := dk_46 (dk_at dksX2_behind_1 13 rfl rfl)
theorem dX2_behind_37 : decode cX2_behind 37 = .ok (.iload 7, 2) := dk_21 7 (dk_at dksX2_behind_1 14 rfl rfl)
theorem dX2_behind_39 : decode cX2_behind 39 = .ok (.isub, 1) := dk_100 (dk_at dksX2_behind_1 16 rfl rfl)
theorem dX2_behind_40 : decode cX2_behind 40 = .ok (.goto 5, 3) := dk_167 0 5 (dk_at dksX2_behind_1 17 rfl rfl)
theorem dX2_behind_43 : decode cX2_behind 43 = .ok (.iload 7, 2) := dk_21 7 (dk_at dksX2_behind_1 20 rfl rfl)
theorem dX2_behind_45 : decode cX2_behind 45 = .ok (.ireturn, 1) := dk_172 (dk_at dksX2_behind_1 22 rfl rfl)
abbrev cX2_byLaw : ByteArray := prog_16_method_43_code
def yX2_byLaw : MethodName := ⟨RX2, "byLaw", "(III)I"⟩
def dkwX2_byLaw_2 : List UInt8 := [167, 0, 13, 42, 180, 0, 20, 3, 46, 28, 100, 29, 96, 182, 0, 242, 172]
abbrev dktX2_byLaw_2 : List UInt8 := dkwX2_byLaw_2 ++ []
def dkwX2_byLaw_1 : List UInt8 := [21, 4, 4, 160, 0, 11, 5, 28, 104, 29, 96, 167, 0, 25, 21, 4, 5, 160, 0, 9, 28, 29, 100]
abbrev dktX2_byLaw_1 : List UInt8 := dkwX2_byLaw_1 ++ dktX2_byLaw_2
def dkwX2_byLaw_0 : List UInt8 := [42, 180, 0, 20, 16, 8, 27, 96, 46, 54, 4, 42, 21, 4, 154, 0, 9, 28, 29, 96, 167, 0, 39]
abbrev dktX2_byLaw_0 : List UInt8 := dkwX2_byLaw_0 ++ dktX2_byLaw_1
theorem dksX2_byLaw_0 : cX2_byLaw.data.toList.drop 0 = dktX2_byLaw_0 := by decide +kernel
theorem dksX2_byLaw_1 : cX2_byLaw.data.toList.drop 23 = dktX2_byLaw_1 := dk_seg dksX2_byLaw_0 23 rfl rfl
theorem dksX2_byLaw_2 : cX2_byLaw.data.toList.drop 46 = dktX2_byLaw_2 := dk_seg dksX2_byLaw_1 23 rfl rfl
theorem dX2_byLaw_0 : decode cX2_byLaw 0 = .ok (.aload_n 0, 1) := dk_42 (dk_at dksX2_byLaw_0 0 rfl rfl)
theorem dX2_byLaw_1 : decode cX2_byLaw 1 = .ok (.getfield 20, 3) := dk_180 0 20 (dk_at dksX2_byLaw_0 1 rfl rfl)
theorem dX2_byLaw_4 : decode cX2_byLaw 4 = .ok (.bipush 8, 2) := dk_16 8 (dk_at dksX2_byLaw_0 4 rfl rfl)
theorem dX2_byLaw_6 : decode cX2_byLaw 6 = .ok (.iload_n 1, 1) := dk_27 (dk_at dksX2_byLaw_0 6 rfl rfl)
theorem dX2_byLaw_7 : decode cX2_byLaw 7 = .ok (.iadd, 1) := dk_96 (dk_at dksX2_byLaw_0 7 rfl rfl)
theorem dX2_byLaw_8 : decode cX2_byLaw 8 = .ok (.iaload, 1) := dk_46 (dk_at dksX2_byLaw_0 8 rfl rfl)
theorem dX2_byLaw_9 : decode cX2_byLaw 9 = .ok (.istore 4, 2) := dk_54 4 (dk_at dksX2_byLaw_0 9 rfl rfl)
theorem dX2_byLaw_11 : decode cX2_byLaw 11 = .ok (.aload_n 0, 1) := dk_42 (dk_at dksX2_byLaw_0 11 rfl rfl)
theorem dX2_byLaw_12 : decode cX2_byLaw 12 = .ok (.iload 4, 2) := dk_21 4 (dk_at dksX2_byLaw_0 12 rfl rfl)
theorem dX2_byLaw_14 : decode cX2_byLaw 14 = .ok (.ifCond .ne 9, 3) := dk_154 0 9 (dk_at dksX2_byLaw_0 14 rfl rfl)
theorem dX2_byLaw_17 : decode cX2_byLaw 17 = .ok (.iload_n 2, 1) := dk_28 (dk_at dksX2_byLaw_0 17 rfl rfl)
theorem dX2_byLaw_18 : decode cX2_byLaw 18 = .ok (.iload_n 3, 1) := dk_29 (dk_at dksX2_byLaw_0 18 rfl rfl)
theorem dX2_byLaw_19 : decode cX2_byLaw 19 = .ok (.iadd, 1) := dk_96 (dk_at dksX2_byLaw_0 19 rfl rfl)
theorem dX2_byLaw_20 : decode cX2_byLaw 20 = .ok (.goto 39, 3) := dk_167 0 39 (dk_at dksX2_byLaw_0 20 rfl rfl)
theorem dX2_byLaw_23 : decode cX2_byLaw 23 = .ok (.iload 4, 2) := dk_21 4 (dk_at dksX2_byLaw_1 0 rfl rfl)
theorem dX2_byLaw_25 : decode cX2_byLaw 25 = .ok (.iconst 1, 1) := dk_4 (dk_at dksX2_byLaw_1 2 rfl rfl)
theorem dX2_byLaw_26 : decode cX2_byLaw 26 = .ok (.if_icmp .ne 11, 3) := dk_160 0 11 (dk_at dksX2_byLaw_1 3 rfl rfl)
theorem dX2_byLaw_29 : decode cX2_byLaw 29 = .ok (.iconst 2, 1) := dk_5 (dk_at dksX2_byLaw_1 6 rfl rfl)
theorem dX2_byLaw_30 : decode cX2_byLaw 30 = .ok (.iload_n 2, 1) := dk_28 (dk_at dksX2_byLaw_1 7 rfl rfl)
theorem dX2_byLaw_31 : decode cX2_byLaw 31 = .ok (.imul, 1) := dk_104 (dk_at dksX2_byLaw_1 8 rfl rfl)
theorem dX2_byLaw_32 : decode cX2_byLaw 32 = .ok (.iload_n 3, 1) := dk_29 (dk_at dksX2_byLaw_1 9 rfl rfl)
theorem dX2_byLaw_33 : decode cX2_byLaw 33 = .ok (.iadd, 1) := dk_96 (dk_at dksX2_byLaw_1 10 rfl rfl)
theorem dX2_byLaw_34 : decode cX2_byLaw 34 = .ok (.goto 25, 3) := dk_167 0 25 (dk_at dksX2_byLaw_1 11 rfl rfl)
theorem dX2_byLaw_37 : decode cX2_byLaw 37 = .ok (.iload 4, 2) := dk_21 4 (dk_at dksX2_byLaw_1 14 rfl rfl)
theorem dX2_byLaw_39 : decode cX2_byLaw 39 = .ok (.iconst 2, 1) := dk_5 (dk_at dksX2_byLaw_1 16 rfl rfl)
theorem dX2_byLaw_40 : decode cX2_byLaw 40 = .ok (.if_icmp .ne 9, 3) := dk_160 0 9 (dk_at dksX2_byLaw_1 17 rfl rfl)
theorem dX2_byLaw_43 : decode cX2_byLaw 43 = .ok (.iload_n 2, 1) := dk_28 (dk_at dksX2_byLaw_1 20 rfl rfl)
theorem dX2_byLaw_44 : decode cX2_byLaw 44 = .ok (.iload_n 3, 1) := dk_29 (dk_at dksX2_byLaw_1 21 rfl rfl)
theorem dX2_byLaw_45 : decode cX2_byLaw 45 = .ok (.isub, 1) := dk_100 (dk_at dksX2_byLaw_1 22 rfl rfl)
theorem dX2_byLaw_46 : decode cX2_byLaw 46 = .ok (.goto 13, 3) := dk_167 0 13 (dk_at dksX2_byLaw_2 0 rfl rfl)
theorem dX2_byLaw_49 : decode cX2_byLaw 49 = .ok (.aload_n 0, 1) := dk_42 (dk_at dksX2_byLaw_2 3 rfl rfl)
theorem dX2_byLaw_50 : decode cX2_byLaw 50 = .ok (.getfield 20, 3) := dk_180 0 20 (dk_at dksX2_byLaw_2 4 rfl rfl)
theorem dX2_byLaw_53 : decode cX2_byLaw 53 = .ok (.iconst 0, 1) := dk_3 (dk_at dksX2_byLaw_2 7 rfl rfl)
theorem dX2_byLaw_54 : decode cX2_byLaw 54 = .ok (.iaload, 1) := dk_46 (dk_at dksX2_byLaw_2 8 rfl rfl)
theorem dX2_byLaw_55 : decode cX2_byLaw 55 = .ok (.iload_n 2, 1) := dk_28 (dk_at dksX2_byLaw_2 9 rfl rfl)
theorem dX2_byLaw_56 : decode cX2_byLaw 56 = .ok (.isub, 1) := dk_100 (dk_at dksX2_byLaw_2 10 rfl rfl)
theorem dX2_byLaw_57 : decode cX2_byLaw 57 = .ok (.iload_n 3, 1) := dk_29 (dk_at dksX2_byLaw_2 11 rfl rfl)
theorem dX2_byLaw_58 : decode cX2_byLaw 58 = .ok (.iadd, 1) := dk_96 (dk_at dksX2_byLaw_2 12 rfl rfl)
theorem dX2_byLaw_59 : decode cX2_byLaw 59 = .ok (.invokevirtual 242, 3) := dk_182 0 242 (dk_at dksX2_byLaw_2 13 rfl rfl)
theorem dX2_byLaw_62 : decode cX2_byLaw 62 = .ok (.ireturn, 1) := dk_172 (dk_at dksX2_byLaw_2 16 rfl rfl)
abbrev cX2_within : ByteArray := prog_16_method_42_code
def yX2_within : MethodName := ⟨RX2, "within", "(I)I"⟩
def dkwX2_within_1 : List UInt8 := [167, 0, 4, 27, 172]
abbrev dktX2_within_1 : List UInt8 := dkwX2_within_1 ++ []
def dkwX2_within_0 : List UInt8 := [27, 156, 0, 7, 3, 167, 0, 23, 27, 42, 180, 0, 20, 3, 46, 164, 0, 12, 42, 180, 0, 20, 3, 46]
abbrev dktX2_within_0 : List UInt8 := dkwX2_within_0 ++ dktX2_within_1
theorem dksX2_within_0 : cX2_within.data.toList.drop 0 = dktX2_within_0 := by decide +kernel
theorem dksX2_within_1 : cX2_within.data.toList.drop 24 = dktX2_within_1 := dk_seg dksX2_within_0 24 rfl rfl
theorem dX2_within_0 : decode cX2_within 0 = .ok (.iload_n 1, 1) := dk_27 (dk_at dksX2_within_0 0 rfl rfl)
theorem dX2_within_1 : decode cX2_within 1 = .ok (.ifCond .ge 7, 3) := dk_156 0 7 (dk_at dksX2_within_0 1 rfl rfl)
theorem dX2_within_4 : decode cX2_within 4 = .ok (.iconst 0, 1) := dk_3 (dk_at dksX2_within_0 4 rfl rfl)
theorem dX2_within_5 : decode cX2_within 5 = .ok (.goto 23, 3) := dk_167 0 23 (dk_at dksX2_within_0 5 rfl rfl)
theorem dX2_within_8 : decode cX2_within 8 = .ok (.iload_n 1, 1) := dk_27 (dk_at dksX2_within_0 8 rfl rfl)
theorem dX2_within_9 : decode cX2_within 9 = .ok (.aload_n 0, 1) := dk_42 (dk_at dksX2_within_0 9 rfl rfl)
theorem dX2_within_10 : decode cX2_within 10 = .ok (.getfield 20, 3) := dk_180 0 20 (dk_at dksX2_within_0 10 rfl rfl)
theorem dX2_within_13 : decode cX2_within 13 = .ok (.iconst 0, 1) := dk_3 (dk_at dksX2_within_0 13 rfl rfl)
theorem dX2_within_14 : decode cX2_within 14 = .ok (.iaload, 1) := dk_46 (dk_at dksX2_within_0 14 rfl rfl)
theorem dX2_within_15 : decode cX2_within 15 = .ok (.if_icmp .le 12, 3) := dk_164 0 12 (dk_at dksX2_within_0 15 rfl rfl)
theorem dX2_within_18 : decode cX2_within 18 = .ok (.aload_n 0, 1) := dk_42 (dk_at dksX2_within_0 18 rfl rfl)
theorem dX2_within_19 : decode cX2_within 19 = .ok (.getfield 20, 3) := dk_180 0 20 (dk_at dksX2_within_0 19 rfl rfl)
theorem dX2_within_22 : decode cX2_within 22 = .ok (.iconst 0, 1) := dk_3 (dk_at dksX2_within_0 22 rfl rfl)
theorem dX2_within_23 : decode cX2_within 23 = .ok (.iaload, 1) := dk_46 (dk_at dksX2_within_0 23 rfl rfl)
theorem dX2_within_24 : decode cX2_within 24 = .ok (.goto 4, 3) := dk_167 0 4 (dk_at dksX2_within_1 0 rfl rfl)
theorem dX2_within_27 : decode cX2_within 27 = .ok (.iload_n 1, 1) := dk_27 (dk_at dksX2_within_1 3 rfl rfl)
theorem dX2_within_28 : decode cX2_within 28 = .ok (.ireturn, 1) := dk_172 (dk_at dksX2_within_1 4 rfl rfl)
abbrev cX2_saysAll : ByteArray := prog_16_method_53_code
def yX2_saysAll : MethodName := ⟨RX2, "saysAll", "(II)I"⟩
def dkwX2_saysAll_2 : List UInt8 := [54, 4, 132, 5, 1, 167, 255, 235, 21, 4, 172]
abbrev dktX2_saysAll_2 : List UInt8 := dkwX2_saysAll_2 ++ []
def dkwX2_saysAll_1 : List UInt8 := [172, 3, 54, 4, 4, 54, 5, 21, 5, 28, 163, 0, 21, 21, 4, 42, 27, 21, 5, 182, 1, 27, 96]
abbrev dktX2_saysAll_1 : List UInt8 := dkwX2_saysAll_1 ++ dktX2_saysAll_2
def dkwX2_saysAll_0 : List UInt8 := [42, 182, 0, 164, 42, 42, 27, 182, 0, 239, 28, 182, 1, 23, 62, 29, 153, 0, 9, 42, 29, 182, 0, 167]
abbrev dktX2_saysAll_0 : List UInt8 := dkwX2_saysAll_0 ++ dktX2_saysAll_1
theorem dksX2_saysAll_0 : cX2_saysAll.data.toList.drop 0 = dktX2_saysAll_0 := by decide +kernel
theorem dksX2_saysAll_1 : cX2_saysAll.data.toList.drop 24 = dktX2_saysAll_1 := dk_seg dksX2_saysAll_0 24 rfl rfl
theorem dksX2_saysAll_2 : cX2_saysAll.data.toList.drop 47 = dktX2_saysAll_2 := dk_seg dksX2_saysAll_1 23 rfl rfl
theorem dX2_saysAll_0 : decode cX2_saysAll 0 = .ok (.aload_n 0, 1) := dk_42 (dk_at dksX2_saysAll_0 0 rfl rfl)
theorem dX2_saysAll_1 : decode cX2_saysAll 1 = .ok (.invokevirtual 164, 3) := dk_182 0 164 (dk_at dksX2_saysAll_0 1 rfl rfl)
theorem dX2_saysAll_4 : decode cX2_saysAll 4 = .ok (.aload_n 0, 1) := dk_42 (dk_at dksX2_saysAll_0 4 rfl rfl)
theorem dX2_saysAll_5 : decode cX2_saysAll 5 = .ok (.aload_n 0, 1) := dk_42 (dk_at dksX2_saysAll_0 5 rfl rfl)
theorem dX2_saysAll_6 : decode cX2_saysAll 6 = .ok (.iload_n 1, 1) := dk_27 (dk_at dksX2_saysAll_0 6 rfl rfl)
theorem dX2_saysAll_7 : decode cX2_saysAll 7 = .ok (.invokevirtual 239, 3) := dk_182 0 239 (dk_at dksX2_saysAll_0 7 rfl rfl)
theorem dX2_saysAll_10 : decode cX2_saysAll 10 = .ok (.iload_n 2, 1) := dk_28 (dk_at dksX2_saysAll_0 10 rfl rfl)
theorem dX2_saysAll_11 : decode cX2_saysAll 11 = .ok (.invokevirtual 279, 3) := dk_182 1 23 (dk_at dksX2_saysAll_0 11 rfl rfl)
theorem dX2_saysAll_14 : decode cX2_saysAll 14 = .ok (.istore_n 3, 1) := dk_62 (dk_at dksX2_saysAll_0 14 rfl rfl)
theorem dX2_saysAll_15 : decode cX2_saysAll 15 = .ok (.iload_n 3, 1) := dk_29 (dk_at dksX2_saysAll_0 15 rfl rfl)
theorem dX2_saysAll_16 : decode cX2_saysAll 16 = .ok (.ifCond .eq 9, 3) := dk_153 0 9 (dk_at dksX2_saysAll_0 16 rfl rfl)
theorem dX2_saysAll_19 : decode cX2_saysAll 19 = .ok (.aload_n 0, 1) := dk_42 (dk_at dksX2_saysAll_0 19 rfl rfl)
theorem dX2_saysAll_20 : decode cX2_saysAll 20 = .ok (.iload_n 3, 1) := dk_29 (dk_at dksX2_saysAll_0 20 rfl rfl)
theorem dX2_saysAll_21 : decode cX2_saysAll 21 = .ok (.invokevirtual 167, 3) := dk_182 0 167 (dk_at dksX2_saysAll_0 21 rfl rfl)
theorem dX2_saysAll_24 : decode cX2_saysAll 24 = .ok (.ireturn, 1) := dk_172 (dk_at dksX2_saysAll_1 0 rfl rfl)
theorem dX2_saysAll_25 : decode cX2_saysAll 25 = .ok (.iconst 0, 1) := dk_3 (dk_at dksX2_saysAll_1 1 rfl rfl)
theorem dX2_saysAll_26 : decode cX2_saysAll 26 = .ok (.istore 4, 2) := dk_54 4 (dk_at dksX2_saysAll_1 2 rfl rfl)
theorem dX2_saysAll_28 : decode cX2_saysAll 28 = .ok (.iconst 1, 1) := dk_4 (dk_at dksX2_saysAll_1 4 rfl rfl)
theorem dX2_saysAll_29 : decode cX2_saysAll 29 = .ok (.istore 5, 2) := dk_54 5 (dk_at dksX2_saysAll_1 5 rfl rfl)
theorem dX2_saysAll_31 : decode cX2_saysAll 31 = .ok (.iload 5, 2) := dk_21 5 (dk_at dksX2_saysAll_1 7 rfl rfl)
theorem dX2_saysAll_33 : decode cX2_saysAll 33 = .ok (.iload_n 2, 1) := dk_28 (dk_at dksX2_saysAll_1 9 rfl rfl)
theorem dX2_saysAll_34 : decode cX2_saysAll 34 = .ok (.if_icmp .gt 21, 3) := dk_163 0 21 (dk_at dksX2_saysAll_1 10 rfl rfl)
theorem dX2_saysAll_37 : decode cX2_saysAll 37 = .ok (.iload 4, 2) := dk_21 4 (dk_at dksX2_saysAll_1 13 rfl rfl)
theorem dX2_saysAll_39 : decode cX2_saysAll 39 = .ok (.aload_n 0, 1) := dk_42 (dk_at dksX2_saysAll_1 15 rfl rfl)
theorem dX2_saysAll_40 : decode cX2_saysAll 40 = .ok (.iload_n 1, 1) := dk_27 (dk_at dksX2_saysAll_1 16 rfl rfl)
theorem dX2_saysAll_41 : decode cX2_saysAll 41 = .ok (.iload 5, 2) := dk_21 5 (dk_at dksX2_saysAll_1 17 rfl rfl)
theorem dX2_saysAll_43 : decode cX2_saysAll 43 = .ok (.invokevirtual 283, 3) := dk_182 1 27 (dk_at dksX2_saysAll_1 19 rfl rfl)
theorem dX2_saysAll_46 : decode cX2_saysAll 46 = .ok (.iadd, 1) := dk_96 (dk_at dksX2_saysAll_1 22 rfl rfl)
theorem dX2_saysAll_47 : decode cX2_saysAll 47 = .ok (.istore 4, 2) := dk_54 4 (dk_at dksX2_saysAll_2 0 rfl rfl)
theorem dX2_saysAll_49 : decode cX2_saysAll 49 = .ok (.iinc 5 1, 3) := dk_132 5 1 (dk_at dksX2_saysAll_2 2 rfl rfl)
theorem dX2_saysAll_52 : decode cX2_saysAll 52 = .ok (.goto (-21), 3) := dk_167 255 235 (dk_at dksX2_saysAll_2 5 rfl rfl)
theorem dX2_saysAll_55 : decode cX2_saysAll 55 = .ok (.iload 4, 2) := dk_21 4 (dk_at dksX2_saysAll_2 8 rfl rfl)
theorem dX2_saysAll_57 : decode cX2_saysAll 57 = .ok (.ireturn, 1) := dk_172 (dk_at dksX2_saysAll_2 10 rfl rfl)
abbrev cX2_moreIn : ByteArray := prog_16_method_54_code
def yX2_moreIn : MethodName := ⟨RX2, "moreIn", "(I)I"⟩
def dkwX2_moreIn_2 : List UInt8 := [16, 254, 172]
abbrev dktX2_moreIn_2 : List UInt8 := dkwX2_moreIn_2 ++ []
def dkwX2_moreIn_1 : List UInt8 := [163, 0, 24, 42, 42, 27, 28, 182, 1, 27, 182, 1, 16, 153, 0, 5, 28, 172, 132, 2, 1, 167, 255, 232]
abbrev dktX2_moreIn_1 : List UInt8 := dkwX2_moreIn_1 ++ dktX2_moreIn_2
def dkwX2_moreIn_0 : List UInt8 := [42, 182, 0, 164, 42, 27, 182, 0, 239, 154, 0, 9, 42, 4, 182, 0, 167, 172, 3, 61, 28, 16, 60]
abbrev dktX2_moreIn_0 : List UInt8 := dkwX2_moreIn_0 ++ dktX2_moreIn_1
theorem dksX2_moreIn_0 : cX2_moreIn.data.toList.drop 0 = dktX2_moreIn_0 := by decide +kernel
theorem dksX2_moreIn_1 : cX2_moreIn.data.toList.drop 23 = dktX2_moreIn_1 := dk_seg dksX2_moreIn_0 23 rfl rfl
theorem dksX2_moreIn_2 : cX2_moreIn.data.toList.drop 47 = dktX2_moreIn_2 := dk_seg dksX2_moreIn_1 24 rfl rfl
theorem dX2_moreIn_0 : decode cX2_moreIn 0 = .ok (.aload_n 0, 1) := dk_42 (dk_at dksX2_moreIn_0 0 rfl rfl)
theorem dX2_moreIn_1 : decode cX2_moreIn 1 = .ok (.invokevirtual 164, 3) := dk_182 0 164 (dk_at dksX2_moreIn_0 1 rfl rfl)
theorem dX2_moreIn_4 : decode cX2_moreIn 4 = .ok (.aload_n 0, 1) := dk_42 (dk_at dksX2_moreIn_0 4 rfl rfl)
theorem dX2_moreIn_5 : decode cX2_moreIn 5 = .ok (.iload_n 1, 1) := dk_27 (dk_at dksX2_moreIn_0 5 rfl rfl)
theorem dX2_moreIn_6 : decode cX2_moreIn 6 = .ok (.invokevirtual 239, 3) := dk_182 0 239 (dk_at dksX2_moreIn_0 6 rfl rfl)
theorem dX2_moreIn_9 : decode cX2_moreIn 9 = .ok (.ifCond .ne 9, 3) := dk_154 0 9 (dk_at dksX2_moreIn_0 9 rfl rfl)
theorem dX2_moreIn_12 : decode cX2_moreIn 12 = .ok (.aload_n 0, 1) := dk_42 (dk_at dksX2_moreIn_0 12 rfl rfl)
theorem dX2_moreIn_13 : decode cX2_moreIn 13 = .ok (.iconst 1, 1) := dk_4 (dk_at dksX2_moreIn_0 13 rfl rfl)
theorem dX2_moreIn_14 : decode cX2_moreIn 14 = .ok (.invokevirtual 167, 3) := dk_182 0 167 (dk_at dksX2_moreIn_0 14 rfl rfl)
theorem dX2_moreIn_17 : decode cX2_moreIn 17 = .ok (.ireturn, 1) := dk_172 (dk_at dksX2_moreIn_0 17 rfl rfl)
theorem dX2_moreIn_18 : decode cX2_moreIn 18 = .ok (.iconst 0, 1) := dk_3 (dk_at dksX2_moreIn_0 18 rfl rfl)
theorem dX2_moreIn_19 : decode cX2_moreIn 19 = .ok (.istore_n 2, 1) := dk_61 (dk_at dksX2_moreIn_0 19 rfl rfl)
theorem dX2_moreIn_20 : decode cX2_moreIn 20 = .ok (.iload_n 2, 1) := dk_28 (dk_at dksX2_moreIn_0 20 rfl rfl)
theorem dX2_moreIn_21 : decode cX2_moreIn 21 = .ok (.bipush 60, 2) := dk_16 60 (dk_at dksX2_moreIn_0 21 rfl rfl)
theorem dX2_moreIn_23 : decode cX2_moreIn 23 = .ok (.if_icmp .gt 24, 3) := dk_163 0 24 (dk_at dksX2_moreIn_1 0 rfl rfl)
theorem dX2_moreIn_26 : decode cX2_moreIn 26 = .ok (.aload_n 0, 1) := dk_42 (dk_at dksX2_moreIn_1 3 rfl rfl)
theorem dX2_moreIn_27 : decode cX2_moreIn 27 = .ok (.aload_n 0, 1) := dk_42 (dk_at dksX2_moreIn_1 4 rfl rfl)
theorem dX2_moreIn_28 : decode cX2_moreIn 28 = .ok (.iload_n 1, 1) := dk_27 (dk_at dksX2_moreIn_1 5 rfl rfl)
theorem dX2_moreIn_29 : decode cX2_moreIn 29 = .ok (.iload_n 2, 1) := dk_28 (dk_at dksX2_moreIn_1 6 rfl rfl)
theorem dX2_moreIn_30 : decode cX2_moreIn 30 = .ok (.invokevirtual 283, 3) := dk_182 1 27 (dk_at dksX2_moreIn_1 7 rfl rfl)
theorem dX2_moreIn_33 : decode cX2_moreIn 33 = .ok (.invokevirtual 272, 3) := dk_182 1 16 (dk_at dksX2_moreIn_1 10 rfl rfl)
theorem dX2_moreIn_36 : decode cX2_moreIn 36 = .ok (.ifCond .eq 5, 3) := dk_153 0 5 (dk_at dksX2_moreIn_1 13 rfl rfl)
theorem dX2_moreIn_39 : decode cX2_moreIn 39 = .ok (.iload_n 2, 1) := dk_28 (dk_at dksX2_moreIn_1 16 rfl rfl)
theorem dX2_moreIn_40 : decode cX2_moreIn 40 = .ok (.ireturn, 1) := dk_172 (dk_at dksX2_moreIn_1 17 rfl rfl)
theorem dX2_moreIn_41 : decode cX2_moreIn 41 = .ok (.iinc 2 1, 3) := dk_132 2 1 (dk_at dksX2_moreIn_1 18 rfl rfl)
theorem dX2_moreIn_44 : decode cX2_moreIn 44 = .ok (.goto (-24), 3) := dk_167 255 232 (dk_at dksX2_moreIn_1 21 rfl rfl)
theorem dX2_moreIn_47 : decode cX2_moreIn 47 = .ok (.bipush (-2), 2) := dk_16 254 (dk_at dksX2_moreIn_2 0 rfl rfl)
theorem dX2_moreIn_49 : decode cX2_moreIn 49 = .ok (.ireturn, 1) := dk_172 (dk_at dksX2_moreIn_2 2 rfl rfl)
abbrev cX2_moreTimes : ByteArray := prog_16_method_55_code
def yX2_moreTimes : MethodName := ⟨RX2, "moreTimes", "(II)I"⟩
def dkwX2_moreTimes_2 : List UInt8 := [182, 1, 16, 153, 0, 7, 4, 167, 0, 4, 3, 96, 54, 4, 132, 5, 1, 167, 255, 223, 21, 4, 172]
abbrev dktX2_moreTimes_2 : List UInt8 := dkwX2_moreTimes_2 ++ []
def dkwX2_moreTimes_1 : List UInt8 := [172, 3, 54, 4, 4, 54, 5, 21, 5, 28, 163, 0, 33, 21, 4, 42, 42, 27, 21, 5, 182, 1, 27]
abbrev dktX2_moreTimes_1 : List UInt8 := dkwX2_moreTimes_1 ++ dktX2_moreTimes_2
def dkwX2_moreTimes_0 : List UInt8 := [42, 182, 0, 164, 42, 42, 27, 182, 0, 239, 28, 182, 1, 23, 62, 29, 153, 0, 9, 42, 29, 182, 0, 167]
abbrev dktX2_moreTimes_0 : List UInt8 := dkwX2_moreTimes_0 ++ dktX2_moreTimes_1
theorem dksX2_moreTimes_0 : cX2_moreTimes.data.toList.drop 0 = dktX2_moreTimes_0 := by decide +kernel
theorem dksX2_moreTimes_1 : cX2_moreTimes.data.toList.drop 24 = dktX2_moreTimes_1 := dk_seg dksX2_moreTimes_0 24 rfl rfl
theorem dksX2_moreTimes_2 : cX2_moreTimes.data.toList.drop 47 = dktX2_moreTimes_2 := dk_seg dksX2_moreTimes_1 23 rfl rfl
theorem dX2_moreTimes_0 : decode cX2_moreTimes 0 = .ok (.aload_n 0, 1) := dk_42 (dk_at dksX2_moreTimes_0 0 rfl rfl)
theorem dX2_moreTimes_1 : decode cX2_moreTimes 1 = .ok (.invokevirtual 164, 3) := dk_182 0 164 (dk_at dksX2_moreTimes_0 1 rfl rfl)
theorem dX2_moreTimes_4 : decode cX2_moreTimes 4 = .ok (.aload_n 0, 1) := dk_42 (dk_at dksX2_moreTimes_0 4 rfl rfl)
theorem dX2_moreTimes_5 : decode cX2_moreTimes 5 = .ok (.aload_n 0, 1) := dk_42 (dk_at dksX2_moreTimes_0 5 rfl rfl)
theorem dX2_moreTimes_6 : decode cX2_moreTimes 6 = .ok (.iload_n 1, 1) := dk_27 (dk_at dksX2_moreTimes_0 6 rfl rfl)
theorem dX2_moreTimes_7 : decode cX2_moreTimes 7 = .ok (.invokevirtual 239, 3) := dk_182 0 239 (dk_at dksX2_moreTimes_0 7 rfl rfl)
theorem dX2_moreTimes_10 : decode cX2_moreTimes 10 = .ok (.iload_n 2, 1) := dk_28 (dk_at dksX2_moreTimes_0 10 rfl rfl)
theorem dX2_moreTimes_11 : decode cX2_moreTimes 11 = .ok (.invokevirtual 279, 3) := dk_182 1 23 (dk_at dksX2_moreTimes_0 11 rfl rfl)
theorem dX2_moreTimes_14 : decode cX2_moreTimes 14 = .ok (.istore_n 3, 1) := dk_62 (dk_at dksX2_moreTimes_0 14 rfl rfl)
theorem dX2_moreTimes_15 : decode cX2_moreTimes 15 = .ok (.iload_n 3, 1) := dk_29 (dk_at dksX2_moreTimes_0 15 rfl rfl)
theorem dX2_moreTimes_16 : decode cX2_moreTimes 16 = .ok (.ifCond .eq 9, 3) := dk_153 0 9 (dk_at dksX2_moreTimes_0 16 rfl rfl)
theorem dX2_moreTimes_19 : decode cX2_moreTimes 19 = .ok (.aload_n 0, 1) := dk_42 (dk_at dksX2_moreTimes_0 19 rfl rfl)
theorem dX2_moreTimes_20 : decode cX2_moreTimes 20 = .ok (.iload_n 3, 1) := dk_29 (dk_at dksX2_moreTimes_0 20 rfl rfl)
theorem dX2_moreTimes_21 : decode cX2_moreTimes 21 = .ok (.invokevirtual 167, 3) := dk_182 0 167 (dk_at dksX2_moreTimes_0 21 rfl rfl)
theorem dX2_moreTimes_24 : decode cX2_moreTimes 24 = .ok (.ireturn, 1) := dk_172 (dk_at dksX2_moreTimes_1 0 rfl rfl)
theorem dX2_moreTimes_25 : decode cX2_moreTimes 25 = .ok (.iconst 0, 1) := dk_3 (dk_at dksX2_moreTimes_1 1 rfl rfl)
theorem dX2_moreTimes_26 : decode cX2_moreTimes 26 = .ok (.istore 4, 2) := dk_54 4 (dk_at dksX2_moreTimes_1 2 rfl rfl)
theorem dX2_moreTimes_28 : decode cX2_moreTimes 28 = .ok (.iconst 1, 1) := dk_4 (dk_at dksX2_moreTimes_1 4 rfl rfl)
theorem dX2_moreTimes_29 : decode cX2_moreTimes 29 = .ok (.istore 5, 2) := dk_54 5 (dk_at dksX2_moreTimes_1 5 rfl rfl)
theorem dX2_moreTimes_31 : decode cX2_moreTimes 31 = .ok (.iload 5, 2) := dk_21 5 (dk_at dksX2_moreTimes_1 7 rfl rfl)
theorem dX2_moreTimes_33 : decode cX2_moreTimes 33 = .ok (.iload_n 2, 1) := dk_28 (dk_at dksX2_moreTimes_1 9 rfl rfl)
theorem dX2_moreTimes_34 : decode cX2_moreTimes 34 = .ok (.if_icmp .gt 33, 3) := dk_163 0 33 (dk_at dksX2_moreTimes_1 10 rfl rfl)
theorem dX2_moreTimes_37 : decode cX2_moreTimes 37 = .ok (.iload 4, 2) := dk_21 4 (dk_at dksX2_moreTimes_1 13 rfl rfl)
theorem dX2_moreTimes_39 : decode cX2_moreTimes 39 = .ok (.aload_n 0, 1) := dk_42 (dk_at dksX2_moreTimes_1 15 rfl rfl)
theorem dX2_moreTimes_40 : decode cX2_moreTimes 40 = .ok (.aload_n 0, 1) := dk_42 (dk_at dksX2_moreTimes_1 16 rfl rfl)
theorem dX2_moreTimes_41 : decode cX2_moreTimes 41 = .ok (.iload_n 1, 1) := dk_27 (dk_at dksX2_moreTimes_1 17 rfl rfl)
theorem dX2_moreTimes_42 : decode cX2_moreTimes 42 = .ok (.iload 5, 2) := dk_21 5 (dk_at dksX2_moreTimes_1 18 rfl rfl)
theorem dX2_moreTimes_44 : decode cX2_moreTimes 44 = .ok (.invokevirtual 283, 3) := dk_182 1 27 (dk_at dksX2_moreTimes_1 20 rfl rfl)
theorem dX2_moreTimes_47 : decode cX2_moreTimes 47 = .ok (.invokevirtual 272, 3) := dk_182 1 16 (dk_at dksX2_moreTimes_2 0 rfl rfl)
theorem dX2_moreTimes_50 : decode cX2_moreTimes 50 = .ok (.ifCond .eq 7, 3) := dk_153 0 7 (dk_at dksX2_moreTimes_2 3 rfl rfl)
theorem dX2_moreTimes_53 : decode cX2_moreTimes 53 = .ok (.iconst 1, 1) := dk_4 (dk_at dksX2_moreTimes_2 6 rfl rfl)
theorem dX2_moreTimes_54 : decode cX2_moreTimes 54 = .ok (.goto 4, 3) := dk_167 0 4 (dk_at dksX2_moreTimes_2 7 rfl rfl)
theorem dX2_moreTimes_57 : decode cX2_moreTimes 57 = .ok (.iconst 0, 1) := dk_3 (dk_at dksX2_moreTimes_2 10 rfl rfl)
theorem dX2_moreTimes_58 : decode cX2_moreTimes 58 = .ok (.iadd, 1) := dk_96 (dk_at dksX2_moreTimes_2 11 rfl rfl)
theorem dX2_moreTimes_59 : decode cX2_moreTimes 59 = .ok (.istore 4, 2) := dk_54 4 (dk_at dksX2_moreTimes_2 12 rfl rfl)
theorem dX2_moreTimes_61 : decode cX2_moreTimes 61 = .ok (.iinc 5 1, 3) := dk_132 5 1 (dk_at dksX2_moreTimes_2 14 rfl rfl)
theorem dX2_moreTimes_64 : decode cX2_moreTimes 64 = .ok (.goto (-33), 3) := dk_167 255 223 (dk_at dksX2_moreTimes_2 17 rfl rfl)
theorem dX2_moreTimes_67 : decode cX2_moreTimes 67 = .ok (.iload 4, 2) := dk_21 4 (dk_at dksX2_moreTimes_2 20 rfl rfl)
theorem dX2_moreTimes_69 : decode cX2_moreTimes 69 = .ok (.ireturn, 1) := dk_172 (dk_at dksX2_moreTimes_2 22 rfl rfl)
abbrev cX2_settles : ByteArray := prog_16_method_56_code
def yX2_settles : MethodName := ⟨RX2, "settles", "(I)I"⟩
def dkwX2_settles_1 : List UInt8 := [180, 1, 13, 172]
abbrev dktX2_settles_1 : List UInt8 := dkwX2_settles_1 ++ []
def dkwX2_settles_0 : List UInt8 := [42, 182, 0, 164, 42, 27, 182, 0, 239, 154, 0, 9, 42, 4, 182, 0, 167, 172, 42, 27, 182, 1, 30, 42]
abbrev dktX2_settles_0 : List UInt8 := dkwX2_settles_0 ++ dktX2_settles_1
theorem dksX2_settles_0 : cX2_settles.data.toList.drop 0 = dktX2_settles_0 := by decide +kernel
theorem dksX2_settles_1 : cX2_settles.data.toList.drop 24 = dktX2_settles_1 := dk_seg dksX2_settles_0 24 rfl rfl
theorem dX2_settles_0 : decode cX2_settles 0 = .ok (.aload_n 0, 1) := dk_42 (dk_at dksX2_settles_0 0 rfl rfl)
theorem dX2_settles_1 : decode cX2_settles 1 = .ok (.invokevirtual 164, 3) := dk_182 0 164 (dk_at dksX2_settles_0 1 rfl rfl)
theorem dX2_settles_4 : decode cX2_settles 4 = .ok (.aload_n 0, 1) := dk_42 (dk_at dksX2_settles_0 4 rfl rfl)
theorem dX2_settles_5 : decode cX2_settles 5 = .ok (.iload_n 1, 1) := dk_27 (dk_at dksX2_settles_0 5 rfl rfl)
theorem dX2_settles_6 : decode cX2_settles 6 = .ok (.invokevirtual 239, 3) := dk_182 0 239 (dk_at dksX2_settles_0 6 rfl rfl)
theorem dX2_settles_9 : decode cX2_settles 9 = .ok (.ifCond .ne 9, 3) := dk_154 0 9 (dk_at dksX2_settles_0 9 rfl rfl)
theorem dX2_settles_12 : decode cX2_settles 12 = .ok (.aload_n 0, 1) := dk_42 (dk_at dksX2_settles_0 12 rfl rfl)
theorem dX2_settles_13 : decode cX2_settles 13 = .ok (.iconst 1, 1) := dk_4 (dk_at dksX2_settles_0 13 rfl rfl)
theorem dX2_settles_14 : decode cX2_settles 14 = .ok (.invokevirtual 167, 3) := dk_182 0 167 (dk_at dksX2_settles_0 14 rfl rfl)
theorem dX2_settles_17 : decode cX2_settles 17 = .ok (.ireturn, 1) := dk_172 (dk_at dksX2_settles_0 17 rfl rfl)
theorem dX2_settles_18 : decode cX2_settles 18 = .ok (.aload_n 0, 1) := dk_42 (dk_at dksX2_settles_0 18 rfl rfl)
theorem dX2_settles_19 : decode cX2_settles 19 = .ok (.iload_n 1, 1) := dk_27 (dk_at dksX2_settles_0 19 rfl rfl)
theorem dX2_settles_20 : decode cX2_settles 20 = .ok (.invokevirtual 286, 3) := dk_182 1 30 (dk_at dksX2_settles_0 20 rfl rfl)
theorem dX2_settles_23 : decode cX2_settles 23 = .ok (.aload_n 0, 1) := dk_42 (dk_at dksX2_settles_0 23 rfl rfl)
theorem dX2_settles_24 : decode cX2_settles 24 = .ok (.getfield 269, 3) := dk_180 1 13 (dk_at dksX2_settles_1 0 rfl rfl)
theorem dX2_settles_27 : decode cX2_settles 27 = .ok (.ireturn, 1) := dk_172 (dk_at dksX2_settles_1 3 rfl rfl)
abbrev cX2_goRound : ByteArray := prog_16_method_48_code
def yX2_goRound : MethodName := ⟨RX2, "goRound", "(I)V"⟩
def dkwX2_goRound_13 : List UInt8 := [180, 1, 13, 4, 100, 181, 1, 13, 167, 255, 209, 177]
abbrev dktX2_goRound_13 : List UInt8 := dkwX2_goRound_13 ++ []
def dkwX2_goRound_12 : List UInt8 := [46, 42, 180, 0, 41, 42, 180, 1, 13, 4, 100, 42, 180, 1, 7, 96, 46, 160, 0, 16, 42, 89]
abbrev dktX2_goRound_12 : List UInt8 := dkwX2_goRound_12 ++ dktX2_goRound_13
def dkwX2_goRound_11 : List UInt8 := [42, 180, 1, 1, 181, 1, 13, 42, 180, 1, 13, 158, 0, 46, 42, 180, 0, 41, 42, 180, 1, 13, 4, 100]
abbrev dktX2_goRound_11 : List UInt8 := dkwX2_goRound_11 ++ dktX2_goRound_12
def dkwX2_goRound_10 : List UInt8 := [42, 180, 1, 7, 182, 1, 10, 154, 0, 16, 42, 89, 180, 1, 7, 4, 96, 181, 1, 7, 167, 255, 235, 42]
abbrev dktX2_goRound_10 : List UInt8 := dkwX2_goRound_10 ++ dktX2_goRound_11
def dkwX2_goRound_9 : List UInt8 := [180, 0, 41, 21, 6, 42, 180, 1, 4, 100, 46, 79, 132, 6, 1, 167, 255, 218, 42, 4, 181, 1, 7, 42]
abbrev dktX2_goRound_9 : List UInt8 := dkwX2_goRound_9 ++ dktX2_goRound_10
def dkwX2_goRound_8 : List UInt8 := [21, 6, 42, 180, 1, 1, 5, 42, 180, 1, 4, 104, 96, 162, 0, 28, 42, 180, 0, 41, 21, 6, 42]
abbrev dktX2_goRound_8 : List UInt8 := dkwX2_goRound_8 ++ dktX2_goRound_9
def dkwX2_goRound_7 : List UInt8 := [180, 0, 44, 21, 5, 46, 181, 1, 1, 42, 21, 4, 42, 180, 1, 1, 100, 181, 1, 4, 21, 4, 54, 6]
abbrev dktX2_goRound_7 : List UInt8 := dkwX2_goRound_7 ++ dktX2_goRound_8
def dkwX2_goRound_6 : List UInt8 := [16, 9, 104, 42, 180, 0, 32, 16, 35, 46, 21, 4, 96, 28, 112, 96, 54, 5, 167, 255, 172, 42, 42]
abbrev dktX2_goRound_6 : List UInt8 := dkwX2_goRound_6 ++ dktX2_goRound_7
def dkwX2_goRound_5 : List UInt8 := [180, 0, 20, 16, 13, 27, 96, 46, 42, 180, 0, 32, 16, 35, 46, 21, 4, 96, 3, 182, 0, 249, 62, 29]
abbrev dktX2_goRound_5 : List UInt8 := dkwX2_goRound_5 ++ dktX2_goRound_6
def dkwX2_goRound_4 : List UInt8 := [180, 0, 41, 21, 4, 29, 79, 132, 4, 1, 42, 27, 29, 42, 180, 0, 32, 8, 27, 96, 46, 42]
abbrev dktX2_goRound_4 : List UInt8 := dkwX2_goRound_4 ++ dktX2_goRound_5
def dkwX2_goRound_3 : List UInt8 := [54, 5, 42, 180, 0, 44, 21, 5, 46, 156, 0, 80, 42, 180, 0, 44, 21, 5, 21, 4, 79, 42]
abbrev dktX2_goRound_3 : List UInt8 := dkwX2_goRound_3 ++ dktX2_goRound_4
def dkwX2_goRound_2 : List UInt8 := [42, 180, 0, 32, 27, 46, 62, 3, 54, 4, 29, 16, 9, 104, 42, 180, 0, 32, 16, 35, 46, 28, 112, 96]
abbrev dktX2_goRound_2 : List UInt8 := dkwX2_goRound_2 ++ dktX2_goRound_3
def dkwX2_goRound_1 : List UInt8 := [46, 61, 3, 62, 29, 17, 3, 132, 162, 0, 16, 42, 180, 0, 44, 29, 2, 79, 132, 3, 1, 167, 255, 239]
abbrev dktX2_goRound_1 : List UInt8 := dkwX2_goRound_1 ++ dktX2_goRound_2
def dkwX2_goRound_0 : List UInt8 := [42, 180, 0, 20, 16, 13, 27, 96, 46, 154, 0, 7, 4, 167, 0, 12, 42, 180, 0, 20, 16, 13, 27, 96]
abbrev dktX2_goRound_0 : List UInt8 := dkwX2_goRound_0 ++ dktX2_goRound_1
theorem dksX2_goRound_0 : cX2_goRound.data.toList.drop 0 = dktX2_goRound_0 := by decide +kernel
theorem dksX2_goRound_1 : cX2_goRound.data.toList.drop 24 = dktX2_goRound_1 := dk_seg dksX2_goRound_0 24 rfl rfl
theorem dksX2_goRound_2 : cX2_goRound.data.toList.drop 48 = dktX2_goRound_2 := dk_seg dksX2_goRound_1 24 rfl rfl
theorem dksX2_goRound_3 : cX2_goRound.data.toList.drop 72 = dktX2_goRound_3 := dk_seg dksX2_goRound_2 24 rfl rfl
theorem dksX2_goRound_4 : cX2_goRound.data.toList.drop 94 = dktX2_goRound_4 := dk_seg dksX2_goRound_3 22 rfl rfl
theorem dksX2_goRound_5 : cX2_goRound.data.toList.drop 116 = dktX2_goRound_5 := dk_seg dksX2_goRound_4 22 rfl rfl
theorem dksX2_goRound_6 : cX2_goRound.data.toList.drop 140 = dktX2_goRound_6 := dk_seg dksX2_goRound_5 24 rfl rfl
theorem dksX2_goRound_7 : cX2_goRound.data.toList.drop 163 = dktX2_goRound_7 := dk_seg dksX2_goRound_6 23 rfl rfl
theorem dksX2_goRound_8 : cX2_goRound.data.toList.drop 187 = dktX2_goRound_8 := dk_seg dksX2_goRound_7 24 rfl rfl
theorem dksX2_goRound_9 : cX2_goRound.data.toList.drop 210 = dktX2_goRound_9 := dk_seg dksX2_goRound_8 23 rfl rfl
theorem dksX2_goRound_10 : cX2_goRound.data.toList.drop 234 = dktX2_goRound_10 := dk_seg dksX2_goRound_9 24 rfl rfl
theorem dksX2_goRound_11 : cX2_goRound.data.toList.drop 258 = dktX2_goRound_11 := dk_seg dksX2_goRound_10 24 rfl rfl
theorem dksX2_goRound_12 : cX2_goRound.data.toList.drop 282 = dktX2_goRound_12 := dk_seg dksX2_goRound_11 24 rfl rfl
theorem dksX2_goRound_13 : cX2_goRound.data.toList.drop 304 = dktX2_goRound_13 := dk_seg dksX2_goRound_12 22 rfl rfl
theorem dX2_goRound_0 : decode cX2_goRound 0 = .ok (.aload_n 0, 1) := dk_42 (dk_at dksX2_goRound_0 0 rfl rfl)
theorem dX2_goRound_1 : decode cX2_goRound 1 = .ok (.getfield 20, 3) := dk_180 0 20 (dk_at dksX2_goRound_0 1 rfl rfl)
theorem dX2_goRound_4 : decode cX2_goRound 4 = .ok (.bipush 13, 2) := dk_16 13 (dk_at dksX2_goRound_0 4 rfl rfl)
theorem dX2_goRound_6 : decode cX2_goRound 6 = .ok (.iload_n 1, 1) := dk_27 (dk_at dksX2_goRound_0 6 rfl rfl)
theorem dX2_goRound_7 : decode cX2_goRound 7 = .ok (.iadd, 1) := dk_96 (dk_at dksX2_goRound_0 7 rfl rfl)
theorem dX2_goRound_8 : decode cX2_goRound 8 = .ok (.iaload, 1) := dk_46 (dk_at dksX2_goRound_0 8 rfl rfl)
theorem dX2_goRound_9 : decode cX2_goRound 9 = .ok (.ifCond .ne 7, 3) := dk_154 0 7 (dk_at dksX2_goRound_0 9 rfl rfl)
theorem dX2_goRound_12 : decode cX2_goRound 12 = .ok (.iconst 1, 1) := dk_4 (dk_at dksX2_goRound_0 12 rfl rfl)
theorem dX2_goRound_13 : decode cX2_goRound 13 = .ok (.goto 12, 3) := dk_167 0 12 (dk_at dksX2_goRound_0 13 rfl rfl)
theorem dX2_goRound_16 : decode cX2_goRound 16 = .ok (.aload_n 0, 1) := dk_42 (dk_at dksX2_goRound_0 16 rfl rfl)
theorem dX2_goRound_17 : decode cX2_goRound 17 = .ok (.getfield 20, 3) := dk_180 0 20 (dk_at dksX2_goRound_0 17 rfl rfl)
theorem dX2_goRound_20 : decode cX2_goRound 20 = .ok (.bipush 13, 2) := dk_16 13 (dk_at dksX2_goRound_0 20 rfl rfl)
theorem dX2_goRound_22 : decode cX2_goRound 22 = .ok (.iload_n 1, 1) := dk_27 (dk_at dksX2_goRound_0 22 rfl rfl)
theorem dX2_goRound_23 : decode cX2_goRound 23 = .ok (.iadd, 1) := dk_96 (dk_at dksX2_goRound_0 23 rfl rfl)
theorem dX2_goRound_24 : decode cX2_goRound 24 = .ok (.iaload, 1) := dk_46 (dk_at dksX2_goRound_1 0 rfl rfl)
theorem dX2_goRound_25 : decode cX2_goRound 25 = .ok (.istore_n 2, 1) := dk_61 (dk_at dksX2_goRound_1 1 rfl rfl)
theorem dX2_goRound_26 : decode cX2_goRound 26 = .ok (.iconst 0, 1) := dk_3 (dk_at dksX2_goRound_1 2 rfl rfl)
theorem dX2_goRound_27 : decode cX2_goRound 27 = .ok (.istore_n 3, 1) := dk_62 (dk_at dksX2_goRound_1 3 rfl rfl)
theorem dX2_goRound_28 : decode cX2_goRound 28 = .ok (.iload_n 3, 1) := dk_29 (dk_at dksX2_goRound_1 4 rfl rfl)
theorem dX2_goRound_29 : decode cX2_goRound 29 = .ok (.sipush 900, 3) := dk_17 3 132 (dk_at dksX2_goRound_1 5 rfl rfl)
theorem dX2_goRound_32 : decode cX2_goRound 32 = .ok (.if_icmp .ge 16, 3) := dk_162 0 16 (dk_at dksX2_goRound_1 8 rfl rfl)
theorem dX2_goRound_35 : decode cX2_goRound 35 = .ok (.aload_n 0, 1) := dk_42 (dk_at dksX2_goRound_1 11 rfl rfl)
theorem dX2_goRound_36 : decode cX2_goRound 36 = .ok (.getfield 44, 3) := dk_180 0 44 (dk_at dksX2_goRound_1 12 rfl rfl)
theorem dX2_goRound_39 : decode cX2_goRound 39 = .ok (.iload_n 3, 1) := dk_29 (dk_at dksX2_goRound_1 15 rfl rfl)
theorem dX2_goRound_40 : decode cX2_goRound 40 = .ok (.iconst (-1), 1) := dk_2 (dk_at dksX2_goRound_1 16 rfl rfl)
theorem dX2_goRound_41 : decode cX2_goRound 41 = .ok (.iastore, 1) := dk_79 (dk_at dksX2_goRound_1 17 rfl rfl)
theorem dX2_goRound_42 : decode cX2_goRound 42 = .ok (.iinc 3 1, 3) := dk_132 3 1 (dk_at dksX2_goRound_1 18 rfl rfl)
theorem dX2_goRound_45 : decode cX2_goRound 45 = .ok (.goto (-17), 3) := dk_167 255 239 (dk_at dksX2_goRound_1 21 rfl rfl)
theorem dX2_goRound_48 : decode cX2_goRound 48 = .ok (.aload_n 0, 1) := dk_42 (dk_at dksX2_goRound_2 0 rfl rfl)
theorem dX2_goRound_49 : decode cX2_goRound 49 = .ok (.getfield 32, 3) := dk_180 0 32 (dk_at dksX2_goRound_2 1 rfl rfl)
theorem dX2_goRound_52 : decode cX2_goRound 52 = .ok (.iload_n 1, 1) := dk_27 (dk_at dksX2_goRound_2 4 rfl rfl)
theorem dX2_goRound_53 : decode cX2_goRound 53 = .ok (.iaload, 1) := dk_46 (dk_at dksX2_goRound_2 5 rfl rfl)
theorem dX2_goRound_54 : decode cX2_goRound 54 = .ok (.istore_n 3, 1) := dk_62 (dk_at dksX2_goRound_2 6 rfl rfl)
theorem dX2_goRound_55 : decode cX2_goRound 55 = .ok (.iconst 0, 1) := dk_3 (dk_at dksX2_goRound_2 7 rfl rfl)
theorem dX2_goRound_56 : decode cX2_goRound 56 = .ok (.istore 4, 2) := dk_54 4 (dk_at dksX2_goRound_2 8 rfl rfl)
theorem dX2_goRound_58 : decode cX2_goRound 58 = .ok (.iload_n 3, 1) := dk_29 (dk_at dksX2_goRound_2 10 rfl rfl)
theorem dX2_goRound_59 : decode cX2_goRound 59 = .ok (.bipush 9, 2) := dk_16 9 (dk_at dksX2_goRound_2 11 rfl rfl)
theorem dX2_goRound_61 : decode cX2_goRound 61 = .ok (.imul, 1) := dk_104 (dk_at dksX2_goRound_2 13 rfl rfl)
theorem dX2_goRound_62 : decode cX2_goRound 62 = .ok (.aload_n 0, 1) := dk_42 (dk_at dksX2_goRound_2 14 rfl rfl)
theorem dX2_goRound_63 : decode cX2_goRound 63 = .ok (.getfield 32, 3) := dk_180 0 32 (dk_at dksX2_goRound_2 15 rfl rfl)
theorem dX2_goRound_66 : decode cX2_goRound 66 = .ok (.bipush 35, 2) := dk_16 35 (dk_at dksX2_goRound_2 18 rfl rfl)
theorem dX2_goRound_68 : decode cX2_goRound 68 = .ok (.iaload, 1) := dk_46 (dk_at dksX2_goRound_2 20 rfl rfl)
theorem dX2_goRound_69 : decode cX2_goRound 69 = .ok (.iload_n 2, 1) := dk_28 (dk_at dksX2_goRound_2 21 rfl rfl)
theorem dX2_goRound_70 : decode cX2_goRound 70 = .ok (.irem, 1) := dk_112 (dk_at dksX2_goRound_2 22 rfl rfl)
theorem dX2_goRound_71 : decode cX2_goRound 71 = .ok (.iadd, 1) := dk_96 (dk_at dksX2_goRound_2 23 rfl rfl)
theorem dX2_goRound_72 : decode cX2_goRound 72 = .ok (.istore 5, 2) := dk_54 5 (dk_at dksX2_goRound_3 0 rfl rfl)
theorem dX2_goRound_74 : decode cX2_goRound 74 = .ok (.aload_n 0, 1) := dk_42 (dk_at dksX2_goRound_3 2 rfl rfl)
theorem dX2_goRound_75 : decode cX2_goRound 75 = .ok (.getfield 44, 3) := dk_180 0 44 (dk_at dksX2_goRound_3 3 rfl rfl)
theorem dX2_goRound_78 : decode cX2_goRound 78 = .ok (.iload 5, 2) := dk_21 5 (dk_at dksX2_goRound_3 6 rfl rfl)
theorem dX2_goRound_80 : decode cX2_goRound 80 = .ok (.iaload, 1) := dk_46 (dk_at dksX2_goRound_3 8 rfl rfl)
theorem dX2_goRound_81 : decode cX2_goRound 81 = .ok (.ifCond .ge 80, 3) := dk_156 0 80 (dk_at dksX2_goRound_3 9 rfl rfl)
theorem dX2_goRound_84 : decode cX2_goRound 84 = .ok (.aload_n 0, 1) := dk_42 (dk_at dksX2_goRound_3 12 rfl rfl)
theorem dX2_goRound_85 : decode cX2_goRound 85 = .ok (.getfield 44, 3) := dk_180 0 44 (dk_at dksX2_goRound_3 13 rfl rfl)
theorem dX2_goRound_88 : decode cX2_goRound 88 = .ok (.iload 5, 2) := dk_21 5 (dk_at dksX2_goRound_3 16 rfl rfl)
theorem dX2_goRound_90 : decode cX2_goRound 90 = .ok (.iload 4, 2) := dk_21 4 (dk_at dksX2_goRound_3 18 rfl rfl)
theorem dX2_goRound_92 : decode cX2_goRound 92 = .ok (.iastore, 1) := dk_79 (dk_at dksX2_goRound_3 20 rfl rfl)
theorem dX2_goRound_93 : decode cX2_goRound 93 = .ok (.aload_n 0, 1) := dk_42 (dk_at dksX2_goRound_3 21 rfl rfl)
theorem dX2_goRound_94 : decode cX2_goRound 94 = .ok (.getfield 41, 3) := dk_180 0 41 (dk_at dksX2_goRound_4 0 rfl rfl)
theorem dX2_goRound_97 : decode cX2_goRound 97 = .ok (.iload 4, 2) := dk_21 4 (dk_at dksX2_goRound_4 3 rfl rfl)
theorem dX2_goRound_99 : decode cX2_goRound 99 = .ok (.iload_n 3, 1) := dk_29 (dk_at dksX2_goRound_4 5 rfl rfl)
theorem dX2_goRound_100 : decode cX2_goRound 100 = .ok (.iastore, 1) := dk_79 (dk_at dksX2_goRound_4 6 rfl rfl)
theorem dX2_goRound_101 : decode cX2_goRound 101 = .ok (.iinc 4 1, 3) := dk_132 4 1 (dk_at dksX2_goRound_4 7 rfl rfl)
theorem dX2_goRound_104 : decode cX2_goRound 104 = .ok (.aload_n 0, 1) := dk_42 (dk_at dksX2_goRound_4 10 rfl rfl)
theorem dX2_goRound_105 : decode cX2_goRound 105 = .ok (.iload_n 1, 1) := dk_27 (dk_at dksX2_goRound_4 11 rfl rfl)
theorem dX2_goRound_106 : decode cX2_goRound 106 = .ok (.iload_n 3, 1) := dk_29 (dk_at dksX2_goRound_4 12 rfl rfl)
theorem dX2_goRound_107 : decode cX2_goRound 107 = .ok (.aload_n 0, 1) := dk_42 (dk_at dksX2_goRound_4 13 rfl rfl)
theorem dX2_goRound_108 : decode cX2_goRound 108 = .ok (.getfield 32, 3) := dk_180 0 32 (dk_at dksX2_goRound_4 14 rfl rfl)
theorem dX2_goRound_111 : decode cX2_goRound 111 = .ok (.iconst 5, 1) := dk_8 (dk_at dksX2_goRound_4 17 rfl rfl)
theorem dX2_goRound_112 : decode cX2_goRound 112 = .ok (.iload_n 1, 1) := dk_27 (dk_at dksX2_goRound_4 18 rfl rfl)
theorem dX2_goRound_113 : decode cX2_goRound 113 = .ok (.iadd, 1) := dk_96 (dk_at dksX2_goRound_4 19 rfl rfl)
theorem dX2_goRound_114 : decode cX2_goRound 114 = .ok (.iaload, 1) := dk_46 (dk_at dksX2_goRound_4 20 rfl rfl)
theorem dX2_goRound_115 : decode cX2_goRound 115 = .ok (.aload_n 0, 1) := dk_42 (dk_at dksX2_goRound_4 21 rfl rfl)
theorem dX2_goRound_116 : decode cX2_goRound 116 = .ok (.getfield 20, 3) := dk_180 0 20 (dk_at dksX2_goRound_5 0 rfl rfl)
theorem dX2_goRound_119 : decode cX2_goRound 119 = .ok (.bipush 13, 2) := dk_16 13 (dk_at dksX2_goRound_5 3 rfl rfl)
theorem dX2_goRound_121 : decode cX2_goRound 121 = .ok (.iload_n 1, 1) := dk_27 (dk_at dksX2_goRound_5 5 rfl rfl)
theorem dX2_goRound_122 : decode cX2_goRound 122 = .ok (.iadd, 1) := dk_96 (dk_at dksX2_goRound_5 6 rfl rfl)
theorem dX2_goRound_123 : decode cX2_goRound 123 = .ok (.iaload, 1) := dk_46 (dk_at dksX2_goRound_5 7 rfl rfl)
theorem dX2_goRound_124 : decode cX2_goRound 124 = .ok (.aload_n 0, 1) := dk_42 (dk_at dksX2_goRound_5 8 rfl rfl)
theorem dX2_goRound_125 : decode cX2_goRound 125 = .ok (.getfield 32, 3) := dk_180 0 32 (dk_at dksX2_goRound_5 9 rfl rfl)
theorem dX2_goRound_128 : decode cX2_goRound 128 = .ok (.bipush 35, 2) := dk_16 35 (dk_at dksX2_goRound_5 12 rfl rfl)
theorem dX2_goRound_130 : decode cX2_goRound 130 = .ok (.iaload, 1) := dk_46 (dk_at dksX2_goRound_5 14 rfl rfl)
theorem dX2_goRound_131 : decode cX2_goRound 131 = .ok (.iload 4, 2) := dk_21 4 (dk_at dksX2_goRound_5 15 rfl rfl)
theorem dX2_goRound_133 : decode cX2_goRound 133 = .ok (.iadd, 1) := dk_96 (dk_at dksX2_goRound_5 17 rfl rfl)
theorem dX2_goRound_134 : decode cX2_goRound 134 = .ok (.iconst 0, 1) := dk_3 (dk_at dksX2_goRound_5 18 rfl rfl)
theorem dX2_goRound_135 : decode cX2_goRound 135 = .ok (.invokevirtual 249, 3) := dk_182 0 249 (dk_at dksX2_goRound_5 19 rfl rfl)
theorem dX2_goRound_138 : decode cX2_goRound 138 = .ok (.istore_n 3, 1) := dk_62 (dk_at dksX2_goRound_5 22 rfl rfl)
theorem dX2_goRound_139 : decode cX2_goRound 139 = .ok (.iload_n 3, 1) := dk_29 (dk_at dksX2_goRound_5 23 rfl rfl)
theorem dX2_goRound_140 : decode cX2_goRound 140 = .ok (.bipush 9, 2) := dk_16 9 (dk_at dksX2_goRound_6 0 rfl rfl)
theorem dX2_goRound_142 : decode cX2_goRound 142 = .ok (.imul, 1) := dk_104 (dk_at dksX2_goRound_6 2 rfl rfl)
theorem dX2_goRound_143 : decode cX2_goRound 143 = .ok (.aload_n 0, 1) := dk_42 (dk_at dksX2_goRound_6 3 rfl rfl)
theorem dX2_goRound_144 : decode cX2_goRound 144 = .ok (.getfield 32, 3) := dk_180 0 32 (dk_at dksX2_goRound_6 4 rfl rfl)
theorem dX2_goRound_147 : decode cX2_goRound 147 = .ok (.bipush 35, 2) := dk_16 35 (dk_at dksX2_goRound_6 7 rfl rfl)
theorem dX2_goRound_149 : decode cX2_goRound 149 = .ok (.iaload, 1) := dk_46 (dk_at dksX2_goRound_6 9 rfl rfl)
theorem dX2_goRound_150 : decode cX2_goRound 150 = .ok (.iload 4, 2) := dk_21 4 (dk_at dksX2_goRound_6 10 rfl rfl)
theorem dX2_goRound_152 : decode cX2_goRound 152 = .ok (.iadd, 1) := dk_96 (dk_at dksX2_goRound_6 12 rfl rfl)
theorem dX2_goRound_153 : decode cX2_goRound 153 = .ok (.iload_n 2, 1) := dk_28 (dk_at dksX2_goRound_6 13 rfl rfl)
theorem dX2_goRound_154 : decode cX2_goRound 154 = .ok (.irem, 1) := dk_112 (dk_at dksX2_goRound_6 14 rfl rfl)
theorem dX2_goRound_155 : decode cX2_goRound 155 = .ok (.iadd, 1) := dk_96 (dk_at dksX2_goRound_6 15 rfl rfl)
theorem dX2_goRound_156 : decode cX2_goRound 156 = .ok (.istore 5, 2) := dk_54 5 (dk_at dksX2_goRound_6 16 rfl rfl)
theorem dX2_goRound_158 : decode cX2_goRound 158 = .ok (.goto (-84), 3) := dk_167 255 172 (dk_at dksX2_goRound_6 18 rfl rfl)
theorem dX2_goRound_161 : decode cX2_goRound 161 = .ok (.aload_n 0, 1) := dk_42 (dk_at dksX2_goRound_6 21 rfl rfl)
theorem dX2_goRound_162 : decode cX2_goRound 162 = .ok (.aload_n 0, 1) := dk_42 (dk_at dksX2_goRound_6 22 rfl rfl)
theorem dX2_goRound_163 : decode cX2_goRound 163 = .ok (.getfield 44, 3) := dk_180 0 44 (dk_at dksX2_goRound_7 0 rfl rfl)
theorem dX2_goRound_166 : decode cX2_goRound 166 = .ok (.iload 5, 2) := dk_21 5 (dk_at dksX2_goRound_7 3 rfl rfl)
theorem dX2_goRound_168 : decode cX2_goRound 168 = .ok (.iaload, 1) := dk_46 (dk_at dksX2_goRound_7 5 rfl rfl)
theorem dX2_goRound_169 : decode cX2_goRound 169 = .ok (.putfield 257, 3) := dk_181 1 1 (dk_at dksX2_goRound_7 6 rfl rfl)
theorem dX2_goRound_172 : decode cX2_goRound 172 = .ok (.aload_n 0, 1) := dk_42 (dk_at dksX2_goRound_7 9 rfl rfl)
theorem dX2_goRound_173 : decode cX2_goRound 173 = .ok (.iload 4, 2) := dk_21 4 (dk_at dksX2_goRound_7 10 rfl rfl)
theorem dX2_goRound_175 : decode cX2_goRound 175 = .ok (.aload_n 0, 1) := dk_42 (dk_at dksX2_goRound_7 12 rfl rfl)
theorem dX2_goRound_176 : decode cX2_goRound 176 = .ok (.getfield 257, 3) := dk_180 1 1 (dk_at dksX2_goRound_7 13 rfl rfl)
theorem dX2_goRound_179 : decode cX2_goRound 179 = .ok (.isub, 1) := dk_100 (dk_at dksX2_goRound_7 16 rfl rfl)
theorem dX2_goRound_180 : decode cX2_goRound 180 = .ok (.putfield 260, 3) := dk_181 1 4 (dk_at dksX2_goRound_7 17 rfl rfl)
theorem dX2_goRound_183 : decode cX2_goRound 183 = .ok (.iload 4, 2) := dk_21 4 (dk_at dksX2_goRound_7 20 rfl rfl)
theorem dX2_goRound_185 : decode cX2_goRound 185 = .ok (.istore 6, 2) := dk_54 6 (dk_at dksX2_goRound_7 22 rfl rfl)
theorem dX2_goRound_187 : decode cX2_goRound 187 = .ok (.iload 6, 2) := dk_21 6 (dk_at dksX2_goRound_8 0 rfl rfl)
theorem dX2_goRound_189 : decode cX2_goRound 189 = .ok (.aload_n 0, 1) := dk_42 (dk_at dksX2_goRound_8 2 rfl rfl)
theorem dX2_goRound_190 : decode cX2_goRound 190 = .ok (.getfield 257, 3) := dk_180 1 1 (dk_at dksX2_goRound_8 3 rfl rfl)
theorem dX2_goRound_193 : decode cX2_goRound 193 = .ok (.iconst 2, 1) := dk_5 (dk_at dksX2_goRound_8 6 rfl rfl)
theorem dX2_goRound_194 : decode cX2_goRound 194 = .ok (.aload_n 0, 1) := dk_42 (dk_at dksX2_goRound_8 7 rfl rfl)
theorem dX2_goRound_195 : decode cX2_goRound 195 = .ok (.getfield 260, 3) := dk_180 1 4 (dk_at dksX2_goRound_8 8 rfl rfl)
theorem dX2_goRound_198 : decode cX2_goRound 198 = .ok (.imul, 1) := dk_104 (dk_at dksX2_goRound_8 11 rfl rfl)
theorem dX2_goRound_199 : decode cX2_goRound 199 = .ok (.iadd, 1) := dk_96 (dk_at dksX2_goRound_8 12 rfl rfl)
theorem dX2_goRound_200 : decode cX2_goRound 200 = .ok (.if_icmp .ge 28, 3) := dk_162 0 28 (dk_at dksX2_goRound_8 13 rfl rfl)
theorem dX2_goRound_203 : decode cX2_goRound 203 = .ok (.aload_n 0, 1) := dk_42 (dk_at dksX2_goRound_8 16 rfl rfl)
theorem dX2_goRound_204 : decode cX2_goRound 204 = .ok (.getfield 41, 3) := dk_180 0 41 (dk_at dksX2_goRound_8 17 rfl rfl)
theorem dX2_goRound_207 : decode cX2_goRound 207 = .ok (.iload 6, 2) := dk_21 6 (dk_at dksX2_goRound_8 20 rfl rfl)
theorem dX2_goRound_209 : decode cX2_goRound 209 = .ok (.aload_n 0, 1) := dk_42 (dk_at dksX2_goRound_8 22 rfl rfl)
theorem dX2_goRound_210 : decode cX2_goRound 210 = .ok (.getfield 41, 3) := dk_180 0 41 (dk_at dksX2_goRound_9 0 rfl rfl)
theorem dX2_goRound_213 : decode cX2_goRound 213 = .ok (.iload 6, 2) := dk_21 6 (dk_at dksX2_goRound_9 3 rfl rfl)
theorem dX2_goRound_215 : decode cX2_goRound 215 = .ok (.aload_n 0, 1) := dk_42 (dk_at dksX2_goRound_9 5 rfl rfl)
theorem dX2_goRound_216 : decode cX2_goRound 216 = .ok (.getfield 260, 3) := dk_180 1 4 (dk_at dksX2_goRound_9 6 rfl rfl)
theorem dX2_goRound_219 : decode cX2_goRound 219 = .ok (.isub, 1) := dk_100 (dk_at dksX2_goRound_9 9 rfl rfl)
theorem dX2_goRound_220 : decode cX2_goRound 220 = .ok (.iaload, 1) := dk_46 (dk_at dksX2_goRound_9 10 rfl rfl)
theorem dX2_goRound_221 : decode cX2_goRound 221 = .ok (.iastore, 1) := dk_79 (dk_at dksX2_goRound_9 11 rfl rfl)
theorem dX2_goRound_222 : decode cX2_goRound 222 = .ok (.iinc 6 1, 3) := dk_132 6 1 (dk_at dksX2_goRound_9 12 rfl rfl)
theorem dX2_goRound_225 : decode cX2_goRound 225 = .ok (.goto (-38), 3) := dk_167 255 218 (dk_at dksX2_goRound_9 15 rfl rfl)
theorem dX2_goRound_228 : decode cX2_goRound 228 = .ok (.aload_n 0, 1) := dk_42 (dk_at dksX2_goRound_9 18 rfl rfl)
theorem dX2_goRound_229 : decode cX2_goRound 229 = .ok (.iconst 1, 1) := dk_4 (dk_at dksX2_goRound_9 19 rfl rfl)
theorem dX2_goRound_230 : decode cX2_goRound 230 = .ok (.putfield 263, 3) := dk_181 1 7 (dk_at dksX2_goRound_9 20 rfl rfl)
theorem dX2_goRound_233 : decode cX2_goRound 233 = .ok (.aload_n 0, 1) := dk_42 (dk_at dksX2_goRound_9 23 rfl rfl)
theorem dX2_goRound_234 : decode cX2_goRound 234 = .ok (.aload_n 0, 1) := dk_42 (dk_at dksX2_goRound_10 0 rfl rfl)
theorem dX2_goRound_235 : decode cX2_goRound 235 = .ok (.getfield 263, 3) := dk_180 1 7 (dk_at dksX2_goRound_10 1 rfl rfl)
theorem dX2_goRound_238 : decode cX2_goRound 238 = .ok (.invokevirtual 266, 3) := dk_182 1 10 (dk_at dksX2_goRound_10 4 rfl rfl)
theorem dX2_goRound_241 : decode cX2_goRound 241 = .ok (.ifCond .ne 16, 3) := dk_154 0 16 (dk_at dksX2_goRound_10 7 rfl rfl)
theorem dX2_goRound_244 : decode cX2_goRound 244 = .ok (.aload_n 0, 1) := dk_42 (dk_at dksX2_goRound_10 10 rfl rfl)
theorem dX2_goRound_245 : decode cX2_goRound 245 = .ok (.dup, 1) := dk_89 (dk_at dksX2_goRound_10 11 rfl rfl)
theorem dX2_goRound_246 : decode cX2_goRound 246 = .ok (.getfield 263, 3) := dk_180 1 7 (dk_at dksX2_goRound_10 12 rfl rfl)
theorem dX2_goRound_249 : decode cX2_goRound 249 = .ok (.iconst 1, 1) := dk_4 (dk_at dksX2_goRound_10 15 rfl rfl)
theorem dX2_goRound_250 : decode cX2_goRound 250 = .ok (.iadd, 1) := dk_96 (dk_at dksX2_goRound_10 16 rfl rfl)
theorem dX2_goRound_251 : decode cX2_goRound 251 = .ok (.putfield 263, 3) := dk_181 1 7 (dk_at dksX2_goRound_10 17 rfl rfl)
theorem dX2_goRound_254 : decode cX2_goRound 254 = .ok (.goto (-21), 3) := dk_167 255 235 (dk_at dksX2_goRound_10 20 rfl rfl)
theorem dX2_goRound_257 : decode cX2_goRound 257 = .ok (.aload_n 0, 1) := dk_42 (dk_at dksX2_goRound_10 23 rfl rfl)
theorem dX2_goRound_258 : decode cX2_goRound 258 = .ok (.aload_n 0, 1) := dk_42 (dk_at dksX2_goRound_11 0 rfl rfl)
theorem dX2_goRound_259 : decode cX2_goRound 259 = .ok (.getfield 257, 3) := dk_180 1 1 (dk_at dksX2_goRound_11 1 rfl rfl)
theorem dX2_goRound_262 : decode cX2_goRound 262 = .ok (.putfield 269, 3) := dk_181 1 13 (dk_at dksX2_goRound_11 4 rfl rfl)
theorem dX2_goRound_265 : decode cX2_goRound 265 = .ok (.aload_n 0, 1) := dk_42 (dk_at dksX2_goRound_11 7 rfl rfl)
theorem dX2_goRound_266 : decode cX2_goRound 266 = .ok (.getfield 269, 3) := dk_180 1 13 (dk_at dksX2_goRound_11 8 rfl rfl)
theorem dX2_goRound_269 : decode cX2_goRound 269 = .ok (.ifCond .le 46, 3) := dk_158 0 46 (dk_at dksX2_goRound_11 11 rfl rfl)
theorem dX2_goRound_272 : decode cX2_goRound 272 = .ok (.aload_n 0, 1) := dk_42 (dk_at dksX2_goRound_11 14 rfl rfl)
theorem dX2_goRound_273 : decode cX2_goRound 273 = .ok (.getfield 41, 3) := dk_180 0 41 (dk_at dksX2_goRound_11 15 rfl rfl)
theorem dX2_goRound_276 : decode cX2_goRound 276 = .ok (.aload_n 0, 1) := dk_42 (dk_at dksX2_goRound_11 18 rfl rfl)
theorem dX2_goRound_277 : decode cX2_goRound 277 = .ok (.getfield 269, 3) := dk_180 1 13 (dk_at dksX2_goRound_11 19 rfl rfl)
theorem dX2_goRound_280 : decode cX2_goRound 280 = .ok (.iconst 1, 1) := dk_4 (dk_at dksX2_goRound_11 22 rfl rfl)
theorem dX2_goRound_281 : decode cX2_goRound 281 = .ok (.isub, 1) := dk_100 (dk_at dksX2_goRound_11 23 rfl rfl)
theorem dX2_goRound_282 : decode cX2_goRound 282 = .ok (.iaload, 1) := dk_46 (dk_at dksX2_goRound_12 0 rfl rfl)
theorem dX2_goRound_283 : decode cX2_goRound 283 = .ok (.aload_n 0, 1) := dk_42 (dk_at dksX2_goRound_12 1 rfl rfl)
theorem dX2_goRound_284 : decode cX2_goRound 284 = .ok (.getfield 41, 3) := dk_180 0 41 (dk_at dksX2_goRound_12 2 rfl rfl)
theorem dX2_goRound_287 : decode cX2_goRound 287 = .ok (.aload_n 0, 1) := dk_42 (dk_at dksX2_goRound_12 5 rfl rfl)
theorem dX2_goRound_288 : decode cX2_goRound 288 = .ok (.getfield 269, 3) := dk_180 1 13 (dk_at dksX2_goRound_12 6 rfl rfl)
theorem dX2_goRound_291 : decode cX2_goRound 291 = .ok (.iconst 1, 1) := dk_4 (dk_at dksX2_goRound_12 9 rfl rfl)
theorem dX2_goRound_292 : decode cX2_goRound 292 = .ok (.isub, 1) := dk_100 (dk_at dksX2_goRound_12 10 rfl rfl)
theorem dX2_goRound_293 : decode cX2_goRound 293 = .ok (.aload_n 0, 1) := dk_42 (dk_at dksX2_goRound_12 11 rfl rfl)
theorem dX2_goRound_294 : decode cX2_goRound 294 = .ok (.getfield 263, 3) := dk_180 1 7 (dk_at dksX2_goRound_12 12 rfl rfl)
theorem dX2_goRound_297 : decode cX2_goRound 297 = .ok (.iadd, 1) := dk_96 (dk_at dksX2_goRound_12 15 rfl rfl)
theorem dX2_goRound_298 : decode cX2_goRound 298 = .ok (.iaload, 1) := dk_46 (dk_at dksX2_goRound_12 16 rfl rfl)
theorem dX2_goRound_299 : decode cX2_goRound 299 = .ok (.if_icmp .ne 16, 3) := dk_160 0 16 (dk_at dksX2_goRound_12 17 rfl rfl)
theorem dX2_goRound_302 : decode cX2_goRound 302 = .ok (.aload_n 0, 1) := dk_42 (dk_at dksX2_goRound_12 20 rfl rfl)
theorem dX2_goRound_303 : decode cX2_goRound 303 = .ok (.dup, 1) := dk_89 (dk_at dksX2_goRound_12 21 rfl rfl)
theorem dX2_goRound_304 : decode cX2_goRound 304 = .ok (.getfield 269, 3) := dk_180 1 13 (dk_at dksX2_goRound_13 0 rfl rfl)
theorem dX2_goRound_307 : decode cX2_goRound 307 = .ok (.iconst 1, 1) := dk_4 (dk_at dksX2_goRound_13 3 rfl rfl)
theorem dX2_goRound_308 : decode cX2_goRound 308 = .ok (.isub, 1) := dk_100 (dk_at dksX2_goRound_13 4 rfl rfl)
theorem dX2_goRound_309 : decode cX2_goRound 309 = .ok (.putfield 269, 3) := dk_181 1 13 (dk_at dksX2_goRound_13 5 rfl rfl)
theorem dX2_goRound_312 : decode cX2_goRound 312 = .ok (.goto (-47), 3) := dk_167 255 209 (dk_at dksX2_goRound_13 8 rfl rfl)
theorem dX2_goRound_315 : decode cX2_goRound 315 = .ok (.return_, 1) := dk_177 (dk_at dksX2_goRound_13 11 rfl rfl)
abbrev cX2_isRoundOf : ByteArray := prog_16_method_49_code
def yX2_isRoundOf : MethodName := ⟨RX2, "isRoundOf", "(I)Z"⟩
def dkwX2_isRoundOf_2 : List UInt8 := [159, 0, 5, 3, 172, 132, 2, 1, 167, 255, 216, 4, 172]
abbrev dktX2_isRoundOf_2 : List UInt8 := dkwX2_isRoundOf_2 ++ []
def dkwX2_isRoundOf_1 : List UInt8 := [180, 0, 41, 42, 180, 1, 1, 28, 96, 46, 42, 180, 0, 41, 42, 180, 1, 1, 28, 96, 27, 96, 46]
abbrev dktX2_isRoundOf_1 : List UInt8 := dkwX2_isRoundOf_1 ++ dktX2_isRoundOf_2
def dkwX2_isRoundOf_0 : List UInt8 := [42, 180, 1, 4, 27, 112, 153, 0, 5, 3, 172, 3, 61, 28, 42, 180, 1, 4, 162, 0, 38, 42]
abbrev dktX2_isRoundOf_0 : List UInt8 := dkwX2_isRoundOf_0 ++ dktX2_isRoundOf_1
theorem dksX2_isRoundOf_0 : cX2_isRoundOf.data.toList.drop 0 = dktX2_isRoundOf_0 := by decide +kernel
theorem dksX2_isRoundOf_1 : cX2_isRoundOf.data.toList.drop 22 = dktX2_isRoundOf_1 := dk_seg dksX2_isRoundOf_0 22 rfl rfl
theorem dksX2_isRoundOf_2 : cX2_isRoundOf.data.toList.drop 45 = dktX2_isRoundOf_2 := dk_seg dksX2_isRoundOf_1 23 rfl rfl
theorem dX2_isRoundOf_0 : decode cX2_isRoundOf 0 = .ok (.aload_n 0, 1) := dk_42 (dk_at dksX2_isRoundOf_0 0 rfl rfl)
theorem dX2_isRoundOf_1 : decode cX2_isRoundOf 1 = .ok (.getfield 260, 3) := dk_180 1 4 (dk_at dksX2_isRoundOf_0 1 rfl rfl)
theorem dX2_isRoundOf_4 : decode cX2_isRoundOf 4 = .ok (.iload_n 1, 1) := dk_27 (dk_at dksX2_isRoundOf_0 4 rfl rfl)
theorem dX2_isRoundOf_5 : decode cX2_isRoundOf 5 = .ok (.irem, 1) := dk_112 (dk_at dksX2_isRoundOf_0 5 rfl rfl)
theorem dX2_isRoundOf_6 : decode cX2_isRoundOf 6 = .ok (.ifCond .eq 5, 3) := dk_153 0 5 (dk_at dksX2_isRoundOf_0 6 rfl rfl)
theorem dX2_isRoundOf_9 : decode cX2_isRoundOf 9 = .ok (.iconst 0, 1) := dk_3 (dk_at dksX2_isRoundOf_0 9 rfl rfl)
theorem dX2_isRoundOf_10 : decode cX2_isRoundOf 10 = .ok (.ireturn, 1) := dk_172 (dk_at dksX2_isRoundOf_0 10 rfl rfl)
theorem dX2_isRoundOf_11 : decode cX2_isRoundOf 11 = .ok (.iconst 0, 1) := dk_3 (dk_at dksX2_isRoundOf_0 11 rfl rfl)
theorem dX2_isRoundOf_12 : decode cX2_isRoundOf 12 = .ok (.istore_n 2, 1) := dk_61 (dk_at dksX2_isRoundOf_0 12 rfl rfl)
theorem dX2_isRoundOf_13 : decode cX2_isRoundOf 13 = .ok (.iload_n 2, 1) := dk_28 (dk_at dksX2_isRoundOf_0 13 rfl rfl)
theorem dX2_isRoundOf_14 : decode cX2_isRoundOf 14 = .ok (.aload_n 0, 1) := dk_42 (dk_at dksX2_isRoundOf_0 14 rfl rfl)
theorem dX2_isRoundOf_15 : decode cX2_isRoundOf 15 = .ok (.getfield 260, 3) := dk_180 1 4 (dk_at dksX2_isRoundOf_0 15 rfl rfl)
theorem dX2_isRoundOf_18 : decode cX2_isRoundOf 18 = .ok (.if_icmp .ge 38, 3) := dk_162 0 38 (dk_at dksX2_isRoundOf_0 18 rfl rfl)
theorem dX2_isRoundOf_21 : decode cX2_isRoundOf 21 = .ok (.aload_n 0, 1) := dk_42 (dk_at dksX2_isRoundOf_0 21 rfl rfl)
theorem dX2_isRoundOf_22 : decode cX2_isRoundOf 22 = .ok (.getfield 41, 3) := dk_180 0 41 (dk_at dksX2_isRoundOf_1 0 rfl rfl)
theorem dX2_isRoundOf_25 : decode cX2_isRoundOf 25 = .ok (.aload_n 0, 1) := dk_42 (dk_at dksX2_isRoundOf_1 3 rfl rfl)
theorem dX2_isRoundOf_26 : decode cX2_isRoundOf 26 = .ok (.getfield 257, 3) := dk_180 1 1 (dk_at dksX2_isRoundOf_1 4 rfl rfl)
theorem dX2_isRoundOf_29 : decode cX2_isRoundOf 29 = .ok (.iload_n 2, 1) := dk_28 (dk_at dksX2_isRoundOf_1 7 rfl rfl)
theorem dX2_isRoundOf_30 : decode cX2_isRoundOf 30 = .ok (.iadd, 1) := dk_96 (dk_at dksX2_isRoundOf_1 8 rfl rfl)
theorem dX2_isRoundOf_31 : decode cX2_isRoundOf 31 = .ok (.iaload, 1) := dk_46 (dk_at dksX2_isRoundOf_1 9 rfl rfl)
theorem dX2_isRoundOf_32 : decode cX2_isRoundOf 32 = .ok (.aload_n 0, 1) := dk_42 (dk_at dksX2_isRoundOf_1 10 rfl rfl)
theorem dX2_isRoundOf_33 : decode cX2_isRoundOf 33 = .ok (.getfield 41, 3) := dk_180 0 41 (dk_at dksX2_isRoundOf_1 11 rfl rfl)
theorem dX2_isRoundOf_36 : decode cX2_isRoundOf 36 = .ok (.aload_n 0, 1) := dk_42 (dk_at dksX2_isRoundOf_1 14 rfl rfl)
theorem dX2_isRoundOf_37 : decode cX2_isRoundOf 37 = .ok (.getfield 257, 3) := dk_180 1 1 (dk_at dksX2_isRoundOf_1 15 rfl rfl)
theorem dX2_isRoundOf_40 : decode cX2_isRoundOf 40 = .ok (.iload_n 2, 1) := dk_28 (dk_at dksX2_isRoundOf_1 18 rfl rfl)
theorem dX2_isRoundOf_41 : decode cX2_isRoundOf 41 = .ok (.iadd, 1) := dk_96 (dk_at dksX2_isRoundOf_1 19 rfl rfl)
theorem dX2_isRoundOf_42 : decode cX2_isRoundOf 42 = .ok (.iload_n 1, 1) := dk_27 (dk_at dksX2_isRoundOf_1 20 rfl rfl)
theorem dX2_isRoundOf_43 : decode cX2_isRoundOf 43 = .ok (.iadd, 1) := dk_96 (dk_at dksX2_isRoundOf_1 21 rfl rfl)
theorem dX2_isRoundOf_44 : decode cX2_isRoundOf 44 = .ok (.iaload, 1) := dk_46 (dk_at dksX2_isRoundOf_1 22 rfl rfl)
theorem dX2_isRoundOf_45 : decode cX2_isRoundOf 45 = .ok (.if_icmp .eq 5, 3) := dk_159 0 5 (dk_at dksX2_isRoundOf_2 0 rfl rfl)
theorem dX2_isRoundOf_48 : decode cX2_isRoundOf 48 = .ok (.iconst 0, 1) := dk_3 (dk_at dksX2_isRoundOf_2 3 rfl rfl)
theorem dX2_isRoundOf_49 : decode cX2_isRoundOf 49 = .ok (.ireturn, 1) := dk_172 (dk_at dksX2_isRoundOf_2 4 rfl rfl)
theorem dX2_isRoundOf_50 : decode cX2_isRoundOf 50 = .ok (.iinc 2 1, 3) := dk_132 2 1 (dk_at dksX2_isRoundOf_2 5 rfl rfl)
theorem dX2_isRoundOf_53 : decode cX2_isRoundOf 53 = .ok (.goto (-40), 3) := dk_167 255 216 (dk_at dksX2_isRoundOf_2 8 rfl rfl)
theorem dX2_isRoundOf_56 : decode cX2_isRoundOf 56 = .ok (.iconst 1, 1) := dk_4 (dk_at dksX2_isRoundOf_2 11 rfl rfl)
theorem dX2_isRoundOf_57 : decode cX2_isRoundOf 57 = .ok (.ireturn, 1) := dk_172 (dk_at dksX2_isRoundOf_2 12 rfl rfl)
abbrev cX2_round : ByteArray := prog_16_method_57_code
def yX2_round : MethodName := ⟨RX2, "round", "(I)I"⟩
def dkwX2_round_1 : List UInt8 := [180, 1, 7, 172]
abbrev dktX2_round_1 : List UInt8 := dkwX2_round_1 ++ []
def dkwX2_round_0 : List UInt8 := [42, 182, 0, 164, 42, 27, 182, 0, 239, 154, 0, 9, 42, 4, 182, 0, 167, 172, 42, 27, 182, 1, 30, 42]
abbrev dktX2_round_0 : List UInt8 := dkwX2_round_0 ++ dktX2_round_1
theorem dksX2_round_0 : cX2_round.data.toList.drop 0 = dktX2_round_0 := by decide +kernel
theorem dksX2_round_1 : cX2_round.data.toList.drop 24 = dktX2_round_1 := dk_seg dksX2_round_0 24 rfl rfl
theorem dX2_round_0 : decode cX2_round 0 = .ok (.aload_n 0, 1) := dk_42 (dk_at dksX2_round_0 0 rfl rfl)
theorem dX2_round_1 : decode cX2_round 1 = .ok (.invokevirtual 164, 3) := dk_182 0 164 (dk_at dksX2_round_0 1 rfl rfl)
theorem dX2_round_4 : decode cX2_round 4 = .ok (.aload_n 0, 1) := dk_42 (dk_at dksX2_round_0 4 rfl rfl)
theorem dX2_round_5 : decode cX2_round 5 = .ok (.iload_n 1, 1) := dk_27 (dk_at dksX2_round_0 5 rfl rfl)
theorem dX2_round_6 : decode cX2_round 6 = .ok (.invokevirtual 239, 3) := dk_182 0 239 (dk_at dksX2_round_0 6 rfl rfl)
theorem dX2_round_9 : decode cX2_round 9 = .ok (.ifCond .ne 9, 3) := dk_154 0 9 (dk_at dksX2_round_0 9 rfl rfl)
theorem dX2_round_12 : decode cX2_round 12 = .ok (.aload_n 0, 1) := dk_42 (dk_at dksX2_round_0 12 rfl rfl)
theorem dX2_round_13 : decode cX2_round 13 = .ok (.iconst 1, 1) := dk_4 (dk_at dksX2_round_0 13 rfl rfl)
theorem dX2_round_14 : decode cX2_round 14 = .ok (.invokevirtual 167, 3) := dk_182 0 167 (dk_at dksX2_round_0 14 rfl rfl)
theorem dX2_round_17 : decode cX2_round 17 = .ok (.ireturn, 1) := dk_172 (dk_at dksX2_round_0 17 rfl rfl)
theorem dX2_round_18 : decode cX2_round 18 = .ok (.aload_n 0, 1) := dk_42 (dk_at dksX2_round_0 18 rfl rfl)
theorem dX2_round_19 : decode cX2_round 19 = .ok (.iload_n 1, 1) := dk_27 (dk_at dksX2_round_0 19 rfl rfl)
theorem dX2_round_20 : decode cX2_round 20 = .ok (.invokevirtual 286, 3) := dk_182 1 30 (dk_at dksX2_round_0 20 rfl rfl)
theorem dX2_round_23 : decode cX2_round 23 = .ok (.aload_n 0, 1) := dk_42 (dk_at dksX2_round_0 23 rfl rfl)
theorem dX2_round_24 : decode cX2_round 24 = .ok (.getfield 263, 3) := dk_180 1 7 (dk_at dksX2_round_1 0 rfl rfl)
theorem dX2_round_27 : decode cX2_round 27 = .ok (.ireturn, 1) := dk_172 (dk_at dksX2_round_1 3 rfl rfl)
abbrev cX2_saysLate : ByteArray := prog_16_method_58_code
def yX2_saysLate : MethodName := ⟨RX2, "saysLate", "(II)I"⟩
def dkwX2_saysLate_3 : List UInt8 := [180, 1, 4, 112, 96, 46, 172]
abbrev dktX2_saysLate_3 : List UInt8 := dkwX2_saysLate_3 ++ []
def dkwX2_saysLate_2 : List UInt8 := [180, 0, 41, 28, 46, 167, 0, 24, 42, 180, 0, 41, 42, 180, 1, 1, 28, 42, 180, 1, 1, 100, 42]
abbrev dktX2_saysLate_2 : List UInt8 := dkwX2_saysLate_2 ++ dktX2_saysLate_3
def dkwX2_saysLate_1 : List UInt8 := [153, 0, 9, 42, 29, 182, 0, 167, 172, 42, 27, 182, 1, 30, 28, 42, 180, 1, 1, 162, 0, 12, 42]
abbrev dktX2_saysLate_1 : List UInt8 := dkwX2_saysLate_1 ++ dktX2_saysLate_2
def dkwX2_saysLate_0 : List UInt8 := [42, 182, 0, 164, 42, 42, 27, 182, 0, 239, 28, 3, 19, 1, 33, 184, 0, 146, 182, 1, 19, 62, 29]
abbrev dktX2_saysLate_0 : List UInt8 := dkwX2_saysLate_0 ++ dktX2_saysLate_1
theorem dksX2_saysLate_0 : cX2_saysLate.data.toList.drop 0 = dktX2_saysLate_0 := by decide +kernel
theorem dksX2_saysLate_1 : cX2_saysLate.data.toList.drop 23 = dktX2_saysLate_1 := dk_seg dksX2_saysLate_0 23 rfl rfl
theorem dksX2_saysLate_2 : cX2_saysLate.data.toList.drop 46 = dktX2_saysLate_2 := dk_seg dksX2_saysLate_1 23 rfl rfl
theorem dksX2_saysLate_3 : cX2_saysLate.data.toList.drop 69 = dktX2_saysLate_3 := dk_seg dksX2_saysLate_2 23 rfl rfl
theorem dX2_saysLate_0 : decode cX2_saysLate 0 = .ok (.aload_n 0, 1) := dk_42 (dk_at dksX2_saysLate_0 0 rfl rfl)
theorem dX2_saysLate_1 : decode cX2_saysLate 1 = .ok (.invokevirtual 164, 3) := dk_182 0 164 (dk_at dksX2_saysLate_0 1 rfl rfl)
theorem dX2_saysLate_4 : decode cX2_saysLate 4 = .ok (.aload_n 0, 1) := dk_42 (dk_at dksX2_saysLate_0 4 rfl rfl)
theorem dX2_saysLate_5 : decode cX2_saysLate 5 = .ok (.aload_n 0, 1) := dk_42 (dk_at dksX2_saysLate_0 5 rfl rfl)
theorem dX2_saysLate_6 : decode cX2_saysLate 6 = .ok (.iload_n 1, 1) := dk_27 (dk_at dksX2_saysLate_0 6 rfl rfl)
theorem dX2_saysLate_7 : decode cX2_saysLate 7 = .ok (.invokevirtual 239, 3) := dk_182 0 239 (dk_at dksX2_saysLate_0 7 rfl rfl)
theorem dX2_saysLate_10 : decode cX2_saysLate 10 = .ok (.iload_n 2, 1) := dk_28 (dk_at dksX2_saysLate_0 10 rfl rfl)
theorem dX2_saysLate_11 : decode cX2_saysLate 11 = .ok (.iconst 0, 1) := dk_3 (dk_at dksX2_saysLate_0 11 rfl rfl)
theorem dX2_saysLate_12 : decode cX2_saysLate 12 = .ok (.ldc_w 289, 3) := dk_19 1 33 (dk_at dksX2_saysLate_0 12 rfl rfl)
theorem dX2_saysLate_15 : decode cX2_saysLate 15 = .ok (.invokestatic 146, 3) := dk_184 0 146 (dk_at dksX2_saysLate_0 15 rfl rfl)
theorem dX2_saysLate_18 : decode cX2_saysLate 18 = .ok (.invokevirtual 275, 3) := dk_182 1 19 (dk_at dksX2_saysLate_0 18 rfl rfl)
theorem dX2_saysLate_21 : decode cX2_saysLate 21 = .ok (.istore_n 3, 1) := dk_62 (dk_at dksX2_saysLate_0 21 rfl rfl)
theorem dX2_saysLate_22 : decode cX2_saysLate 22 = .ok (.iload_n 3, 1) := dk_29 (dk_at dksX2_saysLate_0 22 rfl rfl)
theorem dX2_saysLate_23 : decode cX2_saysLate 23 = .ok (.ifCond .eq 9, 3) := dk_153 0 9 (dk_at dksX2_saysLate_1 0 rfl rfl)
theorem dX2_saysLate_26 : decode cX2_saysLate 26 = .ok (.aload_n 0, 1) := dk_42 (dk_at dksX2_saysLate_1 3 rfl rfl)
theorem dX2_saysLate_27 : decode cX2_saysLate 27 = .ok (.iload_n 3, 1) := dk_29 (dk_at dksX2_saysLate_1 4 rfl rfl)
theorem dX2_saysLate_28 : decode cX2_saysLate 28 = .ok (.invokevirtual 167, 3) := dk_182 0 167 (dk_at dksX2_saysLate_1 5 rfl rfl)
theorem dX2_saysLate_31 : decode cX2_saysLate 31 = .ok (.ireturn, 1) := dk_172 (dk_at dksX2_saysLate_1 8 rfl rfl)
theorem dX2_saysLate_32 : decode cX2_saysLate 32 = .ok (.aload_n 0, 1) := dk_42 (dk_at dksX2_saysLate_1 9 rfl rfl)
theorem dX2_saysLate_33 : decode cX2_saysLate 33 = .ok (.iload_n 1, 1) := dk_27 (dk_at dksX2_saysLate_1 10 rfl rfl)
theorem dX2_saysLate_34 : decode cX2_saysLate 34 = .ok (.invokevirtual 286, 3) := dk_182 1 30 (dk_at dksX2_saysLate_1 11 rfl rfl)
theorem dX2_saysLate_37 : decode cX2_saysLate 37 = .ok (.iload_n 2, 1) := dk_28 (dk_at dksX2_saysLate_1 14 rfl rfl)
theorem dX2_saysLate_38 : decode cX2_saysLate 38 = .ok (.aload_n 0, 1) := dk_42 (dk_at dksX2_saysLate_1 15 rfl rfl)
theorem dX2_saysLate_39 : decode cX2_saysLate 39 = .ok (.getfield 257, 3) := dk_180 1 1 (dk_at dksX2_saysLate_1 16 rfl rfl)
theorem dX2_saysLate_42 : decode cX2_saysLate 42 = .ok (.if_icmp .ge 12, 3) := dk_162 0 12 (dk_at dksX2_saysLate_1 19 rfl rfl)
theorem dX2_saysLate_45 : decode cX2_saysLate 45 = .ok (.aload_n 0, 1) := dk_42 (dk_at dksX2_saysLate_1 22 rfl rfl)
theorem dX2_saysLate_46 : decode cX2_saysLate 46 = .ok (.getfield 41, 3) := dk_180 0 41 (dk_at dksX2_saysLate_2 0 rfl rfl)
theorem dX2_saysLate_49 : decode cX2_saysLate 49 = .ok (.iload_n 2, 1) := dk_28 (dk_at dksX2_saysLate_2 3 rfl rfl)
theorem dX2_saysLate_50 : decode cX2_saysLate 50 = .ok (.iaload, 1) := dk_46 (dk_at dksX2_saysLate_2 4 rfl rfl)
theorem dX2_saysLate_51 : decode cX2_saysLate 51 = .ok (.goto 24, 3) := dk_167 0 24 (dk_at dksX2_saysLate_2 5 rfl rfl)
theorem dX2_saysLate_54 : decode cX2_saysLate 54 = .ok (.aload_n 0, 1) := dk_42 (dk_at dksX2_saysLate_2 8 rfl rfl)
theorem dX2_saysLate_55 : decode cX2_saysLate 55 = .ok (.getfield 41, 3) := dk_180 0 41 (dk_at dksX2_saysLate_2 9 rfl rfl)
theorem dX2_saysLate_58 : decode cX2_saysLate 58 = .ok (.aload_n 0, 1) := dk_42 (dk_at dksX2_saysLate_2 12 rfl rfl)
theorem dX2_saysLate_59 : decode cX2_saysLate 59 = .ok (.getfield 257, 3) := dk_180 1 1 (dk_at dksX2_saysLate_2 13 rfl rfl)
theorem dX2_saysLate_62 : decode cX2_saysLate 62 = .ok (.iload_n 2, 1) := dk_28 (dk_at dksX2_saysLate_2 16 rfl rfl)
theorem dX2_saysLate_63 : decode cX2_saysLate 63 = .ok (.aload_n 0, 1) := dk_42 (dk_at dksX2_saysLate_2 17 rfl rfl)
theorem dX2_saysLate_64 : decode cX2_saysLate 64 = .ok (.getfield 257, 3) := dk_180 1 1 (dk_at dksX2_saysLate_2 18 rfl rfl)
theorem dX2_saysLate_67 : decode cX2_saysLate 67 = .ok (.isub, 1) := dk_100 (dk_at dksX2_saysLate_2 21 rfl rfl)
theorem dX2_saysLate_68 : decode cX2_saysLate 68 = .ok (.aload_n 0, 1) := dk_42 (dk_at dksX2_saysLate_2 22 rfl rfl)
theorem dX2_saysLate_69 : decode cX2_saysLate 69 = .ok (.getfield 260, 3) := dk_180 1 4 (dk_at dksX2_saysLate_3 0 rfl rfl)
theorem dX2_saysLate_72 : decode cX2_saysLate 72 = .ok (.irem, 1) := dk_112 (dk_at dksX2_saysLate_3 3 rfl rfl)
theorem dX2_saysLate_73 : decode cX2_saysLate 73 = .ok (.iadd, 1) := dk_96 (dk_at dksX2_saysLate_3 4 rfl rfl)
theorem dX2_saysLate_74 : decode cX2_saysLate 74 = .ok (.iaload, 1) := dk_46 (dk_at dksX2_saysLate_3 5 rfl rfl)
theorem dX2_saysLate_75 : decode cX2_saysLate 75 = .ok (.ireturn, 1) := dk_172 (dk_at dksX2_saysLate_3 6 rfl rfl)
abbrev cX2_roundMost : ByteArray := prog_16_method_60_code
def yX2_roundMost : MethodName := ⟨RX2, "roundMost", "(I)I"⟩
def dkwX2_roundMost_1 : List UInt8 := [182, 0, 167, 172]
abbrev dktX2_roundMost_1 : List UInt8 := dkwX2_roundMost_1 ++ []
def dkwX2_roundMost_0 : List UInt8 := [42, 182, 0, 164, 42, 27, 182, 0, 239, 153, 0, 12, 42, 27, 4, 182, 1, 34, 167, 0, 8, 42, 4]
abbrev dktX2_roundMost_0 : List UInt8 := dkwX2_roundMost_0 ++ dktX2_roundMost_1
theorem dksX2_roundMost_0 : cX2_roundMost.data.toList.drop 0 = dktX2_roundMost_0 := by decide +kernel
theorem dksX2_roundMost_1 : cX2_roundMost.data.toList.drop 23 = dktX2_roundMost_1 := dk_seg dksX2_roundMost_0 23 rfl rfl
theorem dX2_roundMost_0 : decode cX2_roundMost 0 = .ok (.aload_n 0, 1) := dk_42 (dk_at dksX2_roundMost_0 0 rfl rfl)
theorem dX2_roundMost_1 : decode cX2_roundMost 1 = .ok (.invokevirtual 164, 3) := dk_182 0 164 (dk_at dksX2_roundMost_0 1 rfl rfl)
theorem dX2_roundMost_4 : decode cX2_roundMost 4 = .ok (.aload_n 0, 1) := dk_42 (dk_at dksX2_roundMost_0 4 rfl rfl)
theorem dX2_roundMost_5 : decode cX2_roundMost 5 = .ok (.iload_n 1, 1) := dk_27 (dk_at dksX2_roundMost_0 5 rfl rfl)
theorem dX2_roundMost_6 : decode cX2_roundMost 6 = .ok (.invokevirtual 239, 3) := dk_182 0 239 (dk_at dksX2_roundMost_0 6 rfl rfl)
theorem dX2_roundMost_9 : decode cX2_roundMost 9 = .ok (.ifCond .eq 12, 3) := dk_153 0 12 (dk_at dksX2_roundMost_0 9 rfl rfl)
theorem dX2_roundMost_12 : decode cX2_roundMost 12 = .ok (.aload_n 0, 1) := dk_42 (dk_at dksX2_roundMost_0 12 rfl rfl)
theorem dX2_roundMost_13 : decode cX2_roundMost 13 = .ok (.iload_n 1, 1) := dk_27 (dk_at dksX2_roundMost_0 13 rfl rfl)
theorem dX2_roundMost_14 : decode cX2_roundMost 14 = .ok (.iconst 1, 1) := dk_4 (dk_at dksX2_roundMost_0 14 rfl rfl)
theorem dX2_roundMost_15 : decode cX2_roundMost 15 = .ok (.invokevirtual 290, 3) := dk_182 1 34 (dk_at dksX2_roundMost_0 15 rfl rfl)
theorem dX2_roundMost_18 : decode cX2_roundMost 18 = .ok (.goto 8, 3) := dk_167 0 8 (dk_at dksX2_roundMost_0 18 rfl rfl)
theorem dX2_roundMost_21 : decode cX2_roundMost 21 = .ok (.aload_n 0, 1) := dk_42 (dk_at dksX2_roundMost_0 21 rfl rfl)
theorem dX2_roundMost_22 : decode cX2_roundMost 22 = .ok (.iconst 1, 1) := dk_4 (dk_at dksX2_roundMost_0 22 rfl rfl)
theorem dX2_roundMost_23 : decode cX2_roundMost 23 = .ok (.invokevirtual 167, 3) := dk_182 0 167 (dk_at dksX2_roundMost_1 0 rfl rfl)
theorem dX2_roundMost_26 : decode cX2_roundMost 26 = .ok (.ireturn, 1) := dk_172 (dk_at dksX2_roundMost_1 3 rfl rfl)
abbrev cX2_extremeOf : ByteArray := prog_16_method_59_code
def yX2_extremeOf : MethodName := ⟨RX2, "extremeOf", "(II)I"⟩
def dkwX2_extremeOf_2 : List UInt8 := [180, 0, 41, 42, 180, 1, 13, 21, 4, 96, 46, 167, 0, 4, 29, 62, 132, 4, 1, 167, 255, 207, 29, 172]
abbrev dktX2_extremeOf_2 : List UInt8 := dkwX2_extremeOf_2 ++ []
def dkwX2_extremeOf_1 : List UInt8 := [162, 0, 46, 28, 42, 180, 0, 41, 42, 180, 1, 13, 21, 4, 96, 46, 104, 28, 29, 104, 164, 0, 18, 42]
abbrev dktX2_extremeOf_1 : List UInt8 := dkwX2_extremeOf_1 ++ dktX2_extremeOf_2
def dkwX2_extremeOf_0 : List UInt8 := [42, 27, 182, 1, 30, 42, 180, 0, 41, 42, 180, 1, 13, 46, 62, 3, 54, 4, 21, 4, 42, 180, 1, 7]
abbrev dktX2_extremeOf_0 : List UInt8 := dkwX2_extremeOf_0 ++ dktX2_extremeOf_1
theorem dksX2_extremeOf_0 : cX2_extremeOf.data.toList.drop 0 = dktX2_extremeOf_0 := by decide +kernel
theorem dksX2_extremeOf_1 : cX2_extremeOf.data.toList.drop 24 = dktX2_extremeOf_1 := dk_seg dksX2_extremeOf_0 24 rfl rfl
theorem dksX2_extremeOf_2 : cX2_extremeOf.data.toList.drop 48 = dktX2_extremeOf_2 := dk_seg dksX2_extremeOf_1 24 rfl rfl
theorem dX2_extremeOf_0 : decode cX2_extremeOf 0 = .ok (.aload_n 0, 1) := dk_42 (dk_at dksX2_extremeOf_0 0 rfl rfl)
theorem dX2_extremeOf_1 : decode cX2_extremeOf 1 = .ok (.iload_n 1, 1) := dk_27 (dk_at dksX2_extremeOf_0 1 rfl rfl)
theorem dX2_extremeOf_2 : decode cX2_extremeOf 2 = .ok (.invokevirtual 286, 3) := dk_182 1 30 (dk_at dksX2_extremeOf_0 2 rfl rfl)
theorem dX2_extremeOf_5 : decode cX2_extremeOf 5 = .ok (.aload_n 0, 1) := dk_42 (dk_at dksX2_extremeOf_0 5 rfl rfl)
theorem dX2_extremeOf_6 : decode cX2_extremeOf 6 = .ok (.getfield 41, 3) := dk_180 0 41 (dk_at dksX2_extremeOf_0 6 rfl rfl)
theorem dX2_extremeOf_9 : decode cX2_extremeOf 9 = .ok (.aload_n 0, 1) := dk_42 (dk_at dksX2_extremeOf_0 9 rfl rfl)
theorem dX2_extremeOf_10 : decode cX2_extremeOf 10 = .ok (.getfield 269, 3) := dk_180 1 13 (dk_at dksX2_extremeOf_0 10 rfl rfl)
theorem dX2_extremeOf_13 : decode cX2_extremeOf 13 = .ok (.iaload, 1) := dk_46 (dk_at dksX2_extremeOf_0 13 rfl rfl)
theorem dX2_extremeOf_14 : decode cX2_extremeOf 14 = .ok (.istore_n 3, 1) := dk_62 (dk_at dksX2_extremeOf_0 14 rfl rfl)
theorem dX2_extremeOf_15 : decode cX2_extremeOf 15 = .ok (.iconst 0, 1) := dk_3 (dk_at dksX2_extremeOf_0 15 rfl rfl)
theorem dX2_extremeOf_16 : decode cX2_extremeOf 16 = .ok (.istore 4, 2) := dk_54 4 (dk_at dksX2_extremeOf_0 16 rfl rfl)
theorem dX2_extremeOf_18 : decode cX2_extremeOf 18 = .ok (.iload 4, 2) := dk_21 4 (dk_at dksX2_extremeOf_0 18 rfl rfl)
theorem dX2_extremeOf_20 : decode cX2_extremeOf 20 = .ok (.aload_n 0, 1) := dk_42 (dk_at dksX2_extremeOf_0 20 rfl rfl)
theorem dX2_extremeOf_21 : decode cX2_extremeOf 21 = .ok (.getfield 263, 3) := dk_180 1 7 (dk_at dksX2_extremeOf_0 21 rfl rfl)
theorem dX2_extremeOf_24 : decode cX2_extremeOf 24 = .ok (.if_icmp .ge 46, 3) := dk_162 0 46 (dk_at dksX2_extremeOf_1 0 rfl rfl)
theorem dX2_extremeOf_27 : decode cX2_extremeOf 27 = .ok (.iload_n 2, 1) := dk_28 (dk_at dksX2_extremeOf_1 3 rfl rfl)
theorem dX2_extremeOf_28 : decode cX2_extremeOf 28 = .ok (.aload_n 0, 1) := dk_42 (dk_at dksX2_extremeOf_1 4 rfl rfl)
theorem dX2_extremeOf_29 : decode cX2_extremeOf 29 = .ok (.getfield 41, 3) := dk_180 0 41 (dk_at dksX2_extremeOf_1 5 rfl rfl)
theorem dX2_extremeOf_32 : decode cX2_extremeOf 32 = .ok (.aload_n 0, 1) := dk_42 (dk_at dksX2_extremeOf_1 8 rfl rfl)
theorem dX2_extremeOf_33 : decode cX2_extremeOf 33 = .ok (.getfield 269, 3) := dk_180 1 13 (dk_at dksX2_extremeOf_1 9 rfl rfl)
theorem dX2_extremeOf_36 : decode cX2_extremeOf 36 = .ok (.iload 4, 2) := dk_21 4 (dk_at dksX2_extremeOf_1 12 rfl rfl)
theorem dX2_extremeOf_38 : decode cX2_extremeOf 38 = .ok (.iadd, 1) := dk_96 (dk_at dksX2_extremeOf_1 14 rfl rfl)
theorem dX2_extremeOf_39 : decode cX2_extremeOf 39 = .ok (.iaload, 1) := dk_46 (dk_at dksX2_extremeOf_1 15 rfl rfl)
theorem dX2_extremeOf_40 : decode cX2_extremeOf 40 = .ok (.imul, 1) := dk_104 (dk_at dksX2_extremeOf_1 16 rfl rfl)
theorem dX2_extremeOf_41 : decode cX2_extremeOf 41 = .ok (.iload_n 2, 1) := dk_28 (dk_at dksX2_extremeOf_1 17 rfl rfl)
theorem dX2_extremeOf_42 : decode cX2_extremeOf 42 = .ok (.iload_n 3, 1) := dk_29 (dk_at dksX2_extremeOf_1 18 rfl rfl)
theorem dX2_extremeOf_43 : decode cX2_extremeOf 43 = .ok (.imul, 1) := dk_104 (dk_at dksX2_extremeOf_1 19 rfl rfl)
theorem dX2_extremeOf_44 : decode cX2_extremeOf 44 = .ok (.if_icmp .le 18, 3) := dk_164 0 18 (dk_at dksX2_extremeOf_1 20 rfl rfl)
theorem dX2_extremeOf_47 : decode cX2_extremeOf 47 = .ok (.aload_n 0, 1) := dk_42 (dk_at dksX2_extremeOf_1 23 rfl rfl)
theorem dX2_extremeOf_48 : decode cX2_extremeOf 48 = .ok (.getfield 41, 3) := dk_180 0 41 (dk_at dksX2_extremeOf_2 0 rfl rfl)
theorem dX2_extremeOf_51 : decode cX2_extremeOf 51 = .ok (.aload_n 0, 1) := dk_42 (dk_at dksX2_extremeOf_2 3 rfl rfl)
theorem dX2_extremeOf_52 : decode cX2_extremeOf 52 = .ok (.getfield 269, 3) := dk_180 1 13 (dk_at dksX2_extremeOf_2 4 rfl rfl)
theorem dX2_extremeOf_55 : decode cX2_extremeOf 55 = .ok (.iload 4, 2) := dk_21 4 (dk_at dksX2_extremeOf_2 7 rfl rfl)
theorem dX2_extremeOf_57 : decode cX2_extremeOf 57 = .ok (.iadd, 1) := dk_96 (dk_at dksX2_extremeOf_2 9 rfl rfl)
theorem dX2_extremeOf_58 : decode cX2_extremeOf 58 = .ok (.iaload, 1) := dk_46 (dk_at dksX2_extremeOf_2 10 rfl rfl)
theorem dX2_extremeOf_59 : decode cX2_extremeOf 59 = .ok (.goto 4, 3) := dk_167 0 4 (dk_at dksX2_extremeOf_2 11 rfl rfl)
theorem dX2_extremeOf_62 : decode cX2_extremeOf 62 = .ok (.iload_n 3, 1) := dk_29 (dk_at dksX2_extremeOf_2 14 rfl rfl)
theorem dX2_extremeOf_63 : decode cX2_extremeOf 63 = .ok (.istore_n 3, 1) := dk_62 (dk_at dksX2_extremeOf_2 15 rfl rfl)
theorem dX2_extremeOf_64 : decode cX2_extremeOf 64 = .ok (.iinc 4 1, 3) := dk_132 4 1 (dk_at dksX2_extremeOf_2 16 rfl rfl)
theorem dX2_extremeOf_67 : decode cX2_extremeOf 67 = .ok (.goto (-49), 3) := dk_167 255 207 (dk_at dksX2_extremeOf_2 19 rfl rfl)
theorem dX2_extremeOf_70 : decode cX2_extremeOf 70 = .ok (.iload_n 3, 1) := dk_29 (dk_at dksX2_extremeOf_2 22 rfl rfl)
theorem dX2_extremeOf_71 : decode cX2_extremeOf 71 = .ok (.ireturn, 1) := dk_172 (dk_at dksX2_extremeOf_2 23 rfl rfl)
abbrev cX2_roundLeast : ByteArray := prog_16_method_61_code
def yX2_roundLeast : MethodName := ⟨RX2, "roundLeast", "(I)I"⟩
def dkwX2_roundLeast_1 : List UInt8 := [182, 0, 167, 172]
abbrev dktX2_roundLeast_1 : List UInt8 := dkwX2_roundLeast_1 ++ []
def dkwX2_roundLeast_0 : List UInt8 := [42, 182, 0, 164, 42, 27, 182, 0, 239, 153, 0, 12, 42, 27, 2, 182, 1, 34, 167, 0, 8, 42, 4]
abbrev dktX2_roundLeast_0 : List UInt8 := dkwX2_roundLeast_0 ++ dktX2_roundLeast_1
theorem dksX2_roundLeast_0 : cX2_roundLeast.data.toList.drop 0 = dktX2_roundLeast_0 := by decide +kernel
theorem dksX2_roundLeast_1 : cX2_roundLeast.data.toList.drop 23 = dktX2_roundLeast_1 := dk_seg dksX2_roundLeast_0 23 rfl rfl
theorem dX2_roundLeast_0 : decode cX2_roundLeast 0 = .ok (.aload_n 0, 1) := dk_42 (dk_at dksX2_roundLeast_0 0 rfl rfl)
theorem dX2_roundLeast_1 : decode cX2_roundLeast 1 = .ok (.invokevirtual 164, 3) := dk_182 0 164 (dk_at dksX2_roundLeast_0 1 rfl rfl)
theorem dX2_roundLeast_4 : decode cX2_roundLeast 4 = .ok (.aload_n 0, 1) := dk_42 (dk_at dksX2_roundLeast_0 4 rfl rfl)
theorem dX2_roundLeast_5 : decode cX2_roundLeast 5 = .ok (.iload_n 1, 1) := dk_27 (dk_at dksX2_roundLeast_0 5 rfl rfl)
theorem dX2_roundLeast_6 : decode cX2_roundLeast 6 = .ok (.invokevirtual 239, 3) := dk_182 0 239 (dk_at dksX2_roundLeast_0 6 rfl rfl)
theorem dX2_roundLeast_9 : decode cX2_roundLeast 9 = .ok (.ifCond .eq 12, 3) := dk_153 0 12 (dk_at dksX2_roundLeast_0 9 rfl rfl)
theorem dX2_roundLeast_12 : decode cX2_roundLeast 12 = .ok (.aload_n 0, 1) := dk_42 (dk_at dksX2_roundLeast_0 12 rfl rfl)
theorem dX2_roundLeast_13 : decode cX2_roundLeast 13 = .ok (.iload_n 1, 1) := dk_27 (dk_at dksX2_roundLeast_0 13 rfl rfl)
theorem dX2_roundLeast_14 : decode cX2_roundLeast 14 = .ok (.iconst (-1), 1) := dk_2 (dk_at dksX2_roundLeast_0 14 rfl rfl)
theorem dX2_roundLeast_15 : decode cX2_roundLeast 15 = .ok (.invokevirtual 290, 3) := dk_182 1 34 (dk_at dksX2_roundLeast_0 15 rfl rfl)
theorem dX2_roundLeast_18 : decode cX2_roundLeast 18 = .ok (.goto 8, 3) := dk_167 0 8 (dk_at dksX2_roundLeast_0 18 rfl rfl)
theorem dX2_roundLeast_21 : decode cX2_roundLeast 21 = .ok (.aload_n 0, 1) := dk_42 (dk_at dksX2_roundLeast_0 21 rfl rfl)
theorem dX2_roundLeast_22 : decode cX2_roundLeast 22 = .ok (.iconst 1, 1) := dk_4 (dk_at dksX2_roundLeast_0 22 rfl rfl)
theorem dX2_roundLeast_23 : decode cX2_roundLeast 23 = .ok (.invokevirtual 167, 3) := dk_182 0 167 (dk_at dksX2_roundLeast_1 0 rfl rfl)
theorem dX2_roundLeast_26 : decode cX2_roundLeast 26 = .ok (.ireturn, 1) := dk_172 (dk_at dksX2_roundLeast_1 3 rfl rfl)
abbrev cX2_turnsAbout : ByteArray := prog_16_method_62_code
def yX2_turnsAbout : MethodName := ⟨RX2, "turnsAbout", "(I)I"⟩
def dkwX2_turnsAbout_2 : List UInt8 := [182, 1, 27, 182, 1, 16, 160, 0, 7, 3, 167, 0, 4, 4, 96, 61, 132, 3, 1, 167, 255, 214, 28, 172]
abbrev dktX2_turnsAbout_2 : List UInt8 := dkwX2_turnsAbout_2 ++ []
def dkwX2_turnsAbout_1 : List UInt8 := [16, 60, 162, 0, 42, 28, 42, 42, 27, 29, 182, 1, 27, 182, 1, 16, 42, 42, 27, 29, 4, 96]
abbrev dktX2_turnsAbout_1 : List UInt8 := dkwX2_turnsAbout_1 ++ dktX2_turnsAbout_2
def dkwX2_turnsAbout_0 : List UInt8 := [42, 182, 0, 164, 42, 27, 182, 0, 239, 154, 0, 9, 42, 4, 182, 0, 167, 172, 3, 61, 3, 62, 29]
abbrev dktX2_turnsAbout_0 : List UInt8 := dkwX2_turnsAbout_0 ++ dktX2_turnsAbout_1
theorem dksX2_turnsAbout_0 : cX2_turnsAbout.data.toList.drop 0 = dktX2_turnsAbout_0 := by decide +kernel
theorem dksX2_turnsAbout_1 : cX2_turnsAbout.data.toList.drop 23 = dktX2_turnsAbout_1 := dk_seg dksX2_turnsAbout_0 23 rfl rfl
theorem dksX2_turnsAbout_2 : cX2_turnsAbout.data.toList.drop 45 = dktX2_turnsAbout_2 := dk_seg dksX2_turnsAbout_1 22 rfl rfl
theorem dX2_turnsAbout_0 : decode cX2_turnsAbout 0 = .ok (.aload_n 0, 1) := dk_42 (dk_at dksX2_turnsAbout_0 0 rfl rfl)
theorem dX2_turnsAbout_1 : decode cX2_turnsAbout 1 = .ok (.invokevirtual 164, 3) := dk_182 0 164 (dk_at dksX2_turnsAbout_0 1 rfl rfl)
theorem dX2_turnsAbout_4 : decode cX2_turnsAbout 4 = .ok (.aload_n 0, 1) := dk_42 (dk_at dksX2_turnsAbout_0 4 rfl rfl)
theorem dX2_turnsAbout_5 : decode cX2_turnsAbout 5 = .ok (.iload_n 1, 1) := dk_27 (dk_at dksX2_turnsAbout_0 5 rfl rfl)
theorem dX2_turnsAbout_6 : decode cX2_turnsAbout 6 = .ok (.invokevirtual 239, 3) := dk_182 0 239 (dk_at dksX2_turnsAbout_0 6 rfl rfl)
theorem dX2_turnsAbout_9 : decode cX2_turnsAbout 9 = .ok (.ifCond .ne 9, 3) := dk_154 0 9 (dk_at dksX2_turnsAbout_0 9 rfl rfl)
theorem dX2_turnsAbout_12 : decode cX2_turnsAbout 12 = .ok (.aload_n 0, 1) := dk_42 (dk_at dksX2_turnsAbout_0 12 rfl rfl)
theorem dX2_turnsAbout_13 : decode cX2_turnsAbout 13 = .ok (.iconst 1, 1) := dk_4 (dk_at dksX2_turnsAbout_0 13 rfl rfl)
theorem dX2_turnsAbout_14 : decode cX2_turnsAbout 14 = .ok (.invokevirtual 167, 3) := dk_182 0 167 (dk_at dksX2_turnsAbout_0 14 rfl rfl)
theorem dX2_turnsAbout_17 : decode cX2_turnsAbout 17 = .ok (.ireturn, 1) := dk_172 (dk_at dksX2_turnsAbout_0 17 rfl rfl)
theorem dX2_turnsAbout_18 : decode cX2_turnsAbout 18 = .ok (.iconst 0, 1) := dk_3 (dk_at dksX2_turnsAbout_0 18 rfl rfl)
theorem dX2_turnsAbout_19 : decode cX2_turnsAbout 19 = .ok (.istore_n 2, 1) := dk_61 (dk_at dksX2_turnsAbout_0 19 rfl rfl)
theorem dX2_turnsAbout_20 : decode cX2_turnsAbout 20 = .ok (.iconst 0, 1) := dk_3 (dk_at dksX2_turnsAbout_0 20 rfl rfl)
theorem dX2_turnsAbout_21 : decode cX2_turnsAbout 21 = .ok (.istore_n 3, 1) := dk_62 (dk_at dksX2_turnsAbout_0 21 rfl rfl)
theorem dX2_turnsAbout_22 : decode cX2_turnsAbout 22 = .ok (.iload_n 3, 1) := dk_29 (dk_at dksX2_turnsAbout_0 22 rfl rfl)
theorem dX2_turnsAbout_23 : decode cX2_turnsAbout 23 = .ok (.bipush 60, 2) := dk_16 60 (dk_at dksX2_turnsAbout_1 0 rfl rfl)
theorem dX2_turnsAbout_25 : decode cX2_turnsAbout 25 = .ok (.if_icmp .ge 42, 3) := dk_162 0 42 (dk_at dksX2_turnsAbout_1 2 rfl rfl)
theorem dX2_turnsAbout_28 : decode cX2_turnsAbout 28 = .ok (.iload_n 2, 1) := dk_28 (dk_at dksX2_turnsAbout_1 5 rfl rfl)
theorem dX2_turnsAbout_29 : decode cX2_turnsAbout 29 = .ok (.aload_n 0, 1) := dk_42 (dk_at dksX2_turnsAbout_1 6 rfl rfl)
theorem dX2_turnsAbout_30 : decode cX2_turnsAbout 30 = .ok (.aload_n 0, 1) := dk_42 (dk_at dksX2_turnsAbout_1 7 rfl rfl)
theorem dX2_turnsAbout_31 : decode cX2_turnsAbout 31 = .ok (.iload_n 1, 1) := dk_27 (dk_at dksX2_turnsAbout_1 8 rfl rfl)
theorem dX2_turnsAbout_32 : decode cX2_turnsAbout 32 = .ok (.iload_n 3, 1) := dk_29 (dk_at dksX2_turnsAbout_1 9 rfl rfl)
theorem dX2_turnsAbout_33 : decode cX2_turnsAbout 33 = .ok (.invokevirtual 283, 3) := dk_182 1 27 (dk_at dksX2_turnsAbout_1 10 rfl rfl)
theorem dX2_turnsAbout_36 : decode cX2_turnsAbout 36 = .ok (.invokevirtual 272, 3) := dk_182 1 16 (dk_at dksX2_turnsAbout_1 13 rfl rfl)
theorem dX2_turnsAbout_39 : decode cX2_turnsAbout 39 = .ok (.aload_n 0, 1) := dk_42 (dk_at dksX2_turnsAbout_1 16 rfl rfl)
theorem dX2_turnsAbout_40 : decode cX2_turnsAbout 40 = .ok (.aload_n 0, 1) := dk_42 (dk_at dksX2_turnsAbout_1 17 rfl rfl)
theorem dX2_turnsAbout_41 : decode cX2_turnsAbout 41 = .ok (.iload_n 1, 1) := dk_27 (dk_at dksX2_turnsAbout_1 18 rfl rfl)
theorem dX2_turnsAbout_42 : decode cX2_turnsAbout 42 = .ok (.iload_n 3, 1) := dk_29 (dk_at dksX2_turnsAbout_1 19 rfl rfl)
theorem dX2_turnsAbout_43 : decode cX2_turnsAbout 43 = .ok (.iconst 1, 1) := dk_4 (dk_at dksX2_turnsAbout_1 20 rfl rfl)
theorem dX2_turnsAbout_44 : decode cX2_turnsAbout 44 = .ok (.iadd, 1) := dk_96 (dk_at dksX2_turnsAbout_1 21 rfl rfl)
theorem dX2_turnsAbout_45 : decode cX2_turnsAbout 45 = .ok (.invokevirtual 283, 3) := dk_182 1 27 (dk_at dksX2_turnsAbout_2 0 rfl rfl)
theorem dX2_turnsAbout_48 : decode cX2_turnsAbout 48 = .ok (.invokevirtual 272, 3) := dk_182 1 16 (dk_at dksX2_turnsAbout_2 3 rfl rfl)
theorem dX2_turnsAbout_51 : decode cX2_turnsAbout 51 = .ok (.if_icmp .ne 7, 3) := dk_160 0 7 (dk_at dksX2_turnsAbout_2 6 rfl rfl)
theorem dX2_turnsAbout_54 : decode cX2_turnsAbout 54 = .ok (.iconst 0, 1) := dk_3 (dk_at dksX2_turnsAbout_2 9 rfl rfl)
theorem dX2_turnsAbout_55 : decode cX2_turnsAbout 55 = .ok (.goto 4, 3) := dk_167 0 4 (dk_at dksX2_turnsAbout_2 10 rfl rfl)
theorem dX2_turnsAbout_58 : decode cX2_turnsAbout 58 = .ok (.iconst 1, 1) := dk_4 (dk_at dksX2_turnsAbout_2 13 rfl rfl)
theorem dX2_turnsAbout_59 : decode cX2_turnsAbout 59 = .ok (.iadd, 1) := dk_96 (dk_at dksX2_turnsAbout_2 14 rfl rfl)
theorem dX2_turnsAbout_60 : decode cX2_turnsAbout 60 = .ok (.istore_n 2, 1) := dk_61 (dk_at dksX2_turnsAbout_2 15 rfl rfl)
theorem dX2_turnsAbout_61 : decode cX2_turnsAbout 61 = .ok (.iinc 3 1, 3) := dk_132 3 1 (dk_at dksX2_turnsAbout_2 16 rfl rfl)
theorem dX2_turnsAbout_64 : decode cX2_turnsAbout 64 = .ok (.goto (-42), 3) := dk_167 255 214 (dk_at dksX2_turnsAbout_2 19 rfl rfl)
theorem dX2_turnsAbout_67 : decode cX2_turnsAbout 67 = .ok (.iload_n 2, 1) := dk_28 (dk_at dksX2_turnsAbout_2 22 rfl rfl)
theorem dX2_turnsAbout_68 : decode cX2_turnsAbout 68 = .ok (.ireturn, 1) := dk_172 (dk_at dksX2_turnsAbout_2 23 rfl rfl)
abbrev cX2_alikeIn : ByteArray := prog_16_method_63_code
def yX2_alikeIn : MethodName := ⟨RX2, "alikeIn", "(II)I"⟩
def dkwX2_alikeIn_2 : List UInt8 := [167, 255, 230, 16, 254, 172]
abbrev dktX2_alikeIn_2 : List UInt8 := dkwX2_alikeIn_2 ++ []
def dkwX2_alikeIn_1 : List UInt8 := [163, 0, 26, 42, 27, 29, 182, 1, 27, 42, 28, 29, 182, 1, 27, 160, 0, 5, 29, 172, 132, 3, 1]
abbrev dktX2_alikeIn_1 : List UInt8 := dkwX2_alikeIn_1 ++ dktX2_alikeIn_2
def dkwX2_alikeIn_0 : List UInt8 := [42, 182, 0, 164, 42, 27, 28, 182, 1, 37, 154, 0, 9, 42, 4, 182, 0, 167, 172, 3, 62, 29, 16, 60]
abbrev dktX2_alikeIn_0 : List UInt8 := dkwX2_alikeIn_0 ++ dktX2_alikeIn_1
theorem dksX2_alikeIn_0 : cX2_alikeIn.data.toList.drop 0 = dktX2_alikeIn_0 := by decide +kernel
theorem dksX2_alikeIn_1 : cX2_alikeIn.data.toList.drop 24 = dktX2_alikeIn_1 := dk_seg dksX2_alikeIn_0 24 rfl rfl
theorem dksX2_alikeIn_2 : cX2_alikeIn.data.toList.drop 47 = dktX2_alikeIn_2 := dk_seg dksX2_alikeIn_1 23 rfl rfl
theorem dX2_alikeIn_0 : decode cX2_alikeIn 0 = .ok (.aload_n 0, 1) := dk_42 (dk_at dksX2_alikeIn_0 0 rfl rfl)
theorem dX2_alikeIn_1 : decode cX2_alikeIn 1 = .ok (.invokevirtual 164, 3) := dk_182 0 164 (dk_at dksX2_alikeIn_0 1 rfl rfl)
theorem dX2_alikeIn_4 : decode cX2_alikeIn 4 = .ok (.aload_n 0, 1) := dk_42 (dk_at dksX2_alikeIn_0 4 rfl rfl)
theorem dX2_alikeIn_5 : decode cX2_alikeIn 5 = .ok (.iload_n 1, 1) := dk_27 (dk_at dksX2_alikeIn_0 5 rfl rfl)
theorem dX2_alikeIn_6 : decode cX2_alikeIn 6 = .ok (.iload_n 2, 1) := dk_28 (dk_at dksX2_alikeIn_0 6 rfl rfl)
theorem dX2_alikeIn_7 : decode cX2_alikeIn 7 = .ok (.invokevirtual 293, 3) := dk_182 1 37 (dk_at dksX2_alikeIn_0 7 rfl rfl)
theorem dX2_alikeIn_10 : decode cX2_alikeIn 10 = .ok (.ifCond .ne 9, 3) := dk_154 0 9 (dk_at dksX2_alikeIn_0 10 rfl rfl)
theorem dX2_alikeIn_13 : decode cX2_alikeIn 13 = .ok (.aload_n 0, 1) := dk_42 (dk_at dksX2_alikeIn_0 13 rfl rfl)
theorem dX2_alikeIn_14 : decode cX2_alikeIn 14 = .ok (.iconst 1, 1) := dk_4 (dk_at dksX2_alikeIn_0 14 rfl rfl)
theorem dX2_alikeIn_15 : decode cX2_alikeIn 15 = .ok (.invokevirtual 167, 3) := dk_182 0 167 (dk_at dksX2_alikeIn_0 15 rfl rfl)
theorem dX2_alikeIn_18 : decode cX2_alikeIn 18 = .ok (.ireturn, 1) := dk_172 (dk_at dksX2_alikeIn_0 18 rfl rfl)
theorem dX2_alikeIn_19 : decode cX2_alikeIn 19 = .ok (.iconst 0, 1) := dk_3 (dk_at dksX2_alikeIn_0 19 rfl rfl)
theorem dX2_alikeIn_20 : decode cX2_alikeIn 20 = .ok (.istore_n 3, 1) := dk_62 (dk_at dksX2_alikeIn_0 20 rfl rfl)
theorem dX2_alikeIn_21 : decode cX2_alikeIn 21 = .ok (.iload_n 3, 1) := dk_29 (dk_at dksX2_alikeIn_0 21 rfl rfl)
theorem dX2_alikeIn_22 : decode cX2_alikeIn 22 = .ok (.bipush 60, 2) := dk_16 60 (dk_at dksX2_alikeIn_0 22 rfl rfl)
theorem dX2_alikeIn_24 : decode cX2_alikeIn 24 = .ok (.if_icmp .gt 26, 3) := dk_163 0 26 (dk_at dksX2_alikeIn_1 0 rfl rfl)
theorem dX2_alikeIn_27 : decode cX2_alikeIn 27 = .ok (.aload_n 0, 1) := dk_42 (dk_at dksX2_alikeIn_1 3 rfl rfl)
theorem dX2_alikeIn_28 : decode cX2_alikeIn 28 = .ok (.iload_n 1, 1) := dk_27 (dk_at dksX2_alikeIn_1 4 rfl rfl)
theorem dX2_alikeIn_29 : decode cX2_alikeIn 29 = .ok (.iload_n 3, 1) := dk_29 (dk_at dksX2_alikeIn_1 5 rfl rfl)
theorem dX2_alikeIn_30 : decode cX2_alikeIn 30 = .ok (.invokevirtual 283, 3) := dk_182 1 27 (dk_at dksX2_alikeIn_1 6 rfl rfl)
theorem dX2_alikeIn_33 : decode cX2_alikeIn 33 = .ok (.aload_n 0, 1) := dk_42 (dk_at dksX2_alikeIn_1 9 rfl rfl)
theorem dX2_alikeIn_34 : decode cX2_alikeIn 34 = .ok (.iload_n 2, 1) := dk_28 (dk_at dksX2_alikeIn_1 10 rfl rfl)
theorem dX2_alikeIn_35 : decode cX2_alikeIn 35 = .ok (.iload_n 3, 1) := dk_29 (dk_at dksX2_alikeIn_1 11 rfl rfl)
theorem dX2_alikeIn_36 : decode cX2_alikeIn 36 = .ok (.invokevirtual 283, 3) := dk_182 1 27 (dk_at dksX2_alikeIn_1 12 rfl rfl)
theorem dX2_alikeIn_39 : decode cX2_alikeIn 39 = .ok (.if_icmp .ne 5, 3) := dk_160 0 5 (dk_at dksX2_alikeIn_1 15 rfl rfl)
theorem dX2_alikeIn_42 : decode cX2_alikeIn 42 = .ok (.iload_n 3, 1) := dk_29 (dk_at dksX2_alikeIn_1 18 rfl rfl)
theorem dX2_alikeIn_43 : decode cX2_alikeIn 43 = .ok (.ireturn, 1) := dk_172 (dk_at dksX2_alikeIn_1 19 rfl rfl)
theorem dX2_alikeIn_44 : decode cX2_alikeIn 44 = .ok (.iinc 3 1, 3) := dk_132 3 1 (dk_at dksX2_alikeIn_1 20 rfl rfl)
theorem dX2_alikeIn_47 : decode cX2_alikeIn 47 = .ok (.goto (-26), 3) := dk_167 255 230 (dk_at dksX2_alikeIn_2 0 rfl rfl)
theorem dX2_alikeIn_50 : decode cX2_alikeIn 50 = .ok (.bipush (-2), 2) := dk_16 254 (dk_at dksX2_alikeIn_2 3 rfl rfl)
theorem dX2_alikeIn_52 : decode cX2_alikeIn 52 = .ok (.ireturn, 1) := dk_172 (dk_at dksX2_alikeIn_2 5 rfl rfl)
abbrev cX2_areTwo : ByteArray := prog_16_method_40_code
def yX2_areTwo : MethodName := ⟨RX2, "areTwo", "(II)Z"⟩
def dkwX2_areTwo_1 : List UInt8 := [167, 0, 4, 3, 172]
abbrev dktX2_areTwo_1 : List UInt8 := dkwX2_areTwo_1 ++ []
def dkwX2_areTwo_0 : List UInt8 := [42, 27, 182, 0, 239, 153, 0, 20, 42, 28, 182, 0, 239, 153, 0, 12, 27, 28, 159, 0, 7, 4]
abbrev dktX2_areTwo_0 : List UInt8 := dkwX2_areTwo_0 ++ dktX2_areTwo_1
theorem dksX2_areTwo_0 : cX2_areTwo.data.toList.drop 0 = dktX2_areTwo_0 := by decide +kernel
theorem dksX2_areTwo_1 : cX2_areTwo.data.toList.drop 22 = dktX2_areTwo_1 := dk_seg dksX2_areTwo_0 22 rfl rfl
theorem dX2_areTwo_0 : decode cX2_areTwo 0 = .ok (.aload_n 0, 1) := dk_42 (dk_at dksX2_areTwo_0 0 rfl rfl)
theorem dX2_areTwo_1 : decode cX2_areTwo 1 = .ok (.iload_n 1, 1) := dk_27 (dk_at dksX2_areTwo_0 1 rfl rfl)
theorem dX2_areTwo_2 : decode cX2_areTwo 2 = .ok (.invokevirtual 239, 3) := dk_182 0 239 (dk_at dksX2_areTwo_0 2 rfl rfl)
theorem dX2_areTwo_5 : decode cX2_areTwo 5 = .ok (.ifCond .eq 20, 3) := dk_153 0 20 (dk_at dksX2_areTwo_0 5 rfl rfl)
theorem dX2_areTwo_8 : decode cX2_areTwo 8 = .ok (.aload_n 0, 1) := dk_42 (dk_at dksX2_areTwo_0 8 rfl rfl)
theorem dX2_areTwo_9 : decode cX2_areTwo 9 = .ok (.iload_n 2, 1) := dk_28 (dk_at dksX2_areTwo_0 9 rfl rfl)
theorem dX2_areTwo_10 : decode cX2_areTwo 10 = .ok (.invokevirtual 239, 3) := dk_182 0 239 (dk_at dksX2_areTwo_0 10 rfl rfl)
theorem dX2_areTwo_13 : decode cX2_areTwo 13 = .ok (.ifCond .eq 12, 3) := dk_153 0 12 (dk_at dksX2_areTwo_0 13 rfl rfl)
theorem dX2_areTwo_16 : decode cX2_areTwo 16 = .ok (.iload_n 1, 1) := dk_27 (dk_at dksX2_areTwo_0 16 rfl rfl)
theorem dX2_areTwo_17 : decode cX2_areTwo 17 = .ok (.iload_n 2, 1) := dk_28 (dk_at dksX2_areTwo_0 17 rfl rfl)
theorem dX2_areTwo_18 : decode cX2_areTwo 18 = .ok (.if_icmp .eq 7, 3) := dk_159 0 7 (dk_at dksX2_areTwo_0 18 rfl rfl)
theorem dX2_areTwo_21 : decode cX2_areTwo 21 = .ok (.iconst 1, 1) := dk_4 (dk_at dksX2_areTwo_0 21 rfl rfl)
theorem dX2_areTwo_22 : decode cX2_areTwo 22 = .ok (.goto 4, 3) := dk_167 0 4 (dk_at dksX2_areTwo_1 0 rfl rfl)
theorem dX2_areTwo_25 : decode cX2_areTwo 25 = .ok (.iconst 0, 1) := dk_3 (dk_at dksX2_areTwo_1 3 rfl rfl)
theorem dX2_areTwo_26 : decode cX2_areTwo 26 = .ok (.ireturn, 1) := dk_172 (dk_at dksX2_areTwo_1 4 rfl rfl)
abbrev cX2_loudest : ByteArray := prog_16_method_64_code
def yX2_loudest : MethodName := ⟨RX2, "loudest", "(I)I"⟩
def dkwX2_loudest_2 : List UInt8 := [29, 27, 182, 1, 27, 164, 0, 6, 21, 4, 62, 132, 4, 1, 167, 255, 223, 29, 172]
abbrev dktX2_loudest_2 : List UInt8 := dkwX2_loudest_2 ++ []
def dkwX2_loudest_1 : List UInt8 := [3, 62, 4, 54, 4, 21, 4, 42, 180, 0, 20, 5, 46, 162, 0, 28, 42, 21, 4, 27, 182, 1, 27, 42]
abbrev dktX2_loudest_1 : List UInt8 := dkwX2_loudest_1 ++ dktX2_loudest_2
def dkwX2_loudest_0 : List UInt8 := [42, 182, 0, 164, 42, 42, 180, 0, 177, 27, 182, 1, 23, 61, 28, 153, 0, 9, 42, 28, 182, 0, 167, 172]
abbrev dktX2_loudest_0 : List UInt8 := dkwX2_loudest_0 ++ dktX2_loudest_1
theorem dksX2_loudest_0 : cX2_loudest.data.toList.drop 0 = dktX2_loudest_0 := by decide +kernel
theorem dksX2_loudest_1 : cX2_loudest.data.toList.drop 24 = dktX2_loudest_1 := dk_seg dksX2_loudest_0 24 rfl rfl
theorem dksX2_loudest_2 : cX2_loudest.data.toList.drop 48 = dktX2_loudest_2 := dk_seg dksX2_loudest_1 24 rfl rfl
theorem dX2_loudest_0 : decode cX2_loudest 0 = .ok (.aload_n 0, 1) := dk_42 (dk_at dksX2_loudest_0 0 rfl rfl)
theorem dX2_loudest_1 : decode cX2_loudest 1 = .ok (.invokevirtual 164, 3) := dk_182 0 164 (dk_at dksX2_loudest_0 1 rfl rfl)
theorem dX2_loudest_4 : decode cX2_loudest 4 = .ok (.aload_n 0, 1) := dk_42 (dk_at dksX2_loudest_0 4 rfl rfl)
theorem dX2_loudest_5 : decode cX2_loudest 5 = .ok (.aload_n 0, 1) := dk_42 (dk_at dksX2_loudest_0 5 rfl rfl)
theorem dX2_loudest_6 : decode cX2_loudest 6 = .ok (.getfield 177, 3) := dk_180 0 177 (dk_at dksX2_loudest_0 6 rfl rfl)
theorem dX2_loudest_9 : decode cX2_loudest 9 = .ok (.iload_n 1, 1) := dk_27 (dk_at dksX2_loudest_0 9 rfl rfl)
theorem dX2_loudest_10 : decode cX2_loudest 10 = .ok (.invokevirtual 279, 3) := dk_182 1 23 (dk_at dksX2_loudest_0 10 rfl rfl)
theorem dX2_loudest_13 : decode cX2_loudest 13 = .ok (.istore_n 2, 1) := dk_61 (dk_at dksX2_loudest_0 13 rfl rfl)
theorem dX2_loudest_14 : decode cX2_loudest 14 = .ok (.iload_n 2, 1) := dk_28 (dk_at dksX2_loudest_0 14 rfl rfl)
theorem dX2_loudest_15 : decode cX2_loudest 15 = .ok (.ifCond .eq 9, 3) := dk_153 0 9 (dk_at dksX2_loudest_0 15 rfl rfl)
theorem dX2_loudest_18 : decode cX2_loudest 18 = .ok (.aload_n 0, 1) := dk_42 (dk_at dksX2_loudest_0 18 rfl rfl)
theorem dX2_loudest_19 : decode cX2_loudest 19 = .ok (.iload_n 2, 1) := dk_28 (dk_at dksX2_loudest_0 19 rfl rfl)
theorem dX2_loudest_20 : decode cX2_loudest 20 = .ok (.invokevirtual 167, 3) := dk_182 0 167 (dk_at dksX2_loudest_0 20 rfl rfl)
theorem dX2_loudest_23 : decode cX2_loudest 23 = .ok (.ireturn, 1) := dk_172 (dk_at dksX2_loudest_0 23 rfl rfl)
theorem dX2_loudest_24 : decode cX2_loudest 24 = .ok (.iconst 0, 1) := dk_3 (dk_at dksX2_loudest_1 0 rfl rfl)
theorem dX2_loudest_25 : decode cX2_loudest 25 = .ok (.istore_n 3, 1) := dk_62 (dk_at dksX2_loudest_1 1 rfl rfl)
theorem dX2_loudest_26 : decode cX2_loudest 26 = .ok (.iconst 1, 1) := dk_4 (dk_at dksX2_loudest_1 2 rfl rfl)
theorem dX2_loudest_27 : decode cX2_loudest 27 = .ok (.istore 4, 2) := dk_54 4 (dk_at dksX2_loudest_1 3 rfl rfl)
theorem dX2_loudest_29 : decode cX2_loudest 29 = .ok (.iload 4, 2) := dk_21 4 (dk_at dksX2_loudest_1 5 rfl rfl)
theorem dX2_loudest_31 : decode cX2_loudest 31 = .ok (.aload_n 0, 1) := dk_42 (dk_at dksX2_loudest_1 7 rfl rfl)
theorem dX2_loudest_32 : decode cX2_loudest 32 = .ok (.getfield 20, 3) := dk_180 0 20 (dk_at dksX2_loudest_1 8 rfl rfl)
theorem dX2_loudest_35 : decode cX2_loudest 35 = .ok (.iconst 2, 1) := dk_5 (dk_at dksX2_loudest_1 11 rfl rfl)
theorem dX2_loudest_36 : decode cX2_loudest 36 = .ok (.iaload, 1) := dk_46 (dk_at dksX2_loudest_1 12 rfl rfl)
theorem dX2_loudest_37 : decode cX2_loudest 37 = .ok (.if_icmp .ge 28, 3) := dk_162 0 28 (dk_at dksX2_loudest_1 13 rfl rfl)
theorem dX2_loudest_40 : decode cX2_loudest 40 = .ok (.aload_n 0, 1) := dk_42 (dk_at dksX2_loudest_1 16 rfl rfl)
theorem dX2_loudest_41 : decode cX2_loudest 41 = .ok (.iload 4, 2) := dk_21 4 (dk_at dksX2_loudest_1 17 rfl rfl)
theorem dX2_loudest_43 : decode cX2_loudest 43 = .ok (.iload_n 1, 1) := dk_27 (dk_at dksX2_loudest_1 19 rfl rfl)
theorem dX2_loudest_44 : decode cX2_loudest 44 = .ok (.invokevirtual 283, 3) := dk_182 1 27 (dk_at dksX2_loudest_1 20 rfl rfl)
theorem dX2_loudest_47 : decode cX2_loudest 47 = .ok (.aload_n 0, 1) := dk_42 (dk_at dksX2_loudest_1 23 rfl rfl)
theorem dX2_loudest_48 : decode cX2_loudest 48 = .ok (.iload_n 3, 1) := dk_29 (dk_at dksX2_loudest_2 0 rfl rfl)
theorem dX2_loudest_49 : decode cX2_loudest 49 = .ok (.iload_n 1, 1) := dk_27 (dk_at dksX2_loudest_2 1 rfl rfl)
theorem dX2_loudest_50 : decode cX2_loudest 50 = .ok (.invokevirtual 283, 3) := dk_182 1 27 (dk_at dksX2_loudest_2 2 rfl rfl)
theorem dX2_loudest_53 : decode cX2_loudest 53 = .ok (.if_icmp .le 6, 3) := dk_164 0 6 (dk_at dksX2_loudest_2 5 rfl rfl)
theorem dX2_loudest_56 : decode cX2_loudest 56 = .ok (.iload 4, 2) := dk_21 4 (dk_at dksX2_loudest_2 8 rfl rfl)
theorem dX2_loudest_58 : decode cX2_loudest 58 = .ok (.istore_n 3, 1) := dk_62 (dk_at dksX2_loudest_2 10 rfl rfl)
theorem dX2_loudest_59 : decode cX2_loudest 59 = .ok (.iinc 4 1, 3) := dk_132 4 1 (dk_at dksX2_loudest_2 11 rfl rfl)
theorem dX2_loudest_62 : decode cX2_loudest 62 = .ok (.goto (-33), 3) := dk_167 255 223 (dk_at dksX2_loudest_2 14 rfl rfl)
theorem dX2_loudest_65 : decode cX2_loudest 65 = .ok (.iload_n 3, 1) := dk_29 (dk_at dksX2_loudest_2 17 rfl rfl)
theorem dX2_loudest_66 : decode cX2_loudest 66 = .ok (.ireturn, 1) := dk_172 (dk_at dksX2_loudest_2 18 rfl rfl)
abbrev cX2_masters : ByteArray := prog_16_method_66_code
def yX2_masters : MethodName := ⟨RX2, "masters", "(I)I"⟩
def dkwX2_masters_1 : List UInt8 := [167, 0, 8, 42, 27, 182, 1, 41, 172]
abbrev dktX2_masters_1 : List UInt8 := dkwX2_masters_1 ++ []
def dkwX2_masters_0 : List UInt8 := [42, 182, 0, 164, 42, 42, 180, 0, 177, 27, 182, 1, 23, 61, 28, 153, 0, 11, 42, 28, 182, 0, 167]
abbrev dktX2_masters_0 : List UInt8 := dkwX2_masters_0 ++ dktX2_masters_1
theorem dksX2_masters_0 : cX2_masters.data.toList.drop 0 = dktX2_masters_0 := by decide +kernel
theorem dksX2_masters_1 : cX2_masters.data.toList.drop 23 = dktX2_masters_1 := dk_seg dksX2_masters_0 23 rfl rfl
theorem dX2_masters_0 : decode cX2_masters 0 = .ok (.aload_n 0, 1) := dk_42 (dk_at dksX2_masters_0 0 rfl rfl)
theorem dX2_masters_1 : decode cX2_masters 1 = .ok (.invokevirtual 164, 3) := dk_182 0 164 (dk_at dksX2_masters_0 1 rfl rfl)
theorem dX2_masters_4 : decode cX2_masters 4 = .ok (.aload_n 0, 1) := dk_42 (dk_at dksX2_masters_0 4 rfl rfl)
theorem dX2_masters_5 : decode cX2_masters 5 = .ok (.aload_n 0, 1) := dk_42 (dk_at dksX2_masters_0 5 rfl rfl)
theorem dX2_masters_6 : decode cX2_masters 6 = .ok (.getfield 177, 3) := dk_180 0 177 (dk_at dksX2_masters_0 6 rfl rfl)
theorem dX2_masters_9 : decode cX2_masters 9 = .ok (.iload_n 1, 1) := dk_27 (dk_at dksX2_masters_0 9 rfl rfl)
theorem dX2_masters_10 : decode cX2_masters 10 = .ok (.invokevirtual 279, 3) := dk_182 1 23 (dk_at dksX2_masters_0 10 rfl rfl)
theorem dX2_masters_13 : decode cX2_masters 13 = .ok (.istore_n 2, 1) := dk_61 (dk_at dksX2_masters_0 13 rfl rfl)
theorem dX2_masters_14 : decode cX2_masters 14 = .ok (.iload_n 2, 1) := dk_28 (dk_at dksX2_masters_0 14 rfl rfl)
theorem dX2_masters_15 : decode cX2_masters 15 = .ok (.ifCond .eq 11, 3) := dk_153 0 11 (dk_at dksX2_masters_0 15 rfl rfl)
theorem dX2_masters_18 : decode cX2_masters 18 = .ok (.aload_n 0, 1) := dk_42 (dk_at dksX2_masters_0 18 rfl rfl)
theorem dX2_masters_19 : decode cX2_masters 19 = .ok (.iload_n 2, 1) := dk_28 (dk_at dksX2_masters_0 19 rfl rfl)
theorem dX2_masters_20 : decode cX2_masters 20 = .ok (.invokevirtual 167, 3) := dk_182 0 167 (dk_at dksX2_masters_0 20 rfl rfl)
theorem dX2_masters_23 : decode cX2_masters 23 = .ok (.goto 8, 3) := dk_167 0 8 (dk_at dksX2_masters_1 0 rfl rfl)
theorem dX2_masters_26 : decode cX2_masters 26 = .ok (.aload_n 0, 1) := dk_42 (dk_at dksX2_masters_1 3 rfl rfl)
theorem dX2_masters_27 : decode cX2_masters 27 = .ok (.iload_n 1, 1) := dk_27 (dk_at dksX2_masters_1 4 rfl rfl)
theorem dX2_masters_28 : decode cX2_masters 28 = .ok (.invokevirtual 297, 3) := dk_182 1 41 (dk_at dksX2_masters_1 5 rfl rfl)
theorem dX2_masters_31 : decode cX2_masters 31 = .ok (.ireturn, 1) := dk_172 (dk_at dksX2_masters_1 8 rfl rfl)
abbrev cX2_mastersIn : ByteArray := prog_16_method_65_code
def yX2_mastersIn : MethodName := ⟨RX2, "mastersIn", "(I)I"⟩
def dkwX2_mastersIn_1 : List UInt8 := [182, 1, 16, 153, 0, 9, 4, 29, 120, 167, 0, 4, 3, 128, 61, 132, 3, 1, 167, 255, 220, 28, 172]
abbrev dktX2_mastersIn_1 : List UInt8 := dkwX2_mastersIn_1 ++ []
def dkwX2_mastersIn_0 : List UInt8 := [3, 61, 3, 62, 29, 42, 180, 0, 20, 5, 46, 162, 0, 32, 28, 42, 42, 29, 27, 182, 1, 27]
abbrev dktX2_mastersIn_0 : List UInt8 := dkwX2_mastersIn_0 ++ dktX2_mastersIn_1
theorem dksX2_mastersIn_0 : cX2_mastersIn.data.toList.drop 0 = dktX2_mastersIn_0 := by decide +kernel
theorem dksX2_mastersIn_1 : cX2_mastersIn.data.toList.drop 22 = dktX2_mastersIn_1 := dk_seg dksX2_mastersIn_0 22 rfl rfl
theorem dX2_mastersIn_0 : decode cX2_mastersIn 0 = .ok (.iconst 0, 1) := dk_3 (dk_at dksX2_mastersIn_0 0 rfl rfl)
theorem dX2_mastersIn_1 : decode cX2_mastersIn 1 = .ok (.istore_n 2, 1) := dk_61 (dk_at dksX2_mastersIn_0 1 rfl rfl)
theorem dX2_mastersIn_2 : decode cX2_mastersIn 2 = .ok (.iconst 0, 1) := dk_3 (dk_at dksX2_mastersIn_0 2 rfl rfl)
theorem dX2_mastersIn_3 : decode cX2_mastersIn 3 = .ok (.istore_n 3, 1) := dk_62 (dk_at dksX2_mastersIn_0 3 rfl rfl)
theorem dX2_mastersIn_4 : decode cX2_mastersIn 4 = .ok (.iload_n 3, 1) := dk_29 (dk_at dksX2_mastersIn_0 4 rfl rfl)
theorem dX2_mastersIn_5 : decode cX2_mastersIn 5 = .ok (.aload_n 0, 1) := dk_42 (dk_at dksX2_mastersIn_0 5 rfl rfl)
theorem dX2_mastersIn_6 : decode cX2_mastersIn 6 = .ok (.getfield 20, 3) := dk_180 0 20 (dk_at dksX2_mastersIn_0 6 rfl rfl)
theorem dX2_mastersIn_9 : decode cX2_mastersIn 9 = .ok (.iconst 2, 1) := dk_5 (dk_at dksX2_mastersIn_0 9 rfl rfl)
theorem dX2_mastersIn_10 : decode cX2_mastersIn 10 = .ok (.iaload, 1) := dk_46 (dk_at dksX2_mastersIn_0 10 rfl rfl)
theorem dX2_mastersIn_11 : decode cX2_mastersIn 11 = .ok (.if_icmp .ge 32, 3) := dk_162 0 32 (dk_at dksX2_mastersIn_0 11 rfl rfl)
theorem dX2_mastersIn_14 : decode cX2_mastersIn 14 = .ok (.iload_n 2, 1) := dk_28 (dk_at dksX2_mastersIn_0 14 rfl rfl)
theorem dX2_mastersIn_15 : decode cX2_mastersIn 15 = .ok (.aload_n 0, 1) := dk_42 (dk_at dksX2_mastersIn_0 15 rfl rfl)
theorem dX2_mastersIn_16 : decode cX2_mastersIn 16 = .ok (.aload_n 0, 1) := dk_42 (dk_at dksX2_mastersIn_0 16 rfl rfl)
theorem dX2_mastersIn_17 : decode cX2_mastersIn 17 = .ok (.iload_n 3, 1) := dk_29 (dk_at dksX2_mastersIn_0 17 rfl rfl)
theorem dX2_mastersIn_18 : decode cX2_mastersIn 18 = .ok (.iload_n 1, 1) := dk_27 (dk_at dksX2_mastersIn_0 18 rfl rfl)
theorem dX2_mastersIn_19 : decode cX2_mastersIn 19 = .ok (.invokevirtual 283, 3) := dk_182 1 27 (dk_at dksX2_mastersIn_0 19 rfl rfl)
theorem dX2_mastersIn_22 : decode cX2_mastersIn 22 = .ok (.invokevirtual 272, 3) := dk_182 1 16 (dk_at dksX2_mastersIn_1 0 rfl rfl)
theorem dX2_mastersIn_25 : decode cX2_mastersIn 25 = .ok (.ifCond .eq 9, 3) := dk_153 0 9 (dk_at dksX2_mastersIn_1 3 rfl rfl)
theorem dX2_mastersIn_28 : decode cX2_mastersIn 28 = .ok (.iconst 1, 1) := dk_4 (dk_at dksX2_mastersIn_1 6 rfl rfl)
theorem dX2_mastersIn_29 : decode cX2_mastersIn 29 = .ok (.iload_n 3, 1) := dk_29 (dk_at dksX2_mastersIn_1 7 rfl rfl)
theorem dX2_mastersIn_30 : decode cX2_mastersIn 30 = .ok (.ishl, 1) := dk_120 (dk_at dksX2_mastersIn_1 8 rfl rfl)
theorem dX2_mastersIn_31 : decode cX2_mastersIn 31 = .ok (.goto 4, 3) := dk_167 0 4 (dk_at dksX2_mastersIn_1 9 rfl rfl)
theorem dX2_mastersIn_34 : decode cX2_mastersIn 34 = .ok (.iconst 0, 1) := dk_3 (dk_at dksX2_mastersIn_1 12 rfl rfl)
theorem dX2_mastersIn_35 : decode cX2_mastersIn 35 = .ok (.ior, 1) := dk_128 (dk_at dksX2_mastersIn_1 13 rfl rfl)
theorem dX2_mastersIn_36 : decode cX2_mastersIn 36 = .ok (.istore_n 2, 1) := dk_61 (dk_at dksX2_mastersIn_1 14 rfl rfl)
theorem dX2_mastersIn_37 : decode cX2_mastersIn 37 = .ok (.iinc 3 1, 3) := dk_132 3 1 (dk_at dksX2_mastersIn_1 15 rfl rfl)
theorem dX2_mastersIn_40 : decode cX2_mastersIn 40 = .ok (.goto (-36), 3) := dk_167 255 220 (dk_at dksX2_mastersIn_1 18 rfl rfl)
theorem dX2_mastersIn_43 : decode cX2_mastersIn 43 = .ok (.iload_n 2, 1) := dk_28 (dk_at dksX2_mastersIn_1 21 rfl rfl)
theorem dX2_mastersIn_44 : decode cX2_mastersIn 44 = .ok (.ireturn, 1) := dk_172 (dk_at dksX2_mastersIn_1 22 rfl rfl)
abbrev cX2_overtakes : ByteArray := prog_16_method_67_code
def yX2_overtakes : MethodName := ⟨RX2, "overtakes", "(II)I"⟩
def dkwX2_overtakes_2 : List UInt8 := [167, 255, 230, 16, 254, 172]
abbrev dktX2_overtakes_2 : List UInt8 := dkwX2_overtakes_2 ++ []
def dkwX2_overtakes_1 : List UInt8 := [163, 0, 26, 42, 27, 29, 182, 1, 27, 42, 28, 29, 182, 1, 27, 164, 0, 5, 29, 172, 132, 3, 1]
abbrev dktX2_overtakes_1 : List UInt8 := dkwX2_overtakes_1 ++ dktX2_overtakes_2
def dkwX2_overtakes_0 : List UInt8 := [42, 182, 0, 164, 42, 27, 28, 182, 1, 37, 154, 0, 9, 42, 4, 182, 0, 167, 172, 3, 62, 29, 16, 60]
abbrev dktX2_overtakes_0 : List UInt8 := dkwX2_overtakes_0 ++ dktX2_overtakes_1
theorem dksX2_overtakes_0 : cX2_overtakes.data.toList.drop 0 = dktX2_overtakes_0 := by decide +kernel
theorem dksX2_overtakes_1 : cX2_overtakes.data.toList.drop 24 = dktX2_overtakes_1 := dk_seg dksX2_overtakes_0 24 rfl rfl
theorem dksX2_overtakes_2 : cX2_overtakes.data.toList.drop 47 = dktX2_overtakes_2 := dk_seg dksX2_overtakes_1 23 rfl rfl
theorem dX2_overtakes_0 : decode cX2_overtakes 0 = .ok (.aload_n 0, 1) := dk_42 (dk_at dksX2_overtakes_0 0 rfl rfl)
theorem dX2_overtakes_1 : decode cX2_overtakes 1 = .ok (.invokevirtual 164, 3) := dk_182 0 164 (dk_at dksX2_overtakes_0 1 rfl rfl)
theorem dX2_overtakes_4 : decode cX2_overtakes 4 = .ok (.aload_n 0, 1) := dk_42 (dk_at dksX2_overtakes_0 4 rfl rfl)
theorem dX2_overtakes_5 : decode cX2_overtakes 5 = .ok (.iload_n 1, 1) := dk_27 (dk_at dksX2_overtakes_0 5 rfl rfl)
theorem dX2_overtakes_6 : decode cX2_overtakes 6 = .ok (.iload_n 2, 1) := dk_28 (dk_at dksX2_overtakes_0 6 rfl rfl)
theorem dX2_overtakes_7 : decode cX2_overtakes 7 = .ok (.invokevirtual 293, 3) := dk_182 1 37 (dk_at dksX2_overtakes_0 7 rfl rfl)
theorem dX2_overtakes_10 : decode cX2_overtakes 10 = .ok (.ifCond .ne 9, 3) := dk_154 0 9 (dk_at dksX2_overtakes_0 10 rfl rfl)
theorem dX2_overtakes_13 : decode cX2_overtakes 13 = .ok (.aload_n 0, 1) := dk_42 (dk_at dksX2_overtakes_0 13 rfl rfl)
theorem dX2_overtakes_14 : decode cX2_overtakes 14 = .ok (.iconst 1, 1) := dk_4 (dk_at dksX2_overtakes_0 14 rfl rfl)
theorem dX2_overtakes_15 : decode cX2_overtakes 15 = .ok (.invokevirtual 167, 3) := dk_182 0 167 (dk_at dksX2_overtakes_0 15 rfl rfl)
theorem dX2_overtakes_18 : decode cX2_overtakes 18 = .ok (.ireturn, 1) := dk_172 (dk_at dksX2_overtakes_0 18 rfl rfl)
theorem dX2_overtakes_19 : decode cX2_overtakes 19 = .ok (.iconst 0, 1) := dk_3 (dk_at dksX2_overtakes_0 19 rfl rfl)
theorem dX2_overtakes_20 : decode cX2_overtakes 20 = .ok (.istore_n 3, 1) := dk_62 (dk_at dksX2_overtakes_0 20 rfl rfl)
theorem dX2_overtakes_21 : decode cX2_overtakes 21 = .ok (.iload_n 3, 1) := dk_29 (dk_at dksX2_overtakes_0 21 rfl rfl)
theorem dX2_overtakes_22 : decode cX2_overtakes 22 = .ok (.bipush 60, 2) := dk_16 60 (dk_at dksX2_overtakes_0 22 rfl rfl)
theorem dX2_overtakes_24 : decode cX2_overtakes 24 = .ok (.if_icmp .gt 26, 3) := dk_163 0 26 (dk_at dksX2_overtakes_1 0 rfl rfl)
theorem dX2_overtakes_27 : decode cX2_overtakes 27 = .ok (.aload_n 0, 1) := dk_42 (dk_at dksX2_overtakes_1 3 rfl rfl)
theorem dX2_overtakes_28 : decode cX2_overtakes 28 = .ok (.iload_n 1, 1) := dk_27 (dk_at dksX2_overtakes_1 4 rfl rfl)
theorem dX2_overtakes_29 : decode cX2_overtakes 29 = .ok (.iload_n 3, 1) := dk_29 (dk_at dksX2_overtakes_1 5 rfl rfl)
theorem dX2_overtakes_30 : decode cX2_overtakes 30 = .ok (.invokevirtual 283, 3) := dk_182 1 27 (dk_at dksX2_overtakes_1 6 rfl rfl)
theorem dX2_overtakes_33 : decode cX2_overtakes 33 = .ok (.aload_n 0, 1) := dk_42 (dk_at dksX2_overtakes_1 9 rfl rfl)
theorem dX2_overtakes_34 : decode cX2_overtakes 34 = .ok (.iload_n 2, 1) := dk_28 (dk_at dksX2_overtakes_1 10 rfl rfl)
theorem dX2_overtakes_35 : decode cX2_overtakes 35 = .ok (.iload_n 3, 1) := dk_29 (dk_at dksX2_overtakes_1 11 rfl rfl)
theorem dX2_overtakes_36 : decode cX2_overtakes 36 = .ok (.invokevirtual 283, 3) := dk_182 1 27 (dk_at dksX2_overtakes_1 12 rfl rfl)
theorem dX2_overtakes_39 : decode cX2_overtakes 39 = .ok (.if_icmp .le 5, 3) := dk_164 0 5 (dk_at dksX2_overtakes_1 15 rfl rfl)
theorem dX2_overtakes_42 : decode cX2_overtakes 42 = .ok (.iload_n 3, 1) := dk_29 (dk_at dksX2_overtakes_1 18 rfl rfl)
theorem dX2_overtakes_43 : decode cX2_overtakes 43 = .ok (.ireturn, 1) := dk_172 (dk_at dksX2_overtakes_1 19 rfl rfl)
theorem dX2_overtakes_44 : decode cX2_overtakes 44 = .ok (.iinc 3 1, 3) := dk_132 3 1 (dk_at dksX2_overtakes_1 20 rfl rfl)
theorem dX2_overtakes_47 : decode cX2_overtakes 47 = .ok (.goto (-26), 3) := dk_167 255 230 (dk_at dksX2_overtakes_2 0 rfl rfl)
theorem dX2_overtakes_50 : decode cX2_overtakes 50 = .ok (.bipush (-2), 2) := dk_16 254 (dk_at dksX2_overtakes_2 3 rfl rfl)
theorem dX2_overtakes_52 : decode cX2_overtakes 52 = .ok (.ireturn, 1) := dk_172 (dk_at dksX2_overtakes_2 5 rfl rfl)
abbrev cX2_widest : ByteArray := prog_16_method_68_code
def yX2_widest : MethodName := ⟨RX2, "widest", "(I)I"⟩
def dkwX2_widest_5 : List UInt8 := [132, 5, 1, 167, 255, 169, 29, 172]
abbrev dktX2_widest_5 : List UInt8 := dkwX2_widest_5 ++ []
def dkwX2_widest_4 : List UInt8 := [167, 0, 16, 16, 10, 21, 5, 104, 21, 6, 96, 62, 21, 7, 54, 4, 132, 6, 1, 167, 255, 192]
abbrev dktX2_widest_4 : List UInt8 := dkwX2_widest_4 ++ dktX2_widest_5
def dkwX2_widest_3 : List UInt8 := [182, 1, 27, 100, 54, 7, 21, 7, 156, 0, 8, 21, 7, 116, 54, 7, 21, 7, 21, 4, 163, 0, 6]
abbrev dktX2_widest_3 : List UInt8 := dkwX2_widest_3 ++ dktX2_widest_4
def dkwX2_widest_2 : List UInt8 := [54, 6, 21, 6, 42, 180, 0, 20, 5, 46, 162, 0, 59, 42, 21, 5, 27, 182, 1, 27, 42, 21, 6, 27]
abbrev dktX2_widest_2 : List UInt8 := dkwX2_widest_2 ++ dktX2_widest_3
def dkwX2_widest_1 : List UInt8 := [16, 254, 62, 2, 54, 4, 3, 54, 5, 21, 5, 42, 180, 0, 20, 5, 46, 162, 0, 82, 21, 5, 4, 96]
abbrev dktX2_widest_1 : List UInt8 := dkwX2_widest_1 ++ dktX2_widest_2
def dkwX2_widest_0 : List UInt8 := [42, 182, 0, 164, 42, 42, 180, 0, 177, 27, 182, 1, 23, 61, 28, 153, 0, 9, 42, 28, 182, 0, 167, 172]
abbrev dktX2_widest_0 : List UInt8 := dkwX2_widest_0 ++ dktX2_widest_1
theorem dksX2_widest_0 : cX2_widest.data.toList.drop 0 = dktX2_widest_0 := by decide +kernel
theorem dksX2_widest_1 : cX2_widest.data.toList.drop 24 = dktX2_widest_1 := dk_seg dksX2_widest_0 24 rfl rfl
theorem dksX2_widest_2 : cX2_widest.data.toList.drop 48 = dktX2_widest_2 := dk_seg dksX2_widest_1 24 rfl rfl
theorem dksX2_widest_3 : cX2_widest.data.toList.drop 72 = dktX2_widest_3 := dk_seg dksX2_widest_2 24 rfl rfl
theorem dksX2_widest_4 : cX2_widest.data.toList.drop 95 = dktX2_widest_4 := dk_seg dksX2_widest_3 23 rfl rfl
theorem dksX2_widest_5 : cX2_widest.data.toList.drop 117 = dktX2_widest_5 := dk_seg dksX2_widest_4 22 rfl rfl
theorem dX2_widest_0 : decode cX2_widest 0 = .ok (.aload_n 0, 1) := dk_42 (dk_at dksX2_widest_0 0 rfl rfl)
theorem dX2_widest_1 : decode cX2_widest 1 = .ok (.invokevirtual 164, 3) := dk_182 0 164 (dk_at dksX2_widest_0 1 rfl rfl)
theorem dX2_widest_4 : decode cX2_widest 4 = .ok (.aload_n 0, 1) := dk_42 (dk_at dksX2_widest_0 4 rfl rfl)
theorem dX2_widest_5 : decode cX2_widest 5 = .ok (.aload_n 0, 1) := dk_42 (dk_at dksX2_widest_0 5 rfl rfl)
theorem dX2_widest_6 : decode cX2_widest 6 = .ok (.getfield 177, 3) := dk_180 0 177 (dk_at dksX2_widest_0 6 rfl rfl)
theorem dX2_widest_9 : decode cX2_widest 9 = .ok (.iload_n 1, 1) := dk_27 (dk_at dksX2_widest_0 9 rfl rfl)
theorem dX2_widest_10 : decode cX2_widest 10 = .ok (.invokevirtual 279, 3) := dk_182 1 23 (dk_at dksX2_widest_0 10 rfl rfl)
theorem dX2_widest_13 : decode cX2_widest 13 = .ok (.istore_n 2, 1) := dk_61 (dk_at dksX2_widest_0 13 rfl rfl)
theorem dX2_widest_14 : decode cX2_widest 14 = .ok (.iload_n 2, 1) := dk_28 (dk_at dksX2_widest_0 14 rfl rfl)
theorem dX2_widest_15 : decode cX2_widest 15 = .ok (.ifCond .eq 9, 3) := dk_153 0 9 (dk_at dksX2_widest_0 15 rfl rfl)
theorem dX2_widest_18 : decode cX2_widest 18 = .ok (.aload_n 0, 1) := dk_42 (dk_at dksX2_widest_0 18 rfl rfl)
theorem dX2_widest_19 : decode cX2_widest 19 = .ok (.iload_n 2, 1) := dk_28 (dk_at dksX2_widest_0 19 rfl rfl)
theorem dX2_widest_20 : decode cX2_widest 20 = .ok (.invokevirtual 167, 3) := dk_182 0 167 (dk_at dksX2_widest_0 20 rfl rfl)
theorem dX2_widest_23 : decode cX2_widest 23 = .ok (.ireturn, 1) := dk_172 (dk_at dksX2_widest_0 23 rfl rfl)
theorem dX2_widest_24 : decode cX2_widest 24 = .ok (.bipush (-2), 2) := dk_16 254 (dk_at dksX2_widest_1 0 rfl rfl)
theorem dX2_widest_26 : decode cX2_widest 26 = .ok (.istore_n 3, 1) := dk_62 (dk_at dksX2_widest_1 2 rfl rfl)
theorem dX2_widest_27 : decode cX2_widest 27 = .ok (.iconst (-1), 1) := dk_2 (dk_at dksX2_widest_1 3 rfl rfl)
theorem dX2_widest_28 : decode cX2_widest 28 = .ok (.istore 4, 2) := dk_54 4 (dk_at dksX2_widest_1 4 rfl rfl)
theorem dX2_widest_30 : decode cX2_widest 30 = .ok (.iconst 0, 1) := dk_3 (dk_at dksX2_widest_1 6 rfl rfl)
theorem dX2_widest_31 : decode cX2_widest 31 = .ok (.istore 5, 2) := dk_54 5 (dk_at dksX2_widest_1 7 rfl rfl)
theorem dX2_widest_33 : decode cX2_widest 33 = .ok (.iload 5, 2) := dk_21 5 (dk_at dksX2_widest_1 9 rfl rfl)
theorem dX2_widest_35 : decode cX2_widest 35 = .ok (.aload_n 0, 1) := dk_42 (dk_at dksX2_widest_1 11 rfl rfl)
theorem dX2_widest_36 : decode cX2_widest 36 = .ok (.getfield 20, 3) := dk_180 0 20 (dk_at dksX2_widest_1 12 rfl rfl)
theorem dX2_widest_39 : decode cX2_widest 39 = .ok (.iconst 2, 1) := dk_5 (dk_at dksX2_widest_1 15 rfl rfl)
theorem dX2_widest_40 : decode cX2_widest 40 = .ok (.iaload, 1) := dk_46 (dk_at dksX2_widest_1 16 rfl rfl)
theorem dX2_widest_41 : decode cX2_widest 41 = .ok (.if_icmp .ge 82, 3) := dk_162 0 82 (dk_at dksX2_widest_1 17 rfl rfl)
theorem dX2_widest_44 : decode cX2_widest 44 = .ok (.iload 5, 2) := dk_21 5 (dk_at dksX2_widest_1 20 rfl rfl)
theorem dX2_widest_46 : decode cX2_widest 46 = .ok (.iconst 1, 1) := dk_4 (dk_at dksX2_widest_1 22 rfl rfl)
theorem dX2_widest_47 : decode cX2_widest 47 = .ok (.iadd, 1) := dk_96 (dk_at dksX2_widest_1 23 rfl rfl)
theorem dX2_widest_48 : decode cX2_widest 48 = .ok (.istore 6, 2) := dk_54 6 (dk_at dksX2_widest_2 0 rfl rfl)
theorem dX2_widest_50 : decode cX2_widest 50 = .ok (.iload 6, 2) := dk_21 6 (dk_at dksX2_widest_2 2 rfl rfl)
theorem dX2_widest_52 : decode cX2_widest 52 = .ok (.aload_n 0, 1) := dk_42 (dk_at dksX2_widest_2 4 rfl rfl)
theorem dX2_widest_53 : decode cX2_widest 53 = .ok (.getfield 20, 3) := dk_180 0 20 (dk_at dksX2_widest_2 5 rfl rfl)
theorem dX2_widest_56 : decode cX2_widest 56 = .ok (.iconst 2, 1) := dk_5 (dk_at dksX2_widest_2 8 rfl rfl)
theorem dX2_widest_57 : decode cX2_widest 57 = .ok (.iaload, 1) := dk_46 (dk_at dksX2_widest_2 9 rfl rfl)
theorem dX2_widest_58 : decode cX2_widest 58 = .ok (.if_icmp .ge 59, 3) := dk_162 0 59 (dk_at dksX2_widest_2 10 rfl rfl)
theorem dX2_widest_61 : decode cX2_widest 61 = .ok (.aload_n 0, 1) := dk_42 (dk_at dksX2_widest_2 13 rfl rfl)
theorem dX2_widest_62 : decode cX2_widest 62 = .ok (.iload 5, 2) := dk_21 5 (dk_at dksX2_widest_2 14 rfl rfl)
theorem dX2_widest_64 : decode cX2_widest 64 = .ok (.iload_n 1, 1) := dk_27 (dk_at dksX2_widest_2 16 rfl rfl)
theorem dX2_widest_65 : decode cX2_widest 65 = .ok (.invokevirtual 283, 3) := dk_182 1 27 (dk_at dksX2_widest_2 17 rfl rfl)
theorem dX2_widest_68 : decode cX2_widest 68 = .ok (.aload_n 0, 1) := dk_42 (dk_at dksX2_widest_2 20 rfl rfl)
theorem dX2_widest_69 : decode cX2_widest 69 = .ok (.iload 6, 2) := dk_21 6 (dk_at dksX2_widest_2 21 rfl rfl)
theorem dX2_widest_71 : decode cX2_widest 71 = .ok (.iload_n 1, 1) := dk_27 (dk_at dksX2_widest_2 23 rfl rfl)
theorem dX2_widest_72 : decode cX2_widest 72 = .ok (.invokevirtual 283, 3) := dk_182 1 27 (dk_at dksX2_widest_3 0 rfl rfl)
theorem dX2_widest_75 : decode cX2_widest 75 = .ok (.isub, 1) := dk_100 (dk_at dksX2_widest_3 3 rfl rfl)
theorem dX2_widest_76 : decode cX2_widest 76 = .ok (.istore 7, 2) := dk_54 7 (dk_at dksX2_widest_3 4 rfl rfl)
theorem dX2_widest_78 : decode cX2_widest 78 = .ok (.iload 7, 2) := dk_21 7 (dk_at dksX2_widest_3 6 rfl rfl)
theorem dX2_widest_80 : decode cX2_widest 80 = .ok (.ifCond .ge 8, 3) := dk_156 0 8 (dk_at dksX2_widest_3 8 rfl rfl)
theorem dX2_widest_83 : decode cX2_widest 83 = .ok (.iload 7, 2) := dk_21 7 (dk_at dksX2_widest_3 11 rfl rfl)
theorem dX2_widest_85 : decode cX2_widest 85 = .ok (.ineg, 1) := dk_116 (dk_at dksX2_widest_3 13 rfl rfl)
theorem dX2_widest_86 : decode cX2_widest 86 = .ok (.istore 7, 2) := dk_54 7 (dk_at dksX2_widest_3 14 rfl rfl)
theorem dX2_widest_88 : decode cX2_widest 88 = .ok (.iload 7, 2) := dk_21 7 (dk_at dksX2_widest_3 16 rfl rfl)
theorem dX2_widest_90 : decode cX2_widest 90 = .ok (.iload 4, 2) := dk_21 4 (dk_at dksX2_widest_3 18 rfl rfl)
theorem dX2_widest_92 : decode cX2_widest 92 = .ok (.if_icmp .gt 6, 3) := dk_163 0 6 (dk_at dksX2_widest_3 20 rfl rfl)
theorem dX2_widest_95 : decode cX2_widest 95 = .ok (.goto 16, 3) := dk_167 0 16 (dk_at dksX2_widest_4 0 rfl rfl)
theorem dX2_widest_98 : decode cX2_widest 98 = .ok (.bipush 10, 2) := dk_16 10 (dk_at dksX2_widest_4 3 rfl rfl)
theorem dX2_widest_100 : decode cX2_widest 100 = .ok (.iload 5, 2) := dk_21 5 (dk_at dksX2_widest_4 5 rfl rfl)
theorem dX2_widest_102 : decode cX2_widest 102 = .ok (.imul, 1) := dk_104 (dk_at dksX2_widest_4 7 rfl rfl)
theorem dX2_widest_103 : decode cX2_widest 103 = .ok (.iload 6, 2) := dk_21 6 (dk_at dksX2_widest_4 8 rfl rfl)
theorem dX2_widest_105 : decode cX2_widest 105 = .ok (.iadd, 1) := dk_96 (dk_at dksX2_widest_4 10 rfl rfl)
theorem dX2_widest_106 : decode cX2_widest 106 = .ok (.istore_n 3, 1) := dk_62 (dk_at dksX2_widest_4 11 rfl rfl)
theorem dX2_widest_107 : decode cX2_widest 107 = .ok (.iload 7, 2) := dk_21 7 (dk_at dksX2_widest_4 12 rfl rfl)
theorem dX2_widest_109 : decode cX2_widest 109 = .ok (.istore 4, 2) := dk_54 4 (dk_at dksX2_widest_4 14 rfl rfl)
theorem dX2_widest_111 : decode cX2_widest 111 = .ok (.iinc 6 1, 3) := dk_132 6 1 (dk_at dksX2_widest_4 16 rfl rfl)
theorem dX2_widest_114 : decode cX2_widest 114 = .ok (.goto (-64), 3) := dk_167 255 192 (dk_at dksX2_widest_4 19 rfl rfl)
theorem dX2_widest_117 : decode cX2_widest 117 = .ok (.iinc 5 1, 3) := dk_132 5 1 (dk_at dksX2_widest_5 0 rfl rfl)
theorem dX2_widest_120 : decode cX2_widest 120 = .ok (.goto (-87), 3) := dk_167 255 169 (dk_at dksX2_widest_5 3 rfl rfl)
theorem dX2_widest_123 : decode cX2_widest 123 = .ok (.iload_n 3, 1) := dk_29 (dk_at dksX2_widest_5 6 rfl rfl)
theorem dX2_widest_124 : decode cX2_widest 124 = .ok (.ireturn, 1) := dk_172 (dk_at dksX2_widest_5 7 rfl rfl)
abbrev cX2_sumAll : ByteArray := prog_16_method_69_code
def yX2_sumAll : MethodName := ⟨RX2, "sumAll", "(I)I"⟩
def dkwX2_sumAll_2 : List UInt8 := [96, 62, 132, 4, 1, 167, 255, 232, 29, 172]
abbrev dktX2_sumAll_2 : List UInt8 := dkwX2_sumAll_2 ++ []
def dkwX2_sumAll_1 : List UInt8 := [3, 62, 3, 54, 4, 21, 4, 42, 180, 0, 20, 5, 46, 162, 0, 19, 29, 42, 21, 4, 27, 182, 1, 27]
abbrev dktX2_sumAll_1 : List UInt8 := dkwX2_sumAll_1 ++ dktX2_sumAll_2
def dkwX2_sumAll_0 : List UInt8 := [42, 182, 0, 164, 42, 42, 180, 0, 177, 27, 182, 1, 23, 61, 28, 153, 0, 9, 42, 28, 182, 0, 167, 172]
abbrev dktX2_sumAll_0 : List UInt8 := dkwX2_sumAll_0 ++ dktX2_sumAll_1
theorem dksX2_sumAll_0 : cX2_sumAll.data.toList.drop 0 = dktX2_sumAll_0 := by decide +kernel
theorem dksX2_sumAll_1 : cX2_sumAll.data.toList.drop 24 = dktX2_sumAll_1 := dk_seg dksX2_sumAll_0 24 rfl rfl
theorem dksX2_sumAll_2 : cX2_sumAll.data.toList.drop 48 = dktX2_sumAll_2 := dk_seg dksX2_sumAll_1 24 rfl rfl
theorem dX2_sumAll_0 : decode cX2_sumAll 0 = .ok (.aload_n 0, 1) := dk_42 (dk_at dksX2_sumAll_0 0 rfl rfl)
theorem dX2_sumAll_1 : decode cX2_sumAll 1 = .ok (.invokevirtual 164, 3) := dk_182 0 164 (dk_at dksX2_sumAll_0 1 rfl rfl)
theorem dX2_sumAll_4 : decode cX2_sumAll 4 = .ok (.aload_n 0, 1) := dk_42 (dk_at dksX2_sumAll_0 4 rfl rfl)
theorem dX2_sumAll_5 : decode cX2_sumAll 5 = .ok (.aload_n 0, 1) := dk_42 (dk_at dksX2_sumAll_0 5 rfl rfl)
theorem dX2_sumAll_6 : decode cX2_sumAll 6 = .ok (.getfield 177, 3) := dk_180 0 177 (dk_at dksX2_sumAll_0 6 rfl rfl)
theorem dX2_sumAll_9 : decode cX2_sumAll 9 = .ok (.iload_n 1, 1) := dk_27 (dk_at dksX2_sumAll_0 9 rfl rfl)
theorem dX2_sumAll_10 : decode cX2_sumAll 10 = .ok (.invokevirtual 279, 3) := dk_182 1 23 (dk_at dksX2_sumAll_0 10 rfl rfl)
theorem dX2_sumAll_13 : decode cX2_sumAll 13 = .ok (.istore_n 2, 1) := dk_61 (dk_at dksX2_sumAll_0 13 rfl rfl)
theorem dX2_sumAll_14 : decode cX2_sumAll 14 = .ok (.iload_n 2, 1) := dk_28 (dk_at dksX2_sumAll_0 14 rfl rfl)
theorem dX2_sumAll_15 : decode cX2_sumAll 15 = .ok (.ifCond .eq 9, 3) := dk_153 0 9 (dk_at dksX2_sumAll_0 15 rfl rfl)
theorem dX2_sumAll_18 : decode cX2_sumAll 18 = .ok (.aload_n 0, 1) := dk_42 (dk_at dksX2_sumAll_0 18 rfl rfl)
theorem dX2_sumAll_19 : decode cX2_sumAll 19 = .ok (.iload_n 2, 1) := dk_28 (dk_at dksX2_sumAll_0 19 rfl rfl)
theorem dX2_sumAll_20 : decode cX2_sumAll 20 = .ok (.invokevirtual 167, 3) := dk_182 0 167 (dk_at dksX2_sumAll_0 20 rfl rfl)
theorem dX2_sumAll_23 : decode cX2_sumAll 23 = .ok (.ireturn, 1) := dk_172 (dk_at dksX2_sumAll_0 23 rfl rfl)
theorem dX2_sumAll_24 : decode cX2_sumAll 24 = .ok (.iconst 0, 1) := dk_3 (dk_at dksX2_sumAll_1 0 rfl rfl)
theorem dX2_sumAll_25 : decode cX2_sumAll 25 = .ok (.istore_n 3, 1) := dk_62 (dk_at dksX2_sumAll_1 1 rfl rfl)
theorem dX2_sumAll_26 : decode cX2_sumAll 26 = .ok (.iconst 0, 1) := dk_3 (dk_at dksX2_sumAll_1 2 rfl rfl)
theorem dX2_sumAll_27 : decode cX2_sumAll 27 = .ok (.istore 4, 2) := dk_54 4 (dk_at dksX2_sumAll_1 3 rfl rfl)
theorem dX2_sumAll_29 : decode cX2_sumAll 29 = .ok (.iload 4, 2) := dk_21 4 (dk_at dksX2_sumAll_1 5 rfl rfl)
theorem dX2_sumAll_31 : decode cX2_sumAll 31 = .ok (.aload_n 0, 1) := dk_42 (dk_at dksX2_sumAll_1 7 rfl rfl)
theorem dX2_sumAll_32 : decode cX2_sumAll 32 = .ok (.getfield 20, 3) := dk_180 0 20 (dk_at dksX2_sumAll_1 8 rfl rfl)
theorem dX2_sumAll_35 : decode cX2_sumAll 35 = .ok (.iconst 2, 1) := dk_5 (dk_at dksX2_sumAll_1 11 rfl rfl)
theorem dX2_sumAll_36 : decode cX2_sumAll 36 = .ok (.iaload, 1) := dk_46 (dk_at dksX2_sumAll_1 12 rfl rfl)
theorem dX2_sumAll_37 : decode cX2_sumAll 37 = .ok (.if_icmp .ge 19, 3) := dk_162 0 19 (dk_at dksX2_sumAll_1 13 rfl rfl)
theorem dX2_sumAll_40 : decode cX2_sumAll 40 = .ok (.iload_n 3, 1) := dk_29 (dk_at dksX2_sumAll_1 16 rfl rfl)
theorem dX2_sumAll_41 : decode cX2_sumAll 41 = .ok (.aload_n 0, 1) := dk_42 (dk_at dksX2_sumAll_1 17 rfl rfl)
theorem dX2_sumAll_42 : decode cX2_sumAll 42 = .ok (.iload 4, 2) := dk_21 4 (dk_at dksX2_sumAll_1 18 rfl rfl)
theorem dX2_sumAll_44 : decode cX2_sumAll 44 = .ok (.iload_n 1, 1) := dk_27 (dk_at dksX2_sumAll_1 20 rfl rfl)
theorem dX2_sumAll_45 : decode cX2_sumAll 45 = .ok (.invokevirtual 283, 3) := dk_182 1 27 (dk_at dksX2_sumAll_1 21 rfl rfl)
theorem dX2_sumAll_48 : decode cX2_sumAll 48 = .ok (.iadd, 1) := dk_96 (dk_at dksX2_sumAll_2 0 rfl rfl)
theorem dX2_sumAll_49 : decode cX2_sumAll 49 = .ok (.istore_n 3, 1) := dk_62 (dk_at dksX2_sumAll_2 1 rfl rfl)
theorem dX2_sumAll_50 : decode cX2_sumAll 50 = .ok (.iinc 4 1, 3) := dk_132 4 1 (dk_at dksX2_sumAll_2 2 rfl rfl)
theorem dX2_sumAll_53 : decode cX2_sumAll 53 = .ok (.goto (-24), 3) := dk_167 255 232 (dk_at dksX2_sumAll_2 5 rfl rfl)
theorem dX2_sumAll_56 : decode cX2_sumAll 56 = .ok (.iload_n 3, 1) := dk_29 (dk_at dksX2_sumAll_2 8 rfl rfl)
theorem dX2_sumAll_57 : decode cX2_sumAll 57 = .ok (.ireturn, 1) := dk_172 (dk_at dksX2_sumAll_2 9 rfl rfl)
abbrev cX2_everyFor : ByteArray := prog_16_method_71_code
def yX2_everyFor : MethodName := ⟨RX2, "everyFor", "(II)I"⟩
def dkwX2_everyFor_1 : List UInt8 := [167, 0, 9, 42, 27, 28, 182, 1, 44, 172]
abbrev dktX2_everyFor_1 : List UInt8 := dkwX2_everyFor_1 ++ []
def dkwX2_everyFor_0 : List UInt8 := [42, 182, 0, 164, 42, 42, 27, 182, 0, 239, 28, 182, 1, 23, 62, 29, 153, 0, 11, 42, 29, 182, 0, 167]
abbrev dktX2_everyFor_0 : List UInt8 := dkwX2_everyFor_0 ++ dktX2_everyFor_1
theorem dksX2_everyFor_0 : cX2_everyFor.data.toList.drop 0 = dktX2_everyFor_0 := by decide +kernel
theorem dksX2_everyFor_1 : cX2_everyFor.data.toList.drop 24 = dktX2_everyFor_1 := dk_seg dksX2_everyFor_0 24 rfl rfl
theorem dX2_everyFor_0 : decode cX2_everyFor 0 = .ok (.aload_n 0, 1) := dk_42 (dk_at dksX2_everyFor_0 0 rfl rfl)
theorem dX2_everyFor_1 : decode cX2_everyFor 1 = .ok (.invokevirtual 164, 3) := dk_182 0 164 (dk_at dksX2_everyFor_0 1 rfl rfl)
theorem dX2_everyFor_4 : decode cX2_everyFor 4 = .ok (.aload_n 0, 1) := dk_42 (dk_at dksX2_everyFor_0 4 rfl rfl)
theorem dX2_everyFor_5 : decode cX2_everyFor 5 = .ok (.aload_n 0, 1) := dk_42 (dk_at dksX2_everyFor_0 5 rfl rfl)
theorem dX2_everyFor_6 : decode cX2_everyFor 6 = .ok (.iload_n 1, 1) := dk_27 (dk_at dksX2_everyFor_0 6 rfl rfl)
theorem dX2_everyFor_7 : decode cX2_everyFor 7 = .ok (.invokevirtual 239, 3) := dk_182 0 239 (dk_at dksX2_everyFor_0 7 rfl rfl)
theorem dX2_everyFor_10 : decode cX2_everyFor 10 = .ok (.iload_n 2, 1) := dk_28 (dk_at dksX2_everyFor_0 10 rfl rfl)
theorem dX2_everyFor_11 : decode cX2_everyFor 11 = .ok (.invokevirtual 279, 3) := dk_182 1 23 (dk_at dksX2_everyFor_0 11 rfl rfl)
theorem dX2_everyFor_14 : decode cX2_everyFor 14 = .ok (.istore_n 3, 1) := dk_62 (dk_at dksX2_everyFor_0 14 rfl rfl)
theorem dX2_everyFor_15 : decode cX2_everyFor 15 = .ok (.iload_n 3, 1) := dk_29 (dk_at dksX2_everyFor_0 15 rfl rfl)
theorem dX2_everyFor_16 : decode cX2_everyFor 16 = .ok (.ifCond .eq 11, 3) := dk_153 0 11 (dk_at dksX2_everyFor_0 16 rfl rfl)
theorem dX2_everyFor_19 : decode cX2_everyFor 19 = .ok (.aload_n 0, 1) := dk_42 (dk_at dksX2_everyFor_0 19 rfl rfl)
theorem dX2_everyFor_20 : decode cX2_everyFor 20 = .ok (.iload_n 3, 1) := dk_29 (dk_at dksX2_everyFor_0 20 rfl rfl)
theorem dX2_everyFor_21 : decode cX2_everyFor 21 = .ok (.invokevirtual 167, 3) := dk_182 0 167 (dk_at dksX2_everyFor_0 21 rfl rfl)
theorem dX2_everyFor_24 : decode cX2_everyFor 24 = .ok (.goto 9, 3) := dk_167 0 9 (dk_at dksX2_everyFor_1 0 rfl rfl)
theorem dX2_everyFor_27 : decode cX2_everyFor 27 = .ok (.aload_n 0, 1) := dk_42 (dk_at dksX2_everyFor_1 3 rfl rfl)
theorem dX2_everyFor_28 : decode cX2_everyFor 28 = .ok (.iload_n 1, 1) := dk_27 (dk_at dksX2_everyFor_1 4 rfl rfl)
theorem dX2_everyFor_29 : decode cX2_everyFor 29 = .ok (.iload_n 2, 1) := dk_28 (dk_at dksX2_everyFor_1 5 rfl rfl)
theorem dX2_everyFor_30 : decode cX2_everyFor 30 = .ok (.invokevirtual 300, 3) := dk_182 1 44 (dk_at dksX2_everyFor_1 6 rfl rfl)
theorem dX2_everyFor_33 : decode cX2_everyFor 33 = .ok (.ireturn, 1) := dk_172 (dk_at dksX2_everyFor_1 9 rfl rfl)
abbrev cX2_bestEvery : ByteArray := prog_16_method_70_code
def yX2_bestEvery : MethodName := ⟨RX2, "bestEvery", "(II)I"⟩
def dkwX2_bestEvery_2 : List UInt8 := [21, 4, 62, 132, 4, 1, 167, 255, 209, 29, 172]
abbrev dktX2_bestEvery_2 : List UInt8 := dkwX2_bestEvery_2 ++ []
def dkwX2_bestEvery_1 : List UInt8 := [21, 4, 182, 0, 253, 42, 27, 28, 42, 180, 0, 32, 8, 27, 96, 46, 29, 182, 0, 253, 164, 0, 6]
abbrev dktX2_bestEvery_1 : List UInt8 := dkwX2_bestEvery_1 ++ dktX2_bestEvery_2
def dkwX2_bestEvery_0 : List UInt8 := [3, 62, 4, 54, 4, 21, 4, 16, 9, 163, 0, 46, 42, 27, 28, 42, 180, 0, 32, 8, 27, 96, 46]
abbrev dktX2_bestEvery_0 : List UInt8 := dkwX2_bestEvery_0 ++ dktX2_bestEvery_1
theorem dksX2_bestEvery_0 : cX2_bestEvery.data.toList.drop 0 = dktX2_bestEvery_0 := by decide +kernel
theorem dksX2_bestEvery_1 : cX2_bestEvery.data.toList.drop 23 = dktX2_bestEvery_1 := dk_seg dksX2_bestEvery_0 23 rfl rfl
theorem dksX2_bestEvery_2 : cX2_bestEvery.data.toList.drop 46 = dktX2_bestEvery_2 := dk_seg dksX2_bestEvery_1 23 rfl rfl
theorem dX2_bestEvery_0 : decode cX2_bestEvery 0 = .ok (.iconst 0, 1) := dk_3 (dk_at dksX2_bestEvery_0 0 rfl rfl)
theorem dX2_bestEvery_1 : decode cX2_bestEvery 1 = .ok (.istore_n 3, 1) := dk_62 (dk_at dksX2_bestEvery_0 1 rfl rfl)
theorem dX2_bestEvery_2 : decode cX2_bestEvery 2 = .ok (.iconst 1, 1) := dk_4 (dk_at dksX2_bestEvery_0 2 rfl rfl)
theorem dX2_bestEvery_3 : decode cX2_bestEvery 3 = .ok (.istore 4, 2) := dk_54 4 (dk_at dksX2_bestEvery_0 3 rfl rfl)
theorem dX2_bestEvery_5 : decode cX2_bestEvery 5 = .ok (.iload 4, 2) := dk_21 4 (dk_at dksX2_bestEvery_0 5 rfl rfl)
theorem dX2_bestEvery_7 : decode cX2_bestEvery 7 = .ok (.bipush 9, 2) := dk_16 9 (dk_at dksX2_bestEvery_0 7 rfl rfl)
theorem dX2_bestEvery_9 : decode cX2_bestEvery 9 = .ok (.if_icmp .gt 46, 3) := dk_163 0 46 (dk_at dksX2_bestEvery_0 9 rfl rfl)
theorem dX2_bestEvery_12 : decode cX2_bestEvery 12 = .ok (.aload_n 0, 1) := dk_42 (dk_at dksX2_bestEvery_0 12 rfl rfl)
theorem dX2_bestEvery_13 : decode cX2_bestEvery 13 = .ok (.iload_n 1, 1) := dk_27 (dk_at dksX2_bestEvery_0 13 rfl rfl)
theorem dX2_bestEvery_14 : decode cX2_bestEvery 14 = .ok (.iload_n 2, 1) := dk_28 (dk_at dksX2_bestEvery_0 14 rfl rfl)
theorem dX2_bestEvery_15 : decode cX2_bestEvery 15 = .ok (.aload_n 0, 1) := dk_42 (dk_at dksX2_bestEvery_0 15 rfl rfl)
theorem dX2_bestEvery_16 : decode cX2_bestEvery 16 = .ok (.getfield 32, 3) := dk_180 0 32 (dk_at dksX2_bestEvery_0 16 rfl rfl)
theorem dX2_bestEvery_19 : decode cX2_bestEvery 19 = .ok (.iconst 5, 1) := dk_8 (dk_at dksX2_bestEvery_0 19 rfl rfl)
theorem dX2_bestEvery_20 : decode cX2_bestEvery 20 = .ok (.iload_n 1, 1) := dk_27 (dk_at dksX2_bestEvery_0 20 rfl rfl)
theorem dX2_bestEvery_21 : decode cX2_bestEvery 21 = .ok (.iadd, 1) := dk_96 (dk_at dksX2_bestEvery_0 21 rfl rfl)
theorem dX2_bestEvery_22 : decode cX2_bestEvery 22 = .ok (.iaload, 1) := dk_46 (dk_at dksX2_bestEvery_0 22 rfl rfl)
theorem dX2_bestEvery_23 : decode cX2_bestEvery 23 = .ok (.iload 4, 2) := dk_21 4 (dk_at dksX2_bestEvery_1 0 rfl rfl)
theorem dX2_bestEvery_25 : decode cX2_bestEvery 25 = .ok (.invokevirtual 253, 3) := dk_182 0 253 (dk_at dksX2_bestEvery_1 2 rfl rfl)
theorem dX2_bestEvery_28 : decode cX2_bestEvery 28 = .ok (.aload_n 0, 1) := dk_42 (dk_at dksX2_bestEvery_1 5 rfl rfl)
theorem dX2_bestEvery_29 : decode cX2_bestEvery 29 = .ok (.iload_n 1, 1) := dk_27 (dk_at dksX2_bestEvery_1 6 rfl rfl)
theorem dX2_bestEvery_30 : decode cX2_bestEvery 30 = .ok (.iload_n 2, 1) := dk_28 (dk_at dksX2_bestEvery_1 7 rfl rfl)
theorem dX2_bestEvery_31 : decode cX2_bestEvery 31 = .ok (.aload_n 0, 1) := dk_42 (dk_at dksX2_bestEvery_1 8 rfl rfl)
theorem dX2_bestEvery_32 : decode cX2_bestEvery 32 = .ok (.getfield 32, 3) := dk_180 0 32 (dk_at dksX2_bestEvery_1 9 rfl rfl)
theorem dX2_bestEvery_35 : decode cX2_bestEvery 35 = .ok (.iconst 5, 1) := dk_8 (dk_at dksX2_bestEvery_1 12 rfl rfl)
theorem dX2_bestEvery_36 : decode cX2_bestEvery 36 = .ok (.iload_n 1, 1) := dk_27 (dk_at dksX2_bestEvery_1 13 rfl rfl)
theorem dX2_bestEvery_37 : decode cX2_bestEvery 37 = .ok (.iadd, 1) := dk_96 (dk_at dksX2_bestEvery_1 14 rfl rfl)
theorem dX2_bestEvery_38 : decode cX2_bestEvery 38 = .ok (.iaload, 1) := dk_46 (dk_at dksX2_bestEvery_1 15 rfl rfl)
theorem dX2_bestEvery_39 : decode cX2_bestEvery 39 = .ok (.iload_n 3, 1) := dk_29 (dk_at dksX2_bestEvery_1 16 rfl rfl)
theorem dX2_bestEvery_40 : decode cX2_bestEvery 40 = .ok (.invokevirtual 253, 3) := dk_182 0 253 (dk_at dksX2_bestEvery_1 17 rfl rfl)
theorem dX2_bestEvery_43 : decode cX2_bestEvery 43 = .ok (.if_icmp .le 6, 3) := dk_164 0 6 (dk_at dksX2_bestEvery_1 20 rfl rfl)
theorem dX2_bestEvery_46 : decode cX2_bestEvery 46 = .ok (.iload 4, 2) := dk_21 4 (dk_at dksX2_bestEvery_2 0 rfl rfl)
theorem dX2_bestEvery_48 : decode cX2_bestEvery 48 = .ok (.istore_n 3, 1) := dk_62 (dk_at dksX2_bestEvery_2 2 rfl rfl)
theorem dX2_bestEvery_49 : decode cX2_bestEvery 49 = .ok (.iinc 4 1, 3) := dk_132 4 1 (dk_at dksX2_bestEvery_2 3 rfl rfl)
theorem dX2_bestEvery_52 : decode cX2_bestEvery 52 = .ok (.goto (-47), 3) := dk_167 255 209 (dk_at dksX2_bestEvery_2 6 rfl rfl)
theorem dX2_bestEvery_55 : decode cX2_bestEvery 55 = .ok (.iload_n 3, 1) := dk_29 (dk_at dksX2_bestEvery_2 9 rfl rfl)
theorem dX2_bestEvery_56 : decode cX2_bestEvery 56 = .ok (.ireturn, 1) := dk_172 (dk_at dksX2_bestEvery_2 10 rfl rfl)
abbrev cX2_everySays : ByteArray := prog_16_method_72_code
def yX2_everySays : MethodName := ⟨RX2, "everySays", "(II)I"⟩
def dkwX2_everySays_1 : List UInt8 := [167, 0, 23, 42, 27, 28, 42, 180, 0, 32, 8, 27, 96, 46, 42, 27, 28, 182, 1, 44, 182, 0, 253, 172]
abbrev dktX2_everySays_1 : List UInt8 := dkwX2_everySays_1 ++ []
def dkwX2_everySays_0 : List UInt8 := [42, 182, 0, 164, 42, 42, 27, 182, 0, 239, 28, 182, 1, 23, 62, 29, 153, 0, 11, 42, 29, 182, 0, 167]
abbrev dktX2_everySays_0 : List UInt8 := dkwX2_everySays_0 ++ dktX2_everySays_1
theorem dksX2_everySays_0 : cX2_everySays.data.toList.drop 0 = dktX2_everySays_0 := by decide +kernel
theorem dksX2_everySays_1 : cX2_everySays.data.toList.drop 24 = dktX2_everySays_1 := dk_seg dksX2_everySays_0 24 rfl rfl
theorem dX2_everySays_0 : decode cX2_everySays 0 = .ok (.aload_n 0, 1) := dk_42 (dk_at dksX2_everySays_0 0 rfl rfl)
theorem dX2_everySays_1 : decode cX2_everySays 1 = .ok (.invokevirtual 164, 3) := dk_182 0 164 (dk_at dksX2_everySays_0 1 rfl rfl)
theorem dX2_everySays_4 : decode cX2_everySays 4 = .ok (.aload_n 0, 1) := dk_42 (dk_at dksX2_everySays_0 4 rfl rfl)
theorem dX2_everySays_5 : decode cX2_everySays 5 = .ok (.aload_n 0, 1) := dk_42 (dk_at dksX2_everySays_0 5 rfl rfl)
theorem dX2_everySays_6 : decode cX2_everySays 6 = .ok (.iload_n 1, 1) := dk_27 (dk_at dksX2_everySays_0 6 rfl rfl)
theorem dX2_everySays_7 : decode cX2_everySays 7 = .ok (.invokevirtual 239, 3) := dk_182 0 239 (dk_at dksX2_everySays_0 7 rfl rfl)
theorem dX2_everySays_10 : decode cX2_everySays 10 = .ok (.iload_n 2, 1) := dk_28 (dk_at dksX2_everySays_0 10 rfl rfl)
theorem dX2_everySays_11 : decode cX2_everySays 11 = .ok (.invokevirtual 279, 3) := dk_182 1 23 (dk_at dksX2_everySays_0 11 rfl rfl)
theorem dX2_everySays_14 : decode cX2_everySays 14 = .ok (.istore_n 3, 1) := dk_62 (dk_at dksX2_everySays_0 14 rfl rfl)
theorem dX2_everySays_15 : decode cX2_everySays 15 = .ok (.iload_n 3, 1) := dk_29 (dk_at dksX2_everySays_0 15 rfl rfl)
theorem dX2_everySays_16 : decode cX2_everySays 16 = .ok (.ifCond .eq 11, 3) := dk_153 0 11 (dk_at dksX2_everySays_0 16 rfl rfl)
theorem dX2_everySays_19 : decode cX2_everySays 19 = .ok (.aload_n 0, 1) := dk_42 (dk_at dksX2_everySays_0 19 rfl rfl)
theorem dX2_everySays_20 : decode cX2_everySays 20 = .ok (.iload_n 3, 1) := dk_29 (dk_at dksX2_everySays_0 20 rfl rfl)
theorem dX2_everySays_21 : decode cX2_everySays 21 = .ok (.invokevirtual 167, 3) := dk_182 0 167 (dk_at dksX2_everySays_0 21 rfl rfl)
theorem dX2_everySays_24 : decode cX2_everySays 24 = .ok (.goto 23, 3) := dk_167 0 23 (dk_at dksX2_everySays_1 0 rfl rfl)
theorem dX2_everySays_27 : decode cX2_everySays 27 = .ok (.aload_n 0, 1) := dk_42 (dk_at dksX2_everySays_1 3 rfl rfl)
theorem dX2_everySays_28 : decode cX2_everySays 28 = .ok (.iload_n 1, 1) := dk_27 (dk_at dksX2_everySays_1 4 rfl rfl)
theorem dX2_everySays_29 : decode cX2_everySays 29 = .ok (.iload_n 2, 1) := dk_28 (dk_at dksX2_everySays_1 5 rfl rfl)
theorem dX2_everySays_30 : decode cX2_everySays 30 = .ok (.aload_n 0, 1) := dk_42 (dk_at dksX2_everySays_1 6 rfl rfl)
theorem dX2_everySays_31 : decode cX2_everySays 31 = .ok (.getfield 32, 3) := dk_180 0 32 (dk_at dksX2_everySays_1 7 rfl rfl)
theorem dX2_everySays_34 : decode cX2_everySays 34 = .ok (.iconst 5, 1) := dk_8 (dk_at dksX2_everySays_1 10 rfl rfl)
theorem dX2_everySays_35 : decode cX2_everySays 35 = .ok (.iload_n 1, 1) := dk_27 (dk_at dksX2_everySays_1 11 rfl rfl)
theorem dX2_everySays_36 : decode cX2_everySays 36 = .ok (.iadd, 1) := dk_96 (dk_at dksX2_everySays_1 12 rfl rfl)
theorem dX2_everySays_37 : decode cX2_everySays 37 = .ok (.iaload, 1) := dk_46 (dk_at dksX2_everySays_1 13 rfl rfl)
theorem dX2_everySays_38 : decode cX2_everySays 38 = .ok (.aload_n 0, 1) := dk_42 (dk_at dksX2_everySays_1 14 rfl rfl)
theorem dX2_everySays_39 : decode cX2_everySays 39 = .ok (.iload_n 1, 1) := dk_27 (dk_at dksX2_everySays_1 15 rfl rfl)
theorem dX2_everySays_40 : decode cX2_everySays 40 = .ok (.iload_n 2, 1) := dk_28 (dk_at dksX2_everySays_1 16 rfl rfl)
theorem dX2_everySays_41 : decode cX2_everySays 41 = .ok (.invokevirtual 300, 3) := dk_182 1 44 (dk_at dksX2_everySays_1 17 rfl rfl)
theorem dX2_everySays_44 : decode cX2_everySays 44 = .ok (.invokevirtual 253, 3) := dk_182 0 253 (dk_at dksX2_everySays_1 20 rfl rfl)
theorem dX2_everySays_47 : decode cX2_everySays 47 = .ok (.ireturn, 1) := dk_172 (dk_at dksX2_everySays_1 23 rfl rfl)
abbrev cX2_everyNever : ByteArray := prog_16_method_74_code
def yX2_everyNever : MethodName := ⟨RX2, "everyNever", "(I)I"⟩
def dkwX2_everyNever_1 : List UInt8 := [163, 0, 20, 42, 27, 28, 182, 1, 47, 153, 0, 5, 28, 172, 132, 2, 1, 167, 255, 236, 16, 254, 172]
abbrev dktX2_everyNever_1 : List UInt8 := dkwX2_everyNever_1 ++ []
def dkwX2_everyNever_0 : List UInt8 := [42, 182, 0, 164, 42, 27, 182, 0, 239, 154, 0, 9, 42, 4, 182, 0, 167, 172, 3, 61, 28, 16, 9]
abbrev dktX2_everyNever_0 : List UInt8 := dkwX2_everyNever_0 ++ dktX2_everyNever_1
theorem dksX2_everyNever_0 : cX2_everyNever.data.toList.drop 0 = dktX2_everyNever_0 := by decide +kernel
theorem dksX2_everyNever_1 : cX2_everyNever.data.toList.drop 23 = dktX2_everyNever_1 := dk_seg dksX2_everyNever_0 23 rfl rfl
theorem dX2_everyNever_0 : decode cX2_everyNever 0 = .ok (.aload_n 0, 1) := dk_42 (dk_at dksX2_everyNever_0 0 rfl rfl)
theorem dX2_everyNever_1 : decode cX2_everyNever 1 = .ok (.invokevirtual 164, 3) := dk_182 0 164 (dk_at dksX2_everyNever_0 1 rfl rfl)
theorem dX2_everyNever_4 : decode cX2_everyNever 4 = .ok (.aload_n 0, 1) := dk_42 (dk_at dksX2_everyNever_0 4 rfl rfl)
theorem dX2_everyNever_5 : decode cX2_everyNever 5 = .ok (.iload_n 1, 1) := dk_27 (dk_at dksX2_everyNever_0 5 rfl rfl)
theorem dX2_everyNever_6 : decode cX2_everyNever 6 = .ok (.invokevirtual 239, 3) := dk_182 0 239 (dk_at dksX2_everyNever_0 6 rfl rfl)
theorem dX2_everyNever_9 : decode cX2_everyNever 9 = .ok (.ifCond .ne 9, 3) := dk_154 0 9 (dk_at dksX2_everyNever_0 9 rfl rfl)
theorem dX2_everyNever_12 : decode cX2_everyNever 12 = .ok (.aload_n 0, 1) := dk_42 (dk_at dksX2_everyNever_0 12 rfl rfl)
theorem dX2_everyNever_13 : decode cX2_everyNever 13 = .ok (.iconst 1, 1) := dk_4 (dk_at dksX2_everyNever_0 13 rfl rfl)
theorem dX2_everyNever_14 : decode cX2_everyNever 14 = .ok (.invokevirtual 167, 3) := dk_182 0 167 (dk_at dksX2_everyNever_0 14 rfl rfl)
theorem dX2_everyNever_17 : decode cX2_everyNever 17 = .ok (.ireturn, 1) := dk_172 (dk_at dksX2_everyNever_0 17 rfl rfl)
theorem dX2_everyNever_18 : decode cX2_everyNever 18 = .ok (.iconst 0, 1) := dk_3 (dk_at dksX2_everyNever_0 18 rfl rfl)
theorem dX2_everyNever_19 : decode cX2_everyNever 19 = .ok (.istore_n 2, 1) := dk_61 (dk_at dksX2_everyNever_0 19 rfl rfl)
theorem dX2_everyNever_20 : decode cX2_everyNever 20 = .ok (.iload_n 2, 1) := dk_28 (dk_at dksX2_everyNever_0 20 rfl rfl)
theorem dX2_everyNever_21 : decode cX2_everyNever 21 = .ok (.bipush 9, 2) := dk_16 9 (dk_at dksX2_everyNever_0 21 rfl rfl)
theorem dX2_everyNever_23 : decode cX2_everyNever 23 = .ok (.if_icmp .gt 20, 3) := dk_163 0 20 (dk_at dksX2_everyNever_1 0 rfl rfl)
theorem dX2_everyNever_26 : decode cX2_everyNever 26 = .ok (.aload_n 0, 1) := dk_42 (dk_at dksX2_everyNever_1 3 rfl rfl)
theorem dX2_everyNever_27 : decode cX2_everyNever 27 = .ok (.iload_n 1, 1) := dk_27 (dk_at dksX2_everyNever_1 4 rfl rfl)
theorem dX2_everyNever_28 : decode cX2_everyNever 28 = .ok (.iload_n 2, 1) := dk_28 (dk_at dksX2_everyNever_1 5 rfl rfl)
theorem dX2_everyNever_29 : decode cX2_everyNever 29 = .ok (.invokevirtual 303, 3) := dk_182 1 47 (dk_at dksX2_everyNever_1 6 rfl rfl)
theorem dX2_everyNever_32 : decode cX2_everyNever 32 = .ok (.ifCond .eq 5, 3) := dk_153 0 5 (dk_at dksX2_everyNever_1 9 rfl rfl)
theorem dX2_everyNever_35 : decode cX2_everyNever 35 = .ok (.iload_n 2, 1) := dk_28 (dk_at dksX2_everyNever_1 12 rfl rfl)
theorem dX2_everyNever_36 : decode cX2_everyNever 36 = .ok (.ireturn, 1) := dk_172 (dk_at dksX2_everyNever_1 13 rfl rfl)
theorem dX2_everyNever_37 : decode cX2_everyNever 37 = .ok (.iinc 2 1, 3) := dk_132 2 1 (dk_at dksX2_everyNever_1 14 rfl rfl)
theorem dX2_everyNever_40 : decode cX2_everyNever 40 = .ok (.goto (-20), 3) := dk_167 255 236 (dk_at dksX2_everyNever_1 17 rfl rfl)
theorem dX2_everyNever_43 : decode cX2_everyNever 43 = .ok (.bipush (-2), 2) := dk_16 254 (dk_at dksX2_everyNever_1 20 rfl rfl)
theorem dX2_everyNever_45 : decode cX2_everyNever 45 = .ok (.ireturn, 1) := dk_172 (dk_at dksX2_everyNever_1 22 rfl rfl)
abbrev cX2_isNeverMore : ByteArray := prog_16_method_73_code
def yX2_isNeverMore : MethodName := ⟨RX2, "isNeverMore", "(II)Z"⟩
def dkwX2_isNeverMore_1 : List UInt8 := [182, 1, 16, 153, 0, 5, 3, 172, 132, 3, 1, 167, 255, 223, 4, 172]
abbrev dktX2_isNeverMore_1 : List UInt8 := dkwX2_isNeverMore_1 ++ []
def dkwX2_isNeverMore_0 : List UInt8 := [4, 62, 29, 16, 60, 163, 0, 33, 42, 42, 27, 29, 42, 180, 0, 32, 8, 27, 96, 46, 28, 182, 0, 253]
abbrev dktX2_isNeverMore_0 : List UInt8 := dkwX2_isNeverMore_0 ++ dktX2_isNeverMore_1
theorem dksX2_isNeverMore_0 : cX2_isNeverMore.data.toList.drop 0 = dktX2_isNeverMore_0 := by decide +kernel
theorem dksX2_isNeverMore_1 : cX2_isNeverMore.data.toList.drop 24 = dktX2_isNeverMore_1 := dk_seg dksX2_isNeverMore_0 24 rfl rfl
theorem dX2_isNeverMore_0 : decode cX2_isNeverMore 0 = .ok (.iconst 1, 1) := dk_4 (dk_at dksX2_isNeverMore_0 0 rfl rfl)
theorem dX2_isNeverMore_1 : decode cX2_isNeverMore 1 = .ok (.istore_n 3, 1) := dk_62 (dk_at dksX2_isNeverMore_0 1 rfl rfl)
theorem dX2_isNeverMore_2 : decode cX2_isNeverMore 2 = .ok (.iload_n 3, 1) := dk_29 (dk_at dksX2_isNeverMore_0 2 rfl rfl)
theorem dX2_isNeverMore_3 : decode cX2_isNeverMore 3 = .ok (.bipush 60, 2) := dk_16 60 (dk_at dksX2_isNeverMore_0 3 rfl rfl)
theorem dX2_isNeverMore_5 : decode cX2_isNeverMore 5 = .ok (.if_icmp .gt 33, 3) := dk_163 0 33 (dk_at dksX2_isNeverMore_0 5 rfl rfl)
theorem dX2_isNeverMore_8 : decode cX2_isNeverMore 8 = .ok (.aload_n 0, 1) := dk_42 (dk_at dksX2_isNeverMore_0 8 rfl rfl)
theorem dX2_isNeverMore_9 : decode cX2_isNeverMore 9 = .ok (.aload_n 0, 1) := dk_42 (dk_at dksX2_isNeverMore_0 9 rfl rfl)
theorem dX2_isNeverMore_10 : decode cX2_isNeverMore 10 = .ok (.iload_n 1, 1) := dk_27 (dk_at dksX2_isNeverMore_0 10 rfl rfl)
theorem dX2_isNeverMore_11 : decode cX2_isNeverMore 11 = .ok (.iload_n 3, 1) := dk_29 (dk_at dksX2_isNeverMore_0 11 rfl rfl)
theorem dX2_isNeverMore_12 : decode cX2_isNeverMore 12 = .ok (.aload_n 0, 1) := dk_42 (dk_at dksX2_isNeverMore_0 12 rfl rfl)
theorem dX2_isNeverMore_13 : decode cX2_isNeverMore 13 = .ok (.getfield 32, 3) := dk_180 0 32 (dk_at dksX2_isNeverMore_0 13 rfl rfl)
theorem dX2_isNeverMore_16 : decode cX2_isNeverMore 16 = .ok (.iconst 5, 1) := dk_8 (dk_at dksX2_isNeverMore_0 16 rfl rfl)
theorem dX2_isNeverMore_17 : decode cX2_isNeverMore 17 = .ok (.iload_n 1, 1) := dk_27 (dk_at dksX2_isNeverMore_0 17 rfl rfl)
theorem dX2_isNeverMore_18 : decode cX2_isNeverMore 18 = .ok (.iadd, 1) := dk_96 (dk_at dksX2_isNeverMore_0 18 rfl rfl)
theorem dX2_isNeverMore_19 : decode cX2_isNeverMore 19 = .ok (.iaload, 1) := dk_46 (dk_at dksX2_isNeverMore_0 19 rfl rfl)
theorem dX2_isNeverMore_20 : decode cX2_isNeverMore 20 = .ok (.iload_n 2, 1) := dk_28 (dk_at dksX2_isNeverMore_0 20 rfl rfl)
theorem dX2_isNeverMore_21 : decode cX2_isNeverMore 21 = .ok (.invokevirtual 253, 3) := dk_182 0 253 (dk_at dksX2_isNeverMore_0 21 rfl rfl)
theorem dX2_isNeverMore_24 : decode cX2_isNeverMore 24 = .ok (.invokevirtual 272, 3) := dk_182 1 16 (dk_at dksX2_isNeverMore_1 0 rfl rfl)
theorem dX2_isNeverMore_27 : decode cX2_isNeverMore 27 = .ok (.ifCond .eq 5, 3) := dk_153 0 5 (dk_at dksX2_isNeverMore_1 3 rfl rfl)
theorem dX2_isNeverMore_30 : decode cX2_isNeverMore 30 = .ok (.iconst 0, 1) := dk_3 (dk_at dksX2_isNeverMore_1 6 rfl rfl)
theorem dX2_isNeverMore_31 : decode cX2_isNeverMore 31 = .ok (.ireturn, 1) := dk_172 (dk_at dksX2_isNeverMore_1 7 rfl rfl)
theorem dX2_isNeverMore_32 : decode cX2_isNeverMore 32 = .ok (.iinc 3 1, 3) := dk_132 3 1 (dk_at dksX2_isNeverMore_1 8 rfl rfl)
theorem dX2_isNeverMore_35 : decode cX2_isNeverMore 35 = .ok (.goto (-33), 3) := dk_167 255 223 (dk_at dksX2_isNeverMore_1 11 rfl rfl)
theorem dX2_isNeverMore_38 : decode cX2_isNeverMore 38 = .ok (.iconst 1, 1) := dk_4 (dk_at dksX2_isNeverMore_1 14 rfl rfl)
theorem dX2_isNeverMore_39 : decode cX2_isNeverMore 39 = .ok (.ireturn, 1) := dk_172 (dk_at dksX2_isNeverMore_1 15 rfl rfl)
abbrev cX2_stepFor : ByteArray := prog_16_method_75_code
def yX2_stepFor : MethodName := ⟨RX2, "stepFor", "(II)I"⟩
def dkwX2_stepFor_2 : List UInt8 := [96, 46, 182, 0, 253, 182, 1, 16, 153, 0, 6, 21, 4, 172, 132, 4, 1, 167, 255, 219, 16, 254, 172]
abbrev dktX2_stepFor_2 : List UInt8 := dkwX2_stepFor_2 ++ []
def dkwX2_stepFor_1 : List UInt8 := [172, 3, 54, 4, 21, 4, 16, 20, 163, 0, 36, 42, 42, 27, 28, 21, 4, 42, 180, 0, 20, 16, 13, 27]
abbrev dktX2_stepFor_1 : List UInt8 := dkwX2_stepFor_1 ++ dktX2_stepFor_2
def dkwX2_stepFor_0 : List UInt8 := [42, 182, 0, 164, 42, 42, 27, 182, 0, 239, 28, 182, 1, 23, 62, 29, 153, 0, 9, 42, 29, 182, 0, 167]
abbrev dktX2_stepFor_0 : List UInt8 := dkwX2_stepFor_0 ++ dktX2_stepFor_1
theorem dksX2_stepFor_0 : cX2_stepFor.data.toList.drop 0 = dktX2_stepFor_0 := by decide +kernel
theorem dksX2_stepFor_1 : cX2_stepFor.data.toList.drop 24 = dktX2_stepFor_1 := dk_seg dksX2_stepFor_0 24 rfl rfl
theorem dksX2_stepFor_2 : cX2_stepFor.data.toList.drop 48 = dktX2_stepFor_2 := dk_seg dksX2_stepFor_1 24 rfl rfl
theorem dX2_stepFor_0 : decode cX2_stepFor 0 = .ok (.aload_n 0, 1) := dk_42 (dk_at dksX2_stepFor_0 0 rfl rfl)
theorem dX2_stepFor_1 : decode cX2_stepFor 1 = .ok (.invokevirtual 164, 3) := dk_182 0 164 (dk_at dksX2_stepFor_0 1 rfl rfl)
theorem dX2_stepFor_4 : decode cX2_stepFor 4 = .ok (.aload_n 0, 1) := dk_42 (dk_at dksX2_stepFor_0 4 rfl rfl)
theorem dX2_stepFor_5 : decode cX2_stepFor 5 = .ok (.aload_n 0, 1) := dk_42 (dk_at dksX2_stepFor_0 5 rfl rfl)
theorem dX2_stepFor_6 : decode cX2_stepFor 6 = .ok (.iload_n 1, 1) := dk_27 (dk_at dksX2_stepFor_0 6 rfl rfl)
theorem dX2_stepFor_7 : decode cX2_stepFor 7 = .ok (.invokevirtual 239, 3) := dk_182 0 239 (dk_at dksX2_stepFor_0 7 rfl rfl)
theorem dX2_stepFor_10 : decode cX2_stepFor 10 = .ok (.iload_n 2, 1) := dk_28 (dk_at dksX2_stepFor_0 10 rfl rfl)
theorem dX2_stepFor_11 : decode cX2_stepFor 11 = .ok (.invokevirtual 279, 3) := dk_182 1 23 (dk_at dksX2_stepFor_0 11 rfl rfl)
theorem dX2_stepFor_14 : decode cX2_stepFor 14 = .ok (.istore_n 3, 1) := dk_62 (dk_at dksX2_stepFor_0 14 rfl rfl)
theorem dX2_stepFor_15 : decode cX2_stepFor 15 = .ok (.iload_n 3, 1) := dk_29 (dk_at dksX2_stepFor_0 15 rfl rfl)
theorem dX2_stepFor_16 : decode cX2_stepFor 16 = .ok (.ifCond .eq 9, 3) := dk_153 0 9 (dk_at dksX2_stepFor_0 16 rfl rfl)
theorem dX2_stepFor_19 : decode cX2_stepFor 19 = .ok (.aload_n 0, 1) := dk_42 (dk_at dksX2_stepFor_0 19 rfl rfl)
theorem dX2_stepFor_20 : decode cX2_stepFor 20 = .ok (.iload_n 3, 1) := dk_29 (dk_at dksX2_stepFor_0 20 rfl rfl)
theorem dX2_stepFor_21 : decode cX2_stepFor 21 = .ok (.invokevirtual 167, 3) := dk_182 0 167 (dk_at dksX2_stepFor_0 21 rfl rfl)
theorem dX2_stepFor_24 : decode cX2_stepFor 24 = .ok (.ireturn, 1) := dk_172 (dk_at dksX2_stepFor_1 0 rfl rfl)
theorem dX2_stepFor_25 : decode cX2_stepFor 25 = .ok (.iconst 0, 1) := dk_3 (dk_at dksX2_stepFor_1 1 rfl rfl)
theorem dX2_stepFor_26 : decode cX2_stepFor 26 = .ok (.istore 4, 2) := dk_54 4 (dk_at dksX2_stepFor_1 2 rfl rfl)
theorem dX2_stepFor_28 : decode cX2_stepFor 28 = .ok (.iload 4, 2) := dk_21 4 (dk_at dksX2_stepFor_1 4 rfl rfl)
theorem dX2_stepFor_30 : decode cX2_stepFor 30 = .ok (.bipush 20, 2) := dk_16 20 (dk_at dksX2_stepFor_1 6 rfl rfl)
theorem dX2_stepFor_32 : decode cX2_stepFor 32 = .ok (.if_icmp .gt 36, 3) := dk_163 0 36 (dk_at dksX2_stepFor_1 8 rfl rfl)
theorem dX2_stepFor_35 : decode cX2_stepFor 35 = .ok (.aload_n 0, 1) := dk_42 (dk_at dksX2_stepFor_1 11 rfl rfl)
theorem dX2_stepFor_36 : decode cX2_stepFor 36 = .ok (.aload_n 0, 1) := dk_42 (dk_at dksX2_stepFor_1 12 rfl rfl)
theorem dX2_stepFor_37 : decode cX2_stepFor 37 = .ok (.iload_n 1, 1) := dk_27 (dk_at dksX2_stepFor_1 13 rfl rfl)
theorem dX2_stepFor_38 : decode cX2_stepFor 38 = .ok (.iload_n 2, 1) := dk_28 (dk_at dksX2_stepFor_1 14 rfl rfl)
theorem dX2_stepFor_39 : decode cX2_stepFor 39 = .ok (.iload 4, 2) := dk_21 4 (dk_at dksX2_stepFor_1 15 rfl rfl)
theorem dX2_stepFor_41 : decode cX2_stepFor 41 = .ok (.aload_n 0, 1) := dk_42 (dk_at dksX2_stepFor_1 17 rfl rfl)
theorem dX2_stepFor_42 : decode cX2_stepFor 42 = .ok (.getfield 20, 3) := dk_180 0 20 (dk_at dksX2_stepFor_1 18 rfl rfl)
theorem dX2_stepFor_45 : decode cX2_stepFor 45 = .ok (.bipush 13, 2) := dk_16 13 (dk_at dksX2_stepFor_1 21 rfl rfl)
theorem dX2_stepFor_47 : decode cX2_stepFor 47 = .ok (.iload_n 1, 1) := dk_27 (dk_at dksX2_stepFor_1 23 rfl rfl)
theorem dX2_stepFor_48 : decode cX2_stepFor 48 = .ok (.iadd, 1) := dk_96 (dk_at dksX2_stepFor_2 0 rfl rfl)
theorem dX2_stepFor_49 : decode cX2_stepFor 49 = .ok (.iaload, 1) := dk_46 (dk_at dksX2_stepFor_2 1 rfl rfl)
theorem dX2_stepFor_50 : decode cX2_stepFor 50 = .ok (.invokevirtual 253, 3) := dk_182 0 253 (dk_at dksX2_stepFor_2 2 rfl rfl)
theorem dX2_stepFor_53 : decode cX2_stepFor 53 = .ok (.invokevirtual 272, 3) := dk_182 1 16 (dk_at dksX2_stepFor_2 5 rfl rfl)
theorem dX2_stepFor_56 : decode cX2_stepFor 56 = .ok (.ifCond .eq 6, 3) := dk_153 0 6 (dk_at dksX2_stepFor_2 8 rfl rfl)
theorem dX2_stepFor_59 : decode cX2_stepFor 59 = .ok (.iload 4, 2) := dk_21 4 (dk_at dksX2_stepFor_2 11 rfl rfl)
theorem dX2_stepFor_61 : decode cX2_stepFor 61 = .ok (.ireturn, 1) := dk_172 (dk_at dksX2_stepFor_2 13 rfl rfl)
theorem dX2_stepFor_62 : decode cX2_stepFor 62 = .ok (.iinc 4 1, 3) := dk_132 4 1 (dk_at dksX2_stepFor_2 14 rfl rfl)
theorem dX2_stepFor_65 : decode cX2_stepFor 65 = .ok (.goto (-37), 3) := dk_167 255 219 (dk_at dksX2_stepFor_2 17 rfl rfl)
theorem dX2_stepFor_68 : decode cX2_stepFor 68 = .ok (.bipush (-2), 2) := dk_16 254 (dk_at dksX2_stepFor_2 20 rfl rfl)
theorem dX2_stepFor_70 : decode cX2_stepFor 70 = .ok (.ireturn, 1) := dk_172 (dk_at dksX2_stepFor_2 22 rfl rfl)
abbrev cX2_fits : ByteArray := prog_16_method_80_code
def yX2_fits : MethodName := ⟨RX2, "fits", "()I"⟩
def dkwX2_fits_1 : List UInt8 := [180, 1, 59, 172]
abbrev dktX2_fits_1 : List UInt8 := dkwX2_fits_1 ++ []
def dkwX2_fits_0 : List UInt8 := [42, 182, 0, 164, 42, 180, 0, 177, 154, 0, 9, 42, 4, 182, 0, 167, 172, 42, 2, 182, 1, 71, 87, 42]
abbrev dktX2_fits_0 : List UInt8 := dkwX2_fits_0 ++ dktX2_fits_1
theorem dksX2_fits_0 : cX2_fits.data.toList.drop 0 = dktX2_fits_0 := by decide +kernel
theorem dksX2_fits_1 : cX2_fits.data.toList.drop 24 = dktX2_fits_1 := dk_seg dksX2_fits_0 24 rfl rfl
theorem dX2_fits_0 : decode cX2_fits 0 = .ok (.aload_n 0, 1) := dk_42 (dk_at dksX2_fits_0 0 rfl rfl)
theorem dX2_fits_1 : decode cX2_fits 1 = .ok (.invokevirtual 164, 3) := dk_182 0 164 (dk_at dksX2_fits_0 1 rfl rfl)
theorem dX2_fits_4 : decode cX2_fits 4 = .ok (.aload_n 0, 1) := dk_42 (dk_at dksX2_fits_0 4 rfl rfl)
theorem dX2_fits_5 : decode cX2_fits 5 = .ok (.getfield 177, 3) := dk_180 0 177 (dk_at dksX2_fits_0 5 rfl rfl)
theorem dX2_fits_8 : decode cX2_fits 8 = .ok (.ifCond .ne 9, 3) := dk_154 0 9 (dk_at dksX2_fits_0 8 rfl rfl)
theorem dX2_fits_11 : decode cX2_fits 11 = .ok (.aload_n 0, 1) := dk_42 (dk_at dksX2_fits_0 11 rfl rfl)
theorem dX2_fits_12 : decode cX2_fits 12 = .ok (.iconst 1, 1) := dk_4 (dk_at dksX2_fits_0 12 rfl rfl)
theorem dX2_fits_13 : decode cX2_fits 13 = .ok (.invokevirtual 167, 3) := dk_182 0 167 (dk_at dksX2_fits_0 13 rfl rfl)
theorem dX2_fits_16 : decode cX2_fits 16 = .ok (.ireturn, 1) := dk_172 (dk_at dksX2_fits_0 16 rfl rfl)
theorem dX2_fits_17 : decode cX2_fits 17 = .ok (.aload_n 0, 1) := dk_42 (dk_at dksX2_fits_0 17 rfl rfl)
theorem dX2_fits_18 : decode cX2_fits 18 = .ok (.iconst (-1), 1) := dk_2 (dk_at dksX2_fits_0 18 rfl rfl)
theorem dX2_fits_19 : decode cX2_fits 19 = .ok (.invokevirtual 327, 3) := dk_182 1 71 (dk_at dksX2_fits_0 19 rfl rfl)
theorem dX2_fits_22 : decode cX2_fits 22 = .ok (.pop, 1) := dk_87 (dk_at dksX2_fits_0 22 rfl rfl)
theorem dX2_fits_23 : decode cX2_fits 23 = .ok (.aload_n 0, 1) := dk_42 (dk_at dksX2_fits_0 23 rfl rfl)
theorem dX2_fits_24 : decode cX2_fits 24 = .ok (.getfield 315, 3) := dk_180 1 59 (dk_at dksX2_fits_1 0 rfl rfl)
theorem dX2_fits_27 : decode cX2_fits 27 = .ok (.ireturn, 1) := dk_172 (dk_at dksX2_fits_1 3 rfl rfl)
abbrev cX2_seekSets : ByteArray := prog_16_method_79_code
def yX2_seekSets : MethodName := ⟨RX2, "seekSets", "(I)I"⟩
def dkwX2_seekSets_7 : List UInt8 := [181, 1, 65, 28, 172]
abbrev dktX2_seekSets_7 : List UInt8 := dkwX2_seekSets_7 ++ []
def dkwX2_seekSets_6 : List UInt8 := [79, 132, 4, 1, 167, 255, 226, 132, 3, 1, 167, 255, 152, 42, 180, 1, 59, 154, 0, 8, 42, 3]
abbrev dktX2_seekSets_6 : List UInt8 := dkwX2_seekSets_6 ++ dktX2_seekSets_7
def dkwX2_seekSets_5 : List UInt8 := [42, 180, 0, 20, 8, 46, 162, 0, 25, 42, 180, 0, 47, 21, 4, 92, 46, 29, 21, 4, 122, 4, 126, 96]
abbrev dktX2_seekSets_5 : List UInt8 := dkwX2_seekSets_5 ++ dktX2_seekSets_6
def dkwX2_seekSets_4 : List UInt8 := [89, 180, 1, 62, 29, 128, 181, 1, 62, 42, 89, 180, 1, 65, 29, 126, 181, 1, 65, 3, 54, 4, 21, 4]
abbrev dktX2_seekSets_4 : List UInt8 := dkwX2_seekSets_4 ++ dktX2_seekSets_5
def dkwX2_seekSets_3 : List UInt8 := [167, 0, 79, 42, 180, 1, 59, 27, 160, 0, 5, 29, 61, 42, 89, 180, 1, 59, 4, 96, 181, 1, 59, 42]
abbrev dktX2_seekSets_3 : List UInt8 := dkwX2_seekSets_3 ++ dktX2_seekSets_4
def dkwX2_seekSets_2 : List UInt8 := [62, 29, 4, 42, 180, 0, 20, 8, 46, 120, 162, 0, 98, 42, 29, 182, 1, 68, 16, 254, 159, 0, 6]
abbrev dktX2_seekSets_2 : List UInt8 := dkwX2_seekSets_2 ++ dktX2_seekSets_3
def dkwX2_seekSets_1 : List UInt8 := [181, 1, 65, 3, 62, 29, 7, 162, 0, 16, 42, 180, 0, 47, 29, 3, 79, 132, 3, 1, 167, 255, 241, 3]
abbrev dktX2_seekSets_1 : List UInt8 := dkwX2_seekSets_1 ++ dktX2_seekSets_2
def dkwX2_seekSets_0 : List UInt8 := [2, 61, 42, 3, 181, 1, 59, 42, 3, 181, 1, 62, 42, 4, 42, 180, 0, 20, 8, 46, 120, 4, 100]
abbrev dktX2_seekSets_0 : List UInt8 := dkwX2_seekSets_0 ++ dktX2_seekSets_1
theorem dksX2_seekSets_0 : cX2_seekSets.data.toList.drop 0 = dktX2_seekSets_0 := by decide +kernel
theorem dksX2_seekSets_1 : cX2_seekSets.data.toList.drop 23 = dktX2_seekSets_1 := dk_seg dksX2_seekSets_0 23 rfl rfl
theorem dksX2_seekSets_2 : cX2_seekSets.data.toList.drop 47 = dktX2_seekSets_2 := dk_seg dksX2_seekSets_1 24 rfl rfl
theorem dksX2_seekSets_3 : cX2_seekSets.data.toList.drop 70 = dktX2_seekSets_3 := dk_seg dksX2_seekSets_2 23 rfl rfl
theorem dksX2_seekSets_4 : cX2_seekSets.data.toList.drop 94 = dktX2_seekSets_4 := dk_seg dksX2_seekSets_3 24 rfl rfl
theorem dksX2_seekSets_5 : cX2_seekSets.data.toList.drop 118 = dktX2_seekSets_5 := dk_seg dksX2_seekSets_4 24 rfl rfl
theorem dksX2_seekSets_6 : cX2_seekSets.data.toList.drop 142 = dktX2_seekSets_6 := dk_seg dksX2_seekSets_5 24 rfl rfl
theorem dksX2_seekSets_7 : cX2_seekSets.data.toList.drop 164 = dktX2_seekSets_7 := dk_seg dksX2_seekSets_6 22 rfl rfl
theorem dX2_seekSets_0 : decode cX2_seekSets 0 = .ok (.iconst (-1), 1) := dk_2 (dk_at dksX2_seekSets_0 0 rfl rfl)
theorem dX2_seekSets_1 : decode cX2_seekSets 1 = .ok (.istore_n 2, 1) := dk_61 (dk_at dksX2_seekSets_0 1 rfl rfl)
theorem dX2_seekSets_2 : decode cX2_seekSets 2 = .ok (.aload_n 0, 1) := dk_42 (dk_at dksX2_seekSets_0 2 rfl rfl)
theorem dX2_seekSets_3 : decode cX2_seekSets 3 = .ok (.iconst 0, 1) := dk_3 (dk_at dksX2_seekSets_0 3 rfl rfl)
theorem dX2_seekSets_4 : decode cX2_seekSets 4 = .ok (.putfield 315, 3) := dk_181 1 59 (dk_at dksX2_seekSets_0 4 rfl rfl)
theorem dX2_seekSets_7 : decode cX2_seekSets 7 = .ok (.aload_n 0, 1) := dk_42 (dk_at dksX2_seekSets_0 7 rfl rfl)
theorem dX2_seekSets_8 : decode cX2_seekSets 8 = .ok (.iconst 0, 1) := dk_3 (dk_at dksX2_seekSets_0 8 rfl rfl)
theorem dX2_seekSets_9 : decode cX2_seekSets 9 = .ok (.putfield 318, 3) := dk_181 1 62 (dk_at dksX2_seekSets_0 9 rfl rfl)
theorem dX2_seekSets_12 : decode cX2_seekSets 12 = .ok (.aload_n 0, 1) := dk_42 (dk_at dksX2_seekSets_0 12 rfl rfl)
theorem dX2_seekSets_13 : decode cX2_seekSets 13 = .ok (.iconst 1, 1) := dk_4 (dk_at dksX2_seekSets_0 13 rfl rfl)
theorem dX2_seekSets_14 : decode cX2_seekSets 14 = .ok (.aload_n 0, 1) := dk_42 (dk_at dksX2_seekSets_0 14 rfl rfl)
theorem dX2_seekSets_15 : decode cX2_seekSets 15 = .ok (.getfield 20, 3) := dk_180 0 20 (dk_at dksX2_seekSets_0 15 rfl rfl)
theorem dX2_seekSets_18 : decode cX2_seekSets 18 = .ok (.iconst 5, 1) := dk_8 (dk_at dksX2_seekSets_0 18 rfl rfl)
theorem dX2_seekSets_19 : decode cX2_seekSets 19 = .ok (.iaload, 1) := dk_46 (dk_at dksX2_seekSets_0 19 rfl rfl)
theorem dX2_seekSets_20 : decode cX2_seekSets 20 = .ok (.ishl, 1) := dk_120 (dk_at dksX2_seekSets_0 20 rfl rfl)
theorem dX2_seekSets_21 : decode cX2_seekSets 21 = .ok (.iconst 1, 1) := dk_4 (dk_at dksX2_seekSets_0 21 rfl rfl)
theorem dX2_seekSets_22 : decode cX2_seekSets 22 = .ok (.isub, 1) := dk_100 (dk_at dksX2_seekSets_0 22 rfl rfl)
theorem dX2_seekSets_23 : decode cX2_seekSets 23 = .ok (.putfield 321, 3) := dk_181 1 65 (dk_at dksX2_seekSets_1 0 rfl rfl)
theorem dX2_seekSets_26 : decode cX2_seekSets 26 = .ok (.iconst 0, 1) := dk_3 (dk_at dksX2_seekSets_1 3 rfl rfl)
theorem dX2_seekSets_27 : decode cX2_seekSets 27 = .ok (.istore_n 3, 1) := dk_62 (dk_at dksX2_seekSets_1 4 rfl rfl)
theorem dX2_seekSets_28 : decode cX2_seekSets 28 = .ok (.iload_n 3, 1) := dk_29 (dk_at dksX2_seekSets_1 5 rfl rfl)
theorem dX2_seekSets_29 : decode cX2_seekSets 29 = .ok (.iconst 4, 1) := dk_7 (dk_at dksX2_seekSets_1 6 rfl rfl)
theorem dX2_seekSets_30 : decode cX2_seekSets 30 = .ok (.if_icmp .ge 16, 3) := dk_162 0 16 (dk_at dksX2_seekSets_1 7 rfl rfl)
theorem dX2_seekSets_33 : decode cX2_seekSets 33 = .ok (.aload_n 0, 1) := dk_42 (dk_at dksX2_seekSets_1 10 rfl rfl)
theorem dX2_seekSets_34 : decode cX2_seekSets 34 = .ok (.getfield 47, 3) := dk_180 0 47 (dk_at dksX2_seekSets_1 11 rfl rfl)
theorem dX2_seekSets_37 : decode cX2_seekSets 37 = .ok (.iload_n 3, 1) := dk_29 (dk_at dksX2_seekSets_1 14 rfl rfl)
theorem dX2_seekSets_38 : decode cX2_seekSets 38 = .ok (.iconst 0, 1) := dk_3 (dk_at dksX2_seekSets_1 15 rfl rfl)
theorem dX2_seekSets_39 : decode cX2_seekSets 39 = .ok (.iastore, 1) := dk_79 (dk_at dksX2_seekSets_1 16 rfl rfl)
theorem dX2_seekSets_40 : decode cX2_seekSets 40 = .ok (.iinc 3 1, 3) := dk_132 3 1 (dk_at dksX2_seekSets_1 17 rfl rfl)
theorem dX2_seekSets_43 : decode cX2_seekSets 43 = .ok (.goto (-15), 3) := dk_167 255 241 (dk_at dksX2_seekSets_1 20 rfl rfl)
theorem dX2_seekSets_46 : decode cX2_seekSets 46 = .ok (.iconst 0, 1) := dk_3 (dk_at dksX2_seekSets_1 23 rfl rfl)
theorem dX2_seekSets_47 : decode cX2_seekSets 47 = .ok (.istore_n 3, 1) := dk_62 (dk_at dksX2_seekSets_2 0 rfl rfl)
theorem dX2_seekSets_48 : decode cX2_seekSets 48 = .ok (.iload_n 3, 1) := dk_29 (dk_at dksX2_seekSets_2 1 rfl rfl)
theorem dX2_seekSets_49 : decode cX2_seekSets 49 = .ok (.iconst 1, 1) := dk_4 (dk_at dksX2_seekSets_2 2 rfl rfl)
theorem dX2_seekSets_50 : decode cX2_seekSets 50 = .ok (.aload_n 0, 1) := dk_42 (dk_at dksX2_seekSets_2 3 rfl rfl)
theorem dX2_seekSets_51 : decode cX2_seekSets 51 = .ok (.getfield 20, 3) := dk_180 0 20 (dk_at dksX2_seekSets_2 4 rfl rfl)
theorem dX2_seekSets_54 : decode cX2_seekSets 54 = .ok (.iconst 5, 1) := dk_8 (dk_at dksX2_seekSets_2 7 rfl rfl)
theorem dX2_seekSets_55 : decode cX2_seekSets 55 = .ok (.iaload, 1) := dk_46 (dk_at dksX2_seekSets_2 8 rfl rfl)
theorem dX2_seekSets_56 : decode cX2_seekSets 56 = .ok (.ishl, 1) := dk_120 (dk_at dksX2_seekSets_2 9 rfl rfl)
theorem dX2_seekSets_57 : decode cX2_seekSets 57 = .ok (.if_icmp .ge 98, 3) := dk_162 0 98 (dk_at dksX2_seekSets_2 10 rfl rfl)
theorem dX2_seekSets_60 : decode cX2_seekSets 60 = .ok (.aload_n 0, 1) := dk_42 (dk_at dksX2_seekSets_2 13 rfl rfl)
theorem dX2_seekSets_61 : decode cX2_seekSets 61 = .ok (.iload_n 3, 1) := dk_29 (dk_at dksX2_seekSets_2 14 rfl rfl)
theorem dX2_seekSets_62 : decode cX2_seekSets 62 = .ok (.invokevirtual 324, 3) := dk_182 1 68 (dk_at dksX2_seekSets_2 15 rfl rfl)
theorem dX2_seekSets_65 : decode cX2_seekSets 65 = .ok (.bipush (-2), 2) := dk_16 254 (dk_at dksX2_seekSets_2 18 rfl rfl)
theorem dX2_seekSets_67 : decode cX2_seekSets 67 = .ok (.if_icmp .eq 6, 3) := dk_159 0 6 (dk_at dksX2_seekSets_2 20 rfl rfl)
theorem dX2_seekSets_70 : decode cX2_seekSets 70 = .ok (.goto 79, 3) := dk_167 0 79 (dk_at dksX2_seekSets_3 0 rfl rfl)
theorem dX2_seekSets_73 : decode cX2_seekSets 73 = .ok (.aload_n 0, 1) := dk_42 (dk_at dksX2_seekSets_3 3 rfl rfl)
theorem dX2_seekSets_74 : decode cX2_seekSets 74 = .ok (.getfield 315, 3) := dk_180 1 59 (dk_at dksX2_seekSets_3 4 rfl rfl)
theorem dX2_seekSets_77 : decode cX2_seekSets 77 = .ok (.iload_n 1, 1) := dk_27 (dk_at dksX2_seekSets_3 7 rfl rfl)
theorem dX2_seekSets_78 : decode cX2_seekSets 78 = .ok (.if_icmp .ne 5, 3) := dk_160 0 5 (dk_at dksX2_seekSets_3 8 rfl rfl)
theorem dX2_seekSets_81 : decode cX2_seekSets 81 = .ok (.iload_n 3, 1) := dk_29 (dk_at dksX2_seekSets_3 11 rfl rfl)
theorem dX2_seekSets_82 : decode cX2_seekSets 82 = .ok (.istore_n 2, 1) := dk_61 (dk_at dksX2_seekSets_3 12 rfl rfl)
theorem dX2_seekSets_83 : decode cX2_seekSets 83 = .ok (.aload_n 0, 1) := dk_42 (dk_at dksX2_seekSets_3 13 rfl rfl)
theorem dX2_seekSets_84 : decode cX2_seekSets 84 = .ok (.dup, 1) := dk_89 (dk_at dksX2_seekSets_3 14 rfl rfl)
theorem dX2_seekSets_85 : decode cX2_seekSets 85 = .ok (.getfield 315, 3) := dk_180 1 59 (dk_at dksX2_seekSets_3 15 rfl rfl)
theorem dX2_seekSets_88 : decode cX2_seekSets 88 = .ok (.iconst 1, 1) := dk_4 (dk_at dksX2_seekSets_3 18 rfl rfl)
theorem dX2_seekSets_89 : decode cX2_seekSets 89 = .ok (.iadd, 1) := dk_96 (dk_at dksX2_seekSets_3 19 rfl rfl)
theorem dX2_seekSets_90 : decode cX2_seekSets 90 = .ok (.putfield 315, 3) := dk_181 1 59 (dk_at dksX2_seekSets_3 20 rfl rfl)
theorem dX2_seekSets_93 : decode cX2_seekSets 93 = .ok (.aload_n 0, 1) := dk_42 (dk_at dksX2_seekSets_3 23 rfl rfl)
theorem dX2_seekSets_94 : decode cX2_seekSets 94 = .ok (.dup, 1) := dk_89 (dk_at dksX2_seekSets_4 0 rfl rfl)
theorem dX2_seekSets_95 : decode cX2_seekSets 95 = .ok (.getfield 318, 3) := dk_180 1 62 (dk_at dksX2_seekSets_4 1 rfl rfl)
theorem dX2_seekSets_98 : decode cX2_seekSets 98 = .ok (.iload_n 3, 1) := dk_29 (dk_at dksX2_seekSets_4 4 rfl rfl)
theorem dX2_seekSets_99 : decode cX2_seekSets 99 = .ok (.ior, 1) := dk_128 (dk_at dksX2_seekSets_4 5 rfl rfl)
theorem dX2_seekSets_100 : decode cX2_seekSets 100 = .ok (.putfield 318, 3) := dk_181 1 62 (dk_at dksX2_seekSets_4 6 rfl rfl)
theorem dX2_seekSets_103 : decode cX2_seekSets 103 = .ok (.aload_n 0, 1) := dk_42 (dk_at dksX2_seekSets_4 9 rfl rfl)
theorem dX2_seekSets_104 : decode cX2_seekSets 104 = .ok (.dup, 1) := dk_89 (dk_at dksX2_seekSets_4 10 rfl rfl)
theorem dX2_seekSets_105 : decode cX2_seekSets 105 = .ok (.getfield 321, 3) := dk_180 1 65 (dk_at dksX2_seekSets_4 11 rfl rfl)
theorem dX2_seekSets_108 : decode cX2_seekSets 108 = .ok (.iload_n 3, 1) := dk_29 (dk_at dksX2_seekSets_4 14 rfl rfl)
theorem dX2_seekSets_109 : decode cX2_seekSets 109 = .ok (.iand, 1) := dk_126 (dk_at dksX2_seekSets_4 15 rfl rfl)
theorem dX2_seekSets_110 : decode cX2_seekSets 110 = .ok (.putfield 321, 3) := dk_181 1 65 (dk_at dksX2_seekSets_4 16 rfl rfl)
theorem dX2_seekSets_113 : decode cX2_seekSets 113 = .ok (.iconst 0, 1) := dk_3 (dk_at dksX2_seekSets_4 19 rfl rfl)
theorem dX2_seekSets_114 : decode cX2_seekSets 114 = .ok (.istore 4, 2) := dk_54 4 (dk_at dksX2_seekSets_4 20 rfl rfl)
theorem dX2_seekSets_116 : decode cX2_seekSets 116 = .ok (.iload 4, 2) := dk_21 4 (dk_at dksX2_seekSets_4 22 rfl rfl)
theorem dX2_seekSets_118 : decode cX2_seekSets 118 = .ok (.aload_n 0, 1) := dk_42 (dk_at dksX2_seekSets_5 0 rfl rfl)
theorem dX2_seekSets_119 : decode cX2_seekSets 119 = .ok (.getfield 20, 3) := dk_180 0 20 (dk_at dksX2_seekSets_5 1 rfl rfl)
theorem dX2_seekSets_122 : decode cX2_seekSets 122 = .ok (.iconst 5, 1) := dk_8 (dk_at dksX2_seekSets_5 4 rfl rfl)
theorem dX2_seekSets_123 : decode cX2_seekSets 123 = .ok (.iaload, 1) := dk_46 (dk_at dksX2_seekSets_5 5 rfl rfl)
theorem dX2_seekSets_124 : decode cX2_seekSets 124 = .ok (.if_icmp .ge 25, 3) := dk_162 0 25 (dk_at dksX2_seekSets_5 6 rfl rfl)
theorem dX2_seekSets_127 : decode cX2_seekSets 127 = .ok (.aload_n 0, 1) := dk_42 (dk_at dksX2_seekSets_5 9 rfl rfl)
theorem dX2_seekSets_128 : decode cX2_seekSets 128 = .ok (.getfield 47, 3) := dk_180 0 47 (dk_at dksX2_seekSets_5 10 rfl rfl)
theorem dX2_seekSets_131 : decode cX2_seekSets 131 = .ok (.iload 4, 2) := dk_21 4 (dk_at dksX2_seekSets_5 13 rfl rfl)
theorem dX2_seekSets_133 : decode cX2_seekSets 133 = .ok (.dup2, 1) := dk_92 (dk_at dksX2_seekSets_5 15 rfl rfl)
theorem dX2_seekSets_134 : decode cX2_seekSets 134 = .ok (.iaload, 1) := dk_46 (dk_at dksX2_seekSets_5 16 rfl rfl)
theorem dX2_seekSets_135 : decode cX2_seekSets 135 = .ok (.iload_n 3, 1) := dk_29 (dk_at dksX2_seekSets_5 17 rfl rfl)
theorem dX2_seekSets_136 : decode cX2_seekSets 136 = .ok (.iload 4, 2) := dk_21 4 (dk_at dksX2_seekSets_5 18 rfl rfl)
theorem dX2_seekSets_138 : decode cX2_seekSets 138 = .ok (.ishr, 1) := dk_122 (dk_at dksX2_seekSets_5 20 rfl rfl)
theorem dX2_seekSets_139 : decode cX2_seekSets 139 = .ok (.iconst 1, 1) := dk_4 (dk_at dksX2_seekSets_5 21 rfl rfl)
theorem dX2_seekSets_140 : decode cX2_seekSets 140 = .ok (.iand, 1) := dk_126 (dk_at dksX2_seekSets_5 22 rfl rfl)
theorem dX2_seekSets_141 : decode cX2_seekSets 141 = .ok (.iadd, 1) := dk_96 (dk_at dksX2_seekSets_5 23 rfl rfl)
theorem dX2_seekSets_142 : decode cX2_seekSets 142 = .ok (.iastore, 1) := dk_79 (dk_at dksX2_seekSets_6 0 rfl rfl)
theorem dX2_seekSets_143 : decode cX2_seekSets 143 = .ok (.iinc 4 1, 3) := dk_132 4 1 (dk_at dksX2_seekSets_6 1 rfl rfl)
theorem dX2_seekSets_146 : decode cX2_seekSets 146 = .ok (.goto (-30), 3) := dk_167 255 226 (dk_at dksX2_seekSets_6 4 rfl rfl)
theorem dX2_seekSets_149 : decode cX2_seekSets 149 = .ok (.iinc 3 1, 3) := dk_132 3 1 (dk_at dksX2_seekSets_6 7 rfl rfl)
theorem dX2_seekSets_152 : decode cX2_seekSets 152 = .ok (.goto (-104), 3) := dk_167 255 152 (dk_at dksX2_seekSets_6 10 rfl rfl)
theorem dX2_seekSets_155 : decode cX2_seekSets 155 = .ok (.aload_n 0, 1) := dk_42 (dk_at dksX2_seekSets_6 13 rfl rfl)
theorem dX2_seekSets_156 : decode cX2_seekSets 156 = .ok (.getfield 315, 3) := dk_180 1 59 (dk_at dksX2_seekSets_6 14 rfl rfl)
theorem dX2_seekSets_159 : decode cX2_seekSets 159 = .ok (.ifCond .ne 8, 3) := dk_154 0 8 (dk_at dksX2_seekSets_6 17 rfl rfl)
theorem dX2_seekSets_162 : decode cX2_seekSets 162 = .ok (.aload_n 0, 1) := dk_42 (dk_at dksX2_seekSets_6 20 rfl rfl)
theorem dX2_seekSets_163 : decode cX2_seekSets 163 = .ok (.iconst 0, 1) := dk_3 (dk_at dksX2_seekSets_6 21 rfl rfl)
theorem dX2_seekSets_164 : decode cX2_seekSets 164 = .ok (.putfield 321, 3) := dk_181 1 65 (dk_at dksX2_seekSets_7 0 rfl rfl)
theorem dX2_seekSets_167 : decode cX2_seekSets 167 = .ok (.iload_n 2, 1) := dk_28 (dk_at dksX2_seekSets_7 3 rfl rfl)
theorem dX2_seekSets_168 : decode cX2_seekSets 168 = .ok (.ireturn, 1) := dk_172 (dk_at dksX2_seekSets_7 4 rfl rfl)
abbrev cX2_wrongBy : ByteArray := prog_16_method_78_code
def yX2_wrongBy : MethodName := ⟨RX2, "wrongBy", "(I)I"⟩
def dkwX2_wrongBy_2 : List UInt8 := [6, 28, 104, 96, 5, 96, 46, 159, 0, 5, 28, 172, 132, 2, 1, 167, 255, 195, 16, 254, 172]
abbrev dktX2_wrongBy_2 : List UInt8 := dkwX2_wrongBy_2 ++ []
def dkwX2_wrongBy_1 : List UInt8 := [46, 42, 180, 0, 20, 16, 26, 6, 28, 104, 96, 4, 96, 46, 27, 182, 1, 56, 42, 180, 0, 20, 16, 26]
abbrev dktX2_wrongBy_1 : List UInt8 := dkwX2_wrongBy_1 ++ dktX2_wrongBy_2
def dkwX2_wrongBy_0 : List UInt8 := [3, 61, 28, 42, 180, 0, 20, 16, 6, 46, 162, 0, 56, 42, 42, 180, 0, 20, 16, 26, 6, 28, 104, 96]
abbrev dktX2_wrongBy_0 : List UInt8 := dkwX2_wrongBy_0 ++ dktX2_wrongBy_1
theorem dksX2_wrongBy_0 : cX2_wrongBy.data.toList.drop 0 = dktX2_wrongBy_0 := by decide +kernel
theorem dksX2_wrongBy_1 : cX2_wrongBy.data.toList.drop 24 = dktX2_wrongBy_1 := dk_seg dksX2_wrongBy_0 24 rfl rfl
theorem dksX2_wrongBy_2 : cX2_wrongBy.data.toList.drop 48 = dktX2_wrongBy_2 := dk_seg dksX2_wrongBy_1 24 rfl rfl
theorem dX2_wrongBy_0 : decode cX2_wrongBy 0 = .ok (.iconst 0, 1) := dk_3 (dk_at dksX2_wrongBy_0 0 rfl rfl)
theorem dX2_wrongBy_1 : decode cX2_wrongBy 1 = .ok (.istore_n 2, 1) := dk_61 (dk_at dksX2_wrongBy_0 1 rfl rfl)
theorem dX2_wrongBy_2 : decode cX2_wrongBy 2 = .ok (.iload_n 2, 1) := dk_28 (dk_at dksX2_wrongBy_0 2 rfl rfl)
theorem dX2_wrongBy_3 : decode cX2_wrongBy 3 = .ok (.aload_n 0, 1) := dk_42 (dk_at dksX2_wrongBy_0 3 rfl rfl)
theorem dX2_wrongBy_4 : decode cX2_wrongBy 4 = .ok (.getfield 20, 3) := dk_180 0 20 (dk_at dksX2_wrongBy_0 4 rfl rfl)
theorem dX2_wrongBy_7 : decode cX2_wrongBy 7 = .ok (.bipush 6, 2) := dk_16 6 (dk_at dksX2_wrongBy_0 7 rfl rfl)
theorem dX2_wrongBy_9 : decode cX2_wrongBy 9 = .ok (.iaload, 1) := dk_46 (dk_at dksX2_wrongBy_0 9 rfl rfl)
theorem dX2_wrongBy_10 : decode cX2_wrongBy 10 = .ok (.if_icmp .ge 56, 3) := dk_162 0 56 (dk_at dksX2_wrongBy_0 10 rfl rfl)
theorem dX2_wrongBy_13 : decode cX2_wrongBy 13 = .ok (.aload_n 0, 1) := dk_42 (dk_at dksX2_wrongBy_0 13 rfl rfl)
theorem dX2_wrongBy_14 : decode cX2_wrongBy 14 = .ok (.aload_n 0, 1) := dk_42 (dk_at dksX2_wrongBy_0 14 rfl rfl)
theorem dX2_wrongBy_15 : decode cX2_wrongBy 15 = .ok (.getfield 20, 3) := dk_180 0 20 (dk_at dksX2_wrongBy_0 15 rfl rfl)
theorem dX2_wrongBy_18 : decode cX2_wrongBy 18 = .ok (.bipush 26, 2) := dk_16 26 (dk_at dksX2_wrongBy_0 18 rfl rfl)
theorem dX2_wrongBy_20 : decode cX2_wrongBy 20 = .ok (.iconst 3, 1) := dk_6 (dk_at dksX2_wrongBy_0 20 rfl rfl)
theorem dX2_wrongBy_21 : decode cX2_wrongBy 21 = .ok (.iload_n 2, 1) := dk_28 (dk_at dksX2_wrongBy_0 21 rfl rfl)
theorem dX2_wrongBy_22 : decode cX2_wrongBy 22 = .ok (.imul, 1) := dk_104 (dk_at dksX2_wrongBy_0 22 rfl rfl)
theorem dX2_wrongBy_23 : decode cX2_wrongBy 23 = .ok (.iadd, 1) := dk_96 (dk_at dksX2_wrongBy_0 23 rfl rfl)
theorem dX2_wrongBy_24 : decode cX2_wrongBy 24 = .ok (.iaload, 1) := dk_46 (dk_at dksX2_wrongBy_1 0 rfl rfl)
theorem dX2_wrongBy_25 : decode cX2_wrongBy 25 = .ok (.aload_n 0, 1) := dk_42 (dk_at dksX2_wrongBy_1 1 rfl rfl)
theorem dX2_wrongBy_26 : decode cX2_wrongBy 26 = .ok (.getfield 20, 3) := dk_180 0 20 (dk_at dksX2_wrongBy_1 2 rfl rfl)
theorem dX2_wrongBy_29 : decode cX2_wrongBy 29 = .ok (.bipush 26, 2) := dk_16 26 (dk_at dksX2_wrongBy_1 5 rfl rfl)
theorem dX2_wrongBy_31 : decode cX2_wrongBy 31 = .ok (.iconst 3, 1) := dk_6 (dk_at dksX2_wrongBy_1 7 rfl rfl)
theorem dX2_wrongBy_32 : decode cX2_wrongBy 32 = .ok (.iload_n 2, 1) := dk_28 (dk_at dksX2_wrongBy_1 8 rfl rfl)
theorem dX2_wrongBy_33 : decode cX2_wrongBy 33 = .ok (.imul, 1) := dk_104 (dk_at dksX2_wrongBy_1 9 rfl rfl)
theorem dX2_wrongBy_34 : decode cX2_wrongBy 34 = .ok (.iadd, 1) := dk_96 (dk_at dksX2_wrongBy_1 10 rfl rfl)
theorem dX2_wrongBy_35 : decode cX2_wrongBy 35 = .ok (.iconst 1, 1) := dk_4 (dk_at dksX2_wrongBy_1 11 rfl rfl)
theorem dX2_wrongBy_36 : decode cX2_wrongBy 36 = .ok (.iadd, 1) := dk_96 (dk_at dksX2_wrongBy_1 12 rfl rfl)
theorem dX2_wrongBy_37 : decode cX2_wrongBy 37 = .ok (.iaload, 1) := dk_46 (dk_at dksX2_wrongBy_1 13 rfl rfl)
theorem dX2_wrongBy_38 : decode cX2_wrongBy 38 = .ok (.iload_n 1, 1) := dk_27 (dk_at dksX2_wrongBy_1 14 rfl rfl)
theorem dX2_wrongBy_39 : decode cX2_wrongBy 39 = .ok (.invokevirtual 312, 3) := dk_182 1 56 (dk_at dksX2_wrongBy_1 15 rfl rfl)
theorem dX2_wrongBy_42 : decode cX2_wrongBy 42 = .ok (.aload_n 0, 1) := dk_42 (dk_at dksX2_wrongBy_1 18 rfl rfl)
theorem dX2_wrongBy_43 : decode cX2_wrongBy 43 = .ok (.getfield 20, 3) := dk_180 0 20 (dk_at dksX2_wrongBy_1 19 rfl rfl)
theorem dX2_wrongBy_46 : decode cX2_wrongBy 46 = .ok (.bipush 26, 2) := dk_16 26 (dk_at dksX2_wrongBy_1 22 rfl rfl)
theorem dX2_wrongBy_48 : decode cX2_wrongBy 48 = .ok (.iconst 3, 1) := dk_6 (dk_at dksX2_wrongBy_2 0 rfl rfl)
theorem dX2_wrongBy_49 : decode cX2_wrongBy 49 = .ok (.iload_n 2, 1) := dk_28 (dk_at dksX2_wrongBy_2 1 rfl rfl)
theorem dX2_wrongBy_50 : decode cX2_wrongBy 50 = .ok (.imul, 1) := dk_104 (dk_at dksX2_wrongBy_2 2 rfl rfl)
theorem dX2_wrongBy_51 : decode cX2_wrongBy 51 = .ok (.iadd, 1) := dk_96 (dk_at dksX2_wrongBy_2 3 rfl rfl)
theorem dX2_wrongBy_52 : decode cX2_wrongBy 52 = .ok (.iconst 2, 1) := dk_5 (dk_at dksX2_wrongBy_2 4 rfl rfl)
theorem dX2_wrongBy_53 : decode cX2_wrongBy 53 = .ok (.iadd, 1) := dk_96 (dk_at dksX2_wrongBy_2 5 rfl rfl)
theorem dX2_wrongBy_54 : decode cX2_wrongBy 54 = .ok (.iaload, 1) := dk_46 (dk_at dksX2_wrongBy_2 6 rfl rfl)
theorem dX2_wrongBy_55 : decode cX2_wrongBy 55 = .ok (.if_icmp .eq 5, 3) := dk_159 0 5 (dk_at dksX2_wrongBy_2 7 rfl rfl)
theorem dX2_wrongBy_58 : decode cX2_wrongBy 58 = .ok (.iload_n 2, 1) := dk_28 (dk_at dksX2_wrongBy_2 10 rfl rfl)
theorem dX2_wrongBy_59 : decode cX2_wrongBy 59 = .ok (.ireturn, 1) := dk_172 (dk_at dksX2_wrongBy_2 11 rfl rfl)
theorem dX2_wrongBy_60 : decode cX2_wrongBy 60 = .ok (.iinc 2 1, 3) := dk_132 2 1 (dk_at dksX2_wrongBy_2 12 rfl rfl)
theorem dX2_wrongBy_63 : decode cX2_wrongBy 63 = .ok (.goto (-61), 3) := dk_167 255 195 (dk_at dksX2_wrongBy_2 15 rfl rfl)
theorem dX2_wrongBy_66 : decode cX2_wrongBy 66 = .ok (.bipush (-2), 2) := dk_16 254 (dk_at dksX2_wrongBy_2 18 rfl rfl)
theorem dX2_wrongBy_68 : decode cX2_wrongBy 68 = .ok (.ireturn, 1) := dk_172 (dk_at dksX2_wrongBy_2 20 rfl rfl)
abbrev cX2_saidThen : ByteArray := prog_16_method_77_code
def yX2_saidThen : MethodName := ⟨RX2, "saidThen", "(III)I"⟩
def dkwX2_saidThen_2 : List UInt8 := [167, 255, 220, 21, 4, 172]
abbrev dktX2_saidThen_2 : List UInt8 := dkwX2_saidThen_2 ++ []
def dkwX2_saidThen_1 : List UInt8 := [182, 1, 53, 42, 180, 0, 20, 16, 13, 27, 96, 46, 21, 5, 3, 182, 0, 249, 54, 4, 132, 5, 1]
abbrev dktX2_saidThen_1 : List UInt8 := dkwX2_saidThen_1 ++ dktX2_saidThen_2
def dkwX2_saidThen_0 : List UInt8 := [42, 180, 0, 26, 27, 46, 54, 4, 4, 54, 5, 21, 5, 28, 163, 0, 36, 42, 27, 21, 4, 42, 27, 29]
abbrev dktX2_saidThen_0 : List UInt8 := dkwX2_saidThen_0 ++ dktX2_saidThen_1
theorem dksX2_saidThen_0 : cX2_saidThen.data.toList.drop 0 = dktX2_saidThen_0 := by decide +kernel
theorem dksX2_saidThen_1 : cX2_saidThen.data.toList.drop 24 = dktX2_saidThen_1 := dk_seg dksX2_saidThen_0 24 rfl rfl
theorem dksX2_saidThen_2 : cX2_saidThen.data.toList.drop 47 = dktX2_saidThen_2 := dk_seg dksX2_saidThen_1 23 rfl rfl
theorem dX2_saidThen_0 : decode cX2_saidThen 0 = .ok (.aload_n 0, 1) := dk_42 (dk_at dksX2_saidThen_0 0 rfl rfl)
theorem dX2_saidThen_1 : decode cX2_saidThen 1 = .ok (.getfield 26, 3) := dk_180 0 26 (dk_at dksX2_saidThen_0 1 rfl rfl)
theorem dX2_saidThen_4 : decode cX2_saidThen 4 = .ok (.iload_n 1, 1) := dk_27 (dk_at dksX2_saidThen_0 4 rfl rfl)
theorem dX2_saidThen_5 : decode cX2_saidThen 5 = .ok (.iaload, 1) := dk_46 (dk_at dksX2_saidThen_0 5 rfl rfl)
theorem dX2_saidThen_6 : decode cX2_saidThen 6 = .ok (.istore 4, 2) := dk_54 4 (dk_at dksX2_saidThen_0 6 rfl rfl)
theorem dX2_saidThen_8 : decode cX2_saidThen 8 = .ok (.iconst 1, 1) := dk_4 (dk_at dksX2_saidThen_0 8 rfl rfl)
theorem dX2_saidThen_9 : decode cX2_saidThen 9 = .ok (.istore 5, 2) := dk_54 5 (dk_at dksX2_saidThen_0 9 rfl rfl)
theorem dX2_saidThen_11 : decode cX2_saidThen 11 = .ok (.iload 5, 2) := dk_21 5 (dk_at dksX2_saidThen_0 11 rfl rfl)
theorem dX2_saidThen_13 : decode cX2_saidThen 13 = .ok (.iload_n 2, 1) := dk_28 (dk_at dksX2_saidThen_0 13 rfl rfl)
theorem dX2_saidThen_14 : decode cX2_saidThen 14 = .ok (.if_icmp .gt 36, 3) := dk_163 0 36 (dk_at dksX2_saidThen_0 14 rfl rfl)
theorem dX2_saidThen_17 : decode cX2_saidThen 17 = .ok (.aload_n 0, 1) := dk_42 (dk_at dksX2_saidThen_0 17 rfl rfl)
theorem dX2_saidThen_18 : decode cX2_saidThen 18 = .ok (.iload_n 1, 1) := dk_27 (dk_at dksX2_saidThen_0 18 rfl rfl)
theorem dX2_saidThen_19 : decode cX2_saidThen 19 = .ok (.iload 4, 2) := dk_21 4 (dk_at dksX2_saidThen_0 19 rfl rfl)
theorem dX2_saidThen_21 : decode cX2_saidThen 21 = .ok (.aload_n 0, 1) := dk_42 (dk_at dksX2_saidThen_0 21 rfl rfl)
theorem dX2_saidThen_22 : decode cX2_saidThen 22 = .ok (.iload_n 1, 1) := dk_27 (dk_at dksX2_saidThen_0 22 rfl rfl)
theorem dX2_saidThen_23 : decode cX2_saidThen 23 = .ok (.iload_n 3, 1) := dk_29 (dk_at dksX2_saidThen_0 23 rfl rfl)
theorem dX2_saidThen_24 : decode cX2_saidThen 24 = .ok (.invokevirtual 309, 3) := dk_182 1 53 (dk_at dksX2_saidThen_1 0 rfl rfl)
theorem dX2_saidThen_27 : decode cX2_saidThen 27 = .ok (.aload_n 0, 1) := dk_42 (dk_at dksX2_saidThen_1 3 rfl rfl)
theorem dX2_saidThen_28 : decode cX2_saidThen 28 = .ok (.getfield 20, 3) := dk_180 0 20 (dk_at dksX2_saidThen_1 4 rfl rfl)
theorem dX2_saidThen_31 : decode cX2_saidThen 31 = .ok (.bipush 13, 2) := dk_16 13 (dk_at dksX2_saidThen_1 7 rfl rfl)
theorem dX2_saidThen_33 : decode cX2_saidThen 33 = .ok (.iload_n 1, 1) := dk_27 (dk_at dksX2_saidThen_1 9 rfl rfl)
theorem dX2_saidThen_34 : decode cX2_saidThen 34 = .ok (.iadd, 1) := dk_96 (dk_at dksX2_saidThen_1 10 rfl rfl)
theorem dX2_saidThen_35 : decode cX2_saidThen 35 = .ok (.iaload, 1) := dk_46 (dk_at dksX2_saidThen_1 11 rfl rfl)
theorem dX2_saidThen_36 : decode cX2_saidThen 36 = .ok (.iload 5, 2) := dk_21 5 (dk_at dksX2_saidThen_1 12 rfl rfl)
theorem dX2_saidThen_38 : decode cX2_saidThen 38 = .ok (.iconst 0, 1) := dk_3 (dk_at dksX2_saidThen_1 14 rfl rfl)
theorem dX2_saidThen_39 : decode cX2_saidThen 39 = .ok (.invokevirtual 249, 3) := dk_182 0 249 (dk_at dksX2_saidThen_1 15 rfl rfl)
theorem dX2_saidThen_42 : decode cX2_saidThen 42 = .ok (.istore 4, 2) := dk_54 4 (dk_at dksX2_saidThen_1 18 rfl rfl)
theorem dX2_saidThen_44 : decode cX2_saidThen 44 = .ok (.iinc 5 1, 3) := dk_132 5 1 (dk_at dksX2_saidThen_1 20 rfl rfl)
theorem dX2_saidThen_47 : decode cX2_saidThen 47 = .ok (.goto (-36), 3) := dk_167 255 220 (dk_at dksX2_saidThen_2 0 rfl rfl)
theorem dX2_saidThen_50 : decode cX2_saidThen 50 = .ok (.iload 4, 2) := dk_21 4 (dk_at dksX2_saidThen_2 3 rfl rfl)
theorem dX2_saidThen_52 : decode cX2_saidThen 52 = .ok (.ireturn, 1) := dk_172 (dk_at dksX2_saidThen_2 5 rfl rfl)
abbrev cX2_stepBy : ByteArray := prog_16_method_76_code
def yX2_stepBy : MethodName := ⟨RX2, "stepBy", "(II)I"⟩
def dkwX2_stepBy_2 : List UInt8 := [42, 180, 0, 20, 16, 18, 5, 21, 4, 104, 96, 4, 96, 46, 62, 132, 4, 1, 167, 255, 202, 29, 172]
abbrev dktX2_stepBy_2 : List UInt8 := dkwX2_stepBy_2 ++ []
def dkwX2_stepBy_1 : List UInt8 := [180, 0, 20, 16, 18, 5, 21, 4, 104, 96, 46, 27, 160, 0, 27, 28, 21, 4, 184, 1, 50, 153, 0, 18]
abbrev dktX2_stepBy_1 : List UInt8 := dkwX2_stepBy_1 ++ dktX2_stepBy_2
def dkwX2_stepBy_0 : List UInt8 := [42, 180, 0, 26, 8, 27, 96, 46, 62, 3, 54, 4, 21, 4, 42, 180, 0, 20, 8, 46, 162, 0, 49, 42]
abbrev dktX2_stepBy_0 : List UInt8 := dkwX2_stepBy_0 ++ dktX2_stepBy_1
theorem dksX2_stepBy_0 : cX2_stepBy.data.toList.drop 0 = dktX2_stepBy_0 := by decide +kernel
theorem dksX2_stepBy_1 : cX2_stepBy.data.toList.drop 24 = dktX2_stepBy_1 := dk_seg dksX2_stepBy_0 24 rfl rfl
theorem dksX2_stepBy_2 : cX2_stepBy.data.toList.drop 48 = dktX2_stepBy_2 := dk_seg dksX2_stepBy_1 24 rfl rfl
theorem dX2_stepBy_0 : decode cX2_stepBy 0 = .ok (.aload_n 0, 1) := dk_42 (dk_at dksX2_stepBy_0 0 rfl rfl)
theorem dX2_stepBy_1 : decode cX2_stepBy 1 = .ok (.getfield 26, 3) := dk_180 0 26 (dk_at dksX2_stepBy_0 1 rfl rfl)
theorem dX2_stepBy_4 : decode cX2_stepBy 4 = .ok (.iconst 5, 1) := dk_8 (dk_at dksX2_stepBy_0 4 rfl rfl)
theorem dX2_stepBy_5 : decode cX2_stepBy 5 = .ok (.iload_n 1, 1) := dk_27 (dk_at dksX2_stepBy_0 5 rfl rfl)
theorem dX2_stepBy_6 : decode cX2_stepBy 6 = .ok (.iadd, 1) := dk_96 (dk_at dksX2_stepBy_0 6 rfl rfl)
theorem dX2_stepBy_7 : decode cX2_stepBy 7 = .ok (.iaload, 1) := dk_46 (dk_at dksX2_stepBy_0 7 rfl rfl)
theorem dX2_stepBy_8 : decode cX2_stepBy 8 = .ok (.istore_n 3, 1) := dk_62 (dk_at dksX2_stepBy_0 8 rfl rfl)
theorem dX2_stepBy_9 : decode cX2_stepBy 9 = .ok (.iconst 0, 1) := dk_3 (dk_at dksX2_stepBy_0 9 rfl rfl)
theorem dX2_stepBy_10 : decode cX2_stepBy 10 = .ok (.istore 4, 2) := dk_54 4 (dk_at dksX2_stepBy_0 10 rfl rfl)
theorem dX2_stepBy_12 : decode cX2_stepBy 12 = .ok (.iload 4, 2) := dk_21 4 (dk_at dksX2_stepBy_0 12 rfl rfl)
theorem dX2_stepBy_14 : decode cX2_stepBy 14 = .ok (.aload_n 0, 1) := dk_42 (dk_at dksX2_stepBy_0 14 rfl rfl)
theorem dX2_stepBy_15 : decode cX2_stepBy 15 = .ok (.getfield 20, 3) := dk_180 0 20 (dk_at dksX2_stepBy_0 15 rfl rfl)
theorem dX2_stepBy_18 : decode cX2_stepBy 18 = .ok (.iconst 5, 1) := dk_8 (dk_at dksX2_stepBy_0 18 rfl rfl)
theorem dX2_stepBy_19 : decode cX2_stepBy 19 = .ok (.iaload, 1) := dk_46 (dk_at dksX2_stepBy_0 19 rfl rfl)
theorem dX2_stepBy_20 : decode cX2_stepBy 20 = .ok (.if_icmp .ge 49, 3) := dk_162 0 49 (dk_at dksX2_stepBy_0 20 rfl rfl)
theorem dX2_stepBy_23 : decode cX2_stepBy 23 = .ok (.aload_n 0, 1) := dk_42 (dk_at dksX2_stepBy_0 23 rfl rfl)
theorem dX2_stepBy_24 : decode cX2_stepBy 24 = .ok (.getfield 20, 3) := dk_180 0 20 (dk_at dksX2_stepBy_1 0 rfl rfl)
theorem dX2_stepBy_27 : decode cX2_stepBy 27 = .ok (.bipush 18, 2) := dk_16 18 (dk_at dksX2_stepBy_1 3 rfl rfl)
theorem dX2_stepBy_29 : decode cX2_stepBy 29 = .ok (.iconst 2, 1) := dk_5 (dk_at dksX2_stepBy_1 5 rfl rfl)
theorem dX2_stepBy_30 : decode cX2_stepBy 30 = .ok (.iload 4, 2) := dk_21 4 (dk_at dksX2_stepBy_1 6 rfl rfl)
theorem dX2_stepBy_32 : decode cX2_stepBy 32 = .ok (.imul, 1) := dk_104 (dk_at dksX2_stepBy_1 8 rfl rfl)
theorem dX2_stepBy_33 : decode cX2_stepBy 33 = .ok (.iadd, 1) := dk_96 (dk_at dksX2_stepBy_1 9 rfl rfl)
theorem dX2_stepBy_34 : decode cX2_stepBy 34 = .ok (.iaload, 1) := dk_46 (dk_at dksX2_stepBy_1 10 rfl rfl)
theorem dX2_stepBy_35 : decode cX2_stepBy 35 = .ok (.iload_n 1, 1) := dk_27 (dk_at dksX2_stepBy_1 11 rfl rfl)
theorem dX2_stepBy_36 : decode cX2_stepBy 36 = .ok (.if_icmp .ne 27, 3) := dk_160 0 27 (dk_at dksX2_stepBy_1 12 rfl rfl)
theorem dX2_stepBy_39 : decode cX2_stepBy 39 = .ok (.iload_n 2, 1) := dk_28 (dk_at dksX2_stepBy_1 15 rfl rfl)
theorem dX2_stepBy_40 : decode cX2_stepBy 40 = .ok (.iload 4, 2) := dk_21 4 (dk_at dksX2_stepBy_1 16 rfl rfl)
theorem dX2_stepBy_42 : decode cX2_stepBy 42 = .ok (.invokestatic 306, 3) := dk_184 1 50 (dk_at dksX2_stepBy_1 18 rfl rfl)
theorem dX2_stepBy_45 : decode cX2_stepBy 45 = .ok (.ifCond .eq 18, 3) := dk_153 0 18 (dk_at dksX2_stepBy_1 21 rfl rfl)
theorem dX2_stepBy_48 : decode cX2_stepBy 48 = .ok (.aload_n 0, 1) := dk_42 (dk_at dksX2_stepBy_2 0 rfl rfl)
theorem dX2_stepBy_49 : decode cX2_stepBy 49 = .ok (.getfield 20, 3) := dk_180 0 20 (dk_at dksX2_stepBy_2 1 rfl rfl)
theorem dX2_stepBy_52 : decode cX2_stepBy 52 = .ok (.bipush 18, 2) := dk_16 18 (dk_at dksX2_stepBy_2 4 rfl rfl)
theorem dX2_stepBy_54 : decode cX2_stepBy 54 = .ok (.iconst 2, 1) := dk_5 (dk_at dksX2_stepBy_2 6 rfl rfl)
theorem dX2_stepBy_55 : decode cX2_stepBy 55 = .ok (.iload 4, 2) := dk_21 4 (dk_at dksX2_stepBy_2 7 rfl rfl)
theorem dX2_stepBy_57 : decode cX2_stepBy 57 = .ok (.imul, 1) := dk_104 (dk_at dksX2_stepBy_2 9 rfl rfl)
theorem dX2_stepBy_58 : decode cX2_stepBy 58 = .ok (.iadd, 1) := dk_96 (dk_at dksX2_stepBy_2 10 rfl rfl)
theorem dX2_stepBy_59 : decode cX2_stepBy 59 = .ok (.iconst 1, 1) := dk_4 (dk_at dksX2_stepBy_2 11 rfl rfl)
theorem dX2_stepBy_60 : decode cX2_stepBy 60 = .ok (.iadd, 1) := dk_96 (dk_at dksX2_stepBy_2 12 rfl rfl)
theorem dX2_stepBy_61 : decode cX2_stepBy 61 = .ok (.iaload, 1) := dk_46 (dk_at dksX2_stepBy_2 13 rfl rfl)
theorem dX2_stepBy_62 : decode cX2_stepBy 62 = .ok (.istore_n 3, 1) := dk_62 (dk_at dksX2_stepBy_2 14 rfl rfl)
theorem dX2_stepBy_63 : decode cX2_stepBy 63 = .ok (.iinc 4 1, 3) := dk_132 4 1 (dk_at dksX2_stepBy_2 15 rfl rfl)
theorem dX2_stepBy_66 : decode cX2_stepBy 66 = .ok (.goto (-54), 3) := dk_167 255 202 (dk_at dksX2_stepBy_2 18 rfl rfl)
theorem dX2_stepBy_69 : decode cX2_stepBy 69 = .ok (.iload_n 3, 1) := dk_29 (dk_at dksX2_stepBy_2 21 rfl rfl)
theorem dX2_stepBy_70 : decode cX2_stepBy 70 = .ok (.ireturn, 1) := dk_172 (dk_at dksX2_stepBy_2 22 rfl rfl)
abbrev cX2_hasBit : ByteArray := prog_16_method_7_code
def yX2_hasBit : MethodName := ⟨RX2, "hasBit", "(II)Z"⟩
def dkwX2_hasBit_0 : List UInt8 := [26, 27, 122, 4, 126, 4, 160, 0, 7, 4, 167, 0, 4, 3, 172]
abbrev dktX2_hasBit_0 : List UInt8 := dkwX2_hasBit_0 ++ []
theorem dksX2_hasBit_0 : cX2_hasBit.data.toList.drop 0 = dktX2_hasBit_0 := by decide +kernel
theorem dX2_hasBit_0 : decode cX2_hasBit 0 = .ok (.iload_n 0, 1) := dk_26 (dk_at dksX2_hasBit_0 0 rfl rfl)
theorem dX2_hasBit_1 : decode cX2_hasBit 1 = .ok (.iload_n 1, 1) := dk_27 (dk_at dksX2_hasBit_0 1 rfl rfl)
theorem dX2_hasBit_2 : decode cX2_hasBit 2 = .ok (.ishr, 1) := dk_122 (dk_at dksX2_hasBit_0 2 rfl rfl)
theorem dX2_hasBit_3 : decode cX2_hasBit 3 = .ok (.iconst 1, 1) := dk_4 (dk_at dksX2_hasBit_0 3 rfl rfl)
theorem dX2_hasBit_4 : decode cX2_hasBit 4 = .ok (.iand, 1) := dk_126 (dk_at dksX2_hasBit_0 4 rfl rfl)
theorem dX2_hasBit_5 : decode cX2_hasBit 5 = .ok (.iconst 1, 1) := dk_4 (dk_at dksX2_hasBit_0 5 rfl rfl)
theorem dX2_hasBit_6 : decode cX2_hasBit 6 = .ok (.if_icmp .ne 7, 3) := dk_160 0 7 (dk_at dksX2_hasBit_0 6 rfl rfl)
theorem dX2_hasBit_9 : decode cX2_hasBit 9 = .ok (.iconst 1, 1) := dk_4 (dk_at dksX2_hasBit_0 9 rfl rfl)
theorem dX2_hasBit_10 : decode cX2_hasBit 10 = .ok (.goto 4, 3) := dk_167 0 4 (dk_at dksX2_hasBit_0 10 rfl rfl)
theorem dX2_hasBit_13 : decode cX2_hasBit 13 = .ok (.iconst 0, 1) := dk_3 (dk_at dksX2_hasBit_0 13 rfl rfl)
theorem dX2_hasBit_14 : decode cX2_hasBit 14 = .ok (.ireturn, 1) := dk_172 (dk_at dksX2_hasBit_0 14 rfl rfl)
abbrev cX2_fitAt : ByteArray := prog_16_method_81_code
def yX2_fitAt : MethodName := ⟨RX2, "fitAt", "(I)I"⟩
def dkwX2_fitAt_1 : List UInt8 := [182, 1, 71, 61, 28, 156, 0, 11, 42, 4, 182, 0, 167, 167, 0, 4, 28, 172]
abbrev dktX2_fitAt_1 : List UInt8 := dkwX2_fitAt_1 ++ []
def dkwX2_fitAt_0 : List UInt8 := [42, 182, 0, 164, 42, 180, 0, 177, 153, 0, 7, 27, 156, 0, 9, 42, 4, 182, 0, 167, 172, 42, 27]
abbrev dktX2_fitAt_0 : List UInt8 := dkwX2_fitAt_0 ++ dktX2_fitAt_1
theorem dksX2_fitAt_0 : cX2_fitAt.data.toList.drop 0 = dktX2_fitAt_0 := by decide +kernel
theorem dksX2_fitAt_1 : cX2_fitAt.data.toList.drop 23 = dktX2_fitAt_1 := dk_seg dksX2_fitAt_0 23 rfl rfl
theorem dX2_fitAt_0 : decode cX2_fitAt 0 = .ok (.aload_n 0, 1) := dk_42 (dk_at dksX2_fitAt_0 0 rfl rfl)
theorem dX2_fitAt_1 : decode cX2_fitAt 1 = .ok (.invokevirtual 164, 3) := dk_182 0 164 (dk_at dksX2_fitAt_0 1 rfl rfl)
theorem dX2_fitAt_4 : decode cX2_fitAt 4 = .ok (.aload_n 0, 1) := dk_42 (dk_at dksX2_fitAt_0 4 rfl rfl)
theorem dX2_fitAt_5 : decode cX2_fitAt 5 = .ok (.getfield 177, 3) := dk_180 0 177 (dk_at dksX2_fitAt_0 5 rfl rfl)
theorem dX2_fitAt_8 : decode cX2_fitAt 8 = .ok (.ifCond .eq 7, 3) := dk_153 0 7 (dk_at dksX2_fitAt_0 8 rfl rfl)
theorem dX2_fitAt_11 : decode cX2_fitAt 11 = .ok (.iload_n 1, 1) := dk_27 (dk_at dksX2_fitAt_0 11 rfl rfl)
theorem dX2_fitAt_12 : decode cX2_fitAt 12 = .ok (.ifCond .ge 9, 3) := dk_156 0 9 (dk_at dksX2_fitAt_0 12 rfl rfl)
theorem dX2_fitAt_15 : decode cX2_fitAt 15 = .ok (.aload_n 0, 1) := dk_42 (dk_at dksX2_fitAt_0 15 rfl rfl)
theorem dX2_fitAt_16 : decode cX2_fitAt 16 = .ok (.iconst 1, 1) := dk_4 (dk_at dksX2_fitAt_0 16 rfl rfl)
theorem dX2_fitAt_17 : decode cX2_fitAt 17 = .ok (.invokevirtual 167, 3) := dk_182 0 167 (dk_at dksX2_fitAt_0 17 rfl rfl)
theorem dX2_fitAt_20 : decode cX2_fitAt 20 = .ok (.ireturn, 1) := dk_172 (dk_at dksX2_fitAt_0 20 rfl rfl)
theorem dX2_fitAt_21 : decode cX2_fitAt 21 = .ok (.aload_n 0, 1) := dk_42 (dk_at dksX2_fitAt_0 21 rfl rfl)
theorem dX2_fitAt_22 : decode cX2_fitAt 22 = .ok (.iload_n 1, 1) := dk_27 (dk_at dksX2_fitAt_0 22 rfl rfl)
theorem dX2_fitAt_23 : decode cX2_fitAt 23 = .ok (.invokevirtual 327, 3) := dk_182 1 71 (dk_at dksX2_fitAt_1 0 rfl rfl)
theorem dX2_fitAt_26 : decode cX2_fitAt 26 = .ok (.istore_n 2, 1) := dk_61 (dk_at dksX2_fitAt_1 3 rfl rfl)
theorem dX2_fitAt_27 : decode cX2_fitAt 27 = .ok (.iload_n 2, 1) := dk_28 (dk_at dksX2_fitAt_1 4 rfl rfl)
theorem dX2_fitAt_28 : decode cX2_fitAt 28 = .ok (.ifCond .ge 11, 3) := dk_156 0 11 (dk_at dksX2_fitAt_1 5 rfl rfl)
theorem dX2_fitAt_31 : decode cX2_fitAt 31 = .ok (.aload_n 0, 1) := dk_42 (dk_at dksX2_fitAt_1 8 rfl rfl)
theorem dX2_fitAt_32 : decode cX2_fitAt 32 = .ok (.iconst 1, 1) := dk_4 (dk_at dksX2_fitAt_1 9 rfl rfl)
theorem dX2_fitAt_33 : decode cX2_fitAt 33 = .ok (.invokevirtual 167, 3) := dk_182 0 167 (dk_at dksX2_fitAt_1 10 rfl rfl)
theorem dX2_fitAt_36 : decode cX2_fitAt 36 = .ok (.goto 4, 3) := dk_167 0 4 (dk_at dksX2_fitAt_1 13 rfl rfl)
theorem dX2_fitAt_39 : decode cX2_fitAt 39 = .ok (.iload_n 2, 1) := dk_28 (dk_at dksX2_fitAt_1 16 rfl rfl)
theorem dX2_fitAt_40 : decode cX2_fitAt 40 = .ok (.ireturn, 1) := dk_172 (dk_at dksX2_fitAt_1 17 rfl rfl)
abbrev cX2_could : ByteArray := prog_16_method_82_code
def yX2_could : MethodName := ⟨RX2, "could", "()I"⟩
def dkwX2_could_1 : List UInt8 := [180, 1, 62, 172]
abbrev dktX2_could_1 : List UInt8 := dkwX2_could_1 ++ []
def dkwX2_could_0 : List UInt8 := [42, 182, 0, 164, 42, 180, 0, 177, 154, 0, 9, 42, 4, 182, 0, 167, 172, 42, 2, 182, 1, 71, 87, 42]
abbrev dktX2_could_0 : List UInt8 := dkwX2_could_0 ++ dktX2_could_1
theorem dksX2_could_0 : cX2_could.data.toList.drop 0 = dktX2_could_0 := by decide +kernel
theorem dksX2_could_1 : cX2_could.data.toList.drop 24 = dktX2_could_1 := dk_seg dksX2_could_0 24 rfl rfl
theorem dX2_could_0 : decode cX2_could 0 = .ok (.aload_n 0, 1) := dk_42 (dk_at dksX2_could_0 0 rfl rfl)
theorem dX2_could_1 : decode cX2_could 1 = .ok (.invokevirtual 164, 3) := dk_182 0 164 (dk_at dksX2_could_0 1 rfl rfl)
theorem dX2_could_4 : decode cX2_could 4 = .ok (.aload_n 0, 1) := dk_42 (dk_at dksX2_could_0 4 rfl rfl)
theorem dX2_could_5 : decode cX2_could 5 = .ok (.getfield 177, 3) := dk_180 0 177 (dk_at dksX2_could_0 5 rfl rfl)
theorem dX2_could_8 : decode cX2_could 8 = .ok (.ifCond .ne 9, 3) := dk_154 0 9 (dk_at dksX2_could_0 8 rfl rfl)
theorem dX2_could_11 : decode cX2_could 11 = .ok (.aload_n 0, 1) := dk_42 (dk_at dksX2_could_0 11 rfl rfl)
theorem dX2_could_12 : decode cX2_could 12 = .ok (.iconst 1, 1) := dk_4 (dk_at dksX2_could_0 12 rfl rfl)
theorem dX2_could_13 : decode cX2_could 13 = .ok (.invokevirtual 167, 3) := dk_182 0 167 (dk_at dksX2_could_0 13 rfl rfl)
theorem dX2_could_16 : decode cX2_could 16 = .ok (.ireturn, 1) := dk_172 (dk_at dksX2_could_0 16 rfl rfl)
theorem dX2_could_17 : decode cX2_could 17 = .ok (.aload_n 0, 1) := dk_42 (dk_at dksX2_could_0 17 rfl rfl)
theorem dX2_could_18 : decode cX2_could 18 = .ok (.iconst (-1), 1) := dk_2 (dk_at dksX2_could_0 18 rfl rfl)
theorem dX2_could_19 : decode cX2_could 19 = .ok (.invokevirtual 327, 3) := dk_182 1 71 (dk_at dksX2_could_0 19 rfl rfl)
theorem dX2_could_22 : decode cX2_could 22 = .ok (.pop, 1) := dk_87 (dk_at dksX2_could_0 22 rfl rfl)
theorem dX2_could_23 : decode cX2_could 23 = .ok (.aload_n 0, 1) := dk_42 (dk_at dksX2_could_0 23 rfl rfl)
theorem dX2_could_24 : decode cX2_could 24 = .ok (.getfield 318, 3) := dk_180 1 62 (dk_at dksX2_could_1 0 rfl rfl)
theorem dX2_could_27 : decode cX2_could 27 = .ok (.ireturn, 1) := dk_172 (dk_at dksX2_could_1 3 rfl rfl)
abbrev cX2_surely : ByteArray := prog_16_method_83_code
def yX2_surely : MethodName := ⟨RX2, "surely", "()I"⟩
def dkwX2_surely_1 : List UInt8 := [180, 1, 65, 172]
abbrev dktX2_surely_1 : List UInt8 := dkwX2_surely_1 ++ []
def dkwX2_surely_0 : List UInt8 := [42, 182, 0, 164, 42, 180, 0, 177, 154, 0, 9, 42, 4, 182, 0, 167, 172, 42, 2, 182, 1, 71, 87, 42]
abbrev dktX2_surely_0 : List UInt8 := dkwX2_surely_0 ++ dktX2_surely_1
theorem dksX2_surely_0 : cX2_surely.data.toList.drop 0 = dktX2_surely_0 := by decide +kernel
theorem dksX2_surely_1 : cX2_surely.data.toList.drop 24 = dktX2_surely_1 := dk_seg dksX2_surely_0 24 rfl rfl
theorem dX2_surely_0 : decode cX2_surely 0 = .ok (.aload_n 0, 1) := dk_42 (dk_at dksX2_surely_0 0 rfl rfl)
theorem dX2_surely_1 : decode cX2_surely 1 = .ok (.invokevirtual 164, 3) := dk_182 0 164 (dk_at dksX2_surely_0 1 rfl rfl)
theorem dX2_surely_4 : decode cX2_surely 4 = .ok (.aload_n 0, 1) := dk_42 (dk_at dksX2_surely_0 4 rfl rfl)
theorem dX2_surely_5 : decode cX2_surely 5 = .ok (.getfield 177, 3) := dk_180 0 177 (dk_at dksX2_surely_0 5 rfl rfl)
theorem dX2_surely_8 : decode cX2_surely 8 = .ok (.ifCond .ne 9, 3) := dk_154 0 9 (dk_at dksX2_surely_0 8 rfl rfl)
theorem dX2_surely_11 : decode cX2_surely 11 = .ok (.aload_n 0, 1) := dk_42 (dk_at dksX2_surely_0 11 rfl rfl)
theorem dX2_surely_12 : decode cX2_surely 12 = .ok (.iconst 1, 1) := dk_4 (dk_at dksX2_surely_0 12 rfl rfl)
theorem dX2_surely_13 : decode cX2_surely 13 = .ok (.invokevirtual 167, 3) := dk_182 0 167 (dk_at dksX2_surely_0 13 rfl rfl)
theorem dX2_surely_16 : decode cX2_surely 16 = .ok (.ireturn, 1) := dk_172 (dk_at dksX2_surely_0 16 rfl rfl)
theorem dX2_surely_17 : decode cX2_surely 17 = .ok (.aload_n 0, 1) := dk_42 (dk_at dksX2_surely_0 17 rfl rfl)
theorem dX2_surely_18 : decode cX2_surely 18 = .ok (.iconst (-1), 1) := dk_2 (dk_at dksX2_surely_0 18 rfl rfl)
theorem dX2_surely_19 : decode cX2_surely 19 = .ok (.invokevirtual 327, 3) := dk_182 1 71 (dk_at dksX2_surely_0 19 rfl rfl)
theorem dX2_surely_22 : decode cX2_surely 22 = .ok (.pop, 1) := dk_87 (dk_at dksX2_surely_0 22 rfl rfl)
theorem dX2_surely_23 : decode cX2_surely 23 = .ok (.aload_n 0, 1) := dk_42 (dk_at dksX2_surely_0 23 rfl rfl)
theorem dX2_surely_24 : decode cX2_surely 24 = .ok (.getfield 321, 3) := dk_180 1 65 (dk_at dksX2_surely_1 0 rfl rfl)
theorem dX2_surely_27 : decode cX2_surely 27 = .ok (.ireturn, 1) := dk_172 (dk_at dksX2_surely_1 3 rfl rfl)
abbrev cX2_ask : ByteArray := prog_16_method_86_code
def yX2_ask : MethodName := ⟨RX2, "ask", "()I"⟩
def dkwX2_ask_0 : List UInt8 := [42, 182, 0, 164, 42, 180, 0, 177, 153, 0, 10, 42, 182, 1, 77, 167, 0, 8, 42, 4, 182, 0, 167, 172]
abbrev dktX2_ask_0 : List UInt8 := dkwX2_ask_0 ++ []
theorem dksX2_ask_0 : cX2_ask.data.toList.drop 0 = dktX2_ask_0 := by decide +kernel
theorem dX2_ask_0 : decode cX2_ask 0 = .ok (.aload_n 0, 1) := dk_42 (dk_at dksX2_ask_0 0 rfl rfl)
theorem dX2_ask_1 : decode cX2_ask 1 = .ok (.invokevirtual 164, 3) := dk_182 0 164 (dk_at dksX2_ask_0 1 rfl rfl)
theorem dX2_ask_4 : decode cX2_ask 4 = .ok (.aload_n 0, 1) := dk_42 (dk_at dksX2_ask_0 4 rfl rfl)
theorem dX2_ask_5 : decode cX2_ask 5 = .ok (.getfield 177, 3) := dk_180 0 177 (dk_at dksX2_ask_0 5 rfl rfl)
theorem dX2_ask_8 : decode cX2_ask 8 = .ok (.ifCond .eq 10, 3) := dk_153 0 10 (dk_at dksX2_ask_0 8 rfl rfl)
theorem dX2_ask_11 : decode cX2_ask 11 = .ok (.aload_n 0, 1) := dk_42 (dk_at dksX2_ask_0 11 rfl rfl)
theorem dX2_ask_12 : decode cX2_ask 12 = .ok (.invokevirtual 333, 3) := dk_182 1 77 (dk_at dksX2_ask_0 12 rfl rfl)
theorem dX2_ask_15 : decode cX2_ask 15 = .ok (.goto 8, 3) := dk_167 0 8 (dk_at dksX2_ask_0 15 rfl rfl)
theorem dX2_ask_18 : decode cX2_ask 18 = .ok (.aload_n 0, 1) := dk_42 (dk_at dksX2_ask_0 18 rfl rfl)
theorem dX2_ask_19 : decode cX2_ask 19 = .ok (.iconst 1, 1) := dk_4 (dk_at dksX2_ask_0 19 rfl rfl)
theorem dX2_ask_20 : decode cX2_ask 20 = .ok (.invokevirtual 167, 3) := dk_182 0 167 (dk_at dksX2_ask_0 20 rfl rfl)
theorem dX2_ask_23 : decode cX2_ask 23 = .ok (.ireturn, 1) := dk_172 (dk_at dksX2_ask_0 23 rfl rfl)
abbrev cX2_askOf : ByteArray := prog_16_method_85_code
def yX2_askOf : MethodName := ⟨RX2, "askOf", "()I"⟩
def dkwX2_askOf_2 : List UInt8 := [60, 132, 2, 1, 167, 255, 217, 27, 172]
abbrev dktX2_askOf_2 : List UInt8 := dkwX2_askOf_2 ++ []
def dkwX2_askOf_1 : List UInt8 := [180, 1, 59, 158, 0, 28, 27, 155, 0, 16, 42, 28, 182, 1, 74, 42, 27, 182, 1, 74, 162, 0, 5, 28]
abbrev dktX2_askOf_1 : List UInt8 := dkwX2_askOf_1 ++ dktX2_askOf_2
def dkwX2_askOf_0 : List UInt8 := [42, 2, 182, 1, 71, 87, 16, 254, 60, 3, 61, 28, 42, 180, 0, 20, 8, 46, 162, 0, 35, 42]
abbrev dktX2_askOf_0 : List UInt8 := dkwX2_askOf_0 ++ dktX2_askOf_1
theorem dksX2_askOf_0 : cX2_askOf.data.toList.drop 0 = dktX2_askOf_0 := by decide +kernel
theorem dksX2_askOf_1 : cX2_askOf.data.toList.drop 22 = dktX2_askOf_1 := dk_seg dksX2_askOf_0 22 rfl rfl
theorem dksX2_askOf_2 : cX2_askOf.data.toList.drop 46 = dktX2_askOf_2 := dk_seg dksX2_askOf_1 24 rfl rfl
theorem dX2_askOf_0 : decode cX2_askOf 0 = .ok (.aload_n 0, 1) := dk_42 (dk_at dksX2_askOf_0 0 rfl rfl)
theorem dX2_askOf_1 : decode cX2_askOf 1 = .ok (.iconst (-1), 1) := dk_2 (dk_at dksX2_askOf_0 1 rfl rfl)
theorem dX2_askOf_2 : decode cX2_askOf 2 = .ok (.invokevirtual 327, 3) := dk_182 1 71 (dk_at dksX2_askOf_0 2 rfl rfl)
theorem dX2_askOf_5 : decode cX2_askOf 5 = .ok (.pop, 1) := dk_87 (dk_at dksX2_askOf_0 5 rfl rfl)
theorem dX2_askOf_6 : decode cX2_askOf 6 = .ok (.bipush (-2), 2) := dk_16 254 (dk_at dksX2_askOf_0 6 rfl rfl)
theorem dX2_askOf_8 : decode cX2_askOf 8 = .ok (.istore_n 1, 1) := dk_60 (dk_at dksX2_askOf_0 8 rfl rfl)
theorem dX2_askOf_9 : decode cX2_askOf 9 = .ok (.iconst 0, 1) := dk_3 (dk_at dksX2_askOf_0 9 rfl rfl)
theorem dX2_askOf_10 : decode cX2_askOf 10 = .ok (.istore_n 2, 1) := dk_61 (dk_at dksX2_askOf_0 10 rfl rfl)
theorem dX2_askOf_11 : decode cX2_askOf 11 = .ok (.iload_n 2, 1) := dk_28 (dk_at dksX2_askOf_0 11 rfl rfl)
theorem dX2_askOf_12 : decode cX2_askOf 12 = .ok (.aload_n 0, 1) := dk_42 (dk_at dksX2_askOf_0 12 rfl rfl)
theorem dX2_askOf_13 : decode cX2_askOf 13 = .ok (.getfield 20, 3) := dk_180 0 20 (dk_at dksX2_askOf_0 13 rfl rfl)
theorem dX2_askOf_16 : decode cX2_askOf 16 = .ok (.iconst 5, 1) := dk_8 (dk_at dksX2_askOf_0 16 rfl rfl)
theorem dX2_askOf_17 : decode cX2_askOf 17 = .ok (.iaload, 1) := dk_46 (dk_at dksX2_askOf_0 17 rfl rfl)
theorem dX2_askOf_18 : decode cX2_askOf 18 = .ok (.if_icmp .ge 35, 3) := dk_162 0 35 (dk_at dksX2_askOf_0 18 rfl rfl)
theorem dX2_askOf_21 : decode cX2_askOf 21 = .ok (.aload_n 0, 1) := dk_42 (dk_at dksX2_askOf_0 21 rfl rfl)
theorem dX2_askOf_22 : decode cX2_askOf 22 = .ok (.getfield 315, 3) := dk_180 1 59 (dk_at dksX2_askOf_1 0 rfl rfl)
theorem dX2_askOf_25 : decode cX2_askOf 25 = .ok (.ifCond .le 28, 3) := dk_158 0 28 (dk_at dksX2_askOf_1 3 rfl rfl)
theorem dX2_askOf_28 : decode cX2_askOf 28 = .ok (.iload_n 1, 1) := dk_27 (dk_at dksX2_askOf_1 6 rfl rfl)
theorem dX2_askOf_29 : decode cX2_askOf 29 = .ok (.ifCond .lt 16, 3) := dk_155 0 16 (dk_at dksX2_askOf_1 7 rfl rfl)
theorem dX2_askOf_32 : decode cX2_askOf 32 = .ok (.aload_n 0, 1) := dk_42 (dk_at dksX2_askOf_1 10 rfl rfl)
theorem dX2_askOf_33 : decode cX2_askOf 33 = .ok (.iload_n 2, 1) := dk_28 (dk_at dksX2_askOf_1 11 rfl rfl)
theorem dX2_askOf_34 : decode cX2_askOf 34 = .ok (.invokevirtual 330, 3) := dk_182 1 74 (dk_at dksX2_askOf_1 12 rfl rfl)
theorem dX2_askOf_37 : decode cX2_askOf 37 = .ok (.aload_n 0, 1) := dk_42 (dk_at dksX2_askOf_1 15 rfl rfl)
theorem dX2_askOf_38 : decode cX2_askOf 38 = .ok (.iload_n 1, 1) := dk_27 (dk_at dksX2_askOf_1 16 rfl rfl)
theorem dX2_askOf_39 : decode cX2_askOf 39 = .ok (.invokevirtual 330, 3) := dk_182 1 74 (dk_at dksX2_askOf_1 17 rfl rfl)
theorem dX2_askOf_42 : decode cX2_askOf 42 = .ok (.if_icmp .ge 5, 3) := dk_162 0 5 (dk_at dksX2_askOf_1 20 rfl rfl)
theorem dX2_askOf_45 : decode cX2_askOf 45 = .ok (.iload_n 2, 1) := dk_28 (dk_at dksX2_askOf_1 23 rfl rfl)
theorem dX2_askOf_46 : decode cX2_askOf 46 = .ok (.istore_n 1, 1) := dk_60 (dk_at dksX2_askOf_2 0 rfl rfl)
theorem dX2_askOf_47 : decode cX2_askOf 47 = .ok (.iinc 2 1, 3) := dk_132 2 1 (dk_at dksX2_askOf_2 1 rfl rfl)
theorem dX2_askOf_50 : decode cX2_askOf 50 = .ok (.goto (-39), 3) := dk_167 255 217 (dk_at dksX2_askOf_2 4 rfl rfl)
theorem dX2_askOf_53 : decode cX2_askOf 53 = .ok (.iload_n 1, 1) := dk_27 (dk_at dksX2_askOf_2 7 rfl rfl)
theorem dX2_askOf_54 : decode cX2_askOf 54 = .ok (.ireturn, 1) := dk_172 (dk_at dksX2_askOf_2 8 rfl rfl)
abbrev cX2_leavesOf : ByteArray := prog_16_method_84_code
def yX2_leavesOf : MethodName := ⟨RX2, "leavesOf", "(I)I"⟩
def dkwX2_leavesOf_1 : List UInt8 := [27, 46, 167, 0, 14, 42, 180, 1, 59, 42, 180, 0, 47, 27, 46, 100, 172]
abbrev dktX2_leavesOf_1 : List UInt8 := dkwX2_leavesOf_1 ++ []
def dkwX2_leavesOf_0 : List UInt8 := [42, 180, 0, 47, 27, 46, 42, 180, 1, 59, 42, 180, 0, 47, 27, 46, 100, 164, 0, 12, 42, 180, 0, 47]
abbrev dktX2_leavesOf_0 : List UInt8 := dkwX2_leavesOf_0 ++ dktX2_leavesOf_1
theorem dksX2_leavesOf_0 : cX2_leavesOf.data.toList.drop 0 = dktX2_leavesOf_0 := by decide +kernel
theorem dksX2_leavesOf_1 : cX2_leavesOf.data.toList.drop 24 = dktX2_leavesOf_1 := dk_seg dksX2_leavesOf_0 24 rfl rfl
theorem dX2_leavesOf_0 : decode cX2_leavesOf 0 = .ok (.aload_n 0, 1) := dk_42 (dk_at dksX2_leavesOf_0 0 rfl rfl)
theorem dX2_leavesOf_1 : decode cX2_leavesOf 1 = .ok (.getfield 47, 3) := dk_180 0 47 (dk_at dksX2_leavesOf_0 1 rfl rfl)
theorem dX2_leavesOf_4 : decode cX2_leavesOf 4 = .ok (.iload_n 1, 1) := dk_27 (dk_at dksX2_leavesOf_0 4 rfl rfl)
theorem dX2_leavesOf_5 : decode cX2_leavesOf 5 = .ok (.iaload, 1) := dk_46 (dk_at dksX2_leavesOf_0 5 rfl rfl)
theorem dX2_leavesOf_6 : decode cX2_leavesOf 6 = .ok (.aload_n 0, 1) := dk_42 (dk_at dksX2_leavesOf_0 6 rfl rfl)
theorem dX2_leavesOf_7 : decode cX2_leavesOf 7 = .ok (.getfield 315, 3) := dk_180 1 59 (dk_at dksX2_leavesOf_0 7 rfl rfl)
theorem dX2_leavesOf_10 : decode cX2_leavesOf 10 = .ok (.aload_n 0, 1) := dk_42 (dk_at dksX2_leavesOf_0 10 rfl rfl)
theorem dX2_leavesOf_11 : decode cX2_leavesOf 11 = .ok (.getfield 47, 3) := dk_180 0 47 (dk_at dksX2_leavesOf_0 11 rfl rfl)
theorem dX2_leavesOf_14 : decode cX2_leavesOf 14 = .ok (.iload_n 1, 1) := dk_27 (dk_at dksX2_leavesOf_0 14 rfl rfl)
theorem dX2_leavesOf_15 : decode cX2_leavesOf 15 = .ok (.iaload, 1) := dk_46 (dk_at dksX2_leavesOf_0 15 rfl rfl)
theorem dX2_leavesOf_16 : decode cX2_leavesOf 16 = .ok (.isub, 1) := dk_100 (dk_at dksX2_leavesOf_0 16 rfl rfl)
theorem dX2_leavesOf_17 : decode cX2_leavesOf 17 = .ok (.if_icmp .le 12, 3) := dk_164 0 12 (dk_at dksX2_leavesOf_0 17 rfl rfl)
theorem dX2_leavesOf_20 : decode cX2_leavesOf 20 = .ok (.aload_n 0, 1) := dk_42 (dk_at dksX2_leavesOf_0 20 rfl rfl)
theorem dX2_leavesOf_21 : decode cX2_leavesOf 21 = .ok (.getfield 47, 3) := dk_180 0 47 (dk_at dksX2_leavesOf_0 21 rfl rfl)
theorem dX2_leavesOf_24 : decode cX2_leavesOf 24 = .ok (.iload_n 1, 1) := dk_27 (dk_at dksX2_leavesOf_1 0 rfl rfl)
theorem dX2_leavesOf_25 : decode cX2_leavesOf 25 = .ok (.iaload, 1) := dk_46 (dk_at dksX2_leavesOf_1 1 rfl rfl)
theorem dX2_leavesOf_26 : decode cX2_leavesOf 26 = .ok (.goto 14, 3) := dk_167 0 14 (dk_at dksX2_leavesOf_1 2 rfl rfl)
theorem dX2_leavesOf_29 : decode cX2_leavesOf 29 = .ok (.aload_n 0, 1) := dk_42 (dk_at dksX2_leavesOf_1 5 rfl rfl)
theorem dX2_leavesOf_30 : decode cX2_leavesOf 30 = .ok (.getfield 315, 3) := dk_180 1 59 (dk_at dksX2_leavesOf_1 6 rfl rfl)
theorem dX2_leavesOf_33 : decode cX2_leavesOf 33 = .ok (.aload_n 0, 1) := dk_42 (dk_at dksX2_leavesOf_1 9 rfl rfl)
theorem dX2_leavesOf_34 : decode cX2_leavesOf 34 = .ok (.getfield 47, 3) := dk_180 0 47 (dk_at dksX2_leavesOf_1 10 rfl rfl)
theorem dX2_leavesOf_37 : decode cX2_leavesOf 37 = .ok (.iload_n 1, 1) := dk_27 (dk_at dksX2_leavesOf_1 13 rfl rfl)
theorem dX2_leavesOf_38 : decode cX2_leavesOf 38 = .ok (.iaload, 1) := dk_46 (dk_at dksX2_leavesOf_1 14 rfl rfl)
theorem dX2_leavesOf_39 : decode cX2_leavesOf 39 = .ok (.isub, 1) := dk_100 (dk_at dksX2_leavesOf_1 15 rfl rfl)
theorem dX2_leavesOf_40 : decode cX2_leavesOf 40 = .ok (.ireturn, 1) := dk_172 (dk_at dksX2_leavesOf_1 16 rfl rfl)
abbrev cX2_askLeaves : ByteArray := prog_16_method_87_code
def yX2_askLeaves : MethodName := ⟨RX2, "askLeaves", "()I"⟩
def dkwX2_askLeaves_1 : List UInt8 := [156, 0, 8, 16, 254, 167, 0, 8, 42, 27, 182, 1, 74, 172]
abbrev dktX2_askLeaves_1 : List UInt8 := dkwX2_askLeaves_1 ++ []
def dkwX2_askLeaves_0 : List UInt8 := [42, 182, 0, 164, 42, 180, 0, 177, 154, 0, 9, 42, 4, 182, 0, 167, 172, 42, 182, 1, 77, 60, 27]
abbrev dktX2_askLeaves_0 : List UInt8 := dkwX2_askLeaves_0 ++ dktX2_askLeaves_1
theorem dksX2_askLeaves_0 : cX2_askLeaves.data.toList.drop 0 = dktX2_askLeaves_0 := by decide +kernel
theorem dksX2_askLeaves_1 : cX2_askLeaves.data.toList.drop 23 = dktX2_askLeaves_1 := dk_seg dksX2_askLeaves_0 23 rfl rfl
theorem dX2_askLeaves_0 : decode cX2_askLeaves 0 = .ok (.aload_n 0, 1) := dk_42 (dk_at dksX2_askLeaves_0 0 rfl rfl)
theorem dX2_askLeaves_1 : decode cX2_askLeaves 1 = .ok (.invokevirtual 164, 3) := dk_182 0 164 (dk_at dksX2_askLeaves_0 1 rfl rfl)
theorem dX2_askLeaves_4 : decode cX2_askLeaves 4 = .ok (.aload_n 0, 1) := dk_42 (dk_at dksX2_askLeaves_0 4 rfl rfl)
theorem dX2_askLeaves_5 : decode cX2_askLeaves 5 = .ok (.getfield 177, 3) := dk_180 0 177 (dk_at dksX2_askLeaves_0 5 rfl rfl)
theorem dX2_askLeaves_8 : decode cX2_askLeaves 8 = .ok (.ifCond .ne 9, 3) := dk_154 0 9 (dk_at dksX2_askLeaves_0 8 rfl rfl)
theorem dX2_askLeaves_11 : decode cX2_askLeaves 11 = .ok (.aload_n 0, 1) := dk_42 (dk_at dksX2_askLeaves_0 11 rfl rfl)
theorem dX2_askLeaves_12 : decode cX2_askLeaves 12 = .ok (.iconst 1, 1) := dk_4 (dk_at dksX2_askLeaves_0 12 rfl rfl)
theorem dX2_askLeaves_13 : decode cX2_askLeaves 13 = .ok (.invokevirtual 167, 3) := dk_182 0 167 (dk_at dksX2_askLeaves_0 13 rfl rfl)
theorem dX2_askLeaves_16 : decode cX2_askLeaves 16 = .ok (.ireturn, 1) := dk_172 (dk_at dksX2_askLeaves_0 16 rfl rfl)
theorem dX2_askLeaves_17 : decode cX2_askLeaves 17 = .ok (.aload_n 0, 1) := dk_42 (dk_at dksX2_askLeaves_0 17 rfl rfl)
theorem dX2_askLeaves_18 : decode cX2_askLeaves 18 = .ok (.invokevirtual 333, 3) := dk_182 1 77 (dk_at dksX2_askLeaves_0 18 rfl rfl)
theorem dX2_askLeaves_21 : decode cX2_askLeaves 21 = .ok (.istore_n 1, 1) := dk_60 (dk_at dksX2_askLeaves_0 21 rfl rfl)
theorem dX2_askLeaves_22 : decode cX2_askLeaves 22 = .ok (.iload_n 1, 1) := dk_27 (dk_at dksX2_askLeaves_0 22 rfl rfl)
theorem dX2_askLeaves_23 : decode cX2_askLeaves 23 = .ok (.ifCond .ge 8, 3) := dk_156 0 8 (dk_at dksX2_askLeaves_1 0 rfl rfl)
theorem dX2_askLeaves_26 : decode cX2_askLeaves 26 = .ok (.bipush (-2), 2) := dk_16 254 (dk_at dksX2_askLeaves_1 3 rfl rfl)
theorem dX2_askLeaves_28 : decode cX2_askLeaves 28 = .ok (.goto 8, 3) := dk_167 0 8 (dk_at dksX2_askLeaves_1 5 rfl rfl)
theorem dX2_askLeaves_31 : decode cX2_askLeaves 31 = .ok (.aload_n 0, 1) := dk_42 (dk_at dksX2_askLeaves_1 8 rfl rfl)
theorem dX2_askLeaves_32 : decode cX2_askLeaves 32 = .ok (.iload_n 1, 1) := dk_27 (dk_at dksX2_askLeaves_1 9 rfl rfl)
theorem dX2_askLeaves_33 : decode cX2_askLeaves 33 = .ok (.invokevirtual 330, 3) := dk_182 1 74 (dk_at dksX2_askLeaves_1 10 rfl rfl)
theorem dX2_askLeaves_36 : decode cX2_askLeaves 36 = .ok (.ireturn, 1) := dk_172 (dk_at dksX2_askLeaves_1 13 rfl rfl)
abbrev cX2_judge : ByteArray := prog_16_method_88_code
def yX2_judge : MethodName := ⟨RX2, "judge", "()I"⟩
def dkwX2_judge_1 : List UInt8 := [172]
abbrev dktX2_judge_1 : List UInt8 := dkwX2_judge_1 ++ []
def dkwX2_judge_0 : List UInt8 := [42, 182, 0, 164, 42, 180, 0, 177, 153, 0, 11, 42, 3, 182, 1, 68, 167, 0, 8, 42, 4, 182, 0, 167]
abbrev dktX2_judge_0 : List UInt8 := dkwX2_judge_0 ++ dktX2_judge_1
theorem dksX2_judge_0 : cX2_judge.data.toList.drop 0 = dktX2_judge_0 := by decide +kernel
theorem dksX2_judge_1 : cX2_judge.data.toList.drop 24 = dktX2_judge_1 := dk_seg dksX2_judge_0 24 rfl rfl
theorem dX2_judge_0 : decode cX2_judge 0 = .ok (.aload_n 0, 1) := dk_42 (dk_at dksX2_judge_0 0 rfl rfl)
theorem dX2_judge_1 : decode cX2_judge 1 = .ok (.invokevirtual 164, 3) := dk_182 0 164 (dk_at dksX2_judge_0 1 rfl rfl)
theorem dX2_judge_4 : decode cX2_judge 4 = .ok (.aload_n 0, 1) := dk_42 (dk_at dksX2_judge_0 4 rfl rfl)
theorem dX2_judge_5 : decode cX2_judge 5 = .ok (.getfield 177, 3) := dk_180 0 177 (dk_at dksX2_judge_0 5 rfl rfl)
theorem dX2_judge_8 : decode cX2_judge 8 = .ok (.ifCond .eq 11, 3) := dk_153 0 11 (dk_at dksX2_judge_0 8 rfl rfl)
theorem dX2_judge_11 : decode cX2_judge 11 = .ok (.aload_n 0, 1) := dk_42 (dk_at dksX2_judge_0 11 rfl rfl)
theorem dX2_judge_12 : decode cX2_judge 12 = .ok (.iconst 0, 1) := dk_3 (dk_at dksX2_judge_0 12 rfl rfl)
theorem dX2_judge_13 : decode cX2_judge 13 = .ok (.invokevirtual 324, 3) := dk_182 1 68 (dk_at dksX2_judge_0 13 rfl rfl)
theorem dX2_judge_16 : decode cX2_judge 16 = .ok (.goto 8, 3) := dk_167 0 8 (dk_at dksX2_judge_0 16 rfl rfl)
theorem dX2_judge_19 : decode cX2_judge 19 = .ok (.aload_n 0, 1) := dk_42 (dk_at dksX2_judge_0 19 rfl rfl)
theorem dX2_judge_20 : decode cX2_judge 20 = .ok (.iconst 1, 1) := dk_4 (dk_at dksX2_judge_0 20 rfl rfl)
theorem dX2_judge_21 : decode cX2_judge 21 = .ok (.invokevirtual 167, 3) := dk_182 0 167 (dk_at dksX2_judge_0 21 rfl rfl)
theorem dX2_judge_24 : decode cX2_judge 24 = .ok (.ireturn, 1) := dk_172 (dk_at dksX2_judge_1 0 rfl rfl)
abbrev cX2_third : ByteArray := prog_16_method_89_code
def yX2_third : MethodName := ⟨RX2, "third", "(I)I"⟩
def dkwX2_third_4 : List UInt8 := [167, 0, 5, 21, 4, 96, 61, 132, 3, 1, 167, 255, 173, 28, 172]
abbrev dktX2_third_4 : List UInt8 := dkwX2_third_4 ++ []
def dkwX2_third_3 : List UInt8 := [6, 29, 104, 96, 4, 96, 46, 3, 182, 1, 56, 100, 54, 4, 28, 21, 4, 156, 0, 9, 21, 4, 116]
abbrev dktX2_third_3 : List UInt8 := dkwX2_third_3 ++ dktX2_third_4
def dkwX2_third_2 : List UInt8 := [167, 0, 54, 42, 180, 0, 20, 16, 26, 6, 29, 104, 96, 5, 96, 46, 42, 27, 42, 180, 0, 20, 16, 26]
abbrev dktX2_third_2 : List UInt8 := dkwX2_third_2 ++ dktX2_third_3
def dkwX2_third_1 : List UInt8 := [180, 0, 20, 16, 6, 46, 162, 0, 78, 42, 180, 0, 20, 16, 26, 6, 29, 104, 96, 46, 27, 159, 0, 6]
abbrev dktX2_third_1 : List UInt8 := dkwX2_third_1 ++ dktX2_third_2
def dkwX2_third_0 : List UInt8 := [42, 182, 0, 164, 42, 27, 182, 0, 239, 154, 0, 9, 42, 4, 182, 0, 167, 172, 3, 61, 3, 62, 29, 42]
abbrev dktX2_third_0 : List UInt8 := dkwX2_third_0 ++ dktX2_third_1
theorem dksX2_third_0 : cX2_third.data.toList.drop 0 = dktX2_third_0 := by decide +kernel
theorem dksX2_third_1 : cX2_third.data.toList.drop 24 = dktX2_third_1 := dk_seg dksX2_third_0 24 rfl rfl
theorem dksX2_third_2 : cX2_third.data.toList.drop 48 = dktX2_third_2 := dk_seg dksX2_third_1 24 rfl rfl
theorem dksX2_third_3 : cX2_third.data.toList.drop 72 = dktX2_third_3 := dk_seg dksX2_third_2 24 rfl rfl
theorem dksX2_third_4 : cX2_third.data.toList.drop 95 = dktX2_third_4 := dk_seg dksX2_third_3 23 rfl rfl
theorem dX2_third_0 : decode cX2_third 0 = .ok (.aload_n 0, 1) := dk_42 (dk_at dksX2_third_0 0 rfl rfl)
theorem dX2_third_1 : decode cX2_third 1 = .ok (.invokevirtual 164, 3) := dk_182 0 164 (dk_at dksX2_third_0 1 rfl rfl)
theorem dX2_third_4 : decode cX2_third 4 = .ok (.aload_n 0, 1) := dk_42 (dk_at dksX2_third_0 4 rfl rfl)
theorem dX2_third_5 : decode cX2_third 5 = .ok (.iload_n 1, 1) := dk_27 (dk_at dksX2_third_0 5 rfl rfl)
theorem dX2_third_6 : decode cX2_third 6 = .ok (.invokevirtual 239, 3) := dk_182 0 239 (dk_at dksX2_third_0 6 rfl rfl)
theorem dX2_third_9 : decode cX2_third 9 = .ok (.ifCond .ne 9, 3) := dk_154 0 9 (dk_at dksX2_third_0 9 rfl rfl)
theorem dX2_third_12 : decode cX2_third 12 = .ok (.aload_n 0, 1) := dk_42 (dk_at dksX2_third_0 12 rfl rfl)
theorem dX2_third_13 : decode cX2_third 13 = .ok (.iconst 1, 1) := dk_4 (dk_at dksX2_third_0 13 rfl rfl)
theorem dX2_third_14 : decode cX2_third 14 = .ok (.invokevirtual 167, 3) := dk_182 0 167 (dk_at dksX2_third_0 14 rfl rfl)
theorem dX2_third_17 : decode cX2_third 17 = .ok (.ireturn, 1) := dk_172 (dk_at dksX2_third_0 17 rfl rfl)
theorem dX2_third_18 : decode cX2_third 18 = .ok (.iconst 0, 1) := dk_3 (dk_at dksX2_third_0 18 rfl rfl)
theorem dX2_third_19 : decode cX2_third 19 = .ok (.istore_n 2, 1) := dk_61 (dk_at dksX2_third_0 19 rfl rfl)
theorem dX2_third_20 : decode cX2_third 20 = .ok (.iconst 0, 1) := dk_3 (dk_at dksX2_third_0 20 rfl rfl)
theorem dX2_third_21 : decode cX2_third 21 = .ok (.istore_n 3, 1) := dk_62 (dk_at dksX2_third_0 21 rfl rfl)
theorem dX2_third_22 : decode cX2_third 22 = .ok (.iload_n 3, 1) := dk_29 (dk_at dksX2_third_0 22 rfl rfl)
theorem dX2_third_23 : decode cX2_third 23 = .ok (.aload_n 0, 1) := dk_42 (dk_at dksX2_third_0 23 rfl rfl)
theorem dX2_third_24 : decode cX2_third 24 = .ok (.getfield 20, 3) := dk_180 0 20 (dk_at dksX2_third_1 0 rfl rfl)
theorem dX2_third_27 : decode cX2_third 27 = .ok (.bipush 6, 2) := dk_16 6 (dk_at dksX2_third_1 3 rfl rfl)
theorem dX2_third_29 : decode cX2_third 29 = .ok (.iaload, 1) := dk_46 (dk_at dksX2_third_1 5 rfl rfl)
theorem dX2_third_30 : decode cX2_third 30 = .ok (.if_icmp .ge 78, 3) := dk_162 0 78 (dk_at dksX2_third_1 6 rfl rfl)
theorem dX2_third_33 : decode cX2_third 33 = .ok (.aload_n 0, 1) := dk_42 (dk_at dksX2_third_1 9 rfl rfl)
theorem dX2_third_34 : decode cX2_third 34 = .ok (.getfield 20, 3) := dk_180 0 20 (dk_at dksX2_third_1 10 rfl rfl)
theorem dX2_third_37 : decode cX2_third 37 = .ok (.bipush 26, 2) := dk_16 26 (dk_at dksX2_third_1 13 rfl rfl)
theorem dX2_third_39 : decode cX2_third 39 = .ok (.iconst 3, 1) := dk_6 (dk_at dksX2_third_1 15 rfl rfl)
theorem dX2_third_40 : decode cX2_third 40 = .ok (.iload_n 3, 1) := dk_29 (dk_at dksX2_third_1 16 rfl rfl)
theorem dX2_third_41 : decode cX2_third 41 = .ok (.imul, 1) := dk_104 (dk_at dksX2_third_1 17 rfl rfl)
theorem dX2_third_42 : decode cX2_third 42 = .ok (.iadd, 1) := dk_96 (dk_at dksX2_third_1 18 rfl rfl)
theorem dX2_third_43 : decode cX2_third 43 = .ok (.iaload, 1) := dk_46 (dk_at dksX2_third_1 19 rfl rfl)
theorem dX2_third_44 : decode cX2_third 44 = .ok (.iload_n 1, 1) := dk_27 (dk_at dksX2_third_1 20 rfl rfl)
theorem dX2_third_45 : decode cX2_third 45 = .ok (.if_icmp .eq 6, 3) := dk_159 0 6 (dk_at dksX2_third_1 21 rfl rfl)
theorem dX2_third_48 : decode cX2_third 48 = .ok (.goto 54, 3) := dk_167 0 54 (dk_at dksX2_third_2 0 rfl rfl)
theorem dX2_third_51 : decode cX2_third 51 = .ok (.aload_n 0, 1) := dk_42 (dk_at dksX2_third_2 3 rfl rfl)
theorem dX2_third_52 : decode cX2_third 52 = .ok (.getfield 20, 3) := dk_180 0 20 (dk_at dksX2_third_2 4 rfl rfl)
theorem dX2_third_55 : decode cX2_third 55 = .ok (.bipush 26, 2) := dk_16 26 (dk_at dksX2_third_2 7 rfl rfl)
theorem dX2_third_57 : decode cX2_third 57 = .ok (.iconst 3, 1) := dk_6 (dk_at dksX2_third_2 9 rfl rfl)
theorem dX2_third_58 : decode cX2_third 58 = .ok (.iload_n 3, 1) := dk_29 (dk_at dksX2_third_2 10 rfl rfl)
theorem dX2_third_59 : decode cX2_third 59 = .ok (.imul, 1) := dk_104 (dk_at dksX2_third_2 11 rfl rfl)
theorem dX2_third_60 : decode cX2_third 60 = .ok (.iadd, 1) := dk_96 (dk_at dksX2_third_2 12 rfl rfl)
theorem dX2_third_61 : decode cX2_third 61 = .ok (.iconst 2, 1) := dk_5 (dk_at dksX2_third_2 13 rfl rfl)
theorem dX2_third_62 : decode cX2_third 62 = .ok (.iadd, 1) := dk_96 (dk_at dksX2_third_2 14 rfl rfl)
theorem dX2_third_63 : decode cX2_third 63 = .ok (.iaload, 1) := dk_46 (dk_at dksX2_third_2 15 rfl rfl)
theorem dX2_third_64 : decode cX2_third 64 = .ok (.aload_n 0, 1) := dk_42 (dk_at dksX2_third_2 16 rfl rfl)
theorem dX2_third_65 : decode cX2_third 65 = .ok (.iload_n 1, 1) := dk_27 (dk_at dksX2_third_2 17 rfl rfl)
theorem dX2_third_66 : decode cX2_third 66 = .ok (.aload_n 0, 1) := dk_42 (dk_at dksX2_third_2 18 rfl rfl)
theorem dX2_third_67 : decode cX2_third 67 = .ok (.getfield 20, 3) := dk_180 0 20 (dk_at dksX2_third_2 19 rfl rfl)
theorem dX2_third_70 : decode cX2_third 70 = .ok (.bipush 26, 2) := dk_16 26 (dk_at dksX2_third_2 22 rfl rfl)
theorem dX2_third_72 : decode cX2_third 72 = .ok (.iconst 3, 1) := dk_6 (dk_at dksX2_third_3 0 rfl rfl)
theorem dX2_third_73 : decode cX2_third 73 = .ok (.iload_n 3, 1) := dk_29 (dk_at dksX2_third_3 1 rfl rfl)
theorem dX2_third_74 : decode cX2_third 74 = .ok (.imul, 1) := dk_104 (dk_at dksX2_third_3 2 rfl rfl)
theorem dX2_third_75 : decode cX2_third 75 = .ok (.iadd, 1) := dk_96 (dk_at dksX2_third_3 3 rfl rfl)
theorem dX2_third_76 : decode cX2_third 76 = .ok (.iconst 1, 1) := dk_4 (dk_at dksX2_third_3 4 rfl rfl)
theorem dX2_third_77 : decode cX2_third 77 = .ok (.iadd, 1) := dk_96 (dk_at dksX2_third_3 5 rfl rfl)
theorem dX2_third_78 : decode cX2_third 78 = .ok (.iaload, 1) := dk_46 (dk_at dksX2_third_3 6 rfl rfl)
theorem dX2_third_79 : decode cX2_third 79 = .ok (.iconst 0, 1) := dk_3 (dk_at dksX2_third_3 7 rfl rfl)
theorem dX2_third_80 : decode cX2_third 80 = .ok (.invokevirtual 312, 3) := dk_182 1 56 (dk_at dksX2_third_3 8 rfl rfl)
theorem dX2_third_83 : decode cX2_third 83 = .ok (.isub, 1) := dk_100 (dk_at dksX2_third_3 11 rfl rfl)
theorem dX2_third_84 : decode cX2_third 84 = .ok (.istore 4, 2) := dk_54 4 (dk_at dksX2_third_3 12 rfl rfl)
theorem dX2_third_86 : decode cX2_third 86 = .ok (.iload_n 2, 1) := dk_28 (dk_at dksX2_third_3 14 rfl rfl)
theorem dX2_third_87 : decode cX2_third 87 = .ok (.iload 4, 2) := dk_21 4 (dk_at dksX2_third_3 15 rfl rfl)
theorem dX2_third_89 : decode cX2_third 89 = .ok (.ifCond .ge 9, 3) := dk_156 0 9 (dk_at dksX2_third_3 17 rfl rfl)
theorem dX2_third_92 : decode cX2_third 92 = .ok (.iload 4, 2) := dk_21 4 (dk_at dksX2_third_3 20 rfl rfl)
theorem dX2_third_94 : decode cX2_third 94 = .ok (.ineg, 1) := dk_116 (dk_at dksX2_third_3 22 rfl rfl)
theorem dX2_third_95 : decode cX2_third 95 = .ok (.goto 5, 3) := dk_167 0 5 (dk_at dksX2_third_4 0 rfl rfl)
theorem dX2_third_98 : decode cX2_third 98 = .ok (.iload 4, 2) := dk_21 4 (dk_at dksX2_third_4 3 rfl rfl)
theorem dX2_third_100 : decode cX2_third 100 = .ok (.iadd, 1) := dk_96 (dk_at dksX2_third_4 5 rfl rfl)
theorem dX2_third_101 : decode cX2_third 101 = .ok (.istore_n 2, 1) := dk_61 (dk_at dksX2_third_4 6 rfl rfl)
theorem dX2_third_102 : decode cX2_third 102 = .ok (.iinc 3 1, 3) := dk_132 3 1 (dk_at dksX2_third_4 7 rfl rfl)
theorem dX2_third_105 : decode cX2_third 105 = .ok (.goto (-83), 3) := dk_167 255 173 (dk_at dksX2_third_4 10 rfl rfl)
theorem dX2_third_108 : decode cX2_third 108 = .ok (.iload_n 2, 1) := dk_28 (dk_at dksX2_third_4 13 rfl rfl)
theorem dX2_third_109 : decode cX2_third 109 = .ok (.ireturn, 1) := dk_172 (dk_at dksX2_third_4 14 rfl rfl)
abbrev cX2_owes : ByteArray := prog_16_method_92_code
def yX2_owes : MethodName := ⟨RX2, "owes", "(II)I"⟩
def dkwX2_owes_1 : List UInt8 := [182, 0, 167, 172]
abbrev dktX2_owes_1 : List UInt8 := dkwX2_owes_1 ++ []
def dkwX2_owes_0 : List UInt8 := [42, 182, 0, 164, 42, 27, 28, 182, 1, 37, 153, 0, 12, 42, 27, 28, 182, 1, 80, 167, 0, 8, 42, 4]
abbrev dktX2_owes_0 : List UInt8 := dkwX2_owes_0 ++ dktX2_owes_1
theorem dksX2_owes_0 : cX2_owes.data.toList.drop 0 = dktX2_owes_0 := by decide +kernel
theorem dksX2_owes_1 : cX2_owes.data.toList.drop 24 = dktX2_owes_1 := dk_seg dksX2_owes_0 24 rfl rfl
theorem dX2_owes_0 : decode cX2_owes 0 = .ok (.aload_n 0, 1) := dk_42 (dk_at dksX2_owes_0 0 rfl rfl)
theorem dX2_owes_1 : decode cX2_owes 1 = .ok (.invokevirtual 164, 3) := dk_182 0 164 (dk_at dksX2_owes_0 1 rfl rfl)
theorem dX2_owes_4 : decode cX2_owes 4 = .ok (.aload_n 0, 1) := dk_42 (dk_at dksX2_owes_0 4 rfl rfl)
theorem dX2_owes_5 : decode cX2_owes 5 = .ok (.iload_n 1, 1) := dk_27 (dk_at dksX2_owes_0 5 rfl rfl)
theorem dX2_owes_6 : decode cX2_owes 6 = .ok (.iload_n 2, 1) := dk_28 (dk_at dksX2_owes_0 6 rfl rfl)
theorem dX2_owes_7 : decode cX2_owes 7 = .ok (.invokevirtual 293, 3) := dk_182 1 37 (dk_at dksX2_owes_0 7 rfl rfl)
theorem dX2_owes_10 : decode cX2_owes 10 = .ok (.ifCond .eq 12, 3) := dk_153 0 12 (dk_at dksX2_owes_0 10 rfl rfl)
theorem dX2_owes_13 : decode cX2_owes 13 = .ok (.aload_n 0, 1) := dk_42 (dk_at dksX2_owes_0 13 rfl rfl)
theorem dX2_owes_14 : decode cX2_owes 14 = .ok (.iload_n 1, 1) := dk_27 (dk_at dksX2_owes_0 14 rfl rfl)
theorem dX2_owes_15 : decode cX2_owes 15 = .ok (.iload_n 2, 1) := dk_28 (dk_at dksX2_owes_0 15 rfl rfl)
theorem dX2_owes_16 : decode cX2_owes 16 = .ok (.invokevirtual 336, 3) := dk_182 1 80 (dk_at dksX2_owes_0 16 rfl rfl)
theorem dX2_owes_19 : decode cX2_owes 19 = .ok (.goto 8, 3) := dk_167 0 8 (dk_at dksX2_owes_0 19 rfl rfl)
theorem dX2_owes_22 : decode cX2_owes 22 = .ok (.aload_n 0, 1) := dk_42 (dk_at dksX2_owes_0 22 rfl rfl)
theorem dX2_owes_23 : decode cX2_owes 23 = .ok (.iconst 1, 1) := dk_4 (dk_at dksX2_owes_0 23 rfl rfl)
theorem dX2_owes_24 : decode cX2_owes 24 = .ok (.invokevirtual 167, 3) := dk_182 0 167 (dk_at dksX2_owes_1 0 rfl rfl)
theorem dX2_owes_27 : decode cX2_owes 27 = .ok (.ireturn, 1) := dk_172 (dk_at dksX2_owes_1 3 rfl rfl)
abbrev cX2_debtOf : ByteArray := prog_16_method_90_code
def yX2_debtOf : MethodName := ⟨RX2, "debtOf", "(II)I"⟩
def dkwX2_debtOf_0 : List UInt8 := [42, 180, 0, 32, 16, 10, 8, 27, 104, 96, 28, 96, 46, 172]
abbrev dktX2_debtOf_0 : List UInt8 := dkwX2_debtOf_0 ++ []
theorem dksX2_debtOf_0 : cX2_debtOf.data.toList.drop 0 = dktX2_debtOf_0 := by decide +kernel
theorem dX2_debtOf_0 : decode cX2_debtOf 0 = .ok (.aload_n 0, 1) := dk_42 (dk_at dksX2_debtOf_0 0 rfl rfl)
theorem dX2_debtOf_1 : decode cX2_debtOf 1 = .ok (.getfield 32, 3) := dk_180 0 32 (dk_at dksX2_debtOf_0 1 rfl rfl)
theorem dX2_debtOf_4 : decode cX2_debtOf 4 = .ok (.bipush 10, 2) := dk_16 10 (dk_at dksX2_debtOf_0 4 rfl rfl)
theorem dX2_debtOf_6 : decode cX2_debtOf 6 = .ok (.iconst 5, 1) := dk_8 (dk_at dksX2_debtOf_0 6 rfl rfl)
theorem dX2_debtOf_7 : decode cX2_debtOf 7 = .ok (.iload_n 1, 1) := dk_27 (dk_at dksX2_debtOf_0 7 rfl rfl)
theorem dX2_debtOf_8 : decode cX2_debtOf 8 = .ok (.imul, 1) := dk_104 (dk_at dksX2_debtOf_0 8 rfl rfl)
theorem dX2_debtOf_9 : decode cX2_debtOf 9 = .ok (.iadd, 1) := dk_96 (dk_at dksX2_debtOf_0 9 rfl rfl)
theorem dX2_debtOf_10 : decode cX2_debtOf 10 = .ok (.iload_n 2, 1) := dk_28 (dk_at dksX2_debtOf_0 10 rfl rfl)
theorem dX2_debtOf_11 : decode cX2_debtOf 11 = .ok (.iadd, 1) := dk_96 (dk_at dksX2_debtOf_0 11 rfl rfl)
theorem dX2_debtOf_12 : decode cX2_debtOf 12 = .ok (.iaload, 1) := dk_46 (dk_at dksX2_debtOf_0 12 rfl rfl)
theorem dX2_debtOf_13 : decode cX2_debtOf 13 = .ok (.ireturn, 1) := dk_172 (dk_at dksX2_debtOf_0 13 rfl rfl)
abbrev cX2_net : ByteArray := prog_16_method_93_code
def yX2_net : MethodName := ⟨RX2, "net", "(I)I"⟩
def dkwX2_net_1 : List UInt8 := [19, 1, 86, 172]
abbrev dktX2_net_1 : List UInt8 := dkwX2_net_1 ++ []
def dkwX2_net_0 : List UInt8 := [42, 182, 0, 164, 42, 27, 182, 0, 239, 153, 0, 9, 42, 27, 182, 1, 83, 172, 42, 4, 181, 0, 62]
abbrev dktX2_net_0 : List UInt8 := dkwX2_net_0 ++ dktX2_net_1
theorem dksX2_net_0 : cX2_net.data.toList.drop 0 = dktX2_net_0 := by decide +kernel
theorem dksX2_net_1 : cX2_net.data.toList.drop 23 = dktX2_net_1 := dk_seg dksX2_net_0 23 rfl rfl
theorem dX2_net_0 : decode cX2_net 0 = .ok (.aload_n 0, 1) := dk_42 (dk_at dksX2_net_0 0 rfl rfl)
theorem dX2_net_1 : decode cX2_net 1 = .ok (.invokevirtual 164, 3) := dk_182 0 164 (dk_at dksX2_net_0 1 rfl rfl)
theorem dX2_net_4 : decode cX2_net 4 = .ok (.aload_n 0, 1) := dk_42 (dk_at dksX2_net_0 4 rfl rfl)
theorem dX2_net_5 : decode cX2_net 5 = .ok (.iload_n 1, 1) := dk_27 (dk_at dksX2_net_0 5 rfl rfl)
theorem dX2_net_6 : decode cX2_net 6 = .ok (.invokevirtual 239, 3) := dk_182 0 239 (dk_at dksX2_net_0 6 rfl rfl)
theorem dX2_net_9 : decode cX2_net 9 = .ok (.ifCond .eq 9, 3) := dk_153 0 9 (dk_at dksX2_net_0 9 rfl rfl)
theorem dX2_net_12 : decode cX2_net 12 = .ok (.aload_n 0, 1) := dk_42 (dk_at dksX2_net_0 12 rfl rfl)
theorem dX2_net_13 : decode cX2_net 13 = .ok (.iload_n 1, 1) := dk_27 (dk_at dksX2_net_0 13 rfl rfl)
theorem dX2_net_14 : decode cX2_net 14 = .ok (.invokevirtual 339, 3) := dk_182 1 83 (dk_at dksX2_net_0 14 rfl rfl)
theorem dX2_net_17 : decode cX2_net 17 = .ok (.ireturn, 1) := dk_172 (dk_at dksX2_net_0 17 rfl rfl)
theorem dX2_net_18 : decode cX2_net 18 = .ok (.aload_n 0, 1) := dk_42 (dk_at dksX2_net_0 18 rfl rfl)
theorem dX2_net_19 : decode cX2_net 19 = .ok (.iconst 1, 1) := dk_4 (dk_at dksX2_net_0 19 rfl rfl)
theorem dX2_net_20 : decode cX2_net 20 = .ok (.putfield 62, 3) := dk_181 0 62 (dk_at dksX2_net_0 20 rfl rfl)
theorem dX2_net_23 : decode cX2_net 23 = .ok (.ldc_w 342, 3) := dk_19 1 86 (dk_at dksX2_net_1 0 rfl rfl)
theorem dX2_net_26 : decode cX2_net 26 = .ok (.ireturn, 1) := dk_172 (dk_at dksX2_net_1 3 rfl rfl)
abbrev cX2_netOf : ByteArray := prog_16_method_91_code
def yX2_netOf : MethodName := ⟨RX2, "netOf", "(I)I"⟩
def dkwX2_netOf_1 : List UInt8 := [182, 1, 80, 100, 96, 61, 132, 3, 1, 167, 255, 227, 28, 172]
abbrev dktX2_netOf_1 : List UInt8 := dkwX2_netOf_1 ++ []
def dkwX2_netOf_0 : List UInt8 := [3, 61, 3, 62, 29, 42, 180, 0, 20, 5, 46, 162, 0, 25, 28, 42, 29, 27, 182, 1, 80, 42, 27, 29]
abbrev dktX2_netOf_0 : List UInt8 := dkwX2_netOf_0 ++ dktX2_netOf_1
theorem dksX2_netOf_0 : cX2_netOf.data.toList.drop 0 = dktX2_netOf_0 := by decide +kernel
theorem dksX2_netOf_1 : cX2_netOf.data.toList.drop 24 = dktX2_netOf_1 := dk_seg dksX2_netOf_0 24 rfl rfl
theorem dX2_netOf_0 : decode cX2_netOf 0 = .ok (.iconst 0, 1) := dk_3 (dk_at dksX2_netOf_0 0 rfl rfl)
theorem dX2_netOf_1 : decode cX2_netOf 1 = .ok (.istore_n 2, 1) := dk_61 (dk_at dksX2_netOf_0 1 rfl rfl)
theorem dX2_netOf_2 : decode cX2_netOf 2 = .ok (.iconst 0, 1) := dk_3 (dk_at dksX2_netOf_0 2 rfl rfl)
theorem dX2_netOf_3 : decode cX2_netOf 3 = .ok (.istore_n 3, 1) := dk_62 (dk_at dksX2_netOf_0 3 rfl rfl)
theorem dX2_netOf_4 : decode cX2_netOf 4 = .ok (.iload_n 3, 1) := dk_29 (dk_at dksX2_netOf_0 4 rfl rfl)
theorem dX2_netOf_5 : decode cX2_netOf 5 = .ok (.aload_n 0, 1) := dk_42 (dk_at dksX2_netOf_0 5 rfl rfl)
theorem dX2_netOf_6 : decode cX2_netOf 6 = .ok (.getfield 20, 3) := dk_180 0 20 (dk_at dksX2_netOf_0 6 rfl rfl)
theorem dX2_netOf_9 : decode cX2_netOf 9 = .ok (.iconst 2, 1) := dk_5 (dk_at dksX2_netOf_0 9 rfl rfl)
theorem dX2_netOf_10 : decode cX2_netOf 10 = .ok (.iaload, 1) := dk_46 (dk_at dksX2_netOf_0 10 rfl rfl)
theorem dX2_netOf_11 : decode cX2_netOf 11 = .ok (.if_icmp .ge 25, 3) := dk_162 0 25 (dk_at dksX2_netOf_0 11 rfl rfl)
theorem dX2_netOf_14 : decode cX2_netOf 14 = .ok (.iload_n 2, 1) := dk_28 (dk_at dksX2_netOf_0 14 rfl rfl)
theorem dX2_netOf_15 : decode cX2_netOf 15 = .ok (.aload_n 0, 1) := dk_42 (dk_at dksX2_netOf_0 15 rfl rfl)
theorem dX2_netOf_16 : decode cX2_netOf 16 = .ok (.iload_n 3, 1) := dk_29 (dk_at dksX2_netOf_0 16 rfl rfl)
theorem dX2_netOf_17 : decode cX2_netOf 17 = .ok (.iload_n 1, 1) := dk_27 (dk_at dksX2_netOf_0 17 rfl rfl)
theorem dX2_netOf_18 : decode cX2_netOf 18 = .ok (.invokevirtual 336, 3) := dk_182 1 80 (dk_at dksX2_netOf_0 18 rfl rfl)
theorem dX2_netOf_21 : decode cX2_netOf 21 = .ok (.aload_n 0, 1) := dk_42 (dk_at dksX2_netOf_0 21 rfl rfl)
theorem dX2_netOf_22 : decode cX2_netOf 22 = .ok (.iload_n 1, 1) := dk_27 (dk_at dksX2_netOf_0 22 rfl rfl)
theorem dX2_netOf_23 : decode cX2_netOf 23 = .ok (.iload_n 3, 1) := dk_29 (dk_at dksX2_netOf_0 23 rfl rfl)
theorem dX2_netOf_24 : decode cX2_netOf 24 = .ok (.invokevirtual 336, 3) := dk_182 1 80 (dk_at dksX2_netOf_1 0 rfl rfl)
theorem dX2_netOf_27 : decode cX2_netOf 27 = .ok (.isub, 1) := dk_100 (dk_at dksX2_netOf_1 3 rfl rfl)
theorem dX2_netOf_28 : decode cX2_netOf 28 = .ok (.iadd, 1) := dk_96 (dk_at dksX2_netOf_1 4 rfl rfl)
theorem dX2_netOf_29 : decode cX2_netOf 29 = .ok (.istore_n 2, 1) := dk_61 (dk_at dksX2_netOf_1 5 rfl rfl)
theorem dX2_netOf_30 : decode cX2_netOf 30 = .ok (.iinc 3 1, 3) := dk_132 3 1 (dk_at dksX2_netOf_1 6 rfl rfl)
theorem dX2_netOf_33 : decode cX2_netOf 33 = .ok (.goto (-29), 3) := dk_167 255 227 (dk_at dksX2_netOf_1 9 rfl rfl)
theorem dX2_netOf_36 : decode cX2_netOf 36 = .ok (.iload_n 2, 1) := dk_28 (dk_at dksX2_netOf_1 12 rfl rfl)
theorem dX2_netOf_37 : decode cX2_netOf 37 = .ok (.ireturn, 1) := dk_172 (dk_at dksX2_netOf_1 13 rfl rfl)
abbrev cX2_due : ByteArray := prog_16_method_94_code
def yX2_due : MethodName := ⟨RX2, "due", "()I"⟩
def dkwX2_due_2 : List UInt8 := [167, 0, 4, 3, 96, 60, 132, 2, 1, 167, 255, 223, 27, 172]
abbrev dktX2_due_2 : List UInt8 := dkwX2_due_2 ++ []
def dkwX2_due_1 : List UInt8 := [180, 0, 20, 5, 46, 162, 0, 29, 27, 42, 28, 182, 1, 83, 158, 0, 11, 42, 28, 182, 1, 83]
abbrev dktX2_due_1 : List UInt8 := dkwX2_due_1 ++ dktX2_due_2
def dkwX2_due_0 : List UInt8 := [42, 182, 0, 164, 42, 180, 0, 177, 154, 0, 9, 42, 4, 182, 0, 167, 172, 3, 60, 3, 61, 28, 42]
abbrev dktX2_due_0 : List UInt8 := dkwX2_due_0 ++ dktX2_due_1
theorem dksX2_due_0 : cX2_due.data.toList.drop 0 = dktX2_due_0 := by decide +kernel
theorem dksX2_due_1 : cX2_due.data.toList.drop 23 = dktX2_due_1 := dk_seg dksX2_due_0 23 rfl rfl
theorem dksX2_due_2 : cX2_due.data.toList.drop 45 = dktX2_due_2 := dk_seg dksX2_due_1 22 rfl rfl
theorem dX2_due_0 : decode cX2_due 0 = .ok (.aload_n 0, 1) := dk_42 (dk_at dksX2_due_0 0 rfl rfl)
theorem dX2_due_1 : decode cX2_due 1 = .ok (.invokevirtual 164, 3) := dk_182 0 164 (dk_at dksX2_due_0 1 rfl rfl)
theorem dX2_due_4 : decode cX2_due 4 = .ok (.aload_n 0, 1) := dk_42 (dk_at dksX2_due_0 4 rfl rfl)
theorem dX2_due_5 : decode cX2_due 5 = .ok (.getfield 177, 3) := dk_180 0 177 (dk_at dksX2_due_0 5 rfl rfl)
theorem dX2_due_8 : decode cX2_due 8 = .ok (.ifCond .ne 9, 3) := dk_154 0 9 (dk_at dksX2_due_0 8 rfl rfl)
theorem dX2_due_11 : decode cX2_due 11 = .ok (.aload_n 0, 1) := dk_42 (dk_at dksX2_due_0 11 rfl rfl)
theorem dX2_due_12 : decode cX2_due 12 = .ok (.iconst 1, 1) := dk_4 (dk_at dksX2_due_0 12 rfl rfl)
theorem dX2_due_13 : decode cX2_due 13 = .ok (.invokevirtual 167, 3) := dk_182 0 167 (dk_at dksX2_due_0 13 rfl rfl)
theorem dX2_due_16 : decode cX2_due 16 = .ok (.ireturn, 1) := dk_172 (dk_at dksX2_due_0 16 rfl rfl)
theorem dX2_due_17 : decode cX2_due 17 = .ok (.iconst 0, 1) := dk_3 (dk_at dksX2_due_0 17 rfl rfl)
theorem dX2_due_18 : decode cX2_due 18 = .ok (.istore_n 1, 1) := dk_60 (dk_at dksX2_due_0 18 rfl rfl)
theorem dX2_due_19 : decode cX2_due 19 = .ok (.iconst 0, 1) := dk_3 (dk_at dksX2_due_0 19 rfl rfl)
theorem dX2_due_20 : decode cX2_due 20 = .ok (.istore_n 2, 1) := dk_61 (dk_at dksX2_due_0 20 rfl rfl)
theorem dX2_due_21 : decode cX2_due 21 = .ok (.iload_n 2, 1) := dk_28 (dk_at dksX2_due_0 21 rfl rfl)
theorem dX2_due_22 : decode cX2_due 22 = .ok (.aload_n 0, 1) := dk_42 (dk_at dksX2_due_0 22 rfl rfl)
theorem dX2_due_23 : decode cX2_due 23 = .ok (.getfield 20, 3) := dk_180 0 20 (dk_at dksX2_due_1 0 rfl rfl)
theorem dX2_due_26 : decode cX2_due 26 = .ok (.iconst 2, 1) := dk_5 (dk_at dksX2_due_1 3 rfl rfl)
theorem dX2_due_27 : decode cX2_due 27 = .ok (.iaload, 1) := dk_46 (dk_at dksX2_due_1 4 rfl rfl)
theorem dX2_due_28 : decode cX2_due 28 = .ok (.if_icmp .ge 29, 3) := dk_162 0 29 (dk_at dksX2_due_1 5 rfl rfl)
theorem dX2_due_31 : decode cX2_due 31 = .ok (.iload_n 1, 1) := dk_27 (dk_at dksX2_due_1 8 rfl rfl)
theorem dX2_due_32 : decode cX2_due 32 = .ok (.aload_n 0, 1) := dk_42 (dk_at dksX2_due_1 9 rfl rfl)
theorem dX2_due_33 : decode cX2_due 33 = .ok (.iload_n 2, 1) := dk_28 (dk_at dksX2_due_1 10 rfl rfl)
theorem dX2_due_34 : decode cX2_due 34 = .ok (.invokevirtual 339, 3) := dk_182 1 83 (dk_at dksX2_due_1 11 rfl rfl)
theorem dX2_due_37 : decode cX2_due 37 = .ok (.ifCond .le 11, 3) := dk_158 0 11 (dk_at dksX2_due_1 14 rfl rfl)
theorem dX2_due_40 : decode cX2_due 40 = .ok (.aload_n 0, 1) := dk_42 (dk_at dksX2_due_1 17 rfl rfl)
theorem dX2_due_41 : decode cX2_due 41 = .ok (.iload_n 2, 1) := dk_28 (dk_at dksX2_due_1 18 rfl rfl)
theorem dX2_due_42 : decode cX2_due 42 = .ok (.invokevirtual 339, 3) := dk_182 1 83 (dk_at dksX2_due_1 19 rfl rfl)
theorem dX2_due_45 : decode cX2_due 45 = .ok (.goto 4, 3) := dk_167 0 4 (dk_at dksX2_due_2 0 rfl rfl)
theorem dX2_due_48 : decode cX2_due 48 = .ok (.iconst 0, 1) := dk_3 (dk_at dksX2_due_2 3 rfl rfl)
theorem dX2_due_49 : decode cX2_due 49 = .ok (.iadd, 1) := dk_96 (dk_at dksX2_due_2 4 rfl rfl)
theorem dX2_due_50 : decode cX2_due 50 = .ok (.istore_n 1, 1) := dk_60 (dk_at dksX2_due_2 5 rfl rfl)
theorem dX2_due_51 : decode cX2_due 51 = .ok (.iinc 2 1, 3) := dk_132 2 1 (dk_at dksX2_due_2 6 rfl rfl)
theorem dX2_due_54 : decode cX2_due 54 = .ok (.goto (-33), 3) := dk_167 255 223 (dk_at dksX2_due_2 9 rfl rfl)
theorem dX2_due_57 : decode cX2_due 57 = .ok (.iload_n 1, 1) := dk_27 (dk_at dksX2_due_2 12 rfl rfl)
theorem dX2_due_58 : decode cX2_due 58 = .ok (.ireturn, 1) := dk_172 (dk_at dksX2_due_2 13 rfl rfl)
abbrev cX2_creditor : ByteArray := prog_16_method_95_code
def yX2_creditor : MethodName := ⟨RX2, "creditor", "()I"⟩
def dkwX2_creditor_2 : List UInt8 := [132, 2, 1, 167, 255, 228, 27, 172]
abbrev dktX2_creditor_2 : List UInt8 := dkwX2_creditor_2 ++ []
def dkwX2_creditor_1 : List UInt8 := [180, 0, 20, 5, 46, 162, 0, 24, 42, 28, 182, 1, 83, 42, 27, 182, 1, 83, 164, 0, 5, 28, 60]
abbrev dktX2_creditor_1 : List UInt8 := dkwX2_creditor_1 ++ dktX2_creditor_2
def dkwX2_creditor_0 : List UInt8 := [42, 182, 0, 164, 42, 180, 0, 177, 154, 0, 9, 42, 4, 182, 0, 167, 172, 3, 60, 4, 61, 28, 42]
abbrev dktX2_creditor_0 : List UInt8 := dkwX2_creditor_0 ++ dktX2_creditor_1
theorem dksX2_creditor_0 : cX2_creditor.data.toList.drop 0 = dktX2_creditor_0 := by decide +kernel
theorem dksX2_creditor_1 : cX2_creditor.data.toList.drop 23 = dktX2_creditor_1 := dk_seg dksX2_creditor_0 23 rfl rfl
theorem dksX2_creditor_2 : cX2_creditor.data.toList.drop 46 = dktX2_creditor_2 := dk_seg dksX2_creditor_1 23 rfl rfl
theorem dX2_creditor_0 : decode cX2_creditor 0 = .ok (.aload_n 0, 1) := dk_42 (dk_at dksX2_creditor_0 0 rfl rfl)
theorem dX2_creditor_1 : decode cX2_creditor 1 = .ok (.invokevirtual 164, 3) := dk_182 0 164 (dk_at dksX2_creditor_0 1 rfl rfl)
theorem dX2_creditor_4 : decode cX2_creditor 4 = .ok (.aload_n 0, 1) := dk_42 (dk_at dksX2_creditor_0 4 rfl rfl)
theorem dX2_creditor_5 : decode cX2_creditor 5 = .ok (.getfield 177, 3) := dk_180 0 177 (dk_at dksX2_creditor_0 5 rfl rfl)
theorem dX2_creditor_8 : decode cX2_creditor 8 = .ok (.ifCond .ne 9, 3) := dk_154 0 9 (dk_at dksX2_creditor_0 8 rfl rfl)
theorem dX2_creditor_11 : decode cX2_creditor 11 = .ok (.aload_n 0, 1) := dk_42 (dk_at dksX2_creditor_0 11 rfl rfl)
theorem dX2_creditor_12 : decode cX2_creditor 12 = .ok (.iconst 1, 1) := dk_4 (dk_at dksX2_creditor_0 12 rfl rfl)
theorem dX2_creditor_13 : decode cX2_creditor 13 = .ok (.invokevirtual 167, 3) := dk_182 0 167 (dk_at dksX2_creditor_0 13 rfl rfl)
theorem dX2_creditor_16 : decode cX2_creditor 16 = .ok (.ireturn, 1) := dk_172 (dk_at dksX2_creditor_0 16 rfl rfl)
theorem dX2_creditor_17 : decode cX2_creditor 17 = .ok (.iconst 0, 1) := dk_3 (dk_at dksX2_creditor_0 17 rfl rfl)
theorem dX2_creditor_18 : decode cX2_creditor 18 = .ok (.istore_n 1, 1) := dk_60 (dk_at dksX2_creditor_0 18 rfl rfl)
theorem dX2_creditor_19 : decode cX2_creditor 19 = .ok (.iconst 1, 1) := dk_4 (dk_at dksX2_creditor_0 19 rfl rfl)
theorem dX2_creditor_20 : decode cX2_creditor 20 = .ok (.istore_n 2, 1) := dk_61 (dk_at dksX2_creditor_0 20 rfl rfl)
theorem dX2_creditor_21 : decode cX2_creditor 21 = .ok (.iload_n 2, 1) := dk_28 (dk_at dksX2_creditor_0 21 rfl rfl)
theorem dX2_creditor_22 : decode cX2_creditor 22 = .ok (.aload_n 0, 1) := dk_42 (dk_at dksX2_creditor_0 22 rfl rfl)
theorem dX2_creditor_23 : decode cX2_creditor 23 = .ok (.getfield 20, 3) := dk_180 0 20 (dk_at dksX2_creditor_1 0 rfl rfl)
theorem dX2_creditor_26 : decode cX2_creditor 26 = .ok (.iconst 2, 1) := dk_5 (dk_at dksX2_creditor_1 3 rfl rfl)
theorem dX2_creditor_27 : decode cX2_creditor 27 = .ok (.iaload, 1) := dk_46 (dk_at dksX2_creditor_1 4 rfl rfl)
theorem dX2_creditor_28 : decode cX2_creditor 28 = .ok (.if_icmp .ge 24, 3) := dk_162 0 24 (dk_at dksX2_creditor_1 5 rfl rfl)
theorem dX2_creditor_31 : decode cX2_creditor 31 = .ok (.aload_n 0, 1) := dk_42 (dk_at dksX2_creditor_1 8 rfl rfl)
theorem dX2_creditor_32 : decode cX2_creditor 32 = .ok (.iload_n 2, 1) := dk_28 (dk_at dksX2_creditor_1 9 rfl rfl)
theorem dX2_creditor_33 : decode cX2_creditor 33 = .ok (.invokevirtual 339, 3) := dk_182 1 83 (dk_at dksX2_creditor_1 10 rfl rfl)
theorem dX2_creditor_36 : decode cX2_creditor 36 = .ok (.aload_n 0, 1) := dk_42 (dk_at dksX2_creditor_1 13 rfl rfl)
theorem dX2_creditor_37 : decode cX2_creditor 37 = .ok (.iload_n 1, 1) := dk_27 (dk_at dksX2_creditor_1 14 rfl rfl)
theorem dX2_creditor_38 : decode cX2_creditor 38 = .ok (.invokevirtual 339, 3) := dk_182 1 83 (dk_at dksX2_creditor_1 15 rfl rfl)
theorem dX2_creditor_41 : decode cX2_creditor 41 = .ok (.if_icmp .le 5, 3) := dk_164 0 5 (dk_at dksX2_creditor_1 18 rfl rfl)
theorem dX2_creditor_44 : decode cX2_creditor 44 = .ok (.iload_n 2, 1) := dk_28 (dk_at dksX2_creditor_1 21 rfl rfl)
theorem dX2_creditor_45 : decode cX2_creditor 45 = .ok (.istore_n 1, 1) := dk_60 (dk_at dksX2_creditor_1 22 rfl rfl)
theorem dX2_creditor_46 : decode cX2_creditor 46 = .ok (.iinc 2 1, 3) := dk_132 2 1 (dk_at dksX2_creditor_2 0 rfl rfl)
theorem dX2_creditor_49 : decode cX2_creditor 49 = .ok (.goto (-28), 3) := dk_167 255 228 (dk_at dksX2_creditor_2 3 rfl rfl)
theorem dX2_creditor_52 : decode cX2_creditor 52 = .ok (.iload_n 1, 1) := dk_27 (dk_at dksX2_creditor_2 6 rfl rfl)
theorem dX2_creditor_53 : decode cX2_creditor 53 = .ok (.ireturn, 1) := dk_172 (dk_at dksX2_creditor_2 7 rfl rfl)
abbrev cX2_payments : ByteArray := prog_16_method_98_code
def yX2_payments : MethodName := ⟨RX2, "payments", "()I"⟩
def dkwX2_payments_2 : List UInt8 := [128, 60, 132, 2, 1, 167, 255, 225, 27, 184, 1, 93, 42, 27, 182, 1, 90, 100, 172]
abbrev dktX2_payments_2 : List UInt8 := dkwX2_payments_2 ++ []
def dkwX2_payments_1 : List UInt8 := [180, 0, 20, 5, 46, 162, 0, 27, 27, 42, 28, 182, 1, 83, 154, 0, 7, 3, 167, 0, 6, 4, 28, 120]
abbrev dktX2_payments_1 : List UInt8 := dkwX2_payments_1 ++ dktX2_payments_2
def dkwX2_payments_0 : List UInt8 := [42, 182, 0, 164, 42, 180, 0, 177, 154, 0, 9, 42, 4, 182, 0, 167, 172, 3, 60, 3, 61, 28, 42]
abbrev dktX2_payments_0 : List UInt8 := dkwX2_payments_0 ++ dktX2_payments_1
theorem dksX2_payments_0 : cX2_payments.data.toList.drop 0 = dktX2_payments_0 := by decide +kernel
theorem dksX2_payments_1 : cX2_payments.data.toList.drop 23 = dktX2_payments_1 := dk_seg dksX2_payments_0 23 rfl rfl
theorem dksX2_payments_2 : cX2_payments.data.toList.drop 47 = dktX2_payments_2 := dk_seg dksX2_payments_1 24 rfl rfl
theorem dX2_payments_0 : decode cX2_payments 0 = .ok (.aload_n 0, 1) := dk_42 (dk_at dksX2_payments_0 0 rfl rfl)
theorem dX2_payments_1 : decode cX2_payments 1 = .ok (.invokevirtual 164, 3) := dk_182 0 164 (dk_at dksX2_payments_0 1 rfl rfl)
theorem dX2_payments_4 : decode cX2_payments 4 = .ok (.aload_n 0, 1) := dk_42 (dk_at dksX2_payments_0 4 rfl rfl)
theorem dX2_payments_5 : decode cX2_payments 5 = .ok (.getfield 177, 3) := dk_180 0 177 (dk_at dksX2_payments_0 5 rfl rfl)
theorem dX2_payments_8 : decode cX2_payments 8 = .ok (.ifCond .ne 9, 3) := dk_154 0 9 (dk_at dksX2_payments_0 8 rfl rfl)
theorem dX2_payments_11 : decode cX2_payments 11 = .ok (.aload_n 0, 1) := dk_42 (dk_at dksX2_payments_0 11 rfl rfl)
theorem dX2_payments_12 : decode cX2_payments 12 = .ok (.iconst 1, 1) := dk_4 (dk_at dksX2_payments_0 12 rfl rfl)
theorem dX2_payments_13 : decode cX2_payments 13 = .ok (.invokevirtual 167, 3) := dk_182 0 167 (dk_at dksX2_payments_0 13 rfl rfl)
theorem dX2_payments_16 : decode cX2_payments 16 = .ok (.ireturn, 1) := dk_172 (dk_at dksX2_payments_0 16 rfl rfl)
theorem dX2_payments_17 : decode cX2_payments 17 = .ok (.iconst 0, 1) := dk_3 (dk_at dksX2_payments_0 17 rfl rfl)
theorem dX2_payments_18 : decode cX2_payments 18 = .ok (.istore_n 1, 1) := dk_60 (dk_at dksX2_payments_0 18 rfl rfl)
theorem dX2_payments_19 : decode cX2_payments 19 = .ok (.iconst 0, 1) := dk_3 (dk_at dksX2_payments_0 19 rfl rfl)
theorem dX2_payments_20 : decode cX2_payments 20 = .ok (.istore_n 2, 1) := dk_61 (dk_at dksX2_payments_0 20 rfl rfl)
theorem dX2_payments_21 : decode cX2_payments 21 = .ok (.iload_n 2, 1) := dk_28 (dk_at dksX2_payments_0 21 rfl rfl)
theorem dX2_payments_22 : decode cX2_payments 22 = .ok (.aload_n 0, 1) := dk_42 (dk_at dksX2_payments_0 22 rfl rfl)
theorem dX2_payments_23 : decode cX2_payments 23 = .ok (.getfield 20, 3) := dk_180 0 20 (dk_at dksX2_payments_1 0 rfl rfl)
theorem dX2_payments_26 : decode cX2_payments 26 = .ok (.iconst 2, 1) := dk_5 (dk_at dksX2_payments_1 3 rfl rfl)
theorem dX2_payments_27 : decode cX2_payments 27 = .ok (.iaload, 1) := dk_46 (dk_at dksX2_payments_1 4 rfl rfl)
theorem dX2_payments_28 : decode cX2_payments 28 = .ok (.if_icmp .ge 27, 3) := dk_162 0 27 (dk_at dksX2_payments_1 5 rfl rfl)
theorem dX2_payments_31 : decode cX2_payments 31 = .ok (.iload_n 1, 1) := dk_27 (dk_at dksX2_payments_1 8 rfl rfl)
theorem dX2_payments_32 : decode cX2_payments 32 = .ok (.aload_n 0, 1) := dk_42 (dk_at dksX2_payments_1 9 rfl rfl)
theorem dX2_payments_33 : decode cX2_payments 33 = .ok (.iload_n 2, 1) := dk_28 (dk_at dksX2_payments_1 10 rfl rfl)
theorem dX2_payments_34 : decode cX2_payments 34 = .ok (.invokevirtual 339, 3) := dk_182 1 83 (dk_at dksX2_payments_1 11 rfl rfl)
theorem dX2_payments_37 : decode cX2_payments 37 = .ok (.ifCond .ne 7, 3) := dk_154 0 7 (dk_at dksX2_payments_1 14 rfl rfl)
theorem dX2_payments_40 : decode cX2_payments 40 = .ok (.iconst 0, 1) := dk_3 (dk_at dksX2_payments_1 17 rfl rfl)
theorem dX2_payments_41 : decode cX2_payments 41 = .ok (.goto 6, 3) := dk_167 0 6 (dk_at dksX2_payments_1 18 rfl rfl)
theorem dX2_payments_44 : decode cX2_payments 44 = .ok (.iconst 1, 1) := dk_4 (dk_at dksX2_payments_1 21 rfl rfl)
theorem dX2_payments_45 : decode cX2_payments 45 = .ok (.iload_n 2, 1) := dk_28 (dk_at dksX2_payments_1 22 rfl rfl)
theorem dX2_payments_46 : decode cX2_payments 46 = .ok (.ishl, 1) := dk_120 (dk_at dksX2_payments_1 23 rfl rfl)
theorem dX2_payments_47 : decode cX2_payments 47 = .ok (.ior, 1) := dk_128 (dk_at dksX2_payments_2 0 rfl rfl)
theorem dX2_payments_48 : decode cX2_payments 48 = .ok (.istore_n 1, 1) := dk_60 (dk_at dksX2_payments_2 1 rfl rfl)
theorem dX2_payments_49 : decode cX2_payments 49 = .ok (.iinc 2 1, 3) := dk_132 2 1 (dk_at dksX2_payments_2 2 rfl rfl)
theorem dX2_payments_52 : decode cX2_payments 52 = .ok (.goto (-31), 3) := dk_167 255 225 (dk_at dksX2_payments_2 5 rfl rfl)
theorem dX2_payments_55 : decode cX2_payments 55 = .ok (.iload_n 1, 1) := dk_27 (dk_at dksX2_payments_2 8 rfl rfl)
theorem dX2_payments_56 : decode cX2_payments 56 = .ok (.invokestatic 349, 3) := dk_184 1 93 (dk_at dksX2_payments_2 9 rfl rfl)
theorem dX2_payments_59 : decode cX2_payments 59 = .ok (.aload_n 0, 1) := dk_42 (dk_at dksX2_payments_2 12 rfl rfl)
theorem dX2_payments_60 : decode cX2_payments 60 = .ok (.iload_n 1, 1) := dk_27 (dk_at dksX2_payments_2 13 rfl rfl)
theorem dX2_payments_61 : decode cX2_payments 61 = .ok (.invokevirtual 346, 3) := dk_182 1 90 (dk_at dksX2_payments_2 14 rfl rfl)
theorem dX2_payments_64 : decode cX2_payments 64 = .ok (.isub, 1) := dk_100 (dk_at dksX2_payments_2 17 rfl rfl)
theorem dX2_payments_65 : decode cX2_payments 65 = .ok (.ireturn, 1) := dk_172 (dk_at dksX2_payments_2 18 rfl rfl)
abbrev cX2_ones : ByteArray := prog_16_method_8_code
def yX2_ones : MethodName := ⟨RX2, "ones", "(I)I"⟩
def dkwX2_ones_1 : List UInt8 := [27, 172]
abbrev dktX2_ones_1 : List UInt8 := dkwX2_ones_1 ++ []
def dkwX2_ones_0 : List UInt8 := [3, 60, 3, 61, 28, 16, 8, 162, 0, 17, 27, 26, 28, 122, 4, 126, 96, 60, 132, 2, 1, 167, 255, 239]
abbrev dktX2_ones_0 : List UInt8 := dkwX2_ones_0 ++ dktX2_ones_1
theorem dksX2_ones_0 : cX2_ones.data.toList.drop 0 = dktX2_ones_0 := by decide +kernel
theorem dksX2_ones_1 : cX2_ones.data.toList.drop 24 = dktX2_ones_1 := dk_seg dksX2_ones_0 24 rfl rfl
theorem dX2_ones_0 : decode cX2_ones 0 = .ok (.iconst 0, 1) := dk_3 (dk_at dksX2_ones_0 0 rfl rfl)
theorem dX2_ones_1 : decode cX2_ones 1 = .ok (.istore_n 1, 1) := dk_60 (dk_at dksX2_ones_0 1 rfl rfl)
theorem dX2_ones_2 : decode cX2_ones 2 = .ok (.iconst 0, 1) := dk_3 (dk_at dksX2_ones_0 2 rfl rfl)
theorem dX2_ones_3 : decode cX2_ones 3 = .ok (.istore_n 2, 1) := dk_61 (dk_at dksX2_ones_0 3 rfl rfl)
theorem dX2_ones_4 : decode cX2_ones 4 = .ok (.iload_n 2, 1) := dk_28 (dk_at dksX2_ones_0 4 rfl rfl)
theorem dX2_ones_5 : decode cX2_ones 5 = .ok (.bipush 8, 2) := dk_16 8 (dk_at dksX2_ones_0 5 rfl rfl)
theorem dX2_ones_7 : decode cX2_ones 7 = .ok (.if_icmp .ge 17, 3) := dk_162 0 17 (dk_at dksX2_ones_0 7 rfl rfl)
theorem dX2_ones_10 : decode cX2_ones 10 = .ok (.iload_n 1, 1) := dk_27 (dk_at dksX2_ones_0 10 rfl rfl)
theorem dX2_ones_11 : decode cX2_ones 11 = .ok (.iload_n 0, 1) := dk_26 (dk_at dksX2_ones_0 11 rfl rfl)
theorem dX2_ones_12 : decode cX2_ones 12 = .ok (.iload_n 2, 1) := dk_28 (dk_at dksX2_ones_0 12 rfl rfl)
theorem dX2_ones_13 : decode cX2_ones 13 = .ok (.ishr, 1) := dk_122 (dk_at dksX2_ones_0 13 rfl rfl)
theorem dX2_ones_14 : decode cX2_ones 14 = .ok (.iconst 1, 1) := dk_4 (dk_at dksX2_ones_0 14 rfl rfl)
theorem dX2_ones_15 : decode cX2_ones 15 = .ok (.iand, 1) := dk_126 (dk_at dksX2_ones_0 15 rfl rfl)
theorem dX2_ones_16 : decode cX2_ones 16 = .ok (.iadd, 1) := dk_96 (dk_at dksX2_ones_0 16 rfl rfl)
theorem dX2_ones_17 : decode cX2_ones 17 = .ok (.istore_n 1, 1) := dk_60 (dk_at dksX2_ones_0 17 rfl rfl)
theorem dX2_ones_18 : decode cX2_ones 18 = .ok (.iinc 2 1, 3) := dk_132 2 1 (dk_at dksX2_ones_0 18 rfl rfl)
theorem dX2_ones_21 : decode cX2_ones 21 = .ok (.goto (-17), 3) := dk_167 255 239 (dk_at dksX2_ones_0 21 rfl rfl)
theorem dX2_ones_24 : decode cX2_ones 24 = .ok (.iload_n 1, 1) := dk_27 (dk_at dksX2_ones_1 0 rfl rfl)
theorem dX2_ones_25 : decode cX2_ones 25 = .ok (.ireturn, 1) := dk_172 (dk_at dksX2_ones_1 1 rfl rfl)
abbrev cX2_groupsOf : ByteArray := prog_16_method_97_code
def yX2_groupsOf : MethodName := ⟨RX2, "groupsOf", "(I)I"⟩
def dkwX2_groupsOf_2 : List UInt8 := [21, 4, 28, 164, 0, 8, 21, 4, 167, 0, 4, 28, 61, 132, 3, 1, 167, 255, 203, 28, 172]
abbrev dktX2_groupsOf_2 : List UInt8 := dkwX2_groupsOf_2 ++ []
def dkwX2_groupsOf_1 : List UInt8 := [29, 182, 1, 87, 153, 0, 6, 167, 0, 29, 4, 42, 27, 29, 2, 130, 126, 182, 1, 90, 96, 54, 4]
abbrev dktX2_groupsOf_1 : List UInt8 := dkwX2_groupsOf_1 ++ dktX2_groupsOf_2
def dkwX2_groupsOf_0 : List UInt8 := [27, 154, 0, 5, 3, 172, 4, 61, 4, 62, 29, 27, 162, 0, 54, 29, 27, 2, 130, 126, 154, 0, 40, 42]
abbrev dktX2_groupsOf_0 : List UInt8 := dkwX2_groupsOf_0 ++ dktX2_groupsOf_1
theorem dksX2_groupsOf_0 : cX2_groupsOf.data.toList.drop 0 = dktX2_groupsOf_0 := by decide +kernel
theorem dksX2_groupsOf_1 : cX2_groupsOf.data.toList.drop 24 = dktX2_groupsOf_1 := dk_seg dksX2_groupsOf_0 24 rfl rfl
theorem dksX2_groupsOf_2 : cX2_groupsOf.data.toList.drop 47 = dktX2_groupsOf_2 := dk_seg dksX2_groupsOf_1 23 rfl rfl
theorem dX2_groupsOf_0 : decode cX2_groupsOf 0 = .ok (.iload_n 1, 1) := dk_27 (dk_at dksX2_groupsOf_0 0 rfl rfl)
theorem dX2_groupsOf_1 : decode cX2_groupsOf 1 = .ok (.ifCond .ne 5, 3) := dk_154 0 5 (dk_at dksX2_groupsOf_0 1 rfl rfl)
theorem dX2_groupsOf_4 : decode cX2_groupsOf 4 = .ok (.iconst 0, 1) := dk_3 (dk_at dksX2_groupsOf_0 4 rfl rfl)
theorem dX2_groupsOf_5 : decode cX2_groupsOf 5 = .ok (.ireturn, 1) := dk_172 (dk_at dksX2_groupsOf_0 5 rfl rfl)
theorem dX2_groupsOf_6 : decode cX2_groupsOf 6 = .ok (.iconst 1, 1) := dk_4 (dk_at dksX2_groupsOf_0 6 rfl rfl)
theorem dX2_groupsOf_7 : decode cX2_groupsOf 7 = .ok (.istore_n 2, 1) := dk_61 (dk_at dksX2_groupsOf_0 7 rfl rfl)
theorem dX2_groupsOf_8 : decode cX2_groupsOf 8 = .ok (.iconst 1, 1) := dk_4 (dk_at dksX2_groupsOf_0 8 rfl rfl)
theorem dX2_groupsOf_9 : decode cX2_groupsOf 9 = .ok (.istore_n 3, 1) := dk_62 (dk_at dksX2_groupsOf_0 9 rfl rfl)
theorem dX2_groupsOf_10 : decode cX2_groupsOf 10 = .ok (.iload_n 3, 1) := dk_29 (dk_at dksX2_groupsOf_0 10 rfl rfl)
theorem dX2_groupsOf_11 : decode cX2_groupsOf 11 = .ok (.iload_n 1, 1) := dk_27 (dk_at dksX2_groupsOf_0 11 rfl rfl)
theorem dX2_groupsOf_12 : decode cX2_groupsOf 12 = .ok (.if_icmp .ge 54, 3) := dk_162 0 54 (dk_at dksX2_groupsOf_0 12 rfl rfl)
theorem dX2_groupsOf_15 : decode cX2_groupsOf 15 = .ok (.iload_n 3, 1) := dk_29 (dk_at dksX2_groupsOf_0 15 rfl rfl)
theorem dX2_groupsOf_16 : decode cX2_groupsOf 16 = .ok (.iload_n 1, 1) := dk_27 (dk_at dksX2_groupsOf_0 16 rfl rfl)
theorem dX2_groupsOf_17 : decode cX2_groupsOf 17 = .ok (.iconst (-1), 1) := dk_2 (dk_at dksX2_groupsOf_0 17 rfl rfl)
theorem dX2_groupsOf_18 : decode cX2_groupsOf 18 = .ok (.ixor, 1) := dk_130 (dk_at dksX2_groupsOf_0 18 rfl rfl)
theorem dX2_groupsOf_19 : decode cX2_groupsOf 19 = .ok (.iand, 1) := dk_126 (dk_at dksX2_groupsOf_0 19 rfl rfl)
theorem dX2_groupsOf_20 : decode cX2_groupsOf 20 = .ok (.ifCond .ne 40, 3) := dk_154 0 40 (dk_at dksX2_groupsOf_0 20 rfl rfl)
theorem dX2_groupsOf_23 : decode cX2_groupsOf 23 = .ok (.aload_n 0, 1) := dk_42 (dk_at dksX2_groupsOf_0 23 rfl rfl)
theorem dX2_groupsOf_24 : decode cX2_groupsOf 24 = .ok (.iload_n 3, 1) := dk_29 (dk_at dksX2_groupsOf_1 0 rfl rfl)
theorem dX2_groupsOf_25 : decode cX2_groupsOf 25 = .ok (.invokevirtual 343, 3) := dk_182 1 87 (dk_at dksX2_groupsOf_1 1 rfl rfl)
theorem dX2_groupsOf_28 : decode cX2_groupsOf 28 = .ok (.ifCond .eq 6, 3) := dk_153 0 6 (dk_at dksX2_groupsOf_1 4 rfl rfl)
theorem dX2_groupsOf_31 : decode cX2_groupsOf 31 = .ok (.goto 29, 3) := dk_167 0 29 (dk_at dksX2_groupsOf_1 7 rfl rfl)
theorem dX2_groupsOf_34 : decode cX2_groupsOf 34 = .ok (.iconst 1, 1) := dk_4 (dk_at dksX2_groupsOf_1 10 rfl rfl)
theorem dX2_groupsOf_35 : decode cX2_groupsOf 35 = .ok (.aload_n 0, 1) := dk_42 (dk_at dksX2_groupsOf_1 11 rfl rfl)
theorem dX2_groupsOf_36 : decode cX2_groupsOf 36 = .ok (.iload_n 1, 1) := dk_27 (dk_at dksX2_groupsOf_1 12 rfl rfl)
theorem dX2_groupsOf_37 : decode cX2_groupsOf 37 = .ok (.iload_n 3, 1) := dk_29 (dk_at dksX2_groupsOf_1 13 rfl rfl)
theorem dX2_groupsOf_38 : decode cX2_groupsOf 38 = .ok (.iconst (-1), 1) := dk_2 (dk_at dksX2_groupsOf_1 14 rfl rfl)
theorem dX2_groupsOf_39 : decode cX2_groupsOf 39 = .ok (.ixor, 1) := dk_130 (dk_at dksX2_groupsOf_1 15 rfl rfl)
theorem dX2_groupsOf_40 : decode cX2_groupsOf 40 = .ok (.iand, 1) := dk_126 (dk_at dksX2_groupsOf_1 16 rfl rfl)
theorem dX2_groupsOf_41 : decode cX2_groupsOf 41 = .ok (.invokevirtual 346, 3) := dk_182 1 90 (dk_at dksX2_groupsOf_1 17 rfl rfl)
theorem dX2_groupsOf_44 : decode cX2_groupsOf 44 = .ok (.iadd, 1) := dk_96 (dk_at dksX2_groupsOf_1 20 rfl rfl)
theorem dX2_groupsOf_45 : decode cX2_groupsOf 45 = .ok (.istore 4, 2) := dk_54 4 (dk_at dksX2_groupsOf_1 21 rfl rfl)
theorem dX2_groupsOf_47 : decode cX2_groupsOf 47 = .ok (.iload 4, 2) := dk_21 4 (dk_at dksX2_groupsOf_2 0 rfl rfl)
theorem dX2_groupsOf_49 : decode cX2_groupsOf 49 = .ok (.iload_n 2, 1) := dk_28 (dk_at dksX2_groupsOf_2 2 rfl rfl)
theorem dX2_groupsOf_50 : decode cX2_groupsOf 50 = .ok (.if_icmp .le 8, 3) := dk_164 0 8 (dk_at dksX2_groupsOf_2 3 rfl rfl)
theorem dX2_groupsOf_53 : decode cX2_groupsOf 53 = .ok (.iload 4, 2) := dk_21 4 (dk_at dksX2_groupsOf_2 6 rfl rfl)
theorem dX2_groupsOf_55 : decode cX2_groupsOf 55 = .ok (.goto 4, 3) := dk_167 0 4 (dk_at dksX2_groupsOf_2 8 rfl rfl)
theorem dX2_groupsOf_58 : decode cX2_groupsOf 58 = .ok (.iload_n 2, 1) := dk_28 (dk_at dksX2_groupsOf_2 11 rfl rfl)
theorem dX2_groupsOf_59 : decode cX2_groupsOf 59 = .ok (.istore_n 2, 1) := dk_61 (dk_at dksX2_groupsOf_2 12 rfl rfl)
theorem dX2_groupsOf_60 : decode cX2_groupsOf 60 = .ok (.iinc 3 1, 3) := dk_132 3 1 (dk_at dksX2_groupsOf_2 13 rfl rfl)
theorem dX2_groupsOf_63 : decode cX2_groupsOf 63 = .ok (.goto (-53), 3) := dk_167 255 203 (dk_at dksX2_groupsOf_2 16 rfl rfl)
theorem dX2_groupsOf_66 : decode cX2_groupsOf 66 = .ok (.iload_n 2, 1) := dk_28 (dk_at dksX2_groupsOf_2 19 rfl rfl)
theorem dX2_groupsOf_67 : decode cX2_groupsOf 67 = .ok (.ireturn, 1) := dk_172 (dk_at dksX2_groupsOf_2 20 rfl rfl)
abbrev cX2_netsOf : ByteArray := prog_16_method_96_code
def yX2_netsOf : MethodName := ⟨RX2, "netsOf", "(I)I"⟩
def dkwX2_netsOf_1 : List UInt8 := [29, 182, 1, 83, 167, 0, 4, 3, 96, 61, 132, 3, 1, 167, 255, 223, 28, 172]
abbrev dktX2_netsOf_1 : List UInt8 := dkwX2_netsOf_1 ++ []
def dkwX2_netsOf_0 : List UInt8 := [3, 61, 3, 62, 29, 42, 180, 0, 20, 5, 46, 162, 0, 29, 28, 27, 29, 184, 1, 50, 153, 0, 11, 42]
abbrev dktX2_netsOf_0 : List UInt8 := dkwX2_netsOf_0 ++ dktX2_netsOf_1
theorem dksX2_netsOf_0 : cX2_netsOf.data.toList.drop 0 = dktX2_netsOf_0 := by decide +kernel
theorem dksX2_netsOf_1 : cX2_netsOf.data.toList.drop 24 = dktX2_netsOf_1 := dk_seg dksX2_netsOf_0 24 rfl rfl
theorem dX2_netsOf_0 : decode cX2_netsOf 0 = .ok (.iconst 0, 1) := dk_3 (dk_at dksX2_netsOf_0 0 rfl rfl)
theorem dX2_netsOf_1 : decode cX2_netsOf 1 = .ok (.istore_n 2, 1) := dk_61 (dk_at dksX2_netsOf_0 1 rfl rfl)
theorem dX2_netsOf_2 : decode cX2_netsOf 2 = .ok (.iconst 0, 1) := dk_3 (dk_at dksX2_netsOf_0 2 rfl rfl)
theorem dX2_netsOf_3 : decode cX2_netsOf 3 = .ok (.istore_n 3, 1) := dk_62 (dk_at dksX2_netsOf_0 3 rfl rfl)
theorem dX2_netsOf_4 : decode cX2_netsOf 4 = .ok (.iload_n 3, 1) := dk_29 (dk_at dksX2_netsOf_0 4 rfl rfl)
theorem dX2_netsOf_5 : decode cX2_netsOf 5 = .ok (.aload_n 0, 1) := dk_42 (dk_at dksX2_netsOf_0 5 rfl rfl)
theorem dX2_netsOf_6 : decode cX2_netsOf 6 = .ok (.getfield 20, 3) := dk_180 0 20 (dk_at dksX2_netsOf_0 6 rfl rfl)
theorem dX2_netsOf_9 : decode cX2_netsOf 9 = .ok (.iconst 2, 1) := dk_5 (dk_at dksX2_netsOf_0 9 rfl rfl)
theorem dX2_netsOf_10 : decode cX2_netsOf 10 = .ok (.iaload, 1) := dk_46 (dk_at dksX2_netsOf_0 10 rfl rfl)
theorem dX2_netsOf_11 : decode cX2_netsOf 11 = .ok (.if_icmp .ge 29, 3) := dk_162 0 29 (dk_at dksX2_netsOf_0 11 rfl rfl)
theorem dX2_netsOf_14 : decode cX2_netsOf 14 = .ok (.iload_n 2, 1) := dk_28 (dk_at dksX2_netsOf_0 14 rfl rfl)
theorem dX2_netsOf_15 : decode cX2_netsOf 15 = .ok (.iload_n 1, 1) := dk_27 (dk_at dksX2_netsOf_0 15 rfl rfl)
theorem dX2_netsOf_16 : decode cX2_netsOf 16 = .ok (.iload_n 3, 1) := dk_29 (dk_at dksX2_netsOf_0 16 rfl rfl)
theorem dX2_netsOf_17 : decode cX2_netsOf 17 = .ok (.invokestatic 306, 3) := dk_184 1 50 (dk_at dksX2_netsOf_0 17 rfl rfl)
theorem dX2_netsOf_20 : decode cX2_netsOf 20 = .ok (.ifCond .eq 11, 3) := dk_153 0 11 (dk_at dksX2_netsOf_0 20 rfl rfl)
theorem dX2_netsOf_23 : decode cX2_netsOf 23 = .ok (.aload_n 0, 1) := dk_42 (dk_at dksX2_netsOf_0 23 rfl rfl)
theorem dX2_netsOf_24 : decode cX2_netsOf 24 = .ok (.iload_n 3, 1) := dk_29 (dk_at dksX2_netsOf_1 0 rfl rfl)
theorem dX2_netsOf_25 : decode cX2_netsOf 25 = .ok (.invokevirtual 339, 3) := dk_182 1 83 (dk_at dksX2_netsOf_1 1 rfl rfl)
theorem dX2_netsOf_28 : decode cX2_netsOf 28 = .ok (.goto 4, 3) := dk_167 0 4 (dk_at dksX2_netsOf_1 4 rfl rfl)
theorem dX2_netsOf_31 : decode cX2_netsOf 31 = .ok (.iconst 0, 1) := dk_3 (dk_at dksX2_netsOf_1 7 rfl rfl)
theorem dX2_netsOf_32 : decode cX2_netsOf 32 = .ok (.iadd, 1) := dk_96 (dk_at dksX2_netsOf_1 8 rfl rfl)
theorem dX2_netsOf_33 : decode cX2_netsOf 33 = .ok (.istore_n 2, 1) := dk_61 (dk_at dksX2_netsOf_1 9 rfl rfl)
theorem dX2_netsOf_34 : decode cX2_netsOf 34 = .ok (.iinc 3 1, 3) := dk_132 3 1 (dk_at dksX2_netsOf_1 10 rfl rfl)
theorem dX2_netsOf_37 : decode cX2_netsOf 37 = .ok (.goto (-33), 3) := dk_167 255 223 (dk_at dksX2_netsOf_1 13 rfl rfl)
theorem dX2_netsOf_40 : decode cX2_netsOf 40 = .ok (.iload_n 2, 1) := dk_28 (dk_at dksX2_netsOf_1 16 rfl rfl)
theorem dX2_netsOf_41 : decode cX2_netsOf 41 = .ok (.ireturn, 1) := dk_172 (dk_at dksX2_netsOf_1 17 rfl rfl)
abbrev cX2_ring : ByteArray := prog_16_method_101_code
def yX2_ring : MethodName := ⟨RX2, "ring", "(I)I"⟩
def dkwX2_ring_1 : List UInt8 := [153, 0, 10, 42, 180, 1, 96, 167, 0, 5, 16, 254, 172]
abbrev dktX2_ring_1 : List UInt8 := dkwX2_ring_1 ++ []
def dkwX2_ring_0 : List UInt8 := [42, 182, 0, 164, 42, 27, 182, 0, 239, 154, 0, 9, 42, 4, 182, 0, 167, 172, 42, 27, 182, 1, 103]
abbrev dktX2_ring_0 : List UInt8 := dkwX2_ring_0 ++ dktX2_ring_1
theorem dksX2_ring_0 : cX2_ring.data.toList.drop 0 = dktX2_ring_0 := by decide +kernel
theorem dksX2_ring_1 : cX2_ring.data.toList.drop 23 = dktX2_ring_1 := dk_seg dksX2_ring_0 23 rfl rfl
theorem dX2_ring_0 : decode cX2_ring 0 = .ok (.aload_n 0, 1) := dk_42 (dk_at dksX2_ring_0 0 rfl rfl)
theorem dX2_ring_1 : decode cX2_ring 1 = .ok (.invokevirtual 164, 3) := dk_182 0 164 (dk_at dksX2_ring_0 1 rfl rfl)
theorem dX2_ring_4 : decode cX2_ring 4 = .ok (.aload_n 0, 1) := dk_42 (dk_at dksX2_ring_0 4 rfl rfl)
theorem dX2_ring_5 : decode cX2_ring 5 = .ok (.iload_n 1, 1) := dk_27 (dk_at dksX2_ring_0 5 rfl rfl)
theorem dX2_ring_6 : decode cX2_ring 6 = .ok (.invokevirtual 239, 3) := dk_182 0 239 (dk_at dksX2_ring_0 6 rfl rfl)
theorem dX2_ring_9 : decode cX2_ring 9 = .ok (.ifCond .ne 9, 3) := dk_154 0 9 (dk_at dksX2_ring_0 9 rfl rfl)
theorem dX2_ring_12 : decode cX2_ring 12 = .ok (.aload_n 0, 1) := dk_42 (dk_at dksX2_ring_0 12 rfl rfl)
theorem dX2_ring_13 : decode cX2_ring 13 = .ok (.iconst 1, 1) := dk_4 (dk_at dksX2_ring_0 13 rfl rfl)
theorem dX2_ring_14 : decode cX2_ring 14 = .ok (.invokevirtual 167, 3) := dk_182 0 167 (dk_at dksX2_ring_0 14 rfl rfl)
theorem dX2_ring_17 : decode cX2_ring 17 = .ok (.ireturn, 1) := dk_172 (dk_at dksX2_ring_0 17 rfl rfl)
theorem dX2_ring_18 : decode cX2_ring 18 = .ok (.aload_n 0, 1) := dk_42 (dk_at dksX2_ring_0 18 rfl rfl)
theorem dX2_ring_19 : decode cX2_ring 19 = .ok (.iload_n 1, 1) := dk_27 (dk_at dksX2_ring_0 19 rfl rfl)
theorem dX2_ring_20 : decode cX2_ring 20 = .ok (.invokevirtual 359, 3) := dk_182 1 103 (dk_at dksX2_ring_0 20 rfl rfl)
theorem dX2_ring_23 : decode cX2_ring 23 = .ok (.ifCond .eq 10, 3) := dk_153 0 10 (dk_at dksX2_ring_1 0 rfl rfl)
theorem dX2_ring_26 : decode cX2_ring 26 = .ok (.aload_n 0, 1) := dk_42 (dk_at dksX2_ring_1 3 rfl rfl)
theorem dX2_ring_27 : decode cX2_ring 27 = .ok (.getfield 352, 3) := dk_180 1 96 (dk_at dksX2_ring_1 4 rfl rfl)
theorem dX2_ring_30 : decode cX2_ring 30 = .ok (.goto 5, 3) := dk_167 0 5 (dk_at dksX2_ring_1 7 rfl rfl)
theorem dX2_ring_33 : decode cX2_ring 33 = .ok (.bipush (-2), 2) := dk_16 254 (dk_at dksX2_ring_1 10 rfl rfl)
theorem dX2_ring_35 : decode cX2_ring 35 = .ok (.ireturn, 1) := dk_172 (dk_at dksX2_ring_1 12 rfl rfl)
abbrev cX2_seekRing : ByteArray := prog_16_method_100_code
def yX2_seekRing : MethodName := ⟨RX2, "seekRing", "(I)Z"⟩
def dkwX2_seekRing_1 : List UInt8 := [180, 1, 96, 19, 1, 102, 162, 0, 7, 4, 167, 0, 4, 3, 172]
abbrev dktX2_seekRing_1 : List UInt8 := dkwX2_seekRing_1 ++ []
def dkwX2_seekRing_0 : List UInt8 := [42, 19, 1, 102, 181, 1, 96, 42, 180, 0, 50, 3, 27, 79, 42, 4, 4, 27, 120, 182, 1, 99, 42]
abbrev dktX2_seekRing_0 : List UInt8 := dkwX2_seekRing_0 ++ dktX2_seekRing_1
theorem dksX2_seekRing_0 : cX2_seekRing.data.toList.drop 0 = dktX2_seekRing_0 := by decide +kernel
theorem dksX2_seekRing_1 : cX2_seekRing.data.toList.drop 23 = dktX2_seekRing_1 := dk_seg dksX2_seekRing_0 23 rfl rfl
theorem dX2_seekRing_0 : decode cX2_seekRing 0 = .ok (.aload_n 0, 1) := dk_42 (dk_at dksX2_seekRing_0 0 rfl rfl)
theorem dX2_seekRing_1 : decode cX2_seekRing 1 = .ok (.ldc_w 358, 3) := dk_19 1 102 (dk_at dksX2_seekRing_0 1 rfl rfl)
theorem dX2_seekRing_4 : decode cX2_seekRing 4 = .ok (.putfield 352, 3) := dk_181 1 96 (dk_at dksX2_seekRing_0 4 rfl rfl)
theorem dX2_seekRing_7 : decode cX2_seekRing 7 = .ok (.aload_n 0, 1) := dk_42 (dk_at dksX2_seekRing_0 7 rfl rfl)
theorem dX2_seekRing_8 : decode cX2_seekRing 8 = .ok (.getfield 50, 3) := dk_180 0 50 (dk_at dksX2_seekRing_0 8 rfl rfl)
theorem dX2_seekRing_11 : decode cX2_seekRing 11 = .ok (.iconst 0, 1) := dk_3 (dk_at dksX2_seekRing_0 11 rfl rfl)
theorem dX2_seekRing_12 : decode cX2_seekRing 12 = .ok (.iload_n 1, 1) := dk_27 (dk_at dksX2_seekRing_0 12 rfl rfl)
theorem dX2_seekRing_13 : decode cX2_seekRing 13 = .ok (.iastore, 1) := dk_79 (dk_at dksX2_seekRing_0 13 rfl rfl)
theorem dX2_seekRing_14 : decode cX2_seekRing 14 = .ok (.aload_n 0, 1) := dk_42 (dk_at dksX2_seekRing_0 14 rfl rfl)
theorem dX2_seekRing_15 : decode cX2_seekRing 15 = .ok (.iconst 1, 1) := dk_4 (dk_at dksX2_seekRing_0 15 rfl rfl)
theorem dX2_seekRing_16 : decode cX2_seekRing 16 = .ok (.iconst 1, 1) := dk_4 (dk_at dksX2_seekRing_0 16 rfl rfl)
theorem dX2_seekRing_17 : decode cX2_seekRing 17 = .ok (.iload_n 1, 1) := dk_27 (dk_at dksX2_seekRing_0 17 rfl rfl)
theorem dX2_seekRing_18 : decode cX2_seekRing 18 = .ok (.ishl, 1) := dk_120 (dk_at dksX2_seekRing_0 18 rfl rfl)
theorem dX2_seekRing_19 : decode cX2_seekRing 19 = .ok (.invokevirtual 355, 3) := dk_182 1 99 (dk_at dksX2_seekRing_0 19 rfl rfl)
theorem dX2_seekRing_22 : decode cX2_seekRing 22 = .ok (.aload_n 0, 1) := dk_42 (dk_at dksX2_seekRing_0 22 rfl rfl)
theorem dX2_seekRing_23 : decode cX2_seekRing 23 = .ok (.getfield 352, 3) := dk_180 1 96 (dk_at dksX2_seekRing_1 0 rfl rfl)
theorem dX2_seekRing_26 : decode cX2_seekRing 26 = .ok (.ldc_w 358, 3) := dk_19 1 102 (dk_at dksX2_seekRing_1 3 rfl rfl)
theorem dX2_seekRing_29 : decode cX2_seekRing 29 = .ok (.if_icmp .ge 7, 3) := dk_162 0 7 (dk_at dksX2_seekRing_1 6 rfl rfl)
theorem dX2_seekRing_32 : decode cX2_seekRing 32 = .ok (.iconst 1, 1) := dk_4 (dk_at dksX2_seekRing_1 9 rfl rfl)
theorem dX2_seekRing_33 : decode cX2_seekRing 33 = .ok (.goto 4, 3) := dk_167 0 4 (dk_at dksX2_seekRing_1 10 rfl rfl)
theorem dX2_seekRing_36 : decode cX2_seekRing 36 = .ok (.iconst 0, 1) := dk_3 (dk_at dksX2_seekRing_1 13 rfl rfl)
theorem dX2_seekRing_37 : decode cX2_seekRing 37 = .ok (.ireturn, 1) := dk_172 (dk_at dksX2_seekRing_1 14 rfl rfl)
abbrev cX2_tryRing : ByteArray := prog_16_method_99_code
def yX2_tryRing : MethodName := ⟨RX2, "tryRing", "(II)V"⟩
def dkwX2_tryRing_5 : List UInt8 := [132, 3, 1, 167, 255, 197, 177]
abbrev dktX2_tryRing_5 : List UInt8 := dkwX2_tryRing_5 ++ []
def dkwX2_tryRing_4 : List UInt8 := [167, 0, 22, 42, 180, 0, 50, 27, 29, 79, 42, 27, 4, 96, 28, 4, 29, 120, 128, 182, 1, 99]
abbrev dktX2_tryRing_4 : List UInt8 := dkwX2_tryRing_4 ++ dktX2_tryRing_5
def dkwX2_tryRing_3 : List UInt8 := [184, 1, 50, 154, 0, 41, 42, 42, 180, 0, 50, 27, 4, 100, 46, 29, 182, 1, 80, 154, 0, 6]
abbrev dktX2_tryRing_3 : List UInt8 := dkwX2_tryRing_3 ++ dktX2_tryRing_4
def dkwX2_tryRing_2 : List UInt8 := [180, 0, 53, 3, 8, 184, 0, 173, 177, 3, 62, 29, 42, 180, 0, 20, 5, 46, 162, 0, 55, 28, 29]
abbrev dktX2_tryRing_2 : List UInt8 := dkwX2_tryRing_2 ++ dktX2_tryRing_3
def dkwX2_tryRing_1 : List UInt8 := [180, 0, 50, 3, 46, 182, 1, 80, 158, 0, 23, 42, 27, 181, 1, 96, 42, 180, 0, 50, 3, 42]
abbrev dktX2_tryRing_1 : List UInt8 := dkwX2_tryRing_1 ++ dktX2_tryRing_2
def dkwX2_tryRing_0 : List UInt8 := [27, 42, 180, 1, 96, 161, 0, 4, 177, 27, 4, 164, 0, 44, 42, 42, 180, 0, 50, 27, 4, 100, 46, 42]
abbrev dktX2_tryRing_0 : List UInt8 := dkwX2_tryRing_0 ++ dktX2_tryRing_1
theorem dksX2_tryRing_0 : cX2_tryRing.data.toList.drop 0 = dktX2_tryRing_0 := by decide +kernel
theorem dksX2_tryRing_1 : cX2_tryRing.data.toList.drop 24 = dktX2_tryRing_1 := dk_seg dksX2_tryRing_0 24 rfl rfl
theorem dksX2_tryRing_2 : cX2_tryRing.data.toList.drop 46 = dktX2_tryRing_2 := dk_seg dksX2_tryRing_1 22 rfl rfl
theorem dksX2_tryRing_3 : cX2_tryRing.data.toList.drop 69 = dktX2_tryRing_3 := dk_seg dksX2_tryRing_2 23 rfl rfl
theorem dksX2_tryRing_4 : cX2_tryRing.data.toList.drop 91 = dktX2_tryRing_4 := dk_seg dksX2_tryRing_3 22 rfl rfl
theorem dksX2_tryRing_5 : cX2_tryRing.data.toList.drop 113 = dktX2_tryRing_5 := dk_seg dksX2_tryRing_4 22 rfl rfl
theorem dX2_tryRing_0 : decode cX2_tryRing 0 = .ok (.iload_n 1, 1) := dk_27 (dk_at dksX2_tryRing_0 0 rfl rfl)
theorem dX2_tryRing_1 : decode cX2_tryRing 1 = .ok (.aload_n 0, 1) := dk_42 (dk_at dksX2_tryRing_0 1 rfl rfl)
theorem dX2_tryRing_2 : decode cX2_tryRing 2 = .ok (.getfield 352, 3) := dk_180 1 96 (dk_at dksX2_tryRing_0 2 rfl rfl)
theorem dX2_tryRing_5 : decode cX2_tryRing 5 = .ok (.if_icmp .lt 4, 3) := dk_161 0 4 (dk_at dksX2_tryRing_0 5 rfl rfl)
theorem dX2_tryRing_8 : decode cX2_tryRing 8 = .ok (.return_, 1) := dk_177 (dk_at dksX2_tryRing_0 8 rfl rfl)
theorem dX2_tryRing_9 : decode cX2_tryRing 9 = .ok (.iload_n 1, 1) := dk_27 (dk_at dksX2_tryRing_0 9 rfl rfl)
theorem dX2_tryRing_10 : decode cX2_tryRing 10 = .ok (.iconst 1, 1) := dk_4 (dk_at dksX2_tryRing_0 10 rfl rfl)
theorem dX2_tryRing_11 : decode cX2_tryRing 11 = .ok (.if_icmp .le 44, 3) := dk_164 0 44 (dk_at dksX2_tryRing_0 11 rfl rfl)
theorem dX2_tryRing_14 : decode cX2_tryRing 14 = .ok (.aload_n 0, 1) := dk_42 (dk_at dksX2_tryRing_0 14 rfl rfl)
theorem dX2_tryRing_15 : decode cX2_tryRing 15 = .ok (.aload_n 0, 1) := dk_42 (dk_at dksX2_tryRing_0 15 rfl rfl)
theorem dX2_tryRing_16 : decode cX2_tryRing 16 = .ok (.getfield 50, 3) := dk_180 0 50 (dk_at dksX2_tryRing_0 16 rfl rfl)
theorem dX2_tryRing_19 : decode cX2_tryRing 19 = .ok (.iload_n 1, 1) := dk_27 (dk_at dksX2_tryRing_0 19 rfl rfl)
theorem dX2_tryRing_20 : decode cX2_tryRing 20 = .ok (.iconst 1, 1) := dk_4 (dk_at dksX2_tryRing_0 20 rfl rfl)
theorem dX2_tryRing_21 : decode cX2_tryRing 21 = .ok (.isub, 1) := dk_100 (dk_at dksX2_tryRing_0 21 rfl rfl)
theorem dX2_tryRing_22 : decode cX2_tryRing 22 = .ok (.iaload, 1) := dk_46 (dk_at dksX2_tryRing_0 22 rfl rfl)
theorem dX2_tryRing_23 : decode cX2_tryRing 23 = .ok (.aload_n 0, 1) := dk_42 (dk_at dksX2_tryRing_0 23 rfl rfl)
theorem dX2_tryRing_24 : decode cX2_tryRing 24 = .ok (.getfield 50, 3) := dk_180 0 50 (dk_at dksX2_tryRing_1 0 rfl rfl)
theorem dX2_tryRing_27 : decode cX2_tryRing 27 = .ok (.iconst 0, 1) := dk_3 (dk_at dksX2_tryRing_1 3 rfl rfl)
theorem dX2_tryRing_28 : decode cX2_tryRing 28 = .ok (.iaload, 1) := dk_46 (dk_at dksX2_tryRing_1 4 rfl rfl)
theorem dX2_tryRing_29 : decode cX2_tryRing 29 = .ok (.invokevirtual 336, 3) := dk_182 1 80 (dk_at dksX2_tryRing_1 5 rfl rfl)
theorem dX2_tryRing_32 : decode cX2_tryRing 32 = .ok (.ifCond .le 23, 3) := dk_158 0 23 (dk_at dksX2_tryRing_1 8 rfl rfl)
theorem dX2_tryRing_35 : decode cX2_tryRing 35 = .ok (.aload_n 0, 1) := dk_42 (dk_at dksX2_tryRing_1 11 rfl rfl)
theorem dX2_tryRing_36 : decode cX2_tryRing 36 = .ok (.iload_n 1, 1) := dk_27 (dk_at dksX2_tryRing_1 12 rfl rfl)
theorem dX2_tryRing_37 : decode cX2_tryRing 37 = .ok (.putfield 352, 3) := dk_181 1 96 (dk_at dksX2_tryRing_1 13 rfl rfl)
theorem dX2_tryRing_40 : decode cX2_tryRing 40 = .ok (.aload_n 0, 1) := dk_42 (dk_at dksX2_tryRing_1 16 rfl rfl)
theorem dX2_tryRing_41 : decode cX2_tryRing 41 = .ok (.getfield 50, 3) := dk_180 0 50 (dk_at dksX2_tryRing_1 17 rfl rfl)
theorem dX2_tryRing_44 : decode cX2_tryRing 44 = .ok (.iconst 0, 1) := dk_3 (dk_at dksX2_tryRing_1 20 rfl rfl)
theorem dX2_tryRing_45 : decode cX2_tryRing 45 = .ok (.aload_n 0, 1) := dk_42 (dk_at dksX2_tryRing_1 21 rfl rfl)
theorem dX2_tryRing_46 : decode cX2_tryRing 46 = .ok (.getfield 53, 3) := dk_180 0 53 (dk_at dksX2_tryRing_2 0 rfl rfl)
theorem dX2_tryRing_49 : decode cX2_tryRing 49 = .ok (.iconst 0, 1) := dk_3 (dk_at dksX2_tryRing_2 3 rfl rfl)
theorem dX2_tryRing_50 : decode cX2_tryRing 50 = .ok (.iconst 5, 1) := dk_8 (dk_at dksX2_tryRing_2 4 rfl rfl)
theorem dX2_tryRing_51 : decode cX2_tryRing 51 = .ok (.invokestatic 173, 3) := dk_184 0 173 (dk_at dksX2_tryRing_2 5 rfl rfl)
theorem dX2_tryRing_54 : decode cX2_tryRing 54 = .ok (.return_, 1) := dk_177 (dk_at dksX2_tryRing_2 8 rfl rfl)
theorem dX2_tryRing_55 : decode cX2_tryRing 55 = .ok (.iconst 0, 1) := dk_3 (dk_at dksX2_tryRing_2 9 rfl rfl)
theorem dX2_tryRing_56 : decode cX2_tryRing 56 = .ok (.istore_n 3, 1) := dk_62 (dk_at dksX2_tryRing_2 10 rfl rfl)
theorem dX2_tryRing_57 : decode cX2_tryRing 57 = .ok (.iload_n 3, 1) := dk_29 (dk_at dksX2_tryRing_2 11 rfl rfl)
theorem dX2_tryRing_58 : decode cX2_tryRing 58 = .ok (.aload_n 0, 1) := dk_42 (dk_at dksX2_tryRing_2 12 rfl rfl)
theorem dX2_tryRing_59 : decode cX2_tryRing 59 = .ok (.getfield 20, 3) := dk_180 0 20 (dk_at dksX2_tryRing_2 13 rfl rfl)
theorem dX2_tryRing_62 : decode cX2_tryRing 62 = .ok (.iconst 2, 1) := dk_5 (dk_at dksX2_tryRing_2 16 rfl rfl)
theorem dX2_tryRing_63 : decode cX2_tryRing 63 = .ok (.iaload, 1) := dk_46 (dk_at dksX2_tryRing_2 17 rfl rfl)
theorem dX2_tryRing_64 : decode cX2_tryRing 64 = .ok (.if_icmp .ge 55, 3) := dk_162 0 55 (dk_at dksX2_tryRing_2 18 rfl rfl)
theorem dX2_tryRing_67 : decode cX2_tryRing 67 = .ok (.iload_n 2, 1) := dk_28 (dk_at dksX2_tryRing_2 21 rfl rfl)
theorem dX2_tryRing_68 : decode cX2_tryRing 68 = .ok (.iload_n 3, 1) := dk_29 (dk_at dksX2_tryRing_2 22 rfl rfl)
theorem dX2_tryRing_69 : decode cX2_tryRing 69 = .ok (.invokestatic 306, 3) := dk_184 1 50 (dk_at dksX2_tryRing_3 0 rfl rfl)
theorem dX2_tryRing_72 : decode cX2_tryRing 72 = .ok (.ifCond .ne 41, 3) := dk_154 0 41 (dk_at dksX2_tryRing_3 3 rfl rfl)
theorem dX2_tryRing_75 : decode cX2_tryRing 75 = .ok (.aload_n 0, 1) := dk_42 (dk_at dksX2_tryRing_3 6 rfl rfl)
theorem dX2_tryRing_76 : decode cX2_tryRing 76 = .ok (.aload_n 0, 1) := dk_42 (dk_at dksX2_tryRing_3 7 rfl rfl)
theorem dX2_tryRing_77 : decode cX2_tryRing 77 = .ok (.getfield 50, 3) := dk_180 0 50 (dk_at dksX2_tryRing_3 8 rfl rfl)
theorem dX2_tryRing_80 : decode cX2_tryRing 80 = .ok (.iload_n 1, 1) := dk_27 (dk_at dksX2_tryRing_3 11 rfl rfl)
theorem dX2_tryRing_81 : decode cX2_tryRing 81 = .ok (.iconst 1, 1) := dk_4 (dk_at dksX2_tryRing_3 12 rfl rfl)
theorem dX2_tryRing_82 : decode cX2_tryRing 82 = .ok (.isub, 1) := dk_100 (dk_at dksX2_tryRing_3 13 rfl rfl)
theorem dX2_tryRing_83 : decode cX2_tryRing 83 = .ok (.iaload, 1) := dk_46 (dk_at dksX2_tryRing_3 14 rfl rfl)
theorem dX2_tryRing_84 : decode cX2_tryRing 84 = .ok (.iload_n 3, 1) := dk_29 (dk_at dksX2_tryRing_3 15 rfl rfl)
theorem dX2_tryRing_85 : decode cX2_tryRing 85 = .ok (.invokevirtual 336, 3) := dk_182 1 80 (dk_at dksX2_tryRing_3 16 rfl rfl)
theorem dX2_tryRing_88 : decode cX2_tryRing 88 = .ok (.ifCond .ne 6, 3) := dk_154 0 6 (dk_at dksX2_tryRing_3 19 rfl rfl)
theorem dX2_tryRing_91 : decode cX2_tryRing 91 = .ok (.goto 22, 3) := dk_167 0 22 (dk_at dksX2_tryRing_4 0 rfl rfl)
theorem dX2_tryRing_94 : decode cX2_tryRing 94 = .ok (.aload_n 0, 1) := dk_42 (dk_at dksX2_tryRing_4 3 rfl rfl)
theorem dX2_tryRing_95 : decode cX2_tryRing 95 = .ok (.getfield 50, 3) := dk_180 0 50 (dk_at dksX2_tryRing_4 4 rfl rfl)
theorem dX2_tryRing_98 : decode cX2_tryRing 98 = .ok (.iload_n 1, 1) := dk_27 (dk_at dksX2_tryRing_4 7 rfl rfl)
theorem dX2_tryRing_99 : decode cX2_tryRing 99 = .ok (.iload_n 3, 1) := dk_29 (dk_at dksX2_tryRing_4 8 rfl rfl)
theorem dX2_tryRing_100 : decode cX2_tryRing 100 = .ok (.iastore, 1) := dk_79 (dk_at dksX2_tryRing_4 9 rfl rfl)
theorem dX2_tryRing_101 : decode cX2_tryRing 101 = .ok (.aload_n 0, 1) := dk_42 (dk_at dksX2_tryRing_4 10 rfl rfl)
theorem dX2_tryRing_102 : decode cX2_tryRing 102 = .ok (.iload_n 1, 1) := dk_27 (dk_at dksX2_tryRing_4 11 rfl rfl)
theorem dX2_tryRing_103 : decode cX2_tryRing 103 = .ok (.iconst 1, 1) := dk_4 (dk_at dksX2_tryRing_4 12 rfl rfl)
theorem dX2_tryRing_104 : decode cX2_tryRing 104 = .ok (.iadd, 1) := dk_96 (dk_at dksX2_tryRing_4 13 rfl rfl)
theorem dX2_tryRing_105 : decode cX2_tryRing 105 = .ok (.iload_n 2, 1) := dk_28 (dk_at dksX2_tryRing_4 14 rfl rfl)
theorem dX2_tryRing_106 : decode cX2_tryRing 106 = .ok (.iconst 1, 1) := dk_4 (dk_at dksX2_tryRing_4 15 rfl rfl)
theorem dX2_tryRing_107 : decode cX2_tryRing 107 = .ok (.iload_n 3, 1) := dk_29 (dk_at dksX2_tryRing_4 16 rfl rfl)
theorem dX2_tryRing_108 : decode cX2_tryRing 108 = .ok (.ishl, 1) := dk_120 (dk_at dksX2_tryRing_4 17 rfl rfl)
theorem dX2_tryRing_109 : decode cX2_tryRing 109 = .ok (.ior, 1) := dk_128 (dk_at dksX2_tryRing_4 18 rfl rfl)
theorem dX2_tryRing_110 : decode cX2_tryRing 110 = .ok (.invokevirtual 355, 3) := dk_182 1 99 (dk_at dksX2_tryRing_4 19 rfl rfl)
theorem dX2_tryRing_113 : decode cX2_tryRing 113 = .ok (.iinc 3 1, 3) := dk_132 3 1 (dk_at dksX2_tryRing_5 0 rfl rfl)
theorem dX2_tryRing_116 : decode cX2_tryRing 116 = .ok (.goto (-59), 3) := dk_167 255 197 (dk_at dksX2_tryRing_5 3 rfl rfl)
theorem dX2_tryRing_119 : decode cX2_tryRing 119 = .ok (.return_, 1) := dk_177 (dk_at dksX2_tryRing_5 6 rfl rfl)
abbrev cX2_ringAt : ByteArray := prog_16_method_102_code
def yX2_ringAt : MethodName := ⟨RX2, "ringAt", "(II)I"⟩
def dkwX2_ringAt_1 : List UInt8 := [180, 1, 96, 4, 100, 184, 0, 146, 154, 0, 9, 42, 4, 182, 0, 167, 172, 42, 180, 0, 53, 28, 46, 172]
abbrev dktX2_ringAt_1 : List UInt8 := dkwX2_ringAt_1 ++ []
def dkwX2_ringAt_0 : List UInt8 := [42, 182, 0, 164, 42, 27, 182, 0, 239, 153, 0, 25, 42, 27, 182, 1, 103, 153, 0, 17, 28, 3, 42]
abbrev dktX2_ringAt_0 : List UInt8 := dkwX2_ringAt_0 ++ dktX2_ringAt_1
theorem dksX2_ringAt_0 : cX2_ringAt.data.toList.drop 0 = dktX2_ringAt_0 := by decide +kernel
theorem dksX2_ringAt_1 : cX2_ringAt.data.toList.drop 23 = dktX2_ringAt_1 := dk_seg dksX2_ringAt_0 23 rfl rfl
theorem dX2_ringAt_0 : decode cX2_ringAt 0 = .ok (.aload_n 0, 1) := dk_42 (dk_at dksX2_ringAt_0 0 rfl rfl)
theorem dX2_ringAt_1 : decode cX2_ringAt 1 = .ok (.invokevirtual 164, 3) := dk_182 0 164 (dk_at dksX2_ringAt_0 1 rfl rfl)
theorem dX2_ringAt_4 : decode cX2_ringAt 4 = .ok (.aload_n 0, 1) := dk_42 (dk_at dksX2_ringAt_0 4 rfl rfl)
theorem dX2_ringAt_5 : decode cX2_ringAt 5 = .ok (.iload_n 1, 1) := dk_27 (dk_at dksX2_ringAt_0 5 rfl rfl)
theorem dX2_ringAt_6 : decode cX2_ringAt 6 = .ok (.invokevirtual 239, 3) := dk_182 0 239 (dk_at dksX2_ringAt_0 6 rfl rfl)
theorem dX2_ringAt_9 : decode cX2_ringAt 9 = .ok (.ifCond .eq 25, 3) := dk_153 0 25 (dk_at dksX2_ringAt_0 9 rfl rfl)
theorem dX2_ringAt_12 : decode cX2_ringAt 12 = .ok (.aload_n 0, 1) := dk_42 (dk_at dksX2_ringAt_0 12 rfl rfl)
theorem dX2_ringAt_13 : decode cX2_ringAt 13 = .ok (.iload_n 1, 1) := dk_27 (dk_at dksX2_ringAt_0 13 rfl rfl)
theorem dX2_ringAt_14 : decode cX2_ringAt 14 = .ok (.invokevirtual 359, 3) := dk_182 1 103 (dk_at dksX2_ringAt_0 14 rfl rfl)
theorem dX2_ringAt_17 : decode cX2_ringAt 17 = .ok (.ifCond .eq 17, 3) := dk_153 0 17 (dk_at dksX2_ringAt_0 17 rfl rfl)
theorem dX2_ringAt_20 : decode cX2_ringAt 20 = .ok (.iload_n 2, 1) := dk_28 (dk_at dksX2_ringAt_0 20 rfl rfl)
theorem dX2_ringAt_21 : decode cX2_ringAt 21 = .ok (.iconst 0, 1) := dk_3 (dk_at dksX2_ringAt_0 21 rfl rfl)
theorem dX2_ringAt_22 : decode cX2_ringAt 22 = .ok (.aload_n 0, 1) := dk_42 (dk_at dksX2_ringAt_0 22 rfl rfl)
theorem dX2_ringAt_23 : decode cX2_ringAt 23 = .ok (.getfield 352, 3) := dk_180 1 96 (dk_at dksX2_ringAt_1 0 rfl rfl)
theorem dX2_ringAt_26 : decode cX2_ringAt 26 = .ok (.iconst 1, 1) := dk_4 (dk_at dksX2_ringAt_1 3 rfl rfl)
theorem dX2_ringAt_27 : decode cX2_ringAt 27 = .ok (.isub, 1) := dk_100 (dk_at dksX2_ringAt_1 4 rfl rfl)
theorem dX2_ringAt_28 : decode cX2_ringAt 28 = .ok (.invokestatic 146, 3) := dk_184 0 146 (dk_at dksX2_ringAt_1 5 rfl rfl)
theorem dX2_ringAt_31 : decode cX2_ringAt 31 = .ok (.ifCond .ne 9, 3) := dk_154 0 9 (dk_at dksX2_ringAt_1 8 rfl rfl)
theorem dX2_ringAt_34 : decode cX2_ringAt 34 = .ok (.aload_n 0, 1) := dk_42 (dk_at dksX2_ringAt_1 11 rfl rfl)
theorem dX2_ringAt_35 : decode cX2_ringAt 35 = .ok (.iconst 1, 1) := dk_4 (dk_at dksX2_ringAt_1 12 rfl rfl)
theorem dX2_ringAt_36 : decode cX2_ringAt 36 = .ok (.invokevirtual 167, 3) := dk_182 0 167 (dk_at dksX2_ringAt_1 13 rfl rfl)
theorem dX2_ringAt_39 : decode cX2_ringAt 39 = .ok (.ireturn, 1) := dk_172 (dk_at dksX2_ringAt_1 16 rfl rfl)
theorem dX2_ringAt_40 : decode cX2_ringAt 40 = .ok (.aload_n 0, 1) := dk_42 (dk_at dksX2_ringAt_1 17 rfl rfl)
theorem dX2_ringAt_41 : decode cX2_ringAt 41 = .ok (.getfield 53, 3) := dk_180 0 53 (dk_at dksX2_ringAt_1 18 rfl rfl)
theorem dX2_ringAt_44 : decode cX2_ringAt 44 = .ok (.iload_n 2, 1) := dk_28 (dk_at dksX2_ringAt_1 21 rfl rfl)
theorem dX2_ringAt_45 : decode cX2_ringAt 45 = .ok (.iaload, 1) := dk_46 (dk_at dksX2_ringAt_1 22 rfl rfl)
theorem dX2_ringAt_46 : decode cX2_ringAt 46 = .ok (.ireturn, 1) := dk_172 (dk_at dksX2_ringAt_1 23 rfl rfl)
abbrev cX2_talks : ByteArray := prog_16_method_104_code
def yX2_talks : MethodName := ⟨RX2, "talks", "(IZZZ)I"⟩
def dkwX2_talks_2 : List UInt8 := [42, 21, 5, 181, 0, 62, 16, 156, 172]
abbrev dktX2_talks_2 : List UInt8 := dkwX2_talks_2 ++ []
def dkwX2_talks_1 : List UInt8 := [154, 0, 24, 21, 4, 153, 0, 12, 27, 29, 28, 184, 1, 106, 167, 0, 9, 27, 28, 29, 184, 1, 106, 172]
abbrev dktX2_talks_1 : List UInt8 := dkwX2_talks_1 ++ dktX2_talks_2
def dkwX2_talks_0 : List UInt8 := [42, 182, 0, 164, 42, 42, 180, 0, 177, 27, 3, 16, 9, 184, 0, 146, 182, 1, 19, 54, 5, 21, 5]
abbrev dktX2_talks_0 : List UInt8 := dkwX2_talks_0 ++ dktX2_talks_1
theorem dksX2_talks_0 : cX2_talks.data.toList.drop 0 = dktX2_talks_0 := by decide +kernel
theorem dksX2_talks_1 : cX2_talks.data.toList.drop 23 = dktX2_talks_1 := dk_seg dksX2_talks_0 23 rfl rfl
theorem dksX2_talks_2 : cX2_talks.data.toList.drop 47 = dktX2_talks_2 := dk_seg dksX2_talks_1 24 rfl rfl
theorem dX2_talks_0 : decode cX2_talks 0 = .ok (.aload_n 0, 1) := dk_42 (dk_at dksX2_talks_0 0 rfl rfl)
theorem dX2_talks_1 : decode cX2_talks 1 = .ok (.invokevirtual 164, 3) := dk_182 0 164 (dk_at dksX2_talks_0 1 rfl rfl)
theorem dX2_talks_4 : decode cX2_talks 4 = .ok (.aload_n 0, 1) := dk_42 (dk_at dksX2_talks_0 4 rfl rfl)
theorem dX2_talks_5 : decode cX2_talks 5 = .ok (.aload_n 0, 1) := dk_42 (dk_at dksX2_talks_0 5 rfl rfl)
theorem dX2_talks_6 : decode cX2_talks 6 = .ok (.getfield 177, 3) := dk_180 0 177 (dk_at dksX2_talks_0 6 rfl rfl)
theorem dX2_talks_9 : decode cX2_talks 9 = .ok (.iload_n 1, 1) := dk_27 (dk_at dksX2_talks_0 9 rfl rfl)
theorem dX2_talks_10 : decode cX2_talks 10 = .ok (.iconst 0, 1) := dk_3 (dk_at dksX2_talks_0 10 rfl rfl)
theorem dX2_talks_11 : decode cX2_talks 11 = .ok (.bipush 9, 2) := dk_16 9 (dk_at dksX2_talks_0 11 rfl rfl)
theorem dX2_talks_13 : decode cX2_talks 13 = .ok (.invokestatic 146, 3) := dk_184 0 146 (dk_at dksX2_talks_0 13 rfl rfl)
theorem dX2_talks_16 : decode cX2_talks 16 = .ok (.invokevirtual 275, 3) := dk_182 1 19 (dk_at dksX2_talks_0 16 rfl rfl)
theorem dX2_talks_19 : decode cX2_talks 19 = .ok (.istore 5, 2) := dk_54 5 (dk_at dksX2_talks_0 19 rfl rfl)
theorem dX2_talks_21 : decode cX2_talks 21 = .ok (.iload 5, 2) := dk_21 5 (dk_at dksX2_talks_0 21 rfl rfl)
theorem dX2_talks_23 : decode cX2_talks 23 = .ok (.ifCond .ne 24, 3) := dk_154 0 24 (dk_at dksX2_talks_1 0 rfl rfl)
theorem dX2_talks_26 : decode cX2_talks 26 = .ok (.iload 4, 2) := dk_21 4 (dk_at dksX2_talks_1 3 rfl rfl)
theorem dX2_talks_28 : decode cX2_talks 28 = .ok (.ifCond .eq 12, 3) := dk_153 0 12 (dk_at dksX2_talks_1 5 rfl rfl)
theorem dX2_talks_31 : decode cX2_talks 31 = .ok (.iload_n 1, 1) := dk_27 (dk_at dksX2_talks_1 8 rfl rfl)
theorem dX2_talks_32 : decode cX2_talks 32 = .ok (.iload_n 3, 1) := dk_29 (dk_at dksX2_talks_1 9 rfl rfl)
theorem dX2_talks_33 : decode cX2_talks 33 = .ok (.iload_n 2, 1) := dk_28 (dk_at dksX2_talks_1 10 rfl rfl)
theorem dX2_talks_34 : decode cX2_talks 34 = .ok (.invokestatic 362, 3) := dk_184 1 106 (dk_at dksX2_talks_1 11 rfl rfl)
theorem dX2_talks_37 : decode cX2_talks 37 = .ok (.goto 9, 3) := dk_167 0 9 (dk_at dksX2_talks_1 14 rfl rfl)
theorem dX2_talks_40 : decode cX2_talks 40 = .ok (.iload_n 1, 1) := dk_27 (dk_at dksX2_talks_1 17 rfl rfl)
theorem dX2_talks_41 : decode cX2_talks 41 = .ok (.iload_n 2, 1) := dk_28 (dk_at dksX2_talks_1 18 rfl rfl)
theorem dX2_talks_42 : decode cX2_talks 42 = .ok (.iload_n 3, 1) := dk_29 (dk_at dksX2_talks_1 19 rfl rfl)
theorem dX2_talks_43 : decode cX2_talks 43 = .ok (.invokestatic 362, 3) := dk_184 1 106 (dk_at dksX2_talks_1 20 rfl rfl)
theorem dX2_talks_46 : decode cX2_talks 46 = .ok (.ireturn, 1) := dk_172 (dk_at dksX2_talks_1 23 rfl rfl)
theorem dX2_talks_47 : decode cX2_talks 47 = .ok (.aload_n 0, 1) := dk_42 (dk_at dksX2_talks_2 0 rfl rfl)
theorem dX2_talks_48 : decode cX2_talks 48 = .ok (.iload 5, 2) := dk_21 5 (dk_at dksX2_talks_2 1 rfl rfl)
theorem dX2_talks_50 : decode cX2_talks 50 = .ok (.putfield 62, 3) := dk_181 0 62 (dk_at dksX2_talks_2 3 rfl rfl)
theorem dX2_talks_53 : decode cX2_talks 53 = .ok (.bipush (-100), 2) := dk_16 156 (dk_at dksX2_talks_2 6 rfl rfl)
theorem dX2_talks_55 : decode cX2_talks 55 = .ok (.ireturn, 1) := dk_172 (dk_at dksX2_talks_2 8 rfl rfl)
abbrev cX2_talksOf : ByteArray := prog_16_method_103_code
def yX2_talksOf : MethodName := ⟨RX2, "talksOf", "(IZZ)I"⟩
def dkwX2_talksOf_1 : List UInt8 := [167, 0, 4, 3, 172]
abbrev dktX2_talksOf_1 : List UInt8 := dkwX2_talksOf_1 ++ []
def dkwX2_talksOf_0 : List UInt8 := [27, 153, 0, 17, 28, 153, 0, 9, 4, 26, 100, 167, 0, 16, 7, 167, 0, 12, 28, 153, 0, 7, 2]
abbrev dktX2_talksOf_0 : List UInt8 := dkwX2_talksOf_0 ++ dktX2_talksOf_1
theorem dksX2_talksOf_0 : cX2_talksOf.data.toList.drop 0 = dktX2_talksOf_0 := by decide +kernel
theorem dksX2_talksOf_1 : cX2_talksOf.data.toList.drop 23 = dktX2_talksOf_1 := dk_seg dksX2_talksOf_0 23 rfl rfl
theorem dX2_talksOf_0 : decode cX2_talksOf 0 = .ok (.iload_n 1, 1) := dk_27 (dk_at dksX2_talksOf_0 0 rfl rfl)
theorem dX2_talksOf_1 : decode cX2_talksOf 1 = .ok (.ifCond .eq 17, 3) := dk_153 0 17 (dk_at dksX2_talksOf_0 1 rfl rfl)
theorem dX2_talksOf_4 : decode cX2_talksOf 4 = .ok (.iload_n 2, 1) := dk_28 (dk_at dksX2_talksOf_0 4 rfl rfl)
theorem dX2_talksOf_5 : decode cX2_talksOf 5 = .ok (.ifCond .eq 9, 3) := dk_153 0 9 (dk_at dksX2_talksOf_0 5 rfl rfl)
theorem dX2_talksOf_8 : decode cX2_talksOf 8 = .ok (.iconst 1, 1) := dk_4 (dk_at dksX2_talksOf_0 8 rfl rfl)
theorem dX2_talksOf_9 : decode cX2_talksOf 9 = .ok (.iload_n 0, 1) := dk_26 (dk_at dksX2_talksOf_0 9 rfl rfl)
theorem dX2_talksOf_10 : decode cX2_talksOf 10 = .ok (.isub, 1) := dk_100 (dk_at dksX2_talksOf_0 10 rfl rfl)
theorem dX2_talksOf_11 : decode cX2_talksOf 11 = .ok (.goto 16, 3) := dk_167 0 16 (dk_at dksX2_talksOf_0 11 rfl rfl)
theorem dX2_talksOf_14 : decode cX2_talksOf 14 = .ok (.iconst 4, 1) := dk_7 (dk_at dksX2_talksOf_0 14 rfl rfl)
theorem dX2_talksOf_15 : decode cX2_talksOf 15 = .ok (.goto 12, 3) := dk_167 0 12 (dk_at dksX2_talksOf_0 15 rfl rfl)
theorem dX2_talksOf_18 : decode cX2_talksOf 18 = .ok (.iload_n 2, 1) := dk_28 (dk_at dksX2_talksOf_0 18 rfl rfl)
theorem dX2_talksOf_19 : decode cX2_talksOf 19 = .ok (.ifCond .eq 7, 3) := dk_153 0 7 (dk_at dksX2_talksOf_0 19 rfl rfl)
theorem dX2_talksOf_22 : decode cX2_talksOf 22 = .ok (.iconst (-1), 1) := dk_2 (dk_at dksX2_talksOf_0 22 rfl rfl)
theorem dX2_talksOf_23 : decode cX2_talksOf 23 = .ok (.goto 4, 3) := dk_167 0 4 (dk_at dksX2_talksOf_1 0 rfl rfl)
theorem dX2_talksOf_26 : decode cX2_talksOf 26 = .ok (.iconst 0, 1) := dk_3 (dk_at dksX2_talksOf_1 3 rfl rfl)
theorem dX2_talksOf_27 : decode cX2_talksOf 27 = .ok (.ireturn, 1) := dk_172 (dk_at dksX2_talksOf_1 4 rfl rfl)
abbrev cX2_rests : ByteArray := prog_16_method_106_code
def yX2_rests : MethodName := ⟨RX2, "rests", "(I)I"⟩
def dkwX2_rests_1 : List UInt8 := [42, 28, 182, 0, 167, 167, 0, 8, 42, 27, 182, 1, 113, 172]
abbrev dktX2_rests_1 : List UInt8 := dkwX2_rests_1 ++ []
def dkwX2_rests_0 : List UInt8 := [42, 182, 0, 164, 42, 42, 180, 0, 177, 27, 3, 16, 9, 184, 0, 146, 182, 1, 19, 61, 28, 153, 0, 11]
abbrev dktX2_rests_0 : List UInt8 := dkwX2_rests_0 ++ dktX2_rests_1
theorem dksX2_rests_0 : cX2_rests.data.toList.drop 0 = dktX2_rests_0 := by decide +kernel
theorem dksX2_rests_1 : cX2_rests.data.toList.drop 24 = dktX2_rests_1 := dk_seg dksX2_rests_0 24 rfl rfl
theorem dX2_rests_0 : decode cX2_rests 0 = .ok (.aload_n 0, 1) := dk_42 (dk_at dksX2_rests_0 0 rfl rfl)
theorem dX2_rests_1 : decode cX2_rests 1 = .ok (.invokevirtual 164, 3) := dk_182 0 164 (dk_at dksX2_rests_0 1 rfl rfl)
theorem dX2_rests_4 : decode cX2_rests 4 = .ok (.aload_n 0, 1) := dk_42 (dk_at dksX2_rests_0 4 rfl rfl)
theorem dX2_rests_5 : decode cX2_rests 5 = .ok (.aload_n 0, 1) := dk_42 (dk_at dksX2_rests_0 5 rfl rfl)
theorem dX2_rests_6 : decode cX2_rests 6 = .ok (.getfield 177, 3) := dk_180 0 177 (dk_at dksX2_rests_0 6 rfl rfl)
theorem dX2_rests_9 : decode cX2_rests 9 = .ok (.iload_n 1, 1) := dk_27 (dk_at dksX2_rests_0 9 rfl rfl)
theorem dX2_rests_10 : decode cX2_rests 10 = .ok (.iconst 0, 1) := dk_3 (dk_at dksX2_rests_0 10 rfl rfl)
theorem dX2_rests_11 : decode cX2_rests 11 = .ok (.bipush 9, 2) := dk_16 9 (dk_at dksX2_rests_0 11 rfl rfl)
theorem dX2_rests_13 : decode cX2_rests 13 = .ok (.invokestatic 146, 3) := dk_184 0 146 (dk_at dksX2_rests_0 13 rfl rfl)
theorem dX2_rests_16 : decode cX2_rests 16 = .ok (.invokevirtual 275, 3) := dk_182 1 19 (dk_at dksX2_rests_0 16 rfl rfl)
theorem dX2_rests_19 : decode cX2_rests 19 = .ok (.istore_n 2, 1) := dk_61 (dk_at dksX2_rests_0 19 rfl rfl)
theorem dX2_rests_20 : decode cX2_rests 20 = .ok (.iload_n 2, 1) := dk_28 (dk_at dksX2_rests_0 20 rfl rfl)
theorem dX2_rests_21 : decode cX2_rests 21 = .ok (.ifCond .eq 11, 3) := dk_153 0 11 (dk_at dksX2_rests_0 21 rfl rfl)
theorem dX2_rests_24 : decode cX2_rests 24 = .ok (.aload_n 0, 1) := dk_42 (dk_at dksX2_rests_1 0 rfl rfl)
theorem dX2_rests_25 : decode cX2_rests 25 = .ok (.iload_n 2, 1) := dk_28 (dk_at dksX2_rests_1 1 rfl rfl)
theorem dX2_rests_26 : decode cX2_rests 26 = .ok (.invokevirtual 167, 3) := dk_182 0 167 (dk_at dksX2_rests_1 2 rfl rfl)
theorem dX2_rests_29 : decode cX2_rests 29 = .ok (.goto 8, 3) := dk_167 0 8 (dk_at dksX2_rests_1 5 rfl rfl)
theorem dX2_rests_32 : decode cX2_rests 32 = .ok (.aload_n 0, 1) := dk_42 (dk_at dksX2_rests_1 8 rfl rfl)
theorem dX2_rests_33 : decode cX2_rests 33 = .ok (.iload_n 1, 1) := dk_27 (dk_at dksX2_rests_1 9 rfl rfl)
theorem dX2_rests_34 : decode cX2_rests 34 = .ok (.invokevirtual 369, 3) := dk_182 1 113 (dk_at dksX2_rests_1 10 rfl rfl)
theorem dX2_rests_37 : decode cX2_rests 37 = .ok (.ireturn, 1) := dk_172 (dk_at dksX2_rests_1 13 rfl rfl)
abbrev cX2_seekRests : ByteArray := prog_16_method_105_code
def yX2_seekRests : MethodName := ⟨RX2, "seekRests", "(I)I"⟩
def dkwX2_seekRests_5 : List UInt8 := [132, 3, 1, 167, 255, 144, 28, 172]
abbrev dktX2_seekRests_5 : List UInt8 := dkwX2_seekRests_5 ++ []
def dkwX2_seekRests_4 : List UInt8 := [167, 0, 24, 28, 154, 0, 17, 42, 16, 10, 29, 5, 108, 104, 29, 5, 112, 96, 181, 1, 110, 132, 2, 1]
abbrev dktX2_seekRests_4 : List UInt8 := dkwX2_seekRests_4 ++ dktX2_seekRests_5
def dkwX2_seekRests_3 : List UInt8 := [154, 0, 7, 4, 167, 0, 4, 3, 21, 4, 184, 1, 106, 27, 21, 5, 21, 4, 184, 1, 106, 164, 0, 6]
abbrev dktX2_seekRests_3 : List UInt8 := dkwX2_seekRests_3 ++ dktX2_seekRests_4
def dkwX2_seekRests_2 : List UInt8 := [167, 0, 4, 3, 21, 5, 184, 1, 106, 27, 21, 4, 21, 5, 184, 1, 106, 163, 0, 54, 27, 21, 5]
abbrev dktX2_seekRests_2 : List UInt8 := dkwX2_seekRests_2 ++ dktX2_seekRests_3
def dkwX2_seekRests_1 : List UInt8 := [3, 54, 4, 29, 5, 112, 4, 160, 0, 7, 4, 167, 0, 4, 3, 54, 5, 27, 21, 4, 154, 0, 7, 4]
abbrev dktX2_seekRests_1 : List UInt8 := dkwX2_seekRests_1 ++ dktX2_seekRests_2
def dkwX2_seekRests_0 : List UInt8 := [3, 61, 42, 16, 254, 181, 1, 110, 3, 62, 29, 7, 162, 0, 113, 29, 4, 164, 0, 7, 4, 167, 0, 4]
abbrev dktX2_seekRests_0 : List UInt8 := dkwX2_seekRests_0 ++ dktX2_seekRests_1
theorem dksX2_seekRests_0 : cX2_seekRests.data.toList.drop 0 = dktX2_seekRests_0 := by decide +kernel
theorem dksX2_seekRests_1 : cX2_seekRests.data.toList.drop 24 = dktX2_seekRests_1 := dk_seg dksX2_seekRests_0 24 rfl rfl
theorem dksX2_seekRests_2 : cX2_seekRests.data.toList.drop 48 = dktX2_seekRests_2 := dk_seg dksX2_seekRests_1 24 rfl rfl
theorem dksX2_seekRests_3 : cX2_seekRests.data.toList.drop 71 = dktX2_seekRests_3 := dk_seg dksX2_seekRests_2 23 rfl rfl
theorem dksX2_seekRests_4 : cX2_seekRests.data.toList.drop 95 = dktX2_seekRests_4 := dk_seg dksX2_seekRests_3 24 rfl rfl
theorem dksX2_seekRests_5 : cX2_seekRests.data.toList.drop 119 = dktX2_seekRests_5 := dk_seg dksX2_seekRests_4 24 rfl rfl
theorem dX2_seekRests_0 : decode cX2_seekRests 0 = .ok (.iconst 0, 1) := dk_3 (dk_at dksX2_seekRests_0 0 rfl rfl)
theorem dX2_seekRests_1 : decode cX2_seekRests 1 = .ok (.istore_n 2, 1) := dk_61 (dk_at dksX2_seekRests_0 1 rfl rfl)
theorem dX2_seekRests_2 : decode cX2_seekRests 2 = .ok (.aload_n 0, 1) := dk_42 (dk_at dksX2_seekRests_0 2 rfl rfl)
theorem dX2_seekRests_3 : decode cX2_seekRests 3 = .ok (.bipush (-2), 2) := dk_16 254 (dk_at dksX2_seekRests_0 3 rfl rfl)
theorem dX2_seekRests_5 : decode cX2_seekRests 5 = .ok (.putfield 366, 3) := dk_181 1 110 (dk_at dksX2_seekRests_0 5 rfl rfl)
theorem dX2_seekRests_8 : decode cX2_seekRests 8 = .ok (.iconst 0, 1) := dk_3 (dk_at dksX2_seekRests_0 8 rfl rfl)
theorem dX2_seekRests_9 : decode cX2_seekRests 9 = .ok (.istore_n 3, 1) := dk_62 (dk_at dksX2_seekRests_0 9 rfl rfl)
theorem dX2_seekRests_10 : decode cX2_seekRests 10 = .ok (.iload_n 3, 1) := dk_29 (dk_at dksX2_seekRests_0 10 rfl rfl)
theorem dX2_seekRests_11 : decode cX2_seekRests 11 = .ok (.iconst 4, 1) := dk_7 (dk_at dksX2_seekRests_0 11 rfl rfl)
theorem dX2_seekRests_12 : decode cX2_seekRests 12 = .ok (.if_icmp .ge 113, 3) := dk_162 0 113 (dk_at dksX2_seekRests_0 12 rfl rfl)
theorem dX2_seekRests_15 : decode cX2_seekRests 15 = .ok (.iload_n 3, 1) := dk_29 (dk_at dksX2_seekRests_0 15 rfl rfl)
theorem dX2_seekRests_16 : decode cX2_seekRests 16 = .ok (.iconst 1, 1) := dk_4 (dk_at dksX2_seekRests_0 16 rfl rfl)
theorem dX2_seekRests_17 : decode cX2_seekRests 17 = .ok (.if_icmp .le 7, 3) := dk_164 0 7 (dk_at dksX2_seekRests_0 17 rfl rfl)
theorem dX2_seekRests_20 : decode cX2_seekRests 20 = .ok (.iconst 1, 1) := dk_4 (dk_at dksX2_seekRests_0 20 rfl rfl)
theorem dX2_seekRests_21 : decode cX2_seekRests 21 = .ok (.goto 4, 3) := dk_167 0 4 (dk_at dksX2_seekRests_0 21 rfl rfl)
theorem dX2_seekRests_24 : decode cX2_seekRests 24 = .ok (.iconst 0, 1) := dk_3 (dk_at dksX2_seekRests_1 0 rfl rfl)
theorem dX2_seekRests_25 : decode cX2_seekRests 25 = .ok (.istore 4, 2) := dk_54 4 (dk_at dksX2_seekRests_1 1 rfl rfl)
theorem dX2_seekRests_27 : decode cX2_seekRests 27 = .ok (.iload_n 3, 1) := dk_29 (dk_at dksX2_seekRests_1 3 rfl rfl)
theorem dX2_seekRests_28 : decode cX2_seekRests 28 = .ok (.iconst 2, 1) := dk_5 (dk_at dksX2_seekRests_1 4 rfl rfl)
theorem dX2_seekRests_29 : decode cX2_seekRests 29 = .ok (.irem, 1) := dk_112 (dk_at dksX2_seekRests_1 5 rfl rfl)
theorem dX2_seekRests_30 : decode cX2_seekRests 30 = .ok (.iconst 1, 1) := dk_4 (dk_at dksX2_seekRests_1 6 rfl rfl)
theorem dX2_seekRests_31 : decode cX2_seekRests 31 = .ok (.if_icmp .ne 7, 3) := dk_160 0 7 (dk_at dksX2_seekRests_1 7 rfl rfl)
theorem dX2_seekRests_34 : decode cX2_seekRests 34 = .ok (.iconst 1, 1) := dk_4 (dk_at dksX2_seekRests_1 10 rfl rfl)
theorem dX2_seekRests_35 : decode cX2_seekRests 35 = .ok (.goto 4, 3) := dk_167 0 4 (dk_at dksX2_seekRests_1 11 rfl rfl)
theorem dX2_seekRests_38 : decode cX2_seekRests 38 = .ok (.iconst 0, 1) := dk_3 (dk_at dksX2_seekRests_1 14 rfl rfl)
theorem dX2_seekRests_39 : decode cX2_seekRests 39 = .ok (.istore 5, 2) := dk_54 5 (dk_at dksX2_seekRests_1 15 rfl rfl)
theorem dX2_seekRests_41 : decode cX2_seekRests 41 = .ok (.iload_n 1, 1) := dk_27 (dk_at dksX2_seekRests_1 17 rfl rfl)
theorem dX2_seekRests_42 : decode cX2_seekRests 42 = .ok (.iload 4, 2) := dk_21 4 (dk_at dksX2_seekRests_1 18 rfl rfl)
theorem dX2_seekRests_44 : decode cX2_seekRests 44 = .ok (.ifCond .ne 7, 3) := dk_154 0 7 (dk_at dksX2_seekRests_1 20 rfl rfl)
theorem dX2_seekRests_47 : decode cX2_seekRests 47 = .ok (.iconst 1, 1) := dk_4 (dk_at dksX2_seekRests_1 23 rfl rfl)
theorem dX2_seekRests_48 : decode cX2_seekRests 48 = .ok (.goto 4, 3) := dk_167 0 4 (dk_at dksX2_seekRests_2 0 rfl rfl)
theorem dX2_seekRests_51 : decode cX2_seekRests 51 = .ok (.iconst 0, 1) := dk_3 (dk_at dksX2_seekRests_2 3 rfl rfl)
theorem dX2_seekRests_52 : decode cX2_seekRests 52 = .ok (.iload 5, 2) := dk_21 5 (dk_at dksX2_seekRests_2 4 rfl rfl)
theorem dX2_seekRests_54 : decode cX2_seekRests 54 = .ok (.invokestatic 362, 3) := dk_184 1 106 (dk_at dksX2_seekRests_2 6 rfl rfl)
theorem dX2_seekRests_57 : decode cX2_seekRests 57 = .ok (.iload_n 1, 1) := dk_27 (dk_at dksX2_seekRests_2 9 rfl rfl)
theorem dX2_seekRests_58 : decode cX2_seekRests 58 = .ok (.iload 4, 2) := dk_21 4 (dk_at dksX2_seekRests_2 10 rfl rfl)
theorem dX2_seekRests_60 : decode cX2_seekRests 60 = .ok (.iload 5, 2) := dk_21 5 (dk_at dksX2_seekRests_2 12 rfl rfl)
theorem dX2_seekRests_62 : decode cX2_seekRests 62 = .ok (.invokestatic 362, 3) := dk_184 1 106 (dk_at dksX2_seekRests_2 14 rfl rfl)
theorem dX2_seekRests_65 : decode cX2_seekRests 65 = .ok (.if_icmp .gt 54, 3) := dk_163 0 54 (dk_at dksX2_seekRests_2 17 rfl rfl)
theorem dX2_seekRests_68 : decode cX2_seekRests 68 = .ok (.iload_n 1, 1) := dk_27 (dk_at dksX2_seekRests_2 20 rfl rfl)
theorem dX2_seekRests_69 : decode cX2_seekRests 69 = .ok (.iload 5, 2) := dk_21 5 (dk_at dksX2_seekRests_2 21 rfl rfl)
theorem dX2_seekRests_71 : decode cX2_seekRests 71 = .ok (.ifCond .ne 7, 3) := dk_154 0 7 (dk_at dksX2_seekRests_3 0 rfl rfl)
theorem dX2_seekRests_74 : decode cX2_seekRests 74 = .ok (.iconst 1, 1) := dk_4 (dk_at dksX2_seekRests_3 3 rfl rfl)
theorem dX2_seekRests_75 : decode cX2_seekRests 75 = .ok (.goto 4, 3) := dk_167 0 4 (dk_at dksX2_seekRests_3 4 rfl rfl)
theorem dX2_seekRests_78 : decode cX2_seekRests 78 = .ok (.iconst 0, 1) := dk_3 (dk_at dksX2_seekRests_3 7 rfl rfl)
theorem dX2_seekRests_79 : decode cX2_seekRests 79 = .ok (.iload 4, 2) := dk_21 4 (dk_at dksX2_seekRests_3 8 rfl rfl)
theorem dX2_seekRests_81 : decode cX2_seekRests 81 = .ok (.invokestatic 362, 3) := dk_184 1 106 (dk_at dksX2_seekRests_3 10 rfl rfl)
theorem dX2_seekRests_84 : decode cX2_seekRests 84 = .ok (.iload_n 1, 1) := dk_27 (dk_at dksX2_seekRests_3 13 rfl rfl)
theorem dX2_seekRests_85 : decode cX2_seekRests 85 = .ok (.iload 5, 2) := dk_21 5 (dk_at dksX2_seekRests_3 14 rfl rfl)
theorem dX2_seekRests_87 : decode cX2_seekRests 87 = .ok (.iload 4, 2) := dk_21 4 (dk_at dksX2_seekRests_3 16 rfl rfl)
theorem dX2_seekRests_89 : decode cX2_seekRests 89 = .ok (.invokestatic 362, 3) := dk_184 1 106 (dk_at dksX2_seekRests_3 18 rfl rfl)
theorem dX2_seekRests_92 : decode cX2_seekRests 92 = .ok (.if_icmp .le 6, 3) := dk_164 0 6 (dk_at dksX2_seekRests_3 21 rfl rfl)
theorem dX2_seekRests_95 : decode cX2_seekRests 95 = .ok (.goto 24, 3) := dk_167 0 24 (dk_at dksX2_seekRests_4 0 rfl rfl)
theorem dX2_seekRests_98 : decode cX2_seekRests 98 = .ok (.iload_n 2, 1) := dk_28 (dk_at dksX2_seekRests_4 3 rfl rfl)
theorem dX2_seekRests_99 : decode cX2_seekRests 99 = .ok (.ifCond .ne 17, 3) := dk_154 0 17 (dk_at dksX2_seekRests_4 4 rfl rfl)
theorem dX2_seekRests_102 : decode cX2_seekRests 102 = .ok (.aload_n 0, 1) := dk_42 (dk_at dksX2_seekRests_4 7 rfl rfl)
theorem dX2_seekRests_103 : decode cX2_seekRests 103 = .ok (.bipush 10, 2) := dk_16 10 (dk_at dksX2_seekRests_4 8 rfl rfl)
theorem dX2_seekRests_105 : decode cX2_seekRests 105 = .ok (.iload_n 3, 1) := dk_29 (dk_at dksX2_seekRests_4 10 rfl rfl)
theorem dX2_seekRests_106 : decode cX2_seekRests 106 = .ok (.iconst 2, 1) := dk_5 (dk_at dksX2_seekRests_4 11 rfl rfl)
theorem dX2_seekRests_107 : decode cX2_seekRests 107 = .ok (.idiv, 1) := dk_108 (dk_at dksX2_seekRests_4 12 rfl rfl)
theorem dX2_seekRests_108 : decode cX2_seekRests 108 = .ok (.imul, 1) := dk_104 (dk_at dksX2_seekRests_4 13 rfl rfl)
theorem dX2_seekRests_109 : decode cX2_seekRests 109 = .ok (.iload_n 3, 1) := dk_29 (dk_at dksX2_seekRests_4 14 rfl rfl)
theorem dX2_seekRests_110 : decode cX2_seekRests 110 = .ok (.iconst 2, 1) := dk_5 (dk_at dksX2_seekRests_4 15 rfl rfl)
theorem dX2_seekRests_111 : decode cX2_seekRests 111 = .ok (.irem, 1) := dk_112 (dk_at dksX2_seekRests_4 16 rfl rfl)
theorem dX2_seekRests_112 : decode cX2_seekRests 112 = .ok (.iadd, 1) := dk_96 (dk_at dksX2_seekRests_4 17 rfl rfl)
theorem dX2_seekRests_113 : decode cX2_seekRests 113 = .ok (.putfield 366, 3) := dk_181 1 110 (dk_at dksX2_seekRests_4 18 rfl rfl)
theorem dX2_seekRests_116 : decode cX2_seekRests 116 = .ok (.iinc 2 1, 3) := dk_132 2 1 (dk_at dksX2_seekRests_4 21 rfl rfl)
theorem dX2_seekRests_119 : decode cX2_seekRests 119 = .ok (.iinc 3 1, 3) := dk_132 3 1 (dk_at dksX2_seekRests_5 0 rfl rfl)
theorem dX2_seekRests_122 : decode cX2_seekRests 122 = .ok (.goto (-112), 3) := dk_167 255 144 (dk_at dksX2_seekRests_5 3 rfl rfl)
theorem dX2_seekRests_125 : decode cX2_seekRests 125 = .ok (.iload_n 2, 1) := dk_28 (dk_at dksX2_seekRests_5 6 rfl rfl)
theorem dX2_seekRests_126 : decode cX2_seekRests 126 = .ok (.ireturn, 1) := dk_172 (dk_at dksX2_seekRests_5 7 rfl rfl)
abbrev cX2_rest : ByteArray := prog_16_method_107_code
def yX2_rest : MethodName := ⟨RX2, "rest", "(I)I"⟩
def dkwX2_rest_1 : List UInt8 := [42, 28, 182, 0, 167, 172, 42, 27, 182, 1, 113, 87, 42, 180, 1, 110, 172]
abbrev dktX2_rest_1 : List UInt8 := dkwX2_rest_1 ++ []
def dkwX2_rest_0 : List UInt8 := [42, 182, 0, 164, 42, 42, 180, 0, 177, 27, 3, 16, 9, 184, 0, 146, 182, 1, 19, 61, 28, 153, 0, 9]
abbrev dktX2_rest_0 : List UInt8 := dkwX2_rest_0 ++ dktX2_rest_1
theorem dksX2_rest_0 : cX2_rest.data.toList.drop 0 = dktX2_rest_0 := by decide +kernel
theorem dksX2_rest_1 : cX2_rest.data.toList.drop 24 = dktX2_rest_1 := dk_seg dksX2_rest_0 24 rfl rfl
theorem dX2_rest_0 : decode cX2_rest 0 = .ok (.aload_n 0, 1) := dk_42 (dk_at dksX2_rest_0 0 rfl rfl)
theorem dX2_rest_1 : decode cX2_rest 1 = .ok (.invokevirtual 164, 3) := dk_182 0 164 (dk_at dksX2_rest_0 1 rfl rfl)
theorem dX2_rest_4 : decode cX2_rest 4 = .ok (.aload_n 0, 1) := dk_42 (dk_at dksX2_rest_0 4 rfl rfl)
theorem dX2_rest_5 : decode cX2_rest 5 = .ok (.aload_n 0, 1) := dk_42 (dk_at dksX2_rest_0 5 rfl rfl)
theorem dX2_rest_6 : decode cX2_rest 6 = .ok (.getfield 177, 3) := dk_180 0 177 (dk_at dksX2_rest_0 6 rfl rfl)
theorem dX2_rest_9 : decode cX2_rest 9 = .ok (.iload_n 1, 1) := dk_27 (dk_at dksX2_rest_0 9 rfl rfl)
theorem dX2_rest_10 : decode cX2_rest 10 = .ok (.iconst 0, 1) := dk_3 (dk_at dksX2_rest_0 10 rfl rfl)
theorem dX2_rest_11 : decode cX2_rest 11 = .ok (.bipush 9, 2) := dk_16 9 (dk_at dksX2_rest_0 11 rfl rfl)
theorem dX2_rest_13 : decode cX2_rest 13 = .ok (.invokestatic 146, 3) := dk_184 0 146 (dk_at dksX2_rest_0 13 rfl rfl)
theorem dX2_rest_16 : decode cX2_rest 16 = .ok (.invokevirtual 275, 3) := dk_182 1 19 (dk_at dksX2_rest_0 16 rfl rfl)
theorem dX2_rest_19 : decode cX2_rest 19 = .ok (.istore_n 2, 1) := dk_61 (dk_at dksX2_rest_0 19 rfl rfl)
theorem dX2_rest_20 : decode cX2_rest 20 = .ok (.iload_n 2, 1) := dk_28 (dk_at dksX2_rest_0 20 rfl rfl)
theorem dX2_rest_21 : decode cX2_rest 21 = .ok (.ifCond .eq 9, 3) := dk_153 0 9 (dk_at dksX2_rest_0 21 rfl rfl)
theorem dX2_rest_24 : decode cX2_rest 24 = .ok (.aload_n 0, 1) := dk_42 (dk_at dksX2_rest_1 0 rfl rfl)
theorem dX2_rest_25 : decode cX2_rest 25 = .ok (.iload_n 2, 1) := dk_28 (dk_at dksX2_rest_1 1 rfl rfl)
theorem dX2_rest_26 : decode cX2_rest 26 = .ok (.invokevirtual 167, 3) := dk_182 0 167 (dk_at dksX2_rest_1 2 rfl rfl)
theorem dX2_rest_29 : decode cX2_rest 29 = .ok (.ireturn, 1) := dk_172 (dk_at dksX2_rest_1 5 rfl rfl)
theorem dX2_rest_30 : decode cX2_rest 30 = .ok (.aload_n 0, 1) := dk_42 (dk_at dksX2_rest_1 6 rfl rfl)
theorem dX2_rest_31 : decode cX2_rest 31 = .ok (.iload_n 1, 1) := dk_27 (dk_at dksX2_rest_1 7 rfl rfl)
theorem dX2_rest_32 : decode cX2_rest 32 = .ok (.invokevirtual 369, 3) := dk_182 1 113 (dk_at dksX2_rest_1 8 rfl rfl)
theorem dX2_rest_35 : decode cX2_rest 35 = .ok (.pop, 1) := dk_87 (dk_at dksX2_rest_1 11 rfl rfl)
theorem dX2_rest_36 : decode cX2_rest 36 = .ok (.aload_n 0, 1) := dk_42 (dk_at dksX2_rest_1 12 rfl rfl)
theorem dX2_rest_37 : decode cX2_rest 37 = .ok (.getfield 366, 3) := dk_180 1 110 (dk_at dksX2_rest_1 13 rfl rfl)
theorem dX2_rest_40 : decode cX2_rest 40 = .ok (.ireturn, 1) := dk_172 (dk_at dksX2_rest_1 16 rfl rfl)
abbrev cX2_verdictOdds : ByteArray := prog_16_method_109_code
def yX2_verdictOdds : MethodName := ⟨RX2, "verdictOdds", "(IIZ)J"⟩
def dkwX2_verdictOdds_7 : List UInt8 := [54, 6, 132, 7, 1, 167, 255, 157, 21, 6, 133, 21, 5, 133, 29, 184, 1, 119, 173]
abbrev dktX2_verdictOdds_7 : List UInt8 := dkwX2_verdictOdds_7 ++ []
def dkwX2_verdictOdds_6 : List UInt8 := [54, 8, 132, 9, 1, 167, 255, 218, 21, 6, 42, 182, 1, 116, 27, 160, 0, 7, 4, 167, 0, 4, 3, 96]
abbrev dktX2_verdictOdds_6 : List UInt8 := dkwX2_verdictOdds_6 ++ dktX2_verdictOdds_7
def dkwX2_verdictOdds_5 : List UInt8 := [21, 8, 42, 180, 0, 20, 5, 46, 112, 92, 46, 4, 96, 79, 21, 8, 42, 180, 0, 20, 5, 46, 108]
abbrev dktX2_verdictOdds_5 : List UInt8 := dkwX2_verdictOdds_5 ++ dktX2_verdictOdds_6
def dkwX2_verdictOdds_4 : List UInt8 := [132, 8, 1, 167, 255, 239, 21, 7, 54, 8, 3, 54, 9, 21, 9, 28, 162, 0, 38, 42, 180, 0, 56]
abbrev dktX2_verdictOdds_4 : List UInt8 := dkwX2_verdictOdds_4 ++ dktX2_verdictOdds_5
def dkwX2_verdictOdds_3 : List UInt8 := [21, 7, 21, 5, 162, 0, 98, 3, 54, 8, 21, 8, 8, 162, 0, 17, 42, 180, 0, 56, 21, 8, 3, 79]
abbrev dktX2_verdictOdds_3 : List UInt8 := dkwX2_verdictOdds_3 ++ dktX2_verdictOdds_4
def dkwX2_verdictOdds_2 : List UInt8 := [21, 5, 42, 180, 0, 20, 5, 46, 104, 54, 5, 132, 6, 1, 167, 255, 236, 3, 54, 6, 3, 54, 7]
abbrev dktX2_verdictOdds_2 : List UInt8 := dkwX2_verdictOdds_2 ++ dktX2_verdictOdds_3
def dkwX2_verdictOdds_1 : List UInt8 := [153, 0, 11, 42, 21, 4, 182, 0, 167, 133, 173, 4, 54, 5, 3, 54, 6, 21, 6, 28, 162, 0, 20]
abbrev dktX2_verdictOdds_1 : List UInt8 := dkwX2_verdictOdds_1 ++ dktX2_verdictOdds_2
def dkwX2_verdictOdds_0 : List UInt8 := [42, 182, 0, 164, 42, 42, 27, 182, 0, 239, 28, 3, 7, 184, 0, 146, 182, 1, 19, 54, 4, 21, 4]
abbrev dktX2_verdictOdds_0 : List UInt8 := dkwX2_verdictOdds_0 ++ dktX2_verdictOdds_1
theorem dksX2_verdictOdds_0 : cX2_verdictOdds.data.toList.drop 0 = dktX2_verdictOdds_0 := by decide +kernel
theorem dksX2_verdictOdds_1 : cX2_verdictOdds.data.toList.drop 23 = dktX2_verdictOdds_1 := dk_seg dksX2_verdictOdds_0 23 rfl rfl
theorem dksX2_verdictOdds_2 : cX2_verdictOdds.data.toList.drop 46 = dktX2_verdictOdds_2 := dk_seg dksX2_verdictOdds_1 23 rfl rfl
theorem dksX2_verdictOdds_3 : cX2_verdictOdds.data.toList.drop 69 = dktX2_verdictOdds_3 := dk_seg dksX2_verdictOdds_2 23 rfl rfl
theorem dksX2_verdictOdds_4 : cX2_verdictOdds.data.toList.drop 93 = dktX2_verdictOdds_4 := dk_seg dksX2_verdictOdds_3 24 rfl rfl
theorem dksX2_verdictOdds_5 : cX2_verdictOdds.data.toList.drop 116 = dktX2_verdictOdds_5 := dk_seg dksX2_verdictOdds_4 23 rfl rfl
theorem dksX2_verdictOdds_6 : cX2_verdictOdds.data.toList.drop 139 = dktX2_verdictOdds_6 := dk_seg dksX2_verdictOdds_5 23 rfl rfl
theorem dksX2_verdictOdds_7 : cX2_verdictOdds.data.toList.drop 163 = dktX2_verdictOdds_7 := dk_seg dksX2_verdictOdds_6 24 rfl rfl
theorem dX2_verdictOdds_0 : decode cX2_verdictOdds 0 = .ok (.aload_n 0, 1) := dk_42 (dk_at dksX2_verdictOdds_0 0 rfl rfl)
theorem dX2_verdictOdds_1 : decode cX2_verdictOdds 1 = .ok (.invokevirtual 164, 3) := dk_182 0 164 (dk_at dksX2_verdictOdds_0 1 rfl rfl)
theorem dX2_verdictOdds_4 : decode cX2_verdictOdds 4 = .ok (.aload_n 0, 1) := dk_42 (dk_at dksX2_verdictOdds_0 4 rfl rfl)
theorem dX2_verdictOdds_5 : decode cX2_verdictOdds 5 = .ok (.aload_n 0, 1) := dk_42 (dk_at dksX2_verdictOdds_0 5 rfl rfl)
theorem dX2_verdictOdds_6 : decode cX2_verdictOdds 6 = .ok (.iload_n 1, 1) := dk_27 (dk_at dksX2_verdictOdds_0 6 rfl rfl)
theorem dX2_verdictOdds_7 : decode cX2_verdictOdds 7 = .ok (.invokevirtual 239, 3) := dk_182 0 239 (dk_at dksX2_verdictOdds_0 7 rfl rfl)
theorem dX2_verdictOdds_10 : decode cX2_verdictOdds 10 = .ok (.iload_n 2, 1) := dk_28 (dk_at dksX2_verdictOdds_0 10 rfl rfl)
theorem dX2_verdictOdds_11 : decode cX2_verdictOdds 11 = .ok (.iconst 0, 1) := dk_3 (dk_at dksX2_verdictOdds_0 11 rfl rfl)
theorem dX2_verdictOdds_12 : decode cX2_verdictOdds 12 = .ok (.iconst 4, 1) := dk_7 (dk_at dksX2_verdictOdds_0 12 rfl rfl)
theorem dX2_verdictOdds_13 : decode cX2_verdictOdds 13 = .ok (.invokestatic 146, 3) := dk_184 0 146 (dk_at dksX2_verdictOdds_0 13 rfl rfl)
theorem dX2_verdictOdds_16 : decode cX2_verdictOdds 16 = .ok (.invokevirtual 275, 3) := dk_182 1 19 (dk_at dksX2_verdictOdds_0 16 rfl rfl)
theorem dX2_verdictOdds_19 : decode cX2_verdictOdds 19 = .ok (.istore 4, 2) := dk_54 4 (dk_at dksX2_verdictOdds_0 19 rfl rfl)
theorem dX2_verdictOdds_21 : decode cX2_verdictOdds 21 = .ok (.iload 4, 2) := dk_21 4 (dk_at dksX2_verdictOdds_0 21 rfl rfl)
theorem dX2_verdictOdds_23 : decode cX2_verdictOdds 23 = .ok (.ifCond .eq 11, 3) := dk_153 0 11 (dk_at dksX2_verdictOdds_1 0 rfl rfl)
theorem dX2_verdictOdds_26 : decode cX2_verdictOdds 26 = .ok (.aload_n 0, 1) := dk_42 (dk_at dksX2_verdictOdds_1 3 rfl rfl)
theorem dX2_verdictOdds_27 : decode cX2_verdictOdds 27 = .ok (.iload 4, 2) := dk_21 4 (dk_at dksX2_verdictOdds_1 4 rfl rfl)
theorem dX2_verdictOdds_29 : decode cX2_verdictOdds 29 = .ok (.invokevirtual 167, 3) := dk_182 0 167 (dk_at dksX2_verdictOdds_1 6 rfl rfl)
theorem dX2_verdictOdds_32 : decode cX2_verdictOdds 32 = .ok (.i2l, 1) := dk_133 (dk_at dksX2_verdictOdds_1 9 rfl rfl)
theorem dX2_verdictOdds_33 : decode cX2_verdictOdds 33 = .ok (.lreturn, 1) := dk_173 (dk_at dksX2_verdictOdds_1 10 rfl rfl)
theorem dX2_verdictOdds_34 : decode cX2_verdictOdds 34 = .ok (.iconst 1, 1) := dk_4 (dk_at dksX2_verdictOdds_1 11 rfl rfl)
theorem dX2_verdictOdds_35 : decode cX2_verdictOdds 35 = .ok (.istore 5, 2) := dk_54 5 (dk_at dksX2_verdictOdds_1 12 rfl rfl)
theorem dX2_verdictOdds_37 : decode cX2_verdictOdds 37 = .ok (.iconst 0, 1) := dk_3 (dk_at dksX2_verdictOdds_1 14 rfl rfl)
theorem dX2_verdictOdds_38 : decode cX2_verdictOdds 38 = .ok (.istore 6, 2) := dk_54 6 (dk_at dksX2_verdictOdds_1 15 rfl rfl)
theorem dX2_verdictOdds_40 : decode cX2_verdictOdds 40 = .ok (.iload 6, 2) := dk_21 6 (dk_at dksX2_verdictOdds_1 17 rfl rfl)
theorem dX2_verdictOdds_42 : decode cX2_verdictOdds 42 = .ok (.iload_n 2, 1) := dk_28 (dk_at dksX2_verdictOdds_1 19 rfl rfl)
theorem dX2_verdictOdds_43 : decode cX2_verdictOdds 43 = .ok (.if_icmp .ge 20, 3) := dk_162 0 20 (dk_at dksX2_verdictOdds_1 20 rfl rfl)
theorem dX2_verdictOdds_46 : decode cX2_verdictOdds 46 = .ok (.iload 5, 2) := dk_21 5 (dk_at dksX2_verdictOdds_2 0 rfl rfl)
theorem dX2_verdictOdds_48 : decode cX2_verdictOdds 48 = .ok (.aload_n 0, 1) := dk_42 (dk_at dksX2_verdictOdds_2 2 rfl rfl)
theorem dX2_verdictOdds_49 : decode cX2_verdictOdds 49 = .ok (.getfield 20, 3) := dk_180 0 20 (dk_at dksX2_verdictOdds_2 3 rfl rfl)
theorem dX2_verdictOdds_52 : decode cX2_verdictOdds 52 = .ok (.iconst 2, 1) := dk_5 (dk_at dksX2_verdictOdds_2 6 rfl rfl)
theorem dX2_verdictOdds_53 : decode cX2_verdictOdds 53 = .ok (.iaload, 1) := dk_46 (dk_at dksX2_verdictOdds_2 7 rfl rfl)
theorem dX2_verdictOdds_54 : decode cX2_verdictOdds 54 = .ok (.imul, 1) := dk_104 (dk_at dksX2_verdictOdds_2 8 rfl rfl)
theorem dX2_verdictOdds_55 : decode cX2_verdictOdds 55 = .ok (.istore 5, 2) := dk_54 5 (dk_at dksX2_verdictOdds_2 9 rfl rfl)
theorem dX2_verdictOdds_57 : decode cX2_verdictOdds 57 = .ok (.iinc 6 1, 3) := dk_132 6 1 (dk_at dksX2_verdictOdds_2 11 rfl rfl)
theorem dX2_verdictOdds_60 : decode cX2_verdictOdds 60 = .ok (.goto (-20), 3) := dk_167 255 236 (dk_at dksX2_verdictOdds_2 14 rfl rfl)
theorem dX2_verdictOdds_63 : decode cX2_verdictOdds 63 = .ok (.iconst 0, 1) := dk_3 (dk_at dksX2_verdictOdds_2 17 rfl rfl)
theorem dX2_verdictOdds_64 : decode cX2_verdictOdds 64 = .ok (.istore 6, 2) := dk_54 6 (dk_at dksX2_verdictOdds_2 18 rfl rfl)
theorem dX2_verdictOdds_66 : decode cX2_verdictOdds 66 = .ok (.iconst 0, 1) := dk_3 (dk_at dksX2_verdictOdds_2 20 rfl rfl)
theorem dX2_verdictOdds_67 : decode cX2_verdictOdds 67 = .ok (.istore 7, 2) := dk_54 7 (dk_at dksX2_verdictOdds_2 21 rfl rfl)
theorem dX2_verdictOdds_69 : decode cX2_verdictOdds 69 = .ok (.iload 7, 2) := dk_21 7 (dk_at dksX2_verdictOdds_3 0 rfl rfl)
theorem dX2_verdictOdds_71 : decode cX2_verdictOdds 71 = .ok (.iload 5, 2) := dk_21 5 (dk_at dksX2_verdictOdds_3 2 rfl rfl)
theorem dX2_verdictOdds_73 : decode cX2_verdictOdds 73 = .ok (.if_icmp .ge 98, 3) := dk_162 0 98 (dk_at dksX2_verdictOdds_3 4 rfl rfl)
theorem dX2_verdictOdds_76 : decode cX2_verdictOdds 76 = .ok (.iconst 0, 1) := dk_3 (dk_at dksX2_verdictOdds_3 7 rfl rfl)
theorem dX2_verdictOdds_77 : decode cX2_verdictOdds 77 = .ok (.istore 8, 2) := dk_54 8 (dk_at dksX2_verdictOdds_3 8 rfl rfl)
theorem dX2_verdictOdds_79 : decode cX2_verdictOdds 79 = .ok (.iload 8, 2) := dk_21 8 (dk_at dksX2_verdictOdds_3 10 rfl rfl)
theorem dX2_verdictOdds_81 : decode cX2_verdictOdds 81 = .ok (.iconst 5, 1) := dk_8 (dk_at dksX2_verdictOdds_3 12 rfl rfl)
theorem dX2_verdictOdds_82 : decode cX2_verdictOdds 82 = .ok (.if_icmp .ge 17, 3) := dk_162 0 17 (dk_at dksX2_verdictOdds_3 13 rfl rfl)
theorem dX2_verdictOdds_85 : decode cX2_verdictOdds 85 = .ok (.aload_n 0, 1) := dk_42 (dk_at dksX2_verdictOdds_3 16 rfl rfl)
theorem dX2_verdictOdds_86 : decode cX2_verdictOdds 86 = .ok (.getfield 56, 3) := dk_180 0 56 (dk_at dksX2_verdictOdds_3 17 rfl rfl)
theorem dX2_verdictOdds_89 : decode cX2_verdictOdds 89 = .ok (.iload 8, 2) := dk_21 8 (dk_at dksX2_verdictOdds_3 20 rfl rfl)
theorem dX2_verdictOdds_91 : decode cX2_verdictOdds 91 = .ok (.iconst 0, 1) := dk_3 (dk_at dksX2_verdictOdds_3 22 rfl rfl)
theorem dX2_verdictOdds_92 : decode cX2_verdictOdds 92 = .ok (.iastore, 1) := dk_79 (dk_at dksX2_verdictOdds_3 23 rfl rfl)
theorem dX2_verdictOdds_93 : decode cX2_verdictOdds 93 = .ok (.iinc 8 1, 3) := dk_132 8 1 (dk_at dksX2_verdictOdds_4 0 rfl rfl)
theorem dX2_verdictOdds_96 : decode cX2_verdictOdds 96 = .ok (.goto (-17), 3) := dk_167 255 239 (dk_at dksX2_verdictOdds_4 3 rfl rfl)
theorem dX2_verdictOdds_99 : decode cX2_verdictOdds 99 = .ok (.iload 7, 2) := dk_21 7 (dk_at dksX2_verdictOdds_4 6 rfl rfl)
theorem dX2_verdictOdds_101 : decode cX2_verdictOdds 101 = .ok (.istore 8, 2) := dk_54 8 (dk_at dksX2_verdictOdds_4 8 rfl rfl)
theorem dX2_verdictOdds_103 : decode cX2_verdictOdds 103 = .ok (.iconst 0, 1) := dk_3 (dk_at dksX2_verdictOdds_4 10 rfl rfl)
theorem dX2_verdictOdds_104 : decode cX2_verdictOdds 104 = .ok (.istore 9, 2) := dk_54 9 (dk_at dksX2_verdictOdds_4 11 rfl rfl)
theorem dX2_verdictOdds_106 : decode cX2_verdictOdds 106 = .ok (.iload 9, 2) := dk_21 9 (dk_at dksX2_verdictOdds_4 13 rfl rfl)
theorem dX2_verdictOdds_108 : decode cX2_verdictOdds 108 = .ok (.iload_n 2, 1) := dk_28 (dk_at dksX2_verdictOdds_4 15 rfl rfl)
theorem dX2_verdictOdds_109 : decode cX2_verdictOdds 109 = .ok (.if_icmp .ge 38, 3) := dk_162 0 38 (dk_at dksX2_verdictOdds_4 16 rfl rfl)
theorem dX2_verdictOdds_112 : decode cX2_verdictOdds 112 = .ok (.aload_n 0, 1) := dk_42 (dk_at dksX2_verdictOdds_4 19 rfl rfl)
theorem dX2_verdictOdds_113 : decode cX2_verdictOdds 113 = .ok (.getfield 56, 3) := dk_180 0 56 (dk_at dksX2_verdictOdds_4 20 rfl rfl)
theorem dX2_verdictOdds_116 : decode cX2_verdictOdds 116 = .ok (.iload 8, 2) := dk_21 8 (dk_at dksX2_verdictOdds_5 0 rfl rfl)
theorem dX2_verdictOdds_118 : decode cX2_verdictOdds 118 = .ok (.aload_n 0, 1) := dk_42 (dk_at dksX2_verdictOdds_5 2 rfl rfl)
theorem dX2_verdictOdds_119 : decode cX2_verdictOdds 119 = .ok (.getfield 20, 3) := dk_180 0 20 (dk_at dksX2_verdictOdds_5 3 rfl rfl)
theorem dX2_verdictOdds_122 : decode cX2_verdictOdds 122 = .ok (.iconst 2, 1) := dk_5 (dk_at dksX2_verdictOdds_5 6 rfl rfl)
theorem dX2_verdictOdds_123 : decode cX2_verdictOdds 123 = .ok (.iaload, 1) := dk_46 (dk_at dksX2_verdictOdds_5 7 rfl rfl)
theorem dX2_verdictOdds_124 : decode cX2_verdictOdds 124 = .ok (.irem, 1) := dk_112 (dk_at dksX2_verdictOdds_5 8 rfl rfl)
theorem dX2_verdictOdds_125 : decode cX2_verdictOdds 125 = .ok (.dup2, 1) := dk_92 (dk_at dksX2_verdictOdds_5 9 rfl rfl)
theorem dX2_verdictOdds_126 : decode cX2_verdictOdds 126 = .ok (.iaload, 1) := dk_46 (dk_at dksX2_verdictOdds_5 10 rfl rfl)
theorem dX2_verdictOdds_127 : decode cX2_verdictOdds 127 = .ok (.iconst 1, 1) := dk_4 (dk_at dksX2_verdictOdds_5 11 rfl rfl)
theorem dX2_verdictOdds_128 : decode cX2_verdictOdds 128 = .ok (.iadd, 1) := dk_96 (dk_at dksX2_verdictOdds_5 12 rfl rfl)
theorem dX2_verdictOdds_129 : decode cX2_verdictOdds 129 = .ok (.iastore, 1) := dk_79 (dk_at dksX2_verdictOdds_5 13 rfl rfl)
theorem dX2_verdictOdds_130 : decode cX2_verdictOdds 130 = .ok (.iload 8, 2) := dk_21 8 (dk_at dksX2_verdictOdds_5 14 rfl rfl)
theorem dX2_verdictOdds_132 : decode cX2_verdictOdds 132 = .ok (.aload_n 0, 1) := dk_42 (dk_at dksX2_verdictOdds_5 16 rfl rfl)
theorem dX2_verdictOdds_133 : decode cX2_verdictOdds 133 = .ok (.getfield 20, 3) := dk_180 0 20 (dk_at dksX2_verdictOdds_5 17 rfl rfl)
theorem dX2_verdictOdds_136 : decode cX2_verdictOdds 136 = .ok (.iconst 2, 1) := dk_5 (dk_at dksX2_verdictOdds_5 20 rfl rfl)
theorem dX2_verdictOdds_137 : decode cX2_verdictOdds 137 = .ok (.iaload, 1) := dk_46 (dk_at dksX2_verdictOdds_5 21 rfl rfl)
theorem dX2_verdictOdds_138 : decode cX2_verdictOdds 138 = .ok (.idiv, 1) := dk_108 (dk_at dksX2_verdictOdds_5 22 rfl rfl)
theorem dX2_verdictOdds_139 : decode cX2_verdictOdds 139 = .ok (.istore 8, 2) := dk_54 8 (dk_at dksX2_verdictOdds_6 0 rfl rfl)
theorem dX2_verdictOdds_141 : decode cX2_verdictOdds 141 = .ok (.iinc 9 1, 3) := dk_132 9 1 (dk_at dksX2_verdictOdds_6 2 rfl rfl)
theorem dX2_verdictOdds_144 : decode cX2_verdictOdds 144 = .ok (.goto (-38), 3) := dk_167 255 218 (dk_at dksX2_verdictOdds_6 5 rfl rfl)
theorem dX2_verdictOdds_147 : decode cX2_verdictOdds 147 = .ok (.iload 6, 2) := dk_21 6 (dk_at dksX2_verdictOdds_6 8 rfl rfl)
theorem dX2_verdictOdds_149 : decode cX2_verdictOdds 149 = .ok (.aload_n 0, 1) := dk_42 (dk_at dksX2_verdictOdds_6 10 rfl rfl)
theorem dX2_verdictOdds_150 : decode cX2_verdictOdds 150 = .ok (.invokevirtual 372, 3) := dk_182 1 116 (dk_at dksX2_verdictOdds_6 11 rfl rfl)
theorem dX2_verdictOdds_153 : decode cX2_verdictOdds 153 = .ok (.iload_n 1, 1) := dk_27 (dk_at dksX2_verdictOdds_6 14 rfl rfl)
theorem dX2_verdictOdds_154 : decode cX2_verdictOdds 154 = .ok (.if_icmp .ne 7, 3) := dk_160 0 7 (dk_at dksX2_verdictOdds_6 15 rfl rfl)
theorem dX2_verdictOdds_157 : decode cX2_verdictOdds 157 = .ok (.iconst 1, 1) := dk_4 (dk_at dksX2_verdictOdds_6 18 rfl rfl)
theorem dX2_verdictOdds_158 : decode cX2_verdictOdds 158 = .ok (.goto 4, 3) := dk_167 0 4 (dk_at dksX2_verdictOdds_6 19 rfl rfl)
theorem dX2_verdictOdds_161 : decode cX2_verdictOdds 161 = .ok (.iconst 0, 1) := dk_3 (dk_at dksX2_verdictOdds_6 22 rfl rfl)
theorem dX2_verdictOdds_162 : decode cX2_verdictOdds 162 = .ok (.iadd, 1) := dk_96 (dk_at dksX2_verdictOdds_6 23 rfl rfl)
theorem dX2_verdictOdds_163 : decode cX2_verdictOdds 163 = .ok (.istore 6, 2) := dk_54 6 (dk_at dksX2_verdictOdds_7 0 rfl rfl)
theorem dX2_verdictOdds_165 : decode cX2_verdictOdds 165 = .ok (.iinc 7 1, 3) := dk_132 7 1 (dk_at dksX2_verdictOdds_7 2 rfl rfl)
theorem dX2_verdictOdds_168 : decode cX2_verdictOdds 168 = .ok (.goto (-99), 3) := dk_167 255 157 (dk_at dksX2_verdictOdds_7 5 rfl rfl)
theorem dX2_verdictOdds_171 : decode cX2_verdictOdds 171 = .ok (.iload 6, 2) := dk_21 6 (dk_at dksX2_verdictOdds_7 8 rfl rfl)
theorem dX2_verdictOdds_173 : decode cX2_verdictOdds 173 = .ok (.i2l, 1) := dk_133 (dk_at dksX2_verdictOdds_7 10 rfl rfl)
theorem dX2_verdictOdds_174 : decode cX2_verdictOdds 174 = .ok (.iload 5, 2) := dk_21 5 (dk_at dksX2_verdictOdds_7 11 rfl rfl)
theorem dX2_verdictOdds_176 : decode cX2_verdictOdds 176 = .ok (.i2l, 1) := dk_133 (dk_at dksX2_verdictOdds_7 13 rfl rfl)
theorem dX2_verdictOdds_177 : decode cX2_verdictOdds 177 = .ok (.iload_n 3, 1) := dk_29 (dk_at dksX2_verdictOdds_7 14 rfl rfl)
theorem dX2_verdictOdds_178 : decode cX2_verdictOdds 178 = .ok (.invokestatic 375, 3) := dk_184 1 119 (dk_at dksX2_verdictOdds_7 15 rfl rfl)
theorem dX2_verdictOdds_181 : decode cX2_verdictOdds 181 = .ok (.lreturn, 1) := dk_173 (dk_at dksX2_verdictOdds_7 18 rfl rfl)
abbrev cX2_verdictOf : ByteArray := prog_16_method_108_code
def yX2_verdictOf : MethodName := ⟨RX2, "verdictOf", "()I"⟩
def dkwX2_verdictOf_1 : List UInt8 := [27, 46, 164, 0, 5, 28, 60, 132, 2, 1, 167, 255, 226, 27, 172]
abbrev dktX2_verdictOf_1 : List UInt8 := dkwX2_verdictOf_1 ++ []
def dkwX2_verdictOf_0 : List UInt8 := [3, 60, 4, 61, 28, 42, 180, 0, 20, 5, 46, 162, 0, 26, 42, 180, 0, 56, 28, 46, 42, 180, 0, 56]
abbrev dktX2_verdictOf_0 : List UInt8 := dkwX2_verdictOf_0 ++ dktX2_verdictOf_1
theorem dksX2_verdictOf_0 : cX2_verdictOf.data.toList.drop 0 = dktX2_verdictOf_0 := by decide +kernel
theorem dksX2_verdictOf_1 : cX2_verdictOf.data.toList.drop 24 = dktX2_verdictOf_1 := dk_seg dksX2_verdictOf_0 24 rfl rfl
theorem dX2_verdictOf_0 : decode cX2_verdictOf 0 = .ok (.iconst 0, 1) := dk_3 (dk_at dksX2_verdictOf_0 0 rfl rfl)
theorem dX2_verdictOf_1 : decode cX2_verdictOf 1 = .ok (.istore_n 1, 1) := dk_60 (dk_at dksX2_verdictOf_0 1 rfl rfl)
theorem dX2_verdictOf_2 : decode cX2_verdictOf 2 = .ok (.iconst 1, 1) := dk_4 (dk_at dksX2_verdictOf_0 2 rfl rfl)
theorem dX2_verdictOf_3 : decode cX2_verdictOf 3 = .ok (.istore_n 2, 1) := dk_61 (dk_at dksX2_verdictOf_0 3 rfl rfl)
theorem dX2_verdictOf_4 : decode cX2_verdictOf 4 = .ok (.iload_n 2, 1) := dk_28 (dk_at dksX2_verdictOf_0 4 rfl rfl)
theorem dX2_verdictOf_5 : decode cX2_verdictOf 5 = .ok (.aload_n 0, 1) := dk_42 (dk_at dksX2_verdictOf_0 5 rfl rfl)
theorem dX2_verdictOf_6 : decode cX2_verdictOf 6 = .ok (.getfield 20, 3) := dk_180 0 20 (dk_at dksX2_verdictOf_0 6 rfl rfl)
theorem dX2_verdictOf_9 : decode cX2_verdictOf 9 = .ok (.iconst 2, 1) := dk_5 (dk_at dksX2_verdictOf_0 9 rfl rfl)
theorem dX2_verdictOf_10 : decode cX2_verdictOf 10 = .ok (.iaload, 1) := dk_46 (dk_at dksX2_verdictOf_0 10 rfl rfl)
theorem dX2_verdictOf_11 : decode cX2_verdictOf 11 = .ok (.if_icmp .ge 26, 3) := dk_162 0 26 (dk_at dksX2_verdictOf_0 11 rfl rfl)
theorem dX2_verdictOf_14 : decode cX2_verdictOf 14 = .ok (.aload_n 0, 1) := dk_42 (dk_at dksX2_verdictOf_0 14 rfl rfl)
theorem dX2_verdictOf_15 : decode cX2_verdictOf 15 = .ok (.getfield 56, 3) := dk_180 0 56 (dk_at dksX2_verdictOf_0 15 rfl rfl)
theorem dX2_verdictOf_18 : decode cX2_verdictOf 18 = .ok (.iload_n 2, 1) := dk_28 (dk_at dksX2_verdictOf_0 18 rfl rfl)
theorem dX2_verdictOf_19 : decode cX2_verdictOf 19 = .ok (.iaload, 1) := dk_46 (dk_at dksX2_verdictOf_0 19 rfl rfl)
theorem dX2_verdictOf_20 : decode cX2_verdictOf 20 = .ok (.aload_n 0, 1) := dk_42 (dk_at dksX2_verdictOf_0 20 rfl rfl)
theorem dX2_verdictOf_21 : decode cX2_verdictOf 21 = .ok (.getfield 56, 3) := dk_180 0 56 (dk_at dksX2_verdictOf_0 21 rfl rfl)
theorem dX2_verdictOf_24 : decode cX2_verdictOf 24 = .ok (.iload_n 1, 1) := dk_27 (dk_at dksX2_verdictOf_1 0 rfl rfl)
theorem dX2_verdictOf_25 : decode cX2_verdictOf 25 = .ok (.iaload, 1) := dk_46 (dk_at dksX2_verdictOf_1 1 rfl rfl)
theorem dX2_verdictOf_26 : decode cX2_verdictOf 26 = .ok (.if_icmp .le 5, 3) := dk_164 0 5 (dk_at dksX2_verdictOf_1 2 rfl rfl)
theorem dX2_verdictOf_29 : decode cX2_verdictOf 29 = .ok (.iload_n 2, 1) := dk_28 (dk_at dksX2_verdictOf_1 5 rfl rfl)
theorem dX2_verdictOf_30 : decode cX2_verdictOf 30 = .ok (.istore_n 1, 1) := dk_60 (dk_at dksX2_verdictOf_1 6 rfl rfl)
theorem dX2_verdictOf_31 : decode cX2_verdictOf 31 = .ok (.iinc 2 1, 3) := dk_132 2 1 (dk_at dksX2_verdictOf_1 7 rfl rfl)
theorem dX2_verdictOf_34 : decode cX2_verdictOf 34 = .ok (.goto (-30), 3) := dk_167 255 226 (dk_at dksX2_verdictOf_1 10 rfl rfl)
theorem dX2_verdictOf_37 : decode cX2_verdictOf 37 = .ok (.iload_n 1, 1) := dk_27 (dk_at dksX2_verdictOf_1 13 rfl rfl)
theorem dX2_verdictOf_38 : decode cX2_verdictOf 38 = .ok (.ireturn, 1) := dk_172 (dk_at dksX2_verdictOf_1 14 rfl rfl)
abbrev cX2_lowest : ByteArray := prog_16_method_10_code
def yX2_lowest : MethodName := ⟨RX2, "lowest", "(JJZ)J"⟩
def dkwX2_lowest_1 : List UInt8 := [22, 9, 55, 7, 167, 255, 234, 21, 4, 153, 0, 7, 32, 167, 0, 4, 30, 22, 5, 109, 173]
abbrev dktX2_lowest_1 : List UInt8 := dkwX2_lowest_1 ++ []
def dkwX2_lowest_0 : List UInt8 := [32, 55, 5, 30, 55, 7, 22, 7, 9, 148, 153, 0, 21, 22, 5, 22, 7, 113, 55, 9, 22, 7, 55, 5]
abbrev dktX2_lowest_0 : List UInt8 := dkwX2_lowest_0 ++ dktX2_lowest_1
theorem dksX2_lowest_0 : cX2_lowest.data.toList.drop 0 = dktX2_lowest_0 := by decide +kernel
theorem dksX2_lowest_1 : cX2_lowest.data.toList.drop 24 = dktX2_lowest_1 := dk_seg dksX2_lowest_0 24 rfl rfl
theorem dX2_lowest_0 : decode cX2_lowest 0 = .ok (.lload_n 2, 1) := dk_32 (dk_at dksX2_lowest_0 0 rfl rfl)
theorem dX2_lowest_1 : decode cX2_lowest 1 = .ok (.lstore 5, 2) := dk_55 5 (dk_at dksX2_lowest_0 1 rfl rfl)
theorem dX2_lowest_3 : decode cX2_lowest 3 = .ok (.lload_n 0, 1) := dk_30 (dk_at dksX2_lowest_0 3 rfl rfl)
theorem dX2_lowest_4 : decode cX2_lowest 4 = .ok (.lstore 7, 2) := dk_55 7 (dk_at dksX2_lowest_0 4 rfl rfl)
theorem dX2_lowest_6 : decode cX2_lowest 6 = .ok (.lload 7, 2) := dk_22 7 (dk_at dksX2_lowest_0 6 rfl rfl)
theorem dX2_lowest_8 : decode cX2_lowest 8 = .ok (.lconst 0, 1) := dk_9 (dk_at dksX2_lowest_0 8 rfl rfl)
theorem dX2_lowest_9 : decode cX2_lowest 9 = .ok (.lcmp, 1) := dk_148 (dk_at dksX2_lowest_0 9 rfl rfl)
theorem dX2_lowest_10 : decode cX2_lowest 10 = .ok (.ifCond .eq 21, 3) := dk_153 0 21 (dk_at dksX2_lowest_0 10 rfl rfl)
theorem dX2_lowest_13 : decode cX2_lowest 13 = .ok (.lload 5, 2) := dk_22 5 (dk_at dksX2_lowest_0 13 rfl rfl)
theorem dX2_lowest_15 : decode cX2_lowest 15 = .ok (.lload 7, 2) := dk_22 7 (dk_at dksX2_lowest_0 15 rfl rfl)
theorem dX2_lowest_17 : decode cX2_lowest 17 = .ok (.lrem, 1) := dk_113 (dk_at dksX2_lowest_0 17 rfl rfl)
theorem dX2_lowest_18 : decode cX2_lowest 18 = .ok (.lstore 9, 2) := dk_55 9 (dk_at dksX2_lowest_0 18 rfl rfl)
theorem dX2_lowest_20 : decode cX2_lowest 20 = .ok (.lload 7, 2) := dk_22 7 (dk_at dksX2_lowest_0 20 rfl rfl)
theorem dX2_lowest_22 : decode cX2_lowest 22 = .ok (.lstore 5, 2) := dk_55 5 (dk_at dksX2_lowest_0 22 rfl rfl)
theorem dX2_lowest_24 : decode cX2_lowest 24 = .ok (.lload 9, 2) := dk_22 9 (dk_at dksX2_lowest_1 0 rfl rfl)
theorem dX2_lowest_26 : decode cX2_lowest 26 = .ok (.lstore 7, 2) := dk_55 7 (dk_at dksX2_lowest_1 2 rfl rfl)
theorem dX2_lowest_28 : decode cX2_lowest 28 = .ok (.goto (-22), 3) := dk_167 255 234 (dk_at dksX2_lowest_1 4 rfl rfl)
theorem dX2_lowest_31 : decode cX2_lowest 31 = .ok (.iload 4, 2) := dk_21 4 (dk_at dksX2_lowest_1 7 rfl rfl)
theorem dX2_lowest_33 : decode cX2_lowest 33 = .ok (.ifCond .eq 7, 3) := dk_153 0 7 (dk_at dksX2_lowest_1 9 rfl rfl)
theorem dX2_lowest_36 : decode cX2_lowest 36 = .ok (.lload_n 2, 1) := dk_32 (dk_at dksX2_lowest_1 12 rfl rfl)
theorem dX2_lowest_37 : decode cX2_lowest 37 = .ok (.goto 4, 3) := dk_167 0 4 (dk_at dksX2_lowest_1 13 rfl rfl)
theorem dX2_lowest_40 : decode cX2_lowest 40 = .ok (.lload_n 0, 1) := dk_30 (dk_at dksX2_lowest_1 16 rfl rfl)
theorem dX2_lowest_41 : decode cX2_lowest 41 = .ok (.lload 5, 2) := dk_22 5 (dk_at dksX2_lowest_1 17 rfl rfl)
theorem dX2_lowest_43 : decode cX2_lowest 43 = .ok (.ldiv, 1) := dk_109 (dk_at dksX2_lowest_1 19 rfl rfl)
theorem dX2_lowest_44 : decode cX2_lowest 44 = .ok (.lreturn, 1) := dk_173 (dk_at dksX2_lowest_1 20 rfl rfl)
abbrev cX2_looks : ByteArray := prog_16_method_111_code
def yX2_looks : MethodName := ⟨RX2, "looks", "(III)I"⟩
def dkwX2_looks_1 : List UInt8 := [21, 4, 182, 0, 167, 167, 0, 9, 42, 180, 0, 56, 27, 46, 172]
abbrev dktX2_looks_1 : List UInt8 := dkwX2_looks_1 ++ []
def dkwX2_looks_0 : List UInt8 := [42, 182, 0, 164, 42, 42, 27, 182, 0, 239, 28, 29, 182, 1, 125, 54, 4, 21, 4, 153, 0, 12, 42]
abbrev dktX2_looks_0 : List UInt8 := dkwX2_looks_0 ++ dktX2_looks_1
theorem dksX2_looks_0 : cX2_looks.data.toList.drop 0 = dktX2_looks_0 := by decide +kernel
theorem dksX2_looks_1 : cX2_looks.data.toList.drop 23 = dktX2_looks_1 := dk_seg dksX2_looks_0 23 rfl rfl
theorem dX2_looks_0 : decode cX2_looks 0 = .ok (.aload_n 0, 1) := dk_42 (dk_at dksX2_looks_0 0 rfl rfl)
theorem dX2_looks_1 : decode cX2_looks 1 = .ok (.invokevirtual 164, 3) := dk_182 0 164 (dk_at dksX2_looks_0 1 rfl rfl)
theorem dX2_looks_4 : decode cX2_looks 4 = .ok (.aload_n 0, 1) := dk_42 (dk_at dksX2_looks_0 4 rfl rfl)
theorem dX2_looks_5 : decode cX2_looks 5 = .ok (.aload_n 0, 1) := dk_42 (dk_at dksX2_looks_0 5 rfl rfl)
theorem dX2_looks_6 : decode cX2_looks 6 = .ok (.iload_n 1, 1) := dk_27 (dk_at dksX2_looks_0 6 rfl rfl)
theorem dX2_looks_7 : decode cX2_looks 7 = .ok (.invokevirtual 239, 3) := dk_182 0 239 (dk_at dksX2_looks_0 7 rfl rfl)
theorem dX2_looks_10 : decode cX2_looks 10 = .ok (.iload_n 2, 1) := dk_28 (dk_at dksX2_looks_0 10 rfl rfl)
theorem dX2_looks_11 : decode cX2_looks 11 = .ok (.iload_n 3, 1) := dk_29 (dk_at dksX2_looks_0 11 rfl rfl)
theorem dX2_looks_12 : decode cX2_looks 12 = .ok (.invokevirtual 381, 3) := dk_182 1 125 (dk_at dksX2_looks_0 12 rfl rfl)
theorem dX2_looks_15 : decode cX2_looks 15 = .ok (.istore 4, 2) := dk_54 4 (dk_at dksX2_looks_0 15 rfl rfl)
theorem dX2_looks_17 : decode cX2_looks 17 = .ok (.iload 4, 2) := dk_21 4 (dk_at dksX2_looks_0 17 rfl rfl)
theorem dX2_looks_19 : decode cX2_looks 19 = .ok (.ifCond .eq 12, 3) := dk_153 0 12 (dk_at dksX2_looks_0 19 rfl rfl)
theorem dX2_looks_22 : decode cX2_looks 22 = .ok (.aload_n 0, 1) := dk_42 (dk_at dksX2_looks_0 22 rfl rfl)
theorem dX2_looks_23 : decode cX2_looks 23 = .ok (.iload 4, 2) := dk_21 4 (dk_at dksX2_looks_1 0 rfl rfl)
theorem dX2_looks_25 : decode cX2_looks 25 = .ok (.invokevirtual 167, 3) := dk_182 0 167 (dk_at dksX2_looks_1 2 rfl rfl)
theorem dX2_looks_28 : decode cX2_looks 28 = .ok (.goto 9, 3) := dk_167 0 9 (dk_at dksX2_looks_1 5 rfl rfl)
theorem dX2_looks_31 : decode cX2_looks 31 = .ok (.aload_n 0, 1) := dk_42 (dk_at dksX2_looks_1 8 rfl rfl)
theorem dX2_looks_32 : decode cX2_looks 32 = .ok (.getfield 56, 3) := dk_180 0 56 (dk_at dksX2_looks_1 9 rfl rfl)
theorem dX2_looks_35 : decode cX2_looks 35 = .ok (.iload_n 1, 1) := dk_27 (dk_at dksX2_looks_1 12 rfl rfl)
theorem dX2_looks_36 : decode cX2_looks 36 = .ok (.iaload, 1) := dk_46 (dk_at dksX2_looks_1 13 rfl rfl)
theorem dX2_looks_37 : decode cX2_looks 37 = .ok (.ireturn, 1) := dk_172 (dk_at dksX2_looks_1 14 rfl rfl)
abbrev cX2_lookWhy : ByteArray := prog_16_method_110_code
def yX2_lookWhy : MethodName := ⟨RX2, "lookWhy", "(ZII)I"⟩
def dkwX2_lookWhy_4 : List UInt8 := [4, 96, 79, 132, 5, 1, 167, 255, 215, 3, 172]
abbrev dktX2_lookWhy_4 : List UInt8 := dkwX2_lookWhy_4 ++ []
def dkwX2_lookWhy_3 : List UInt8 := [16, 74, 96, 19, 1, 124, 112, 54, 4, 42, 180, 0, 56, 21, 4, 42, 180, 0, 20, 5, 46, 112, 92, 46]
abbrev dktX2_lookWhy_3 : List UInt8 := dkwX2_lookWhy_3 ++ dktX2_lookWhy_4
def dkwX2_lookWhy_2 : List UInt8 := [79, 132, 4, 1, 167, 255, 239, 28, 54, 4, 3, 54, 5, 21, 5, 29, 162, 0, 41, 16, 75, 21, 4, 104]
abbrev dktX2_lookWhy_2 : List UInt8 := dkwX2_lookWhy_2 ++ dktX2_lookWhy_3
def dkwX2_lookWhy_1 : List UInt8 := [184, 0, 146, 154, 0, 5, 5, 172, 3, 54, 4, 21, 4, 8, 162, 0, 17, 42, 180, 0, 56, 21, 4, 3]
abbrev dktX2_lookWhy_1 : List UInt8 := dkwX2_lookWhy_1 ++ dktX2_lookWhy_2
def dkwX2_lookWhy_0 : List UInt8 := [27, 154, 0, 5, 4, 172, 28, 3, 19, 1, 123, 184, 0, 146, 153, 0, 14, 29, 3, 17, 0, 200]
abbrev dktX2_lookWhy_0 : List UInt8 := dkwX2_lookWhy_0 ++ dktX2_lookWhy_1
theorem dksX2_lookWhy_0 : cX2_lookWhy.data.toList.drop 0 = dktX2_lookWhy_0 := by decide +kernel
theorem dksX2_lookWhy_1 : cX2_lookWhy.data.toList.drop 22 = dktX2_lookWhy_1 := dk_seg dksX2_lookWhy_0 22 rfl rfl
theorem dksX2_lookWhy_2 : cX2_lookWhy.data.toList.drop 46 = dktX2_lookWhy_2 := dk_seg dksX2_lookWhy_1 24 rfl rfl
theorem dksX2_lookWhy_3 : cX2_lookWhy.data.toList.drop 70 = dktX2_lookWhy_3 := dk_seg dksX2_lookWhy_2 24 rfl rfl
theorem dksX2_lookWhy_4 : cX2_lookWhy.data.toList.drop 94 = dktX2_lookWhy_4 := dk_seg dksX2_lookWhy_3 24 rfl rfl
theorem dX2_lookWhy_0 : decode cX2_lookWhy 0 = .ok (.iload_n 1, 1) := dk_27 (dk_at dksX2_lookWhy_0 0 rfl rfl)
theorem dX2_lookWhy_1 : decode cX2_lookWhy 1 = .ok (.ifCond .ne 5, 3) := dk_154 0 5 (dk_at dksX2_lookWhy_0 1 rfl rfl)
theorem dX2_lookWhy_4 : decode cX2_lookWhy 4 = .ok (.iconst 1, 1) := dk_4 (dk_at dksX2_lookWhy_0 4 rfl rfl)
theorem dX2_lookWhy_5 : decode cX2_lookWhy 5 = .ok (.ireturn, 1) := dk_172 (dk_at dksX2_lookWhy_0 5 rfl rfl)
theorem dX2_lookWhy_6 : decode cX2_lookWhy 6 = .ok (.iload_n 2, 1) := dk_28 (dk_at dksX2_lookWhy_0 6 rfl rfl)
theorem dX2_lookWhy_7 : decode cX2_lookWhy 7 = .ok (.iconst 0, 1) := dk_3 (dk_at dksX2_lookWhy_0 7 rfl rfl)
theorem dX2_lookWhy_8 : decode cX2_lookWhy 8 = .ok (.ldc_w 379, 3) := dk_19 1 123 (dk_at dksX2_lookWhy_0 8 rfl rfl)
theorem dX2_lookWhy_11 : decode cX2_lookWhy 11 = .ok (.invokestatic 146, 3) := dk_184 0 146 (dk_at dksX2_lookWhy_0 11 rfl rfl)
theorem dX2_lookWhy_14 : decode cX2_lookWhy 14 = .ok (.ifCond .eq 14, 3) := dk_153 0 14 (dk_at dksX2_lookWhy_0 14 rfl rfl)
theorem dX2_lookWhy_17 : decode cX2_lookWhy 17 = .ok (.iload_n 3, 1) := dk_29 (dk_at dksX2_lookWhy_0 17 rfl rfl)
theorem dX2_lookWhy_18 : decode cX2_lookWhy 18 = .ok (.iconst 0, 1) := dk_3 (dk_at dksX2_lookWhy_0 18 rfl rfl)
theorem dX2_lookWhy_19 : decode cX2_lookWhy 19 = .ok (.sipush 200, 3) := dk_17 0 200 (dk_at dksX2_lookWhy_0 19 rfl rfl)
theorem dX2_lookWhy_22 : decode cX2_lookWhy 22 = .ok (.invokestatic 146, 3) := dk_184 0 146 (dk_at dksX2_lookWhy_1 0 rfl rfl)
theorem dX2_lookWhy_25 : decode cX2_lookWhy 25 = .ok (.ifCond .ne 5, 3) := dk_154 0 5 (dk_at dksX2_lookWhy_1 3 rfl rfl)
theorem dX2_lookWhy_28 : decode cX2_lookWhy 28 = .ok (.iconst 2, 1) := dk_5 (dk_at dksX2_lookWhy_1 6 rfl rfl)
theorem dX2_lookWhy_29 : decode cX2_lookWhy 29 = .ok (.ireturn, 1) := dk_172 (dk_at dksX2_lookWhy_1 7 rfl rfl)
theorem dX2_lookWhy_30 : decode cX2_lookWhy 30 = .ok (.iconst 0, 1) := dk_3 (dk_at dksX2_lookWhy_1 8 rfl rfl)
theorem dX2_lookWhy_31 : decode cX2_lookWhy 31 = .ok (.istore 4, 2) := dk_54 4 (dk_at dksX2_lookWhy_1 9 rfl rfl)
theorem dX2_lookWhy_33 : decode cX2_lookWhy 33 = .ok (.iload 4, 2) := dk_21 4 (dk_at dksX2_lookWhy_1 11 rfl rfl)
theorem dX2_lookWhy_35 : decode cX2_lookWhy 35 = .ok (.iconst 5, 1) := dk_8 (dk_at dksX2_lookWhy_1 13 rfl rfl)
theorem dX2_lookWhy_36 : decode cX2_lookWhy 36 = .ok (.if_icmp .ge 17, 3) := dk_162 0 17 (dk_at dksX2_lookWhy_1 14 rfl rfl)
theorem dX2_lookWhy_39 : decode cX2_lookWhy 39 = .ok (.aload_n 0, 1) := dk_42 (dk_at dksX2_lookWhy_1 17 rfl rfl)
theorem dX2_lookWhy_40 : decode cX2_lookWhy 40 = .ok (.getfield 56, 3) := dk_180 0 56 (dk_at dksX2_lookWhy_1 18 rfl rfl)
theorem dX2_lookWhy_43 : decode cX2_lookWhy 43 = .ok (.iload 4, 2) := dk_21 4 (dk_at dksX2_lookWhy_1 21 rfl rfl)
theorem dX2_lookWhy_45 : decode cX2_lookWhy 45 = .ok (.iconst 0, 1) := dk_3 (dk_at dksX2_lookWhy_1 23 rfl rfl)
theorem dX2_lookWhy_46 : decode cX2_lookWhy 46 = .ok (.iastore, 1) := dk_79 (dk_at dksX2_lookWhy_2 0 rfl rfl)
theorem dX2_lookWhy_47 : decode cX2_lookWhy 47 = .ok (.iinc 4 1, 3) := dk_132 4 1 (dk_at dksX2_lookWhy_2 1 rfl rfl)
theorem dX2_lookWhy_50 : decode cX2_lookWhy 50 = .ok (.goto (-17), 3) := dk_167 255 239 (dk_at dksX2_lookWhy_2 4 rfl rfl)
theorem dX2_lookWhy_53 : decode cX2_lookWhy 53 = .ok (.iload_n 2, 1) := dk_28 (dk_at dksX2_lookWhy_2 7 rfl rfl)
theorem dX2_lookWhy_54 : decode cX2_lookWhy 54 = .ok (.istore 4, 2) := dk_54 4 (dk_at dksX2_lookWhy_2 8 rfl rfl)
theorem dX2_lookWhy_56 : decode cX2_lookWhy 56 = .ok (.iconst 0, 1) := dk_3 (dk_at dksX2_lookWhy_2 10 rfl rfl)
theorem dX2_lookWhy_57 : decode cX2_lookWhy 57 = .ok (.istore 5, 2) := dk_54 5 (dk_at dksX2_lookWhy_2 11 rfl rfl)
theorem dX2_lookWhy_59 : decode cX2_lookWhy 59 = .ok (.iload 5, 2) := dk_21 5 (dk_at dksX2_lookWhy_2 13 rfl rfl)
theorem dX2_lookWhy_61 : decode cX2_lookWhy 61 = .ok (.iload_n 3, 1) := dk_29 (dk_at dksX2_lookWhy_2 15 rfl rfl)
theorem dX2_lookWhy_62 : decode cX2_lookWhy 62 = .ok (.if_icmp .ge 41, 3) := dk_162 0 41 (dk_at dksX2_lookWhy_2 16 rfl rfl)
theorem dX2_lookWhy_65 : decode cX2_lookWhy 65 = .ok (.bipush 75, 2) := dk_16 75 (dk_at dksX2_lookWhy_2 19 rfl rfl)
theorem dX2_lookWhy_67 : decode cX2_lookWhy 67 = .ok (.iload 4, 2) := dk_21 4 (dk_at dksX2_lookWhy_2 21 rfl rfl)
theorem dX2_lookWhy_69 : decode cX2_lookWhy 69 = .ok (.imul, 1) := dk_104 (dk_at dksX2_lookWhy_2 23 rfl rfl)
theorem dX2_lookWhy_70 : decode cX2_lookWhy 70 = .ok (.bipush 74, 2) := dk_16 74 (dk_at dksX2_lookWhy_3 0 rfl rfl)
theorem dX2_lookWhy_72 : decode cX2_lookWhy 72 = .ok (.iadd, 1) := dk_96 (dk_at dksX2_lookWhy_3 2 rfl rfl)
theorem dX2_lookWhy_73 : decode cX2_lookWhy 73 = .ok (.ldc_w 380, 3) := dk_19 1 124 (dk_at dksX2_lookWhy_3 3 rfl rfl)
theorem dX2_lookWhy_76 : decode cX2_lookWhy 76 = .ok (.irem, 1) := dk_112 (dk_at dksX2_lookWhy_3 6 rfl rfl)
theorem dX2_lookWhy_77 : decode cX2_lookWhy 77 = .ok (.istore 4, 2) := dk_54 4 (dk_at dksX2_lookWhy_3 7 rfl rfl)
theorem dX2_lookWhy_79 : decode cX2_lookWhy 79 = .ok (.aload_n 0, 1) := dk_42 (dk_at dksX2_lookWhy_3 9 rfl rfl)
theorem dX2_lookWhy_80 : decode cX2_lookWhy 80 = .ok (.getfield 56, 3) := dk_180 0 56 (dk_at dksX2_lookWhy_3 10 rfl rfl)
theorem dX2_lookWhy_83 : decode cX2_lookWhy 83 = .ok (.iload 4, 2) := dk_21 4 (dk_at dksX2_lookWhy_3 13 rfl rfl)
theorem dX2_lookWhy_85 : decode cX2_lookWhy 85 = .ok (.aload_n 0, 1) := dk_42 (dk_at dksX2_lookWhy_3 15 rfl rfl)
theorem dX2_lookWhy_86 : decode cX2_lookWhy 86 = .ok (.getfield 20, 3) := dk_180 0 20 (dk_at dksX2_lookWhy_3 16 rfl rfl)
theorem dX2_lookWhy_89 : decode cX2_lookWhy 89 = .ok (.iconst 2, 1) := dk_5 (dk_at dksX2_lookWhy_3 19 rfl rfl)
theorem dX2_lookWhy_90 : decode cX2_lookWhy 90 = .ok (.iaload, 1) := dk_46 (dk_at dksX2_lookWhy_3 20 rfl rfl)
theorem dX2_lookWhy_91 : decode cX2_lookWhy 91 = .ok (.irem, 1) := dk_112 (dk_at dksX2_lookWhy_3 21 rfl rfl)
theorem dX2_lookWhy_92 : decode cX2_lookWhy 92 = .ok (.dup2, 1) := dk_92 (dk_at dksX2_lookWhy_3 22 rfl rfl)
theorem dX2_lookWhy_93 : decode cX2_lookWhy 93 = .ok (.iaload, 1) := dk_46 (dk_at dksX2_lookWhy_3 23 rfl rfl)
theorem dX2_lookWhy_94 : decode cX2_lookWhy 94 = .ok (.iconst 1, 1) := dk_4 (dk_at dksX2_lookWhy_4 0 rfl rfl)
theorem dX2_lookWhy_95 : decode cX2_lookWhy 95 = .ok (.iadd, 1) := dk_96 (dk_at dksX2_lookWhy_4 1 rfl rfl)
theorem dX2_lookWhy_96 : decode cX2_lookWhy 96 = .ok (.iastore, 1) := dk_79 (dk_at dksX2_lookWhy_4 2 rfl rfl)
theorem dX2_lookWhy_97 : decode cX2_lookWhy 97 = .ok (.iinc 5 1, 3) := dk_132 5 1 (dk_at dksX2_lookWhy_4 3 rfl rfl)
theorem dX2_lookWhy_100 : decode cX2_lookWhy 100 = .ok (.goto (-41), 3) := dk_167 255 215 (dk_at dksX2_lookWhy_4 6 rfl rfl)
theorem dX2_lookWhy_103 : decode cX2_lookWhy 103 = .ok (.iconst 0, 1) := dk_3 (dk_at dksX2_lookWhy_4 9 rfl rfl)
theorem dX2_lookWhy_104 : decode cX2_lookWhy 104 = .ok (.ireturn, 1) := dk_172 (dk_at dksX2_lookWhy_4 10 rfl rfl)
abbrev cX2_verdict : ByteArray := prog_16_method_112_code
def yX2_verdict : MethodName := ⟨RX2, "verdict", "(II)I"⟩
def dkwX2_verdict_1 : List UInt8 := [167, 0, 7, 42, 182, 1, 116, 172]
abbrev dktX2_verdict_1 : List UInt8 := dkwX2_verdict_1 ++ []
def dkwX2_verdict_0 : List UInt8 := [42, 182, 0, 164, 42, 42, 180, 0, 177, 27, 28, 182, 1, 125, 62, 29, 153, 0, 11, 42, 29, 182, 0, 167]
abbrev dktX2_verdict_0 : List UInt8 := dkwX2_verdict_0 ++ dktX2_verdict_1
theorem dksX2_verdict_0 : cX2_verdict.data.toList.drop 0 = dktX2_verdict_0 := by decide +kernel
theorem dksX2_verdict_1 : cX2_verdict.data.toList.drop 24 = dktX2_verdict_1 := dk_seg dksX2_verdict_0 24 rfl rfl
theorem dX2_verdict_0 : decode cX2_verdict 0 = .ok (.aload_n 0, 1) := dk_42 (dk_at dksX2_verdict_0 0 rfl rfl)
theorem dX2_verdict_1 : decode cX2_verdict 1 = .ok (.invokevirtual 164, 3) := dk_182 0 164 (dk_at dksX2_verdict_0 1 rfl rfl)
theorem dX2_verdict_4 : decode cX2_verdict 4 = .ok (.aload_n 0, 1) := dk_42 (dk_at dksX2_verdict_0 4 rfl rfl)
theorem dX2_verdict_5 : decode cX2_verdict 5 = .ok (.aload_n 0, 1) := dk_42 (dk_at dksX2_verdict_0 5 rfl rfl)
theorem dX2_verdict_6 : decode cX2_verdict 6 = .ok (.getfield 177, 3) := dk_180 0 177 (dk_at dksX2_verdict_0 6 rfl rfl)
theorem dX2_verdict_9 : decode cX2_verdict 9 = .ok (.iload_n 1, 1) := dk_27 (dk_at dksX2_verdict_0 9 rfl rfl)
theorem dX2_verdict_10 : decode cX2_verdict 10 = .ok (.iload_n 2, 1) := dk_28 (dk_at dksX2_verdict_0 10 rfl rfl)
theorem dX2_verdict_11 : decode cX2_verdict 11 = .ok (.invokevirtual 381, 3) := dk_182 1 125 (dk_at dksX2_verdict_0 11 rfl rfl)
theorem dX2_verdict_14 : decode cX2_verdict 14 = .ok (.istore_n 3, 1) := dk_62 (dk_at dksX2_verdict_0 14 rfl rfl)
theorem dX2_verdict_15 : decode cX2_verdict 15 = .ok (.iload_n 3, 1) := dk_29 (dk_at dksX2_verdict_0 15 rfl rfl)
theorem dX2_verdict_16 : decode cX2_verdict 16 = .ok (.ifCond .eq 11, 3) := dk_153 0 11 (dk_at dksX2_verdict_0 16 rfl rfl)
theorem dX2_verdict_19 : decode cX2_verdict 19 = .ok (.aload_n 0, 1) := dk_42 (dk_at dksX2_verdict_0 19 rfl rfl)
theorem dX2_verdict_20 : decode cX2_verdict 20 = .ok (.iload_n 3, 1) := dk_29 (dk_at dksX2_verdict_0 20 rfl rfl)
theorem dX2_verdict_21 : decode cX2_verdict 21 = .ok (.invokevirtual 167, 3) := dk_182 0 167 (dk_at dksX2_verdict_0 21 rfl rfl)
theorem dX2_verdict_24 : decode cX2_verdict 24 = .ok (.goto 7, 3) := dk_167 0 7 (dk_at dksX2_verdict_1 0 rfl rfl)
theorem dX2_verdict_27 : decode cX2_verdict 27 = .ok (.aload_n 0, 1) := dk_42 (dk_at dksX2_verdict_1 3 rfl rfl)
theorem dX2_verdict_28 : decode cX2_verdict 28 = .ok (.invokevirtual 372, 3) := dk_182 1 116 (dk_at dksX2_verdict_1 4 rfl rfl)
theorem dX2_verdict_31 : decode cX2_verdict 31 = .ok (.ireturn, 1) := dk_172 (dk_at dksX2_verdict_1 7 rfl rfl)
abbrev cX2_odds : ByteArray := prog_16_method_114_code
def yX2_odds : MethodName := ⟨RX2, "odds", "(IIIZ)J"⟩
def dkwX2_odds_3 : List UInt8 := [184, 1, 119, 173]
abbrev dktX2_odds_3 : List UInt8 := dkwX2_odds_3 ++ []
def dkwX2_odds_2 : List UInt8 := [182, 0, 167, 133, 173, 42, 27, 28, 29, 182, 1, 139, 42, 180, 1, 133, 42, 180, 1, 129, 21, 4]
abbrev dktX2_odds_2 : List UInt8 := dkwX2_odds_2 ++ dktX2_odds_3
def dkwX2_odds_1 : List UInt8 := [184, 0, 146, 153, 0, 7, 4, 167, 0, 4, 3, 182, 1, 19, 54, 5, 21, 5, 153, 0, 11, 42, 21, 5]
abbrev dktX2_odds_1 : List UInt8 := dkwX2_odds_1 ++ dktX2_odds_2
def dkwX2_odds_0 : List UInt8 := [42, 182, 0, 164, 42, 42, 27, 182, 0, 239, 28, 3, 8, 184, 0, 146, 153, 0, 17, 29, 3, 16, 99]
abbrev dktX2_odds_0 : List UInt8 := dkwX2_odds_0 ++ dktX2_odds_1
theorem dksX2_odds_0 : cX2_odds.data.toList.drop 0 = dktX2_odds_0 := by decide +kernel
theorem dksX2_odds_1 : cX2_odds.data.toList.drop 23 = dktX2_odds_1 := dk_seg dksX2_odds_0 23 rfl rfl
theorem dksX2_odds_2 : cX2_odds.data.toList.drop 47 = dktX2_odds_2 := dk_seg dksX2_odds_1 24 rfl rfl
theorem dksX2_odds_3 : cX2_odds.data.toList.drop 69 = dktX2_odds_3 := dk_seg dksX2_odds_2 22 rfl rfl
theorem dX2_odds_0 : decode cX2_odds 0 = .ok (.aload_n 0, 1) := dk_42 (dk_at dksX2_odds_0 0 rfl rfl)
theorem dX2_odds_1 : decode cX2_odds 1 = .ok (.invokevirtual 164, 3) := dk_182 0 164 (dk_at dksX2_odds_0 1 rfl rfl)
theorem dX2_odds_4 : decode cX2_odds 4 = .ok (.aload_n 0, 1) := dk_42 (dk_at dksX2_odds_0 4 rfl rfl)
theorem dX2_odds_5 : decode cX2_odds 5 = .ok (.aload_n 0, 1) := dk_42 (dk_at dksX2_odds_0 5 rfl rfl)
theorem dX2_odds_6 : decode cX2_odds 6 = .ok (.iload_n 1, 1) := dk_27 (dk_at dksX2_odds_0 6 rfl rfl)
theorem dX2_odds_7 : decode cX2_odds 7 = .ok (.invokevirtual 239, 3) := dk_182 0 239 (dk_at dksX2_odds_0 7 rfl rfl)
theorem dX2_odds_10 : decode cX2_odds 10 = .ok (.iload_n 2, 1) := dk_28 (dk_at dksX2_odds_0 10 rfl rfl)
theorem dX2_odds_11 : decode cX2_odds 11 = .ok (.iconst 0, 1) := dk_3 (dk_at dksX2_odds_0 11 rfl rfl)
theorem dX2_odds_12 : decode cX2_odds 12 = .ok (.iconst 5, 1) := dk_8 (dk_at dksX2_odds_0 12 rfl rfl)
theorem dX2_odds_13 : decode cX2_odds 13 = .ok (.invokestatic 146, 3) := dk_184 0 146 (dk_at dksX2_odds_0 13 rfl rfl)
theorem dX2_odds_16 : decode cX2_odds 16 = .ok (.ifCond .eq 17, 3) := dk_153 0 17 (dk_at dksX2_odds_0 16 rfl rfl)
theorem dX2_odds_19 : decode cX2_odds 19 = .ok (.iload_n 3, 1) := dk_29 (dk_at dksX2_odds_0 19 rfl rfl)
theorem dX2_odds_20 : decode cX2_odds 20 = .ok (.iconst 0, 1) := dk_3 (dk_at dksX2_odds_0 20 rfl rfl)
theorem dX2_odds_21 : decode cX2_odds 21 = .ok (.bipush 99, 2) := dk_16 99 (dk_at dksX2_odds_0 21 rfl rfl)
theorem dX2_odds_23 : decode cX2_odds 23 = .ok (.invokestatic 146, 3) := dk_184 0 146 (dk_at dksX2_odds_1 0 rfl rfl)
theorem dX2_odds_26 : decode cX2_odds 26 = .ok (.ifCond .eq 7, 3) := dk_153 0 7 (dk_at dksX2_odds_1 3 rfl rfl)
theorem dX2_odds_29 : decode cX2_odds 29 = .ok (.iconst 1, 1) := dk_4 (dk_at dksX2_odds_1 6 rfl rfl)
theorem dX2_odds_30 : decode cX2_odds 30 = .ok (.goto 4, 3) := dk_167 0 4 (dk_at dksX2_odds_1 7 rfl rfl)
theorem dX2_odds_33 : decode cX2_odds 33 = .ok (.iconst 0, 1) := dk_3 (dk_at dksX2_odds_1 10 rfl rfl)
theorem dX2_odds_34 : decode cX2_odds 34 = .ok (.invokevirtual 275, 3) := dk_182 1 19 (dk_at dksX2_odds_1 11 rfl rfl)
theorem dX2_odds_37 : decode cX2_odds 37 = .ok (.istore 5, 2) := dk_54 5 (dk_at dksX2_odds_1 14 rfl rfl)
theorem dX2_odds_39 : decode cX2_odds 39 = .ok (.iload 5, 2) := dk_21 5 (dk_at dksX2_odds_1 16 rfl rfl)
theorem dX2_odds_41 : decode cX2_odds 41 = .ok (.ifCond .eq 11, 3) := dk_153 0 11 (dk_at dksX2_odds_1 18 rfl rfl)
theorem dX2_odds_44 : decode cX2_odds 44 = .ok (.aload_n 0, 1) := dk_42 (dk_at dksX2_odds_1 21 rfl rfl)
theorem dX2_odds_45 : decode cX2_odds 45 = .ok (.iload 5, 2) := dk_21 5 (dk_at dksX2_odds_1 22 rfl rfl)
theorem dX2_odds_47 : decode cX2_odds 47 = .ok (.invokevirtual 167, 3) := dk_182 0 167 (dk_at dksX2_odds_2 0 rfl rfl)
theorem dX2_odds_50 : decode cX2_odds 50 = .ok (.i2l, 1) := dk_133 (dk_at dksX2_odds_2 3 rfl rfl)
theorem dX2_odds_51 : decode cX2_odds 51 = .ok (.lreturn, 1) := dk_173 (dk_at dksX2_odds_2 4 rfl rfl)
theorem dX2_odds_52 : decode cX2_odds 52 = .ok (.aload_n 0, 1) := dk_42 (dk_at dksX2_odds_2 5 rfl rfl)
theorem dX2_odds_53 : decode cX2_odds 53 = .ok (.iload_n 1, 1) := dk_27 (dk_at dksX2_odds_2 6 rfl rfl)
theorem dX2_odds_54 : decode cX2_odds 54 = .ok (.iload_n 2, 1) := dk_28 (dk_at dksX2_odds_2 7 rfl rfl)
theorem dX2_odds_55 : decode cX2_odds 55 = .ok (.iload_n 3, 1) := dk_29 (dk_at dksX2_odds_2 8 rfl rfl)
theorem dX2_odds_56 : decode cX2_odds 56 = .ok (.invokevirtual 395, 3) := dk_182 1 139 (dk_at dksX2_odds_2 9 rfl rfl)
theorem dX2_odds_59 : decode cX2_odds 59 = .ok (.aload_n 0, 1) := dk_42 (dk_at dksX2_odds_2 12 rfl rfl)
theorem dX2_odds_60 : decode cX2_odds 60 = .ok (.getfield 389, 3) := dk_180 1 133 (dk_at dksX2_odds_2 13 rfl rfl)
theorem dX2_odds_63 : decode cX2_odds 63 = .ok (.aload_n 0, 1) := dk_42 (dk_at dksX2_odds_2 16 rfl rfl)
theorem dX2_odds_64 : decode cX2_odds 64 = .ok (.getfield 385, 3) := dk_180 1 129 (dk_at dksX2_odds_2 17 rfl rfl)
theorem dX2_odds_67 : decode cX2_odds 67 = .ok (.iload 4, 2) := dk_21 4 (dk_at dksX2_odds_2 20 rfl rfl)
theorem dX2_odds_69 : decode cX2_odds 69 = .ok (.invokestatic 375, 3) := dk_184 1 119 (dk_at dksX2_odds_3 0 rfl rfl)
theorem dX2_odds_72 : decode cX2_odds 72 = .ok (.lreturn, 1) := dk_173 (dk_at dksX2_odds_3 3 rfl rfl)
abbrev cX2_tryDumb : ByteArray := prog_16_method_113_code
def yX2_tryDumb : MethodName := ⟨RX2, "tryDumb", "(III)V"⟩
def dkwX2_tryDumb_7 : List UInt8 := [42, 89, 180, 1, 136, 22, 5, 21, 7, 133, 105, 97, 181, 1, 136, 132, 4, 1, 167, 255, 92, 177]
abbrev dktX2_tryDumb_7 : List UInt8 := dkwX2_tryDumb_7 ++ []
def dkwX2_tryDumb_6 : List UInt8 := [181, 1, 129, 42, 89, 180, 1, 133, 21, 7, 29, 161, 0, 8, 22, 5, 167, 0, 4, 9, 97, 181, 1, 133]
abbrev dktX2_tryDumb_6 : List UInt8 := dkwX2_tryDumb_6 ++ dktX2_tryDumb_7
def dkwX2_tryDumb_5 : List UInt8 := [184, 1, 50, 182, 0, 249, 54, 7, 132, 8, 1, 167, 255, 167, 42, 89, 180, 1, 129, 22, 5, 97]
abbrev dktX2_tryDumb_5 : List UInt8 := dkwX2_tryDumb_5 ++ dktX2_tryDumb_6
def dkwX2_tryDumb_4 : List UInt8 := [180, 0, 20, 16, 13, 27, 96, 46, 42, 180, 0, 32, 16, 35, 46, 21, 8, 96, 4, 96, 21, 4, 21, 8]
abbrev dktX2_tryDumb_4 : List UInt8 := dkwX2_tryDumb_4 ++ dktX2_tryDumb_5
def dkwX2_tryDumb_3 : List UInt8 := [42, 180, 0, 20, 4, 46, 100, 133, 105, 55, 5, 42, 27, 21, 7, 42, 180, 0, 32, 8, 27, 96, 46, 42]
abbrev dktX2_tryDumb_3 : List UInt8 := dkwX2_tryDumb_3 ++ dktX2_tryDumb_4
def dkwX2_tryDumb_2 : List UInt8 := [22, 5, 21, 4, 21, 8, 184, 1, 50, 153, 0, 13, 42, 180, 0, 20, 4, 46, 133, 167, 0, 13, 16, 100]
abbrev dktX2_tryDumb_2 : List UInt8 := dkwX2_tryDumb_2 ++ dktX2_tryDumb_3
def dkwX2_tryDumb_1 : List UInt8 := [162, 0, 162, 10, 55, 5, 42, 180, 0, 32, 27, 46, 54, 7, 3, 54, 8, 21, 8, 28, 162, 0, 89]
abbrev dktX2_tryDumb_1 : List UInt8 := dkwX2_tryDumb_1 ++ dktX2_tryDumb_2
def dkwX2_tryDumb_0 : List UInt8 := [42, 9, 181, 1, 129, 42, 9, 181, 1, 133, 42, 9, 181, 1, 136, 3, 54, 4, 21, 4, 4, 28, 120]
abbrev dktX2_tryDumb_0 : List UInt8 := dkwX2_tryDumb_0 ++ dktX2_tryDumb_1
theorem dksX2_tryDumb_0 : cX2_tryDumb.data.toList.drop 0 = dktX2_tryDumb_0 := by decide +kernel
theorem dksX2_tryDumb_1 : cX2_tryDumb.data.toList.drop 23 = dktX2_tryDumb_1 := dk_seg dksX2_tryDumb_0 23 rfl rfl
theorem dksX2_tryDumb_2 : cX2_tryDumb.data.toList.drop 46 = dktX2_tryDumb_2 := dk_seg dksX2_tryDumb_1 23 rfl rfl
theorem dksX2_tryDumb_3 : cX2_tryDumb.data.toList.drop 70 = dktX2_tryDumb_3 := dk_seg dksX2_tryDumb_2 24 rfl rfl
theorem dksX2_tryDumb_4 : cX2_tryDumb.data.toList.drop 94 = dktX2_tryDumb_4 := dk_seg dksX2_tryDumb_3 24 rfl rfl
theorem dksX2_tryDumb_5 : cX2_tryDumb.data.toList.drop 118 = dktX2_tryDumb_5 := dk_seg dksX2_tryDumb_4 24 rfl rfl
theorem dksX2_tryDumb_6 : cX2_tryDumb.data.toList.drop 140 = dktX2_tryDumb_6 := dk_seg dksX2_tryDumb_5 22 rfl rfl
theorem dksX2_tryDumb_7 : cX2_tryDumb.data.toList.drop 164 = dktX2_tryDumb_7 := dk_seg dksX2_tryDumb_6 24 rfl rfl
theorem dX2_tryDumb_0 : decode cX2_tryDumb 0 = .ok (.aload_n 0, 1) := dk_42 (dk_at dksX2_tryDumb_0 0 rfl rfl)
theorem dX2_tryDumb_1 : decode cX2_tryDumb 1 = .ok (.lconst 0, 1) := dk_9 (dk_at dksX2_tryDumb_0 1 rfl rfl)
theorem dX2_tryDumb_2 : decode cX2_tryDumb 2 = .ok (.putfield 385, 3) := dk_181 1 129 (dk_at dksX2_tryDumb_0 2 rfl rfl)
theorem dX2_tryDumb_5 : decode cX2_tryDumb 5 = .ok (.aload_n 0, 1) := dk_42 (dk_at dksX2_tryDumb_0 5 rfl rfl)
theorem dX2_tryDumb_6 : decode cX2_tryDumb 6 = .ok (.lconst 0, 1) := dk_9 (dk_at dksX2_tryDumb_0 6 rfl rfl)
theorem dX2_tryDumb_7 : decode cX2_tryDumb 7 = .ok (.putfield 389, 3) := dk_181 1 133 (dk_at dksX2_tryDumb_0 7 rfl rfl)
theorem dX2_tryDumb_10 : decode cX2_tryDumb 10 = .ok (.aload_n 0, 1) := dk_42 (dk_at dksX2_tryDumb_0 10 rfl rfl)
theorem dX2_tryDumb_11 : decode cX2_tryDumb 11 = .ok (.lconst 0, 1) := dk_9 (dk_at dksX2_tryDumb_0 11 rfl rfl)
theorem dX2_tryDumb_12 : decode cX2_tryDumb 12 = .ok (.putfield 392, 3) := dk_181 1 136 (dk_at dksX2_tryDumb_0 12 rfl rfl)
theorem dX2_tryDumb_15 : decode cX2_tryDumb 15 = .ok (.iconst 0, 1) := dk_3 (dk_at dksX2_tryDumb_0 15 rfl rfl)
theorem dX2_tryDumb_16 : decode cX2_tryDumb 16 = .ok (.istore 4, 2) := dk_54 4 (dk_at dksX2_tryDumb_0 16 rfl rfl)
theorem dX2_tryDumb_18 : decode cX2_tryDumb 18 = .ok (.iload 4, 2) := dk_21 4 (dk_at dksX2_tryDumb_0 18 rfl rfl)
theorem dX2_tryDumb_20 : decode cX2_tryDumb 20 = .ok (.iconst 1, 1) := dk_4 (dk_at dksX2_tryDumb_0 20 rfl rfl)
theorem dX2_tryDumb_21 : decode cX2_tryDumb 21 = .ok (.iload_n 2, 1) := dk_28 (dk_at dksX2_tryDumb_0 21 rfl rfl)
theorem dX2_tryDumb_22 : decode cX2_tryDumb 22 = .ok (.ishl, 1) := dk_120 (dk_at dksX2_tryDumb_0 22 rfl rfl)
theorem dX2_tryDumb_23 : decode cX2_tryDumb 23 = .ok (.if_icmp .ge 162, 3) := dk_162 0 162 (dk_at dksX2_tryDumb_1 0 rfl rfl)
theorem dX2_tryDumb_26 : decode cX2_tryDumb 26 = .ok (.lconst 1, 1) := dk_10 (dk_at dksX2_tryDumb_1 3 rfl rfl)
theorem dX2_tryDumb_27 : decode cX2_tryDumb 27 = .ok (.lstore 5, 2) := dk_55 5 (dk_at dksX2_tryDumb_1 4 rfl rfl)
theorem dX2_tryDumb_29 : decode cX2_tryDumb 29 = .ok (.aload_n 0, 1) := dk_42 (dk_at dksX2_tryDumb_1 6 rfl rfl)
theorem dX2_tryDumb_30 : decode cX2_tryDumb 30 = .ok (.getfield 32, 3) := dk_180 0 32 (dk_at dksX2_tryDumb_1 7 rfl rfl)
theorem dX2_tryDumb_33 : decode cX2_tryDumb 33 = .ok (.iload_n 1, 1) := dk_27 (dk_at dksX2_tryDumb_1 10 rfl rfl)
theorem dX2_tryDumb_34 : decode cX2_tryDumb 34 = .ok (.iaload, 1) := dk_46 (dk_at dksX2_tryDumb_1 11 rfl rfl)
theorem dX2_tryDumb_35 : decode cX2_tryDumb 35 = .ok (.istore 7, 2) := dk_54 7 (dk_at dksX2_tryDumb_1 12 rfl rfl)
theorem dX2_tryDumb_37 : decode cX2_tryDumb 37 = .ok (.iconst 0, 1) := dk_3 (dk_at dksX2_tryDumb_1 14 rfl rfl)
theorem dX2_tryDumb_38 : decode cX2_tryDumb 38 = .ok (.istore 8, 2) := dk_54 8 (dk_at dksX2_tryDumb_1 15 rfl rfl)
theorem dX2_tryDumb_40 : decode cX2_tryDumb 40 = .ok (.iload 8, 2) := dk_21 8 (dk_at dksX2_tryDumb_1 17 rfl rfl)
theorem dX2_tryDumb_42 : decode cX2_tryDumb 42 = .ok (.iload_n 2, 1) := dk_28 (dk_at dksX2_tryDumb_1 19 rfl rfl)
theorem dX2_tryDumb_43 : decode cX2_tryDumb 43 = .ok (.if_icmp .ge 89, 3) := dk_162 0 89 (dk_at dksX2_tryDumb_1 20 rfl rfl)
theorem dX2_tryDumb_46 : decode cX2_tryDumb 46 = .ok (.lload 5, 2) := dk_22 5 (dk_at dksX2_tryDumb_2 0 rfl rfl)
theorem dX2_tryDumb_48 : decode cX2_tryDumb 48 = .ok (.iload 4, 2) := dk_21 4 (dk_at dksX2_tryDumb_2 2 rfl rfl)
theorem dX2_tryDumb_50 : decode cX2_tryDumb 50 = .ok (.iload 8, 2) := dk_21 8 (dk_at dksX2_tryDumb_2 4 rfl rfl)
theorem dX2_tryDumb_52 : decode cX2_tryDumb 52 = .ok (.invokestatic 306, 3) := dk_184 1 50 (dk_at dksX2_tryDumb_2 6 rfl rfl)
theorem dX2_tryDumb_55 : decode cX2_tryDumb 55 = .ok (.ifCond .eq 13, 3) := dk_153 0 13 (dk_at dksX2_tryDumb_2 9 rfl rfl)
theorem dX2_tryDumb_58 : decode cX2_tryDumb 58 = .ok (.aload_n 0, 1) := dk_42 (dk_at dksX2_tryDumb_2 12 rfl rfl)
theorem dX2_tryDumb_59 : decode cX2_tryDumb 59 = .ok (.getfield 20, 3) := dk_180 0 20 (dk_at dksX2_tryDumb_2 13 rfl rfl)
theorem dX2_tryDumb_62 : decode cX2_tryDumb 62 = .ok (.iconst 1, 1) := dk_4 (dk_at dksX2_tryDumb_2 16 rfl rfl)
theorem dX2_tryDumb_63 : decode cX2_tryDumb 63 = .ok (.iaload, 1) := dk_46 (dk_at dksX2_tryDumb_2 17 rfl rfl)
theorem dX2_tryDumb_64 : decode cX2_tryDumb 64 = .ok (.i2l, 1) := dk_133 (dk_at dksX2_tryDumb_2 18 rfl rfl)
theorem dX2_tryDumb_65 : decode cX2_tryDumb 65 = .ok (.goto 13, 3) := dk_167 0 13 (dk_at dksX2_tryDumb_2 19 rfl rfl)
theorem dX2_tryDumb_68 : decode cX2_tryDumb 68 = .ok (.bipush 100, 2) := dk_16 100 (dk_at dksX2_tryDumb_2 22 rfl rfl)
theorem dX2_tryDumb_70 : decode cX2_tryDumb 70 = .ok (.aload_n 0, 1) := dk_42 (dk_at dksX2_tryDumb_3 0 rfl rfl)
theorem dX2_tryDumb_71 : decode cX2_tryDumb 71 = .ok (.getfield 20, 3) := dk_180 0 20 (dk_at dksX2_tryDumb_3 1 rfl rfl)
theorem dX2_tryDumb_74 : decode cX2_tryDumb 74 = .ok (.iconst 1, 1) := dk_4 (dk_at dksX2_tryDumb_3 4 rfl rfl)
theorem dX2_tryDumb_75 : decode cX2_tryDumb 75 = .ok (.iaload, 1) := dk_46 (dk_at dksX2_tryDumb_3 5 rfl rfl)
theorem dX2_tryDumb_76 : decode cX2_tryDumb 76 = .ok (.isub, 1) := dk_100 (dk_at dksX2_tryDumb_3 6 rfl rfl)
theorem dX2_tryDumb_77 : decode cX2_tryDumb 77 = .ok (.i2l, 1) := dk_133 (dk_at dksX2_tryDumb_3 7 rfl rfl)
theorem dX2_tryDumb_78 : decode cX2_tryDumb 78 = .ok (.lmul, 1) := dk_105 (dk_at dksX2_tryDumb_3 8 rfl rfl)
theorem dX2_tryDumb_79 : decode cX2_tryDumb 79 = .ok (.lstore 5, 2) := dk_55 5 (dk_at dksX2_tryDumb_3 9 rfl rfl)
theorem dX2_tryDumb_81 : decode cX2_tryDumb 81 = .ok (.aload_n 0, 1) := dk_42 (dk_at dksX2_tryDumb_3 11 rfl rfl)
theorem dX2_tryDumb_82 : decode cX2_tryDumb 82 = .ok (.iload_n 1, 1) := dk_27 (dk_at dksX2_tryDumb_3 12 rfl rfl)
theorem dX2_tryDumb_83 : decode cX2_tryDumb 83 = .ok (.iload 7, 2) := dk_21 7 (dk_at dksX2_tryDumb_3 13 rfl rfl)
theorem dX2_tryDumb_85 : decode cX2_tryDumb 85 = .ok (.aload_n 0, 1) := dk_42 (dk_at dksX2_tryDumb_3 15 rfl rfl)
theorem dX2_tryDumb_86 : decode cX2_tryDumb 86 = .ok (.getfield 32, 3) := dk_180 0 32 (dk_at dksX2_tryDumb_3 16 rfl rfl)
theorem dX2_tryDumb_89 : decode cX2_tryDumb 89 = .ok (.iconst 5, 1) := dk_8 (dk_at dksX2_tryDumb_3 19 rfl rfl)
theorem dX2_tryDumb_90 : decode cX2_tryDumb 90 = .ok (.iload_n 1, 1) := dk_27 (dk_at dksX2_tryDumb_3 20 rfl rfl)
theorem dX2_tryDumb_91 : decode cX2_tryDumb 91 = .ok (.iadd, 1) := dk_96 (dk_at dksX2_tryDumb_3 21 rfl rfl)
theorem dX2_tryDumb_92 : decode cX2_tryDumb 92 = .ok (.iaload, 1) := dk_46 (dk_at dksX2_tryDumb_3 22 rfl rfl)
theorem dX2_tryDumb_93 : decode cX2_tryDumb 93 = .ok (.aload_n 0, 1) := dk_42 (dk_at dksX2_tryDumb_3 23 rfl rfl)
theorem dX2_tryDumb_94 : decode cX2_tryDumb 94 = .ok (.getfield 20, 3) := dk_180 0 20 (dk_at dksX2_tryDumb_4 0 rfl rfl)
theorem dX2_tryDumb_97 : decode cX2_tryDumb 97 = .ok (.bipush 13, 2) := dk_16 13 (dk_at dksX2_tryDumb_4 3 rfl rfl)
theorem dX2_tryDumb_99 : decode cX2_tryDumb 99 = .ok (.iload_n 1, 1) := dk_27 (dk_at dksX2_tryDumb_4 5 rfl rfl)
theorem dX2_tryDumb_100 : decode cX2_tryDumb 100 = .ok (.iadd, 1) := dk_96 (dk_at dksX2_tryDumb_4 6 rfl rfl)
theorem dX2_tryDumb_101 : decode cX2_tryDumb 101 = .ok (.iaload, 1) := dk_46 (dk_at dksX2_tryDumb_4 7 rfl rfl)
theorem dX2_tryDumb_102 : decode cX2_tryDumb 102 = .ok (.aload_n 0, 1) := dk_42 (dk_at dksX2_tryDumb_4 8 rfl rfl)
theorem dX2_tryDumb_103 : decode cX2_tryDumb 103 = .ok (.getfield 32, 3) := dk_180 0 32 (dk_at dksX2_tryDumb_4 9 rfl rfl)
theorem dX2_tryDumb_106 : decode cX2_tryDumb 106 = .ok (.bipush 35, 2) := dk_16 35 (dk_at dksX2_tryDumb_4 12 rfl rfl)
theorem dX2_tryDumb_108 : decode cX2_tryDumb 108 = .ok (.iaload, 1) := dk_46 (dk_at dksX2_tryDumb_4 14 rfl rfl)
theorem dX2_tryDumb_109 : decode cX2_tryDumb 109 = .ok (.iload 8, 2) := dk_21 8 (dk_at dksX2_tryDumb_4 15 rfl rfl)
theorem dX2_tryDumb_111 : decode cX2_tryDumb 111 = .ok (.iadd, 1) := dk_96 (dk_at dksX2_tryDumb_4 17 rfl rfl)
theorem dX2_tryDumb_112 : decode cX2_tryDumb 112 = .ok (.iconst 1, 1) := dk_4 (dk_at dksX2_tryDumb_4 18 rfl rfl)
theorem dX2_tryDumb_113 : decode cX2_tryDumb 113 = .ok (.iadd, 1) := dk_96 (dk_at dksX2_tryDumb_4 19 rfl rfl)
theorem dX2_tryDumb_114 : decode cX2_tryDumb 114 = .ok (.iload 4, 2) := dk_21 4 (dk_at dksX2_tryDumb_4 20 rfl rfl)
theorem dX2_tryDumb_116 : decode cX2_tryDumb 116 = .ok (.iload 8, 2) := dk_21 8 (dk_at dksX2_tryDumb_4 22 rfl rfl)
theorem dX2_tryDumb_118 : decode cX2_tryDumb 118 = .ok (.invokestatic 306, 3) := dk_184 1 50 (dk_at dksX2_tryDumb_5 0 rfl rfl)
theorem dX2_tryDumb_121 : decode cX2_tryDumb 121 = .ok (.invokevirtual 249, 3) := dk_182 0 249 (dk_at dksX2_tryDumb_5 3 rfl rfl)
theorem dX2_tryDumb_124 : decode cX2_tryDumb 124 = .ok (.istore 7, 2) := dk_54 7 (dk_at dksX2_tryDumb_5 6 rfl rfl)
theorem dX2_tryDumb_126 : decode cX2_tryDumb 126 = .ok (.iinc 8 1, 3) := dk_132 8 1 (dk_at dksX2_tryDumb_5 8 rfl rfl)
theorem dX2_tryDumb_129 : decode cX2_tryDumb 129 = .ok (.goto (-89), 3) := dk_167 255 167 (dk_at dksX2_tryDumb_5 11 rfl rfl)
theorem dX2_tryDumb_132 : decode cX2_tryDumb 132 = .ok (.aload_n 0, 1) := dk_42 (dk_at dksX2_tryDumb_5 14 rfl rfl)
theorem dX2_tryDumb_133 : decode cX2_tryDumb 133 = .ok (.dup, 1) := dk_89 (dk_at dksX2_tryDumb_5 15 rfl rfl)
theorem dX2_tryDumb_134 : decode cX2_tryDumb 134 = .ok (.getfield 385, 3) := dk_180 1 129 (dk_at dksX2_tryDumb_5 16 rfl rfl)
theorem dX2_tryDumb_137 : decode cX2_tryDumb 137 = .ok (.lload 5, 2) := dk_22 5 (dk_at dksX2_tryDumb_5 19 rfl rfl)
theorem dX2_tryDumb_139 : decode cX2_tryDumb 139 = .ok (.ladd, 1) := dk_97 (dk_at dksX2_tryDumb_5 21 rfl rfl)
theorem dX2_tryDumb_140 : decode cX2_tryDumb 140 = .ok (.putfield 385, 3) := dk_181 1 129 (dk_at dksX2_tryDumb_6 0 rfl rfl)
theorem dX2_tryDumb_143 : decode cX2_tryDumb 143 = .ok (.aload_n 0, 1) := dk_42 (dk_at dksX2_tryDumb_6 3 rfl rfl)
theorem dX2_tryDumb_144 : decode cX2_tryDumb 144 = .ok (.dup, 1) := dk_89 (dk_at dksX2_tryDumb_6 4 rfl rfl)
theorem dX2_tryDumb_145 : decode cX2_tryDumb 145 = .ok (.getfield 389, 3) := dk_180 1 133 (dk_at dksX2_tryDumb_6 5 rfl rfl)
theorem dX2_tryDumb_148 : decode cX2_tryDumb 148 = .ok (.iload 7, 2) := dk_21 7 (dk_at dksX2_tryDumb_6 8 rfl rfl)
theorem dX2_tryDumb_150 : decode cX2_tryDumb 150 = .ok (.iload_n 3, 1) := dk_29 (dk_at dksX2_tryDumb_6 10 rfl rfl)
theorem dX2_tryDumb_151 : decode cX2_tryDumb 151 = .ok (.if_icmp .lt 8, 3) := dk_161 0 8 (dk_at dksX2_tryDumb_6 11 rfl rfl)
theorem dX2_tryDumb_154 : decode cX2_tryDumb 154 = .ok (.lload 5, 2) := dk_22 5 (dk_at dksX2_tryDumb_6 14 rfl rfl)
theorem dX2_tryDumb_156 : decode cX2_tryDumb 156 = .ok (.goto 4, 3) := dk_167 0 4 (dk_at dksX2_tryDumb_6 16 rfl rfl)
theorem dX2_tryDumb_159 : decode cX2_tryDumb 159 = .ok (.lconst 0, 1) := dk_9 (dk_at dksX2_tryDumb_6 19 rfl rfl)
theorem dX2_tryDumb_160 : decode cX2_tryDumb 160 = .ok (.ladd, 1) := dk_97 (dk_at dksX2_tryDumb_6 20 rfl rfl)
theorem dX2_tryDumb_161 : decode cX2_tryDumb 161 = .ok (.putfield 389, 3) := dk_181 1 133 (dk_at dksX2_tryDumb_6 21 rfl rfl)
theorem dX2_tryDumb_164 : decode cX2_tryDumb 164 = .ok (.aload_n 0, 1) := dk_42 (dk_at dksX2_tryDumb_7 0 rfl rfl)
theorem dX2_tryDumb_165 : decode cX2_tryDumb 165 = .ok (.dup, 1) := dk_89 (dk_at dksX2_tryDumb_7 1 rfl rfl)
theorem dX2_tryDumb_166 : decode cX2_tryDumb 166 = .ok (.getfield 392, 3) := dk_180 1 136 (dk_at dksX2_tryDumb_7 2 rfl rfl)
theorem dX2_tryDumb_169 : decode cX2_tryDumb 169 = .ok (.lload 5, 2) := dk_22 5 (dk_at dksX2_tryDumb_7 5 rfl rfl)
theorem dX2_tryDumb_171 : decode cX2_tryDumb 171 = .ok (.iload 7, 2) := dk_21 7 (dk_at dksX2_tryDumb_7 7 rfl rfl)
theorem dX2_tryDumb_173 : decode cX2_tryDumb 173 = .ok (.i2l, 1) := dk_133 (dk_at dksX2_tryDumb_7 9 rfl rfl)
theorem dX2_tryDumb_174 : decode cX2_tryDumb 174 = .ok (.lmul, 1) := dk_105 (dk_at dksX2_tryDumb_7 10 rfl rfl)
theorem dX2_tryDumb_175 : decode cX2_tryDumb 175 = .ok (.ladd, 1) := dk_97 (dk_at dksX2_tryDumb_7 11 rfl rfl)
theorem dX2_tryDumb_176 : decode cX2_tryDumb 176 = .ok (.putfield 392, 3) := dk_181 1 136 (dk_at dksX2_tryDumb_7 12 rfl rfl)
theorem dX2_tryDumb_179 : decode cX2_tryDumb 179 = .ok (.iinc 4 1, 3) := dk_132 4 1 (dk_at dksX2_tryDumb_7 15 rfl rfl)
theorem dX2_tryDumb_182 : decode cX2_tryDumb 182 = .ok (.goto (-164), 3) := dk_167 255 92 (dk_at dksX2_tryDumb_7 18 rfl rfl)
theorem dX2_tryDumb_185 : decode cX2_tryDumb 185 = .ok (.return_, 1) := dk_177 (dk_at dksX2_tryDumb_7 21 rfl rfl)
abbrev cX2_mean : ByteArray := prog_16_method_115_code
def yX2_mean : MethodName := ⟨RX2, "mean", "(IIZ)J"⟩
def dkwX2_mean_2 : List UInt8 := [180, 1, 129, 29, 184, 1, 119, 173]
abbrev dktX2_mean_2 : List UInt8 := dkwX2_mean_2 ++ []
def dkwX2_mean_1 : List UInt8 := [153, 0, 11, 42, 21, 4, 182, 0, 167, 133, 173, 42, 27, 28, 3, 182, 1, 139, 42, 180, 1, 136, 42]
abbrev dktX2_mean_1 : List UInt8 := dkwX2_mean_1 ++ dktX2_mean_2
def dkwX2_mean_0 : List UInt8 := [42, 182, 0, 164, 42, 42, 27, 182, 0, 239, 28, 3, 8, 184, 0, 146, 182, 1, 19, 54, 4, 21, 4]
abbrev dktX2_mean_0 : List UInt8 := dkwX2_mean_0 ++ dktX2_mean_1
theorem dksX2_mean_0 : cX2_mean.data.toList.drop 0 = dktX2_mean_0 := by decide +kernel
theorem dksX2_mean_1 : cX2_mean.data.toList.drop 23 = dktX2_mean_1 := dk_seg dksX2_mean_0 23 rfl rfl
theorem dksX2_mean_2 : cX2_mean.data.toList.drop 46 = dktX2_mean_2 := dk_seg dksX2_mean_1 23 rfl rfl
theorem dX2_mean_0 : decode cX2_mean 0 = .ok (.aload_n 0, 1) := dk_42 (dk_at dksX2_mean_0 0 rfl rfl)
theorem dX2_mean_1 : decode cX2_mean 1 = .ok (.invokevirtual 164, 3) := dk_182 0 164 (dk_at dksX2_mean_0 1 rfl rfl)
theorem dX2_mean_4 : decode cX2_mean 4 = .ok (.aload_n 0, 1) := dk_42 (dk_at dksX2_mean_0 4 rfl rfl)
theorem dX2_mean_5 : decode cX2_mean 5 = .ok (.aload_n 0, 1) := dk_42 (dk_at dksX2_mean_0 5 rfl rfl)
theorem dX2_mean_6 : decode cX2_mean 6 = .ok (.iload_n 1, 1) := dk_27 (dk_at dksX2_mean_0 6 rfl rfl)
theorem dX2_mean_7 : decode cX2_mean 7 = .ok (.invokevirtual 239, 3) := dk_182 0 239 (dk_at dksX2_mean_0 7 rfl rfl)
theorem dX2_mean_10 : decode cX2_mean 10 = .ok (.iload_n 2, 1) := dk_28 (dk_at dksX2_mean_0 10 rfl rfl)
theorem dX2_mean_11 : decode cX2_mean 11 = .ok (.iconst 0, 1) := dk_3 (dk_at dksX2_mean_0 11 rfl rfl)
theorem dX2_mean_12 : decode cX2_mean 12 = .ok (.iconst 5, 1) := dk_8 (dk_at dksX2_mean_0 12 rfl rfl)
theorem dX2_mean_13 : decode cX2_mean 13 = .ok (.invokestatic 146, 3) := dk_184 0 146 (dk_at dksX2_mean_0 13 rfl rfl)
theorem dX2_mean_16 : decode cX2_mean 16 = .ok (.invokevirtual 275, 3) := dk_182 1 19 (dk_at dksX2_mean_0 16 rfl rfl)
theorem dX2_mean_19 : decode cX2_mean 19 = .ok (.istore 4, 2) := dk_54 4 (dk_at dksX2_mean_0 19 rfl rfl)
theorem dX2_mean_21 : decode cX2_mean 21 = .ok (.iload 4, 2) := dk_21 4 (dk_at dksX2_mean_0 21 rfl rfl)
theorem dX2_mean_23 : decode cX2_mean 23 = .ok (.ifCond .eq 11, 3) := dk_153 0 11 (dk_at dksX2_mean_1 0 rfl rfl)
theorem dX2_mean_26 : decode cX2_mean 26 = .ok (.aload_n 0, 1) := dk_42 (dk_at dksX2_mean_1 3 rfl rfl)
theorem dX2_mean_27 : decode cX2_mean 27 = .ok (.iload 4, 2) := dk_21 4 (dk_at dksX2_mean_1 4 rfl rfl)
theorem dX2_mean_29 : decode cX2_mean 29 = .ok (.invokevirtual 167, 3) := dk_182 0 167 (dk_at dksX2_mean_1 6 rfl rfl)
theorem dX2_mean_32 : decode cX2_mean 32 = .ok (.i2l, 1) := dk_133 (dk_at dksX2_mean_1 9 rfl rfl)
theorem dX2_mean_33 : decode cX2_mean 33 = .ok (.lreturn, 1) := dk_173 (dk_at dksX2_mean_1 10 rfl rfl)
theorem dX2_mean_34 : decode cX2_mean 34 = .ok (.aload_n 0, 1) := dk_42 (dk_at dksX2_mean_1 11 rfl rfl)
theorem dX2_mean_35 : decode cX2_mean 35 = .ok (.iload_n 1, 1) := dk_27 (dk_at dksX2_mean_1 12 rfl rfl)
theorem dX2_mean_36 : decode cX2_mean 36 = .ok (.iload_n 2, 1) := dk_28 (dk_at dksX2_mean_1 13 rfl rfl)
theorem dX2_mean_37 : decode cX2_mean 37 = .ok (.iconst 0, 1) := dk_3 (dk_at dksX2_mean_1 14 rfl rfl)
theorem dX2_mean_38 : decode cX2_mean 38 = .ok (.invokevirtual 395, 3) := dk_182 1 139 (dk_at dksX2_mean_1 15 rfl rfl)
theorem dX2_mean_41 : decode cX2_mean 41 = .ok (.aload_n 0, 1) := dk_42 (dk_at dksX2_mean_1 18 rfl rfl)
theorem dX2_mean_42 : decode cX2_mean 42 = .ok (.getfield 392, 3) := dk_180 1 136 (dk_at dksX2_mean_1 19 rfl rfl)
theorem dX2_mean_45 : decode cX2_mean 45 = .ok (.aload_n 0, 1) := dk_42 (dk_at dksX2_mean_1 22 rfl rfl)
theorem dX2_mean_46 : decode cX2_mean 46 = .ok (.getfield 385, 3) := dk_180 1 129 (dk_at dksX2_mean_2 0 rfl rfl)
theorem dX2_mean_49 : decode cX2_mean 49 = .ok (.iload_n 3, 1) := dk_29 (dk_at dksX2_mean_2 3 rfl rfl)
theorem dX2_mean_50 : decode cX2_mean 50 = .ok (.invokestatic 375, 3) := dk_184 1 119 (dk_at dksX2_mean_2 4 rfl rfl)
theorem dX2_mean_53 : decode cX2_mean 53 = .ok (.lreturn, 1) := dk_173 (dk_at dksX2_mean_2 7 rfl rfl)
abbrev cX2_drawn : ByteArray := prog_16_method_116_code
def yX2_drawn : MethodName := ⟨RX2, "drawn", "(III)I"⟩
def dkwX2_drawn_6 : List UInt8 := [182, 0, 249, 54, 6, 132, 7, 1, 167, 255, 178, 21, 6, 172]
abbrev dktX2_drawn_6 : List UInt8 := dkwX2_drawn_6 ++ []
def dkwX2_drawn_5 : List UInt8 := [21, 7, 96, 21, 5, 16, 100, 112, 42, 180, 0, 20, 4, 46, 162, 0, 7, 4, 167, 0, 4, 3]
abbrev dktX2_drawn_5 : List UInt8 := dkwX2_drawn_5 ++ dktX2_drawn_6
def dkwX2_drawn_4 : List UInt8 := [180, 0, 32, 8, 27, 96, 46, 42, 180, 0, 20, 16, 13, 27, 96, 46, 42, 180, 0, 32, 16, 35, 46]
abbrev dktX2_drawn_4 : List UInt8 := dkwX2_drawn_4 ++ dktX2_drawn_5
def dkwX2_drawn_3 : List UInt8 := [163, 0, 78, 16, 75, 21, 5, 104, 16, 74, 96, 19, 1, 124, 112, 54, 5, 42, 27, 21, 6, 42]
abbrev dktX2_drawn_3 : List UInt8 := dkwX2_drawn_3 ++ dktX2_drawn_4
def dkwX2_drawn_2 : List UInt8 := [21, 4, 182, 0, 167, 172, 28, 54, 5, 42, 180, 0, 32, 27, 46, 54, 6, 4, 54, 7, 21, 7, 29]
abbrev dktX2_drawn_2 : List UInt8 := dkwX2_drawn_2 ++ dktX2_drawn_3
def dkwX2_drawn_1 : List UInt8 := [16, 60, 184, 0, 146, 153, 0, 7, 4, 167, 0, 4, 3, 182, 1, 19, 54, 4, 21, 4, 153, 0, 10, 42]
abbrev dktX2_drawn_1 : List UInt8 := dkwX2_drawn_1 ++ dktX2_drawn_2
def dkwX2_drawn_0 : List UInt8 := [42, 182, 0, 164, 42, 42, 27, 182, 0, 239, 28, 3, 19, 1, 123, 184, 0, 146, 153, 0, 17, 29, 3]
abbrev dktX2_drawn_0 : List UInt8 := dkwX2_drawn_0 ++ dktX2_drawn_1
theorem dksX2_drawn_0 : cX2_drawn.data.toList.drop 0 = dktX2_drawn_0 := by decide +kernel
theorem dksX2_drawn_1 : cX2_drawn.data.toList.drop 23 = dktX2_drawn_1 := dk_seg dksX2_drawn_0 23 rfl rfl
theorem dksX2_drawn_2 : cX2_drawn.data.toList.drop 47 = dktX2_drawn_2 := dk_seg dksX2_drawn_1 24 rfl rfl
theorem dksX2_drawn_3 : cX2_drawn.data.toList.drop 70 = dktX2_drawn_3 := dk_seg dksX2_drawn_2 23 rfl rfl
theorem dksX2_drawn_4 : cX2_drawn.data.toList.drop 92 = dktX2_drawn_4 := dk_seg dksX2_drawn_3 22 rfl rfl
theorem dksX2_drawn_5 : cX2_drawn.data.toList.drop 115 = dktX2_drawn_5 := dk_seg dksX2_drawn_4 23 rfl rfl
theorem dksX2_drawn_6 : cX2_drawn.data.toList.drop 137 = dktX2_drawn_6 := dk_seg dksX2_drawn_5 22 rfl rfl
theorem dX2_drawn_0 : decode cX2_drawn 0 = .ok (.aload_n 0, 1) := dk_42 (dk_at dksX2_drawn_0 0 rfl rfl)
theorem dX2_drawn_1 : decode cX2_drawn 1 = .ok (.invokevirtual 164, 3) := dk_182 0 164 (dk_at dksX2_drawn_0 1 rfl rfl)
theorem dX2_drawn_4 : decode cX2_drawn 4 = .ok (.aload_n 0, 1) := dk_42 (dk_at dksX2_drawn_0 4 rfl rfl)
theorem dX2_drawn_5 : decode cX2_drawn 5 = .ok (.aload_n 0, 1) := dk_42 (dk_at dksX2_drawn_0 5 rfl rfl)
theorem dX2_drawn_6 : decode cX2_drawn 6 = .ok (.iload_n 1, 1) := dk_27 (dk_at dksX2_drawn_0 6 rfl rfl)
theorem dX2_drawn_7 : decode cX2_drawn 7 = .ok (.invokevirtual 239, 3) := dk_182 0 239 (dk_at dksX2_drawn_0 7 rfl rfl)
theorem dX2_drawn_10 : decode cX2_drawn 10 = .ok (.iload_n 2, 1) := dk_28 (dk_at dksX2_drawn_0 10 rfl rfl)
theorem dX2_drawn_11 : decode cX2_drawn 11 = .ok (.iconst 0, 1) := dk_3 (dk_at dksX2_drawn_0 11 rfl rfl)
theorem dX2_drawn_12 : decode cX2_drawn 12 = .ok (.ldc_w 379, 3) := dk_19 1 123 (dk_at dksX2_drawn_0 12 rfl rfl)
theorem dX2_drawn_15 : decode cX2_drawn 15 = .ok (.invokestatic 146, 3) := dk_184 0 146 (dk_at dksX2_drawn_0 15 rfl rfl)
theorem dX2_drawn_18 : decode cX2_drawn 18 = .ok (.ifCond .eq 17, 3) := dk_153 0 17 (dk_at dksX2_drawn_0 18 rfl rfl)
theorem dX2_drawn_21 : decode cX2_drawn 21 = .ok (.iload_n 3, 1) := dk_29 (dk_at dksX2_drawn_0 21 rfl rfl)
theorem dX2_drawn_22 : decode cX2_drawn 22 = .ok (.iconst 0, 1) := dk_3 (dk_at dksX2_drawn_0 22 rfl rfl)
theorem dX2_drawn_23 : decode cX2_drawn 23 = .ok (.bipush 60, 2) := dk_16 60 (dk_at dksX2_drawn_1 0 rfl rfl)
theorem dX2_drawn_25 : decode cX2_drawn 25 = .ok (.invokestatic 146, 3) := dk_184 0 146 (dk_at dksX2_drawn_1 2 rfl rfl)
theorem dX2_drawn_28 : decode cX2_drawn 28 = .ok (.ifCond .eq 7, 3) := dk_153 0 7 (dk_at dksX2_drawn_1 5 rfl rfl)
theorem dX2_drawn_31 : decode cX2_drawn 31 = .ok (.iconst 1, 1) := dk_4 (dk_at dksX2_drawn_1 8 rfl rfl)
theorem dX2_drawn_32 : decode cX2_drawn 32 = .ok (.goto 4, 3) := dk_167 0 4 (dk_at dksX2_drawn_1 9 rfl rfl)
theorem dX2_drawn_35 : decode cX2_drawn 35 = .ok (.iconst 0, 1) := dk_3 (dk_at dksX2_drawn_1 12 rfl rfl)
theorem dX2_drawn_36 : decode cX2_drawn 36 = .ok (.invokevirtual 275, 3) := dk_182 1 19 (dk_at dksX2_drawn_1 13 rfl rfl)
theorem dX2_drawn_39 : decode cX2_drawn 39 = .ok (.istore 4, 2) := dk_54 4 (dk_at dksX2_drawn_1 16 rfl rfl)
theorem dX2_drawn_41 : decode cX2_drawn 41 = .ok (.iload 4, 2) := dk_21 4 (dk_at dksX2_drawn_1 18 rfl rfl)
theorem dX2_drawn_43 : decode cX2_drawn 43 = .ok (.ifCond .eq 10, 3) := dk_153 0 10 (dk_at dksX2_drawn_1 20 rfl rfl)
theorem dX2_drawn_46 : decode cX2_drawn 46 = .ok (.aload_n 0, 1) := dk_42 (dk_at dksX2_drawn_1 23 rfl rfl)
theorem dX2_drawn_47 : decode cX2_drawn 47 = .ok (.iload 4, 2) := dk_21 4 (dk_at dksX2_drawn_2 0 rfl rfl)
theorem dX2_drawn_49 : decode cX2_drawn 49 = .ok (.invokevirtual 167, 3) := dk_182 0 167 (dk_at dksX2_drawn_2 2 rfl rfl)
theorem dX2_drawn_52 : decode cX2_drawn 52 = .ok (.ireturn, 1) := dk_172 (dk_at dksX2_drawn_2 5 rfl rfl)
theorem dX2_drawn_53 : decode cX2_drawn 53 = .ok (.iload_n 2, 1) := dk_28 (dk_at dksX2_drawn_2 6 rfl rfl)
theorem dX2_drawn_54 : decode cX2_drawn 54 = .ok (.istore 5, 2) := dk_54 5 (dk_at dksX2_drawn_2 7 rfl rfl)
theorem dX2_drawn_56 : decode cX2_drawn 56 = .ok (.aload_n 0, 1) := dk_42 (dk_at dksX2_drawn_2 9 rfl rfl)
theorem dX2_drawn_57 : decode cX2_drawn 57 = .ok (.getfield 32, 3) := dk_180 0 32 (dk_at dksX2_drawn_2 10 rfl rfl)
theorem dX2_drawn_60 : decode cX2_drawn 60 = .ok (.iload_n 1, 1) := dk_27 (dk_at dksX2_drawn_2 13 rfl rfl)
theorem dX2_drawn_61 : decode cX2_drawn 61 = .ok (.iaload, 1) := dk_46 (dk_at dksX2_drawn_2 14 rfl rfl)
theorem dX2_drawn_62 : decode cX2_drawn 62 = .ok (.istore 6, 2) := dk_54 6 (dk_at dksX2_drawn_2 15 rfl rfl)
theorem dX2_drawn_64 : decode cX2_drawn 64 = .ok (.iconst 1, 1) := dk_4 (dk_at dksX2_drawn_2 17 rfl rfl)
theorem dX2_drawn_65 : decode cX2_drawn 65 = .ok (.istore 7, 2) := dk_54 7 (dk_at dksX2_drawn_2 18 rfl rfl)
theorem dX2_drawn_67 : decode cX2_drawn 67 = .ok (.iload 7, 2) := dk_21 7 (dk_at dksX2_drawn_2 20 rfl rfl)
theorem dX2_drawn_69 : decode cX2_drawn 69 = .ok (.iload_n 3, 1) := dk_29 (dk_at dksX2_drawn_2 22 rfl rfl)
theorem dX2_drawn_70 : decode cX2_drawn 70 = .ok (.if_icmp .gt 78, 3) := dk_163 0 78 (dk_at dksX2_drawn_3 0 rfl rfl)
theorem dX2_drawn_73 : decode cX2_drawn 73 = .ok (.bipush 75, 2) := dk_16 75 (dk_at dksX2_drawn_3 3 rfl rfl)
theorem dX2_drawn_75 : decode cX2_drawn 75 = .ok (.iload 5, 2) := dk_21 5 (dk_at dksX2_drawn_3 5 rfl rfl)
theorem dX2_drawn_77 : decode cX2_drawn 77 = .ok (.imul, 1) := dk_104 (dk_at dksX2_drawn_3 7 rfl rfl)
theorem dX2_drawn_78 : decode cX2_drawn 78 = .ok (.bipush 74, 2) := dk_16 74 (dk_at dksX2_drawn_3 8 rfl rfl)
theorem dX2_drawn_80 : decode cX2_drawn 80 = .ok (.iadd, 1) := dk_96 (dk_at dksX2_drawn_3 10 rfl rfl)
theorem dX2_drawn_81 : decode cX2_drawn 81 = .ok (.ldc_w 380, 3) := dk_19 1 124 (dk_at dksX2_drawn_3 11 rfl rfl)
theorem dX2_drawn_84 : decode cX2_drawn 84 = .ok (.irem, 1) := dk_112 (dk_at dksX2_drawn_3 14 rfl rfl)
theorem dX2_drawn_85 : decode cX2_drawn 85 = .ok (.istore 5, 2) := dk_54 5 (dk_at dksX2_drawn_3 15 rfl rfl)
theorem dX2_drawn_87 : decode cX2_drawn 87 = .ok (.aload_n 0, 1) := dk_42 (dk_at dksX2_drawn_3 17 rfl rfl)
theorem dX2_drawn_88 : decode cX2_drawn 88 = .ok (.iload_n 1, 1) := dk_27 (dk_at dksX2_drawn_3 18 rfl rfl)
theorem dX2_drawn_89 : decode cX2_drawn 89 = .ok (.iload 6, 2) := dk_21 6 (dk_at dksX2_drawn_3 19 rfl rfl)
theorem dX2_drawn_91 : decode cX2_drawn 91 = .ok (.aload_n 0, 1) := dk_42 (dk_at dksX2_drawn_3 21 rfl rfl)
theorem dX2_drawn_92 : decode cX2_drawn 92 = .ok (.getfield 32, 3) := dk_180 0 32 (dk_at dksX2_drawn_4 0 rfl rfl)
theorem dX2_drawn_95 : decode cX2_drawn 95 = .ok (.iconst 5, 1) := dk_8 (dk_at dksX2_drawn_4 3 rfl rfl)
theorem dX2_drawn_96 : decode cX2_drawn 96 = .ok (.iload_n 1, 1) := dk_27 (dk_at dksX2_drawn_4 4 rfl rfl)
theorem dX2_drawn_97 : decode cX2_drawn 97 = .ok (.iadd, 1) := dk_96 (dk_at dksX2_drawn_4 5 rfl rfl)
theorem dX2_drawn_98 : decode cX2_drawn 98 = .ok (.iaload, 1) := dk_46 (dk_at dksX2_drawn_4 6 rfl rfl)
theorem dX2_drawn_99 : decode cX2_drawn 99 = .ok (.aload_n 0, 1) := dk_42 (dk_at dksX2_drawn_4 7 rfl rfl)
theorem dX2_drawn_100 : decode cX2_drawn 100 = .ok (.getfield 20, 3) := dk_180 0 20 (dk_at dksX2_drawn_4 8 rfl rfl)
theorem dX2_drawn_103 : decode cX2_drawn 103 = .ok (.bipush 13, 2) := dk_16 13 (dk_at dksX2_drawn_4 11 rfl rfl)
theorem dX2_drawn_105 : decode cX2_drawn 105 = .ok (.iload_n 1, 1) := dk_27 (dk_at dksX2_drawn_4 13 rfl rfl)
theorem dX2_drawn_106 : decode cX2_drawn 106 = .ok (.iadd, 1) := dk_96 (dk_at dksX2_drawn_4 14 rfl rfl)
theorem dX2_drawn_107 : decode cX2_drawn 107 = .ok (.iaload, 1) := dk_46 (dk_at dksX2_drawn_4 15 rfl rfl)
theorem dX2_drawn_108 : decode cX2_drawn 108 = .ok (.aload_n 0, 1) := dk_42 (dk_at dksX2_drawn_4 16 rfl rfl)
theorem dX2_drawn_109 : decode cX2_drawn 109 = .ok (.getfield 32, 3) := dk_180 0 32 (dk_at dksX2_drawn_4 17 rfl rfl)
theorem dX2_drawn_112 : decode cX2_drawn 112 = .ok (.bipush 35, 2) := dk_16 35 (dk_at dksX2_drawn_4 20 rfl rfl)
theorem dX2_drawn_114 : decode cX2_drawn 114 = .ok (.iaload, 1) := dk_46 (dk_at dksX2_drawn_4 22 rfl rfl)
theorem dX2_drawn_115 : decode cX2_drawn 115 = .ok (.iload 7, 2) := dk_21 7 (dk_at dksX2_drawn_5 0 rfl rfl)
theorem dX2_drawn_117 : decode cX2_drawn 117 = .ok (.iadd, 1) := dk_96 (dk_at dksX2_drawn_5 2 rfl rfl)
theorem dX2_drawn_118 : decode cX2_drawn 118 = .ok (.iload 5, 2) := dk_21 5 (dk_at dksX2_drawn_5 3 rfl rfl)
theorem dX2_drawn_120 : decode cX2_drawn 120 = .ok (.bipush 100, 2) := dk_16 100 (dk_at dksX2_drawn_5 5 rfl rfl)
theorem dX2_drawn_122 : decode cX2_drawn 122 = .ok (.irem, 1) := dk_112 (dk_at dksX2_drawn_5 7 rfl rfl)
theorem dX2_drawn_123 : decode cX2_drawn 123 = .ok (.aload_n 0, 1) := dk_42 (dk_at dksX2_drawn_5 8 rfl rfl)
theorem dX2_drawn_124 : decode cX2_drawn 124 = .ok (.getfield 20, 3) := dk_180 0 20 (dk_at dksX2_drawn_5 9 rfl rfl)
theorem dX2_drawn_127 : decode cX2_drawn 127 = .ok (.iconst 1, 1) := dk_4 (dk_at dksX2_drawn_5 12 rfl rfl)
theorem dX2_drawn_128 : decode cX2_drawn 128 = .ok (.iaload, 1) := dk_46 (dk_at dksX2_drawn_5 13 rfl rfl)
theorem dX2_drawn_129 : decode cX2_drawn 129 = .ok (.if_icmp .ge 7, 3) := dk_162 0 7 (dk_at dksX2_drawn_5 14 rfl rfl)
theorem dX2_drawn_132 : decode cX2_drawn 132 = .ok (.iconst 1, 1) := dk_4 (dk_at dksX2_drawn_5 17 rfl rfl)
theorem dX2_drawn_133 : decode cX2_drawn 133 = .ok (.goto 4, 3) := dk_167 0 4 (dk_at dksX2_drawn_5 18 rfl rfl)
theorem dX2_drawn_136 : decode cX2_drawn 136 = .ok (.iconst 0, 1) := dk_3 (dk_at dksX2_drawn_5 21 rfl rfl)
theorem dX2_drawn_137 : decode cX2_drawn 137 = .ok (.invokevirtual 249, 3) := dk_182 0 249 (dk_at dksX2_drawn_6 0 rfl rfl)
theorem dX2_drawn_140 : decode cX2_drawn 140 = .ok (.istore 6, 2) := dk_54 6 (dk_at dksX2_drawn_6 3 rfl rfl)
theorem dX2_drawn_142 : decode cX2_drawn 142 = .ok (.iinc 7 1, 3) := dk_132 7 1 (dk_at dksX2_drawn_6 5 rfl rfl)
theorem dX2_drawn_145 : decode cX2_drawn 145 = .ok (.goto (-78), 3) := dk_167 255 178 (dk_at dksX2_drawn_6 8 rfl rfl)
theorem dX2_drawn_148 : decode cX2_drawn 148 = .ok (.iload 6, 2) := dk_21 6 (dk_at dksX2_drawn_6 11 rfl rfl)
theorem dX2_drawn_150 : decode cX2_drawn 150 = .ok (.ireturn, 1) := dk_172 (dk_at dksX2_drawn_6 13 rfl rfl)
abbrev cX2_season : ByteArray := prog_16_method_118_code
def yX2_season : MethodName := ⟨RX2, "season", "()I"⟩
def dkwX2_season_4 : List UInt8 := [180, 0, 32, 16, 35, 46, 3, 182, 0, 249, 79, 132, 1, 1, 167, 255, 201, 42, 3, 182, 1, 41, 172]
abbrev dktX2_season_4 : List UInt8 := dkwX2_season_4 ++ []
def dkwX2_season_3 : List UInt8 := [180, 0, 32, 27, 46, 42, 180, 0, 32, 8, 27, 96, 46, 42, 180, 0, 20, 16, 13, 27, 96, 46, 42]
abbrev dktX2_season_3 : List UInt8 := dkwX2_season_3 ++ dktX2_season_4
def dkwX2_season_2 : List UInt8 := [4, 96, 79, 3, 60, 27, 42, 180, 0, 20, 5, 46, 162, 0, 51, 42, 180, 0, 32, 27, 42, 27, 42]
abbrev dktX2_season_2 : List UInt8 := dkwX2_season_2 ++ dktX2_season_3
def dkwX2_season_1 : List UInt8 := [17, 3, 231, 160, 0, 9, 42, 6, 182, 0, 167, 172, 42, 182, 1, 143, 42, 180, 0, 32, 16, 35, 92, 46]
abbrev dktX2_season_1 : List UInt8 := dkwX2_season_1 ++ dktX2_season_2
def dkwX2_season_0 : List UInt8 := [42, 182, 0, 164, 42, 180, 0, 177, 154, 0, 9, 42, 4, 182, 0, 167, 172, 42, 180, 0, 32, 16, 35, 46]
abbrev dktX2_season_0 : List UInt8 := dkwX2_season_0 ++ dktX2_season_1
theorem dksX2_season_0 : cX2_season.data.toList.drop 0 = dktX2_season_0 := by decide +kernel
theorem dksX2_season_1 : cX2_season.data.toList.drop 24 = dktX2_season_1 := dk_seg dksX2_season_0 24 rfl rfl
theorem dksX2_season_2 : cX2_season.data.toList.drop 48 = dktX2_season_2 := dk_seg dksX2_season_1 24 rfl rfl
theorem dksX2_season_3 : cX2_season.data.toList.drop 71 = dktX2_season_3 := dk_seg dksX2_season_2 23 rfl rfl
theorem dksX2_season_4 : cX2_season.data.toList.drop 94 = dktX2_season_4 := dk_seg dksX2_season_3 23 rfl rfl
theorem dX2_season_0 : decode cX2_season 0 = .ok (.aload_n 0, 1) := dk_42 (dk_at dksX2_season_0 0 rfl rfl)
theorem dX2_season_1 : decode cX2_season 1 = .ok (.invokevirtual 164, 3) := dk_182 0 164 (dk_at dksX2_season_0 1 rfl rfl)
theorem dX2_season_4 : decode cX2_season 4 = .ok (.aload_n 0, 1) := dk_42 (dk_at dksX2_season_0 4 rfl rfl)
theorem dX2_season_5 : decode cX2_season 5 = .ok (.getfield 177, 3) := dk_180 0 177 (dk_at dksX2_season_0 5 rfl rfl)
theorem dX2_season_8 : decode cX2_season 8 = .ok (.ifCond .ne 9, 3) := dk_154 0 9 (dk_at dksX2_season_0 8 rfl rfl)
theorem dX2_season_11 : decode cX2_season 11 = .ok (.aload_n 0, 1) := dk_42 (dk_at dksX2_season_0 11 rfl rfl)
theorem dX2_season_12 : decode cX2_season 12 = .ok (.iconst 1, 1) := dk_4 (dk_at dksX2_season_0 12 rfl rfl)
theorem dX2_season_13 : decode cX2_season 13 = .ok (.invokevirtual 167, 3) := dk_182 0 167 (dk_at dksX2_season_0 13 rfl rfl)
theorem dX2_season_16 : decode cX2_season 16 = .ok (.ireturn, 1) := dk_172 (dk_at dksX2_season_0 16 rfl rfl)
theorem dX2_season_17 : decode cX2_season 17 = .ok (.aload_n 0, 1) := dk_42 (dk_at dksX2_season_0 17 rfl rfl)
theorem dX2_season_18 : decode cX2_season 18 = .ok (.getfield 32, 3) := dk_180 0 32 (dk_at dksX2_season_0 18 rfl rfl)
theorem dX2_season_21 : decode cX2_season 21 = .ok (.bipush 35, 2) := dk_16 35 (dk_at dksX2_season_0 21 rfl rfl)
theorem dX2_season_23 : decode cX2_season 23 = .ok (.iaload, 1) := dk_46 (dk_at dksX2_season_0 23 rfl rfl)
theorem dX2_season_24 : decode cX2_season 24 = .ok (.sipush 999, 3) := dk_17 3 231 (dk_at dksX2_season_1 0 rfl rfl)
theorem dX2_season_27 : decode cX2_season 27 = .ok (.if_icmp .ne 9, 3) := dk_160 0 9 (dk_at dksX2_season_1 3 rfl rfl)
theorem dX2_season_30 : decode cX2_season 30 = .ok (.aload_n 0, 1) := dk_42 (dk_at dksX2_season_1 6 rfl rfl)
theorem dX2_season_31 : decode cX2_season 31 = .ok (.iconst 3, 1) := dk_6 (dk_at dksX2_season_1 7 rfl rfl)
theorem dX2_season_32 : decode cX2_season 32 = .ok (.invokevirtual 167, 3) := dk_182 0 167 (dk_at dksX2_season_1 8 rfl rfl)
theorem dX2_season_35 : decode cX2_season 35 = .ok (.ireturn, 1) := dk_172 (dk_at dksX2_season_1 11 rfl rfl)
theorem dX2_season_36 : decode cX2_season 36 = .ok (.aload_n 0, 1) := dk_42 (dk_at dksX2_season_1 12 rfl rfl)
theorem dX2_season_37 : decode cX2_season 37 = .ok (.invokevirtual 399, 3) := dk_182 1 143 (dk_at dksX2_season_1 13 rfl rfl)
theorem dX2_season_40 : decode cX2_season 40 = .ok (.aload_n 0, 1) := dk_42 (dk_at dksX2_season_1 16 rfl rfl)
theorem dX2_season_41 : decode cX2_season 41 = .ok (.getfield 32, 3) := dk_180 0 32 (dk_at dksX2_season_1 17 rfl rfl)
theorem dX2_season_44 : decode cX2_season 44 = .ok (.bipush 35, 2) := dk_16 35 (dk_at dksX2_season_1 20 rfl rfl)
theorem dX2_season_46 : decode cX2_season 46 = .ok (.dup2, 1) := dk_92 (dk_at dksX2_season_1 22 rfl rfl)
theorem dX2_season_47 : decode cX2_season 47 = .ok (.iaload, 1) := dk_46 (dk_at dksX2_season_1 23 rfl rfl)
theorem dX2_season_48 : decode cX2_season 48 = .ok (.iconst 1, 1) := dk_4 (dk_at dksX2_season_2 0 rfl rfl)
theorem dX2_season_49 : decode cX2_season 49 = .ok (.iadd, 1) := dk_96 (dk_at dksX2_season_2 1 rfl rfl)
theorem dX2_season_50 : decode cX2_season 50 = .ok (.iastore, 1) := dk_79 (dk_at dksX2_season_2 2 rfl rfl)
theorem dX2_season_51 : decode cX2_season 51 = .ok (.iconst 0, 1) := dk_3 (dk_at dksX2_season_2 3 rfl rfl)
theorem dX2_season_52 : decode cX2_season 52 = .ok (.istore_n 1, 1) := dk_60 (dk_at dksX2_season_2 4 rfl rfl)
theorem dX2_season_53 : decode cX2_season 53 = .ok (.iload_n 1, 1) := dk_27 (dk_at dksX2_season_2 5 rfl rfl)
theorem dX2_season_54 : decode cX2_season 54 = .ok (.aload_n 0, 1) := dk_42 (dk_at dksX2_season_2 6 rfl rfl)
theorem dX2_season_55 : decode cX2_season 55 = .ok (.getfield 20, 3) := dk_180 0 20 (dk_at dksX2_season_2 7 rfl rfl)
theorem dX2_season_58 : decode cX2_season 58 = .ok (.iconst 2, 1) := dk_5 (dk_at dksX2_season_2 10 rfl rfl)
theorem dX2_season_59 : decode cX2_season 59 = .ok (.iaload, 1) := dk_46 (dk_at dksX2_season_2 11 rfl rfl)
theorem dX2_season_60 : decode cX2_season 60 = .ok (.if_icmp .ge 51, 3) := dk_162 0 51 (dk_at dksX2_season_2 12 rfl rfl)
theorem dX2_season_63 : decode cX2_season 63 = .ok (.aload_n 0, 1) := dk_42 (dk_at dksX2_season_2 15 rfl rfl)
theorem dX2_season_64 : decode cX2_season 64 = .ok (.getfield 32, 3) := dk_180 0 32 (dk_at dksX2_season_2 16 rfl rfl)
theorem dX2_season_67 : decode cX2_season 67 = .ok (.iload_n 1, 1) := dk_27 (dk_at dksX2_season_2 19 rfl rfl)
theorem dX2_season_68 : decode cX2_season 68 = .ok (.aload_n 0, 1) := dk_42 (dk_at dksX2_season_2 20 rfl rfl)
theorem dX2_season_69 : decode cX2_season 69 = .ok (.iload_n 1, 1) := dk_27 (dk_at dksX2_season_2 21 rfl rfl)
theorem dX2_season_70 : decode cX2_season 70 = .ok (.aload_n 0, 1) := dk_42 (dk_at dksX2_season_2 22 rfl rfl)
theorem dX2_season_71 : decode cX2_season 71 = .ok (.getfield 32, 3) := dk_180 0 32 (dk_at dksX2_season_3 0 rfl rfl)
theorem dX2_season_74 : decode cX2_season 74 = .ok (.iload_n 1, 1) := dk_27 (dk_at dksX2_season_3 3 rfl rfl)
theorem dX2_season_75 : decode cX2_season 75 = .ok (.iaload, 1) := dk_46 (dk_at dksX2_season_3 4 rfl rfl)
theorem dX2_season_76 : decode cX2_season 76 = .ok (.aload_n 0, 1) := dk_42 (dk_at dksX2_season_3 5 rfl rfl)
theorem dX2_season_77 : decode cX2_season 77 = .ok (.getfield 32, 3) := dk_180 0 32 (dk_at dksX2_season_3 6 rfl rfl)
theorem dX2_season_80 : decode cX2_season 80 = .ok (.iconst 5, 1) := dk_8 (dk_at dksX2_season_3 9 rfl rfl)
theorem dX2_season_81 : decode cX2_season 81 = .ok (.iload_n 1, 1) := dk_27 (dk_at dksX2_season_3 10 rfl rfl)
theorem dX2_season_82 : decode cX2_season 82 = .ok (.iadd, 1) := dk_96 (dk_at dksX2_season_3 11 rfl rfl)
theorem dX2_season_83 : decode cX2_season 83 = .ok (.iaload, 1) := dk_46 (dk_at dksX2_season_3 12 rfl rfl)
theorem dX2_season_84 : decode cX2_season 84 = .ok (.aload_n 0, 1) := dk_42 (dk_at dksX2_season_3 13 rfl rfl)
theorem dX2_season_85 : decode cX2_season 85 = .ok (.getfield 20, 3) := dk_180 0 20 (dk_at dksX2_season_3 14 rfl rfl)
theorem dX2_season_88 : decode cX2_season 88 = .ok (.bipush 13, 2) := dk_16 13 (dk_at dksX2_season_3 17 rfl rfl)
theorem dX2_season_90 : decode cX2_season 90 = .ok (.iload_n 1, 1) := dk_27 (dk_at dksX2_season_3 19 rfl rfl)
theorem dX2_season_91 : decode cX2_season 91 = .ok (.iadd, 1) := dk_96 (dk_at dksX2_season_3 20 rfl rfl)
theorem dX2_season_92 : decode cX2_season 92 = .ok (.iaload, 1) := dk_46 (dk_at dksX2_season_3 21 rfl rfl)
theorem dX2_season_93 : decode cX2_season 93 = .ok (.aload_n 0, 1) := dk_42 (dk_at dksX2_season_3 22 rfl rfl)
theorem dX2_season_94 : decode cX2_season 94 = .ok (.getfield 32, 3) := dk_180 0 32 (dk_at dksX2_season_4 0 rfl rfl)
theorem dX2_season_97 : decode cX2_season 97 = .ok (.bipush 35, 2) := dk_16 35 (dk_at dksX2_season_4 3 rfl rfl)
theorem dX2_season_99 : decode cX2_season 99 = .ok (.iaload, 1) := dk_46 (dk_at dksX2_season_4 5 rfl rfl)
theorem dX2_season_100 : decode cX2_season 100 = .ok (.iconst 0, 1) := dk_3 (dk_at dksX2_season_4 6 rfl rfl)
theorem dX2_season_101 : decode cX2_season 101 = .ok (.invokevirtual 249, 3) := dk_182 0 249 (dk_at dksX2_season_4 7 rfl rfl)
theorem dX2_season_104 : decode cX2_season 104 = .ok (.iastore, 1) := dk_79 (dk_at dksX2_season_4 10 rfl rfl)
theorem dX2_season_105 : decode cX2_season 105 = .ok (.iinc 1 1, 3) := dk_132 1 1 (dk_at dksX2_season_4 11 rfl rfl)
theorem dX2_season_108 : decode cX2_season 108 = .ok (.goto (-55), 3) := dk_167 255 201 (dk_at dksX2_season_4 14 rfl rfl)
theorem dX2_season_111 : decode cX2_season 111 = .ok (.aload_n 0, 1) := dk_42 (dk_at dksX2_season_4 17 rfl rfl)
theorem dX2_season_112 : decode cX2_season 112 = .ok (.iconst 0, 1) := dk_3 (dk_at dksX2_season_4 18 rfl rfl)
theorem dX2_season_113 : decode cX2_season 113 = .ok (.invokevirtual 297, 3) := dk_182 1 41 (dk_at dksX2_season_4 19 rfl rfl)
theorem dX2_season_116 : decode cX2_season 116 = .ok (.ireturn, 1) := dk_172 (dk_at dksX2_season_4 22 rfl rfl)
abbrev cX2_note : ByteArray := prog_16_method_117_code
def yX2_note : MethodName := ⟨RX2, "note", "()V"⟩
def dkwX2_note_3 : List UInt8 := [42, 89, 180, 0, 180, 4, 96, 181, 0, 180, 177]
abbrev dktX2_note_3 : List UInt8 := dkwX2_note_3 ++ []
def dkwX2_note_2 : List UInt8 := [181, 0, 180, 42, 180, 0, 32, 3, 42, 180, 0, 35, 16, 36, 42, 180, 0, 180, 104, 16, 36, 184, 0, 173]
abbrev dktX2_note_2 : List UInt8 := dkwX2_note_2 ++ dktX2_note_3
def dkwX2_note_1 : List UInt8 := [180, 0, 35, 27, 16, 36, 96, 46, 79, 132, 1, 1, 167, 255, 231, 42, 89, 180, 0, 180, 4, 100]
abbrev dktX2_note_1 : List UInt8 := dkwX2_note_1 ++ dktX2_note_2
def dkwX2_note_0 : List UInt8 := [42, 180, 0, 180, 16, 16, 160, 0, 43, 3, 60, 27, 17, 2, 28, 162, 0, 24, 42, 180, 0, 35, 27, 42]
abbrev dktX2_note_0 : List UInt8 := dkwX2_note_0 ++ dktX2_note_1
theorem dksX2_note_0 : cX2_note.data.toList.drop 0 = dktX2_note_0 := by decide +kernel
theorem dksX2_note_1 : cX2_note.data.toList.drop 24 = dktX2_note_1 := dk_seg dksX2_note_0 24 rfl rfl
theorem dksX2_note_2 : cX2_note.data.toList.drop 46 = dktX2_note_2 := dk_seg dksX2_note_1 22 rfl rfl
theorem dksX2_note_3 : cX2_note.data.toList.drop 70 = dktX2_note_3 := dk_seg dksX2_note_2 24 rfl rfl
theorem dX2_note_0 : decode cX2_note 0 = .ok (.aload_n 0, 1) := dk_42 (dk_at dksX2_note_0 0 rfl rfl)
theorem dX2_note_1 : decode cX2_note 1 = .ok (.getfield 180, 3) := dk_180 0 180 (dk_at dksX2_note_0 1 rfl rfl)
theorem dX2_note_4 : decode cX2_note 4 = .ok (.bipush 16, 2) := dk_16 16 (dk_at dksX2_note_0 4 rfl rfl)
theorem dX2_note_6 : decode cX2_note 6 = .ok (.if_icmp .ne 43, 3) := dk_160 0 43 (dk_at dksX2_note_0 6 rfl rfl)
theorem dX2_note_9 : decode cX2_note 9 = .ok (.iconst 0, 1) := dk_3 (dk_at dksX2_note_0 9 rfl rfl)
theorem dX2_note_10 : decode cX2_note 10 = .ok (.istore_n 1, 1) := dk_60 (dk_at dksX2_note_0 10 rfl rfl)
theorem dX2_note_11 : decode cX2_note 11 = .ok (.iload_n 1, 1) := dk_27 (dk_at dksX2_note_0 11 rfl rfl)
theorem dX2_note_12 : decode cX2_note 12 = .ok (.sipush 540, 3) := dk_17 2 28 (dk_at dksX2_note_0 12 rfl rfl)
theorem dX2_note_15 : decode cX2_note 15 = .ok (.if_icmp .ge 24, 3) := dk_162 0 24 (dk_at dksX2_note_0 15 rfl rfl)
theorem dX2_note_18 : decode cX2_note 18 = .ok (.aload_n 0, 1) := dk_42 (dk_at dksX2_note_0 18 rfl rfl)
theorem dX2_note_19 : decode cX2_note 19 = .ok (.getfield 35, 3) := dk_180 0 35 (dk_at dksX2_note_0 19 rfl rfl)
theorem dX2_note_22 : decode cX2_note 22 = .ok (.iload_n 1, 1) := dk_27 (dk_at dksX2_note_0 22 rfl rfl)
theorem dX2_note_23 : decode cX2_note 23 = .ok (.aload_n 0, 1) := dk_42 (dk_at dksX2_note_0 23 rfl rfl)
theorem dX2_note_24 : decode cX2_note 24 = .ok (.getfield 35, 3) := dk_180 0 35 (dk_at dksX2_note_1 0 rfl rfl)
theorem dX2_note_27 : decode cX2_note 27 = .ok (.iload_n 1, 1) := dk_27 (dk_at dksX2_note_1 3 rfl rfl)
theorem dX2_note_28 : decode cX2_note 28 = .ok (.bipush 36, 2) := dk_16 36 (dk_at dksX2_note_1 4 rfl rfl)
theorem dX2_note_30 : decode cX2_note 30 = .ok (.iadd, 1) := dk_96 (dk_at dksX2_note_1 6 rfl rfl)
theorem dX2_note_31 : decode cX2_note 31 = .ok (.iaload, 1) := dk_46 (dk_at dksX2_note_1 7 rfl rfl)
theorem dX2_note_32 : decode cX2_note 32 = .ok (.iastore, 1) := dk_79 (dk_at dksX2_note_1 8 rfl rfl)
theorem dX2_note_33 : decode cX2_note 33 = .ok (.iinc 1 1, 3) := dk_132 1 1 (dk_at dksX2_note_1 9 rfl rfl)
theorem dX2_note_36 : decode cX2_note 36 = .ok (.goto (-25), 3) := dk_167 255 231 (dk_at dksX2_note_1 12 rfl rfl)
theorem dX2_note_39 : decode cX2_note 39 = .ok (.aload_n 0, 1) := dk_42 (dk_at dksX2_note_1 15 rfl rfl)
theorem dX2_note_40 : decode cX2_note 40 = .ok (.dup, 1) := dk_89 (dk_at dksX2_note_1 16 rfl rfl)
theorem dX2_note_41 : decode cX2_note 41 = .ok (.getfield 180, 3) := dk_180 0 180 (dk_at dksX2_note_1 17 rfl rfl)
theorem dX2_note_44 : decode cX2_note 44 = .ok (.iconst 1, 1) := dk_4 (dk_at dksX2_note_1 20 rfl rfl)
theorem dX2_note_45 : decode cX2_note 45 = .ok (.isub, 1) := dk_100 (dk_at dksX2_note_1 21 rfl rfl)
theorem dX2_note_46 : decode cX2_note 46 = .ok (.putfield 180, 3) := dk_181 0 180 (dk_at dksX2_note_2 0 rfl rfl)
theorem dX2_note_49 : decode cX2_note 49 = .ok (.aload_n 0, 1) := dk_42 (dk_at dksX2_note_2 3 rfl rfl)
theorem dX2_note_50 : decode cX2_note 50 = .ok (.getfield 32, 3) := dk_180 0 32 (dk_at dksX2_note_2 4 rfl rfl)
theorem dX2_note_53 : decode cX2_note 53 = .ok (.iconst 0, 1) := dk_3 (dk_at dksX2_note_2 7 rfl rfl)
theorem dX2_note_54 : decode cX2_note 54 = .ok (.aload_n 0, 1) := dk_42 (dk_at dksX2_note_2 8 rfl rfl)
theorem dX2_note_55 : decode cX2_note 55 = .ok (.getfield 35, 3) := dk_180 0 35 (dk_at dksX2_note_2 9 rfl rfl)
theorem dX2_note_58 : decode cX2_note 58 = .ok (.bipush 36, 2) := dk_16 36 (dk_at dksX2_note_2 12 rfl rfl)
theorem dX2_note_60 : decode cX2_note 60 = .ok (.aload_n 0, 1) := dk_42 (dk_at dksX2_note_2 14 rfl rfl)
theorem dX2_note_61 : decode cX2_note 61 = .ok (.getfield 180, 3) := dk_180 0 180 (dk_at dksX2_note_2 15 rfl rfl)
theorem dX2_note_64 : decode cX2_note 64 = .ok (.imul, 1) := dk_104 (dk_at dksX2_note_2 18 rfl rfl)
theorem dX2_note_65 : decode cX2_note 65 = .ok (.bipush 36, 2) := dk_16 36 (dk_at dksX2_note_2 19 rfl rfl)
theorem dX2_note_67 : decode cX2_note 67 = .ok (.invokestatic 173, 3) := dk_184 0 173 (dk_at dksX2_note_2 21 rfl rfl)
theorem dX2_note_70 : decode cX2_note 70 = .ok (.aload_n 0, 1) := dk_42 (dk_at dksX2_note_3 0 rfl rfl)
theorem dX2_note_71 : decode cX2_note 71 = .ok (.dup, 1) := dk_89 (dk_at dksX2_note_3 1 rfl rfl)
theorem dX2_note_72 : decode cX2_note 72 = .ok (.getfield 180, 3) := dk_180 0 180 (dk_at dksX2_note_3 2 rfl rfl)
theorem dX2_note_75 : decode cX2_note 75 = .ok (.iconst 1, 1) := dk_4 (dk_at dksX2_note_3 5 rfl rfl)
theorem dX2_note_76 : decode cX2_note 76 = .ok (.iadd, 1) := dk_96 (dk_at dksX2_note_3 6 rfl rfl)
theorem dX2_note_77 : decode cX2_note 77 = .ok (.putfield 180, 3) := dk_181 0 180 (dk_at dksX2_note_3 7 rfl rfl)
theorem dX2_note_80 : decode cX2_note 80 = .ok (.return_, 1) := dk_177 (dk_at dksX2_note_3 10 rfl rfl)
abbrev cX2_change : ByteArray := prog_16_method_119_code
def yX2_change : MethodName := ⟨RX2, "change", "(I)I"⟩
def dkwX2_change_3 : List UInt8 := [172]
abbrev dktX2_change_3 : List UInt8 := dkwX2_change_3 ++ []
def dkwX2_change_2 : List UInt8 := [180, 0, 32, 27, 42, 180, 0, 20, 3, 46, 42, 180, 0, 32, 27, 46, 100, 79, 42, 180, 0, 32, 27, 46]
abbrev dktX2_change_2 : List UInt8 := dkwX2_change_2 ++ dktX2_change_3
def dkwX2_change_1 : List UInt8 := [46, 104, 42, 180, 0, 20, 3, 46, 160, 0, 9, 42, 8, 182, 0, 167, 172, 42, 182, 1, 143, 42]
abbrev dktX2_change_1 : List UInt8 := dkwX2_change_1 ++ dktX2_change_2
def dkwX2_change_0 : List UInt8 := [42, 182, 0, 164, 42, 27, 182, 0, 239, 154, 0, 9, 42, 4, 182, 0, 167, 172, 5, 42, 180, 0, 32, 27]
abbrev dktX2_change_0 : List UInt8 := dkwX2_change_0 ++ dktX2_change_1
theorem dksX2_change_0 : cX2_change.data.toList.drop 0 = dktX2_change_0 := by decide +kernel
theorem dksX2_change_1 : cX2_change.data.toList.drop 24 = dktX2_change_1 := dk_seg dksX2_change_0 24 rfl rfl
theorem dksX2_change_2 : cX2_change.data.toList.drop 46 = dktX2_change_2 := dk_seg dksX2_change_1 22 rfl rfl
theorem dksX2_change_3 : cX2_change.data.toList.drop 70 = dktX2_change_3 := dk_seg dksX2_change_2 24 rfl rfl
theorem dX2_change_0 : decode cX2_change 0 = .ok (.aload_n 0, 1) := dk_42 (dk_at dksX2_change_0 0 rfl rfl)
theorem dX2_change_1 : decode cX2_change 1 = .ok (.invokevirtual 164, 3) := dk_182 0 164 (dk_at dksX2_change_0 1 rfl rfl)
theorem dX2_change_4 : decode cX2_change 4 = .ok (.aload_n 0, 1) := dk_42 (dk_at dksX2_change_0 4 rfl rfl)
theorem dX2_change_5 : decode cX2_change 5 = .ok (.iload_n 1, 1) := dk_27 (dk_at dksX2_change_0 5 rfl rfl)
theorem dX2_change_6 : decode cX2_change 6 = .ok (.invokevirtual 239, 3) := dk_182 0 239 (dk_at dksX2_change_0 6 rfl rfl)
theorem dX2_change_9 : decode cX2_change 9 = .ok (.ifCond .ne 9, 3) := dk_154 0 9 (dk_at dksX2_change_0 9 rfl rfl)
theorem dX2_change_12 : decode cX2_change 12 = .ok (.aload_n 0, 1) := dk_42 (dk_at dksX2_change_0 12 rfl rfl)
theorem dX2_change_13 : decode cX2_change 13 = .ok (.iconst 1, 1) := dk_4 (dk_at dksX2_change_0 13 rfl rfl)
theorem dX2_change_14 : decode cX2_change 14 = .ok (.invokevirtual 167, 3) := dk_182 0 167 (dk_at dksX2_change_0 14 rfl rfl)
theorem dX2_change_17 : decode cX2_change 17 = .ok (.ireturn, 1) := dk_172 (dk_at dksX2_change_0 17 rfl rfl)
theorem dX2_change_18 : decode cX2_change 18 = .ok (.iconst 2, 1) := dk_5 (dk_at dksX2_change_0 18 rfl rfl)
theorem dX2_change_19 : decode cX2_change 19 = .ok (.aload_n 0, 1) := dk_42 (dk_at dksX2_change_0 19 rfl rfl)
theorem dX2_change_20 : decode cX2_change 20 = .ok (.getfield 32, 3) := dk_180 0 32 (dk_at dksX2_change_0 20 rfl rfl)
theorem dX2_change_23 : decode cX2_change 23 = .ok (.iload_n 1, 1) := dk_27 (dk_at dksX2_change_0 23 rfl rfl)
theorem dX2_change_24 : decode cX2_change 24 = .ok (.iaload, 1) := dk_46 (dk_at dksX2_change_1 0 rfl rfl)
theorem dX2_change_25 : decode cX2_change 25 = .ok (.imul, 1) := dk_104 (dk_at dksX2_change_1 1 rfl rfl)
theorem dX2_change_26 : decode cX2_change 26 = .ok (.aload_n 0, 1) := dk_42 (dk_at dksX2_change_1 2 rfl rfl)
theorem dX2_change_27 : decode cX2_change 27 = .ok (.getfield 20, 3) := dk_180 0 20 (dk_at dksX2_change_1 3 rfl rfl)
theorem dX2_change_30 : decode cX2_change 30 = .ok (.iconst 0, 1) := dk_3 (dk_at dksX2_change_1 6 rfl rfl)
theorem dX2_change_31 : decode cX2_change 31 = .ok (.iaload, 1) := dk_46 (dk_at dksX2_change_1 7 rfl rfl)
theorem dX2_change_32 : decode cX2_change 32 = .ok (.if_icmp .ne 9, 3) := dk_160 0 9 (dk_at dksX2_change_1 8 rfl rfl)
theorem dX2_change_35 : decode cX2_change 35 = .ok (.aload_n 0, 1) := dk_42 (dk_at dksX2_change_1 11 rfl rfl)
theorem dX2_change_36 : decode cX2_change 36 = .ok (.iconst 5, 1) := dk_8 (dk_at dksX2_change_1 12 rfl rfl)
theorem dX2_change_37 : decode cX2_change 37 = .ok (.invokevirtual 167, 3) := dk_182 0 167 (dk_at dksX2_change_1 13 rfl rfl)
theorem dX2_change_40 : decode cX2_change 40 = .ok (.ireturn, 1) := dk_172 (dk_at dksX2_change_1 16 rfl rfl)
theorem dX2_change_41 : decode cX2_change 41 = .ok (.aload_n 0, 1) := dk_42 (dk_at dksX2_change_1 17 rfl rfl)
theorem dX2_change_42 : decode cX2_change 42 = .ok (.invokevirtual 399, 3) := dk_182 1 143 (dk_at dksX2_change_1 18 rfl rfl)
theorem dX2_change_45 : decode cX2_change 45 = .ok (.aload_n 0, 1) := dk_42 (dk_at dksX2_change_1 21 rfl rfl)
theorem dX2_change_46 : decode cX2_change 46 = .ok (.getfield 32, 3) := dk_180 0 32 (dk_at dksX2_change_2 0 rfl rfl)
theorem dX2_change_49 : decode cX2_change 49 = .ok (.iload_n 1, 1) := dk_27 (dk_at dksX2_change_2 3 rfl rfl)
theorem dX2_change_50 : decode cX2_change 50 = .ok (.aload_n 0, 1) := dk_42 (dk_at dksX2_change_2 4 rfl rfl)
theorem dX2_change_51 : decode cX2_change 51 = .ok (.getfield 20, 3) := dk_180 0 20 (dk_at dksX2_change_2 5 rfl rfl)
theorem dX2_change_54 : decode cX2_change 54 = .ok (.iconst 0, 1) := dk_3 (dk_at dksX2_change_2 8 rfl rfl)
theorem dX2_change_55 : decode cX2_change 55 = .ok (.iaload, 1) := dk_46 (dk_at dksX2_change_2 9 rfl rfl)
theorem dX2_change_56 : decode cX2_change 56 = .ok (.aload_n 0, 1) := dk_42 (dk_at dksX2_change_2 10 rfl rfl)
theorem dX2_change_57 : decode cX2_change 57 = .ok (.getfield 32, 3) := dk_180 0 32 (dk_at dksX2_change_2 11 rfl rfl)
theorem dX2_change_60 : decode cX2_change 60 = .ok (.iload_n 1, 1) := dk_27 (dk_at dksX2_change_2 14 rfl rfl)
theorem dX2_change_61 : decode cX2_change 61 = .ok (.iaload, 1) := dk_46 (dk_at dksX2_change_2 15 rfl rfl)
theorem dX2_change_62 : decode cX2_change 62 = .ok (.isub, 1) := dk_100 (dk_at dksX2_change_2 16 rfl rfl)
theorem dX2_change_63 : decode cX2_change 63 = .ok (.iastore, 1) := dk_79 (dk_at dksX2_change_2 17 rfl rfl)
theorem dX2_change_64 : decode cX2_change 64 = .ok (.aload_n 0, 1) := dk_42 (dk_at dksX2_change_2 18 rfl rfl)
theorem dX2_change_65 : decode cX2_change 65 = .ok (.getfield 32, 3) := dk_180 0 32 (dk_at dksX2_change_2 19 rfl rfl)
theorem dX2_change_68 : decode cX2_change 68 = .ok (.iload_n 1, 1) := dk_27 (dk_at dksX2_change_2 22 rfl rfl)
theorem dX2_change_69 : decode cX2_change 69 = .ok (.iaload, 1) := dk_46 (dk_at dksX2_change_2 23 rfl rfl)
theorem dX2_change_70 : decode cX2_change 70 = .ok (.ireturn, 1) := dk_172 (dk_at dksX2_change_3 0 rfl rfl)
abbrev cX2_step : ByteArray := prog_16_method_120_code
def yX2_step : MethodName := ⟨RX2, "step", "(II)Z"⟩
def dkwX2_step_2 : List UInt8 := [42, 8, 182, 1, 146, 172, 42, 182, 1, 143, 42, 180, 0, 32, 8, 27, 96, 28, 79, 4, 172]
abbrev dktX2_step_2 : List UInt8 := dkwX2_step_2 ++ []
def dkwX2_step_1 : List UInt8 := [184, 0, 146, 154, 0, 9, 42, 5, 182, 1, 146, 172, 42, 180, 0, 32, 8, 27, 96, 46, 28, 160, 0, 9]
abbrev dktX2_step_1 : List UInt8 := dkwX2_step_1 ++ dktX2_step_2
def dkwX2_step_0 : List UInt8 := [42, 182, 0, 164, 42, 27, 182, 0, 239, 154, 0, 9, 42, 4, 182, 1, 146, 172, 28, 3, 16, 20]
abbrev dktX2_step_0 : List UInt8 := dkwX2_step_0 ++ dktX2_step_1
theorem dksX2_step_0 : cX2_step.data.toList.drop 0 = dktX2_step_0 := by decide +kernel
theorem dksX2_step_1 : cX2_step.data.toList.drop 22 = dktX2_step_1 := dk_seg dksX2_step_0 22 rfl rfl
theorem dksX2_step_2 : cX2_step.data.toList.drop 46 = dktX2_step_2 := dk_seg dksX2_step_1 24 rfl rfl
theorem dX2_step_0 : decode cX2_step 0 = .ok (.aload_n 0, 1) := dk_42 (dk_at dksX2_step_0 0 rfl rfl)
theorem dX2_step_1 : decode cX2_step 1 = .ok (.invokevirtual 164, 3) := dk_182 0 164 (dk_at dksX2_step_0 1 rfl rfl)
theorem dX2_step_4 : decode cX2_step 4 = .ok (.aload_n 0, 1) := dk_42 (dk_at dksX2_step_0 4 rfl rfl)
theorem dX2_step_5 : decode cX2_step 5 = .ok (.iload_n 1, 1) := dk_27 (dk_at dksX2_step_0 5 rfl rfl)
theorem dX2_step_6 : decode cX2_step 6 = .ok (.invokevirtual 239, 3) := dk_182 0 239 (dk_at dksX2_step_0 6 rfl rfl)
theorem dX2_step_9 : decode cX2_step 9 = .ok (.ifCond .ne 9, 3) := dk_154 0 9 (dk_at dksX2_step_0 9 rfl rfl)
theorem dX2_step_12 : decode cX2_step 12 = .ok (.aload_n 0, 1) := dk_42 (dk_at dksX2_step_0 12 rfl rfl)
theorem dX2_step_13 : decode cX2_step 13 = .ok (.iconst 1, 1) := dk_4 (dk_at dksX2_step_0 13 rfl rfl)
theorem dX2_step_14 : decode cX2_step 14 = .ok (.invokevirtual 402, 3) := dk_182 1 146 (dk_at dksX2_step_0 14 rfl rfl)
theorem dX2_step_17 : decode cX2_step 17 = .ok (.ireturn, 1) := dk_172 (dk_at dksX2_step_0 17 rfl rfl)
theorem dX2_step_18 : decode cX2_step 18 = .ok (.iload_n 2, 1) := dk_28 (dk_at dksX2_step_0 18 rfl rfl)
theorem dX2_step_19 : decode cX2_step 19 = .ok (.iconst 0, 1) := dk_3 (dk_at dksX2_step_0 19 rfl rfl)
theorem dX2_step_20 : decode cX2_step 20 = .ok (.bipush 20, 2) := dk_16 20 (dk_at dksX2_step_0 20 rfl rfl)
theorem dX2_step_22 : decode cX2_step 22 = .ok (.invokestatic 146, 3) := dk_184 0 146 (dk_at dksX2_step_1 0 rfl rfl)
theorem dX2_step_25 : decode cX2_step 25 = .ok (.ifCond .ne 9, 3) := dk_154 0 9 (dk_at dksX2_step_1 3 rfl rfl)
theorem dX2_step_28 : decode cX2_step 28 = .ok (.aload_n 0, 1) := dk_42 (dk_at dksX2_step_1 6 rfl rfl)
theorem dX2_step_29 : decode cX2_step 29 = .ok (.iconst 2, 1) := dk_5 (dk_at dksX2_step_1 7 rfl rfl)
theorem dX2_step_30 : decode cX2_step 30 = .ok (.invokevirtual 402, 3) := dk_182 1 146 (dk_at dksX2_step_1 8 rfl rfl)
theorem dX2_step_33 : decode cX2_step 33 = .ok (.ireturn, 1) := dk_172 (dk_at dksX2_step_1 11 rfl rfl)
theorem dX2_step_34 : decode cX2_step 34 = .ok (.aload_n 0, 1) := dk_42 (dk_at dksX2_step_1 12 rfl rfl)
theorem dX2_step_35 : decode cX2_step 35 = .ok (.getfield 32, 3) := dk_180 0 32 (dk_at dksX2_step_1 13 rfl rfl)
theorem dX2_step_38 : decode cX2_step 38 = .ok (.iconst 5, 1) := dk_8 (dk_at dksX2_step_1 16 rfl rfl)
theorem dX2_step_39 : decode cX2_step 39 = .ok (.iload_n 1, 1) := dk_27 (dk_at dksX2_step_1 17 rfl rfl)
theorem dX2_step_40 : decode cX2_step 40 = .ok (.iadd, 1) := dk_96 (dk_at dksX2_step_1 18 rfl rfl)
theorem dX2_step_41 : decode cX2_step 41 = .ok (.iaload, 1) := dk_46 (dk_at dksX2_step_1 19 rfl rfl)
theorem dX2_step_42 : decode cX2_step 42 = .ok (.iload_n 2, 1) := dk_28 (dk_at dksX2_step_1 20 rfl rfl)
theorem dX2_step_43 : decode cX2_step 43 = .ok (.if_icmp .ne 9, 3) := dk_160 0 9 (dk_at dksX2_step_1 21 rfl rfl)
theorem dX2_step_46 : decode cX2_step 46 = .ok (.aload_n 0, 1) := dk_42 (dk_at dksX2_step_2 0 rfl rfl)
theorem dX2_step_47 : decode cX2_step 47 = .ok (.iconst 5, 1) := dk_8 (dk_at dksX2_step_2 1 rfl rfl)
theorem dX2_step_48 : decode cX2_step 48 = .ok (.invokevirtual 402, 3) := dk_182 1 146 (dk_at dksX2_step_2 2 rfl rfl)
theorem dX2_step_51 : decode cX2_step 51 = .ok (.ireturn, 1) := dk_172 (dk_at dksX2_step_2 5 rfl rfl)
theorem dX2_step_52 : decode cX2_step 52 = .ok (.aload_n 0, 1) := dk_42 (dk_at dksX2_step_2 6 rfl rfl)
theorem dX2_step_53 : decode cX2_step 53 = .ok (.invokevirtual 399, 3) := dk_182 1 143 (dk_at dksX2_step_2 7 rfl rfl)
theorem dX2_step_56 : decode cX2_step 56 = .ok (.aload_n 0, 1) := dk_42 (dk_at dksX2_step_2 10 rfl rfl)
theorem dX2_step_57 : decode cX2_step 57 = .ok (.getfield 32, 3) := dk_180 0 32 (dk_at dksX2_step_2 11 rfl rfl)
theorem dX2_step_60 : decode cX2_step 60 = .ok (.iconst 5, 1) := dk_8 (dk_at dksX2_step_2 14 rfl rfl)
theorem dX2_step_61 : decode cX2_step 61 = .ok (.iload_n 1, 1) := dk_27 (dk_at dksX2_step_2 15 rfl rfl)
theorem dX2_step_62 : decode cX2_step 62 = .ok (.iadd, 1) := dk_96 (dk_at dksX2_step_2 16 rfl rfl)
theorem dX2_step_63 : decode cX2_step 63 = .ok (.iload_n 2, 1) := dk_28 (dk_at dksX2_step_2 17 rfl rfl)
theorem dX2_step_64 : decode cX2_step 64 = .ok (.iastore, 1) := dk_79 (dk_at dksX2_step_2 18 rfl rfl)
theorem dX2_step_65 : decode cX2_step 65 = .ok (.iconst 1, 1) := dk_4 (dk_at dksX2_step_2 19 rfl rfl)
theorem dX2_step_66 : decode cX2_step 66 = .ok (.ireturn, 1) := dk_172 (dk_at dksX2_step_2 20 rfl rfl)
abbrev cX2_isNot : ByteArray := prog_16_method_5_code
def yX2_isNot : MethodName := ⟨RX2, "isNot", "(I)Z"⟩
def dkwX2_isNot_0 : List UInt8 := [42, 27, 181, 0, 62, 3, 172]
abbrev dktX2_isNot_0 : List UInt8 := dkwX2_isNot_0 ++ []
theorem dksX2_isNot_0 : cX2_isNot.data.toList.drop 0 = dktX2_isNot_0 := by decide +kernel
theorem dX2_isNot_0 : decode cX2_isNot 0 = .ok (.aload_n 0, 1) := dk_42 (dk_at dksX2_isNot_0 0 rfl rfl)
theorem dX2_isNot_1 : decode cX2_isNot 1 = .ok (.iload_n 1, 1) := dk_27 (dk_at dksX2_isNot_0 1 rfl rfl)
theorem dX2_isNot_2 : decode cX2_isNot 2 = .ok (.putfield 62, 3) := dk_181 0 62 (dk_at dksX2_isNot_0 2 rfl rfl)
theorem dX2_isNot_5 : decode cX2_isNot 5 = .ok (.iconst 0, 1) := dk_3 (dk_at dksX2_isNot_0 5 rfl rfl)
theorem dX2_isNot_6 : decode cX2_isNot 6 = .ok (.ireturn, 1) := dk_172 (dk_at dksX2_isNot_0 6 rfl rfl)
abbrev cX2_pay : ByteArray := prog_16_method_121_code
def yX2_pay : MethodName := ⟨RX2, "pay", "(III)I"⟩
def dkwX2_pay_3 : List UInt8 := [29, 100, 79, 42, 27, 28, 182, 1, 80, 172]
abbrev dktX2_pay_3 : List UInt8 := dkwX2_pay_3 ++ []
def dkwX2_pay_2 : List UInt8 := [21, 4, 182, 0, 167, 172, 42, 182, 1, 143, 42, 180, 0, 32, 16, 10, 8, 27, 104, 96, 28, 96, 92, 46]
abbrev dktX2_pay_2 : List UInt8 := dkwX2_pay_2 ++ dktX2_pay_3
def dkwX2_pay_1 : List UInt8 := [21, 4, 154, 0, 16, 29, 42, 27, 28, 182, 1, 80, 164, 0, 6, 8, 54, 4, 21, 4, 153, 0, 10, 42]
abbrev dktX2_pay_1 : List UInt8 := dkwX2_pay_1 ++ dktX2_pay_2
def dkwX2_pay_0 : List UInt8 := [42, 182, 0, 164, 42, 42, 27, 28, 182, 1, 37, 29, 4, 16, 99, 184, 0, 146, 182, 1, 19, 54, 4]
abbrev dktX2_pay_0 : List UInt8 := dkwX2_pay_0 ++ dktX2_pay_1
theorem dksX2_pay_0 : cX2_pay.data.toList.drop 0 = dktX2_pay_0 := by decide +kernel
theorem dksX2_pay_1 : cX2_pay.data.toList.drop 23 = dktX2_pay_1 := dk_seg dksX2_pay_0 23 rfl rfl
theorem dksX2_pay_2 : cX2_pay.data.toList.drop 47 = dktX2_pay_2 := dk_seg dksX2_pay_1 24 rfl rfl
theorem dksX2_pay_3 : cX2_pay.data.toList.drop 71 = dktX2_pay_3 := dk_seg dksX2_pay_2 24 rfl rfl
theorem dX2_pay_0 : decode cX2_pay 0 = .ok (.aload_n 0, 1) := dk_42 (dk_at dksX2_pay_0 0 rfl rfl)
theorem dX2_pay_1 : decode cX2_pay 1 = .ok (.invokevirtual 164, 3) := dk_182 0 164 (dk_at dksX2_pay_0 1 rfl rfl)
theorem dX2_pay_4 : decode cX2_pay 4 = .ok (.aload_n 0, 1) := dk_42 (dk_at dksX2_pay_0 4 rfl rfl)
theorem dX2_pay_5 : decode cX2_pay 5 = .ok (.aload_n 0, 1) := dk_42 (dk_at dksX2_pay_0 5 rfl rfl)
theorem dX2_pay_6 : decode cX2_pay 6 = .ok (.iload_n 1, 1) := dk_27 (dk_at dksX2_pay_0 6 rfl rfl)
theorem dX2_pay_7 : decode cX2_pay 7 = .ok (.iload_n 2, 1) := dk_28 (dk_at dksX2_pay_0 7 rfl rfl)
theorem dX2_pay_8 : decode cX2_pay 8 = .ok (.invokevirtual 293, 3) := dk_182 1 37 (dk_at dksX2_pay_0 8 rfl rfl)
theorem dX2_pay_11 : decode cX2_pay 11 = .ok (.iload_n 3, 1) := dk_29 (dk_at dksX2_pay_0 11 rfl rfl)
theorem dX2_pay_12 : decode cX2_pay 12 = .ok (.iconst 1, 1) := dk_4 (dk_at dksX2_pay_0 12 rfl rfl)
theorem dX2_pay_13 : decode cX2_pay 13 = .ok (.bipush 99, 2) := dk_16 99 (dk_at dksX2_pay_0 13 rfl rfl)
theorem dX2_pay_15 : decode cX2_pay 15 = .ok (.invokestatic 146, 3) := dk_184 0 146 (dk_at dksX2_pay_0 15 rfl rfl)
theorem dX2_pay_18 : decode cX2_pay 18 = .ok (.invokevirtual 275, 3) := dk_182 1 19 (dk_at dksX2_pay_0 18 rfl rfl)
theorem dX2_pay_21 : decode cX2_pay 21 = .ok (.istore 4, 2) := dk_54 4 (dk_at dksX2_pay_0 21 rfl rfl)
theorem dX2_pay_23 : decode cX2_pay 23 = .ok (.iload 4, 2) := dk_21 4 (dk_at dksX2_pay_1 0 rfl rfl)
theorem dX2_pay_25 : decode cX2_pay 25 = .ok (.ifCond .ne 16, 3) := dk_154 0 16 (dk_at dksX2_pay_1 2 rfl rfl)
theorem dX2_pay_28 : decode cX2_pay 28 = .ok (.iload_n 3, 1) := dk_29 (dk_at dksX2_pay_1 5 rfl rfl)
theorem dX2_pay_29 : decode cX2_pay 29 = .ok (.aload_n 0, 1) := dk_42 (dk_at dksX2_pay_1 6 rfl rfl)
theorem dX2_pay_30 : decode cX2_pay 30 = .ok (.iload_n 1, 1) := dk_27 (dk_at dksX2_pay_1 7 rfl rfl)
theorem dX2_pay_31 : decode cX2_pay 31 = .ok (.iload_n 2, 1) := dk_28 (dk_at dksX2_pay_1 8 rfl rfl)
theorem dX2_pay_32 : decode cX2_pay 32 = .ok (.invokevirtual 336, 3) := dk_182 1 80 (dk_at dksX2_pay_1 9 rfl rfl)
theorem dX2_pay_35 : decode cX2_pay 35 = .ok (.if_icmp .le 6, 3) := dk_164 0 6 (dk_at dksX2_pay_1 12 rfl rfl)
theorem dX2_pay_38 : decode cX2_pay 38 = .ok (.iconst 5, 1) := dk_8 (dk_at dksX2_pay_1 15 rfl rfl)
theorem dX2_pay_39 : decode cX2_pay 39 = .ok (.istore 4, 2) := dk_54 4 (dk_at dksX2_pay_1 16 rfl rfl)
theorem dX2_pay_41 : decode cX2_pay 41 = .ok (.iload 4, 2) := dk_21 4 (dk_at dksX2_pay_1 18 rfl rfl)
theorem dX2_pay_43 : decode cX2_pay 43 = .ok (.ifCond .eq 10, 3) := dk_153 0 10 (dk_at dksX2_pay_1 20 rfl rfl)
theorem dX2_pay_46 : decode cX2_pay 46 = .ok (.aload_n 0, 1) := dk_42 (dk_at dksX2_pay_1 23 rfl rfl)
theorem dX2_pay_47 : decode cX2_pay 47 = .ok (.iload 4, 2) := dk_21 4 (dk_at dksX2_pay_2 0 rfl rfl)
theorem dX2_pay_49 : decode cX2_pay 49 = .ok (.invokevirtual 167, 3) := dk_182 0 167 (dk_at dksX2_pay_2 2 rfl rfl)
theorem dX2_pay_52 : decode cX2_pay 52 = .ok (.ireturn, 1) := dk_172 (dk_at dksX2_pay_2 5 rfl rfl)
theorem dX2_pay_53 : decode cX2_pay 53 = .ok (.aload_n 0, 1) := dk_42 (dk_at dksX2_pay_2 6 rfl rfl)
theorem dX2_pay_54 : decode cX2_pay 54 = .ok (.invokevirtual 399, 3) := dk_182 1 143 (dk_at dksX2_pay_2 7 rfl rfl)
theorem dX2_pay_57 : decode cX2_pay 57 = .ok (.aload_n 0, 1) := dk_42 (dk_at dksX2_pay_2 10 rfl rfl)
theorem dX2_pay_58 : decode cX2_pay 58 = .ok (.getfield 32, 3) := dk_180 0 32 (dk_at dksX2_pay_2 11 rfl rfl)
theorem dX2_pay_61 : decode cX2_pay 61 = .ok (.bipush 10, 2) := dk_16 10 (dk_at dksX2_pay_2 14 rfl rfl)
theorem dX2_pay_63 : decode cX2_pay 63 = .ok (.iconst 5, 1) := dk_8 (dk_at dksX2_pay_2 16 rfl rfl)
theorem dX2_pay_64 : decode cX2_pay 64 = .ok (.iload_n 1, 1) := dk_27 (dk_at dksX2_pay_2 17 rfl rfl)
theorem dX2_pay_65 : decode cX2_pay 65 = .ok (.imul, 1) := dk_104 (dk_at dksX2_pay_2 18 rfl rfl)
theorem dX2_pay_66 : decode cX2_pay 66 = .ok (.iadd, 1) := dk_96 (dk_at dksX2_pay_2 19 rfl rfl)
theorem dX2_pay_67 : decode cX2_pay 67 = .ok (.iload_n 2, 1) := dk_28 (dk_at dksX2_pay_2 20 rfl rfl)
theorem dX2_pay_68 : decode cX2_pay 68 = .ok (.iadd, 1) := dk_96 (dk_at dksX2_pay_2 21 rfl rfl)
theorem dX2_pay_69 : decode cX2_pay 69 = .ok (.dup2, 1) := dk_92 (dk_at dksX2_pay_2 22 rfl rfl)
theorem dX2_pay_70 : decode cX2_pay 70 = .ok (.iaload, 1) := dk_46 (dk_at dksX2_pay_2 23 rfl rfl)
theorem dX2_pay_71 : decode cX2_pay 71 = .ok (.iload_n 3, 1) := dk_29 (dk_at dksX2_pay_3 0 rfl rfl)
theorem dX2_pay_72 : decode cX2_pay 72 = .ok (.isub, 1) := dk_100 (dk_at dksX2_pay_3 1 rfl rfl)
theorem dX2_pay_73 : decode cX2_pay 73 = .ok (.iastore, 1) := dk_79 (dk_at dksX2_pay_3 2 rfl rfl)
theorem dX2_pay_74 : decode cX2_pay 74 = .ok (.aload_n 0, 1) := dk_42 (dk_at dksX2_pay_3 3 rfl rfl)
theorem dX2_pay_75 : decode cX2_pay 75 = .ok (.iload_n 1, 1) := dk_27 (dk_at dksX2_pay_3 4 rfl rfl)
theorem dX2_pay_76 : decode cX2_pay 76 = .ok (.iload_n 2, 1) := dk_28 (dk_at dksX2_pay_3 5 rfl rfl)
theorem dX2_pay_77 : decode cX2_pay 77 = .ok (.invokevirtual 336, 3) := dk_182 1 80 (dk_at dksX2_pay_3 6 rfl rfl)
theorem dX2_pay_80 : decode cX2_pay 80 = .ok (.ireturn, 1) := dk_172 (dk_at dksX2_pay_3 9 rfl rfl)
abbrev cX2_undo : ByteArray := prog_16_method_122_code
def yX2_undo : MethodName := ⟨RX2, "undo", "()Z"⟩
def dkwX2_undo_2 : List UInt8 := [184, 0, 173, 4, 172]
abbrev dktX2_undo_2 : List UInt8 := dkwX2_undo_2 ++ []
def dkwX2_undo_1 : List UInt8 := [100, 181, 0, 180, 42, 180, 0, 35, 16, 36, 42, 180, 0, 180, 104, 42, 180, 0, 32, 3, 16, 36]
abbrev dktX2_undo_1 : List UInt8 := dkwX2_undo_1 ++ dktX2_undo_2
def dkwX2_undo_0 : List UInt8 := [42, 182, 0, 164, 42, 180, 0, 180, 154, 0, 10, 42, 16, 6, 182, 1, 146, 172, 42, 89, 180, 0, 180, 4]
abbrev dktX2_undo_0 : List UInt8 := dkwX2_undo_0 ++ dktX2_undo_1
theorem dksX2_undo_0 : cX2_undo.data.toList.drop 0 = dktX2_undo_0 := by decide +kernel
theorem dksX2_undo_1 : cX2_undo.data.toList.drop 24 = dktX2_undo_1 := dk_seg dksX2_undo_0 24 rfl rfl
theorem dksX2_undo_2 : cX2_undo.data.toList.drop 46 = dktX2_undo_2 := dk_seg dksX2_undo_1 22 rfl rfl
theorem dX2_undo_0 : decode cX2_undo 0 = .ok (.aload_n 0, 1) := dk_42 (dk_at dksX2_undo_0 0 rfl rfl)
theorem dX2_undo_1 : decode cX2_undo 1 = .ok (.invokevirtual 164, 3) := dk_182 0 164 (dk_at dksX2_undo_0 1 rfl rfl)
theorem dX2_undo_4 : decode cX2_undo 4 = .ok (.aload_n 0, 1) := dk_42 (dk_at dksX2_undo_0 4 rfl rfl)
theorem dX2_undo_5 : decode cX2_undo 5 = .ok (.getfield 180, 3) := dk_180 0 180 (dk_at dksX2_undo_0 5 rfl rfl)
theorem dX2_undo_8 : decode cX2_undo 8 = .ok (.ifCond .ne 10, 3) := dk_154 0 10 (dk_at dksX2_undo_0 8 rfl rfl)
theorem dX2_undo_11 : decode cX2_undo 11 = .ok (.aload_n 0, 1) := dk_42 (dk_at dksX2_undo_0 11 rfl rfl)
theorem dX2_undo_12 : decode cX2_undo 12 = .ok (.bipush 6, 2) := dk_16 6 (dk_at dksX2_undo_0 12 rfl rfl)
theorem dX2_undo_14 : decode cX2_undo 14 = .ok (.invokevirtual 402, 3) := dk_182 1 146 (dk_at dksX2_undo_0 14 rfl rfl)
theorem dX2_undo_17 : decode cX2_undo 17 = .ok (.ireturn, 1) := dk_172 (dk_at dksX2_undo_0 17 rfl rfl)
theorem dX2_undo_18 : decode cX2_undo 18 = .ok (.aload_n 0, 1) := dk_42 (dk_at dksX2_undo_0 18 rfl rfl)
theorem dX2_undo_19 : decode cX2_undo 19 = .ok (.dup, 1) := dk_89 (dk_at dksX2_undo_0 19 rfl rfl)
theorem dX2_undo_20 : decode cX2_undo 20 = .ok (.getfield 180, 3) := dk_180 0 180 (dk_at dksX2_undo_0 20 rfl rfl)
theorem dX2_undo_23 : decode cX2_undo 23 = .ok (.iconst 1, 1) := dk_4 (dk_at dksX2_undo_0 23 rfl rfl)
theorem dX2_undo_24 : decode cX2_undo 24 = .ok (.isub, 1) := dk_100 (dk_at dksX2_undo_1 0 rfl rfl)
theorem dX2_undo_25 : decode cX2_undo 25 = .ok (.putfield 180, 3) := dk_181 0 180 (dk_at dksX2_undo_1 1 rfl rfl)
theorem dX2_undo_28 : decode cX2_undo 28 = .ok (.aload_n 0, 1) := dk_42 (dk_at dksX2_undo_1 4 rfl rfl)
theorem dX2_undo_29 : decode cX2_undo 29 = .ok (.getfield 35, 3) := dk_180 0 35 (dk_at dksX2_undo_1 5 rfl rfl)
theorem dX2_undo_32 : decode cX2_undo 32 = .ok (.bipush 36, 2) := dk_16 36 (dk_at dksX2_undo_1 8 rfl rfl)
theorem dX2_undo_34 : decode cX2_undo 34 = .ok (.aload_n 0, 1) := dk_42 (dk_at dksX2_undo_1 10 rfl rfl)
theorem dX2_undo_35 : decode cX2_undo 35 = .ok (.getfield 180, 3) := dk_180 0 180 (dk_at dksX2_undo_1 11 rfl rfl)
theorem dX2_undo_38 : decode cX2_undo 38 = .ok (.imul, 1) := dk_104 (dk_at dksX2_undo_1 14 rfl rfl)
theorem dX2_undo_39 : decode cX2_undo 39 = .ok (.aload_n 0, 1) := dk_42 (dk_at dksX2_undo_1 15 rfl rfl)
theorem dX2_undo_40 : decode cX2_undo 40 = .ok (.getfield 32, 3) := dk_180 0 32 (dk_at dksX2_undo_1 16 rfl rfl)
theorem dX2_undo_43 : decode cX2_undo 43 = .ok (.iconst 0, 1) := dk_3 (dk_at dksX2_undo_1 19 rfl rfl)
theorem dX2_undo_44 : decode cX2_undo 44 = .ok (.bipush 36, 2) := dk_16 36 (dk_at dksX2_undo_1 20 rfl rfl)
theorem dX2_undo_46 : decode cX2_undo 46 = .ok (.invokestatic 173, 3) := dk_184 0 173 (dk_at dksX2_undo_2 0 rfl rfl)
theorem dX2_undo_49 : decode cX2_undo 49 = .ok (.iconst 1, 1) := dk_4 (dk_at dksX2_undo_2 3 rfl rfl)
theorem dX2_undo_50 : decode cX2_undo 50 = .ok (.ireturn, 1) := dk_172 (dk_at dksX2_undo_2 4 rfl rfl)
abbrev cX2_image : ByteArray := prog_16_method_123_code
def yX2_image : MethodName := ⟨RX2, "image", "()I"⟩
def dkwX2_image_2 : List UInt8 := [104, 16, 36, 184, 0, 173, 42, 89, 180, 0, 183, 4, 96, 181, 0, 183, 42, 180, 0, 183, 4, 100, 172]
abbrev dktX2_image_2 : List UInt8 := dkwX2_image_2 ++ []
def dkwX2_image_1 : List UInt8 := [160, 0, 9, 42, 6, 182, 0, 167, 172, 42, 180, 0, 32, 3, 42, 180, 0, 38, 16, 36, 42, 180, 0, 183]
abbrev dktX2_image_1 : List UInt8 := dkwX2_image_1 ++ dktX2_image_2
def dkwX2_image_0 : List UInt8 := [42, 182, 0, 164, 42, 180, 0, 177, 154, 0, 9, 42, 4, 182, 0, 167, 172, 42, 180, 0, 183, 6]
abbrev dktX2_image_0 : List UInt8 := dkwX2_image_0 ++ dktX2_image_1
theorem dksX2_image_0 : cX2_image.data.toList.drop 0 = dktX2_image_0 := by decide +kernel
theorem dksX2_image_1 : cX2_image.data.toList.drop 22 = dktX2_image_1 := dk_seg dksX2_image_0 22 rfl rfl
theorem dksX2_image_2 : cX2_image.data.toList.drop 46 = dktX2_image_2 := dk_seg dksX2_image_1 24 rfl rfl
theorem dX2_image_0 : decode cX2_image 0 = .ok (.aload_n 0, 1) := dk_42 (dk_at dksX2_image_0 0 rfl rfl)
theorem dX2_image_1 : decode cX2_image 1 = .ok (.invokevirtual 164, 3) := dk_182 0 164 (dk_at dksX2_image_0 1 rfl rfl)
theorem dX2_image_4 : decode cX2_image 4 = .ok (.aload_n 0, 1) := dk_42 (dk_at dksX2_image_0 4 rfl rfl)
theorem dX2_image_5 : decode cX2_image 5 = .ok (.getfield 177, 3) := dk_180 0 177 (dk_at dksX2_image_0 5 rfl rfl)
theorem dX2_image_8 : decode cX2_image 8 = .ok (.ifCond .ne 9, 3) := dk_154 0 9 (dk_at dksX2_image_0 8 rfl rfl)
theorem dX2_image_11 : decode cX2_image 11 = .ok (.aload_n 0, 1) := dk_42 (dk_at dksX2_image_0 11 rfl rfl)
theorem dX2_image_12 : decode cX2_image 12 = .ok (.iconst 1, 1) := dk_4 (dk_at dksX2_image_0 12 rfl rfl)
theorem dX2_image_13 : decode cX2_image 13 = .ok (.invokevirtual 167, 3) := dk_182 0 167 (dk_at dksX2_image_0 13 rfl rfl)
theorem dX2_image_16 : decode cX2_image 16 = .ok (.ireturn, 1) := dk_172 (dk_at dksX2_image_0 16 rfl rfl)
theorem dX2_image_17 : decode cX2_image 17 = .ok (.aload_n 0, 1) := dk_42 (dk_at dksX2_image_0 17 rfl rfl)
theorem dX2_image_18 : decode cX2_image 18 = .ok (.getfield 183, 3) := dk_180 0 183 (dk_at dksX2_image_0 18 rfl rfl)
theorem dX2_image_21 : decode cX2_image 21 = .ok (.iconst 3, 1) := dk_6 (dk_at dksX2_image_0 21 rfl rfl)
theorem dX2_image_22 : decode cX2_image 22 = .ok (.if_icmp .ne 9, 3) := dk_160 0 9 (dk_at dksX2_image_1 0 rfl rfl)
theorem dX2_image_25 : decode cX2_image 25 = .ok (.aload_n 0, 1) := dk_42 (dk_at dksX2_image_1 3 rfl rfl)
theorem dX2_image_26 : decode cX2_image 26 = .ok (.iconst 3, 1) := dk_6 (dk_at dksX2_image_1 4 rfl rfl)
theorem dX2_image_27 : decode cX2_image 27 = .ok (.invokevirtual 167, 3) := dk_182 0 167 (dk_at dksX2_image_1 5 rfl rfl)
theorem dX2_image_30 : decode cX2_image 30 = .ok (.ireturn, 1) := dk_172 (dk_at dksX2_image_1 8 rfl rfl)
theorem dX2_image_31 : decode cX2_image 31 = .ok (.aload_n 0, 1) := dk_42 (dk_at dksX2_image_1 9 rfl rfl)
theorem dX2_image_32 : decode cX2_image 32 = .ok (.getfield 32, 3) := dk_180 0 32 (dk_at dksX2_image_1 10 rfl rfl)
theorem dX2_image_35 : decode cX2_image 35 = .ok (.iconst 0, 1) := dk_3 (dk_at dksX2_image_1 13 rfl rfl)
theorem dX2_image_36 : decode cX2_image 36 = .ok (.aload_n 0, 1) := dk_42 (dk_at dksX2_image_1 14 rfl rfl)
theorem dX2_image_37 : decode cX2_image 37 = .ok (.getfield 38, 3) := dk_180 0 38 (dk_at dksX2_image_1 15 rfl rfl)
theorem dX2_image_40 : decode cX2_image 40 = .ok (.bipush 36, 2) := dk_16 36 (dk_at dksX2_image_1 18 rfl rfl)
theorem dX2_image_42 : decode cX2_image 42 = .ok (.aload_n 0, 1) := dk_42 (dk_at dksX2_image_1 20 rfl rfl)
theorem dX2_image_43 : decode cX2_image 43 = .ok (.getfield 183, 3) := dk_180 0 183 (dk_at dksX2_image_1 21 rfl rfl)
theorem dX2_image_46 : decode cX2_image 46 = .ok (.imul, 1) := dk_104 (dk_at dksX2_image_2 0 rfl rfl)
theorem dX2_image_47 : decode cX2_image 47 = .ok (.bipush 36, 2) := dk_16 36 (dk_at dksX2_image_2 1 rfl rfl)
theorem dX2_image_49 : decode cX2_image 49 = .ok (.invokestatic 173, 3) := dk_184 0 173 (dk_at dksX2_image_2 3 rfl rfl)
theorem dX2_image_52 : decode cX2_image 52 = .ok (.aload_n 0, 1) := dk_42 (dk_at dksX2_image_2 6 rfl rfl)
theorem dX2_image_53 : decode cX2_image 53 = .ok (.dup, 1) := dk_89 (dk_at dksX2_image_2 7 rfl rfl)
theorem dX2_image_54 : decode cX2_image 54 = .ok (.getfield 183, 3) := dk_180 0 183 (dk_at dksX2_image_2 8 rfl rfl)
theorem dX2_image_57 : decode cX2_image 57 = .ok (.iconst 1, 1) := dk_4 (dk_at dksX2_image_2 11 rfl rfl)
theorem dX2_image_58 : decode cX2_image 58 = .ok (.iadd, 1) := dk_96 (dk_at dksX2_image_2 12 rfl rfl)
theorem dX2_image_59 : decode cX2_image 59 = .ok (.putfield 183, 3) := dk_181 0 183 (dk_at dksX2_image_2 13 rfl rfl)
theorem dX2_image_62 : decode cX2_image 62 = .ok (.aload_n 0, 1) := dk_42 (dk_at dksX2_image_2 16 rfl rfl)
theorem dX2_image_63 : decode cX2_image 63 = .ok (.getfield 183, 3) := dk_180 0 183 (dk_at dksX2_image_2 17 rfl rfl)
theorem dX2_image_66 : decode cX2_image 66 = .ok (.iconst 1, 1) := dk_4 (dk_at dksX2_image_2 20 rfl rfl)
theorem dX2_image_67 : decode cX2_image 67 = .ok (.isub, 1) := dk_100 (dk_at dksX2_image_2 21 rfl rfl)
theorem dX2_image_68 : decode cX2_image 68 = .ok (.ireturn, 1) := dk_172 (dk_at dksX2_image_2 22 rfl rfl)
abbrev cX2_back : ByteArray := prog_16_method_124_code
def yX2_back : MethodName := ⟨RX2, "back", "(I)Z"⟩
def dkwX2_back_2 : List UInt8 := [172]
abbrev dktX2_back_2 : List UInt8 := dkwX2_back_2 ++ []
def dkwX2_back_1 : List UInt8 := [42, 180, 0, 38, 16, 36, 27, 104, 42, 180, 0, 32, 3, 16, 36, 184, 0, 173, 42, 3, 181, 0, 180, 4]
abbrev dktX2_back_1 : List UInt8 := dkwX2_back_1 ++ dktX2_back_2
def dkwX2_back_0 : List UInt8 := [42, 182, 0, 164, 27, 3, 42, 180, 0, 183, 4, 100, 184, 0, 146, 154, 0, 9, 42, 4, 182, 1, 146, 172]
abbrev dktX2_back_0 : List UInt8 := dkwX2_back_0 ++ dktX2_back_1
theorem dksX2_back_0 : cX2_back.data.toList.drop 0 = dktX2_back_0 := by decide +kernel
theorem dksX2_back_1 : cX2_back.data.toList.drop 24 = dktX2_back_1 := dk_seg dksX2_back_0 24 rfl rfl
theorem dksX2_back_2 : cX2_back.data.toList.drop 48 = dktX2_back_2 := dk_seg dksX2_back_1 24 rfl rfl
theorem dX2_back_0 : decode cX2_back 0 = .ok (.aload_n 0, 1) := dk_42 (dk_at dksX2_back_0 0 rfl rfl)
theorem dX2_back_1 : decode cX2_back 1 = .ok (.invokevirtual 164, 3) := dk_182 0 164 (dk_at dksX2_back_0 1 rfl rfl)
theorem dX2_back_4 : decode cX2_back 4 = .ok (.iload_n 1, 1) := dk_27 (dk_at dksX2_back_0 4 rfl rfl)
theorem dX2_back_5 : decode cX2_back 5 = .ok (.iconst 0, 1) := dk_3 (dk_at dksX2_back_0 5 rfl rfl)
theorem dX2_back_6 : decode cX2_back 6 = .ok (.aload_n 0, 1) := dk_42 (dk_at dksX2_back_0 6 rfl rfl)
theorem dX2_back_7 : decode cX2_back 7 = .ok (.getfield 183, 3) := dk_180 0 183 (dk_at dksX2_back_0 7 rfl rfl)
theorem dX2_back_10 : decode cX2_back 10 = .ok (.iconst 1, 1) := dk_4 (dk_at dksX2_back_0 10 rfl rfl)
theorem dX2_back_11 : decode cX2_back 11 = .ok (.isub, 1) := dk_100 (dk_at dksX2_back_0 11 rfl rfl)
theorem dX2_back_12 : decode cX2_back 12 = .ok (.invokestatic 146, 3) := dk_184 0 146 (dk_at dksX2_back_0 12 rfl rfl)
theorem dX2_back_15 : decode cX2_back 15 = .ok (.ifCond .ne 9, 3) := dk_154 0 9 (dk_at dksX2_back_0 15 rfl rfl)
theorem dX2_back_18 : decode cX2_back 18 = .ok (.aload_n 0, 1) := dk_42 (dk_at dksX2_back_0 18 rfl rfl)
theorem dX2_back_19 : decode cX2_back 19 = .ok (.iconst 1, 1) := dk_4 (dk_at dksX2_back_0 19 rfl rfl)
theorem dX2_back_20 : decode cX2_back 20 = .ok (.invokevirtual 402, 3) := dk_182 1 146 (dk_at dksX2_back_0 20 rfl rfl)
theorem dX2_back_23 : decode cX2_back 23 = .ok (.ireturn, 1) := dk_172 (dk_at dksX2_back_0 23 rfl rfl)
theorem dX2_back_24 : decode cX2_back 24 = .ok (.aload_n 0, 1) := dk_42 (dk_at dksX2_back_1 0 rfl rfl)
theorem dX2_back_25 : decode cX2_back 25 = .ok (.getfield 38, 3) := dk_180 0 38 (dk_at dksX2_back_1 1 rfl rfl)
theorem dX2_back_28 : decode cX2_back 28 = .ok (.bipush 36, 2) := dk_16 36 (dk_at dksX2_back_1 4 rfl rfl)
theorem dX2_back_30 : decode cX2_back 30 = .ok (.iload_n 1, 1) := dk_27 (dk_at dksX2_back_1 6 rfl rfl)
theorem dX2_back_31 : decode cX2_back 31 = .ok (.imul, 1) := dk_104 (dk_at dksX2_back_1 7 rfl rfl)
theorem dX2_back_32 : decode cX2_back 32 = .ok (.aload_n 0, 1) := dk_42 (dk_at dksX2_back_1 8 rfl rfl)
theorem dX2_back_33 : decode cX2_back 33 = .ok (.getfield 32, 3) := dk_180 0 32 (dk_at dksX2_back_1 9 rfl rfl)
theorem dX2_back_36 : decode cX2_back 36 = .ok (.iconst 0, 1) := dk_3 (dk_at dksX2_back_1 12 rfl rfl)
theorem dX2_back_37 : decode cX2_back 37 = .ok (.bipush 36, 2) := dk_16 36 (dk_at dksX2_back_1 13 rfl rfl)
theorem dX2_back_39 : decode cX2_back 39 = .ok (.invokestatic 173, 3) := dk_184 0 173 (dk_at dksX2_back_1 15 rfl rfl)
theorem dX2_back_42 : decode cX2_back 42 = .ok (.aload_n 0, 1) := dk_42 (dk_at dksX2_back_1 18 rfl rfl)
theorem dX2_back_43 : decode cX2_back 43 = .ok (.iconst 0, 1) := dk_3 (dk_at dksX2_back_1 19 rfl rfl)
theorem dX2_back_44 : decode cX2_back 44 = .ok (.putfield 180, 3) := dk_181 0 180 (dk_at dksX2_back_1 20 rfl rfl)
theorem dX2_back_47 : decode cX2_back 47 = .ok (.iconst 1, 1) := dk_4 (dk_at dksX2_back_1 23 rfl rfl)
theorem dX2_back_48 : decode cX2_back 48 = .ok (.ireturn, 1) := dk_172 (dk_at dksX2_back_2 0 rfl rfl)
abbrev cX2_led : ByteArray := prog_16_method_125_code
def yX2_led : MethodName := ⟨RX2, "led", "(I)I"⟩
def dkwX2_led_2 : List UInt8 := [29, 172, 132, 2, 1, 132, 3, 1, 167, 255, 205, 42, 4, 181, 0, 59, 3, 172]
abbrev dktX2_led_2 : List UInt8 := dkwX2_led_2 ++ []
def dkwX2_led_1 : List UInt8 := [180, 0, 32, 29, 46, 182, 1, 16, 154, 0, 6, 167, 0, 18, 28, 27, 160, 0, 10, 42, 3, 181, 0, 59]
abbrev dktX2_led_1 : List UInt8 := dkwX2_led_1 ++ dktX2_led_2
def dkwX2_led_0 : List UInt8 := [3, 61, 3, 62, 42, 180, 0, 177, 153, 0, 50, 29, 42, 180, 0, 20, 5, 46, 162, 0, 40, 42, 42]
abbrev dktX2_led_0 : List UInt8 := dkwX2_led_0 ++ dktX2_led_1
theorem dksX2_led_0 : cX2_led.data.toList.drop 0 = dktX2_led_0 := by decide +kernel
theorem dksX2_led_1 : cX2_led.data.toList.drop 23 = dktX2_led_1 := dk_seg dksX2_led_0 23 rfl rfl
theorem dksX2_led_2 : cX2_led.data.toList.drop 47 = dktX2_led_2 := dk_seg dksX2_led_1 24 rfl rfl
theorem dX2_led_0 : decode cX2_led 0 = .ok (.iconst 0, 1) := dk_3 (dk_at dksX2_led_0 0 rfl rfl)
theorem dX2_led_1 : decode cX2_led 1 = .ok (.istore_n 2, 1) := dk_61 (dk_at dksX2_led_0 1 rfl rfl)
theorem dX2_led_2 : decode cX2_led 2 = .ok (.iconst 0, 1) := dk_3 (dk_at dksX2_led_0 2 rfl rfl)
theorem dX2_led_3 : decode cX2_led 3 = .ok (.istore_n 3, 1) := dk_62 (dk_at dksX2_led_0 3 rfl rfl)
theorem dX2_led_4 : decode cX2_led 4 = .ok (.aload_n 0, 1) := dk_42 (dk_at dksX2_led_0 4 rfl rfl)
theorem dX2_led_5 : decode cX2_led 5 = .ok (.getfield 177, 3) := dk_180 0 177 (dk_at dksX2_led_0 5 rfl rfl)
theorem dX2_led_8 : decode cX2_led 8 = .ok (.ifCond .eq 50, 3) := dk_153 0 50 (dk_at dksX2_led_0 8 rfl rfl)
theorem dX2_led_11 : decode cX2_led 11 = .ok (.iload_n 3, 1) := dk_29 (dk_at dksX2_led_0 11 rfl rfl)
theorem dX2_led_12 : decode cX2_led 12 = .ok (.aload_n 0, 1) := dk_42 (dk_at dksX2_led_0 12 rfl rfl)
theorem dX2_led_13 : decode cX2_led 13 = .ok (.getfield 20, 3) := dk_180 0 20 (dk_at dksX2_led_0 13 rfl rfl)
theorem dX2_led_16 : decode cX2_led 16 = .ok (.iconst 2, 1) := dk_5 (dk_at dksX2_led_0 16 rfl rfl)
theorem dX2_led_17 : decode cX2_led 17 = .ok (.iaload, 1) := dk_46 (dk_at dksX2_led_0 17 rfl rfl)
theorem dX2_led_18 : decode cX2_led 18 = .ok (.if_icmp .ge 40, 3) := dk_162 0 40 (dk_at dksX2_led_0 18 rfl rfl)
theorem dX2_led_21 : decode cX2_led 21 = .ok (.aload_n 0, 1) := dk_42 (dk_at dksX2_led_0 21 rfl rfl)
theorem dX2_led_22 : decode cX2_led 22 = .ok (.aload_n 0, 1) := dk_42 (dk_at dksX2_led_0 22 rfl rfl)
theorem dX2_led_23 : decode cX2_led 23 = .ok (.getfield 32, 3) := dk_180 0 32 (dk_at dksX2_led_1 0 rfl rfl)
theorem dX2_led_26 : decode cX2_led 26 = .ok (.iload_n 3, 1) := dk_29 (dk_at dksX2_led_1 3 rfl rfl)
theorem dX2_led_27 : decode cX2_led 27 = .ok (.iaload, 1) := dk_46 (dk_at dksX2_led_1 4 rfl rfl)
theorem dX2_led_28 : decode cX2_led 28 = .ok (.invokevirtual 272, 3) := dk_182 1 16 (dk_at dksX2_led_1 5 rfl rfl)
theorem dX2_led_31 : decode cX2_led 31 = .ok (.ifCond .ne 6, 3) := dk_154 0 6 (dk_at dksX2_led_1 8 rfl rfl)
theorem dX2_led_34 : decode cX2_led 34 = .ok (.goto 18, 3) := dk_167 0 18 (dk_at dksX2_led_1 11 rfl rfl)
theorem dX2_led_37 : decode cX2_led 37 = .ok (.iload_n 2, 1) := dk_28 (dk_at dksX2_led_1 14 rfl rfl)
theorem dX2_led_38 : decode cX2_led 38 = .ok (.iload_n 1, 1) := dk_27 (dk_at dksX2_led_1 15 rfl rfl)
theorem dX2_led_39 : decode cX2_led 39 = .ok (.if_icmp .ne 10, 3) := dk_160 0 10 (dk_at dksX2_led_1 16 rfl rfl)
theorem dX2_led_42 : decode cX2_led 42 = .ok (.aload_n 0, 1) := dk_42 (dk_at dksX2_led_1 19 rfl rfl)
theorem dX2_led_43 : decode cX2_led 43 = .ok (.iconst 0, 1) := dk_3 (dk_at dksX2_led_1 20 rfl rfl)
theorem dX2_led_44 : decode cX2_led 44 = .ok (.putfield 59, 3) := dk_181 0 59 (dk_at dksX2_led_1 21 rfl rfl)
theorem dX2_led_47 : decode cX2_led 47 = .ok (.iload_n 3, 1) := dk_29 (dk_at dksX2_led_2 0 rfl rfl)
theorem dX2_led_48 : decode cX2_led 48 = .ok (.ireturn, 1) := dk_172 (dk_at dksX2_led_2 1 rfl rfl)
theorem dX2_led_49 : decode cX2_led 49 = .ok (.iinc 2 1, 3) := dk_132 2 1 (dk_at dksX2_led_2 2 rfl rfl)
theorem dX2_led_52 : decode cX2_led 52 = .ok (.iinc 3 1, 3) := dk_132 3 1 (dk_at dksX2_led_2 5 rfl rfl)
theorem dX2_led_55 : decode cX2_led 55 = .ok (.goto (-51), 3) := dk_167 255 205 (dk_at dksX2_led_2 8 rfl rfl)
theorem dX2_led_58 : decode cX2_led 58 = .ok (.aload_n 0, 1) := dk_42 (dk_at dksX2_led_2 11 rfl rfl)
theorem dX2_led_59 : decode cX2_led 59 = .ok (.iconst 1, 1) := dk_4 (dk_at dksX2_led_2 12 rfl rfl)
theorem dX2_led_60 : decode cX2_led 60 = .ok (.putfield 59, 3) := dk_181 0 59 (dk_at dksX2_led_2 13 rfl rfl)
theorem dX2_led_63 : decode cX2_led 63 = .ok (.iconst 0, 1) := dk_3 (dk_at dksX2_led_2 16 rfl rfl)
theorem dX2_led_64 : decode cX2_led 64 = .ok (.ireturn, 1) := dk_172 (dk_at dksX2_led_2 17 rfl rfl)
abbrev cX2_size : ByteArray := prog_16_method_126_code
def yX2_size : MethodName := ⟨RX2, "size", "(I)I"⟩
def dkwX2_size_4 : List UInt8 := [180, 0, 183, 167, 0, 4, 2, 172]
abbrev dktX2_size_4 : List UInt8 := dkwX2_size_4 ++ []
def dkwX2_size_3 : List UInt8 := [167, 0, 30, 27, 16, 8, 160, 0, 10, 42, 180, 0, 180, 167, 0, 17, 27, 16, 9, 160, 0, 10, 42]
abbrev dktX2_size_3 : List UInt8 := dkwX2_size_3 ++ dktX2_size_4
def dkwX2_size_2 : List UInt8 := [153, 0, 10, 42, 180, 0, 20, 27, 46, 172, 27, 16, 7, 160, 0, 13, 42, 180, 0, 32, 16, 35, 46]
abbrev dktX2_size_2 : List UInt8 := dkwX2_size_2 ++ dktX2_size_3
def dkwX2_size_1 : List UInt8 := [3, 16, 9, 184, 0, 146, 153, 0, 7, 3, 167, 0, 4, 2, 172, 27, 3, 16, 6, 184, 0, 146]
abbrev dktX2_size_1 : List UInt8 := dkwX2_size_1 ++ dktX2_size_2
def dkwX2_size_0 : List UInt8 := [42, 3, 181, 0, 59, 27, 16, 10, 160, 0, 8, 42, 180, 0, 65, 172, 42, 180, 0, 177, 154, 0, 19, 27]
abbrev dktX2_size_0 : List UInt8 := dkwX2_size_0 ++ dktX2_size_1
theorem dksX2_size_0 : cX2_size.data.toList.drop 0 = dktX2_size_0 := by decide +kernel
theorem dksX2_size_1 : cX2_size.data.toList.drop 24 = dktX2_size_1 := dk_seg dksX2_size_0 24 rfl rfl
theorem dksX2_size_2 : cX2_size.data.toList.drop 46 = dktX2_size_2 := dk_seg dksX2_size_1 22 rfl rfl
theorem dksX2_size_3 : cX2_size.data.toList.drop 69 = dktX2_size_3 := dk_seg dksX2_size_2 23 rfl rfl
theorem dksX2_size_4 : cX2_size.data.toList.drop 92 = dktX2_size_4 := dk_seg dksX2_size_3 23 rfl rfl
theorem dX2_size_0 : decode cX2_size 0 = .ok (.aload_n 0, 1) := dk_42 (dk_at dksX2_size_0 0 rfl rfl)
theorem dX2_size_1 : decode cX2_size 1 = .ok (.iconst 0, 1) := dk_3 (dk_at dksX2_size_0 1 rfl rfl)
theorem dX2_size_2 : decode cX2_size 2 = .ok (.putfield 59, 3) := dk_181 0 59 (dk_at dksX2_size_0 2 rfl rfl)
theorem dX2_size_5 : decode cX2_size 5 = .ok (.iload_n 1, 1) := dk_27 (dk_at dksX2_size_0 5 rfl rfl)
theorem dX2_size_6 : decode cX2_size 6 = .ok (.bipush 10, 2) := dk_16 10 (dk_at dksX2_size_0 6 rfl rfl)
theorem dX2_size_8 : decode cX2_size 8 = .ok (.if_icmp .ne 8, 3) := dk_160 0 8 (dk_at dksX2_size_0 8 rfl rfl)
theorem dX2_size_11 : decode cX2_size 11 = .ok (.aload_n 0, 1) := dk_42 (dk_at dksX2_size_0 11 rfl rfl)
theorem dX2_size_12 : decode cX2_size 12 = .ok (.getfield 65, 3) := dk_180 0 65 (dk_at dksX2_size_0 12 rfl rfl)
theorem dX2_size_15 : decode cX2_size 15 = .ok (.ireturn, 1) := dk_172 (dk_at dksX2_size_0 15 rfl rfl)
theorem dX2_size_16 : decode cX2_size 16 = .ok (.aload_n 0, 1) := dk_42 (dk_at dksX2_size_0 16 rfl rfl)
theorem dX2_size_17 : decode cX2_size 17 = .ok (.getfield 177, 3) := dk_180 0 177 (dk_at dksX2_size_0 17 rfl rfl)
theorem dX2_size_20 : decode cX2_size 20 = .ok (.ifCond .ne 19, 3) := dk_154 0 19 (dk_at dksX2_size_0 20 rfl rfl)
theorem dX2_size_23 : decode cX2_size 23 = .ok (.iload_n 1, 1) := dk_27 (dk_at dksX2_size_0 23 rfl rfl)
theorem dX2_size_24 : decode cX2_size 24 = .ok (.iconst 0, 1) := dk_3 (dk_at dksX2_size_1 0 rfl rfl)
theorem dX2_size_25 : decode cX2_size 25 = .ok (.bipush 9, 2) := dk_16 9 (dk_at dksX2_size_1 1 rfl rfl)
theorem dX2_size_27 : decode cX2_size 27 = .ok (.invokestatic 146, 3) := dk_184 0 146 (dk_at dksX2_size_1 3 rfl rfl)
theorem dX2_size_30 : decode cX2_size 30 = .ok (.ifCond .eq 7, 3) := dk_153 0 7 (dk_at dksX2_size_1 6 rfl rfl)
theorem dX2_size_33 : decode cX2_size 33 = .ok (.iconst 0, 1) := dk_3 (dk_at dksX2_size_1 9 rfl rfl)
theorem dX2_size_34 : decode cX2_size 34 = .ok (.goto 4, 3) := dk_167 0 4 (dk_at dksX2_size_1 10 rfl rfl)
theorem dX2_size_37 : decode cX2_size 37 = .ok (.iconst (-1), 1) := dk_2 (dk_at dksX2_size_1 13 rfl rfl)
theorem dX2_size_38 : decode cX2_size 38 = .ok (.ireturn, 1) := dk_172 (dk_at dksX2_size_1 14 rfl rfl)
theorem dX2_size_39 : decode cX2_size 39 = .ok (.iload_n 1, 1) := dk_27 (dk_at dksX2_size_1 15 rfl rfl)
theorem dX2_size_40 : decode cX2_size 40 = .ok (.iconst 0, 1) := dk_3 (dk_at dksX2_size_1 16 rfl rfl)
theorem dX2_size_41 : decode cX2_size 41 = .ok (.bipush 6, 2) := dk_16 6 (dk_at dksX2_size_1 17 rfl rfl)
theorem dX2_size_43 : decode cX2_size 43 = .ok (.invokestatic 146, 3) := dk_184 0 146 (dk_at dksX2_size_1 19 rfl rfl)
theorem dX2_size_46 : decode cX2_size 46 = .ok (.ifCond .eq 10, 3) := dk_153 0 10 (dk_at dksX2_size_2 0 rfl rfl)
theorem dX2_size_49 : decode cX2_size 49 = .ok (.aload_n 0, 1) := dk_42 (dk_at dksX2_size_2 3 rfl rfl)
theorem dX2_size_50 : decode cX2_size 50 = .ok (.getfield 20, 3) := dk_180 0 20 (dk_at dksX2_size_2 4 rfl rfl)
theorem dX2_size_53 : decode cX2_size 53 = .ok (.iload_n 1, 1) := dk_27 (dk_at dksX2_size_2 7 rfl rfl)
theorem dX2_size_54 : decode cX2_size 54 = .ok (.iaload, 1) := dk_46 (dk_at dksX2_size_2 8 rfl rfl)
theorem dX2_size_55 : decode cX2_size 55 = .ok (.ireturn, 1) := dk_172 (dk_at dksX2_size_2 9 rfl rfl)
theorem dX2_size_56 : decode cX2_size 56 = .ok (.iload_n 1, 1) := dk_27 (dk_at dksX2_size_2 10 rfl rfl)
theorem dX2_size_57 : decode cX2_size 57 = .ok (.bipush 7, 2) := dk_16 7 (dk_at dksX2_size_2 11 rfl rfl)
theorem dX2_size_59 : decode cX2_size 59 = .ok (.if_icmp .ne 13, 3) := dk_160 0 13 (dk_at dksX2_size_2 13 rfl rfl)
theorem dX2_size_62 : decode cX2_size 62 = .ok (.aload_n 0, 1) := dk_42 (dk_at dksX2_size_2 16 rfl rfl)
theorem dX2_size_63 : decode cX2_size 63 = .ok (.getfield 32, 3) := dk_180 0 32 (dk_at dksX2_size_2 17 rfl rfl)
theorem dX2_size_66 : decode cX2_size 66 = .ok (.bipush 35, 2) := dk_16 35 (dk_at dksX2_size_2 20 rfl rfl)
theorem dX2_size_68 : decode cX2_size 68 = .ok (.iaload, 1) := dk_46 (dk_at dksX2_size_2 22 rfl rfl)
theorem dX2_size_69 : decode cX2_size 69 = .ok (.goto 30, 3) := dk_167 0 30 (dk_at dksX2_size_3 0 rfl rfl)
theorem dX2_size_72 : decode cX2_size 72 = .ok (.iload_n 1, 1) := dk_27 (dk_at dksX2_size_3 3 rfl rfl)
theorem dX2_size_73 : decode cX2_size 73 = .ok (.bipush 8, 2) := dk_16 8 (dk_at dksX2_size_3 4 rfl rfl)
theorem dX2_size_75 : decode cX2_size 75 = .ok (.if_icmp .ne 10, 3) := dk_160 0 10 (dk_at dksX2_size_3 6 rfl rfl)
theorem dX2_size_78 : decode cX2_size 78 = .ok (.aload_n 0, 1) := dk_42 (dk_at dksX2_size_3 9 rfl rfl)
theorem dX2_size_79 : decode cX2_size 79 = .ok (.getfield 180, 3) := dk_180 0 180 (dk_at dksX2_size_3 10 rfl rfl)
theorem dX2_size_82 : decode cX2_size 82 = .ok (.goto 17, 3) := dk_167 0 17 (dk_at dksX2_size_3 13 rfl rfl)
theorem dX2_size_85 : decode cX2_size 85 = .ok (.iload_n 1, 1) := dk_27 (dk_at dksX2_size_3 16 rfl rfl)
theorem dX2_size_86 : decode cX2_size 86 = .ok (.bipush 9, 2) := dk_16 9 (dk_at dksX2_size_3 17 rfl rfl)
theorem dX2_size_88 : decode cX2_size 88 = .ok (.if_icmp .ne 10, 3) := dk_160 0 10 (dk_at dksX2_size_3 19 rfl rfl)
theorem dX2_size_91 : decode cX2_size 91 = .ok (.aload_n 0, 1) := dk_42 (dk_at dksX2_size_3 22 rfl rfl)
theorem dX2_size_92 : decode cX2_size 92 = .ok (.getfield 183, 3) := dk_180 0 183 (dk_at dksX2_size_4 0 rfl rfl)
theorem dX2_size_95 : decode cX2_size 95 = .ok (.goto 4, 3) := dk_167 0 4 (dk_at dksX2_size_4 3 rfl rfl)
theorem dX2_size_98 : decode cX2_size 98 = .ok (.iconst (-1), 1) := dk_2 (dk_at dksX2_size_4 6 rfl rfl)
theorem dX2_size_99 : decode cX2_size 99 = .ok (.ireturn, 1) := dk_172 (dk_at dksX2_size_4 7 rfl rfl)
abbrev cX2_trouble : ByteArray := prog_16_method_127_code
def yX2_trouble : MethodName := ⟨RX2, "trouble", "()I"⟩
def dkwX2_trouble_0 : List UInt8 := [42, 3, 181, 0, 59, 42, 180, 0, 62, 172]
abbrev dktX2_trouble_0 : List UInt8 := dkwX2_trouble_0 ++ []
theorem dksX2_trouble_0 : cX2_trouble.data.toList.drop 0 = dktX2_trouble_0 := by decide +kernel
theorem dX2_trouble_0 : decode cX2_trouble 0 = .ok (.aload_n 0, 1) := dk_42 (dk_at dksX2_trouble_0 0 rfl rfl)
theorem dX2_trouble_1 : decode cX2_trouble 1 = .ok (.iconst 0, 1) := dk_3 (dk_at dksX2_trouble_0 1 rfl rfl)
theorem dX2_trouble_2 : decode cX2_trouble 2 = .ok (.putfield 59, 3) := dk_181 0 59 (dk_at dksX2_trouble_0 2 rfl rfl)
theorem dX2_trouble_5 : decode cX2_trouble 5 = .ok (.aload_n 0, 1) := dk_42 (dk_at dksX2_trouble_0 5 rfl rfl)
theorem dX2_trouble_6 : decode cX2_trouble 6 = .ok (.getfield 62, 3) := dk_180 0 62 (dk_at dksX2_trouble_0 6 rfl rfl)
theorem dX2_trouble_9 : decode cX2_trouble 9 = .ok (.ireturn, 1) := dk_172 (dk_at dksX2_trouble_0 9 rfl rfl)
theorem q126 : (Jvm.Cond.initialized "FigureKneeModel") ∈ lw_all := lw_g (lw_at lw_m1 5 rfl) rfl
theorem q856 : (Jvm.Cond.selects "FigureKneeModel" ({ cls := "java/lang/Object", name := "getClass", desc := "()Ljava/lang/Class;" } : Jvm.MethodName) ({ cls := "java/lang/Object", name := "getClass", desc := "()Ljava/lang/Class;" } : Jvm.MethodName)) ∈ lw_all := lw_g (lw_at lw_m4 15 rfl) rfl
theorem q1521 : (Jvm.Cond.instantiable "FigureKneeModel" (42 : Nat)) ∈ lw_all := lw_g (lw_at lw_m6 200 rfl) rfl
theorem q1523 : (Jvm.Cond.instanceMethod ({ cls := "FigureKneeModel", name := "<init>", desc := "()V" } : Jvm.MethodName)) ∈ lw_all := lw_g (lw_at lw_m6 202 rfl) rfl
theorem q1524 : (Jvm.Cond.code ({ cls := "FigureKneeModel", name := "<init>", desc := "()V" } : Jvm.MethodName) prog_16_method_1_code (1 : Nat) (Option.none : Option Jvm.ClassFile.FieldType)) ∈ lw_all := lw_g (lw_at lw_m6 203 rfl) rfl
theorem q1525 : (Jvm.Cond.methodLink "FigureKneeModel" (1 : Nat) ({ cls := "java/lang/Object", name := "<init>", desc := "()V" } : Jvm.MethodName)) ∈ lw_all := lw_g (lw_at lw_m6 204 rfl) rfl
theorem q1526 : (Jvm.Cond.fieldLink "FigureKneeModel" (59 : Nat) "FigureKneeModel" "thrown" "I") ∈ lw_all := lw_g (lw_at lw_m6 205 rfl) rfl
theorem q1527 : (Jvm.Cond.fieldLink "FigureKneeModel" (7 : Nat) "FigureKneeModel" "tape" "[I") ∈ lw_all := lw_g (lw_at lw_m6 206 rfl) rfl
theorem q1528 : (Jvm.Cond.fieldLink "FigureKneeModel" (65 : Nat) "FigureKneeModel" "taped" "I") ∈ lw_all := lw_g (lw_at lw_m6 207 rfl) rfl
theorem q1529 : (Jvm.Cond.fieldLink "FigureKneeModel" (68 : Nat) "FigureKneeModel" "size" "I") ∈ lw_all := lw_g (lw_at lw_m6 208 rfl) rfl
theorem q1530 : (Jvm.Cond.fieldLink "FigureKneeModel" (78 : Nat) "FigureKneeModel" "at" "I") ∈ lw_all := lw_g (lw_at lw_m6 209 rfl) rfl
theorem q1531 : (Jvm.Cond.fieldLink "FigureKneeModel" (71 : Nat) "FigureKneeModel" "end" "I") ∈ lw_all := lw_g (lw_at lw_m6 210 rfl) rfl
theorem q1532 : (Jvm.Cond.fieldLink "FigureKneeModel" (87 : Nat) "FigureKneeModel" "token" "I") ∈ lw_all := lw_g (lw_at lw_m6 211 rfl) rfl
theorem q1533 : (Jvm.Cond.fieldLink "FigureKneeModel" (84 : Nat) "FigureKneeModel" "whole" "I") ∈ lw_all := lw_g (lw_at lw_m6 212 rfl) rfl
theorem q1534 : (Jvm.Cond.fieldLink "FigureKneeModel" (81 : Nat) "FigureKneeModel" "nameSize" "I") ∈ lw_all := lw_g (lw_at lw_m6 213 rfl) rfl
theorem q1535 : (Jvm.Cond.fieldLink "FigureKneeModel" (101 : Nat) "FigureKneeModel" "fault" "I") ∈ lw_all := lw_g (lw_at lw_m6 214 rfl) rfl
theorem q1536 : (Jvm.Cond.fieldLink "FigureKneeModel" (13 : Nat) "FigureKneeModel" "place" "I") ∈ lw_all := lw_g (lw_at lw_m6 215 rfl) rfl
theorem q1537 : (Jvm.Cond.fieldLink "FigureKneeModel" (62 : Nat) "FigureKneeModel" "trouble" "I") ∈ lw_all := lw_g (lw_at lw_m6 216 rfl) rfl
theorem q1538 : (Jvm.Cond.fieldLink "FigureKneeModel" (17 : Nat) "FigureKneeModel" "letters" "[I") ∈ lw_all := lw_g (lw_at lw_m6 217 rfl) rfl
theorem q1539 : (Jvm.Cond.fieldLink "FigureKneeModel" (97 : Nat) "FigureKneeModel" "failed" "Z") ∈ lw_all := lw_g (lw_at lw_m6 218 rfl) rfl
theorem q1540 : (Jvm.Cond.fieldLink "FigureKneeModel" (177 : Nat) "FigureKneeModel" "hasPier" "Z") ∈ lw_all := lw_g (lw_at lw_m6 219 rfl) rfl
theorem q1541 : (Jvm.Cond.fieldLink "FigureKneeModel" (20 : Nat) "FigureKneeModel" "\x72" "[I") ∈ lw_all := lw_g (lw_at lw_m6 220 rfl) rfl
theorem q1542 : (Jvm.Cond.fieldLink "FigureKneeModel" (23 : Nat) "FigureKneeModel" "fresh" "[I") ∈ lw_all := lw_g (lw_at lw_m6 221 rfl) rfl
theorem q1543 : (Jvm.Cond.fieldLink "FigureKneeModel" (26 : Nat) "FigureKneeModel" "told" "[I") ∈ lw_all := lw_g (lw_at lw_m6 222 rfl) rfl
theorem q1544 : (Jvm.Cond.fieldLink "FigureKneeModel" (29 : Nat) "FigureKneeModel" "read" "[I") ∈ lw_all := lw_g (lw_at lw_m6 223 rfl) rfl
theorem q1545 : (Jvm.Cond.fieldLink "FigureKneeModel" (32 : Nat) "FigureKneeModel" "st" "[I") ∈ lw_all := lw_g (lw_at lw_m6 224 rfl) rfl
theorem q1546 : (Jvm.Cond.fieldLink "FigureKneeModel" (35 : Nat) "FigureKneeModel" "undone" "[I") ∈ lw_all := lw_g (lw_at lw_m6 225 rfl) rfl
theorem q1547 : (Jvm.Cond.fieldLink "FigureKneeModel" (38 : Nat) "FigureKneeModel" "kept" "[I") ∈ lw_all := lw_g (lw_at lw_m6 226 rfl) rfl
theorem q1548 : (Jvm.Cond.fieldLink "FigureKneeModel" (180 : Nat) "FigureKneeModel" "undos" "I") ∈ lw_all := lw_g (lw_at lw_m6 227 rfl) rfl
theorem q1549 : (Jvm.Cond.fieldLink "FigureKneeModel" (183 : Nat) "FigureKneeModel" "images" "I") ∈ lw_all := lw_g (lw_at lw_m6 228 rfl) rfl
theorem q1550 : (Jvm.Cond.fieldLink "FigureKneeModel" (41 : Nat) "FigureKneeModel" "said" "[I") ∈ lw_all := lw_g (lw_at lw_m6 229 rfl) rfl
theorem q1551 : (Jvm.Cond.fieldLink "FigureKneeModel" (44 : Nat) "FigureKneeModel" "metAt" "[I") ∈ lw_all := lw_g (lw_at lw_m6 230 rfl) rfl
theorem q1552 : (Jvm.Cond.fieldLink "FigureKneeModel" (257 : Nat) "FigureKneeModel" "stateFrom" "I") ∈ lw_all := lw_g (lw_at lw_m6 231 rfl) rfl
theorem q1553 : (Jvm.Cond.fieldLink "FigureKneeModel" (260 : Nat) "FigureKneeModel" "stateRound" "I") ∈ lw_all := lw_g (lw_at lw_m6 232 rfl) rfl
theorem q1554 : (Jvm.Cond.fieldLink "FigureKneeModel" (269 : Nat) "FigureKneeModel" "from" "I") ∈ lw_all := lw_g (lw_at lw_m6 233 rfl) rfl
theorem q1555 : (Jvm.Cond.fieldLink "FigureKneeModel" (263 : Nat) "FigureKneeModel" "roundLong" "I") ∈ lw_all := lw_g (lw_at lw_m6 234 rfl) rfl
theorem q1556 : (Jvm.Cond.fieldLink "FigureKneeModel" (47 : Nat) "FigureKneeModel" "often" "[I") ∈ lw_all := lw_g (lw_at lw_m6 235 rfl) rfl
theorem q1557 : (Jvm.Cond.fieldLink "FigureKneeModel" (315 : Nat) "FigureKneeModel" "setMany" "I") ∈ lw_all := lw_g (lw_at lw_m6 236 rfl) rfl
theorem q1558 : (Jvm.Cond.fieldLink "FigureKneeModel" (318 : Nat) "FigureKneeModel" "someOf" "I") ∈ lw_all := lw_g (lw_at lw_m6 237 rfl) rfl
theorem q1559 : (Jvm.Cond.fieldLink "FigureKneeModel" (321 : Nat) "FigureKneeModel" "allOf" "I") ∈ lw_all := lw_g (lw_at lw_m6 238 rfl) rfl
theorem q1560 : (Jvm.Cond.fieldLink "FigureKneeModel" (50 : Nat) "FigureKneeModel" "way" "[I") ∈ lw_all := lw_g (lw_at lw_m6 239 rfl) rfl
theorem q1561 : (Jvm.Cond.fieldLink "FigureKneeModel" (53 : Nat) "FigureKneeModel" "ring" "[I") ∈ lw_all := lw_g (lw_at lw_m7 0 rfl) rfl
theorem q1562 : (Jvm.Cond.fieldLink "FigureKneeModel" (352 : Nat) "FigureKneeModel" "ringMany" "I") ∈ lw_all := lw_g (lw_at lw_m7 1 rfl) rfl
theorem q1563 : (Jvm.Cond.fieldLink "FigureKneeModel" (366 : Nat) "FigureKneeModel" "firstRest" "I") ∈ lw_all := lw_g (lw_at lw_m7 2 rfl) rfl
theorem q1564 : (Jvm.Cond.fieldLink "FigureKneeModel" (56 : Nat) "FigureKneeModel" "looked" "[I") ∈ lw_all := lw_g (lw_at lw_m7 3 rfl) rfl
theorem q1565 : (Jvm.Cond.fieldLink "FigureKneeModel" (385 : Nat) "FigureKneeModel" "allWeight" "J") ∈ lw_all := lw_g (lw_at lw_m7 4 rfl) rfl
theorem q1566 : (Jvm.Cond.fieldLink "FigureKneeModel" (389 : Nat) "FigureKneeModel" "moreWeight" "J") ∈ lw_all := lw_g (lw_at lw_m7 5 rfl) rfl
theorem q1567 : (Jvm.Cond.fieldLink "FigureKneeModel" (392 : Nat) "FigureKneeModel" "saidSum" "J") ∈ lw_all := lw_g (lw_at lw_m7 6 rfl) rfl
theorem q1568 : (Jvm.Cond.lays "FigureKneeModel" "FigureKneeModel" "thrown" "I") ∈ lw_all := lw_g (lw_at lw_m7 7 rfl) rfl
theorem q1569 : (Jvm.Cond.soleField "FigureKneeModel" "thrown") ∈ lw_all := lw_g (lw_at lw_m7 8 rfl) rfl
theorem q1570 : (Jvm.Cond.laysFinal "FigureKneeModel" "FigureKneeModel" "tape" "[I") ∈ lw_all := lw_g (lw_at lw_m7 9 rfl) rfl
theorem q1571 : (Jvm.Cond.soleField "FigureKneeModel" "tape") ∈ lw_all := lw_g (lw_at lw_m7 10 rfl) rfl
theorem q1572 : (Jvm.Cond.lays "FigureKneeModel" "FigureKneeModel" "taped" "I") ∈ lw_all := lw_g (lw_at lw_m7 11 rfl) rfl
theorem q1573 : (Jvm.Cond.soleField "FigureKneeModel" "taped") ∈ lw_all := lw_g (lw_at lw_m7 12 rfl) rfl
theorem q1574 : (Jvm.Cond.lays "FigureKneeModel" "FigureKneeModel" "size" "I") ∈ lw_all := lw_g (lw_at lw_m7 13 rfl) rfl
theorem q1575 : (Jvm.Cond.soleField "FigureKneeModel" "size") ∈ lw_all := lw_g (lw_at lw_m7 14 rfl) rfl
theorem q1576 : (Jvm.Cond.lays "FigureKneeModel" "FigureKneeModel" "at" "I") ∈ lw_all := lw_g (lw_at lw_m7 15 rfl) rfl
theorem q1577 : (Jvm.Cond.soleField "FigureKneeModel" "at") ∈ lw_all := lw_g (lw_at lw_m7 16 rfl) rfl
theorem q1578 : (Jvm.Cond.lays "FigureKneeModel" "FigureKneeModel" "end" "I") ∈ lw_all := lw_g (lw_at lw_m7 17 rfl) rfl
theorem q1579 : (Jvm.Cond.soleField "FigureKneeModel" "end") ∈ lw_all := lw_g (lw_at lw_m7 18 rfl) rfl
theorem q1580 : (Jvm.Cond.lays "FigureKneeModel" "FigureKneeModel" "token" "I") ∈ lw_all := lw_g (lw_at lw_m7 19 rfl) rfl
theorem q1581 : (Jvm.Cond.soleField "FigureKneeModel" "token") ∈ lw_all := lw_g (lw_at lw_m7 20 rfl) rfl
theorem q1582 : (Jvm.Cond.lays "FigureKneeModel" "FigureKneeModel" "whole" "I") ∈ lw_all := lw_g (lw_at lw_m7 21 rfl) rfl
theorem q1583 : (Jvm.Cond.soleField "FigureKneeModel" "whole") ∈ lw_all := lw_g (lw_at lw_m7 22 rfl) rfl
theorem q1584 : (Jvm.Cond.lays "FigureKneeModel" "FigureKneeModel" "nameSize" "I") ∈ lw_all := lw_g (lw_at lw_m7 23 rfl) rfl
theorem q1585 : (Jvm.Cond.soleField "FigureKneeModel" "nameSize") ∈ lw_all := lw_g (lw_at lw_m7 24 rfl) rfl
theorem q1586 : (Jvm.Cond.lays "FigureKneeModel" "FigureKneeModel" "fault" "I") ∈ lw_all := lw_g (lw_at lw_m7 25 rfl) rfl
theorem q1587 : (Jvm.Cond.soleField "FigureKneeModel" "fault") ∈ lw_all := lw_g (lw_at lw_m7 26 rfl) rfl
theorem q1588 : (Jvm.Cond.lays "FigureKneeModel" "FigureKneeModel" "place" "I") ∈ lw_all := lw_g (lw_at lw_m7 27 rfl) rfl
theorem q1589 : (Jvm.Cond.soleField "FigureKneeModel" "place") ∈ lw_all := lw_g (lw_at lw_m7 28 rfl) rfl
theorem q1590 : (Jvm.Cond.lays "FigureKneeModel" "FigureKneeModel" "trouble" "I") ∈ lw_all := lw_g (lw_at lw_m7 29 rfl) rfl
theorem q1591 : (Jvm.Cond.soleField "FigureKneeModel" "trouble") ∈ lw_all := lw_g (lw_at lw_m7 30 rfl) rfl
theorem q1592 : (Jvm.Cond.laysFinal "FigureKneeModel" "FigureKneeModel" "letters" "[I") ∈ lw_all := lw_g (lw_at lw_m7 31 rfl) rfl
theorem q1593 : (Jvm.Cond.soleField "FigureKneeModel" "letters") ∈ lw_all := lw_g (lw_at lw_m7 32 rfl) rfl
theorem q1594 : (Jvm.Cond.lays "FigureKneeModel" "FigureKneeModel" "failed" "Z") ∈ lw_all := lw_g (lw_at lw_m7 33 rfl) rfl
theorem q1595 : (Jvm.Cond.soleField "FigureKneeModel" "failed") ∈ lw_all := lw_g (lw_at lw_m7 34 rfl) rfl
theorem q1596 : (Jvm.Cond.lays "FigureKneeModel" "FigureKneeModel" "hasPier" "Z") ∈ lw_all := lw_g (lw_at lw_m7 35 rfl) rfl
theorem q1597 : (Jvm.Cond.soleField "FigureKneeModel" "hasPier") ∈ lw_all := lw_g (lw_at lw_m7 36 rfl) rfl
theorem q1598 : (Jvm.Cond.laysFinal "FigureKneeModel" "FigureKneeModel" "\x72" "[I") ∈ lw_all := lw_g (lw_at lw_m7 37 rfl) rfl
theorem q1599 : (Jvm.Cond.soleField "FigureKneeModel" "\x72") ∈ lw_all := lw_g (lw_at lw_m7 38 rfl) rfl
theorem q1600 : (Jvm.Cond.laysFinal "FigureKneeModel" "FigureKneeModel" "fresh" "[I") ∈ lw_all := lw_g (lw_at lw_m7 39 rfl) rfl
theorem q1601 : (Jvm.Cond.soleField "FigureKneeModel" "fresh") ∈ lw_all := lw_g (lw_at lw_m7 40 rfl) rfl
theorem q1602 : (Jvm.Cond.laysFinal "FigureKneeModel" "FigureKneeModel" "told" "[I") ∈ lw_all := lw_g (lw_at lw_m7 41 rfl) rfl
theorem q1603 : (Jvm.Cond.soleField "FigureKneeModel" "told") ∈ lw_all := lw_g (lw_at lw_m7 42 rfl) rfl
theorem q1604 : (Jvm.Cond.laysFinal "FigureKneeModel" "FigureKneeModel" "read" "[I") ∈ lw_all := lw_g (lw_at lw_m7 43 rfl) rfl
theorem q1605 : (Jvm.Cond.soleField "FigureKneeModel" "read") ∈ lw_all := lw_g (lw_at lw_m7 44 rfl) rfl
theorem q1606 : (Jvm.Cond.laysFinal "FigureKneeModel" "FigureKneeModel" "st" "[I") ∈ lw_all := lw_g (lw_at lw_m7 45 rfl) rfl
theorem q1607 : (Jvm.Cond.soleField "FigureKneeModel" "st") ∈ lw_all := lw_g (lw_at lw_m7 46 rfl) rfl
theorem q1608 : (Jvm.Cond.laysFinal "FigureKneeModel" "FigureKneeModel" "undone" "[I") ∈ lw_all := lw_g (lw_at lw_m7 47 rfl) rfl
theorem q1609 : (Jvm.Cond.soleField "FigureKneeModel" "undone") ∈ lw_all := lw_g (lw_at lw_m7 48 rfl) rfl
theorem q1610 : (Jvm.Cond.laysFinal "FigureKneeModel" "FigureKneeModel" "kept" "[I") ∈ lw_all := lw_g (lw_at lw_m7 49 rfl) rfl
theorem q1611 : (Jvm.Cond.soleField "FigureKneeModel" "kept") ∈ lw_all := lw_g (lw_at lw_m7 50 rfl) rfl
theorem q1612 : (Jvm.Cond.lays "FigureKneeModel" "FigureKneeModel" "undos" "I") ∈ lw_all := lw_g (lw_at lw_m7 51 rfl) rfl
theorem q1613 : (Jvm.Cond.soleField "FigureKneeModel" "undos") ∈ lw_all := lw_g (lw_at lw_m7 52 rfl) rfl
theorem q1614 : (Jvm.Cond.lays "FigureKneeModel" "FigureKneeModel" "images" "I") ∈ lw_all := lw_g (lw_at lw_m7 53 rfl) rfl
theorem q1615 : (Jvm.Cond.soleField "FigureKneeModel" "images") ∈ lw_all := lw_g (lw_at lw_m7 54 rfl) rfl
theorem q1616 : (Jvm.Cond.laysFinal "FigureKneeModel" "FigureKneeModel" "said" "[I") ∈ lw_all := lw_g (lw_at lw_m7 55 rfl) rfl
theorem q1617 : (Jvm.Cond.soleField "FigureKneeModel" "said") ∈ lw_all := lw_g (lw_at lw_m7 56 rfl) rfl
theorem q1618 : (Jvm.Cond.laysFinal "FigureKneeModel" "FigureKneeModel" "metAt" "[I") ∈ lw_all := lw_g (lw_at lw_m7 57 rfl) rfl
theorem q1619 : (Jvm.Cond.soleField "FigureKneeModel" "metAt") ∈ lw_all := lw_g (lw_at lw_m7 58 rfl) rfl
theorem q1620 : (Jvm.Cond.lays "FigureKneeModel" "FigureKneeModel" "stateFrom" "I") ∈ lw_all := lw_g (lw_at lw_m7 59 rfl) rfl
theorem q1621 : (Jvm.Cond.soleField "FigureKneeModel" "stateFrom") ∈ lw_all := lw_g (lw_at lw_m7 60 rfl) rfl
theorem q1622 : (Jvm.Cond.lays "FigureKneeModel" "FigureKneeModel" "stateRound" "I") ∈ lw_all := lw_g (lw_at lw_m7 61 rfl) rfl
theorem q1623 : (Jvm.Cond.soleField "FigureKneeModel" "stateRound") ∈ lw_all := lw_g (lw_at lw_m7 62 rfl) rfl
theorem q1624 : (Jvm.Cond.lays "FigureKneeModel" "FigureKneeModel" "from" "I") ∈ lw_all := lw_g (lw_at lw_m7 63 rfl) rfl
theorem q1625 : (Jvm.Cond.soleField "FigureKneeModel" "from") ∈ lw_all := lw_g (lw_at lw_m7 64 rfl) rfl
theorem q1626 : (Jvm.Cond.lays "FigureKneeModel" "FigureKneeModel" "roundLong" "I") ∈ lw_all := lw_g (lw_at lw_m7 65 rfl) rfl
theorem q1627 : (Jvm.Cond.soleField "FigureKneeModel" "roundLong") ∈ lw_all := lw_g (lw_at lw_m7 66 rfl) rfl
theorem q1628 : (Jvm.Cond.laysFinal "FigureKneeModel" "FigureKneeModel" "often" "[I") ∈ lw_all := lw_g (lw_at lw_m7 67 rfl) rfl
theorem q1629 : (Jvm.Cond.soleField "FigureKneeModel" "often") ∈ lw_all := lw_g (lw_at lw_m7 68 rfl) rfl
theorem q1630 : (Jvm.Cond.lays "FigureKneeModel" "FigureKneeModel" "setMany" "I") ∈ lw_all := lw_g (lw_at lw_m7 69 rfl) rfl
theorem q1631 : (Jvm.Cond.soleField "FigureKneeModel" "setMany") ∈ lw_all := lw_g (lw_at lw_m7 70 rfl) rfl
theorem q1632 : (Jvm.Cond.lays "FigureKneeModel" "FigureKneeModel" "someOf" "I") ∈ lw_all := lw_g (lw_at lw_m7 71 rfl) rfl
theorem q1633 : (Jvm.Cond.soleField "FigureKneeModel" "someOf") ∈ lw_all := lw_g (lw_at lw_m7 72 rfl) rfl
theorem q1634 : (Jvm.Cond.lays "FigureKneeModel" "FigureKneeModel" "allOf" "I") ∈ lw_all := lw_g (lw_at lw_m7 73 rfl) rfl
theorem q1635 : (Jvm.Cond.soleField "FigureKneeModel" "allOf") ∈ lw_all := lw_g (lw_at lw_m7 74 rfl) rfl
theorem q1636 : (Jvm.Cond.laysFinal "FigureKneeModel" "FigureKneeModel" "way" "[I") ∈ lw_all := lw_g (lw_at lw_m7 75 rfl) rfl
theorem q1637 : (Jvm.Cond.soleField "FigureKneeModel" "way") ∈ lw_all := lw_g (lw_at lw_m7 76 rfl) rfl
theorem q1638 : (Jvm.Cond.laysFinal "FigureKneeModel" "FigureKneeModel" "ring" "[I") ∈ lw_all := lw_g (lw_at lw_m7 77 rfl) rfl
theorem q1639 : (Jvm.Cond.soleField "FigureKneeModel" "ring") ∈ lw_all := lw_g (lw_at lw_m7 78 rfl) rfl
theorem q1640 : (Jvm.Cond.lays "FigureKneeModel" "FigureKneeModel" "ringMany" "I") ∈ lw_all := lw_g (lw_at lw_m7 79 rfl) rfl
theorem q1641 : (Jvm.Cond.soleField "FigureKneeModel" "ringMany") ∈ lw_all := lw_g (lw_at lw_m7 80 rfl) rfl
theorem q1642 : (Jvm.Cond.lays "FigureKneeModel" "FigureKneeModel" "firstRest" "I") ∈ lw_all := lw_g (lw_at lw_m7 81 rfl) rfl
theorem q1643 : (Jvm.Cond.soleField "FigureKneeModel" "firstRest") ∈ lw_all := lw_g (lw_at lw_m7 82 rfl) rfl
theorem q1644 : (Jvm.Cond.laysFinal "FigureKneeModel" "FigureKneeModel" "looked" "[I") ∈ lw_all := lw_g (lw_at lw_m7 83 rfl) rfl
theorem q1645 : (Jvm.Cond.soleField "FigureKneeModel" "looked") ∈ lw_all := lw_g (lw_at lw_m7 84 rfl) rfl
theorem q1646 : (Jvm.Cond.lays "FigureKneeModel" "FigureKneeModel" "allWeight" "J") ∈ lw_all := lw_g (lw_at lw_m7 85 rfl) rfl
theorem q1647 : (Jvm.Cond.soleField "FigureKneeModel" "allWeight") ∈ lw_all := lw_g (lw_at lw_m7 86 rfl) rfl
theorem q1648 : (Jvm.Cond.lays "FigureKneeModel" "FigureKneeModel" "moreWeight" "J") ∈ lw_all := lw_g (lw_at lw_m7 87 rfl) rfl
theorem q1649 : (Jvm.Cond.soleField "FigureKneeModel" "moreWeight") ∈ lw_all := lw_g (lw_at lw_m7 88 rfl) rfl
theorem q1650 : (Jvm.Cond.lays "FigureKneeModel" "FigureKneeModel" "saidSum" "J") ∈ lw_all := lw_g (lw_at lw_m7 89 rfl) rfl
theorem q1651 : (Jvm.Cond.soleField "FigureKneeModel" "saidSum") ∈ lw_all := lw_g (lw_at lw_m7 90 rfl) rfl
theorem q1652 : (Jvm.Cond.superclass "FigureKneeModel" "java/lang/Object") ∈ lw_all := lw_g (lw_at lw_m7 91 rfl) rfl
theorem q1654 : (Jvm.Cond.instanceMethod ({ cls := "FigureKneeModel", name := "thrown", desc := "()I" } : Jvm.MethodName)) ∈ lw_all := lw_g (lw_at lw_m7 93 rfl) rfl
theorem q1655 : (Jvm.Cond.selects "FigureKneeModel" ({ cls := "FigureKneeModel", name := "thrown", desc := "()I" } : Jvm.MethodName) ({ cls := "FigureKneeModel", name := "thrown", desc := "()I" } : Jvm.MethodName)) ∈ lw_all := lw_g (lw_at lw_m7 94 rfl) rfl
theorem q1656 : (Jvm.Cond.code ({ cls := "FigureKneeModel", name := "thrown", desc := "()I" } : Jvm.MethodName) prog_16_method_2_code (1 : Nat) (Option.some Jvm.ClassFile.FieldType.int)) ∈ lw_all := lw_g (lw_at lw_m7 95 rfl) rfl
theorem q1658 : (Jvm.Cond.instanceMethod ({ cls := "FigureKneeModel", name := "feed", desc := "(IIIII)I" } : Jvm.MethodName)) ∈ lw_all := lw_g (lw_at lw_m7 97 rfl) rfl
theorem q1659 : (Jvm.Cond.selects "FigureKneeModel" ({ cls := "FigureKneeModel", name := "feed", desc := "(IIIII)I" } : Jvm.MethodName) ({ cls := "FigureKneeModel", name := "feed", desc := "(IIIII)I" } : Jvm.MethodName)) ∈ lw_all := lw_g (lw_at lw_m7 98 rfl) rfl
theorem q1660 : (Jvm.Cond.code ({ cls := "FigureKneeModel", name := "feed", desc := "(IIIII)I" } : Jvm.MethodName) prog_16_method_11_code (8 : Nat) (Option.some Jvm.ClassFile.FieldType.int)) ∈ lw_all := lw_g (lw_at lw_m7 99 rfl) rfl
theorem q1662 : (Jvm.Cond.instanceMethod ({ cls := "FigureKneeModel", name := "pier", desc := "(I)I" } : Jvm.MethodName)) ∈ lw_all := lw_g (lw_at lw_m7 101 rfl) rfl
theorem q1663 : (Jvm.Cond.selects "FigureKneeModel" ({ cls := "FigureKneeModel", name := "pier", desc := "(I)I" } : Jvm.MethodName) ({ cls := "FigureKneeModel", name := "pier", desc := "(I)I" } : Jvm.MethodName)) ∈ lw_all := lw_g (lw_at lw_m7 102 rfl) rfl
theorem q1664 : (Jvm.Cond.code ({ cls := "FigureKneeModel", name := "pier", desc := "(I)I" } : Jvm.MethodName) prog_16_method_28_code (3 : Nat) (Option.some Jvm.ClassFile.FieldType.int)) ∈ lw_all := lw_g (lw_at lw_m7 103 rfl) rfl
theorem q1665 : (Jvm.Cond.methodLink "FigureKneeModel" (164 : Nat) ({ cls := "FigureKneeModel", name := "good", desc := "()V" } : Jvm.MethodName)) ∈ lw_all := lw_g (lw_at lw_m7 104 rfl) rfl
theorem q1666 : (Jvm.Cond.privateMethod ({ cls := "FigureKneeModel", name := "good", desc := "()V" } : Jvm.MethodName)) ∈ lw_tbl := lw_at lw_m7 105 rfl
theorem q1667 : (Jvm.Cond.instanceMethod ({ cls := "FigureKneeModel", name := "good", desc := "()V" } : Jvm.MethodName)) ∈ lw_all := lw_g (lw_at lw_m7 106 rfl) rfl
theorem q1668 : (Jvm.Cond.code ({ cls := "FigureKneeModel", name := "good", desc := "()V" } : Jvm.MethodName) prog_16_method_3_code (1 : Nat) (Option.none : Option Jvm.ClassFile.FieldType)) ∈ lw_all := lw_g (lw_at lw_m7 107 rfl) rfl
theorem q1669 : (Jvm.Cond.methodLink "FigureKneeModel" (146 : Nat) ({ cls := "FigureKneeModel", name := "in", desc := "(III)Z" } : Jvm.MethodName)) ∈ lw_all := lw_g (lw_at lw_m7 108 rfl) rfl
theorem q1670 : (Jvm.Cond.static ({ cls := "FigureKneeModel", name := "in", desc := "(III)Z" } : Jvm.MethodName)) ∈ lw_all := lw_g (lw_at lw_m7 109 rfl) rfl
theorem q1671 : (Jvm.Cond.code ({ cls := "FigureKneeModel", name := "in", desc := "(III)Z" } : Jvm.MethodName) prog_16_method_6_code (3 : Nat) (Option.some Jvm.ClassFile.FieldType.boolean)) ∈ lw_all := lw_g (lw_at lw_m7 110 rfl) rfl
theorem q1672 : (Jvm.Cond.methodLink "FigureKneeModel" (167 : Nat) ({ cls := "FigureKneeModel", name := "no", desc := "(I)I" } : Jvm.MethodName)) ∈ lw_all := lw_g (lw_at lw_m7 111 rfl) rfl
theorem q1673 : (Jvm.Cond.privateMethod ({ cls := "FigureKneeModel", name := "no", desc := "(I)I" } : Jvm.MethodName)) ∈ lw_tbl := lw_at lw_m7 112 rfl
theorem q1674 : (Jvm.Cond.instanceMethod ({ cls := "FigureKneeModel", name := "no", desc := "(I)I" } : Jvm.MethodName)) ∈ lw_all := lw_g (lw_at lw_m7 113 rfl) rfl
theorem q1675 : (Jvm.Cond.code ({ cls := "FigureKneeModel", name := "no", desc := "(I)I" } : Jvm.MethodName) prog_16_method_4_code (2 : Nat) (Option.some Jvm.ClassFile.FieldType.int)) ∈ lw_all := lw_g (lw_at lw_m7 114 rfl) rfl
theorem q1676 : (Jvm.Cond.methodLink "FigureKneeModel" (118 : Nat) ({ cls := "FigureKneeModel", name := "next", desc := "()V" } : Jvm.MethodName)) ∈ lw_all := lw_g (lw_at lw_m7 115 rfl) rfl
theorem q1677 : (Jvm.Cond.privateMethod ({ cls := "FigureKneeModel", name := "next", desc := "()V" } : Jvm.MethodName)) ∈ lw_tbl := lw_at lw_m7 116 rfl
theorem q1678 : (Jvm.Cond.instanceMethod ({ cls := "FigureKneeModel", name := "next", desc := "()V" } : Jvm.MethodName)) ∈ lw_all := lw_g (lw_at lw_m7 117 rfl) rfl
theorem q1679 : (Jvm.Cond.code ({ cls := "FigureKneeModel", name := "next", desc := "()V" } : Jvm.MethodName) prog_16_method_15_code (4 : Nat) (Option.none : Option Jvm.ClassFile.FieldType)) ∈ lw_all := lw_g (lw_at lw_m7 118 rfl) rfl
theorem q1680 : (Jvm.Cond.methodLink "FigureKneeModel" (74 : Nat) ({ cls := "FigureKneeModel", name := "see", desc := "(I)I" } : Jvm.MethodName)) ∈ lw_all := lw_g (lw_at lw_m7 119 rfl) rfl
theorem q1681 : (Jvm.Cond.privateMethod ({ cls := "FigureKneeModel", name := "see", desc := "(I)I" } : Jvm.MethodName)) ∈ lw_tbl := lw_at lw_m7 120 rfl
theorem q1682 : (Jvm.Cond.instanceMethod ({ cls := "FigureKneeModel", name := "see", desc := "(I)I" } : Jvm.MethodName)) ∈ lw_all := lw_g (lw_at lw_m7 121 rfl) rfl
theorem q1683 : (Jvm.Cond.code ({ cls := "FigureKneeModel", name := "see", desc := "(I)I" } : Jvm.MethodName) prog_16_method_12_code (2 : Nat) (Option.some Jvm.ClassFile.FieldType.int)) ∈ lw_all := lw_g (lw_at lw_m7 122 rfl) rfl
theorem q1684 : (Jvm.Cond.methodLink "FigureKneeModel" (90 : Nat) ({ cls := "FigureKneeModel", name := "isSmall", desc := "(I)Z" } : Jvm.MethodName)) ∈ lw_all := lw_g (lw_at lw_m7 123 rfl) rfl
theorem q1685 : (Jvm.Cond.static ({ cls := "FigureKneeModel", name := "isSmall", desc := "(I)Z" } : Jvm.MethodName)) ∈ lw_all := lw_g (lw_at lw_m7 124 rfl) rfl
theorem q1686 : (Jvm.Cond.code ({ cls := "FigureKneeModel", name := "isSmall", desc := "(I)Z" } : Jvm.MethodName) prog_16_method_13_code (1 : Nat) (Option.some Jvm.ClassFile.FieldType.boolean)) ∈ lw_all := lw_g (lw_at lw_m7 125 rfl) rfl
theorem q1687 : (Jvm.Cond.methodLink "FigureKneeModel" (94 : Nat) ({ cls := "FigureKneeModel", name := "isDigit", desc := "(I)Z" } : Jvm.MethodName)) ∈ lw_all := lw_g (lw_at lw_m7 126 rfl) rfl
theorem q1688 : (Jvm.Cond.static ({ cls := "FigureKneeModel", name := "isDigit", desc := "(I)Z" } : Jvm.MethodName)) ∈ lw_all := lw_g (lw_at lw_m7 127 rfl) rfl
theorem q1689 : (Jvm.Cond.code ({ cls := "FigureKneeModel", name := "isDigit", desc := "(I)Z" } : Jvm.MethodName) prog_16_method_14_code (1 : Nat) (Option.some Jvm.ClassFile.FieldType.boolean)) ∈ lw_all := lw_g (lw_at lw_m7 128 rfl) rfl
theorem q1690 : (Jvm.Cond.methodLink "FigureKneeModel" (170 : Nat) ({ cls := "FigureKneeModel", name := "readLine", desc := "()V" } : Jvm.MethodName)) ∈ lw_all := lw_g (lw_at lw_m7 129 rfl) rfl
theorem q1691 : (Jvm.Cond.privateMethod ({ cls := "FigureKneeModel", name := "readLine", desc := "()V" } : Jvm.MethodName)) ∈ lw_tbl := lw_at lw_m7 130 rfl
theorem q1692 : (Jvm.Cond.instanceMethod ({ cls := "FigureKneeModel", name := "readLine", desc := "()V" } : Jvm.MethodName)) ∈ lw_all := lw_g (lw_at lw_m7 131 rfl) rfl
theorem q1693 : (Jvm.Cond.code ({ cls := "FigureKneeModel", name := "readLine", desc := "()V" } : Jvm.MethodName) prog_16_method_30_code (1 : Nat) (Option.none : Option Jvm.ClassFile.FieldType)) ∈ lw_all := lw_g (lw_at lw_m7 132 rfl) rfl
theorem q1694 : (Jvm.Cond.stringRef "FigureKneeModel" (128 : Nat) "pier") ∈ lw_tbl := lw_at lw_m7 133 rfl
theorem q1695 : (Jvm.Cond.methodLink "FigureKneeModel" (114 : Nat) ({ cls := "FigureKneeModel", name := "isWord", desc := "(Ljava/lang/String;)Z" } : Jvm.MethodName)) ∈ lw_all := lw_g (lw_at lw_m7 134 rfl) rfl
theorem q1696 : (Jvm.Cond.privateMethod ({ cls := "FigureKneeModel", name := "isWord", desc := "(Ljava/lang/String;)Z" } : Jvm.MethodName)) ∈ lw_tbl := lw_at lw_m7 135 rfl
theorem q1697 : (Jvm.Cond.instanceMethod ({ cls := "FigureKneeModel", name := "isWord", desc := "(Ljava/lang/String;)Z" } : Jvm.MethodName)) ∈ lw_all := lw_g (lw_at lw_m7 136 rfl) rfl
theorem q1698 : (Jvm.Cond.code ({ cls := "FigureKneeModel", name := "isWord", desc := "(Ljava/lang/String;)Z" } : Jvm.MethodName) prog_16_method_17_code (4 : Nat) (Option.some Jvm.ClassFile.FieldType.boolean)) ∈ lw_all := lw_g (lw_at lw_m7 137 rfl) rfl
theorem q1699 : (Jvm.Cond.methodLink "FigureKneeModel" (104 : Nat) ({ cls := "java/lang/String", name := "length", desc := "()I" } : Jvm.MethodName)) ∈ lw_all := lw_g (lw_at lw_m7 138 rfl) rfl
theorem q1707 : (Jvm.Cond.methodLink "FigureKneeModel" (110 : Nat) ({ cls := "java/lang/String", name := "charAt", desc := "(I)C" } : Jvm.MethodName)) ∈ lw_all := lw_g (lw_at lw_m7 146 rfl) rfl
theorem q1718 : (Jvm.Cond.methodLink "FigureKneeModel" (186 : Nat) ({ cls := "FigureKneeModel", name := "pierLine", desc := "()V" } : Jvm.MethodName)) ∈ lw_all := lw_g (lw_at lw_m7 157 rfl) rfl
theorem q1719 : (Jvm.Cond.privateMethod ({ cls := "FigureKneeModel", name := "pierLine", desc := "()V" } : Jvm.MethodName)) ∈ lw_tbl := lw_at lw_m7 158 rfl
theorem q1720 : (Jvm.Cond.instanceMethod ({ cls := "FigureKneeModel", name := "pierLine", desc := "()V" } : Jvm.MethodName)) ∈ lw_all := lw_g (lw_at lw_m7 159 rfl) rfl
theorem q1721 : (Jvm.Cond.code ({ cls := "FigureKneeModel", name := "pierLine", desc := "()V" } : Jvm.MethodName) prog_16_method_31_code (1 : Nat) (Option.none : Option Jvm.ClassFile.FieldType)) ∈ lw_all := lw_g (lw_at lw_m7 160 rfl) rfl
theorem q1722 : (Jvm.Cond.methodLink "FigureKneeModel" (124 : Nat) ({ cls := "FigureKneeModel", name := "wrong", desc := "(II)V" } : Jvm.MethodName)) ∈ lw_all := lw_g (lw_at lw_m7 161 rfl) rfl
theorem q1723 : (Jvm.Cond.privateMethod ({ cls := "FigureKneeModel", name := "wrong", desc := "(II)V" } : Jvm.MethodName)) ∈ lw_tbl := lw_at lw_m7 162 rfl
theorem q1724 : (Jvm.Cond.instanceMethod ({ cls := "FigureKneeModel", name := "wrong", desc := "(II)V" } : Jvm.MethodName)) ∈ lw_all := lw_g (lw_at lw_m7 163 rfl) rfl
theorem q1725 : (Jvm.Cond.code ({ cls := "FigureKneeModel", name := "wrong", desc := "(II)V" } : Jvm.MethodName) prog_16_method_16_code (3 : Nat) (Option.none : Option Jvm.ClassFile.FieldType)) ∈ lw_all := lw_g (lw_at lw_m7 164 rfl) rfl
theorem q1726 : (Jvm.Cond.stringRef "FigureKneeModel" (208 : Nat) "words") ∈ lw_tbl := lw_at lw_m7 165 rfl
theorem q1727 : (Jvm.Cond.methodLink "FigureKneeModel" (210 : Nat) ({ cls := "FigureKneeModel", name := "after", desc := "(Ljava/lang/String;II)I" } : Jvm.MethodName)) ∈ lw_all := lw_g (lw_at lw_m7 166 rfl) rfl
theorem q1728 : (Jvm.Cond.privateMethod ({ cls := "FigureKneeModel", name := "after", desc := "(Ljava/lang/String;II)I" } : Jvm.MethodName)) ∈ lw_tbl := lw_at lw_m7 167 rfl
theorem q1729 : (Jvm.Cond.instanceMethod ({ cls := "FigureKneeModel", name := "after", desc := "(Ljava/lang/String;II)I" } : Jvm.MethodName)) ∈ lw_all := lw_g (lw_at lw_m7 168 rfl) rfl
theorem q1730 : (Jvm.Cond.code ({ cls := "FigureKneeModel", name := "after", desc := "(Ljava/lang/String;II)I" } : Jvm.MethodName) prog_16_method_27_code (4 : Nat) (Option.some Jvm.ClassFile.FieldType.int)) ∈ lw_all := lw_g (lw_at lw_m7 169 rfl) rfl
theorem q1731 : (Jvm.Cond.methodLink "FigureKneeModel" (157 : Nat) ({ cls := "FigureKneeModel", name := "must", desc := "(Ljava/lang/String;)V" } : Jvm.MethodName)) ∈ lw_all := lw_g (lw_at lw_m7 170 rfl) rfl
theorem q1732 : (Jvm.Cond.privateMethod ({ cls := "FigureKneeModel", name := "must", desc := "(Ljava/lang/String;)V" } : Jvm.MethodName)) ∈ lw_tbl := lw_at lw_m7 171 rfl
theorem q1733 : (Jvm.Cond.instanceMethod ({ cls := "FigureKneeModel", name := "must", desc := "(Ljava/lang/String;)V" } : Jvm.MethodName)) ∈ lw_all := lw_g (lw_at lw_m7 172 rfl) rfl
theorem q1734 : (Jvm.Cond.code ({ cls := "FigureKneeModel", name := "must", desc := "(Ljava/lang/String;)V" } : Jvm.MethodName) prog_16_method_19_code (2 : Nat) (Option.none : Option Jvm.ClassFile.FieldType)) ∈ lw_all := lw_g (lw_at lw_m7 173 rfl) rfl
theorem q1735 : (Jvm.Cond.methodLink "FigureKneeModel" (121 : Nat) ({ cls := "FigureKneeModel", name := "takesWord", desc := "(Ljava/lang/String;)Z" } : Jvm.MethodName)) ∈ lw_all := lw_g (lw_at lw_m7 174 rfl) rfl
theorem q1736 : (Jvm.Cond.privateMethod ({ cls := "FigureKneeModel", name := "takesWord", desc := "(Ljava/lang/String;)Z" } : Jvm.MethodName)) ∈ lw_tbl := lw_at lw_m7 175 rfl
theorem q1737 : (Jvm.Cond.instanceMethod ({ cls := "FigureKneeModel", name := "takesWord", desc := "(Ljava/lang/String;)Z" } : Jvm.MethodName)) ∈ lw_all := lw_g (lw_at lw_m7 176 rfl) rfl
theorem q1738 : (Jvm.Cond.code ({ cls := "FigureKneeModel", name := "takesWord", desc := "(Ljava/lang/String;)Z" } : Jvm.MethodName) prog_16_method_18_code (2 : Nat) (Option.some Jvm.ClassFile.FieldType.boolean)) ∈ lw_all := lw_g (lw_at lw_m7 177 rfl) rfl
theorem q1739 : (Jvm.Cond.methodLink "FigureKneeModel" (161 : Nat) ({ cls := "FigureKneeModel", name := "number", desc := "(II)I" } : Jvm.MethodName)) ∈ lw_all := lw_g (lw_at lw_m7 178 rfl) rfl
theorem q1740 : (Jvm.Cond.privateMethod ({ cls := "FigureKneeModel", name := "number", desc := "(II)I" } : Jvm.MethodName)) ∈ lw_tbl := lw_at lw_m7 179 rfl
theorem q1741 : (Jvm.Cond.instanceMethod ({ cls := "FigureKneeModel", name := "number", desc := "(II)I" } : Jvm.MethodName)) ∈ lw_all := lw_g (lw_at lw_m7 180 rfl) rfl
theorem q1742 : (Jvm.Cond.code ({ cls := "FigureKneeModel", name := "number", desc := "(II)I" } : Jvm.MethodName) prog_16_method_26_code (4 : Nat) (Option.some Jvm.ClassFile.FieldType.int)) ∈ lw_all := lw_g (lw_at lw_m7 181 rfl) rfl
theorem q1743 : (Jvm.Cond.methodLink "FigureKneeModel" (150 : Nat) ({ cls := "FigureKneeModel", name := "numberHere", desc := "(II)I" } : Jvm.MethodName)) ∈ lw_all := lw_g (lw_at lw_m7 182 rfl) rfl
theorem q1744 : (Jvm.Cond.privateMethod ({ cls := "FigureKneeModel", name := "numberHere", desc := "(II)I" } : Jvm.MethodName)) ∈ lw_tbl := lw_at lw_m7 183 rfl
theorem q1745 : (Jvm.Cond.instanceMethod ({ cls := "FigureKneeModel", name := "numberHere", desc := "(II)I" } : Jvm.MethodName)) ∈ lw_all := lw_g (lw_at lw_m7 184 rfl) rfl
theorem q1746 : (Jvm.Cond.code ({ cls := "FigureKneeModel", name := "numberHere", desc := "(II)I" } : Jvm.MethodName) prog_16_method_25_code (3 : Nat) (Option.some Jvm.ClassFile.FieldType.int)) ∈ lw_all := lw_g (lw_at lw_m7 185 rfl) rfl
theorem q1747 : (Jvm.Cond.methodLink "FigureKneeModel" (154 : Nat) ({ cls := "FigureKneeModel", name := "pass", desc := "()V" } : Jvm.MethodName)) ∈ lw_all := lw_g (lw_at lw_m7 186 rfl) rfl
theorem q1748 : (Jvm.Cond.privateMethod ({ cls := "FigureKneeModel", name := "pass", desc := "()V" } : Jvm.MethodName)) ∈ lw_tbl := lw_at lw_m7 187 rfl
theorem q1749 : (Jvm.Cond.instanceMethod ({ cls := "FigureKneeModel", name := "pass", desc := "()V" } : Jvm.MethodName)) ∈ lw_all := lw_g (lw_at lw_m7 188 rfl) rfl
theorem q1750 : (Jvm.Cond.code ({ cls := "FigureKneeModel", name := "pass", desc := "()V" } : Jvm.MethodName) prog_16_method_24_code (1 : Nat) (Option.none : Option Jvm.ClassFile.FieldType)) ∈ lw_all := lw_g (lw_at lw_m7 189 rfl) rfl
theorem q1751 : (Jvm.Cond.stringRef "FigureKneeModel" (214 : Nat) "dumb") ∈ lw_tbl := lw_at lw_m7 190 rfl
theorem q1752 : (Jvm.Cond.stringRef "FigureKneeModel" (130 : Nat) "pair") ∈ lw_tbl := lw_at lw_m7 191 rfl
theorem q1753 : (Jvm.Cond.methodLink "FigureKneeModel" (189 : Nat) ({ cls := "FigureKneeModel", name := "begins", desc := "(Ljava/lang/String;Z)Z" } : Jvm.MethodName)) ∈ lw_all := lw_g (lw_at lw_m7 192 rfl) rfl
theorem q1754 : (Jvm.Cond.privateMethod ({ cls := "FigureKneeModel", name := "begins", desc := "(Ljava/lang/String;Z)Z" } : Jvm.MethodName)) ∈ lw_tbl := lw_at lw_m7 193 rfl
theorem q1755 : (Jvm.Cond.instanceMethod ({ cls := "FigureKneeModel", name := "begins", desc := "(Ljava/lang/String;Z)Z" } : Jvm.MethodName)) ∈ lw_all := lw_g (lw_at lw_m7 194 rfl) rfl
theorem q1756 : (Jvm.Cond.code ({ cls := "FigureKneeModel", name := "begins", desc := "(Ljava/lang/String;Z)Z" } : Jvm.MethodName) prog_16_method_29_code (3 : Nat) (Option.some Jvm.ClassFile.FieldType.boolean)) ∈ lw_all := lw_g (lw_at lw_m7 195 rfl) rfl
theorem q1757 : (Jvm.Cond.methodLink "FigureKneeModel" (193 : Nat) ({ cls := "FigureKneeModel", name := "pairLine", desc := "()V" } : Jvm.MethodName)) ∈ lw_all := lw_g (lw_at lw_m7 196 rfl) rfl
theorem q1758 : (Jvm.Cond.privateMethod ({ cls := "FigureKneeModel", name := "pairLine", desc := "()V" } : Jvm.MethodName)) ∈ lw_tbl := lw_at lw_m7 197 rfl
theorem q1759 : (Jvm.Cond.instanceMethod ({ cls := "FigureKneeModel", name := "pairLine", desc := "()V" } : Jvm.MethodName)) ∈ lw_all := lw_g (lw_at lw_m7 198 rfl) rfl
theorem q1760 : (Jvm.Cond.code ({ cls := "FigureKneeModel", name := "pairLine", desc := "()V" } : Jvm.MethodName) prog_16_method_32_code (5 : Nat) (Option.none : Option Jvm.ClassFile.FieldType)) ∈ lw_all := lw_g (lw_at lw_m7 199 rfl) rfl
theorem q1761 : (Jvm.Cond.methodLink "FigureKneeModel" (216 : Nat) ({ cls := "FigureKneeModel", name := "newName", desc := "(I)V" } : Jvm.MethodName)) ∈ lw_all := lw_g (lw_at lw_m7 200 rfl) rfl
theorem q1762 : (Jvm.Cond.privateMethod ({ cls := "FigureKneeModel", name := "newName", desc := "(I)V" } : Jvm.MethodName)) ∈ lw_tbl := lw_at lw_m7 201 rfl
theorem q1763 : (Jvm.Cond.instanceMethod ({ cls := "FigureKneeModel", name := "newName", desc := "(I)V" } : Jvm.MethodName)) ∈ lw_all := lw_g (lw_at lw_m7 202 rfl) rfl
theorem q1764 : (Jvm.Cond.code ({ cls := "FigureKneeModel", name := "newName", desc := "(I)V" } : Jvm.MethodName) prog_16_method_22_code (3 : Nat) (Option.none : Option Jvm.ClassFile.FieldType)) ∈ lw_all := lw_g (lw_at lw_m7 203 rfl) rfl
theorem q1765 : (Jvm.Cond.methodLink "FigureKneeModel" (140 : Nat) ({ cls := "FigureKneeModel", name := "mustName", desc := "()V" } : Jvm.MethodName)) ∈ lw_all := lw_g (lw_at lw_m7 204 rfl) rfl
theorem q1766 : (Jvm.Cond.privateMethod ({ cls := "FigureKneeModel", name := "mustName", desc := "()V" } : Jvm.MethodName)) ∈ lw_tbl := lw_at lw_m7 205 rfl
theorem q1767 : (Jvm.Cond.instanceMethod ({ cls := "FigureKneeModel", name := "mustName", desc := "()V" } : Jvm.MethodName)) ∈ lw_all := lw_g (lw_at lw_m7 206 rfl) rfl
theorem q1768 : (Jvm.Cond.code ({ cls := "FigureKneeModel", name := "mustName", desc := "()V" } : Jvm.MethodName) prog_16_method_20_code (1 : Nat) (Option.none : Option Jvm.ClassFile.FieldType)) ∈ lw_all := lw_g (lw_at lw_m7 207 rfl) rfl
theorem q1769 : (Jvm.Cond.stringRef "FigureKneeModel" (132 : Nat) "contract") ∈ lw_tbl := lw_at lw_m7 208 rfl
theorem q1770 : (Jvm.Cond.stringRef "FigureKneeModel" (134 : Nat) "debt") ∈ lw_tbl := lw_at lw_m7 209 rfl
theorem q1771 : (Jvm.Cond.stringRef "FigureKneeModel" (136 : Nat) "unsure") ∈ lw_tbl := lw_at lw_m7 210 rfl
theorem q1772 : (Jvm.Cond.stringRef "FigureKneeModel" (138 : Nat) "heard") ∈ lw_tbl := lw_at lw_m7 211 rfl
theorem q1773 : (Jvm.Cond.methodLink "FigureKneeModel" (143 : Nat) ({ cls := "FigureKneeModel", name := "find", desc := "()I" } : Jvm.MethodName)) ∈ lw_all := lw_g (lw_at lw_m7 212 rfl) rfl
theorem q1774 : (Jvm.Cond.privateMethod ({ cls := "FigureKneeModel", name := "find", desc := "()I" } : Jvm.MethodName)) ∈ lw_tbl := lw_at lw_m7 213 rfl
theorem q1775 : (Jvm.Cond.instanceMethod ({ cls := "FigureKneeModel", name := "find", desc := "()I" } : Jvm.MethodName)) ∈ lw_all := lw_g (lw_at lw_m7 214 rfl) rfl
theorem q1776 : (Jvm.Cond.code ({ cls := "FigureKneeModel", name := "find", desc := "()I" } : Jvm.MethodName) prog_16_method_21_code (4 : Nat) (Option.some Jvm.ClassFile.FieldType.int)) ∈ lw_all := lw_g (lw_at lw_m7 215 rfl) rfl
theorem q1777 : (Jvm.Cond.stringRef "FigureKneeModel" (220 : Nat) "creeping") ∈ lw_tbl := lw_at lw_m7 216 rfl
theorem q1778 : (Jvm.Cond.stringRef "FigureKneeModel" (222 : Nat) "leaping") ∈ lw_tbl := lw_at lw_m7 217 rfl
theorem q1779 : (Jvm.Cond.stringRef "FigureKneeModel" (224 : Nat) "fading") ∈ lw_tbl := lw_at lw_m7 218 rfl
theorem q1780 : (Jvm.Cond.stringRef "FigureKneeModel" (226 : Nat) "swinging") ∈ lw_tbl := lw_at lw_m7 219 rfl
theorem q1781 : (Jvm.Cond.stringRef "FigureKneeModel" (228 : Nat) "figure") ∈ lw_tbl := lw_at lw_m7 220 rfl
theorem q1782 : (Jvm.Cond.stringRef "FigureKneeModel" (230 : Nat) "step") ∈ lw_tbl := lw_at lw_m7 221 rfl
theorem q1783 : (Jvm.Cond.methodLink "FigureKneeModel" (196 : Nat) ({ cls := "FigureKneeModel", name := "contractLine", desc := "()V" } : Jvm.MethodName)) ∈ lw_all := lw_g (lw_at lw_m7 222 rfl) rfl
theorem q1784 : (Jvm.Cond.privateMethod ({ cls := "FigureKneeModel", name := "contractLine", desc := "()V" } : Jvm.MethodName)) ∈ lw_tbl := lw_at lw_m7 223 rfl
theorem q1785 : (Jvm.Cond.instanceMethod ({ cls := "FigureKneeModel", name := "contractLine", desc := "()V" } : Jvm.MethodName)) ∈ lw_all := lw_g (lw_at lw_m7 224 rfl) rfl
theorem q1786 : (Jvm.Cond.code ({ cls := "FigureKneeModel", name := "contractLine", desc := "()V" } : Jvm.MethodName) prog_16_method_33_code (3 : Nat) (Option.none : Option Jvm.ClassFile.FieldType)) ∈ lw_all := lw_g (lw_at lw_m7 225 rfl) rfl
theorem q1787 : (Jvm.Cond.methodLink "FigureKneeModel" (232 : Nat) ({ cls := "FigureKneeModel", name := "pairHere", desc := "()I" } : Jvm.MethodName)) ∈ lw_all := lw_g (lw_at lw_m7 226 rfl) rfl
theorem q1788 : (Jvm.Cond.privateMethod ({ cls := "FigureKneeModel", name := "pairHere", desc := "()I" } : Jvm.MethodName)) ∈ lw_tbl := lw_at lw_m7 227 rfl
theorem q1789 : (Jvm.Cond.instanceMethod ({ cls := "FigureKneeModel", name := "pairHere", desc := "()I" } : Jvm.MethodName)) ∈ lw_all := lw_g (lw_at lw_m7 228 rfl) rfl
theorem q1790 : (Jvm.Cond.code ({ cls := "FigureKneeModel", name := "pairHere", desc := "()I" } : Jvm.MethodName) prog_16_method_23_code (2 : Nat) (Option.some Jvm.ClassFile.FieldType.int)) ∈ lw_all := lw_g (lw_at lw_m7 229 rfl) rfl
theorem q1791 : (Jvm.Cond.stringRef "FigureKneeModel" (235 : Nat) "every") ∈ lw_tbl := lw_at lw_m7 230 rfl
theorem q1792 : (Jvm.Cond.methodLink "FigureKneeModel" (199 : Nat) ({ cls := "FigureKneeModel", name := "debtLine", desc := "()V" } : Jvm.MethodName)) ∈ lw_all := lw_g (lw_at lw_m7 231 rfl) rfl
theorem q1793 : (Jvm.Cond.privateMethod ({ cls := "FigureKneeModel", name := "debtLine", desc := "()V" } : Jvm.MethodName)) ∈ lw_tbl := lw_at lw_m7 232 rfl
theorem q1794 : (Jvm.Cond.instanceMethod ({ cls := "FigureKneeModel", name := "debtLine", desc := "()V" } : Jvm.MethodName)) ∈ lw_all := lw_g (lw_at lw_m7 233 rfl) rfl
theorem q1795 : (Jvm.Cond.code ({ cls := "FigureKneeModel", name := "debtLine", desc := "()V" } : Jvm.MethodName) prog_16_method_34_code (4 : Nat) (Option.none : Option Jvm.ClassFile.FieldType)) ∈ lw_all := lw_g (lw_at lw_m7 234 rfl) rfl
theorem q1796 : (Jvm.Cond.methodLink "FigureKneeModel" (202 : Nat) ({ cls := "FigureKneeModel", name := "unsureLine", desc := "()V" } : Jvm.MethodName)) ∈ lw_all := lw_g (lw_at lw_m7 235 rfl) rfl
theorem q1797 : (Jvm.Cond.privateMethod ({ cls := "FigureKneeModel", name := "unsureLine", desc := "()V" } : Jvm.MethodName)) ∈ lw_tbl := lw_at lw_m7 236 rfl
theorem q1798 : (Jvm.Cond.instanceMethod ({ cls := "FigureKneeModel", name := "unsureLine", desc := "()V" } : Jvm.MethodName)) ∈ lw_all := lw_g (lw_at lw_m7 237 rfl) rfl
theorem q1799 : (Jvm.Cond.code ({ cls := "FigureKneeModel", name := "unsureLine", desc := "()V" } : Jvm.MethodName) prog_16_method_35_code (4 : Nat) (Option.none : Option Jvm.ClassFile.FieldType)) ∈ lw_all := lw_g (lw_at lw_m7 238 rfl) rfl
theorem q1800 : (Jvm.Cond.methodLink "FigureKneeModel" (205 : Nat) ({ cls := "FigureKneeModel", name := "heardLine", desc := "()V" } : Jvm.MethodName)) ∈ lw_all := lw_g (lw_at lw_m7 239 rfl) rfl
theorem q1801 : (Jvm.Cond.privateMethod ({ cls := "FigureKneeModel", name := "heardLine", desc := "()V" } : Jvm.MethodName)) ∈ lw_tbl := lw_at lw_m8 0 rfl
theorem q1802 : (Jvm.Cond.instanceMethod ({ cls := "FigureKneeModel", name := "heardLine", desc := "()V" } : Jvm.MethodName)) ∈ lw_all := lw_g (lw_at lw_m8 1 rfl) rfl
theorem q1803 : (Jvm.Cond.code ({ cls := "FigureKneeModel", name := "heardLine", desc := "()V" } : Jvm.MethodName) prog_16_method_36_code (5 : Nat) (Option.none : Option Jvm.ClassFile.FieldType)) ∈ lw_all := lw_g (lw_at lw_m8 2 rfl) rfl
theorem q1804 : (Jvm.Cond.stringRef "FigureKneeModel" (237 : Nat) "season") ∈ lw_tbl := lw_at lw_m8 3 rfl
theorem q1805 : (Jvm.Cond.methodLink "FigureKneeModel" (173 : Nat) ({ cls := "FigureKneeModel", name := "copy", desc := "([II[III)V" } : Jvm.MethodName)) ∈ lw_all := lw_g (lw_at lw_m8 4 rfl) rfl
theorem q1806 : (Jvm.Cond.static ({ cls := "FigureKneeModel", name := "copy", desc := "([II[III)V" } : Jvm.MethodName)) ∈ lw_all := lw_g (lw_at lw_m8 5 rfl) rfl
theorem q1807 : (Jvm.Cond.code ({ cls := "FigureKneeModel", name := "copy", desc := "([II[III)V" } : Jvm.MethodName) prog_16_method_9_code (6 : Nat) (Option.none : Option Jvm.ClassFile.FieldType)) ∈ lw_all := lw_g (lw_at lw_m8 6 rfl) rfl
theorem q1809 : (Jvm.Cond.instanceMethod ({ cls := "FigureKneeModel", name := "fault", desc := "()I" } : Jvm.MethodName)) ∈ lw_all := lw_g (lw_at lw_m8 8 rfl) rfl
theorem q1810 : (Jvm.Cond.selects "FigureKneeModel" ({ cls := "FigureKneeModel", name := "fault", desc := "()I" } : Jvm.MethodName) ({ cls := "FigureKneeModel", name := "fault", desc := "()I" } : Jvm.MethodName)) ∈ lw_all := lw_g (lw_at lw_m8 9 rfl) rfl
theorem q1811 : (Jvm.Cond.code ({ cls := "FigureKneeModel", name := "fault", desc := "()I" } : Jvm.MethodName) prog_16_method_37_code (1 : Nat) (Option.some Jvm.ClassFile.FieldType.int)) ∈ lw_all := lw_g (lw_at lw_m8 10 rfl) rfl
theorem q1813 : (Jvm.Cond.instanceMethod ({ cls := "FigureKneeModel", name := "where", desc := "()I" } : Jvm.MethodName)) ∈ lw_all := lw_g (lw_at lw_m8 12 rfl) rfl
theorem q1814 : (Jvm.Cond.selects "FigureKneeModel" ({ cls := "FigureKneeModel", name := "where", desc := "()I" } : Jvm.MethodName) ({ cls := "FigureKneeModel", name := "where", desc := "()I" } : Jvm.MethodName)) ∈ lw_all := lw_g (lw_at lw_m8 13 rfl) rfl
theorem q1815 : (Jvm.Cond.code ({ cls := "FigureKneeModel", name := "where", desc := "()I" } : Jvm.MethodName) prog_16_method_38_code (1 : Nat) (Option.some Jvm.ClassFile.FieldType.int)) ∈ lw_all := lw_g (lw_at lw_m8 14 rfl) rfl
theorem q1817 : (Jvm.Cond.instanceMethod ({ cls := "FigureKneeModel", name := "pair", desc := "(II)I" } : Jvm.MethodName)) ∈ lw_all := lw_g (lw_at lw_m8 16 rfl) rfl
theorem q1818 : (Jvm.Cond.selects "FigureKneeModel" ({ cls := "FigureKneeModel", name := "pair", desc := "(II)I" } : Jvm.MethodName) ({ cls := "FigureKneeModel", name := "pair", desc := "(II)I" } : Jvm.MethodName)) ∈ lw_all := lw_g (lw_at lw_m8 17 rfl) rfl
theorem q1819 : (Jvm.Cond.code ({ cls := "FigureKneeModel", name := "pair", desc := "(II)I" } : Jvm.MethodName) prog_16_method_50_code (3 : Nat) (Option.some Jvm.ClassFile.FieldType.int)) ∈ lw_all := lw_g (lw_at lw_m8 18 rfl) rfl
theorem q1820 : (Jvm.Cond.methodLink "FigureKneeModel" (239 : Nat) ({ cls := "FigureKneeModel", name := "isPair", desc := "(I)Z" } : Jvm.MethodName)) ∈ lw_all := lw_g (lw_at lw_m8 19 rfl) rfl
theorem q1821 : (Jvm.Cond.privateMethod ({ cls := "FigureKneeModel", name := "isPair", desc := "(I)Z" } : Jvm.MethodName)) ∈ lw_tbl := lw_at lw_m8 20 rfl
theorem q1822 : (Jvm.Cond.instanceMethod ({ cls := "FigureKneeModel", name := "isPair", desc := "(I)Z" } : Jvm.MethodName)) ∈ lw_all := lw_g (lw_at lw_m8 21 rfl) rfl
theorem q1823 : (Jvm.Cond.code ({ cls := "FigureKneeModel", name := "isPair", desc := "(I)Z" } : Jvm.MethodName) prog_16_method_39_code (2 : Nat) (Option.some Jvm.ClassFile.FieldType.boolean)) ∈ lw_all := lw_g (lw_at lw_m8 22 rfl) rfl
theorem q1824 : (Jvm.Cond.methodLink "FigureKneeModel" (272 : Nat) ({ cls := "FigureKneeModel", name := "isMore", desc := "(I)Z" } : Jvm.MethodName)) ∈ lw_all := lw_g (lw_at lw_m8 23 rfl) rfl
theorem q1825 : (Jvm.Cond.privateMethod ({ cls := "FigureKneeModel", name := "isMore", desc := "(I)Z" } : Jvm.MethodName)) ∈ lw_tbl := lw_at lw_m8 24 rfl
theorem q1826 : (Jvm.Cond.instanceMethod ({ cls := "FigureKneeModel", name := "isMore", desc := "(I)Z" } : Jvm.MethodName)) ∈ lw_all := lw_g (lw_at lw_m8 25 rfl) rfl
theorem q1827 : (Jvm.Cond.code ({ cls := "FigureKneeModel", name := "isMore", desc := "(I)Z" } : Jvm.MethodName) prog_16_method_45_code (2 : Nat) (Option.some Jvm.ClassFile.FieldType.boolean)) ∈ lw_all := lw_g (lw_at lw_m8 26 rfl) rfl
theorem q1829 : (Jvm.Cond.instanceMethod ({ cls := "FigureKneeModel", name := "says", desc := "(II)I" } : Jvm.MethodName)) ∈ lw_all := lw_g (lw_at lw_m8 28 rfl) rfl
theorem q1830 : (Jvm.Cond.selects "FigureKneeModel" ({ cls := "FigureKneeModel", name := "says", desc := "(II)I" } : Jvm.MethodName) ({ cls := "FigureKneeModel", name := "says", desc := "(II)I" } : Jvm.MethodName)) ∈ lw_all := lw_g (lw_at lw_m8 29 rfl) rfl
theorem q1831 : (Jvm.Cond.code ({ cls := "FigureKneeModel", name := "says", desc := "(II)I" } : Jvm.MethodName) prog_16_method_52_code (4 : Nat) (Option.some Jvm.ClassFile.FieldType.int)) ∈ lw_all := lw_g (lw_at lw_m8 30 rfl) rfl
theorem q1832 : (Jvm.Cond.methodLink "FigureKneeModel" (279 : Nat) ({ cls := "FigureKneeModel", name := "aheadWhy", desc := "(ZI)I" } : Jvm.MethodName)) ∈ lw_all := lw_g (lw_at lw_m8 31 rfl) rfl
theorem q1833 : (Jvm.Cond.privateMethod ({ cls := "FigureKneeModel", name := "aheadWhy", desc := "(ZI)I" } : Jvm.MethodName)) ∈ lw_tbl := lw_at lw_m8 32 rfl
theorem q1834 : (Jvm.Cond.instanceMethod ({ cls := "FigureKneeModel", name := "aheadWhy", desc := "(ZI)I" } : Jvm.MethodName)) ∈ lw_all := lw_g (lw_at lw_m8 33 rfl) rfl
theorem q1835 : (Jvm.Cond.code ({ cls := "FigureKneeModel", name := "aheadWhy", desc := "(ZI)I" } : Jvm.MethodName) prog_16_method_51_code (3 : Nat) (Option.some Jvm.ClassFile.FieldType.int)) ∈ lw_all := lw_g (lw_at lw_m8 34 rfl) rfl
theorem q1836 : (Jvm.Cond.methodLink "FigureKneeModel" (275 : Nat) ({ cls := "FigureKneeModel", name := "why", desc := "(ZZ)I" } : Jvm.MethodName)) ∈ lw_all := lw_g (lw_at lw_m8 35 rfl) rfl
theorem q1837 : (Jvm.Cond.privateMethod ({ cls := "FigureKneeModel", name := "why", desc := "(ZZ)I" } : Jvm.MethodName)) ∈ lw_tbl := lw_at lw_m8 36 rfl
theorem q1838 : (Jvm.Cond.instanceMethod ({ cls := "FigureKneeModel", name := "why", desc := "(ZZ)I" } : Jvm.MethodName)) ∈ lw_all := lw_g (lw_at lw_m8 37 rfl) rfl
theorem q1839 : (Jvm.Cond.code ({ cls := "FigureKneeModel", name := "why", desc := "(ZZ)I" } : Jvm.MethodName) prog_16_method_41_code (3 : Nat) (Option.some Jvm.ClassFile.FieldType.int)) ∈ lw_all := lw_g (lw_at lw_m8 38 rfl) rfl
theorem q1840 : (Jvm.Cond.methodLink "FigureKneeModel" (283 : Nat) ({ cls := "FigureKneeModel", name := "saysIn", desc := "(II)I" } : Jvm.MethodName)) ∈ lw_all := lw_g (lw_at lw_m8 39 rfl) rfl
theorem q1841 : (Jvm.Cond.privateMethod ({ cls := "FigureKneeModel", name := "saysIn", desc := "(II)I" } : Jvm.MethodName)) ∈ lw_tbl := lw_at lw_m8 40 rfl
theorem q1842 : (Jvm.Cond.instanceMethod ({ cls := "FigureKneeModel", name := "saysIn", desc := "(II)I" } : Jvm.MethodName)) ∈ lw_all := lw_g (lw_at lw_m8 41 rfl) rfl
theorem q1843 : (Jvm.Cond.code ({ cls := "FigureKneeModel", name := "saysIn", desc := "(II)I" } : Jvm.MethodName) prog_16_method_47_code (3 : Nat) (Option.some Jvm.ClassFile.FieldType.int)) ∈ lw_all := lw_g (lw_at lw_m8 42 rfl) rfl
theorem q1844 : (Jvm.Cond.methodLink "FigureKneeModel" (253 : Nat) ({ cls := "FigureKneeModel", name := "saysBy", desc := "(IIII)I" } : Jvm.MethodName)) ∈ lw_all := lw_g (lw_at lw_m8 43 rfl) rfl
theorem q1845 : (Jvm.Cond.privateMethod ({ cls := "FigureKneeModel", name := "saysBy", desc := "(IIII)I" } : Jvm.MethodName)) ∈ lw_tbl := lw_at lw_m8 44 rfl
theorem q1846 : (Jvm.Cond.instanceMethod ({ cls := "FigureKneeModel", name := "saysBy", desc := "(IIII)I" } : Jvm.MethodName)) ∈ lw_all := lw_g (lw_at lw_m8 45 rfl) rfl
theorem q1847 : (Jvm.Cond.code ({ cls := "FigureKneeModel", name := "saysBy", desc := "(IIII)I" } : Jvm.MethodName) prog_16_method_46_code (7 : Nat) (Option.some Jvm.ClassFile.FieldType.int)) ∈ lw_all := lw_g (lw_at lw_m8 46 rfl) rfl
theorem q1848 : (Jvm.Cond.methodLink "FigureKneeModel" (249 : Nat) ({ cls := "FigureKneeModel", name := "behind", desc := "(IIIIIZ)I" } : Jvm.MethodName)) ∈ lw_all := lw_g (lw_at lw_m8 47 rfl) rfl
theorem q1849 : (Jvm.Cond.privateMethod ({ cls := "FigureKneeModel", name := "behind", desc := "(IIIIIZ)I" } : Jvm.MethodName)) ∈ lw_tbl := lw_at lw_m8 48 rfl
theorem q1850 : (Jvm.Cond.instanceMethod ({ cls := "FigureKneeModel", name := "behind", desc := "(IIIIIZ)I" } : Jvm.MethodName)) ∈ lw_all := lw_g (lw_at lw_m8 49 rfl) rfl
theorem q1851 : (Jvm.Cond.code ({ cls := "FigureKneeModel", name := "behind", desc := "(IIIIIZ)I" } : Jvm.MethodName) prog_16_method_44_code (8 : Nat) (Option.some Jvm.ClassFile.FieldType.int)) ∈ lw_all := lw_g (lw_at lw_m8 50 rfl) rfl
theorem q1852 : (Jvm.Cond.methodLink "FigureKneeModel" (245 : Nat) ({ cls := "FigureKneeModel", name := "byLaw", desc := "(III)I" } : Jvm.MethodName)) ∈ lw_all := lw_g (lw_at lw_m8 51 rfl) rfl
theorem q1853 : (Jvm.Cond.privateMethod ({ cls := "FigureKneeModel", name := "byLaw", desc := "(III)I" } : Jvm.MethodName)) ∈ lw_tbl := lw_at lw_m8 52 rfl
theorem q1854 : (Jvm.Cond.instanceMethod ({ cls := "FigureKneeModel", name := "byLaw", desc := "(III)I" } : Jvm.MethodName)) ∈ lw_all := lw_g (lw_at lw_m8 53 rfl) rfl
theorem q1855 : (Jvm.Cond.code ({ cls := "FigureKneeModel", name := "byLaw", desc := "(III)I" } : Jvm.MethodName) prog_16_method_43_code (5 : Nat) (Option.some Jvm.ClassFile.FieldType.int)) ∈ lw_all := lw_g (lw_at lw_m8 54 rfl) rfl
theorem q1856 : (Jvm.Cond.methodLink "FigureKneeModel" (242 : Nat) ({ cls := "FigureKneeModel", name := "within", desc := "(I)I" } : Jvm.MethodName)) ∈ lw_all := lw_g (lw_at lw_m8 55 rfl) rfl
theorem q1857 : (Jvm.Cond.privateMethod ({ cls := "FigureKneeModel", name := "within", desc := "(I)I" } : Jvm.MethodName)) ∈ lw_tbl := lw_at lw_m8 56 rfl
theorem q1858 : (Jvm.Cond.instanceMethod ({ cls := "FigureKneeModel", name := "within", desc := "(I)I" } : Jvm.MethodName)) ∈ lw_all := lw_g (lw_at lw_m8 57 rfl) rfl
theorem q1859 : (Jvm.Cond.code ({ cls := "FigureKneeModel", name := "within", desc := "(I)I" } : Jvm.MethodName) prog_16_method_42_code (2 : Nat) (Option.some Jvm.ClassFile.FieldType.int)) ∈ lw_all := lw_g (lw_at lw_m8 58 rfl) rfl
theorem q1861 : (Jvm.Cond.instanceMethod ({ cls := "FigureKneeModel", name := "saysAll", desc := "(II)I" } : Jvm.MethodName)) ∈ lw_all := lw_g (lw_at lw_m8 60 rfl) rfl
theorem q1862 : (Jvm.Cond.selects "FigureKneeModel" ({ cls := "FigureKneeModel", name := "saysAll", desc := "(II)I" } : Jvm.MethodName) ({ cls := "FigureKneeModel", name := "saysAll", desc := "(II)I" } : Jvm.MethodName)) ∈ lw_all := lw_g (lw_at lw_m8 61 rfl) rfl
theorem q1863 : (Jvm.Cond.code ({ cls := "FigureKneeModel", name := "saysAll", desc := "(II)I" } : Jvm.MethodName) prog_16_method_53_code (6 : Nat) (Option.some Jvm.ClassFile.FieldType.int)) ∈ lw_all := lw_g (lw_at lw_m8 62 rfl) rfl
theorem q1865 : (Jvm.Cond.instanceMethod ({ cls := "FigureKneeModel", name := "moreIn", desc := "(I)I" } : Jvm.MethodName)) ∈ lw_all := lw_g (lw_at lw_m8 64 rfl) rfl
theorem q1866 : (Jvm.Cond.selects "FigureKneeModel" ({ cls := "FigureKneeModel", name := "moreIn", desc := "(I)I" } : Jvm.MethodName) ({ cls := "FigureKneeModel", name := "moreIn", desc := "(I)I" } : Jvm.MethodName)) ∈ lw_all := lw_g (lw_at lw_m8 65 rfl) rfl
theorem q1867 : (Jvm.Cond.code ({ cls := "FigureKneeModel", name := "moreIn", desc := "(I)I" } : Jvm.MethodName) prog_16_method_54_code (3 : Nat) (Option.some Jvm.ClassFile.FieldType.int)) ∈ lw_all := lw_g (lw_at lw_m8 66 rfl) rfl
theorem q1869 : (Jvm.Cond.instanceMethod ({ cls := "FigureKneeModel", name := "moreTimes", desc := "(II)I" } : Jvm.MethodName)) ∈ lw_all := lw_g (lw_at lw_m8 68 rfl) rfl
theorem q1870 : (Jvm.Cond.selects "FigureKneeModel" ({ cls := "FigureKneeModel", name := "moreTimes", desc := "(II)I" } : Jvm.MethodName) ({ cls := "FigureKneeModel", name := "moreTimes", desc := "(II)I" } : Jvm.MethodName)) ∈ lw_all := lw_g (lw_at lw_m8 69 rfl) rfl
theorem q1871 : (Jvm.Cond.code ({ cls := "FigureKneeModel", name := "moreTimes", desc := "(II)I" } : Jvm.MethodName) prog_16_method_55_code (6 : Nat) (Option.some Jvm.ClassFile.FieldType.int)) ∈ lw_all := lw_g (lw_at lw_m8 70 rfl) rfl
theorem q1873 : (Jvm.Cond.instanceMethod ({ cls := "FigureKneeModel", name := "settles", desc := "(I)I" } : Jvm.MethodName)) ∈ lw_all := lw_g (lw_at lw_m8 72 rfl) rfl
theorem q1874 : (Jvm.Cond.selects "FigureKneeModel" ({ cls := "FigureKneeModel", name := "settles", desc := "(I)I" } : Jvm.MethodName) ({ cls := "FigureKneeModel", name := "settles", desc := "(I)I" } : Jvm.MethodName)) ∈ lw_all := lw_g (lw_at lw_m8 73 rfl) rfl
theorem q1875 : (Jvm.Cond.code ({ cls := "FigureKneeModel", name := "settles", desc := "(I)I" } : Jvm.MethodName) prog_16_method_56_code (2 : Nat) (Option.some Jvm.ClassFile.FieldType.int)) ∈ lw_all := lw_g (lw_at lw_m8 74 rfl) rfl
theorem q1876 : (Jvm.Cond.methodLink "FigureKneeModel" (286 : Nat) ({ cls := "FigureKneeModel", name := "goRound", desc := "(I)V" } : Jvm.MethodName)) ∈ lw_all := lw_g (lw_at lw_m8 75 rfl) rfl
theorem q1877 : (Jvm.Cond.privateMethod ({ cls := "FigureKneeModel", name := "goRound", desc := "(I)V" } : Jvm.MethodName)) ∈ lw_tbl := lw_at lw_m8 76 rfl
theorem q1878 : (Jvm.Cond.instanceMethod ({ cls := "FigureKneeModel", name := "goRound", desc := "(I)V" } : Jvm.MethodName)) ∈ lw_all := lw_g (lw_at lw_m8 77 rfl) rfl
theorem q1879 : (Jvm.Cond.code ({ cls := "FigureKneeModel", name := "goRound", desc := "(I)V" } : Jvm.MethodName) prog_16_method_48_code (7 : Nat) (Option.none : Option Jvm.ClassFile.FieldType)) ∈ lw_all := lw_g (lw_at lw_m8 78 rfl) rfl
theorem q1880 : (Jvm.Cond.methodLink "FigureKneeModel" (266 : Nat) ({ cls := "FigureKneeModel", name := "isRoundOf", desc := "(I)Z" } : Jvm.MethodName)) ∈ lw_all := lw_g (lw_at lw_m8 79 rfl) rfl
theorem q1881 : (Jvm.Cond.privateMethod ({ cls := "FigureKneeModel", name := "isRoundOf", desc := "(I)Z" } : Jvm.MethodName)) ∈ lw_tbl := lw_at lw_m8 80 rfl
theorem q1882 : (Jvm.Cond.instanceMethod ({ cls := "FigureKneeModel", name := "isRoundOf", desc := "(I)Z" } : Jvm.MethodName)) ∈ lw_all := lw_g (lw_at lw_m8 81 rfl) rfl
theorem q1883 : (Jvm.Cond.code ({ cls := "FigureKneeModel", name := "isRoundOf", desc := "(I)Z" } : Jvm.MethodName) prog_16_method_49_code (3 : Nat) (Option.some Jvm.ClassFile.FieldType.boolean)) ∈ lw_all := lw_g (lw_at lw_m8 82 rfl) rfl
theorem q1885 : (Jvm.Cond.instanceMethod ({ cls := "FigureKneeModel", name := "round", desc := "(I)I" } : Jvm.MethodName)) ∈ lw_all := lw_g (lw_at lw_m8 84 rfl) rfl
theorem q1886 : (Jvm.Cond.selects "FigureKneeModel" ({ cls := "FigureKneeModel", name := "round", desc := "(I)I" } : Jvm.MethodName) ({ cls := "FigureKneeModel", name := "round", desc := "(I)I" } : Jvm.MethodName)) ∈ lw_all := lw_g (lw_at lw_m8 85 rfl) rfl
theorem q1887 : (Jvm.Cond.code ({ cls := "FigureKneeModel", name := "round", desc := "(I)I" } : Jvm.MethodName) prog_16_method_57_code (2 : Nat) (Option.some Jvm.ClassFile.FieldType.int)) ∈ lw_all := lw_g (lw_at lw_m8 86 rfl) rfl
theorem q1889 : (Jvm.Cond.instanceMethod ({ cls := "FigureKneeModel", name := "saysLate", desc := "(II)I" } : Jvm.MethodName)) ∈ lw_all := lw_g (lw_at lw_m8 88 rfl) rfl
theorem q1890 : (Jvm.Cond.selects "FigureKneeModel" ({ cls := "FigureKneeModel", name := "saysLate", desc := "(II)I" } : Jvm.MethodName) ({ cls := "FigureKneeModel", name := "saysLate", desc := "(II)I" } : Jvm.MethodName)) ∈ lw_all := lw_g (lw_at lw_m8 89 rfl) rfl
theorem q1891 : (Jvm.Cond.code ({ cls := "FigureKneeModel", name := "saysLate", desc := "(II)I" } : Jvm.MethodName) prog_16_method_58_code (4 : Nat) (Option.some Jvm.ClassFile.FieldType.int)) ∈ lw_all := lw_g (lw_at lw_m8 90 rfl) rfl
theorem q1892 : (Jvm.Cond.constant "FigureKneeModel" (289 : Nat) (2000000000 : Int32)) ∈ lw_all := lw_g (lw_at lw_m8 91 rfl) rfl
theorem q1894 : (Jvm.Cond.instanceMethod ({ cls := "FigureKneeModel", name := "roundMost", desc := "(I)I" } : Jvm.MethodName)) ∈ lw_all := lw_g (lw_at lw_m8 93 rfl) rfl
theorem q1895 : (Jvm.Cond.selects "FigureKneeModel" ({ cls := "FigureKneeModel", name := "roundMost", desc := "(I)I" } : Jvm.MethodName) ({ cls := "FigureKneeModel", name := "roundMost", desc := "(I)I" } : Jvm.MethodName)) ∈ lw_all := lw_g (lw_at lw_m8 94 rfl) rfl
theorem q1896 : (Jvm.Cond.code ({ cls := "FigureKneeModel", name := "roundMost", desc := "(I)I" } : Jvm.MethodName) prog_16_method_60_code (2 : Nat) (Option.some Jvm.ClassFile.FieldType.int)) ∈ lw_all := lw_g (lw_at lw_m8 95 rfl) rfl
theorem q1897 : (Jvm.Cond.methodLink "FigureKneeModel" (290 : Nat) ({ cls := "FigureKneeModel", name := "extremeOf", desc := "(II)I" } : Jvm.MethodName)) ∈ lw_all := lw_g (lw_at lw_m8 96 rfl) rfl
theorem q1898 : (Jvm.Cond.privateMethod ({ cls := "FigureKneeModel", name := "extremeOf", desc := "(II)I" } : Jvm.MethodName)) ∈ lw_tbl := lw_at lw_m8 97 rfl
theorem q1899 : (Jvm.Cond.instanceMethod ({ cls := "FigureKneeModel", name := "extremeOf", desc := "(II)I" } : Jvm.MethodName)) ∈ lw_all := lw_g (lw_at lw_m8 98 rfl) rfl
theorem q1900 : (Jvm.Cond.code ({ cls := "FigureKneeModel", name := "extremeOf", desc := "(II)I" } : Jvm.MethodName) prog_16_method_59_code (5 : Nat) (Option.some Jvm.ClassFile.FieldType.int)) ∈ lw_all := lw_g (lw_at lw_m8 99 rfl) rfl
theorem q1902 : (Jvm.Cond.instanceMethod ({ cls := "FigureKneeModel", name := "roundLeast", desc := "(I)I" } : Jvm.MethodName)) ∈ lw_all := lw_g (lw_at lw_m8 101 rfl) rfl
theorem q1903 : (Jvm.Cond.selects "FigureKneeModel" ({ cls := "FigureKneeModel", name := "roundLeast", desc := "(I)I" } : Jvm.MethodName) ({ cls := "FigureKneeModel", name := "roundLeast", desc := "(I)I" } : Jvm.MethodName)) ∈ lw_all := lw_g (lw_at lw_m8 102 rfl) rfl
theorem q1904 : (Jvm.Cond.code ({ cls := "FigureKneeModel", name := "roundLeast", desc := "(I)I" } : Jvm.MethodName) prog_16_method_61_code (2 : Nat) (Option.some Jvm.ClassFile.FieldType.int)) ∈ lw_all := lw_g (lw_at lw_m8 103 rfl) rfl
theorem q1906 : (Jvm.Cond.instanceMethod ({ cls := "FigureKneeModel", name := "turnsAbout", desc := "(I)I" } : Jvm.MethodName)) ∈ lw_all := lw_g (lw_at lw_m8 105 rfl) rfl
theorem q1907 : (Jvm.Cond.selects "FigureKneeModel" ({ cls := "FigureKneeModel", name := "turnsAbout", desc := "(I)I" } : Jvm.MethodName) ({ cls := "FigureKneeModel", name := "turnsAbout", desc := "(I)I" } : Jvm.MethodName)) ∈ lw_all := lw_g (lw_at lw_m8 106 rfl) rfl
theorem q1908 : (Jvm.Cond.code ({ cls := "FigureKneeModel", name := "turnsAbout", desc := "(I)I" } : Jvm.MethodName) prog_16_method_62_code (4 : Nat) (Option.some Jvm.ClassFile.FieldType.int)) ∈ lw_all := lw_g (lw_at lw_m8 107 rfl) rfl
theorem q1910 : (Jvm.Cond.instanceMethod ({ cls := "FigureKneeModel", name := "alikeIn", desc := "(II)I" } : Jvm.MethodName)) ∈ lw_all := lw_g (lw_at lw_m8 109 rfl) rfl
theorem q1911 : (Jvm.Cond.selects "FigureKneeModel" ({ cls := "FigureKneeModel", name := "alikeIn", desc := "(II)I" } : Jvm.MethodName) ({ cls := "FigureKneeModel", name := "alikeIn", desc := "(II)I" } : Jvm.MethodName)) ∈ lw_all := lw_g (lw_at lw_m8 110 rfl) rfl
theorem q1912 : (Jvm.Cond.code ({ cls := "FigureKneeModel", name := "alikeIn", desc := "(II)I" } : Jvm.MethodName) prog_16_method_63_code (4 : Nat) (Option.some Jvm.ClassFile.FieldType.int)) ∈ lw_all := lw_g (lw_at lw_m8 111 rfl) rfl
theorem q1913 : (Jvm.Cond.methodLink "FigureKneeModel" (293 : Nat) ({ cls := "FigureKneeModel", name := "areTwo", desc := "(II)Z" } : Jvm.MethodName)) ∈ lw_all := lw_g (lw_at lw_m8 112 rfl) rfl
theorem q1914 : (Jvm.Cond.privateMethod ({ cls := "FigureKneeModel", name := "areTwo", desc := "(II)Z" } : Jvm.MethodName)) ∈ lw_tbl := lw_at lw_m8 113 rfl
theorem q1915 : (Jvm.Cond.instanceMethod ({ cls := "FigureKneeModel", name := "areTwo", desc := "(II)Z" } : Jvm.MethodName)) ∈ lw_all := lw_g (lw_at lw_m8 114 rfl) rfl
theorem q1916 : (Jvm.Cond.code ({ cls := "FigureKneeModel", name := "areTwo", desc := "(II)Z" } : Jvm.MethodName) prog_16_method_40_code (3 : Nat) (Option.some Jvm.ClassFile.FieldType.boolean)) ∈ lw_all := lw_g (lw_at lw_m8 115 rfl) rfl
theorem q1918 : (Jvm.Cond.instanceMethod ({ cls := "FigureKneeModel", name := "loudest", desc := "(I)I" } : Jvm.MethodName)) ∈ lw_all := lw_g (lw_at lw_m8 117 rfl) rfl
theorem q1919 : (Jvm.Cond.selects "FigureKneeModel" ({ cls := "FigureKneeModel", name := "loudest", desc := "(I)I" } : Jvm.MethodName) ({ cls := "FigureKneeModel", name := "loudest", desc := "(I)I" } : Jvm.MethodName)) ∈ lw_all := lw_g (lw_at lw_m8 118 rfl) rfl
theorem q1920 : (Jvm.Cond.code ({ cls := "FigureKneeModel", name := "loudest", desc := "(I)I" } : Jvm.MethodName) prog_16_method_64_code (5 : Nat) (Option.some Jvm.ClassFile.FieldType.int)) ∈ lw_all := lw_g (lw_at lw_m8 119 rfl) rfl
theorem q1922 : (Jvm.Cond.instanceMethod ({ cls := "FigureKneeModel", name := "masters", desc := "(I)I" } : Jvm.MethodName)) ∈ lw_all := lw_g (lw_at lw_m8 121 rfl) rfl
theorem q1923 : (Jvm.Cond.selects "FigureKneeModel" ({ cls := "FigureKneeModel", name := "masters", desc := "(I)I" } : Jvm.MethodName) ({ cls := "FigureKneeModel", name := "masters", desc := "(I)I" } : Jvm.MethodName)) ∈ lw_all := lw_g (lw_at lw_m8 122 rfl) rfl
theorem q1924 : (Jvm.Cond.code ({ cls := "FigureKneeModel", name := "masters", desc := "(I)I" } : Jvm.MethodName) prog_16_method_66_code (3 : Nat) (Option.some Jvm.ClassFile.FieldType.int)) ∈ lw_all := lw_g (lw_at lw_m8 123 rfl) rfl
theorem q1925 : (Jvm.Cond.methodLink "FigureKneeModel" (297 : Nat) ({ cls := "FigureKneeModel", name := "mastersIn", desc := "(I)I" } : Jvm.MethodName)) ∈ lw_all := lw_g (lw_at lw_m8 124 rfl) rfl
theorem q1926 : (Jvm.Cond.privateMethod ({ cls := "FigureKneeModel", name := "mastersIn", desc := "(I)I" } : Jvm.MethodName)) ∈ lw_tbl := lw_at lw_m8 125 rfl
theorem q1927 : (Jvm.Cond.instanceMethod ({ cls := "FigureKneeModel", name := "mastersIn", desc := "(I)I" } : Jvm.MethodName)) ∈ lw_all := lw_g (lw_at lw_m8 126 rfl) rfl
theorem q1928 : (Jvm.Cond.code ({ cls := "FigureKneeModel", name := "mastersIn", desc := "(I)I" } : Jvm.MethodName) prog_16_method_65_code (4 : Nat) (Option.some Jvm.ClassFile.FieldType.int)) ∈ lw_all := lw_g (lw_at lw_m8 127 rfl) rfl
theorem q1930 : (Jvm.Cond.instanceMethod ({ cls := "FigureKneeModel", name := "overtakes", desc := "(II)I" } : Jvm.MethodName)) ∈ lw_all := lw_g (lw_at lw_m8 129 rfl) rfl
theorem q1931 : (Jvm.Cond.selects "FigureKneeModel" ({ cls := "FigureKneeModel", name := "overtakes", desc := "(II)I" } : Jvm.MethodName) ({ cls := "FigureKneeModel", name := "overtakes", desc := "(II)I" } : Jvm.MethodName)) ∈ lw_all := lw_g (lw_at lw_m8 130 rfl) rfl
theorem q1932 : (Jvm.Cond.code ({ cls := "FigureKneeModel", name := "overtakes", desc := "(II)I" } : Jvm.MethodName) prog_16_method_67_code (4 : Nat) (Option.some Jvm.ClassFile.FieldType.int)) ∈ lw_all := lw_g (lw_at lw_m8 131 rfl) rfl
theorem q1934 : (Jvm.Cond.instanceMethod ({ cls := "FigureKneeModel", name := "widest", desc := "(I)I" } : Jvm.MethodName)) ∈ lw_all := lw_g (lw_at lw_m8 133 rfl) rfl
theorem q1935 : (Jvm.Cond.selects "FigureKneeModel" ({ cls := "FigureKneeModel", name := "widest", desc := "(I)I" } : Jvm.MethodName) ({ cls := "FigureKneeModel", name := "widest", desc := "(I)I" } : Jvm.MethodName)) ∈ lw_all := lw_g (lw_at lw_m8 134 rfl) rfl
theorem q1936 : (Jvm.Cond.code ({ cls := "FigureKneeModel", name := "widest", desc := "(I)I" } : Jvm.MethodName) prog_16_method_68_code (8 : Nat) (Option.some Jvm.ClassFile.FieldType.int)) ∈ lw_all := lw_g (lw_at lw_m8 135 rfl) rfl
theorem q1938 : (Jvm.Cond.instanceMethod ({ cls := "FigureKneeModel", name := "sumAll", desc := "(I)I" } : Jvm.MethodName)) ∈ lw_all := lw_g (lw_at lw_m8 137 rfl) rfl
theorem q1939 : (Jvm.Cond.selects "FigureKneeModel" ({ cls := "FigureKneeModel", name := "sumAll", desc := "(I)I" } : Jvm.MethodName) ({ cls := "FigureKneeModel", name := "sumAll", desc := "(I)I" } : Jvm.MethodName)) ∈ lw_all := lw_g (lw_at lw_m8 138 rfl) rfl
theorem q1940 : (Jvm.Cond.code ({ cls := "FigureKneeModel", name := "sumAll", desc := "(I)I" } : Jvm.MethodName) prog_16_method_69_code (5 : Nat) (Option.some Jvm.ClassFile.FieldType.int)) ∈ lw_all := lw_g (lw_at lw_m8 139 rfl) rfl
theorem q1942 : (Jvm.Cond.instanceMethod ({ cls := "FigureKneeModel", name := "everyFor", desc := "(II)I" } : Jvm.MethodName)) ∈ lw_all := lw_g (lw_at lw_m8 141 rfl) rfl
theorem q1943 : (Jvm.Cond.selects "FigureKneeModel" ({ cls := "FigureKneeModel", name := "everyFor", desc := "(II)I" } : Jvm.MethodName) ({ cls := "FigureKneeModel", name := "everyFor", desc := "(II)I" } : Jvm.MethodName)) ∈ lw_all := lw_g (lw_at lw_m8 142 rfl) rfl
theorem q1944 : (Jvm.Cond.code ({ cls := "FigureKneeModel", name := "everyFor", desc := "(II)I" } : Jvm.MethodName) prog_16_method_71_code (4 : Nat) (Option.some Jvm.ClassFile.FieldType.int)) ∈ lw_all := lw_g (lw_at lw_m8 143 rfl) rfl
theorem q1945 : (Jvm.Cond.methodLink "FigureKneeModel" (300 : Nat) ({ cls := "FigureKneeModel", name := "bestEvery", desc := "(II)I" } : Jvm.MethodName)) ∈ lw_all := lw_g (lw_at lw_m8 144 rfl) rfl
theorem q1946 : (Jvm.Cond.privateMethod ({ cls := "FigureKneeModel", name := "bestEvery", desc := "(II)I" } : Jvm.MethodName)) ∈ lw_tbl := lw_at lw_m8 145 rfl
theorem q1947 : (Jvm.Cond.instanceMethod ({ cls := "FigureKneeModel", name := "bestEvery", desc := "(II)I" } : Jvm.MethodName)) ∈ lw_all := lw_g (lw_at lw_m8 146 rfl) rfl
theorem q1948 : (Jvm.Cond.code ({ cls := "FigureKneeModel", name := "bestEvery", desc := "(II)I" } : Jvm.MethodName) prog_16_method_70_code (5 : Nat) (Option.some Jvm.ClassFile.FieldType.int)) ∈ lw_all := lw_g (lw_at lw_m8 147 rfl) rfl
theorem q1950 : (Jvm.Cond.instanceMethod ({ cls := "FigureKneeModel", name := "everySays", desc := "(II)I" } : Jvm.MethodName)) ∈ lw_all := lw_g (lw_at lw_m8 149 rfl) rfl
theorem q1951 : (Jvm.Cond.selects "FigureKneeModel" ({ cls := "FigureKneeModel", name := "everySays", desc := "(II)I" } : Jvm.MethodName) ({ cls := "FigureKneeModel", name := "everySays", desc := "(II)I" } : Jvm.MethodName)) ∈ lw_all := lw_g (lw_at lw_m8 150 rfl) rfl
theorem q1952 : (Jvm.Cond.code ({ cls := "FigureKneeModel", name := "everySays", desc := "(II)I" } : Jvm.MethodName) prog_16_method_72_code (4 : Nat) (Option.some Jvm.ClassFile.FieldType.int)) ∈ lw_all := lw_g (lw_at lw_m8 151 rfl) rfl
theorem q1954 : (Jvm.Cond.instanceMethod ({ cls := "FigureKneeModel", name := "everyNever", desc := "(I)I" } : Jvm.MethodName)) ∈ lw_all := lw_g (lw_at lw_m8 153 rfl) rfl
theorem q1955 : (Jvm.Cond.selects "FigureKneeModel" ({ cls := "FigureKneeModel", name := "everyNever", desc := "(I)I" } : Jvm.MethodName) ({ cls := "FigureKneeModel", name := "everyNever", desc := "(I)I" } : Jvm.MethodName)) ∈ lw_all := lw_g (lw_at lw_m8 154 rfl) rfl
theorem q1956 : (Jvm.Cond.code ({ cls := "FigureKneeModel", name := "everyNever", desc := "(I)I" } : Jvm.MethodName) prog_16_method_74_code (3 : Nat) (Option.some Jvm.ClassFile.FieldType.int)) ∈ lw_all := lw_g (lw_at lw_m8 155 rfl) rfl
theorem q1957 : (Jvm.Cond.methodLink "FigureKneeModel" (303 : Nat) ({ cls := "FigureKneeModel", name := "isNeverMore", desc := "(II)Z" } : Jvm.MethodName)) ∈ lw_all := lw_g (lw_at lw_m8 156 rfl) rfl
theorem q1958 : (Jvm.Cond.privateMethod ({ cls := "FigureKneeModel", name := "isNeverMore", desc := "(II)Z" } : Jvm.MethodName)) ∈ lw_tbl := lw_at lw_m8 157 rfl
theorem q1959 : (Jvm.Cond.instanceMethod ({ cls := "FigureKneeModel", name := "isNeverMore", desc := "(II)Z" } : Jvm.MethodName)) ∈ lw_all := lw_g (lw_at lw_m8 158 rfl) rfl
theorem q1960 : (Jvm.Cond.code ({ cls := "FigureKneeModel", name := "isNeverMore", desc := "(II)Z" } : Jvm.MethodName) prog_16_method_73_code (4 : Nat) (Option.some Jvm.ClassFile.FieldType.boolean)) ∈ lw_all := lw_g (lw_at lw_m8 159 rfl) rfl
theorem q1962 : (Jvm.Cond.instanceMethod ({ cls := "FigureKneeModel", name := "stepFor", desc := "(II)I" } : Jvm.MethodName)) ∈ lw_all := lw_g (lw_at lw_m8 161 rfl) rfl
theorem q1963 : (Jvm.Cond.selects "FigureKneeModel" ({ cls := "FigureKneeModel", name := "stepFor", desc := "(II)I" } : Jvm.MethodName) ({ cls := "FigureKneeModel", name := "stepFor", desc := "(II)I" } : Jvm.MethodName)) ∈ lw_all := lw_g (lw_at lw_m8 162 rfl) rfl
theorem q1964 : (Jvm.Cond.code ({ cls := "FigureKneeModel", name := "stepFor", desc := "(II)I" } : Jvm.MethodName) prog_16_method_75_code (5 : Nat) (Option.some Jvm.ClassFile.FieldType.int)) ∈ lw_all := lw_g (lw_at lw_m8 163 rfl) rfl
theorem q1966 : (Jvm.Cond.instanceMethod ({ cls := "FigureKneeModel", name := "fits", desc := "()I" } : Jvm.MethodName)) ∈ lw_all := lw_g (lw_at lw_m8 165 rfl) rfl
theorem q1967 : (Jvm.Cond.selects "FigureKneeModel" ({ cls := "FigureKneeModel", name := "fits", desc := "()I" } : Jvm.MethodName) ({ cls := "FigureKneeModel", name := "fits", desc := "()I" } : Jvm.MethodName)) ∈ lw_all := lw_g (lw_at lw_m8 166 rfl) rfl
theorem q1968 : (Jvm.Cond.code ({ cls := "FigureKneeModel", name := "fits", desc := "()I" } : Jvm.MethodName) prog_16_method_80_code (1 : Nat) (Option.some Jvm.ClassFile.FieldType.int)) ∈ lw_all := lw_g (lw_at lw_m8 167 rfl) rfl
theorem q1969 : (Jvm.Cond.methodLink "FigureKneeModel" (327 : Nat) ({ cls := "FigureKneeModel", name := "seekSets", desc := "(I)I" } : Jvm.MethodName)) ∈ lw_all := lw_g (lw_at lw_m8 168 rfl) rfl
theorem q1970 : (Jvm.Cond.privateMethod ({ cls := "FigureKneeModel", name := "seekSets", desc := "(I)I" } : Jvm.MethodName)) ∈ lw_tbl := lw_at lw_m8 169 rfl
theorem q1971 : (Jvm.Cond.instanceMethod ({ cls := "FigureKneeModel", name := "seekSets", desc := "(I)I" } : Jvm.MethodName)) ∈ lw_all := lw_g (lw_at lw_m8 170 rfl) rfl
theorem q1972 : (Jvm.Cond.code ({ cls := "FigureKneeModel", name := "seekSets", desc := "(I)I" } : Jvm.MethodName) prog_16_method_79_code (5 : Nat) (Option.some Jvm.ClassFile.FieldType.int)) ∈ lw_all := lw_g (lw_at lw_m8 171 rfl) rfl
theorem q1973 : (Jvm.Cond.methodLink "FigureKneeModel" (324 : Nat) ({ cls := "FigureKneeModel", name := "wrongBy", desc := "(I)I" } : Jvm.MethodName)) ∈ lw_all := lw_g (lw_at lw_m8 172 rfl) rfl
theorem q1974 : (Jvm.Cond.privateMethod ({ cls := "FigureKneeModel", name := "wrongBy", desc := "(I)I" } : Jvm.MethodName)) ∈ lw_tbl := lw_at lw_m8 173 rfl
theorem q1975 : (Jvm.Cond.instanceMethod ({ cls := "FigureKneeModel", name := "wrongBy", desc := "(I)I" } : Jvm.MethodName)) ∈ lw_all := lw_g (lw_at lw_m8 174 rfl) rfl
theorem q1976 : (Jvm.Cond.code ({ cls := "FigureKneeModel", name := "wrongBy", desc := "(I)I" } : Jvm.MethodName) prog_16_method_78_code (3 : Nat) (Option.some Jvm.ClassFile.FieldType.int)) ∈ lw_all := lw_g (lw_at lw_m8 175 rfl) rfl
theorem q1977 : (Jvm.Cond.methodLink "FigureKneeModel" (312 : Nat) ({ cls := "FigureKneeModel", name := "saidThen", desc := "(III)I" } : Jvm.MethodName)) ∈ lw_all := lw_g (lw_at lw_m8 176 rfl) rfl
theorem q1978 : (Jvm.Cond.privateMethod ({ cls := "FigureKneeModel", name := "saidThen", desc := "(III)I" } : Jvm.MethodName)) ∈ lw_tbl := lw_at lw_m8 177 rfl
theorem q1979 : (Jvm.Cond.instanceMethod ({ cls := "FigureKneeModel", name := "saidThen", desc := "(III)I" } : Jvm.MethodName)) ∈ lw_all := lw_g (lw_at lw_m8 178 rfl) rfl
theorem q1980 : (Jvm.Cond.code ({ cls := "FigureKneeModel", name := "saidThen", desc := "(III)I" } : Jvm.MethodName) prog_16_method_77_code (6 : Nat) (Option.some Jvm.ClassFile.FieldType.int)) ∈ lw_all := lw_g (lw_at lw_m8 179 rfl) rfl
theorem q1981 : (Jvm.Cond.methodLink "FigureKneeModel" (309 : Nat) ({ cls := "FigureKneeModel", name := "stepBy", desc := "(II)I" } : Jvm.MethodName)) ∈ lw_all := lw_g (lw_at lw_m8 180 rfl) rfl
theorem q1982 : (Jvm.Cond.privateMethod ({ cls := "FigureKneeModel", name := "stepBy", desc := "(II)I" } : Jvm.MethodName)) ∈ lw_tbl := lw_at lw_m8 181 rfl
theorem q1983 : (Jvm.Cond.instanceMethod ({ cls := "FigureKneeModel", name := "stepBy", desc := "(II)I" } : Jvm.MethodName)) ∈ lw_all := lw_g (lw_at lw_m8 182 rfl) rfl
theorem q1984 : (Jvm.Cond.code ({ cls := "FigureKneeModel", name := "stepBy", desc := "(II)I" } : Jvm.MethodName) prog_16_method_76_code (5 : Nat) (Option.some Jvm.ClassFile.FieldType.int)) ∈ lw_all := lw_g (lw_at lw_m8 183 rfl) rfl
theorem q1985 : (Jvm.Cond.methodLink "FigureKneeModel" (306 : Nat) ({ cls := "FigureKneeModel", name := "hasBit", desc := "(II)Z" } : Jvm.MethodName)) ∈ lw_all := lw_g (lw_at lw_m8 184 rfl) rfl
theorem q1986 : (Jvm.Cond.static ({ cls := "FigureKneeModel", name := "hasBit", desc := "(II)Z" } : Jvm.MethodName)) ∈ lw_all := lw_g (lw_at lw_m8 185 rfl) rfl
theorem q1987 : (Jvm.Cond.code ({ cls := "FigureKneeModel", name := "hasBit", desc := "(II)Z" } : Jvm.MethodName) prog_16_method_7_code (2 : Nat) (Option.some Jvm.ClassFile.FieldType.boolean)) ∈ lw_all := lw_g (lw_at lw_m8 186 rfl) rfl
theorem q1989 : (Jvm.Cond.instanceMethod ({ cls := "FigureKneeModel", name := "fitAt", desc := "(I)I" } : Jvm.MethodName)) ∈ lw_all := lw_g (lw_at lw_m8 188 rfl) rfl
theorem q1990 : (Jvm.Cond.selects "FigureKneeModel" ({ cls := "FigureKneeModel", name := "fitAt", desc := "(I)I" } : Jvm.MethodName) ({ cls := "FigureKneeModel", name := "fitAt", desc := "(I)I" } : Jvm.MethodName)) ∈ lw_all := lw_g (lw_at lw_m8 189 rfl) rfl
theorem q1991 : (Jvm.Cond.code ({ cls := "FigureKneeModel", name := "fitAt", desc := "(I)I" } : Jvm.MethodName) prog_16_method_81_code (3 : Nat) (Option.some Jvm.ClassFile.FieldType.int)) ∈ lw_all := lw_g (lw_at lw_m8 190 rfl) rfl
theorem q1993 : (Jvm.Cond.instanceMethod ({ cls := "FigureKneeModel", name := "could", desc := "()I" } : Jvm.MethodName)) ∈ lw_all := lw_g (lw_at lw_m8 192 rfl) rfl
theorem q1994 : (Jvm.Cond.selects "FigureKneeModel" ({ cls := "FigureKneeModel", name := "could", desc := "()I" } : Jvm.MethodName) ({ cls := "FigureKneeModel", name := "could", desc := "()I" } : Jvm.MethodName)) ∈ lw_all := lw_g (lw_at lw_m8 193 rfl) rfl
theorem q1995 : (Jvm.Cond.code ({ cls := "FigureKneeModel", name := "could", desc := "()I" } : Jvm.MethodName) prog_16_method_82_code (1 : Nat) (Option.some Jvm.ClassFile.FieldType.int)) ∈ lw_all := lw_g (lw_at lw_m8 194 rfl) rfl
theorem q1997 : (Jvm.Cond.instanceMethod ({ cls := "FigureKneeModel", name := "surely", desc := "()I" } : Jvm.MethodName)) ∈ lw_all := lw_g (lw_at lw_m8 196 rfl) rfl
theorem q1998 : (Jvm.Cond.selects "FigureKneeModel" ({ cls := "FigureKneeModel", name := "surely", desc := "()I" } : Jvm.MethodName) ({ cls := "FigureKneeModel", name := "surely", desc := "()I" } : Jvm.MethodName)) ∈ lw_all := lw_g (lw_at lw_m8 197 rfl) rfl
theorem q1999 : (Jvm.Cond.code ({ cls := "FigureKneeModel", name := "surely", desc := "()I" } : Jvm.MethodName) prog_16_method_83_code (1 : Nat) (Option.some Jvm.ClassFile.FieldType.int)) ∈ lw_all := lw_g (lw_at lw_m8 198 rfl) rfl
theorem q2001 : (Jvm.Cond.instanceMethod ({ cls := "FigureKneeModel", name := "ask", desc := "()I" } : Jvm.MethodName)) ∈ lw_all := lw_g (lw_at lw_m8 200 rfl) rfl
theorem q2002 : (Jvm.Cond.selects "FigureKneeModel" ({ cls := "FigureKneeModel", name := "ask", desc := "()I" } : Jvm.MethodName) ({ cls := "FigureKneeModel", name := "ask", desc := "()I" } : Jvm.MethodName)) ∈ lw_all := lw_g (lw_at lw_m8 201 rfl) rfl
theorem q2003 : (Jvm.Cond.code ({ cls := "FigureKneeModel", name := "ask", desc := "()I" } : Jvm.MethodName) prog_16_method_86_code (1 : Nat) (Option.some Jvm.ClassFile.FieldType.int)) ∈ lw_all := lw_g (lw_at lw_m8 202 rfl) rfl
theorem q2004 : (Jvm.Cond.methodLink "FigureKneeModel" (333 : Nat) ({ cls := "FigureKneeModel", name := "askOf", desc := "()I" } : Jvm.MethodName)) ∈ lw_all := lw_g (lw_at lw_m8 203 rfl) rfl
theorem q2005 : (Jvm.Cond.privateMethod ({ cls := "FigureKneeModel", name := "askOf", desc := "()I" } : Jvm.MethodName)) ∈ lw_tbl := lw_at lw_m8 204 rfl
theorem q2006 : (Jvm.Cond.instanceMethod ({ cls := "FigureKneeModel", name := "askOf", desc := "()I" } : Jvm.MethodName)) ∈ lw_all := lw_g (lw_at lw_m8 205 rfl) rfl
theorem q2007 : (Jvm.Cond.code ({ cls := "FigureKneeModel", name := "askOf", desc := "()I" } : Jvm.MethodName) prog_16_method_85_code (3 : Nat) (Option.some Jvm.ClassFile.FieldType.int)) ∈ lw_all := lw_g (lw_at lw_m8 206 rfl) rfl
theorem q2008 : (Jvm.Cond.methodLink "FigureKneeModel" (330 : Nat) ({ cls := "FigureKneeModel", name := "leavesOf", desc := "(I)I" } : Jvm.MethodName)) ∈ lw_all := lw_g (lw_at lw_m8 207 rfl) rfl
theorem q2009 : (Jvm.Cond.privateMethod ({ cls := "FigureKneeModel", name := "leavesOf", desc := "(I)I" } : Jvm.MethodName)) ∈ lw_tbl := lw_at lw_m8 208 rfl
theorem q2010 : (Jvm.Cond.instanceMethod ({ cls := "FigureKneeModel", name := "leavesOf", desc := "(I)I" } : Jvm.MethodName)) ∈ lw_all := lw_g (lw_at lw_m8 209 rfl) rfl
theorem q2011 : (Jvm.Cond.code ({ cls := "FigureKneeModel", name := "leavesOf", desc := "(I)I" } : Jvm.MethodName) prog_16_method_84_code (2 : Nat) (Option.some Jvm.ClassFile.FieldType.int)) ∈ lw_all := lw_g (lw_at lw_m8 210 rfl) rfl
theorem q2013 : (Jvm.Cond.instanceMethod ({ cls := "FigureKneeModel", name := "askLeaves", desc := "()I" } : Jvm.MethodName)) ∈ lw_all := lw_g (lw_at lw_m8 212 rfl) rfl
theorem q2014 : (Jvm.Cond.selects "FigureKneeModel" ({ cls := "FigureKneeModel", name := "askLeaves", desc := "()I" } : Jvm.MethodName) ({ cls := "FigureKneeModel", name := "askLeaves", desc := "()I" } : Jvm.MethodName)) ∈ lw_all := lw_g (lw_at lw_m8 213 rfl) rfl
theorem q2015 : (Jvm.Cond.code ({ cls := "FigureKneeModel", name := "askLeaves", desc := "()I" } : Jvm.MethodName) prog_16_method_87_code (2 : Nat) (Option.some Jvm.ClassFile.FieldType.int)) ∈ lw_all := lw_g (lw_at lw_m8 214 rfl) rfl
theorem q2017 : (Jvm.Cond.instanceMethod ({ cls := "FigureKneeModel", name := "judge", desc := "()I" } : Jvm.MethodName)) ∈ lw_all := lw_g (lw_at lw_m8 216 rfl) rfl
theorem q2018 : (Jvm.Cond.selects "FigureKneeModel" ({ cls := "FigureKneeModel", name := "judge", desc := "()I" } : Jvm.MethodName) ({ cls := "FigureKneeModel", name := "judge", desc := "()I" } : Jvm.MethodName)) ∈ lw_all := lw_g (lw_at lw_m8 217 rfl) rfl
theorem q2019 : (Jvm.Cond.code ({ cls := "FigureKneeModel", name := "judge", desc := "()I" } : Jvm.MethodName) prog_16_method_88_code (1 : Nat) (Option.some Jvm.ClassFile.FieldType.int)) ∈ lw_all := lw_g (lw_at lw_m8 218 rfl) rfl
theorem q2021 : (Jvm.Cond.instanceMethod ({ cls := "FigureKneeModel", name := "third", desc := "(I)I" } : Jvm.MethodName)) ∈ lw_all := lw_g (lw_at lw_m8 220 rfl) rfl
theorem q2022 : (Jvm.Cond.selects "FigureKneeModel" ({ cls := "FigureKneeModel", name := "third", desc := "(I)I" } : Jvm.MethodName) ({ cls := "FigureKneeModel", name := "third", desc := "(I)I" } : Jvm.MethodName)) ∈ lw_all := lw_g (lw_at lw_m8 221 rfl) rfl
theorem q2023 : (Jvm.Cond.code ({ cls := "FigureKneeModel", name := "third", desc := "(I)I" } : Jvm.MethodName) prog_16_method_89_code (5 : Nat) (Option.some Jvm.ClassFile.FieldType.int)) ∈ lw_all := lw_g (lw_at lw_m8 222 rfl) rfl
theorem q2025 : (Jvm.Cond.instanceMethod ({ cls := "FigureKneeModel", name := "owes", desc := "(II)I" } : Jvm.MethodName)) ∈ lw_all := lw_g (lw_at lw_m8 224 rfl) rfl
theorem q2026 : (Jvm.Cond.selects "FigureKneeModel" ({ cls := "FigureKneeModel", name := "owes", desc := "(II)I" } : Jvm.MethodName) ({ cls := "FigureKneeModel", name := "owes", desc := "(II)I" } : Jvm.MethodName)) ∈ lw_all := lw_g (lw_at lw_m8 225 rfl) rfl
theorem q2027 : (Jvm.Cond.code ({ cls := "FigureKneeModel", name := "owes", desc := "(II)I" } : Jvm.MethodName) prog_16_method_92_code (3 : Nat) (Option.some Jvm.ClassFile.FieldType.int)) ∈ lw_all := lw_g (lw_at lw_m8 226 rfl) rfl
theorem q2028 : (Jvm.Cond.methodLink "FigureKneeModel" (336 : Nat) ({ cls := "FigureKneeModel", name := "debtOf", desc := "(II)I" } : Jvm.MethodName)) ∈ lw_all := lw_g (lw_at lw_m8 227 rfl) rfl
theorem q2029 : (Jvm.Cond.privateMethod ({ cls := "FigureKneeModel", name := "debtOf", desc := "(II)I" } : Jvm.MethodName)) ∈ lw_tbl := lw_at lw_m8 228 rfl
theorem q2030 : (Jvm.Cond.instanceMethod ({ cls := "FigureKneeModel", name := "debtOf", desc := "(II)I" } : Jvm.MethodName)) ∈ lw_all := lw_g (lw_at lw_m8 229 rfl) rfl
theorem q2031 : (Jvm.Cond.code ({ cls := "FigureKneeModel", name := "debtOf", desc := "(II)I" } : Jvm.MethodName) prog_16_method_90_code (3 : Nat) (Option.some Jvm.ClassFile.FieldType.int)) ∈ lw_all := lw_g (lw_at lw_m8 230 rfl) rfl
theorem q2033 : (Jvm.Cond.instanceMethod ({ cls := "FigureKneeModel", name := "net", desc := "(I)I" } : Jvm.MethodName)) ∈ lw_all := lw_g (lw_at lw_m8 232 rfl) rfl
theorem q2034 : (Jvm.Cond.selects "FigureKneeModel" ({ cls := "FigureKneeModel", name := "net", desc := "(I)I" } : Jvm.MethodName) ({ cls := "FigureKneeModel", name := "net", desc := "(I)I" } : Jvm.MethodName)) ∈ lw_all := lw_g (lw_at lw_m8 233 rfl) rfl
theorem q2035 : (Jvm.Cond.code ({ cls := "FigureKneeModel", name := "net", desc := "(I)I" } : Jvm.MethodName) prog_16_method_93_code (2 : Nat) (Option.some Jvm.ClassFile.FieldType.int)) ∈ lw_all := lw_g (lw_at lw_m8 234 rfl) rfl
theorem q2036 : (Jvm.Cond.methodLink "FigureKneeModel" (339 : Nat) ({ cls := "FigureKneeModel", name := "netOf", desc := "(I)I" } : Jvm.MethodName)) ∈ lw_all := lw_g (lw_at lw_m8 235 rfl) rfl
theorem q2037 : (Jvm.Cond.privateMethod ({ cls := "FigureKneeModel", name := "netOf", desc := "(I)I" } : Jvm.MethodName)) ∈ lw_tbl := lw_at lw_m8 236 rfl
theorem q2038 : (Jvm.Cond.instanceMethod ({ cls := "FigureKneeModel", name := "netOf", desc := "(I)I" } : Jvm.MethodName)) ∈ lw_all := lw_g (lw_at lw_m8 237 rfl) rfl
theorem q2039 : (Jvm.Cond.code ({ cls := "FigureKneeModel", name := "netOf", desc := "(I)I" } : Jvm.MethodName) prog_16_method_91_code (4 : Nat) (Option.some Jvm.ClassFile.FieldType.int)) ∈ lw_all := lw_g (lw_at lw_m8 238 rfl) rfl
theorem q2040 : (Jvm.Cond.constant "FigureKneeModel" (342 : Nat) (-1000000 : Int32)) ∈ lw_all := lw_g (lw_at lw_m8 239 rfl) rfl
theorem q2042 : (Jvm.Cond.instanceMethod ({ cls := "FigureKneeModel", name := "due", desc := "()I" } : Jvm.MethodName)) ∈ lw_all := lw_g (lw_at lw_m9 1 rfl) rfl
theorem q2043 : (Jvm.Cond.selects "FigureKneeModel" ({ cls := "FigureKneeModel", name := "due", desc := "()I" } : Jvm.MethodName) ({ cls := "FigureKneeModel", name := "due", desc := "()I" } : Jvm.MethodName)) ∈ lw_all := lw_g (lw_at lw_m9 2 rfl) rfl
theorem q2044 : (Jvm.Cond.code ({ cls := "FigureKneeModel", name := "due", desc := "()I" } : Jvm.MethodName) prog_16_method_94_code (3 : Nat) (Option.some Jvm.ClassFile.FieldType.int)) ∈ lw_all := lw_g (lw_at lw_m9 3 rfl) rfl
theorem q2046 : (Jvm.Cond.instanceMethod ({ cls := "FigureKneeModel", name := "creditor", desc := "()I" } : Jvm.MethodName)) ∈ lw_all := lw_g (lw_at lw_m9 5 rfl) rfl
theorem q2047 : (Jvm.Cond.selects "FigureKneeModel" ({ cls := "FigureKneeModel", name := "creditor", desc := "()I" } : Jvm.MethodName) ({ cls := "FigureKneeModel", name := "creditor", desc := "()I" } : Jvm.MethodName)) ∈ lw_all := lw_g (lw_at lw_m9 6 rfl) rfl
theorem q2048 : (Jvm.Cond.code ({ cls := "FigureKneeModel", name := "creditor", desc := "()I" } : Jvm.MethodName) prog_16_method_95_code (3 : Nat) (Option.some Jvm.ClassFile.FieldType.int)) ∈ lw_all := lw_g (lw_at lw_m9 7 rfl) rfl
theorem q2050 : (Jvm.Cond.instanceMethod ({ cls := "FigureKneeModel", name := "payments", desc := "()I" } : Jvm.MethodName)) ∈ lw_all := lw_g (lw_at lw_m9 9 rfl) rfl
theorem q2051 : (Jvm.Cond.selects "FigureKneeModel" ({ cls := "FigureKneeModel", name := "payments", desc := "()I" } : Jvm.MethodName) ({ cls := "FigureKneeModel", name := "payments", desc := "()I" } : Jvm.MethodName)) ∈ lw_all := lw_g (lw_at lw_m9 10 rfl) rfl
theorem q2052 : (Jvm.Cond.code ({ cls := "FigureKneeModel", name := "payments", desc := "()I" } : Jvm.MethodName) prog_16_method_98_code (3 : Nat) (Option.some Jvm.ClassFile.FieldType.int)) ∈ lw_all := lw_g (lw_at lw_m9 11 rfl) rfl
theorem q2053 : (Jvm.Cond.methodLink "FigureKneeModel" (349 : Nat) ({ cls := "FigureKneeModel", name := "ones", desc := "(I)I" } : Jvm.MethodName)) ∈ lw_all := lw_g (lw_at lw_m9 12 rfl) rfl
theorem q2054 : (Jvm.Cond.static ({ cls := "FigureKneeModel", name := "ones", desc := "(I)I" } : Jvm.MethodName)) ∈ lw_all := lw_g (lw_at lw_m9 13 rfl) rfl
theorem q2055 : (Jvm.Cond.code ({ cls := "FigureKneeModel", name := "ones", desc := "(I)I" } : Jvm.MethodName) prog_16_method_8_code (3 : Nat) (Option.some Jvm.ClassFile.FieldType.int)) ∈ lw_all := lw_g (lw_at lw_m9 14 rfl) rfl
theorem q2056 : (Jvm.Cond.methodLink "FigureKneeModel" (346 : Nat) ({ cls := "FigureKneeModel", name := "groupsOf", desc := "(I)I" } : Jvm.MethodName)) ∈ lw_all := lw_g (lw_at lw_m9 15 rfl) rfl
theorem q2057 : (Jvm.Cond.privateMethod ({ cls := "FigureKneeModel", name := "groupsOf", desc := "(I)I" } : Jvm.MethodName)) ∈ lw_tbl := lw_at lw_m9 16 rfl
theorem q2058 : (Jvm.Cond.instanceMethod ({ cls := "FigureKneeModel", name := "groupsOf", desc := "(I)I" } : Jvm.MethodName)) ∈ lw_all := lw_g (lw_at lw_m9 17 rfl) rfl
theorem q2059 : (Jvm.Cond.code ({ cls := "FigureKneeModel", name := "groupsOf", desc := "(I)I" } : Jvm.MethodName) prog_16_method_97_code (5 : Nat) (Option.some Jvm.ClassFile.FieldType.int)) ∈ lw_all := lw_g (lw_at lw_m9 18 rfl) rfl
theorem q2060 : (Jvm.Cond.methodLink "FigureKneeModel" (343 : Nat) ({ cls := "FigureKneeModel", name := "netsOf", desc := "(I)I" } : Jvm.MethodName)) ∈ lw_all := lw_g (lw_at lw_m9 19 rfl) rfl
theorem q2061 : (Jvm.Cond.privateMethod ({ cls := "FigureKneeModel", name := "netsOf", desc := "(I)I" } : Jvm.MethodName)) ∈ lw_tbl := lw_at lw_m9 20 rfl
theorem q2062 : (Jvm.Cond.instanceMethod ({ cls := "FigureKneeModel", name := "netsOf", desc := "(I)I" } : Jvm.MethodName)) ∈ lw_all := lw_g (lw_at lw_m9 21 rfl) rfl
theorem q2063 : (Jvm.Cond.code ({ cls := "FigureKneeModel", name := "netsOf", desc := "(I)I" } : Jvm.MethodName) prog_16_method_96_code (4 : Nat) (Option.some Jvm.ClassFile.FieldType.int)) ∈ lw_all := lw_g (lw_at lw_m9 22 rfl) rfl
theorem q2065 : (Jvm.Cond.instanceMethod ({ cls := "FigureKneeModel", name := "ring", desc := "(I)I" } : Jvm.MethodName)) ∈ lw_all := lw_g (lw_at lw_m9 24 rfl) rfl
theorem q2066 : (Jvm.Cond.selects "FigureKneeModel" ({ cls := "FigureKneeModel", name := "ring", desc := "(I)I" } : Jvm.MethodName) ({ cls := "FigureKneeModel", name := "ring", desc := "(I)I" } : Jvm.MethodName)) ∈ lw_all := lw_g (lw_at lw_m9 25 rfl) rfl
theorem q2067 : (Jvm.Cond.code ({ cls := "FigureKneeModel", name := "ring", desc := "(I)I" } : Jvm.MethodName) prog_16_method_101_code (2 : Nat) (Option.some Jvm.ClassFile.FieldType.int)) ∈ lw_all := lw_g (lw_at lw_m9 26 rfl) rfl
theorem q2068 : (Jvm.Cond.methodLink "FigureKneeModel" (359 : Nat) ({ cls := "FigureKneeModel", name := "seekRing", desc := "(I)Z" } : Jvm.MethodName)) ∈ lw_all := lw_g (lw_at lw_m9 27 rfl) rfl
theorem q2069 : (Jvm.Cond.privateMethod ({ cls := "FigureKneeModel", name := "seekRing", desc := "(I)Z" } : Jvm.MethodName)) ∈ lw_tbl := lw_at lw_m9 28 rfl
theorem q2070 : (Jvm.Cond.instanceMethod ({ cls := "FigureKneeModel", name := "seekRing", desc := "(I)Z" } : Jvm.MethodName)) ∈ lw_all := lw_g (lw_at lw_m9 29 rfl) rfl
theorem q2071 : (Jvm.Cond.code ({ cls := "FigureKneeModel", name := "seekRing", desc := "(I)Z" } : Jvm.MethodName) prog_16_method_100_code (2 : Nat) (Option.some Jvm.ClassFile.FieldType.boolean)) ∈ lw_all := lw_g (lw_at lw_m9 30 rfl) rfl
theorem q2072 : (Jvm.Cond.constant "FigureKneeModel" (358 : Nat) (100000000 : Int32)) ∈ lw_all := lw_g (lw_at lw_m9 31 rfl) rfl
theorem q2073 : (Jvm.Cond.methodLink "FigureKneeModel" (355 : Nat) ({ cls := "FigureKneeModel", name := "tryRing", desc := "(II)V" } : Jvm.MethodName)) ∈ lw_all := lw_g (lw_at lw_m9 32 rfl) rfl
theorem q2074 : (Jvm.Cond.privateMethod ({ cls := "FigureKneeModel", name := "tryRing", desc := "(II)V" } : Jvm.MethodName)) ∈ lw_tbl := lw_at lw_m9 33 rfl
theorem q2075 : (Jvm.Cond.instanceMethod ({ cls := "FigureKneeModel", name := "tryRing", desc := "(II)V" } : Jvm.MethodName)) ∈ lw_all := lw_g (lw_at lw_m9 34 rfl) rfl
theorem q2076 : (Jvm.Cond.code ({ cls := "FigureKneeModel", name := "tryRing", desc := "(II)V" } : Jvm.MethodName) prog_16_method_99_code (4 : Nat) (Option.none : Option Jvm.ClassFile.FieldType)) ∈ lw_all := lw_g (lw_at lw_m9 35 rfl) rfl
theorem q2078 : (Jvm.Cond.instanceMethod ({ cls := "FigureKneeModel", name := "ringAt", desc := "(II)I" } : Jvm.MethodName)) ∈ lw_all := lw_g (lw_at lw_m9 37 rfl) rfl
theorem q2079 : (Jvm.Cond.selects "FigureKneeModel" ({ cls := "FigureKneeModel", name := "ringAt", desc := "(II)I" } : Jvm.MethodName) ({ cls := "FigureKneeModel", name := "ringAt", desc := "(II)I" } : Jvm.MethodName)) ∈ lw_all := lw_g (lw_at lw_m9 38 rfl) rfl
theorem q2080 : (Jvm.Cond.code ({ cls := "FigureKneeModel", name := "ringAt", desc := "(II)I" } : Jvm.MethodName) prog_16_method_102_code (3 : Nat) (Option.some Jvm.ClassFile.FieldType.int)) ∈ lw_all := lw_g (lw_at lw_m9 39 rfl) rfl
theorem q2082 : (Jvm.Cond.instanceMethod ({ cls := "FigureKneeModel", name := "talks", desc := "(IZZZ)I" } : Jvm.MethodName)) ∈ lw_all := lw_g (lw_at lw_m9 41 rfl) rfl
theorem q2083 : (Jvm.Cond.selects "FigureKneeModel" ({ cls := "FigureKneeModel", name := "talks", desc := "(IZZZ)I" } : Jvm.MethodName) ({ cls := "FigureKneeModel", name := "talks", desc := "(IZZZ)I" } : Jvm.MethodName)) ∈ lw_all := lw_g (lw_at lw_m9 42 rfl) rfl
theorem q2084 : (Jvm.Cond.code ({ cls := "FigureKneeModel", name := "talks", desc := "(IZZZ)I" } : Jvm.MethodName) prog_16_method_104_code (6 : Nat) (Option.some Jvm.ClassFile.FieldType.int)) ∈ lw_all := lw_g (lw_at lw_m9 43 rfl) rfl
theorem q2085 : (Jvm.Cond.methodLink "FigureKneeModel" (362 : Nat) ({ cls := "FigureKneeModel", name := "talksOf", desc := "(IZZ)I" } : Jvm.MethodName)) ∈ lw_all := lw_g (lw_at lw_m9 44 rfl) rfl
theorem q2086 : (Jvm.Cond.static ({ cls := "FigureKneeModel", name := "talksOf", desc := "(IZZ)I" } : Jvm.MethodName)) ∈ lw_all := lw_g (lw_at lw_m9 45 rfl) rfl
theorem q2087 : (Jvm.Cond.code ({ cls := "FigureKneeModel", name := "talksOf", desc := "(IZZ)I" } : Jvm.MethodName) prog_16_method_103_code (3 : Nat) (Option.some Jvm.ClassFile.FieldType.int)) ∈ lw_all := lw_g (lw_at lw_m9 46 rfl) rfl
theorem q2089 : (Jvm.Cond.instanceMethod ({ cls := "FigureKneeModel", name := "rests", desc := "(I)I" } : Jvm.MethodName)) ∈ lw_all := lw_g (lw_at lw_m9 48 rfl) rfl
theorem q2090 : (Jvm.Cond.selects "FigureKneeModel" ({ cls := "FigureKneeModel", name := "rests", desc := "(I)I" } : Jvm.MethodName) ({ cls := "FigureKneeModel", name := "rests", desc := "(I)I" } : Jvm.MethodName)) ∈ lw_all := lw_g (lw_at lw_m9 49 rfl) rfl
theorem q2091 : (Jvm.Cond.code ({ cls := "FigureKneeModel", name := "rests", desc := "(I)I" } : Jvm.MethodName) prog_16_method_106_code (3 : Nat) (Option.some Jvm.ClassFile.FieldType.int)) ∈ lw_all := lw_g (lw_at lw_m9 50 rfl) rfl
theorem q2092 : (Jvm.Cond.methodLink "FigureKneeModel" (369 : Nat) ({ cls := "FigureKneeModel", name := "seekRests", desc := "(I)I" } : Jvm.MethodName)) ∈ lw_all := lw_g (lw_at lw_m9 51 rfl) rfl
theorem q2093 : (Jvm.Cond.privateMethod ({ cls := "FigureKneeModel", name := "seekRests", desc := "(I)I" } : Jvm.MethodName)) ∈ lw_tbl := lw_at lw_m9 52 rfl
theorem q2094 : (Jvm.Cond.instanceMethod ({ cls := "FigureKneeModel", name := "seekRests", desc := "(I)I" } : Jvm.MethodName)) ∈ lw_all := lw_g (lw_at lw_m9 53 rfl) rfl
theorem q2095 : (Jvm.Cond.code ({ cls := "FigureKneeModel", name := "seekRests", desc := "(I)I" } : Jvm.MethodName) prog_16_method_105_code (6 : Nat) (Option.some Jvm.ClassFile.FieldType.int)) ∈ lw_all := lw_g (lw_at lw_m9 54 rfl) rfl
theorem q2097 : (Jvm.Cond.instanceMethod ({ cls := "FigureKneeModel", name := "rest", desc := "(I)I" } : Jvm.MethodName)) ∈ lw_all := lw_g (lw_at lw_m9 56 rfl) rfl
theorem q2098 : (Jvm.Cond.selects "FigureKneeModel" ({ cls := "FigureKneeModel", name := "rest", desc := "(I)I" } : Jvm.MethodName) ({ cls := "FigureKneeModel", name := "rest", desc := "(I)I" } : Jvm.MethodName)) ∈ lw_all := lw_g (lw_at lw_m9 57 rfl) rfl
theorem q2099 : (Jvm.Cond.code ({ cls := "FigureKneeModel", name := "rest", desc := "(I)I" } : Jvm.MethodName) prog_16_method_107_code (3 : Nat) (Option.some Jvm.ClassFile.FieldType.int)) ∈ lw_all := lw_g (lw_at lw_m9 58 rfl) rfl
theorem q2101 : (Jvm.Cond.instanceMethod ({ cls := "FigureKneeModel", name := "verdictOdds", desc := "(IIZ)J" } : Jvm.MethodName)) ∈ lw_all := lw_g (lw_at lw_m9 60 rfl) rfl
theorem q2102 : (Jvm.Cond.selects "FigureKneeModel" ({ cls := "FigureKneeModel", name := "verdictOdds", desc := "(IIZ)J" } : Jvm.MethodName) ({ cls := "FigureKneeModel", name := "verdictOdds", desc := "(IIZ)J" } : Jvm.MethodName)) ∈ lw_all := lw_g (lw_at lw_m9 61 rfl) rfl
theorem q2103 : (Jvm.Cond.code ({ cls := "FigureKneeModel", name := "verdictOdds", desc := "(IIZ)J" } : Jvm.MethodName) prog_16_method_109_code (10 : Nat) (Option.some Jvm.ClassFile.FieldType.long)) ∈ lw_all := lw_g (lw_at lw_m9 62 rfl) rfl
theorem q2104 : (Jvm.Cond.methodLink "FigureKneeModel" (372 : Nat) ({ cls := "FigureKneeModel", name := "verdictOf", desc := "()I" } : Jvm.MethodName)) ∈ lw_all := lw_g (lw_at lw_m9 63 rfl) rfl
theorem q2105 : (Jvm.Cond.privateMethod ({ cls := "FigureKneeModel", name := "verdictOf", desc := "()I" } : Jvm.MethodName)) ∈ lw_tbl := lw_at lw_m9 64 rfl
theorem q2106 : (Jvm.Cond.instanceMethod ({ cls := "FigureKneeModel", name := "verdictOf", desc := "()I" } : Jvm.MethodName)) ∈ lw_all := lw_g (lw_at lw_m9 65 rfl) rfl
theorem q2107 : (Jvm.Cond.code ({ cls := "FigureKneeModel", name := "verdictOf", desc := "()I" } : Jvm.MethodName) prog_16_method_108_code (3 : Nat) (Option.some Jvm.ClassFile.FieldType.int)) ∈ lw_all := lw_g (lw_at lw_m9 66 rfl) rfl
theorem q2108 : (Jvm.Cond.methodLink "FigureKneeModel" (375 : Nat) ({ cls := "FigureKneeModel", name := "lowest", desc := "(JJZ)J" } : Jvm.MethodName)) ∈ lw_all := lw_g (lw_at lw_m9 67 rfl) rfl
theorem q2109 : (Jvm.Cond.static ({ cls := "FigureKneeModel", name := "lowest", desc := "(JJZ)J" } : Jvm.MethodName)) ∈ lw_all := lw_g (lw_at lw_m9 68 rfl) rfl
theorem q2110 : (Jvm.Cond.code ({ cls := "FigureKneeModel", name := "lowest", desc := "(JJZ)J" } : Jvm.MethodName) prog_16_method_10_code (11 : Nat) (Option.some Jvm.ClassFile.FieldType.long)) ∈ lw_all := lw_g (lw_at lw_m9 69 rfl) rfl
theorem q2112 : (Jvm.Cond.instanceMethod ({ cls := "FigureKneeModel", name := "looks", desc := "(III)I" } : Jvm.MethodName)) ∈ lw_all := lw_g (lw_at lw_m9 71 rfl) rfl
theorem q2113 : (Jvm.Cond.selects "FigureKneeModel" ({ cls := "FigureKneeModel", name := "looks", desc := "(III)I" } : Jvm.MethodName) ({ cls := "FigureKneeModel", name := "looks", desc := "(III)I" } : Jvm.MethodName)) ∈ lw_all := lw_g (lw_at lw_m9 72 rfl) rfl
theorem q2114 : (Jvm.Cond.code ({ cls := "FigureKneeModel", name := "looks", desc := "(III)I" } : Jvm.MethodName) prog_16_method_111_code (5 : Nat) (Option.some Jvm.ClassFile.FieldType.int)) ∈ lw_all := lw_g (lw_at lw_m9 73 rfl) rfl
theorem q2115 : (Jvm.Cond.methodLink "FigureKneeModel" (381 : Nat) ({ cls := "FigureKneeModel", name := "lookWhy", desc := "(ZII)I" } : Jvm.MethodName)) ∈ lw_all := lw_g (lw_at lw_m9 74 rfl) rfl
theorem q2116 : (Jvm.Cond.privateMethod ({ cls := "FigureKneeModel", name := "lookWhy", desc := "(ZII)I" } : Jvm.MethodName)) ∈ lw_tbl := lw_at lw_m9 75 rfl
theorem q2117 : (Jvm.Cond.instanceMethod ({ cls := "FigureKneeModel", name := "lookWhy", desc := "(ZII)I" } : Jvm.MethodName)) ∈ lw_all := lw_g (lw_at lw_m9 76 rfl) rfl
theorem q2118 : (Jvm.Cond.code ({ cls := "FigureKneeModel", name := "lookWhy", desc := "(ZII)I" } : Jvm.MethodName) prog_16_method_110_code (6 : Nat) (Option.some Jvm.ClassFile.FieldType.int)) ∈ lw_all := lw_g (lw_at lw_m9 77 rfl) rfl
theorem q2119 : (Jvm.Cond.constant "FigureKneeModel" (379 : Nat) (65536 : Int32)) ∈ lw_all := lw_g (lw_at lw_m9 78 rfl) rfl
theorem q2120 : (Jvm.Cond.constant "FigureKneeModel" (380 : Nat) (65537 : Int32)) ∈ lw_all := lw_g (lw_at lw_m9 79 rfl) rfl
theorem q2122 : (Jvm.Cond.instanceMethod ({ cls := "FigureKneeModel", name := "verdict", desc := "(II)I" } : Jvm.MethodName)) ∈ lw_all := lw_g (lw_at lw_m9 81 rfl) rfl
theorem q2123 : (Jvm.Cond.selects "FigureKneeModel" ({ cls := "FigureKneeModel", name := "verdict", desc := "(II)I" } : Jvm.MethodName) ({ cls := "FigureKneeModel", name := "verdict", desc := "(II)I" } : Jvm.MethodName)) ∈ lw_all := lw_g (lw_at lw_m9 82 rfl) rfl
theorem q2124 : (Jvm.Cond.code ({ cls := "FigureKneeModel", name := "verdict", desc := "(II)I" } : Jvm.MethodName) prog_16_method_112_code (4 : Nat) (Option.some Jvm.ClassFile.FieldType.int)) ∈ lw_all := lw_g (lw_at lw_m9 83 rfl) rfl
theorem q2126 : (Jvm.Cond.instanceMethod ({ cls := "FigureKneeModel", name := "odds", desc := "(IIIZ)J" } : Jvm.MethodName)) ∈ lw_all := lw_g (lw_at lw_m9 85 rfl) rfl
theorem q2127 : (Jvm.Cond.selects "FigureKneeModel" ({ cls := "FigureKneeModel", name := "odds", desc := "(IIIZ)J" } : Jvm.MethodName) ({ cls := "FigureKneeModel", name := "odds", desc := "(IIIZ)J" } : Jvm.MethodName)) ∈ lw_all := lw_g (lw_at lw_m9 86 rfl) rfl
theorem q2128 : (Jvm.Cond.code ({ cls := "FigureKneeModel", name := "odds", desc := "(IIIZ)J" } : Jvm.MethodName) prog_16_method_114_code (6 : Nat) (Option.some Jvm.ClassFile.FieldType.long)) ∈ lw_all := lw_g (lw_at lw_m9 87 rfl) rfl
theorem q2129 : (Jvm.Cond.methodLink "FigureKneeModel" (395 : Nat) ({ cls := "FigureKneeModel", name := "tryDumb", desc := "(III)V" } : Jvm.MethodName)) ∈ lw_all := lw_g (lw_at lw_m9 88 rfl) rfl
theorem q2130 : (Jvm.Cond.privateMethod ({ cls := "FigureKneeModel", name := "tryDumb", desc := "(III)V" } : Jvm.MethodName)) ∈ lw_tbl := lw_at lw_m9 89 rfl
theorem q2131 : (Jvm.Cond.instanceMethod ({ cls := "FigureKneeModel", name := "tryDumb", desc := "(III)V" } : Jvm.MethodName)) ∈ lw_all := lw_g (lw_at lw_m9 90 rfl) rfl
theorem q2132 : (Jvm.Cond.code ({ cls := "FigureKneeModel", name := "tryDumb", desc := "(III)V" } : Jvm.MethodName) prog_16_method_113_code (9 : Nat) (Option.none : Option Jvm.ClassFile.FieldType)) ∈ lw_all := lw_g (lw_at lw_m9 91 rfl) rfl
theorem q2134 : (Jvm.Cond.instanceMethod ({ cls := "FigureKneeModel", name := "mean", desc := "(IIZ)J" } : Jvm.MethodName)) ∈ lw_all := lw_g (lw_at lw_m9 93 rfl) rfl
theorem q2135 : (Jvm.Cond.selects "FigureKneeModel" ({ cls := "FigureKneeModel", name := "mean", desc := "(IIZ)J" } : Jvm.MethodName) ({ cls := "FigureKneeModel", name := "mean", desc := "(IIZ)J" } : Jvm.MethodName)) ∈ lw_all := lw_g (lw_at lw_m9 94 rfl) rfl
theorem q2136 : (Jvm.Cond.code ({ cls := "FigureKneeModel", name := "mean", desc := "(IIZ)J" } : Jvm.MethodName) prog_16_method_115_code (5 : Nat) (Option.some Jvm.ClassFile.FieldType.long)) ∈ lw_all := lw_g (lw_at lw_m9 95 rfl) rfl
theorem q2138 : (Jvm.Cond.instanceMethod ({ cls := "FigureKneeModel", name := "drawn", desc := "(III)I" } : Jvm.MethodName)) ∈ lw_all := lw_g (lw_at lw_m9 97 rfl) rfl
theorem q2139 : (Jvm.Cond.selects "FigureKneeModel" ({ cls := "FigureKneeModel", name := "drawn", desc := "(III)I" } : Jvm.MethodName) ({ cls := "FigureKneeModel", name := "drawn", desc := "(III)I" } : Jvm.MethodName)) ∈ lw_all := lw_g (lw_at lw_m9 98 rfl) rfl
theorem q2140 : (Jvm.Cond.code ({ cls := "FigureKneeModel", name := "drawn", desc := "(III)I" } : Jvm.MethodName) prog_16_method_116_code (8 : Nat) (Option.some Jvm.ClassFile.FieldType.int)) ∈ lw_all := lw_g (lw_at lw_m9 99 rfl) rfl
theorem q2142 : (Jvm.Cond.instanceMethod ({ cls := "FigureKneeModel", name := "season", desc := "()I" } : Jvm.MethodName)) ∈ lw_all := lw_g (lw_at lw_m9 101 rfl) rfl
theorem q2143 : (Jvm.Cond.selects "FigureKneeModel" ({ cls := "FigureKneeModel", name := "season", desc := "()I" } : Jvm.MethodName) ({ cls := "FigureKneeModel", name := "season", desc := "()I" } : Jvm.MethodName)) ∈ lw_all := lw_g (lw_at lw_m9 102 rfl) rfl
theorem q2144 : (Jvm.Cond.code ({ cls := "FigureKneeModel", name := "season", desc := "()I" } : Jvm.MethodName) prog_16_method_118_code (2 : Nat) (Option.some Jvm.ClassFile.FieldType.int)) ∈ lw_all := lw_g (lw_at lw_m9 103 rfl) rfl
theorem q2145 : (Jvm.Cond.methodLink "FigureKneeModel" (399 : Nat) ({ cls := "FigureKneeModel", name := "note", desc := "()V" } : Jvm.MethodName)) ∈ lw_all := lw_g (lw_at lw_m9 104 rfl) rfl
theorem q2146 : (Jvm.Cond.privateMethod ({ cls := "FigureKneeModel", name := "note", desc := "()V" } : Jvm.MethodName)) ∈ lw_tbl := lw_at lw_m9 105 rfl
theorem q2147 : (Jvm.Cond.instanceMethod ({ cls := "FigureKneeModel", name := "note", desc := "()V" } : Jvm.MethodName)) ∈ lw_all := lw_g (lw_at lw_m9 106 rfl) rfl
theorem q2148 : (Jvm.Cond.code ({ cls := "FigureKneeModel", name := "note", desc := "()V" } : Jvm.MethodName) prog_16_method_117_code (2 : Nat) (Option.none : Option Jvm.ClassFile.FieldType)) ∈ lw_all := lw_g (lw_at lw_m9 107 rfl) rfl
theorem q2150 : (Jvm.Cond.instanceMethod ({ cls := "FigureKneeModel", name := "change", desc := "(I)I" } : Jvm.MethodName)) ∈ lw_all := lw_g (lw_at lw_m9 109 rfl) rfl
theorem q2151 : (Jvm.Cond.selects "FigureKneeModel" ({ cls := "FigureKneeModel", name := "change", desc := "(I)I" } : Jvm.MethodName) ({ cls := "FigureKneeModel", name := "change", desc := "(I)I" } : Jvm.MethodName)) ∈ lw_all := lw_g (lw_at lw_m9 110 rfl) rfl
theorem q2152 : (Jvm.Cond.code ({ cls := "FigureKneeModel", name := "change", desc := "(I)I" } : Jvm.MethodName) prog_16_method_119_code (2 : Nat) (Option.some Jvm.ClassFile.FieldType.int)) ∈ lw_all := lw_g (lw_at lw_m9 111 rfl) rfl
theorem q2154 : (Jvm.Cond.instanceMethod ({ cls := "FigureKneeModel", name := "step", desc := "(II)Z" } : Jvm.MethodName)) ∈ lw_all := lw_g (lw_at lw_m9 113 rfl) rfl
theorem q2155 : (Jvm.Cond.selects "FigureKneeModel" ({ cls := "FigureKneeModel", name := "step", desc := "(II)Z" } : Jvm.MethodName) ({ cls := "FigureKneeModel", name := "step", desc := "(II)Z" } : Jvm.MethodName)) ∈ lw_all := lw_g (lw_at lw_m9 114 rfl) rfl
theorem q2156 : (Jvm.Cond.code ({ cls := "FigureKneeModel", name := "step", desc := "(II)Z" } : Jvm.MethodName) prog_16_method_120_code (3 : Nat) (Option.some Jvm.ClassFile.FieldType.boolean)) ∈ lw_all := lw_g (lw_at lw_m9 115 rfl) rfl
theorem q2157 : (Jvm.Cond.methodLink "FigureKneeModel" (402 : Nat) ({ cls := "FigureKneeModel", name := "isNot", desc := "(I)Z" } : Jvm.MethodName)) ∈ lw_all := lw_g (lw_at lw_m9 116 rfl) rfl
theorem q2158 : (Jvm.Cond.privateMethod ({ cls := "FigureKneeModel", name := "isNot", desc := "(I)Z" } : Jvm.MethodName)) ∈ lw_tbl := lw_at lw_m9 117 rfl
theorem q2159 : (Jvm.Cond.instanceMethod ({ cls := "FigureKneeModel", name := "isNot", desc := "(I)Z" } : Jvm.MethodName)) ∈ lw_all := lw_g (lw_at lw_m9 118 rfl) rfl
theorem q2160 : (Jvm.Cond.code ({ cls := "FigureKneeModel", name := "isNot", desc := "(I)Z" } : Jvm.MethodName) prog_16_method_5_code (2 : Nat) (Option.some Jvm.ClassFile.FieldType.boolean)) ∈ lw_all := lw_g (lw_at lw_m9 119 rfl) rfl
theorem q2162 : (Jvm.Cond.instanceMethod ({ cls := "FigureKneeModel", name := "pay", desc := "(III)I" } : Jvm.MethodName)) ∈ lw_all := lw_g (lw_at lw_m9 121 rfl) rfl
theorem q2163 : (Jvm.Cond.selects "FigureKneeModel" ({ cls := "FigureKneeModel", name := "pay", desc := "(III)I" } : Jvm.MethodName) ({ cls := "FigureKneeModel", name := "pay", desc := "(III)I" } : Jvm.MethodName)) ∈ lw_all := lw_g (lw_at lw_m9 122 rfl) rfl
theorem q2164 : (Jvm.Cond.code ({ cls := "FigureKneeModel", name := "pay", desc := "(III)I" } : Jvm.MethodName) prog_16_method_121_code (5 : Nat) (Option.some Jvm.ClassFile.FieldType.int)) ∈ lw_all := lw_g (lw_at lw_m9 123 rfl) rfl
theorem q2166 : (Jvm.Cond.instanceMethod ({ cls := "FigureKneeModel", name := "undo", desc := "()Z" } : Jvm.MethodName)) ∈ lw_all := lw_g (lw_at lw_m9 125 rfl) rfl
theorem q2167 : (Jvm.Cond.selects "FigureKneeModel" ({ cls := "FigureKneeModel", name := "undo", desc := "()Z" } : Jvm.MethodName) ({ cls := "FigureKneeModel", name := "undo", desc := "()Z" } : Jvm.MethodName)) ∈ lw_all := lw_g (lw_at lw_m9 126 rfl) rfl
theorem q2168 : (Jvm.Cond.code ({ cls := "FigureKneeModel", name := "undo", desc := "()Z" } : Jvm.MethodName) prog_16_method_122_code (1 : Nat) (Option.some Jvm.ClassFile.FieldType.boolean)) ∈ lw_all := lw_g (lw_at lw_m9 127 rfl) rfl
theorem q2170 : (Jvm.Cond.instanceMethod ({ cls := "FigureKneeModel", name := "image", desc := "()I" } : Jvm.MethodName)) ∈ lw_all := lw_g (lw_at lw_m9 129 rfl) rfl
theorem q2171 : (Jvm.Cond.selects "FigureKneeModel" ({ cls := "FigureKneeModel", name := "image", desc := "()I" } : Jvm.MethodName) ({ cls := "FigureKneeModel", name := "image", desc := "()I" } : Jvm.MethodName)) ∈ lw_all := lw_g (lw_at lw_m9 130 rfl) rfl
theorem q2172 : (Jvm.Cond.code ({ cls := "FigureKneeModel", name := "image", desc := "()I" } : Jvm.MethodName) prog_16_method_123_code (1 : Nat) (Option.some Jvm.ClassFile.FieldType.int)) ∈ lw_all := lw_g (lw_at lw_m9 131 rfl) rfl
theorem q2174 : (Jvm.Cond.instanceMethod ({ cls := "FigureKneeModel", name := "back", desc := "(I)Z" } : Jvm.MethodName)) ∈ lw_all := lw_g (lw_at lw_m9 133 rfl) rfl
theorem q2175 : (Jvm.Cond.selects "FigureKneeModel" ({ cls := "FigureKneeModel", name := "back", desc := "(I)Z" } : Jvm.MethodName) ({ cls := "FigureKneeModel", name := "back", desc := "(I)Z" } : Jvm.MethodName)) ∈ lw_all := lw_g (lw_at lw_m9 134 rfl) rfl
theorem q2176 : (Jvm.Cond.code ({ cls := "FigureKneeModel", name := "back", desc := "(I)Z" } : Jvm.MethodName) prog_16_method_124_code (2 : Nat) (Option.some Jvm.ClassFile.FieldType.boolean)) ∈ lw_all := lw_g (lw_at lw_m9 135 rfl) rfl
theorem q2178 : (Jvm.Cond.instanceMethod ({ cls := "FigureKneeModel", name := "led", desc := "(I)I" } : Jvm.MethodName)) ∈ lw_all := lw_g (lw_at lw_m9 137 rfl) rfl
theorem q2179 : (Jvm.Cond.selects "FigureKneeModel" ({ cls := "FigureKneeModel", name := "led", desc := "(I)I" } : Jvm.MethodName) ({ cls := "FigureKneeModel", name := "led", desc := "(I)I" } : Jvm.MethodName)) ∈ lw_all := lw_g (lw_at lw_m9 138 rfl) rfl
theorem q2180 : (Jvm.Cond.code ({ cls := "FigureKneeModel", name := "led", desc := "(I)I" } : Jvm.MethodName) prog_16_method_125_code (4 : Nat) (Option.some Jvm.ClassFile.FieldType.int)) ∈ lw_all := lw_g (lw_at lw_m9 139 rfl) rfl
theorem q2182 : (Jvm.Cond.instanceMethod ({ cls := "FigureKneeModel", name := "size", desc := "(I)I" } : Jvm.MethodName)) ∈ lw_all := lw_g (lw_at lw_m9 141 rfl) rfl
theorem q2183 : (Jvm.Cond.selects "FigureKneeModel" ({ cls := "FigureKneeModel", name := "size", desc := "(I)I" } : Jvm.MethodName) ({ cls := "FigureKneeModel", name := "size", desc := "(I)I" } : Jvm.MethodName)) ∈ lw_all := lw_g (lw_at lw_m9 142 rfl) rfl
theorem q2184 : (Jvm.Cond.code ({ cls := "FigureKneeModel", name := "size", desc := "(I)I" } : Jvm.MethodName) prog_16_method_126_code (2 : Nat) (Option.some Jvm.ClassFile.FieldType.int)) ∈ lw_all := lw_g (lw_at lw_m9 143 rfl) rfl
theorem q2186 : (Jvm.Cond.instanceMethod ({ cls := "FigureKneeModel", name := "trouble", desc := "()I" } : Jvm.MethodName)) ∈ lw_all := lw_g (lw_at lw_m9 145 rfl) rfl
theorem q2187 : (Jvm.Cond.selects "FigureKneeModel" ({ cls := "FigureKneeModel", name := "trouble", desc := "()I" } : Jvm.MethodName) ({ cls := "FigureKneeModel", name := "trouble", desc := "()I" } : Jvm.MethodName)) ∈ lw_all := lw_g (lw_at lw_m9 146 rfl) rfl
theorem q2188 : (Jvm.Cond.code ({ cls := "FigureKneeModel", name := "trouble", desc := "()I" } : Jvm.MethodName) prog_16_method_127_code (1 : Nat) (Option.some Jvm.ClassFile.FieldType.int)) ∈ lw_all := lw_g (lw_at lw_m9 147 rfl) rfl
theorem q2199 : (Jvm.Cond.castable "FigureKneeModel" "java/lang/Object") ∈ lw_tbl := lw_at lw_m9 158 rfl
theorem in_X2 : ∀ w ∈ wsX20, w ∈ lw_all := lw_in wsX20 [1568, 1570, 1572, 1574, 1576, 1578, 1580, 1582, 1584, 1586, 1588, 1590, 1592, 1594, 1596, 1598, 1600, 1602, 1604, 1606, 1608, 1610, 1612, 1614, 1616, 1618, 1620, 1622, 1624, 1626, 1628, 1630, 1632, 1634, 1636, 1638, 1640, 1642, 1644, 1646, 1648, 1650] (by decide +kernel) (by decide +kernel)

