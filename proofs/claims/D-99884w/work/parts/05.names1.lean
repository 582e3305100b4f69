/-! FigureKnee -/
set_option maxRecDepth 100000
def RX1 : String := "FigureKnee"
def TX1 : u_T := fun k => match k with
  | 0 => ("FigureKnee", "tape", "[B", true)
  | 1 => ("FigureKnee", "taped", "I", false)
  | 2 => ("FigureKnee", "fault", "I", false)
  | 3 => ("FigureKnee", "where", "I", false)
  | 4 => ("FigureKnee", "trouble", "I", false)
  | 5 => ("FigureKnee", "pier", "LFigureKnee$Pier;", false)
  | 6 => ("FigureKnee", "stage", "LFigureKnee$Stage;", false)
  | 7 => ("FigureKnee", "past", "Ljava/util/ArrayList;", true)
  | 8 => ("FigureKnee", "images", "Ljava/util/ArrayList;", true)
  | 9 => ("FigureKnee", "tale", "[S", true)
  | 10 => ("FigureKnee", "roundFrom", "I", false)
  | 11 => ("FigureKnee", "roundLong", "I", false)
  | 12 => ("FigureKnee", "everyBest", "I", false)
  | 13 => ("FigureKnee", "fitsNow", "I", false)
  | 14 => ("FigureKnee", "someNow", "I", false)
  | 15 => ("FigureKnee", "everyNow", "I", false)
  | 16 => ("FigureKnee", "otherIn", "[I", true)
  | 17 => ("FigureKnee", "askLeft", "I", false)
  | 18 => ("FigureKnee", "quits", "[I", true)
  | _ => ("FigureKnee", "looked", "[I", true)
def tyX1 : Nat → FieldType := fun k => match k with
  | 0 => .array .byte
  | 1 => .int
  | 2 => .int
  | 3 => .int
  | 4 => .int
  | 5 => .object "FigureKnee$Pier"
  | 6 => .object "FigureKnee$Stage"
  | 7 => .object "java/util/ArrayList"
  | 8 => .object "java/util/ArrayList"
  | 9 => .array .short
  | 10 => .int
  | 11 => .int
  | 12 => .int
  | 13 => .int
  | 14 => .int
  | 15 => .int
  | 16 => .array .int
  | 17 => .int
  | 18 => .array .int
  | _ => .array .int
abbrev wsX10 : List Cond := u_ws RX1 TX1 20
set_option maxRecDepth 100000 in
theorem nmX1 : ∀ a, a < 20 → ∀ b, b < 20 → a ≠ b → (TX1 a).2.1 ≠ (TX1 b).2.1 := by decide +kernel
set_option maxRecDepth 100000 in
theorem tyX1_ok : ∀ k, k < 20 → parseFieldDescriptor (TX1 k).2.2.1 = some (tyX1 k) := by decide +kernel
abbrev cX1_init : ByteArray := prog_1_method_1_code
def yX1_init : MethodName := ⟨RX1, "<init>", "()V"⟩
def dkwX1_init_3 : List UInt8 := [181, 0, 38, 177]
abbrev dktX1_init_3 : List UInt8 := dkwX1_init_3 ++ []
def dkwX1_init_2 : List UInt8 := [181, 0, 27, 42, 7, 188, 10, 181, 0, 31, 42, 16, 32, 188, 10, 181, 0, 35, 42, 8, 188, 10]
abbrev dktX1_init_2 : List UInt8 := dkwX1_init_2 ++ dktX1_init_3
def dkwX1_init_1 : List UInt8 := [183, 0, 19, 181, 0, 20, 42, 187, 0, 17, 89, 183, 0, 19, 181, 0, 24, 42, 17, 10, 150, 188, 9]
abbrev dktX1_init_1 : List UInt8 := dkwX1_init_1 ++ dktX1_init_2
def dkwX1_init_0 : List UInt8 := [42, 183, 0, 1, 42, 17, 3, 132, 188, 8, 181, 0, 9, 42, 2, 181, 0, 13, 42, 187, 0, 17, 89]
abbrev dktX1_init_0 : List UInt8 := dkwX1_init_0 ++ dktX1_init_1
theorem dksX1_init_0 : cX1_init.data.toList.drop 0 = dktX1_init_0 := by decide +kernel
theorem dksX1_init_1 : cX1_init.data.toList.drop 23 = dktX1_init_1 := dk_seg dksX1_init_0 23 rfl rfl
theorem dksX1_init_2 : cX1_init.data.toList.drop 46 = dktX1_init_2 := dk_seg dksX1_init_1 23 rfl rfl
theorem dksX1_init_3 : cX1_init.data.toList.drop 68 = dktX1_init_3 := dk_seg dksX1_init_2 22 rfl rfl
theorem dX1_init_0 : decode cX1_init 0 = .ok (.aload_n 0, 1) := dk_42 (dk_at dksX1_init_0 0 rfl rfl)
theorem dX1_init_1 : decode cX1_init 1 = .ok (.invokespecial 1, 3) := dk_183 0 1 (dk_at dksX1_init_0 1 rfl rfl)
theorem dX1_init_4 : decode cX1_init 4 = .ok (.aload_n 0, 1) := dk_42 (dk_at dksX1_init_0 4 rfl rfl)
theorem dX1_init_5 : decode cX1_init 5 = .ok (.sipush 900, 3) := dk_17 3 132 (dk_at dksX1_init_0 5 rfl rfl)
theorem dX1_init_8 : decode cX1_init 8 = .ok (.newarray .byte, 2) := dk_188_8 (dk_at dksX1_init_0 8 rfl rfl)
theorem dX1_init_10 : decode cX1_init 10 = .ok (.putfield 9, 3) := dk_181 0 9 (dk_at dksX1_init_0 10 rfl rfl)
theorem dX1_init_13 : decode cX1_init 13 = .ok (.aload_n 0, 1) := dk_42 (dk_at dksX1_init_0 13 rfl rfl)
theorem dX1_init_14 : decode cX1_init 14 = .ok (.iconst (-1), 1) := dk_2 (dk_at dksX1_init_0 14 rfl rfl)
theorem dX1_init_15 : decode cX1_init 15 = .ok (.putfield 13, 3) := dk_181 0 13 (dk_at dksX1_init_0 15 rfl rfl)
theorem dX1_init_18 : decode cX1_init 18 = .ok (.aload_n 0, 1) := dk_42 (dk_at dksX1_init_0 18 rfl rfl)
theorem dX1_init_19 : decode cX1_init 19 = .ok (.new 17, 3) := dk_187 0 17 (dk_at dksX1_init_0 19 rfl rfl)
theorem dX1_init_22 : decode cX1_init 22 = .ok (.dup, 1) := dk_89 (dk_at dksX1_init_0 22 rfl rfl)
theorem dX1_init_23 : decode cX1_init 23 = .ok (.invokespecial 19, 3) := dk_183 0 19 (dk_at dksX1_init_1 0 rfl rfl)
theorem dX1_init_26 : decode cX1_init 26 = .ok (.putfield 20, 3) := dk_181 0 20 (dk_at dksX1_init_1 3 rfl rfl)
theorem dX1_init_29 : decode cX1_init 29 = .ok (.aload_n 0, 1) := dk_42 (dk_at dksX1_init_1 6 rfl rfl)
theorem dX1_init_30 : decode cX1_init 30 = .ok (.new 17, 3) := dk_187 0 17 (dk_at dksX1_init_1 7 rfl rfl)
theorem dX1_init_33 : decode cX1_init 33 = .ok (.dup, 1) := dk_89 (dk_at dksX1_init_1 10 rfl rfl)
theorem dX1_init_34 : decode cX1_init 34 = .ok (.invokespecial 19, 3) := dk_183 0 19 (dk_at dksX1_init_1 11 rfl rfl)
theorem dX1_init_37 : decode cX1_init 37 = .ok (.putfield 24, 3) := dk_181 0 24 (dk_at dksX1_init_1 14 rfl rfl)
theorem dX1_init_40 : decode cX1_init 40 = .ok (.aload_n 0, 1) := dk_42 (dk_at dksX1_init_1 17 rfl rfl)
theorem dX1_init_41 : decode cX1_init 41 = .ok (.sipush 2710, 3) := dk_17 10 150 (dk_at dksX1_init_1 18 rfl rfl)
theorem dX1_init_44 : decode cX1_init 44 = .ok (.newarray .short, 2) := dk_188_9 (dk_at dksX1_init_1 21 rfl rfl)
theorem dX1_init_46 : decode cX1_init 46 = .ok (.putfield 27, 3) := dk_181 0 27 (dk_at dksX1_init_2 0 rfl rfl)
theorem dX1_init_49 : decode cX1_init 49 = .ok (.aload_n 0, 1) := dk_42 (dk_at dksX1_init_2 3 rfl rfl)
theorem dX1_init_50 : decode cX1_init 50 = .ok (.iconst 4, 1) := dk_7 (dk_at dksX1_init_2 4 rfl rfl)
theorem dX1_init_51 : decode cX1_init 51 = .ok (.newarray .int, 2) := dk_188_10 (dk_at dksX1_init_2 5 rfl rfl)
theorem dX1_init_53 : decode cX1_init 53 = .ok (.putfield 31, 3) := dk_181 0 31 (dk_at dksX1_init_2 7 rfl rfl)
theorem dX1_init_56 : decode cX1_init 56 = .ok (.aload_n 0, 1) := dk_42 (dk_at dksX1_init_2 10 rfl rfl)
theorem dX1_init_57 : decode cX1_init 57 = .ok (.bipush 32, 2) := dk_16 32 (dk_at dksX1_init_2 11 rfl rfl)
theorem dX1_init_59 : decode cX1_init 59 = .ok (.newarray .int, 2) := dk_188_10 (dk_at dksX1_init_2 13 rfl rfl)
theorem dX1_init_61 : decode cX1_init 61 = .ok (.putfield 35, 3) := dk_181 0 35 (dk_at dksX1_init_2 15 rfl rfl)
theorem dX1_init_64 : decode cX1_init 64 = .ok (.aload_n 0, 1) := dk_42 (dk_at dksX1_init_2 18 rfl rfl)
theorem dX1_init_65 : decode cX1_init 65 = .ok (.iconst 5, 1) := dk_8 (dk_at dksX1_init_2 19 rfl rfl)
theorem dX1_init_66 : decode cX1_init 66 = .ok (.newarray .int, 2) := dk_188_10 (dk_at dksX1_init_2 20 rfl rfl)
theorem dX1_init_68 : decode cX1_init 68 = .ok (.putfield 38, 3) := dk_181 0 38 (dk_at dksX1_init_3 0 rfl rfl)
theorem dX1_init_71 : decode cX1_init 71 = .ok (.return_, 1) := dk_177 (dk_at dksX1_init_3 3 rfl rfl)
abbrev cX1_feed : ByteArray := prog_1_method_13_code
def yX1_feed : MethodName := ⟨RX1, "feed", "(IIIII)I"⟩
def dkwX1_feed_5 : List UInt8 := [180, 0, 61, 172]
abbrev dktX1_feed_5 : List UInt8 := dkwX1_feed_5 ++ []
def dkwX1_feed_4 : List UInt8 := [112, 104, 100, 124, 145, 84, 132, 6, 1, 167, 255, 172, 42, 89, 180, 0, 61, 16, 20, 96, 181, 0, 61, 42]
abbrev dktX1_feed_4 : List UInt8 := dkwX1_feed_4 ++ dktX1_feed_5
def dkwX1_feed_3 : List UInt8 := [21, 5, 54, 7, 42, 180, 0, 9, 42, 180, 0, 61, 21, 6, 96, 21, 7, 16, 24, 16, 8, 21, 6, 7]
abbrev dktX1_feed_3 : List UInt8 := dkwX1_feed_3 ++ dktX1_feed_4
def dkwX1_feed_2 : List UInt8 := [21, 6, 16, 12, 162, 0, 7, 29, 167, 0, 17, 21, 6, 16, 16, 162, 0, 8, 21, 4, 167, 0, 5]
abbrev dktX1_feed_2 : List UInt8 := dkwX1_feed_2 ++ dktX1_feed_3
def dkwX1_feed_1 : List UInt8 := [162, 0, 83, 21, 6, 7, 162, 0, 7, 27, 167, 0, 39, 21, 6, 16, 8, 162, 0, 7, 28, 167, 0, 28]
abbrev dktX1_feed_1 : List UInt8 := dkwX1_feed_1 ++ dktX1_feed_2
def dkwX1_feed_0 : List UInt8 := [42, 180, 0, 61, 16, 20, 96, 17, 3, 132, 164, 0, 5, 2, 172, 3, 54, 6, 21, 6, 16, 20]
abbrev dktX1_feed_0 : List UInt8 := dkwX1_feed_0 ++ dktX1_feed_1
theorem dksX1_feed_0 : cX1_feed.data.toList.drop 0 = dktX1_feed_0 := by decide +kernel
theorem dksX1_feed_1 : cX1_feed.data.toList.drop 22 = dktX1_feed_1 := dk_seg dksX1_feed_0 22 rfl rfl
theorem dksX1_feed_2 : cX1_feed.data.toList.drop 46 = dktX1_feed_2 := dk_seg dksX1_feed_1 24 rfl rfl
theorem dksX1_feed_3 : cX1_feed.data.toList.drop 69 = dktX1_feed_3 := dk_seg dksX1_feed_2 23 rfl rfl
theorem dksX1_feed_4 : cX1_feed.data.toList.drop 93 = dktX1_feed_4 := dk_seg dksX1_feed_3 24 rfl rfl
theorem dksX1_feed_5 : cX1_feed.data.toList.drop 117 = dktX1_feed_5 := dk_seg dksX1_feed_4 24 rfl rfl
theorem dX1_feed_0 : decode cX1_feed 0 = .ok (.aload_n 0, 1) := dk_42 (dk_at dksX1_feed_0 0 rfl rfl)
theorem dX1_feed_1 : decode cX1_feed 1 = .ok (.getfield 61, 3) := dk_180 0 61 (dk_at dksX1_feed_0 1 rfl rfl)
theorem dX1_feed_4 : decode cX1_feed 4 = .ok (.bipush 20, 2) := dk_16 20 (dk_at dksX1_feed_0 4 rfl rfl)
theorem dX1_feed_6 : decode cX1_feed 6 = .ok (.iadd, 1) := dk_96 (dk_at dksX1_feed_0 6 rfl rfl)
theorem dX1_feed_7 : decode cX1_feed 7 = .ok (.sipush 900, 3) := dk_17 3 132 (dk_at dksX1_feed_0 7 rfl rfl)
theorem dX1_feed_10 : decode cX1_feed 10 = .ok (.if_icmp .le 5, 3) := dk_164 0 5 (dk_at dksX1_feed_0 10 rfl rfl)
theorem dX1_feed_13 : decode cX1_feed 13 = .ok (.iconst (-1), 1) := dk_2 (dk_at dksX1_feed_0 13 rfl rfl)
theorem dX1_feed_14 : decode cX1_feed 14 = .ok (.ireturn, 1) := dk_172 (dk_at dksX1_feed_0 14 rfl rfl)
theorem dX1_feed_15 : decode cX1_feed 15 = .ok (.iconst 0, 1) := dk_3 (dk_at dksX1_feed_0 15 rfl rfl)
theorem dX1_feed_16 : decode cX1_feed 16 = .ok (.istore 6, 2) := dk_54 6 (dk_at dksX1_feed_0 16 rfl rfl)
theorem dX1_feed_18 : decode cX1_feed 18 = .ok (.iload 6, 2) := dk_21 6 (dk_at dksX1_feed_0 18 rfl rfl)
theorem dX1_feed_20 : decode cX1_feed 20 = .ok (.bipush 20, 2) := dk_16 20 (dk_at dksX1_feed_0 20 rfl rfl)
theorem dX1_feed_22 : decode cX1_feed 22 = .ok (.if_icmp .ge 83, 3) := dk_162 0 83 (dk_at dksX1_feed_1 0 rfl rfl)
theorem dX1_feed_25 : decode cX1_feed 25 = .ok (.iload 6, 2) := dk_21 6 (dk_at dksX1_feed_1 3 rfl rfl)
theorem dX1_feed_27 : decode cX1_feed 27 = .ok (.iconst 4, 1) := dk_7 (dk_at dksX1_feed_1 5 rfl rfl)
theorem dX1_feed_28 : decode cX1_feed 28 = .ok (.if_icmp .ge 7, 3) := dk_162 0 7 (dk_at dksX1_feed_1 6 rfl rfl)
theorem dX1_feed_31 : decode cX1_feed 31 = .ok (.iload_n 1, 1) := dk_27 (dk_at dksX1_feed_1 9 rfl rfl)
theorem dX1_feed_32 : decode cX1_feed 32 = .ok (.goto 39, 3) := dk_167 0 39 (dk_at dksX1_feed_1 10 rfl rfl)
theorem dX1_feed_35 : decode cX1_feed 35 = .ok (.iload 6, 2) := dk_21 6 (dk_at dksX1_feed_1 13 rfl rfl)
theorem dX1_feed_37 : decode cX1_feed 37 = .ok (.bipush 8, 2) := dk_16 8 (dk_at dksX1_feed_1 15 rfl rfl)
theorem dX1_feed_39 : decode cX1_feed 39 = .ok (.if_icmp .ge 7, 3) := dk_162 0 7 (dk_at dksX1_feed_1 17 rfl rfl)
theorem dX1_feed_42 : decode cX1_feed 42 = .ok (.iload_n 2, 1) := dk_28 (dk_at dksX1_feed_1 20 rfl rfl)
theorem dX1_feed_43 : decode cX1_feed 43 = .ok (.goto 28, 3) := dk_167 0 28 (dk_at dksX1_feed_1 21 rfl rfl)
theorem dX1_feed_46 : decode cX1_feed 46 = .ok (.iload 6, 2) := dk_21 6 (dk_at dksX1_feed_2 0 rfl rfl)
theorem dX1_feed_48 : decode cX1_feed 48 = .ok (.bipush 12, 2) := dk_16 12 (dk_at dksX1_feed_2 2 rfl rfl)
theorem dX1_feed_50 : decode cX1_feed 50 = .ok (.if_icmp .ge 7, 3) := dk_162 0 7 (dk_at dksX1_feed_2 4 rfl rfl)
theorem dX1_feed_53 : decode cX1_feed 53 = .ok (.iload_n 3, 1) := dk_29 (dk_at dksX1_feed_2 7 rfl rfl)
theorem dX1_feed_54 : decode cX1_feed 54 = .ok (.goto 17, 3) := dk_167 0 17 (dk_at dksX1_feed_2 8 rfl rfl)
theorem dX1_feed_57 : decode cX1_feed 57 = .ok (.iload 6, 2) := dk_21 6 (dk_at dksX1_feed_2 11 rfl rfl)
theorem dX1_feed_59 : decode cX1_feed 59 = .ok (.bipush 16, 2) := dk_16 16 (dk_at dksX1_feed_2 13 rfl rfl)
theorem dX1_feed_61 : decode cX1_feed 61 = .ok (.if_icmp .ge 8, 3) := dk_162 0 8 (dk_at dksX1_feed_2 15 rfl rfl)
theorem dX1_feed_64 : decode cX1_feed 64 = .ok (.iload 4, 2) := dk_21 4 (dk_at dksX1_feed_2 18 rfl rfl)
theorem dX1_feed_66 : decode cX1_feed 66 = .ok (.goto 5, 3) := dk_167 0 5 (dk_at dksX1_feed_2 20 rfl rfl)
theorem dX1_feed_69 : decode cX1_feed 69 = .ok (.iload 5, 2) := dk_21 5 (dk_at dksX1_feed_3 0 rfl rfl)
theorem dX1_feed_71 : decode cX1_feed 71 = .ok (.istore 7, 2) := dk_54 7 (dk_at dksX1_feed_3 2 rfl rfl)
theorem dX1_feed_73 : decode cX1_feed 73 = .ok (.aload_n 0, 1) := dk_42 (dk_at dksX1_feed_3 4 rfl rfl)
theorem dX1_feed_74 : decode cX1_feed 74 = .ok (.getfield 9, 3) := dk_180 0 9 (dk_at dksX1_feed_3 5 rfl rfl)
theorem dX1_feed_77 : decode cX1_feed 77 = .ok (.aload_n 0, 1) := dk_42 (dk_at dksX1_feed_3 8 rfl rfl)
theorem dX1_feed_78 : decode cX1_feed 78 = .ok (.getfield 61, 3) := dk_180 0 61 (dk_at dksX1_feed_3 9 rfl rfl)
theorem dX1_feed_81 : decode cX1_feed 81 = .ok (.iload 6, 2) := dk_21 6 (dk_at dksX1_feed_3 12 rfl rfl)
theorem dX1_feed_83 : decode cX1_feed 83 = .ok (.iadd, 1) := dk_96 (dk_at dksX1_feed_3 14 rfl rfl)
theorem dX1_feed_84 : decode cX1_feed 84 = .ok (.iload 7, 2) := dk_21 7 (dk_at dksX1_feed_3 15 rfl rfl)
theorem dX1_feed_86 : decode cX1_feed 86 = .ok (.bipush 24, 2) := dk_16 24 (dk_at dksX1_feed_3 17 rfl rfl)
theorem dX1_feed_88 : decode cX1_feed 88 = .ok (.bipush 8, 2) := dk_16 8 (dk_at dksX1_feed_3 19 rfl rfl)
theorem dX1_feed_90 : decode cX1_feed 90 = .ok (.iload 6, 2) := dk_21 6 (dk_at dksX1_feed_3 21 rfl rfl)
theorem dX1_feed_92 : decode cX1_feed 92 = .ok (.iconst 4, 1) := dk_7 (dk_at dksX1_feed_3 23 rfl rfl)
theorem dX1_feed_93 : decode cX1_feed 93 = .ok (.irem, 1) := dk_112 (dk_at dksX1_feed_4 0 rfl rfl)
theorem dX1_feed_94 : decode cX1_feed 94 = .ok (.imul, 1) := dk_104 (dk_at dksX1_feed_4 1 rfl rfl)
theorem dX1_feed_95 : decode cX1_feed 95 = .ok (.isub, 1) := dk_100 (dk_at dksX1_feed_4 2 rfl rfl)
theorem dX1_feed_96 : decode cX1_feed 96 = .ok (.iushr, 1) := dk_124 (dk_at dksX1_feed_4 3 rfl rfl)
theorem dX1_feed_97 : decode cX1_feed 97 = .ok (.i2b, 1) := dk_145 (dk_at dksX1_feed_4 4 rfl rfl)
theorem dX1_feed_98 : decode cX1_feed 98 = .ok (.bastore, 1) := dk_84 (dk_at dksX1_feed_4 5 rfl rfl)
theorem dX1_feed_99 : decode cX1_feed 99 = .ok (.iinc 6 1, 3) := dk_132 6 1 (dk_at dksX1_feed_4 6 rfl rfl)
theorem dX1_feed_102 : decode cX1_feed 102 = .ok (.goto (-84), 3) := dk_167 255 172 (dk_at dksX1_feed_4 9 rfl rfl)
theorem dX1_feed_105 : decode cX1_feed 105 = .ok (.aload_n 0, 1) := dk_42 (dk_at dksX1_feed_4 12 rfl rfl)
theorem dX1_feed_106 : decode cX1_feed 106 = .ok (.dup, 1) := dk_89 (dk_at dksX1_feed_4 13 rfl rfl)
theorem dX1_feed_107 : decode cX1_feed 107 = .ok (.getfield 61, 3) := dk_180 0 61 (dk_at dksX1_feed_4 14 rfl rfl)
theorem dX1_feed_110 : decode cX1_feed 110 = .ok (.bipush 20, 2) := dk_16 20 (dk_at dksX1_feed_4 17 rfl rfl)
theorem dX1_feed_112 : decode cX1_feed 112 = .ok (.iadd, 1) := dk_96 (dk_at dksX1_feed_4 19 rfl rfl)
theorem dX1_feed_113 : decode cX1_feed 113 = .ok (.putfield 61, 3) := dk_181 0 61 (dk_at dksX1_feed_4 20 rfl rfl)
theorem dX1_feed_116 : decode cX1_feed 116 = .ok (.aload_n 0, 1) := dk_42 (dk_at dksX1_feed_4 23 rfl rfl)
theorem dX1_feed_117 : decode cX1_feed 117 = .ok (.getfield 61, 3) := dk_180 0 61 (dk_at dksX1_feed_5 0 rfl rfl)
theorem dX1_feed_120 : decode cX1_feed 120 = .ok (.ireturn, 1) := dk_172 (dk_at dksX1_feed_5 3 rfl rfl)
abbrev cX1_pier : ByteArray := prog_1_method_14_code
def yX1_pier : MethodName := ⟨RX1, "pier", "(I)I"⟩
def dkwX1_pier_5 : List UInt8 := [182, 0, 105, 42, 42, 182, 0, 108, 182, 0, 54, 172]
abbrev dktX1_pier_5 : List UInt8 := dkwX1_pier_5 ++ []
def dkwX1_pier_4 : List UInt8 := [183, 0, 95, 181, 0, 98, 42, 180, 0, 98, 182, 0, 102, 42, 180, 0, 20, 182, 0, 105, 42, 180, 0, 24]
abbrev dktX1_pier_4 : List UInt8 := dkwX1_pier_4 ++ dktX1_pier_5
def dkwX1_pier_3 : List UInt8 := [180, 0, 86, 181, 0, 13, 2, 172, 42, 45, 181, 0, 89, 42, 187, 0, 93, 89, 42, 180, 0, 89]
abbrev dktX1_pier_3 : List UInt8 := dkwX1_pier_3 ++ dktX1_pier_4
def dkwX1_pier_2 : List UInt8 := [182, 0, 78, 78, 42, 44, 180, 0, 82, 181, 0, 85, 45, 199, 0, 18, 42, 7, 181, 0, 47, 42, 44]
abbrev dktX1_pier_2 : List UInt8 := dkwX1_pier_2 ++ dktX1_pier_3
def dkwX1_pier_1 : List UInt8 := [187, 0, 70, 89, 42, 180, 0, 9, 27, 183, 0, 72, 183, 0, 75, 77, 42, 3, 181, 0, 61, 44]
abbrev dktX1_pier_1 : List UInt8 := dkwX1_pier_1 ++ dktX1_pier_2
def dkwX1_pier_0 : List UInt8 := [27, 3, 42, 180, 0, 61, 184, 0, 64, 154, 0, 9, 42, 5, 182, 0, 50, 172, 187, 0, 68, 89]
abbrev dktX1_pier_0 : List UInt8 := dkwX1_pier_0 ++ dktX1_pier_1
theorem dksX1_pier_0 : cX1_pier.data.toList.drop 0 = dktX1_pier_0 := by decide +kernel
theorem dksX1_pier_1 : cX1_pier.data.toList.drop 22 = dktX1_pier_1 := dk_seg dksX1_pier_0 22 rfl rfl
theorem dksX1_pier_2 : cX1_pier.data.toList.drop 44 = dktX1_pier_2 := dk_seg dksX1_pier_1 22 rfl rfl
theorem dksX1_pier_3 : cX1_pier.data.toList.drop 67 = dktX1_pier_3 := dk_seg dksX1_pier_2 23 rfl rfl
theorem dksX1_pier_4 : cX1_pier.data.toList.drop 89 = dktX1_pier_4 := dk_seg dksX1_pier_3 22 rfl rfl
theorem dksX1_pier_5 : cX1_pier.data.toList.drop 113 = dktX1_pier_5 := dk_seg dksX1_pier_4 24 rfl rfl
theorem dX1_pier_0 : decode cX1_pier 0 = .ok (.iload_n 1, 1) := dk_27 (dk_at dksX1_pier_0 0 rfl rfl)
theorem dX1_pier_1 : decode cX1_pier 1 = .ok (.iconst 0, 1) := dk_3 (dk_at dksX1_pier_0 1 rfl rfl)
theorem dX1_pier_2 : decode cX1_pier 2 = .ok (.aload_n 0, 1) := dk_42 (dk_at dksX1_pier_0 2 rfl rfl)
theorem dX1_pier_3 : decode cX1_pier 3 = .ok (.getfield 61, 3) := dk_180 0 61 (dk_at dksX1_pier_0 3 rfl rfl)
theorem dX1_pier_6 : decode cX1_pier 6 = .ok (.invokestatic 64, 3) := dk_184 0 64 (dk_at dksX1_pier_0 6 rfl rfl)
theorem dX1_pier_9 : decode cX1_pier 9 = .ok (.ifCond .ne 9, 3) := dk_154 0 9 (dk_at dksX1_pier_0 9 rfl rfl)
theorem dX1_pier_12 : decode cX1_pier 12 = .ok (.aload_n 0, 1) := dk_42 (dk_at dksX1_pier_0 12 rfl rfl)
theorem dX1_pier_13 : decode cX1_pier 13 = .ok (.iconst 2, 1) := dk_5 (dk_at dksX1_pier_0 13 rfl rfl)
theorem dX1_pier_14 : decode cX1_pier 14 = .ok (.invokevirtual 50, 3) := dk_182 0 50 (dk_at dksX1_pier_0 14 rfl rfl)
theorem dX1_pier_17 : decode cX1_pier 17 = .ok (.ireturn, 1) := dk_172 (dk_at dksX1_pier_0 17 rfl rfl)
theorem dX1_pier_18 : decode cX1_pier 18 = .ok (.new 68, 3) := dk_187 0 68 (dk_at dksX1_pier_0 18 rfl rfl)
theorem dX1_pier_21 : decode cX1_pier 21 = .ok (.dup, 1) := dk_89 (dk_at dksX1_pier_0 21 rfl rfl)
theorem dX1_pier_22 : decode cX1_pier 22 = .ok (.new 70, 3) := dk_187 0 70 (dk_at dksX1_pier_1 0 rfl rfl)
theorem dX1_pier_25 : decode cX1_pier 25 = .ok (.dup, 1) := dk_89 (dk_at dksX1_pier_1 3 rfl rfl)
theorem dX1_pier_26 : decode cX1_pier 26 = .ok (.aload_n 0, 1) := dk_42 (dk_at dksX1_pier_1 4 rfl rfl)
theorem dX1_pier_27 : decode cX1_pier 27 = .ok (.getfield 9, 3) := dk_180 0 9 (dk_at dksX1_pier_1 5 rfl rfl)
theorem dX1_pier_30 : decode cX1_pier 30 = .ok (.iload_n 1, 1) := dk_27 (dk_at dksX1_pier_1 8 rfl rfl)
theorem dX1_pier_31 : decode cX1_pier 31 = .ok (.invokespecial 72, 3) := dk_183 0 72 (dk_at dksX1_pier_1 9 rfl rfl)
theorem dX1_pier_34 : decode cX1_pier 34 = .ok (.invokespecial 75, 3) := dk_183 0 75 (dk_at dksX1_pier_1 12 rfl rfl)
theorem dX1_pier_37 : decode cX1_pier 37 = .ok (.astore_n 2, 1) := dk_77 (dk_at dksX1_pier_1 15 rfl rfl)
theorem dX1_pier_38 : decode cX1_pier 38 = .ok (.aload_n 0, 1) := dk_42 (dk_at dksX1_pier_1 16 rfl rfl)
theorem dX1_pier_39 : decode cX1_pier 39 = .ok (.iconst 0, 1) := dk_3 (dk_at dksX1_pier_1 17 rfl rfl)
theorem dX1_pier_40 : decode cX1_pier 40 = .ok (.putfield 61, 3) := dk_181 0 61 (dk_at dksX1_pier_1 18 rfl rfl)
theorem dX1_pier_43 : decode cX1_pier 43 = .ok (.aload_n 2, 1) := dk_44 (dk_at dksX1_pier_1 21 rfl rfl)
theorem dX1_pier_44 : decode cX1_pier 44 = .ok (.invokevirtual 78, 3) := dk_182 0 78 (dk_at dksX1_pier_2 0 rfl rfl)
theorem dX1_pier_47 : decode cX1_pier 47 = .ok (.astore_n 3, 1) := dk_78 (dk_at dksX1_pier_2 3 rfl rfl)
theorem dX1_pier_48 : decode cX1_pier 48 = .ok (.aload_n 0, 1) := dk_42 (dk_at dksX1_pier_2 4 rfl rfl)
theorem dX1_pier_49 : decode cX1_pier 49 = .ok (.aload_n 2, 1) := dk_44 (dk_at dksX1_pier_2 5 rfl rfl)
theorem dX1_pier_50 : decode cX1_pier 50 = .ok (.getfield 82, 3) := dk_180 0 82 (dk_at dksX1_pier_2 6 rfl rfl)
theorem dX1_pier_53 : decode cX1_pier 53 = .ok (.putfield 85, 3) := dk_181 0 85 (dk_at dksX1_pier_2 9 rfl rfl)
theorem dX1_pier_56 : decode cX1_pier 56 = .ok (.aload_n 3, 1) := dk_45 (dk_at dksX1_pier_2 12 rfl rfl)
theorem dX1_pier_57 : decode cX1_pier 57 = .ok (.ifnonnull 18, 3) := dk_199 0 18 (dk_at dksX1_pier_2 13 rfl rfl)
theorem dX1_pier_60 : decode cX1_pier 60 = .ok (.aload_n 0, 1) := dk_42 (dk_at dksX1_pier_2 16 rfl rfl)
theorem dX1_pier_61 : decode cX1_pier 61 = .ok (.iconst 4, 1) := dk_7 (dk_at dksX1_pier_2 17 rfl rfl)
theorem dX1_pier_62 : decode cX1_pier 62 = .ok (.putfield 47, 3) := dk_181 0 47 (dk_at dksX1_pier_2 18 rfl rfl)
theorem dX1_pier_65 : decode cX1_pier 65 = .ok (.aload_n 0, 1) := dk_42 (dk_at dksX1_pier_2 21 rfl rfl)
theorem dX1_pier_66 : decode cX1_pier 66 = .ok (.aload_n 2, 1) := dk_44 (dk_at dksX1_pier_2 22 rfl rfl)
theorem dX1_pier_67 : decode cX1_pier 67 = .ok (.getfield 86, 3) := dk_180 0 86 (dk_at dksX1_pier_3 0 rfl rfl)
theorem dX1_pier_70 : decode cX1_pier 70 = .ok (.putfield 13, 3) := dk_181 0 13 (dk_at dksX1_pier_3 3 rfl rfl)
theorem dX1_pier_73 : decode cX1_pier 73 = .ok (.iconst (-1), 1) := dk_2 (dk_at dksX1_pier_3 6 rfl rfl)
theorem dX1_pier_74 : decode cX1_pier 74 = .ok (.ireturn, 1) := dk_172 (dk_at dksX1_pier_3 7 rfl rfl)
theorem dX1_pier_75 : decode cX1_pier 75 = .ok (.aload_n 0, 1) := dk_42 (dk_at dksX1_pier_3 8 rfl rfl)
theorem dX1_pier_76 : decode cX1_pier 76 = .ok (.aload_n 3, 1) := dk_45 (dk_at dksX1_pier_3 9 rfl rfl)
theorem dX1_pier_77 : decode cX1_pier 77 = .ok (.putfield 89, 3) := dk_181 0 89 (dk_at dksX1_pier_3 10 rfl rfl)
theorem dX1_pier_80 : decode cX1_pier 80 = .ok (.aload_n 0, 1) := dk_42 (dk_at dksX1_pier_3 13 rfl rfl)
theorem dX1_pier_81 : decode cX1_pier 81 = .ok (.new 93, 3) := dk_187 0 93 (dk_at dksX1_pier_3 14 rfl rfl)
theorem dX1_pier_84 : decode cX1_pier 84 = .ok (.dup, 1) := dk_89 (dk_at dksX1_pier_3 17 rfl rfl)
theorem dX1_pier_85 : decode cX1_pier 85 = .ok (.aload_n 0, 1) := dk_42 (dk_at dksX1_pier_3 18 rfl rfl)
theorem dX1_pier_86 : decode cX1_pier 86 = .ok (.getfield 89, 3) := dk_180 0 89 (dk_at dksX1_pier_3 19 rfl rfl)
theorem dX1_pier_89 : decode cX1_pier 89 = .ok (.invokespecial 95, 3) := dk_183 0 95 (dk_at dksX1_pier_4 0 rfl rfl)
theorem dX1_pier_92 : decode cX1_pier 92 = .ok (.putfield 98, 3) := dk_181 0 98 (dk_at dksX1_pier_4 3 rfl rfl)
theorem dX1_pier_95 : decode cX1_pier 95 = .ok (.aload_n 0, 1) := dk_42 (dk_at dksX1_pier_4 6 rfl rfl)
theorem dX1_pier_96 : decode cX1_pier 96 = .ok (.getfield 98, 3) := dk_180 0 98 (dk_at dksX1_pier_4 7 rfl rfl)
theorem dX1_pier_99 : decode cX1_pier 99 = .ok (.invokevirtual 102, 3) := dk_182 0 102 (dk_at dksX1_pier_4 10 rfl rfl)
theorem dX1_pier_102 : decode cX1_pier 102 = .ok (.aload_n 0, 1) := dk_42 (dk_at dksX1_pier_4 13 rfl rfl)
theorem dX1_pier_103 : decode cX1_pier 103 = .ok (.getfield 20, 3) := dk_180 0 20 (dk_at dksX1_pier_4 14 rfl rfl)
theorem dX1_pier_106 : decode cX1_pier 106 = .ok (.invokevirtual 105, 3) := dk_182 0 105 (dk_at dksX1_pier_4 17 rfl rfl)
theorem dX1_pier_109 : decode cX1_pier 109 = .ok (.aload_n 0, 1) := dk_42 (dk_at dksX1_pier_4 20 rfl rfl)
theorem dX1_pier_110 : decode cX1_pier 110 = .ok (.getfield 24, 3) := dk_180 0 24 (dk_at dksX1_pier_4 21 rfl rfl)
theorem dX1_pier_113 : decode cX1_pier 113 = .ok (.invokevirtual 105, 3) := dk_182 0 105 (dk_at dksX1_pier_5 0 rfl rfl)
theorem dX1_pier_116 : decode cX1_pier 116 = .ok (.aload_n 0, 1) := dk_42 (dk_at dksX1_pier_5 3 rfl rfl)
theorem dX1_pier_117 : decode cX1_pier 117 = .ok (.aload_n 0, 1) := dk_42 (dk_at dksX1_pier_5 4 rfl rfl)
theorem dX1_pier_118 : decode cX1_pier 118 = .ok (.invokevirtual 108, 3) := dk_182 0 108 (dk_at dksX1_pier_5 5 rfl rfl)
theorem dX1_pier_121 : decode cX1_pier 121 = .ok (.invokevirtual 54, 3) := dk_182 0 54 (dk_at dksX1_pier_5 8 rfl rfl)
theorem dX1_pier_124 : decode cX1_pier 124 = .ok (.ireturn, 1) := dk_172 (dk_at dksX1_pier_5 11 rfl rfl)
abbrev cX1_in : ByteArray := prog_1_method_2_code
def yX1_in : MethodName := ⟨RX1, "in", "(III)Z"⟩
def dkwX1_in_0 : List UInt8 := [26, 27, 161, 0, 12, 26, 28, 163, 0, 7, 4, 167, 0, 4, 3, 172]
abbrev dktX1_in_0 : List UInt8 := dkwX1_in_0 ++ []
theorem dksX1_in_0 : cX1_in.data.toList.drop 0 = dktX1_in_0 := by decide +kernel
theorem dX1_in_0 : decode cX1_in 0 = .ok (.iload_n 0, 1) := dk_26 (dk_at dksX1_in_0 0 rfl rfl)
theorem dX1_in_1 : decode cX1_in 1 = .ok (.iload_n 1, 1) := dk_27 (dk_at dksX1_in_0 1 rfl rfl)
theorem dX1_in_2 : decode cX1_in 2 = .ok (.if_icmp .lt 12, 3) := dk_161 0 12 (dk_at dksX1_in_0 2 rfl rfl)
theorem dX1_in_5 : decode cX1_in 5 = .ok (.iload_n 0, 1) := dk_26 (dk_at dksX1_in_0 5 rfl rfl)
theorem dX1_in_6 : decode cX1_in 6 = .ok (.iload_n 2, 1) := dk_28 (dk_at dksX1_in_0 6 rfl rfl)
theorem dX1_in_7 : decode cX1_in 7 = .ok (.if_icmp .gt 7, 3) := dk_163 0 7 (dk_at dksX1_in_0 7 rfl rfl)
theorem dX1_in_10 : decode cX1_in 10 = .ok (.iconst 1, 1) := dk_4 (dk_at dksX1_in_0 10 rfl rfl)
theorem dX1_in_11 : decode cX1_in 11 = .ok (.goto 4, 3) := dk_167 0 4 (dk_at dksX1_in_0 11 rfl rfl)
theorem dX1_in_14 : decode cX1_in 14 = .ok (.iconst 0, 1) := dk_3 (dk_at dksX1_in_0 14 rfl rfl)
theorem dX1_in_15 : decode cX1_in 15 = .ok (.ireturn, 1) := dk_172 (dk_at dksX1_in_0 15 rfl rfl)
abbrev cX1_refused : ByteArray := prog_1_method_7_code
def yX1_refused : MethodName := ⟨RX1, "refused", "(I)I"⟩
def dkwX1_refused_0 : List UInt8 := [42, 27, 181, 0, 47, 42, 2, 181, 0, 13, 2, 172]
abbrev dktX1_refused_0 : List UInt8 := dkwX1_refused_0 ++ []
theorem dksX1_refused_0 : cX1_refused.data.toList.drop 0 = dktX1_refused_0 := by decide +kernel
theorem dX1_refused_0 : decode cX1_refused 0 = .ok (.aload_n 0, 1) := dk_42 (dk_at dksX1_refused_0 0 rfl rfl)
theorem dX1_refused_1 : decode cX1_refused 1 = .ok (.iload_n 1, 1) := dk_27 (dk_at dksX1_refused_0 1 rfl rfl)
theorem dX1_refused_2 : decode cX1_refused 2 = .ok (.putfield 47, 3) := dk_181 0 47 (dk_at dksX1_refused_0 2 rfl rfl)
theorem dX1_refused_5 : decode cX1_refused 5 = .ok (.aload_n 0, 1) := dk_42 (dk_at dksX1_refused_0 5 rfl rfl)
theorem dX1_refused_6 : decode cX1_refused 6 = .ok (.iconst (-1), 1) := dk_2 (dk_at dksX1_refused_0 6 rfl rfl)
theorem dX1_refused_7 : decode cX1_refused 7 = .ok (.putfield 13, 3) := dk_181 0 13 (dk_at dksX1_refused_0 7 rfl rfl)
theorem dX1_refused_10 : decode cX1_refused 10 = .ok (.iconst (-1), 1) := dk_2 (dk_at dksX1_refused_0 10 rfl rfl)
theorem dX1_refused_11 : decode cX1_refused 11 = .ok (.ireturn, 1) := dk_172 (dk_at dksX1_refused_0 11 rfl rfl)
abbrev cX1_pairs : ByteArray := prog_1_method_17_code
def yX1_pairs : MethodName := ⟨RX1, "pairs", "()I"⟩
def dkwX1_pairs_0 : List UInt8 := [42, 180, 0, 89, 180, 0, 112, 182, 0, 116, 172]
abbrev dktX1_pairs_0 : List UInt8 := dkwX1_pairs_0 ++ []
theorem dksX1_pairs_0 : cX1_pairs.data.toList.drop 0 = dktX1_pairs_0 := by decide +kernel
theorem dX1_pairs_0 : decode cX1_pairs 0 = .ok (.aload_n 0, 1) := dk_42 (dk_at dksX1_pairs_0 0 rfl rfl)
theorem dX1_pairs_1 : decode cX1_pairs 1 = .ok (.getfield 89, 3) := dk_180 0 89 (dk_at dksX1_pairs_0 1 rfl rfl)
theorem dX1_pairs_4 : decode cX1_pairs 4 = .ok (.getfield 112, 3) := dk_180 0 112 (dk_at dksX1_pairs_0 4 rfl rfl)
theorem dX1_pairs_7 : decode cX1_pairs 7 = .ok (.invokevirtual 116, 3) := dk_182 0 116 (dk_at dksX1_pairs_0 7 rfl rfl)
theorem dX1_pairs_10 : decode cX1_pairs 10 = .ok (.ireturn, 1) := dk_172 (dk_at dksX1_pairs_0 10 rfl rfl)
abbrev cX1_well : ByteArray := prog_1_method_10_code
def yX1_well : MethodName := ⟨RX1, "well", "(I)I"⟩
def dkwX1_well_0 : List UInt8 := [42, 3, 181, 0, 47, 42, 2, 181, 0, 13, 27, 172]
abbrev dktX1_well_0 : List UInt8 := dkwX1_well_0 ++ []
theorem dksX1_well_0 : cX1_well.data.toList.drop 0 = dktX1_well_0 := by decide +kernel
theorem dX1_well_0 : decode cX1_well 0 = .ok (.aload_n 0, 1) := dk_42 (dk_at dksX1_well_0 0 rfl rfl)
theorem dX1_well_1 : decode cX1_well 1 = .ok (.iconst 0, 1) := dk_3 (dk_at dksX1_well_0 1 rfl rfl)
theorem dX1_well_2 : decode cX1_well 2 = .ok (.putfield 47, 3) := dk_181 0 47 (dk_at dksX1_well_0 2 rfl rfl)
theorem dX1_well_5 : decode cX1_well 5 = .ok (.aload_n 0, 1) := dk_42 (dk_at dksX1_well_0 5 rfl rfl)
theorem dX1_well_6 : decode cX1_well 6 = .ok (.iconst (-1), 1) := dk_2 (dk_at dksX1_well_0 6 rfl rfl)
theorem dX1_well_7 : decode cX1_well 7 = .ok (.putfield 13, 3) := dk_181 0 13 (dk_at dksX1_well_0 7 rfl rfl)
theorem dX1_well_10 : decode cX1_well 10 = .ok (.iload_n 1, 1) := dk_27 (dk_at dksX1_well_0 10 rfl rfl)
theorem dX1_well_11 : decode cX1_well 11 = .ok (.ireturn, 1) := dk_172 (dk_at dksX1_well_0 11 rfl rfl)
abbrev cX1_fault : ByteArray := prog_1_method_15_code
def yX1_fault : MethodName := ⟨RX1, "fault", "()I"⟩
theorem dX1_fault_0 : decode cX1_fault 0 = .ok (.aload_n 0, 1) := by decide +kernel
theorem dX1_fault_1 : decode cX1_fault 1 = .ok (.getfield 85, 3) := by decide +kernel
theorem dX1_fault_4 : decode cX1_fault 4 = .ok (.ireturn, 1) := by decide +kernel
abbrev cX1_where : ByteArray := prog_1_method_16_code
def yX1_where : MethodName := ⟨RX1, "where", "()I"⟩
theorem dX1_where_0 : decode cX1_where 0 = .ok (.aload_n 0, 1) := by decide +kernel
theorem dX1_where_1 : decode cX1_where 1 = .ok (.getfield 13, 3) := by decide +kernel
theorem dX1_where_4 : decode cX1_where 4 = .ok (.ireturn, 1) := by decide +kernel
abbrev cX1_pair : ByteArray := prog_1_method_25_code
def yX1_pair : MethodName := ⟨RX1, "pair", "(II)I"⟩
def dkwX1_pair_6 : List UInt8 := [4, 167, 0, 4, 3, 182, 0, 54, 172]
abbrev dktX1_pair_6 : List UInt8 := dkwX1_pair_6 ++ []
def dkwX1_pair_5 : List UInt8 := [180, 0, 155, 182, 0, 54, 172, 42, 42, 42, 180, 0, 98, 180, 0, 142, 27, 51, 182, 0, 169, 153, 0, 7]
abbrev dktX1_pair_5 : List UInt8 := dkwX1_pair_5 ++ dktX1_pair_6
def dkwX1_pair_4 : List UInt8 := [182, 0, 54, 172, 42, 42, 180, 0, 98, 180, 0, 152, 27, 51, 182, 0, 54, 172, 42, 42, 27, 182, 0, 125]
abbrev dktX1_pair_4 : List UInt8 := dkwX1_pair_4 ++ dktX1_pair_5
def dkwX1_pair_3 : List UInt8 := [27, 51, 182, 0, 54, 172, 42, 42, 180, 0, 89, 180, 0, 133, 42, 180, 0, 98, 180, 0, 142, 27, 51, 100]
abbrev dktX1_pair_3 : List UInt8 := dkwX1_pair_3 ++ dktX1_pair_4
def dkwX1_pair_2 : List UInt8 := [42, 42, 27, 182, 0, 125, 180, 0, 129, 180, 0, 166, 182, 0, 54, 172, 42, 42, 180, 0, 98, 180, 0, 142]
abbrev dktX1_pair_2 : List UInt8 := dkwX1_pair_2 ++ dktX1_pair_3
def dkwX1_pair_1 : List UInt8 := [170, 0, 0, 0, 0, 0, 0, 115, 0, 0, 0, 0, 0, 0, 0, 4, 0, 0, 0, 36, 0, 0, 0, 52, 0, 0, 0, 66, 0, 0, 0, 88, 0, 0, 0, 102]
abbrev dktX1_pair_1 : List UInt8 := dkwX1_pair_1 ++ dktX1_pair_2
def dkwX1_pair_0 : List UInt8 := [42, 27, 182, 0, 162, 153, 0, 12, 28, 3, 8, 184, 0, 64, 154, 0, 9, 42, 4, 182, 0, 50, 172, 28]
abbrev dktX1_pair_0 : List UInt8 := dkwX1_pair_0 ++ dktX1_pair_1
theorem dksX1_pair_0 : cX1_pair.data.toList.drop 0 = dktX1_pair_0 := by decide +kernel
theorem dksX1_pair_1 : cX1_pair.data.toList.drop 24 = dktX1_pair_1 := dk_seg dksX1_pair_0 24 rfl rfl
theorem dksX1_pair_2 : cX1_pair.data.toList.drop 60 = dktX1_pair_2 := dk_seg dksX1_pair_1 36 rfl rfl
theorem dksX1_pair_3 : cX1_pair.data.toList.drop 84 = dktX1_pair_3 := dk_seg dksX1_pair_2 24 rfl rfl
theorem dksX1_pair_4 : cX1_pair.data.toList.drop 108 = dktX1_pair_4 := dk_seg dksX1_pair_3 24 rfl rfl
theorem dksX1_pair_5 : cX1_pair.data.toList.drop 132 = dktX1_pair_5 := dk_seg dksX1_pair_4 24 rfl rfl
theorem dksX1_pair_6 : cX1_pair.data.toList.drop 156 = dktX1_pair_6 := dk_seg dksX1_pair_5 24 rfl rfl
theorem dX1_pair_0 : decode cX1_pair 0 = .ok (.aload_n 0, 1) := dk_42 (dk_at dksX1_pair_0 0 rfl rfl)
theorem dX1_pair_1 : decode cX1_pair 1 = .ok (.iload_n 1, 1) := dk_27 (dk_at dksX1_pair_0 1 rfl rfl)
theorem dX1_pair_2 : decode cX1_pair 2 = .ok (.invokevirtual 162, 3) := dk_182 0 162 (dk_at dksX1_pair_0 2 rfl rfl)
theorem dX1_pair_5 : decode cX1_pair 5 = .ok (.ifCond .eq 12, 3) := dk_153 0 12 (dk_at dksX1_pair_0 5 rfl rfl)
theorem dX1_pair_8 : decode cX1_pair 8 = .ok (.iload_n 2, 1) := dk_28 (dk_at dksX1_pair_0 8 rfl rfl)
theorem dX1_pair_9 : decode cX1_pair 9 = .ok (.iconst 0, 1) := dk_3 (dk_at dksX1_pair_0 9 rfl rfl)
theorem dX1_pair_10 : decode cX1_pair 10 = .ok (.iconst 5, 1) := dk_8 (dk_at dksX1_pair_0 10 rfl rfl)
theorem dX1_pair_11 : decode cX1_pair 11 = .ok (.invokestatic 64, 3) := dk_184 0 64 (dk_at dksX1_pair_0 11 rfl rfl)
theorem dX1_pair_14 : decode cX1_pair 14 = .ok (.ifCond .ne 9, 3) := dk_154 0 9 (dk_at dksX1_pair_0 14 rfl rfl)
theorem dX1_pair_17 : decode cX1_pair 17 = .ok (.aload_n 0, 1) := dk_42 (dk_at dksX1_pair_0 17 rfl rfl)
theorem dX1_pair_18 : decode cX1_pair 18 = .ok (.iconst 1, 1) := dk_4 (dk_at dksX1_pair_0 18 rfl rfl)
theorem dX1_pair_19 : decode cX1_pair 19 = .ok (.invokevirtual 50, 3) := dk_182 0 50 (dk_at dksX1_pair_0 19 rfl rfl)
theorem dX1_pair_22 : decode cX1_pair 22 = .ok (.ireturn, 1) := dk_172 (dk_at dksX1_pair_0 22 rfl rfl)
theorem dX1_pair_23 : decode cX1_pair 23 = .ok (.iload_n 2, 1) := dk_28 (dk_at dksX1_pair_0 23 rfl rfl)
theorem dX1_pair_24 : decode cX1_pair 24 = .ok (.tableswitch 115 0 4 #[36, 52, 66, 88, 102], 36) := by decide +kernel
theorem dX1_pair_60 : decode cX1_pair 60 = .ok (.aload_n 0, 1) := dk_42 (dk_at dksX1_pair_2 0 rfl rfl)
theorem dX1_pair_61 : decode cX1_pair 61 = .ok (.aload_n 0, 1) := dk_42 (dk_at dksX1_pair_2 1 rfl rfl)
theorem dX1_pair_62 : decode cX1_pair 62 = .ok (.iload_n 1, 1) := dk_27 (dk_at dksX1_pair_2 2 rfl rfl)
theorem dX1_pair_63 : decode cX1_pair 63 = .ok (.invokevirtual 125, 3) := dk_182 0 125 (dk_at dksX1_pair_2 3 rfl rfl)
theorem dX1_pair_66 : decode cX1_pair 66 = .ok (.getfield 129, 3) := dk_180 0 129 (dk_at dksX1_pair_2 6 rfl rfl)
theorem dX1_pair_69 : decode cX1_pair 69 = .ok (.getfield 166, 3) := dk_180 0 166 (dk_at dksX1_pair_2 9 rfl rfl)
theorem dX1_pair_72 : decode cX1_pair 72 = .ok (.invokevirtual 54, 3) := dk_182 0 54 (dk_at dksX1_pair_2 12 rfl rfl)
theorem dX1_pair_75 : decode cX1_pair 75 = .ok (.ireturn, 1) := dk_172 (dk_at dksX1_pair_2 15 rfl rfl)
theorem dX1_pair_76 : decode cX1_pair 76 = .ok (.aload_n 0, 1) := dk_42 (dk_at dksX1_pair_2 16 rfl rfl)
theorem dX1_pair_77 : decode cX1_pair 77 = .ok (.aload_n 0, 1) := dk_42 (dk_at dksX1_pair_2 17 rfl rfl)
theorem dX1_pair_78 : decode cX1_pair 78 = .ok (.getfield 98, 3) := dk_180 0 98 (dk_at dksX1_pair_2 18 rfl rfl)
theorem dX1_pair_81 : decode cX1_pair 81 = .ok (.getfield 142, 3) := dk_180 0 142 (dk_at dksX1_pair_2 21 rfl rfl)
theorem dX1_pair_84 : decode cX1_pair 84 = .ok (.iload_n 1, 1) := dk_27 (dk_at dksX1_pair_3 0 rfl rfl)
theorem dX1_pair_85 : decode cX1_pair 85 = .ok (.baload, 1) := dk_51 (dk_at dksX1_pair_3 1 rfl rfl)
theorem dX1_pair_86 : decode cX1_pair 86 = .ok (.invokevirtual 54, 3) := dk_182 0 54 (dk_at dksX1_pair_3 2 rfl rfl)
theorem dX1_pair_89 : decode cX1_pair 89 = .ok (.ireturn, 1) := dk_172 (dk_at dksX1_pair_3 5 rfl rfl)
theorem dX1_pair_90 : decode cX1_pair 90 = .ok (.aload_n 0, 1) := dk_42 (dk_at dksX1_pair_3 6 rfl rfl)
theorem dX1_pair_91 : decode cX1_pair 91 = .ok (.aload_n 0, 1) := dk_42 (dk_at dksX1_pair_3 7 rfl rfl)
theorem dX1_pair_92 : decode cX1_pair 92 = .ok (.getfield 89, 3) := dk_180 0 89 (dk_at dksX1_pair_3 8 rfl rfl)
theorem dX1_pair_95 : decode cX1_pair 95 = .ok (.getfield 133, 3) := dk_180 0 133 (dk_at dksX1_pair_3 11 rfl rfl)
theorem dX1_pair_98 : decode cX1_pair 98 = .ok (.aload_n 0, 1) := dk_42 (dk_at dksX1_pair_3 14 rfl rfl)
theorem dX1_pair_99 : decode cX1_pair 99 = .ok (.getfield 98, 3) := dk_180 0 98 (dk_at dksX1_pair_3 15 rfl rfl)
theorem dX1_pair_102 : decode cX1_pair 102 = .ok (.getfield 142, 3) := dk_180 0 142 (dk_at dksX1_pair_3 18 rfl rfl)
theorem dX1_pair_105 : decode cX1_pair 105 = .ok (.iload_n 1, 1) := dk_27 (dk_at dksX1_pair_3 21 rfl rfl)
theorem dX1_pair_106 : decode cX1_pair 106 = .ok (.baload, 1) := dk_51 (dk_at dksX1_pair_3 22 rfl rfl)
theorem dX1_pair_107 : decode cX1_pair 107 = .ok (.isub, 1) := dk_100 (dk_at dksX1_pair_3 23 rfl rfl)
theorem dX1_pair_108 : decode cX1_pair 108 = .ok (.invokevirtual 54, 3) := dk_182 0 54 (dk_at dksX1_pair_4 0 rfl rfl)
theorem dX1_pair_111 : decode cX1_pair 111 = .ok (.ireturn, 1) := dk_172 (dk_at dksX1_pair_4 3 rfl rfl)
theorem dX1_pair_112 : decode cX1_pair 112 = .ok (.aload_n 0, 1) := dk_42 (dk_at dksX1_pair_4 4 rfl rfl)
theorem dX1_pair_113 : decode cX1_pair 113 = .ok (.aload_n 0, 1) := dk_42 (dk_at dksX1_pair_4 5 rfl rfl)
theorem dX1_pair_114 : decode cX1_pair 114 = .ok (.getfield 98, 3) := dk_180 0 98 (dk_at dksX1_pair_4 6 rfl rfl)
theorem dX1_pair_117 : decode cX1_pair 117 = .ok (.getfield 152, 3) := dk_180 0 152 (dk_at dksX1_pair_4 9 rfl rfl)
theorem dX1_pair_120 : decode cX1_pair 120 = .ok (.iload_n 1, 1) := dk_27 (dk_at dksX1_pair_4 12 rfl rfl)
theorem dX1_pair_121 : decode cX1_pair 121 = .ok (.baload, 1) := dk_51 (dk_at dksX1_pair_4 13 rfl rfl)
theorem dX1_pair_122 : decode cX1_pair 122 = .ok (.invokevirtual 54, 3) := dk_182 0 54 (dk_at dksX1_pair_4 14 rfl rfl)
theorem dX1_pair_125 : decode cX1_pair 125 = .ok (.ireturn, 1) := dk_172 (dk_at dksX1_pair_4 17 rfl rfl)
theorem dX1_pair_126 : decode cX1_pair 126 = .ok (.aload_n 0, 1) := dk_42 (dk_at dksX1_pair_4 18 rfl rfl)
theorem dX1_pair_127 : decode cX1_pair 127 = .ok (.aload_n 0, 1) := dk_42 (dk_at dksX1_pair_4 19 rfl rfl)
theorem dX1_pair_128 : decode cX1_pair 128 = .ok (.iload_n 1, 1) := dk_27 (dk_at dksX1_pair_4 20 rfl rfl)
theorem dX1_pair_129 : decode cX1_pair 129 = .ok (.invokevirtual 125, 3) := dk_182 0 125 (dk_at dksX1_pair_4 21 rfl rfl)
theorem dX1_pair_132 : decode cX1_pair 132 = .ok (.getfield 155, 3) := dk_180 0 155 (dk_at dksX1_pair_5 0 rfl rfl)
theorem dX1_pair_135 : decode cX1_pair 135 = .ok (.invokevirtual 54, 3) := dk_182 0 54 (dk_at dksX1_pair_5 3 rfl rfl)
theorem dX1_pair_138 : decode cX1_pair 138 = .ok (.ireturn, 1) := dk_172 (dk_at dksX1_pair_5 6 rfl rfl)
theorem dX1_pair_139 : decode cX1_pair 139 = .ok (.aload_n 0, 1) := dk_42 (dk_at dksX1_pair_5 7 rfl rfl)
theorem dX1_pair_140 : decode cX1_pair 140 = .ok (.aload_n 0, 1) := dk_42 (dk_at dksX1_pair_5 8 rfl rfl)
theorem dX1_pair_141 : decode cX1_pair 141 = .ok (.aload_n 0, 1) := dk_42 (dk_at dksX1_pair_5 9 rfl rfl)
theorem dX1_pair_142 : decode cX1_pair 142 = .ok (.getfield 98, 3) := dk_180 0 98 (dk_at dksX1_pair_5 10 rfl rfl)
theorem dX1_pair_145 : decode cX1_pair 145 = .ok (.getfield 142, 3) := dk_180 0 142 (dk_at dksX1_pair_5 13 rfl rfl)
theorem dX1_pair_148 : decode cX1_pair 148 = .ok (.iload_n 1, 1) := dk_27 (dk_at dksX1_pair_5 16 rfl rfl)
theorem dX1_pair_149 : decode cX1_pair 149 = .ok (.baload, 1) := dk_51 (dk_at dksX1_pair_5 17 rfl rfl)
theorem dX1_pair_150 : decode cX1_pair 150 = .ok (.invokevirtual 169, 3) := dk_182 0 169 (dk_at dksX1_pair_5 18 rfl rfl)
theorem dX1_pair_153 : decode cX1_pair 153 = .ok (.ifCond .eq 7, 3) := dk_153 0 7 (dk_at dksX1_pair_5 21 rfl rfl)
theorem dX1_pair_156 : decode cX1_pair 156 = .ok (.iconst 1, 1) := dk_4 (dk_at dksX1_pair_6 0 rfl rfl)
theorem dX1_pair_157 : decode cX1_pair 157 = .ok (.goto 4, 3) := dk_167 0 4 (dk_at dksX1_pair_6 1 rfl rfl)
theorem dX1_pair_160 : decode cX1_pair 160 = .ok (.iconst 0, 1) := dk_3 (dk_at dksX1_pair_6 4 rfl rfl)
theorem dX1_pair_161 : decode cX1_pair 161 = .ok (.invokevirtual 54, 3) := dk_182 0 54 (dk_at dksX1_pair_6 5 rfl rfl)
theorem dX1_pair_164 : decode cX1_pair 164 = .ok (.ireturn, 1) := dk_172 (dk_at dksX1_pair_6 8 rfl rfl)
abbrev cX1_isPair : ByteArray := prog_1_method_19_code
def yX1_isPair : MethodName := ⟨RX1, "isPair", "(I)Z"⟩
def dkwX1_isPair_1 : List UInt8 := [167, 0, 4, 3, 172]
abbrev dktX1_isPair_1 : List UInt8 := dkwX1_isPair_1 ++ []
def dkwX1_isPair_0 : List UInt8 := [42, 180, 0, 89, 198, 0, 21, 27, 3, 42, 182, 0, 108, 4, 100, 184, 0, 64, 153, 0, 7, 4]
abbrev dktX1_isPair_0 : List UInt8 := dkwX1_isPair_0 ++ dktX1_isPair_1
theorem dksX1_isPair_0 : cX1_isPair.data.toList.drop 0 = dktX1_isPair_0 := by decide +kernel
theorem dksX1_isPair_1 : cX1_isPair.data.toList.drop 22 = dktX1_isPair_1 := dk_seg dksX1_isPair_0 22 rfl rfl
theorem dX1_isPair_0 : decode cX1_isPair 0 = .ok (.aload_n 0, 1) := dk_42 (dk_at dksX1_isPair_0 0 rfl rfl)
theorem dX1_isPair_1 : decode cX1_isPair 1 = .ok (.getfield 89, 3) := dk_180 0 89 (dk_at dksX1_isPair_0 1 rfl rfl)
theorem dX1_isPair_4 : decode cX1_isPair 4 = .ok (.ifnull 21, 3) := dk_198 0 21 (dk_at dksX1_isPair_0 4 rfl rfl)
theorem dX1_isPair_7 : decode cX1_isPair 7 = .ok (.iload_n 1, 1) := dk_27 (dk_at dksX1_isPair_0 7 rfl rfl)
theorem dX1_isPair_8 : decode cX1_isPair 8 = .ok (.iconst 0, 1) := dk_3 (dk_at dksX1_isPair_0 8 rfl rfl)
theorem dX1_isPair_9 : decode cX1_isPair 9 = .ok (.aload_n 0, 1) := dk_42 (dk_at dksX1_isPair_0 9 rfl rfl)
theorem dX1_isPair_10 : decode cX1_isPair 10 = .ok (.invokevirtual 108, 3) := dk_182 0 108 (dk_at dksX1_isPair_0 10 rfl rfl)
theorem dX1_isPair_13 : decode cX1_isPair 13 = .ok (.iconst 1, 1) := dk_4 (dk_at dksX1_isPair_0 13 rfl rfl)
theorem dX1_isPair_14 : decode cX1_isPair 14 = .ok (.isub, 1) := dk_100 (dk_at dksX1_isPair_0 14 rfl rfl)
theorem dX1_isPair_15 : decode cX1_isPair 15 = .ok (.invokestatic 64, 3) := dk_184 0 64 (dk_at dksX1_isPair_0 15 rfl rfl)
theorem dX1_isPair_18 : decode cX1_isPair 18 = .ok (.ifCond .eq 7, 3) := dk_153 0 7 (dk_at dksX1_isPair_0 18 rfl rfl)
theorem dX1_isPair_21 : decode cX1_isPair 21 = .ok (.iconst 1, 1) := dk_4 (dk_at dksX1_isPair_0 21 rfl rfl)
theorem dX1_isPair_22 : decode cX1_isPair 22 = .ok (.goto 4, 3) := dk_167 0 4 (dk_at dksX1_isPair_1 0 rfl rfl)
theorem dX1_isPair_25 : decode cX1_isPair 25 = .ok (.iconst 0, 1) := dk_3 (dk_at dksX1_isPair_1 3 rfl rfl)
theorem dX1_isPair_26 : decode cX1_isPair 26 = .ok (.ireturn, 1) := dk_172 (dk_at dksX1_isPair_1 4 rfl rfl)
abbrev cX1_at : ByteArray := prog_1_method_18_code
def yX1_at : MethodName := ⟨RX1, "at", "(I)LFigureKnee$Pair;"⟩
def dkwX1_at_0 : List UInt8 := [42, 180, 0, 89, 180, 0, 112, 27, 182, 0, 119, 192, 0, 123, 176]
abbrev dktX1_at_0 : List UInt8 := dkwX1_at_0 ++ []
theorem dksX1_at_0 : cX1_at.data.toList.drop 0 = dktX1_at_0 := by decide +kernel
theorem dX1_at_0 : decode cX1_at 0 = .ok (.aload_n 0, 1) := dk_42 (dk_at dksX1_at_0 0 rfl rfl)
theorem dX1_at_1 : decode cX1_at 1 = .ok (.getfield 89, 3) := dk_180 0 89 (dk_at dksX1_at_0 1 rfl rfl)
theorem dX1_at_4 : decode cX1_at 4 = .ok (.getfield 112, 3) := dk_180 0 112 (dk_at dksX1_at_0 4 rfl rfl)
theorem dX1_at_7 : decode cX1_at 7 = .ok (.iload_n 1, 1) := dk_27 (dk_at dksX1_at_0 7 rfl rfl)
theorem dX1_at_8 : decode cX1_at 8 = .ok (.invokevirtual 119, 3) := dk_182 0 119 (dk_at dksX1_at_0 8 rfl rfl)
theorem dX1_at_11 : decode cX1_at 11 = .ok (.checkcast 123, 3) := dk_192 0 123 (dk_at dksX1_at_0 11 rfl rfl)
theorem dX1_at_14 : decode cX1_at 14 = .ok (.areturn, 1) := dk_176 (dk_at dksX1_at_0 14 rfl rfl)
abbrev cX1_isMore : ByteArray := prog_1_method_24_code
def yX1_isMore : MethodName := ⟨RX1, "isMore", "(I)Z"⟩
def dkwX1_isMore_0 : List UInt8 := [5, 27, 104, 42, 180, 0, 89, 180, 0, 133, 164, 0, 7, 4, 167, 0, 4, 3, 172]
abbrev dktX1_isMore_0 : List UInt8 := dkwX1_isMore_0 ++ []
theorem dksX1_isMore_0 : cX1_isMore.data.toList.drop 0 = dktX1_isMore_0 := by decide +kernel
theorem dX1_isMore_0 : decode cX1_isMore 0 = .ok (.iconst 2, 1) := dk_5 (dk_at dksX1_isMore_0 0 rfl rfl)
theorem dX1_isMore_1 : decode cX1_isMore 1 = .ok (.iload_n 1, 1) := dk_27 (dk_at dksX1_isMore_0 1 rfl rfl)
theorem dX1_isMore_2 : decode cX1_isMore 2 = .ok (.imul, 1) := dk_104 (dk_at dksX1_isMore_0 2 rfl rfl)
theorem dX1_isMore_3 : decode cX1_isMore 3 = .ok (.aload_n 0, 1) := dk_42 (dk_at dksX1_isMore_0 3 rfl rfl)
theorem dX1_isMore_4 : decode cX1_isMore 4 = .ok (.getfield 89, 3) := dk_180 0 89 (dk_at dksX1_isMore_0 4 rfl rfl)
theorem dX1_isMore_7 : decode cX1_isMore 7 = .ok (.getfield 133, 3) := dk_180 0 133 (dk_at dksX1_isMore_0 7 rfl rfl)
theorem dX1_isMore_10 : decode cX1_isMore 10 = .ok (.if_icmp .le 7, 3) := dk_164 0 7 (dk_at dksX1_isMore_0 10 rfl rfl)
theorem dX1_isMore_13 : decode cX1_isMore 13 = .ok (.iconst 1, 1) := dk_4 (dk_at dksX1_isMore_0 13 rfl rfl)
theorem dX1_isMore_14 : decode cX1_isMore 14 = .ok (.goto 4, 3) := dk_167 0 4 (dk_at dksX1_isMore_0 14 rfl rfl)
theorem dX1_isMore_17 : decode cX1_isMore 17 = .ok (.iconst 0, 1) := dk_3 (dk_at dksX1_isMore_0 17 rfl rfl)
theorem dX1_isMore_18 : decode cX1_isMore 18 = .ok (.ireturn, 1) := dk_172 (dk_at dksX1_isMore_0 18 rfl rfl)
abbrev cX1_says : ByteArray := prog_1_method_27_code
def yX1_says : MethodName := ⟨RX1, "says", "(II)I"⟩
def dkwX1_says_1 : List UInt8 := [182, 0, 180, 42, 42, 180, 0, 27, 28, 53, 182, 0, 54, 172]
abbrev dktX1_says_1 : List UInt8 := dkwX1_says_1 ++ []
def dkwX1_says_0 : List UInt8 := [42, 42, 27, 182, 0, 162, 28, 182, 0, 176, 62, 29, 158, 0, 9, 42, 29, 182, 0, 50, 172, 42, 27, 28]
abbrev dktX1_says_0 : List UInt8 := dkwX1_says_0 ++ dktX1_says_1
theorem dksX1_says_0 : cX1_says.data.toList.drop 0 = dktX1_says_0 := by decide +kernel
theorem dksX1_says_1 : cX1_says.data.toList.drop 24 = dktX1_says_1 := dk_seg dksX1_says_0 24 rfl rfl
theorem dX1_says_0 : decode cX1_says 0 = .ok (.aload_n 0, 1) := dk_42 (dk_at dksX1_says_0 0 rfl rfl)
theorem dX1_says_1 : decode cX1_says 1 = .ok (.aload_n 0, 1) := dk_42 (dk_at dksX1_says_0 1 rfl rfl)
theorem dX1_says_2 : decode cX1_says 2 = .ok (.iload_n 1, 1) := dk_27 (dk_at dksX1_says_0 2 rfl rfl)
theorem dX1_says_3 : decode cX1_says 3 = .ok (.invokevirtual 162, 3) := dk_182 0 162 (dk_at dksX1_says_0 3 rfl rfl)
theorem dX1_says_6 : decode cX1_says 6 = .ok (.iload_n 2, 1) := dk_28 (dk_at dksX1_says_0 6 rfl rfl)
theorem dX1_says_7 : decode cX1_says 7 = .ok (.invokevirtual 176, 3) := dk_182 0 176 (dk_at dksX1_says_0 7 rfl rfl)
theorem dX1_says_10 : decode cX1_says 10 = .ok (.istore_n 3, 1) := dk_62 (dk_at dksX1_says_0 10 rfl rfl)
theorem dX1_says_11 : decode cX1_says 11 = .ok (.iload_n 3, 1) := dk_29 (dk_at dksX1_says_0 11 rfl rfl)
theorem dX1_says_12 : decode cX1_says 12 = .ok (.ifCond .le 9, 3) := dk_158 0 9 (dk_at dksX1_says_0 12 rfl rfl)
theorem dX1_says_15 : decode cX1_says 15 = .ok (.aload_n 0, 1) := dk_42 (dk_at dksX1_says_0 15 rfl rfl)
theorem dX1_says_16 : decode cX1_says 16 = .ok (.iload_n 3, 1) := dk_29 (dk_at dksX1_says_0 16 rfl rfl)
theorem dX1_says_17 : decode cX1_says 17 = .ok (.invokevirtual 50, 3) := dk_182 0 50 (dk_at dksX1_says_0 17 rfl rfl)
theorem dX1_says_20 : decode cX1_says 20 = .ok (.ireturn, 1) := dk_172 (dk_at dksX1_says_0 20 rfl rfl)
theorem dX1_says_21 : decode cX1_says 21 = .ok (.aload_n 0, 1) := dk_42 (dk_at dksX1_says_0 21 rfl rfl)
theorem dX1_says_22 : decode cX1_says 22 = .ok (.iload_n 1, 1) := dk_27 (dk_at dksX1_says_0 22 rfl rfl)
theorem dX1_says_23 : decode cX1_says 23 = .ok (.iload_n 2, 1) := dk_28 (dk_at dksX1_says_0 23 rfl rfl)
theorem dX1_says_24 : decode cX1_says 24 = .ok (.invokevirtual 180, 3) := dk_182 0 180 (dk_at dksX1_says_1 0 rfl rfl)
theorem dX1_says_27 : decode cX1_says 27 = .ok (.aload_n 0, 1) := dk_42 (dk_at dksX1_says_1 3 rfl rfl)
theorem dX1_says_28 : decode cX1_says 28 = .ok (.aload_n 0, 1) := dk_42 (dk_at dksX1_says_1 4 rfl rfl)
theorem dX1_says_29 : decode cX1_says 29 = .ok (.getfield 27, 3) := dk_180 0 27 (dk_at dksX1_says_1 5 rfl rfl)
theorem dX1_says_32 : decode cX1_says 32 = .ok (.iload_n 2, 1) := dk_28 (dk_at dksX1_says_1 8 rfl rfl)
theorem dX1_says_33 : decode cX1_says 33 = .ok (.saload, 1) := dk_53 (dk_at dksX1_says_1 9 rfl rfl)
theorem dX1_says_34 : decode cX1_says 34 = .ok (.invokevirtual 54, 3) := dk_182 0 54 (dk_at dksX1_says_1 10 rfl rfl)
theorem dX1_says_37 : decode cX1_says 37 = .ok (.ireturn, 1) := dk_172 (dk_at dksX1_says_1 13 rfl rfl)
abbrev cX1_whyAhead : ByteArray := prog_1_method_26_code
def yX1_whyAhead : MethodName := ⟨RX1, "whyAhead", "(ZI)I"⟩
def dkwX1_whyAhead_0 : List UInt8 := [42, 27, 28, 3, 16, 60, 182, 0, 172, 172]
abbrev dktX1_whyAhead_0 : List UInt8 := dkwX1_whyAhead_0 ++ []
theorem dksX1_whyAhead_0 : cX1_whyAhead.data.toList.drop 0 = dktX1_whyAhead_0 := by decide +kernel
theorem dX1_whyAhead_0 : decode cX1_whyAhead 0 = .ok (.aload_n 0, 1) := dk_42 (dk_at dksX1_whyAhead_0 0 rfl rfl)
theorem dX1_whyAhead_1 : decode cX1_whyAhead 1 = .ok (.iload_n 1, 1) := dk_27 (dk_at dksX1_whyAhead_0 1 rfl rfl)
theorem dX1_whyAhead_2 : decode cX1_whyAhead 2 = .ok (.iload_n 2, 1) := dk_28 (dk_at dksX1_whyAhead_0 2 rfl rfl)
theorem dX1_whyAhead_3 : decode cX1_whyAhead 3 = .ok (.iconst 0, 1) := dk_3 (dk_at dksX1_whyAhead_0 3 rfl rfl)
theorem dX1_whyAhead_4 : decode cX1_whyAhead 4 = .ok (.bipush 60, 2) := dk_16 60 (dk_at dksX1_whyAhead_0 4 rfl rfl)
theorem dX1_whyAhead_6 : decode cX1_whyAhead 6 = .ok (.invokevirtual 172, 3) := dk_182 0 172 (dk_at dksX1_whyAhead_0 6 rfl rfl)
theorem dX1_whyAhead_9 : decode cX1_whyAhead 9 = .ok (.ireturn, 1) := dk_172 (dk_at dksX1_whyAhead_0 9 rfl rfl)
abbrev cX1_why : ByteArray := prog_1_method_20_code
def yX1_why : MethodName := ⟨RX1, "why", "(ZIII)I"⟩
def dkwX1_why_0 : List UInt8 := [27, 154, 0, 7, 4, 167, 0, 18, 28, 29, 21, 4, 184, 0, 64, 153, 0, 7, 3, 167, 0, 4, 5, 172]
abbrev dktX1_why_0 : List UInt8 := dkwX1_why_0 ++ []
theorem dksX1_why_0 : cX1_why.data.toList.drop 0 = dktX1_why_0 := by decide +kernel
theorem dX1_why_0 : decode cX1_why 0 = .ok (.iload_n 1, 1) := dk_27 (dk_at dksX1_why_0 0 rfl rfl)
theorem dX1_why_1 : decode cX1_why 1 = .ok (.ifCond .ne 7, 3) := dk_154 0 7 (dk_at dksX1_why_0 1 rfl rfl)
theorem dX1_why_4 : decode cX1_why 4 = .ok (.iconst 1, 1) := dk_4 (dk_at dksX1_why_0 4 rfl rfl)
theorem dX1_why_5 : decode cX1_why 5 = .ok (.goto 18, 3) := dk_167 0 18 (dk_at dksX1_why_0 5 rfl rfl)
theorem dX1_why_8 : decode cX1_why 8 = .ok (.iload_n 2, 1) := dk_28 (dk_at dksX1_why_0 8 rfl rfl)
theorem dX1_why_9 : decode cX1_why 9 = .ok (.iload_n 3, 1) := dk_29 (dk_at dksX1_why_0 9 rfl rfl)
theorem dX1_why_10 : decode cX1_why 10 = .ok (.iload 4, 2) := dk_21 4 (dk_at dksX1_why_0 10 rfl rfl)
theorem dX1_why_12 : decode cX1_why 12 = .ok (.invokestatic 64, 3) := dk_184 0 64 (dk_at dksX1_why_0 12 rfl rfl)
theorem dX1_why_15 : decode cX1_why 15 = .ok (.ifCond .eq 7, 3) := dk_153 0 7 (dk_at dksX1_why_0 15 rfl rfl)
theorem dX1_why_18 : decode cX1_why 18 = .ok (.iconst 0, 1) := dk_3 (dk_at dksX1_why_0 18 rfl rfl)
theorem dX1_why_19 : decode cX1_why 19 = .ok (.goto 4, 3) := dk_167 0 4 (dk_at dksX1_why_0 19 rfl rfl)
theorem dX1_why_22 : decode cX1_why 22 = .ok (.iconst 2, 1) := dk_5 (dk_at dksX1_why_0 22 rfl rfl)
theorem dX1_why_23 : decode cX1_why 23 = .ok (.ireturn, 1) := dk_172 (dk_at dksX1_why_0 23 rfl rfl)
abbrev cX1_tellsOn : ByteArray := prog_1_method_23_code
def yX1_tellsOn : MethodName := ⟨RX1, "tellsOn", "(II)V"⟩
def dkwX1_tellsOn_0 : List UInt8 := [42, 27, 42, 180, 0, 98, 180, 0, 152, 27, 51, 42, 27, 182, 0, 125, 180, 0, 155, 28, 182, 0, 158, 177]
abbrev dktX1_tellsOn_0 : List UInt8 := dkwX1_tellsOn_0 ++ []
theorem dksX1_tellsOn_0 : cX1_tellsOn.data.toList.drop 0 = dktX1_tellsOn_0 := by decide +kernel
theorem dX1_tellsOn_0 : decode cX1_tellsOn 0 = .ok (.aload_n 0, 1) := dk_42 (dk_at dksX1_tellsOn_0 0 rfl rfl)
theorem dX1_tellsOn_1 : decode cX1_tellsOn 1 = .ok (.iload_n 1, 1) := dk_27 (dk_at dksX1_tellsOn_0 1 rfl rfl)
theorem dX1_tellsOn_2 : decode cX1_tellsOn 2 = .ok (.aload_n 0, 1) := dk_42 (dk_at dksX1_tellsOn_0 2 rfl rfl)
theorem dX1_tellsOn_3 : decode cX1_tellsOn 3 = .ok (.getfield 98, 3) := dk_180 0 98 (dk_at dksX1_tellsOn_0 3 rfl rfl)
theorem dX1_tellsOn_6 : decode cX1_tellsOn 6 = .ok (.getfield 152, 3) := dk_180 0 152 (dk_at dksX1_tellsOn_0 6 rfl rfl)
theorem dX1_tellsOn_9 : decode cX1_tellsOn 9 = .ok (.iload_n 1, 1) := dk_27 (dk_at dksX1_tellsOn_0 9 rfl rfl)
theorem dX1_tellsOn_10 : decode cX1_tellsOn 10 = .ok (.baload, 1) := dk_51 (dk_at dksX1_tellsOn_0 10 rfl rfl)
theorem dX1_tellsOn_11 : decode cX1_tellsOn 11 = .ok (.aload_n 0, 1) := dk_42 (dk_at dksX1_tellsOn_0 11 rfl rfl)
theorem dX1_tellsOn_12 : decode cX1_tellsOn 12 = .ok (.iload_n 1, 1) := dk_27 (dk_at dksX1_tellsOn_0 12 rfl rfl)
theorem dX1_tellsOn_13 : decode cX1_tellsOn 13 = .ok (.invokevirtual 125, 3) := dk_182 0 125 (dk_at dksX1_tellsOn_0 13 rfl rfl)
theorem dX1_tellsOn_16 : decode cX1_tellsOn 16 = .ok (.getfield 155, 3) := dk_180 0 155 (dk_at dksX1_tellsOn_0 16 rfl rfl)
theorem dX1_tellsOn_19 : decode cX1_tellsOn 19 = .ok (.iload_n 2, 1) := dk_28 (dk_at dksX1_tellsOn_0 19 rfl rfl)
theorem dX1_tellsOn_20 : decode cX1_tellsOn 20 = .ok (.invokevirtual 158, 3) := dk_182 0 158 (dk_at dksX1_tellsOn_0 20 rfl rfl)
theorem dX1_tellsOn_23 : decode cX1_tellsOn 23 = .ok (.return_, 1) := dk_177 (dk_at dksX1_tellsOn_0 23 rfl rfl)
abbrev cX1_tells : ByteArray := prog_1_method_22_code
def yX1_tells : MethodName := ⟨RX1, "tells", "(IIII)V"⟩
def dkwX1_tells_2 : List UInt8 := [180, 0, 98, 180, 0, 145, 21, 5, 96, 3, 182, 0, 148, 147, 86, 132, 5, 1, 167, 255, 211, 177]
abbrev dktX1_tells_2 : List UInt8 := dkwX1_tells_2 ++ []
def dkwX1_tells_1 : List UInt8 := [163, 0, 44, 42, 180, 0, 27, 21, 5, 42, 27, 42, 180, 0, 27, 21, 5, 4, 100, 53, 28, 29, 42]
abbrev dktX1_tells_1 : List UInt8 := dkwX1_tells_1 ++ dktX1_tells_2
def dkwX1_tells_0 : List UInt8 := [42, 180, 0, 27, 3, 42, 180, 0, 98, 180, 0, 142, 27, 51, 147, 86, 4, 54, 5, 21, 5, 21, 4]
abbrev dktX1_tells_0 : List UInt8 := dkwX1_tells_0 ++ dktX1_tells_1
theorem dksX1_tells_0 : cX1_tells.data.toList.drop 0 = dktX1_tells_0 := by decide +kernel
theorem dksX1_tells_1 : cX1_tells.data.toList.drop 23 = dktX1_tells_1 := dk_seg dksX1_tells_0 23 rfl rfl
theorem dksX1_tells_2 : cX1_tells.data.toList.drop 46 = dktX1_tells_2 := dk_seg dksX1_tells_1 23 rfl rfl
theorem dX1_tells_0 : decode cX1_tells 0 = .ok (.aload_n 0, 1) := dk_42 (dk_at dksX1_tells_0 0 rfl rfl)
theorem dX1_tells_1 : decode cX1_tells 1 = .ok (.getfield 27, 3) := dk_180 0 27 (dk_at dksX1_tells_0 1 rfl rfl)
theorem dX1_tells_4 : decode cX1_tells 4 = .ok (.iconst 0, 1) := dk_3 (dk_at dksX1_tells_0 4 rfl rfl)
theorem dX1_tells_5 : decode cX1_tells 5 = .ok (.aload_n 0, 1) := dk_42 (dk_at dksX1_tells_0 5 rfl rfl)
theorem dX1_tells_6 : decode cX1_tells 6 = .ok (.getfield 98, 3) := dk_180 0 98 (dk_at dksX1_tells_0 6 rfl rfl)
theorem dX1_tells_9 : decode cX1_tells 9 = .ok (.getfield 142, 3) := dk_180 0 142 (dk_at dksX1_tells_0 9 rfl rfl)
theorem dX1_tells_12 : decode cX1_tells 12 = .ok (.iload_n 1, 1) := dk_27 (dk_at dksX1_tells_0 12 rfl rfl)
theorem dX1_tells_13 : decode cX1_tells 13 = .ok (.baload, 1) := dk_51 (dk_at dksX1_tells_0 13 rfl rfl)
theorem dX1_tells_14 : decode cX1_tells 14 = .ok (.i2s, 1) := dk_147 (dk_at dksX1_tells_0 14 rfl rfl)
theorem dX1_tells_15 : decode cX1_tells 15 = .ok (.sastore, 1) := dk_86 (dk_at dksX1_tells_0 15 rfl rfl)
theorem dX1_tells_16 : decode cX1_tells 16 = .ok (.iconst 1, 1) := dk_4 (dk_at dksX1_tells_0 16 rfl rfl)
theorem dX1_tells_17 : decode cX1_tells 17 = .ok (.istore 5, 2) := dk_54 5 (dk_at dksX1_tells_0 17 rfl rfl)
theorem dX1_tells_19 : decode cX1_tells 19 = .ok (.iload 5, 2) := dk_21 5 (dk_at dksX1_tells_0 19 rfl rfl)
theorem dX1_tells_21 : decode cX1_tells 21 = .ok (.iload 4, 2) := dk_21 4 (dk_at dksX1_tells_0 21 rfl rfl)
theorem dX1_tells_23 : decode cX1_tells 23 = .ok (.if_icmp .gt 44, 3) := dk_163 0 44 (dk_at dksX1_tells_1 0 rfl rfl)
theorem dX1_tells_26 : decode cX1_tells 26 = .ok (.aload_n 0, 1) := dk_42 (dk_at dksX1_tells_1 3 rfl rfl)
theorem dX1_tells_27 : decode cX1_tells 27 = .ok (.getfield 27, 3) := dk_180 0 27 (dk_at dksX1_tells_1 4 rfl rfl)
theorem dX1_tells_30 : decode cX1_tells 30 = .ok (.iload 5, 2) := dk_21 5 (dk_at dksX1_tells_1 7 rfl rfl)
theorem dX1_tells_32 : decode cX1_tells 32 = .ok (.aload_n 0, 1) := dk_42 (dk_at dksX1_tells_1 9 rfl rfl)
theorem dX1_tells_33 : decode cX1_tells 33 = .ok (.iload_n 1, 1) := dk_27 (dk_at dksX1_tells_1 10 rfl rfl)
theorem dX1_tells_34 : decode cX1_tells 34 = .ok (.aload_n 0, 1) := dk_42 (dk_at dksX1_tells_1 11 rfl rfl)
theorem dX1_tells_35 : decode cX1_tells 35 = .ok (.getfield 27, 3) := dk_180 0 27 (dk_at dksX1_tells_1 12 rfl rfl)
theorem dX1_tells_38 : decode cX1_tells 38 = .ok (.iload 5, 2) := dk_21 5 (dk_at dksX1_tells_1 15 rfl rfl)
theorem dX1_tells_40 : decode cX1_tells 40 = .ok (.iconst 1, 1) := dk_4 (dk_at dksX1_tells_1 17 rfl rfl)
theorem dX1_tells_41 : decode cX1_tells 41 = .ok (.isub, 1) := dk_100 (dk_at dksX1_tells_1 18 rfl rfl)
theorem dX1_tells_42 : decode cX1_tells 42 = .ok (.saload, 1) := dk_53 (dk_at dksX1_tells_1 19 rfl rfl)
theorem dX1_tells_43 : decode cX1_tells 43 = .ok (.iload_n 2, 1) := dk_28 (dk_at dksX1_tells_1 20 rfl rfl)
theorem dX1_tells_44 : decode cX1_tells 44 = .ok (.iload_n 3, 1) := dk_29 (dk_at dksX1_tells_1 21 rfl rfl)
theorem dX1_tells_45 : decode cX1_tells 45 = .ok (.aload_n 0, 1) := dk_42 (dk_at dksX1_tells_1 22 rfl rfl)
theorem dX1_tells_46 : decode cX1_tells 46 = .ok (.getfield 98, 3) := dk_180 0 98 (dk_at dksX1_tells_2 0 rfl rfl)
theorem dX1_tells_49 : decode cX1_tells 49 = .ok (.getfield 145, 3) := dk_180 0 145 (dk_at dksX1_tells_2 3 rfl rfl)
theorem dX1_tells_52 : decode cX1_tells 52 = .ok (.iload 5, 2) := dk_21 5 (dk_at dksX1_tells_2 6 rfl rfl)
theorem dX1_tells_54 : decode cX1_tells 54 = .ok (.iadd, 1) := dk_96 (dk_at dksX1_tells_2 8 rfl rfl)
theorem dX1_tells_55 : decode cX1_tells 55 = .ok (.iconst 0, 1) := dk_3 (dk_at dksX1_tells_2 9 rfl rfl)
theorem dX1_tells_56 : decode cX1_tells 56 = .ok (.invokevirtual 148, 3) := dk_182 0 148 (dk_at dksX1_tells_2 10 rfl rfl)
theorem dX1_tells_59 : decode cX1_tells 59 = .ok (.i2s, 1) := dk_147 (dk_at dksX1_tells_2 13 rfl rfl)
theorem dX1_tells_60 : decode cX1_tells 60 = .ok (.sastore, 1) := dk_86 (dk_at dksX1_tells_2 14 rfl rfl)
theorem dX1_tells_61 : decode cX1_tells 61 = .ok (.iinc 5 1, 3) := dk_132 5 1 (dk_at dksX1_tells_2 15 rfl rfl)
theorem dX1_tells_64 : decode cX1_tells 64 = .ok (.goto (-45), 3) := dk_167 255 211 (dk_at dksX1_tells_2 18 rfl rfl)
theorem dX1_tells_67 : decode cX1_tells 67 = .ok (.return_, 1) := dk_177 (dk_at dksX1_tells_2 21 rfl rfl)
abbrev cX1_then : ByteArray := prog_1_method_21_code
def yX1_then : MethodName := ⟨RX1, "then", "(IIIIIZ)I"⟩
def dkwX1_then_2 : List UInt8 := [180, 0, 89, 180, 0, 133, 21, 7, 100, 167, 0, 5, 21, 7, 172]
abbrev dktX1_then_2 : List UInt8 := dkwX1_then_2 ++ []
def dkwX1_then_1 : List UInt8 := [180, 0, 133, 182, 0, 136, 54, 7, 21, 4, 158, 0, 24, 21, 5, 21, 4, 112, 154, 0, 16, 42]
abbrev dktX1_then_1 : List UInt8 := dkwX1_then_1 ++ dktX1_then_2
def dkwX1_then_0 : List UInt8 := [21, 6, 153, 0, 7, 28, 167, 0, 23, 42, 27, 182, 0, 125, 180, 0, 129, 28, 29, 42, 180, 0, 89]
abbrev dktX1_then_0 : List UInt8 := dkwX1_then_0 ++ dktX1_then_1
theorem dksX1_then_0 : cX1_then.data.toList.drop 0 = dktX1_then_0 := by decide +kernel
theorem dksX1_then_1 : cX1_then.data.toList.drop 23 = dktX1_then_1 := dk_seg dksX1_then_0 23 rfl rfl
theorem dksX1_then_2 : cX1_then.data.toList.drop 45 = dktX1_then_2 := dk_seg dksX1_then_1 22 rfl rfl
theorem dX1_then_0 : decode cX1_then 0 = .ok (.iload 6, 2) := dk_21 6 (dk_at dksX1_then_0 0 rfl rfl)
theorem dX1_then_2 : decode cX1_then 2 = .ok (.ifCond .eq 7, 3) := dk_153 0 7 (dk_at dksX1_then_0 2 rfl rfl)
theorem dX1_then_5 : decode cX1_then 5 = .ok (.iload_n 2, 1) := dk_28 (dk_at dksX1_then_0 5 rfl rfl)
theorem dX1_then_6 : decode cX1_then 6 = .ok (.goto 23, 3) := dk_167 0 23 (dk_at dksX1_then_0 6 rfl rfl)
theorem dX1_then_9 : decode cX1_then 9 = .ok (.aload_n 0, 1) := dk_42 (dk_at dksX1_then_0 9 rfl rfl)
theorem dX1_then_10 : decode cX1_then 10 = .ok (.iload_n 1, 1) := dk_27 (dk_at dksX1_then_0 10 rfl rfl)
theorem dX1_then_11 : decode cX1_then 11 = .ok (.invokevirtual 125, 3) := dk_182 0 125 (dk_at dksX1_then_0 11 rfl rfl)
theorem dX1_then_14 : decode cX1_then 14 = .ok (.getfield 129, 3) := dk_180 0 129 (dk_at dksX1_then_0 14 rfl rfl)
theorem dX1_then_17 : decode cX1_then 17 = .ok (.iload_n 2, 1) := dk_28 (dk_at dksX1_then_0 17 rfl rfl)
theorem dX1_then_18 : decode cX1_then 18 = .ok (.iload_n 3, 1) := dk_29 (dk_at dksX1_then_0 18 rfl rfl)
theorem dX1_then_19 : decode cX1_then 19 = .ok (.aload_n 0, 1) := dk_42 (dk_at dksX1_then_0 19 rfl rfl)
theorem dX1_then_20 : decode cX1_then 20 = .ok (.getfield 89, 3) := dk_180 0 89 (dk_at dksX1_then_0 20 rfl rfl)
theorem dX1_then_23 : decode cX1_then 23 = .ok (.getfield 133, 3) := dk_180 0 133 (dk_at dksX1_then_1 0 rfl rfl)
theorem dX1_then_26 : decode cX1_then 26 = .ok (.invokevirtual 136, 3) := dk_182 0 136 (dk_at dksX1_then_1 3 rfl rfl)
theorem dX1_then_29 : decode cX1_then 29 = .ok (.istore 7, 2) := dk_54 7 (dk_at dksX1_then_1 6 rfl rfl)
theorem dX1_then_31 : decode cX1_then 31 = .ok (.iload 4, 2) := dk_21 4 (dk_at dksX1_then_1 8 rfl rfl)
theorem dX1_then_33 : decode cX1_then 33 = .ok (.ifCond .le 24, 3) := dk_158 0 24 (dk_at dksX1_then_1 10 rfl rfl)
theorem dX1_then_36 : decode cX1_then 36 = .ok (.iload 5, 2) := dk_21 5 (dk_at dksX1_then_1 13 rfl rfl)
theorem dX1_then_38 : decode cX1_then 38 = .ok (.iload 4, 2) := dk_21 4 (dk_at dksX1_then_1 15 rfl rfl)
theorem dX1_then_40 : decode cX1_then 40 = .ok (.irem, 1) := dk_112 (dk_at dksX1_then_1 17 rfl rfl)
theorem dX1_then_41 : decode cX1_then 41 = .ok (.ifCond .ne 16, 3) := dk_154 0 16 (dk_at dksX1_then_1 18 rfl rfl)
theorem dX1_then_44 : decode cX1_then 44 = .ok (.aload_n 0, 1) := dk_42 (dk_at dksX1_then_1 21 rfl rfl)
theorem dX1_then_45 : decode cX1_then 45 = .ok (.getfield 89, 3) := dk_180 0 89 (dk_at dksX1_then_2 0 rfl rfl)
theorem dX1_then_48 : decode cX1_then 48 = .ok (.getfield 133, 3) := dk_180 0 133 (dk_at dksX1_then_2 3 rfl rfl)
theorem dX1_then_51 : decode cX1_then 51 = .ok (.iload 7, 2) := dk_21 7 (dk_at dksX1_then_2 6 rfl rfl)
theorem dX1_then_53 : decode cX1_then 53 = .ok (.isub, 1) := dk_100 (dk_at dksX1_then_2 8 rfl rfl)
theorem dX1_then_54 : decode cX1_then 54 = .ok (.goto 5, 3) := dk_167 0 5 (dk_at dksX1_then_2 9 rfl rfl)
theorem dX1_then_57 : decode cX1_then 57 = .ok (.iload 7, 2) := dk_21 7 (dk_at dksX1_then_2 12 rfl rfl)
theorem dX1_then_59 : decode cX1_then 59 = .ok (.ireturn, 1) := dk_172 (dk_at dksX1_then_2 14 rfl rfl)
abbrev cX1_saysAll : ByteArray := prog_1_method_28_code
def yX1_saysAll : MethodName := ⟨RX1, "saysAll", "(II)I"⟩
def dkwX1_saysAll_2 : List UInt8 := [96, 54, 4, 132, 5, 1, 167, 255, 235, 42, 21, 4, 182, 0, 54, 172]
abbrev dktX1_saysAll_2 : List UInt8 := dkwX1_saysAll_2 ++ []
def dkwX1_saysAll_1 : List UInt8 := [182, 0, 180, 3, 54, 4, 4, 54, 5, 21, 5, 28, 163, 0, 21, 21, 4, 42, 180, 0, 27, 21, 5, 53]
abbrev dktX1_saysAll_1 : List UInt8 := dkwX1_saysAll_1 ++ dktX1_saysAll_2
def dkwX1_saysAll_0 : List UInt8 := [42, 42, 27, 182, 0, 162, 28, 182, 0, 176, 62, 29, 158, 0, 9, 42, 29, 182, 0, 50, 172, 42, 27, 28]
abbrev dktX1_saysAll_0 : List UInt8 := dkwX1_saysAll_0 ++ dktX1_saysAll_1
theorem dksX1_saysAll_0 : cX1_saysAll.data.toList.drop 0 = dktX1_saysAll_0 := by decide +kernel
theorem dksX1_saysAll_1 : cX1_saysAll.data.toList.drop 24 = dktX1_saysAll_1 := dk_seg dksX1_saysAll_0 24 rfl rfl
theorem dksX1_saysAll_2 : cX1_saysAll.data.toList.drop 48 = dktX1_saysAll_2 := dk_seg dksX1_saysAll_1 24 rfl rfl
theorem dX1_saysAll_0 : decode cX1_saysAll 0 = .ok (.aload_n 0, 1) := dk_42 (dk_at dksX1_saysAll_0 0 rfl rfl)
theorem dX1_saysAll_1 : decode cX1_saysAll 1 = .ok (.aload_n 0, 1) := dk_42 (dk_at dksX1_saysAll_0 1 rfl rfl)
theorem dX1_saysAll_2 : decode cX1_saysAll 2 = .ok (.iload_n 1, 1) := dk_27 (dk_at dksX1_saysAll_0 2 rfl rfl)
theorem dX1_saysAll_3 : decode cX1_saysAll 3 = .ok (.invokevirtual 162, 3) := dk_182 0 162 (dk_at dksX1_saysAll_0 3 rfl rfl)
theorem dX1_saysAll_6 : decode cX1_saysAll 6 = .ok (.iload_n 2, 1) := dk_28 (dk_at dksX1_saysAll_0 6 rfl rfl)
theorem dX1_saysAll_7 : decode cX1_saysAll 7 = .ok (.invokevirtual 176, 3) := dk_182 0 176 (dk_at dksX1_saysAll_0 7 rfl rfl)
theorem dX1_saysAll_10 : decode cX1_saysAll 10 = .ok (.istore_n 3, 1) := dk_62 (dk_at dksX1_saysAll_0 10 rfl rfl)
theorem dX1_saysAll_11 : decode cX1_saysAll 11 = .ok (.iload_n 3, 1) := dk_29 (dk_at dksX1_saysAll_0 11 rfl rfl)
theorem dX1_saysAll_12 : decode cX1_saysAll 12 = .ok (.ifCond .le 9, 3) := dk_158 0 9 (dk_at dksX1_saysAll_0 12 rfl rfl)
theorem dX1_saysAll_15 : decode cX1_saysAll 15 = .ok (.aload_n 0, 1) := dk_42 (dk_at dksX1_saysAll_0 15 rfl rfl)
theorem dX1_saysAll_16 : decode cX1_saysAll 16 = .ok (.iload_n 3, 1) := dk_29 (dk_at dksX1_saysAll_0 16 rfl rfl)
theorem dX1_saysAll_17 : decode cX1_saysAll 17 = .ok (.invokevirtual 50, 3) := dk_182 0 50 (dk_at dksX1_saysAll_0 17 rfl rfl)
theorem dX1_saysAll_20 : decode cX1_saysAll 20 = .ok (.ireturn, 1) := dk_172 (dk_at dksX1_saysAll_0 20 rfl rfl)
theorem dX1_saysAll_21 : decode cX1_saysAll 21 = .ok (.aload_n 0, 1) := dk_42 (dk_at dksX1_saysAll_0 21 rfl rfl)
theorem dX1_saysAll_22 : decode cX1_saysAll 22 = .ok (.iload_n 1, 1) := dk_27 (dk_at dksX1_saysAll_0 22 rfl rfl)
theorem dX1_saysAll_23 : decode cX1_saysAll 23 = .ok (.iload_n 2, 1) := dk_28 (dk_at dksX1_saysAll_0 23 rfl rfl)
theorem dX1_saysAll_24 : decode cX1_saysAll 24 = .ok (.invokevirtual 180, 3) := dk_182 0 180 (dk_at dksX1_saysAll_1 0 rfl rfl)
theorem dX1_saysAll_27 : decode cX1_saysAll 27 = .ok (.iconst 0, 1) := dk_3 (dk_at dksX1_saysAll_1 3 rfl rfl)
theorem dX1_saysAll_28 : decode cX1_saysAll 28 = .ok (.istore 4, 2) := dk_54 4 (dk_at dksX1_saysAll_1 4 rfl rfl)
theorem dX1_saysAll_30 : decode cX1_saysAll 30 = .ok (.iconst 1, 1) := dk_4 (dk_at dksX1_saysAll_1 6 rfl rfl)
theorem dX1_saysAll_31 : decode cX1_saysAll 31 = .ok (.istore 5, 2) := dk_54 5 (dk_at dksX1_saysAll_1 7 rfl rfl)
theorem dX1_saysAll_33 : decode cX1_saysAll 33 = .ok (.iload 5, 2) := dk_21 5 (dk_at dksX1_saysAll_1 9 rfl rfl)
theorem dX1_saysAll_35 : decode cX1_saysAll 35 = .ok (.iload_n 2, 1) := dk_28 (dk_at dksX1_saysAll_1 11 rfl rfl)
theorem dX1_saysAll_36 : decode cX1_saysAll 36 = .ok (.if_icmp .gt 21, 3) := dk_163 0 21 (dk_at dksX1_saysAll_1 12 rfl rfl)
theorem dX1_saysAll_39 : decode cX1_saysAll 39 = .ok (.iload 4, 2) := dk_21 4 (dk_at dksX1_saysAll_1 15 rfl rfl)
theorem dX1_saysAll_41 : decode cX1_saysAll 41 = .ok (.aload_n 0, 1) := dk_42 (dk_at dksX1_saysAll_1 17 rfl rfl)
theorem dX1_saysAll_42 : decode cX1_saysAll 42 = .ok (.getfield 27, 3) := dk_180 0 27 (dk_at dksX1_saysAll_1 18 rfl rfl)
theorem dX1_saysAll_45 : decode cX1_saysAll 45 = .ok (.iload 5, 2) := dk_21 5 (dk_at dksX1_saysAll_1 21 rfl rfl)
theorem dX1_saysAll_47 : decode cX1_saysAll 47 = .ok (.saload, 1) := dk_53 (dk_at dksX1_saysAll_1 23 rfl rfl)
theorem dX1_saysAll_48 : decode cX1_saysAll 48 = .ok (.iadd, 1) := dk_96 (dk_at dksX1_saysAll_2 0 rfl rfl)
theorem dX1_saysAll_49 : decode cX1_saysAll 49 = .ok (.istore 4, 2) := dk_54 4 (dk_at dksX1_saysAll_2 1 rfl rfl)
theorem dX1_saysAll_51 : decode cX1_saysAll 51 = .ok (.iinc 5 1, 3) := dk_132 5 1 (dk_at dksX1_saysAll_2 3 rfl rfl)
theorem dX1_saysAll_54 : decode cX1_saysAll 54 = .ok (.goto (-21), 3) := dk_167 255 235 (dk_at dksX1_saysAll_2 6 rfl rfl)
theorem dX1_saysAll_57 : decode cX1_saysAll 57 = .ok (.aload_n 0, 1) := dk_42 (dk_at dksX1_saysAll_2 9 rfl rfl)
theorem dX1_saysAll_58 : decode cX1_saysAll 58 = .ok (.iload 4, 2) := dk_21 4 (dk_at dksX1_saysAll_2 10 rfl rfl)
theorem dX1_saysAll_60 : decode cX1_saysAll 60 = .ok (.invokevirtual 54, 3) := dk_182 0 54 (dk_at dksX1_saysAll_2 12 rfl rfl)
theorem dX1_saysAll_63 : decode cX1_saysAll 63 = .ok (.ireturn, 1) := dk_172 (dk_at dksX1_saysAll_2 15 rfl rfl)
abbrev cX1_moreIn : ByteArray := prog_1_method_29_code
def yX1_moreIn : MethodName := ⟨RX1, "moreIn", "(I)I"⟩
def dkwX1_moreIn_2 : List UInt8 := [132, 2, 1, 167, 255, 228, 42, 16, 254, 182, 0, 54, 172]
abbrev dktX1_moreIn_2 : List UInt8 := dkwX1_moreIn_2 ++ []
def dkwX1_moreIn_1 : List UInt8 := [16, 60, 163, 0, 28, 42, 42, 180, 0, 27, 28, 53, 182, 0, 169, 153, 0, 9, 42, 28, 182, 0, 54, 172]
abbrev dktX1_moreIn_1 : List UInt8 := dkwX1_moreIn_1 ++ dktX1_moreIn_2
def dkwX1_moreIn_0 : List UInt8 := [42, 27, 182, 0, 162, 154, 0, 9, 42, 4, 182, 0, 50, 172, 42, 27, 16, 60, 182, 0, 180, 3, 61, 28]
abbrev dktX1_moreIn_0 : List UInt8 := dkwX1_moreIn_0 ++ dktX1_moreIn_1
theorem dksX1_moreIn_0 : cX1_moreIn.data.toList.drop 0 = dktX1_moreIn_0 := by decide +kernel
theorem dksX1_moreIn_1 : cX1_moreIn.data.toList.drop 24 = dktX1_moreIn_1 := dk_seg dksX1_moreIn_0 24 rfl rfl
theorem dksX1_moreIn_2 : cX1_moreIn.data.toList.drop 48 = dktX1_moreIn_2 := dk_seg dksX1_moreIn_1 24 rfl rfl
theorem dX1_moreIn_0 : decode cX1_moreIn 0 = .ok (.aload_n 0, 1) := dk_42 (dk_at dksX1_moreIn_0 0 rfl rfl)
theorem dX1_moreIn_1 : decode cX1_moreIn 1 = .ok (.iload_n 1, 1) := dk_27 (dk_at dksX1_moreIn_0 1 rfl rfl)
theorem dX1_moreIn_2 : decode cX1_moreIn 2 = .ok (.invokevirtual 162, 3) := dk_182 0 162 (dk_at dksX1_moreIn_0 2 rfl rfl)
theorem dX1_moreIn_5 : decode cX1_moreIn 5 = .ok (.ifCond .ne 9, 3) := dk_154 0 9 (dk_at dksX1_moreIn_0 5 rfl rfl)
theorem dX1_moreIn_8 : decode cX1_moreIn 8 = .ok (.aload_n 0, 1) := dk_42 (dk_at dksX1_moreIn_0 8 rfl rfl)
theorem dX1_moreIn_9 : decode cX1_moreIn 9 = .ok (.iconst 1, 1) := dk_4 (dk_at dksX1_moreIn_0 9 rfl rfl)
theorem dX1_moreIn_10 : decode cX1_moreIn 10 = .ok (.invokevirtual 50, 3) := dk_182 0 50 (dk_at dksX1_moreIn_0 10 rfl rfl)
theorem dX1_moreIn_13 : decode cX1_moreIn 13 = .ok (.ireturn, 1) := dk_172 (dk_at dksX1_moreIn_0 13 rfl rfl)
theorem dX1_moreIn_14 : decode cX1_moreIn 14 = .ok (.aload_n 0, 1) := dk_42 (dk_at dksX1_moreIn_0 14 rfl rfl)
theorem dX1_moreIn_15 : decode cX1_moreIn 15 = .ok (.iload_n 1, 1) := dk_27 (dk_at dksX1_moreIn_0 15 rfl rfl)
theorem dX1_moreIn_16 : decode cX1_moreIn 16 = .ok (.bipush 60, 2) := dk_16 60 (dk_at dksX1_moreIn_0 16 rfl rfl)
theorem dX1_moreIn_18 : decode cX1_moreIn 18 = .ok (.invokevirtual 180, 3) := dk_182 0 180 (dk_at dksX1_moreIn_0 18 rfl rfl)
theorem dX1_moreIn_21 : decode cX1_moreIn 21 = .ok (.iconst 0, 1) := dk_3 (dk_at dksX1_moreIn_0 21 rfl rfl)
theorem dX1_moreIn_22 : decode cX1_moreIn 22 = .ok (.istore_n 2, 1) := dk_61 (dk_at dksX1_moreIn_0 22 rfl rfl)
theorem dX1_moreIn_23 : decode cX1_moreIn 23 = .ok (.iload_n 2, 1) := dk_28 (dk_at dksX1_moreIn_0 23 rfl rfl)
theorem dX1_moreIn_24 : decode cX1_moreIn 24 = .ok (.bipush 60, 2) := dk_16 60 (dk_at dksX1_moreIn_1 0 rfl rfl)
theorem dX1_moreIn_26 : decode cX1_moreIn 26 = .ok (.if_icmp .gt 28, 3) := dk_163 0 28 (dk_at dksX1_moreIn_1 2 rfl rfl)
theorem dX1_moreIn_29 : decode cX1_moreIn 29 = .ok (.aload_n 0, 1) := dk_42 (dk_at dksX1_moreIn_1 5 rfl rfl)
theorem dX1_moreIn_30 : decode cX1_moreIn 30 = .ok (.aload_n 0, 1) := dk_42 (dk_at dksX1_moreIn_1 6 rfl rfl)
theorem dX1_moreIn_31 : decode cX1_moreIn 31 = .ok (.getfield 27, 3) := dk_180 0 27 (dk_at dksX1_moreIn_1 7 rfl rfl)
theorem dX1_moreIn_34 : decode cX1_moreIn 34 = .ok (.iload_n 2, 1) := dk_28 (dk_at dksX1_moreIn_1 10 rfl rfl)
theorem dX1_moreIn_35 : decode cX1_moreIn 35 = .ok (.saload, 1) := dk_53 (dk_at dksX1_moreIn_1 11 rfl rfl)
theorem dX1_moreIn_36 : decode cX1_moreIn 36 = .ok (.invokevirtual 169, 3) := dk_182 0 169 (dk_at dksX1_moreIn_1 12 rfl rfl)
theorem dX1_moreIn_39 : decode cX1_moreIn 39 = .ok (.ifCond .eq 9, 3) := dk_153 0 9 (dk_at dksX1_moreIn_1 15 rfl rfl)
theorem dX1_moreIn_42 : decode cX1_moreIn 42 = .ok (.aload_n 0, 1) := dk_42 (dk_at dksX1_moreIn_1 18 rfl rfl)
theorem dX1_moreIn_43 : decode cX1_moreIn 43 = .ok (.iload_n 2, 1) := dk_28 (dk_at dksX1_moreIn_1 19 rfl rfl)
theorem dX1_moreIn_44 : decode cX1_moreIn 44 = .ok (.invokevirtual 54, 3) := dk_182 0 54 (dk_at dksX1_moreIn_1 20 rfl rfl)
theorem dX1_moreIn_47 : decode cX1_moreIn 47 = .ok (.ireturn, 1) := dk_172 (dk_at dksX1_moreIn_1 23 rfl rfl)
theorem dX1_moreIn_48 : decode cX1_moreIn 48 = .ok (.iinc 2 1, 3) := dk_132 2 1 (dk_at dksX1_moreIn_2 0 rfl rfl)
theorem dX1_moreIn_51 : decode cX1_moreIn 51 = .ok (.goto (-28), 3) := dk_167 255 228 (dk_at dksX1_moreIn_2 3 rfl rfl)
theorem dX1_moreIn_54 : decode cX1_moreIn 54 = .ok (.aload_n 0, 1) := dk_42 (dk_at dksX1_moreIn_2 6 rfl rfl)
theorem dX1_moreIn_55 : decode cX1_moreIn 55 = .ok (.bipush (-2), 2) := dk_16 254 (dk_at dksX1_moreIn_2 7 rfl rfl)
theorem dX1_moreIn_57 : decode cX1_moreIn 57 = .ok (.invokevirtual 54, 3) := dk_182 0 54 (dk_at dksX1_moreIn_2 9 rfl rfl)
theorem dX1_moreIn_60 : decode cX1_moreIn 60 = .ok (.ireturn, 1) := dk_172 (dk_at dksX1_moreIn_2 12 rfl rfl)
abbrev cX1_moreTimes : ByteArray := prog_1_method_30_code
def yX1_moreTimes : MethodName := ⟨RX1, "moreTimes", "(II)I"⟩
def dkwX1_moreTimes_3 : List UInt8 := [182, 0, 54, 172]
abbrev dktX1_moreTimes_3 : List UInt8 := dkwX1_moreTimes_3 ++ []
def dkwX1_moreTimes_2 : List UInt8 := [53, 182, 0, 169, 153, 0, 7, 4, 167, 0, 4, 3, 96, 54, 4, 132, 5, 1, 167, 255, 223, 42, 21, 4]
abbrev dktX1_moreTimes_2 : List UInt8 := dkwX1_moreTimes_2 ++ dktX1_moreTimes_3
def dkwX1_moreTimes_1 : List UInt8 := [182, 0, 180, 3, 54, 4, 4, 54, 5, 21, 5, 28, 163, 0, 33, 21, 4, 42, 42, 180, 0, 27, 21, 5]
abbrev dktX1_moreTimes_1 : List UInt8 := dkwX1_moreTimes_1 ++ dktX1_moreTimes_2
def dkwX1_moreTimes_0 : List UInt8 := [42, 42, 27, 182, 0, 162, 28, 182, 0, 176, 62, 29, 158, 0, 9, 42, 29, 182, 0, 50, 172, 42, 27, 28]
abbrev dktX1_moreTimes_0 : List UInt8 := dkwX1_moreTimes_0 ++ dktX1_moreTimes_1
theorem dksX1_moreTimes_0 : cX1_moreTimes.data.toList.drop 0 = dktX1_moreTimes_0 := by decide +kernel
theorem dksX1_moreTimes_1 : cX1_moreTimes.data.toList.drop 24 = dktX1_moreTimes_1 := dk_seg dksX1_moreTimes_0 24 rfl rfl
theorem dksX1_moreTimes_2 : cX1_moreTimes.data.toList.drop 48 = dktX1_moreTimes_2 := dk_seg dksX1_moreTimes_1 24 rfl rfl
theorem dksX1_moreTimes_3 : cX1_moreTimes.data.toList.drop 72 = dktX1_moreTimes_3 := dk_seg dksX1_moreTimes_2 24 rfl rfl
theorem dX1_moreTimes_0 : decode cX1_moreTimes 0 = .ok (.aload_n 0, 1) := dk_42 (dk_at dksX1_moreTimes_0 0 rfl rfl)
theorem dX1_moreTimes_1 : decode cX1_moreTimes 1 = .ok (.aload_n 0, 1) := dk_42 (dk_at dksX1_moreTimes_0 1 rfl rfl)
theorem dX1_moreTimes_2 : decode cX1_moreTimes 2 = .ok (.iload_n 1, 1) := dk_27 (dk_at dksX1_moreTimes_0 2 rfl rfl)
theorem dX1_moreTimes_3 : decode cX1_moreTimes 3 = .ok (.invokevirtual 162, 3) := dk_182 0 162 (dk_at dksX1_moreTimes_0 3 rfl rfl)
theorem dX1_moreTimes_6 : decode cX1_moreTimes 6 = .ok (.iload_n 2, 1) := dk_28 (dk_at dksX1_moreTimes_0 6 rfl rfl)
theorem dX1_moreTimes_7 : decode cX1_moreTimes 7 = .ok (.invokevirtual 176, 3) := dk_182 0 176 (dk_at dksX1_moreTimes_0 7 rfl rfl)
theorem dX1_moreTimes_10 : decode cX1_moreTimes 10 = .ok (.istore_n 3, 1) := dk_62 (dk_at dksX1_moreTimes_0 10 rfl rfl)
theorem dX1_moreTimes_11 : decode cX1_moreTimes 11 = .ok (.iload_n 3, 1) := dk_29 (dk_at dksX1_moreTimes_0 11 rfl rfl)
theorem dX1_moreTimes_12 : decode cX1_moreTimes 12 = .ok (.ifCond .le 9, 3) := dk_158 0 9 (dk_at dksX1_moreTimes_0 12 rfl rfl)
theorem dX1_moreTimes_15 : decode cX1_moreTimes 15 = .ok (.aload_n 0, 1) := dk_42 (dk_at dksX1_moreTimes_0 15 rfl rfl)
theorem dX1_moreTimes_16 : decode cX1_moreTimes 16 = .ok (.iload_n 3, 1) := dk_29 (dk_at dksX1_moreTimes_0 16 rfl rfl)
theorem dX1_moreTimes_17 : decode cX1_moreTimes 17 = .ok (.invokevirtual 50, 3) := dk_182 0 50 (dk_at dksX1_moreTimes_0 17 rfl rfl)
theorem dX1_moreTimes_20 : decode cX1_moreTimes 20 = .ok (.ireturn, 1) := dk_172 (dk_at dksX1_moreTimes_0 20 rfl rfl)
theorem dX1_moreTimes_21 : decode cX1_moreTimes 21 = .ok (.aload_n 0, 1) := dk_42 (dk_at dksX1_moreTimes_0 21 rfl rfl)
theorem dX1_moreTimes_22 : decode cX1_moreTimes 22 = .ok (.iload_n 1, 1) := dk_27 (dk_at dksX1_moreTimes_0 22 rfl rfl)
theorem dX1_moreTimes_23 : decode cX1_moreTimes 23 = .ok (.iload_n 2, 1) := dk_28 (dk_at dksX1_moreTimes_0 23 rfl rfl)
theorem dX1_moreTimes_24 : decode cX1_moreTimes 24 = .ok (.invokevirtual 180, 3) := dk_182 0 180 (dk_at dksX1_moreTimes_1 0 rfl rfl)
theorem dX1_moreTimes_27 : decode cX1_moreTimes 27 = .ok (.iconst 0, 1) := dk_3 (dk_at dksX1_moreTimes_1 3 rfl rfl)
theorem dX1_moreTimes_28 : decode cX1_moreTimes 28 = .ok (.istore 4, 2) := dk_54 4 (dk_at dksX1_moreTimes_1 4 rfl rfl)
theorem dX1_moreTimes_30 : decode cX1_moreTimes 30 = .ok (.iconst 1, 1) := dk_4 (dk_at dksX1_moreTimes_1 6 rfl rfl)
theorem dX1_moreTimes_31 : decode cX1_moreTimes 31 = .ok (.istore 5, 2) := dk_54 5 (dk_at dksX1_moreTimes_1 7 rfl rfl)
theorem dX1_moreTimes_33 : decode cX1_moreTimes 33 = .ok (.iload 5, 2) := dk_21 5 (dk_at dksX1_moreTimes_1 9 rfl rfl)
theorem dX1_moreTimes_35 : decode cX1_moreTimes 35 = .ok (.iload_n 2, 1) := dk_28 (dk_at dksX1_moreTimes_1 11 rfl rfl)
theorem dX1_moreTimes_36 : decode cX1_moreTimes 36 = .ok (.if_icmp .gt 33, 3) := dk_163 0 33 (dk_at dksX1_moreTimes_1 12 rfl rfl)
theorem dX1_moreTimes_39 : decode cX1_moreTimes 39 = .ok (.iload 4, 2) := dk_21 4 (dk_at dksX1_moreTimes_1 15 rfl rfl)
theorem dX1_moreTimes_41 : decode cX1_moreTimes 41 = .ok (.aload_n 0, 1) := dk_42 (dk_at dksX1_moreTimes_1 17 rfl rfl)
theorem dX1_moreTimes_42 : decode cX1_moreTimes 42 = .ok (.aload_n 0, 1) := dk_42 (dk_at dksX1_moreTimes_1 18 rfl rfl)
theorem dX1_moreTimes_43 : decode cX1_moreTimes 43 = .ok (.getfield 27, 3) := dk_180 0 27 (dk_at dksX1_moreTimes_1 19 rfl rfl)
theorem dX1_moreTimes_46 : decode cX1_moreTimes 46 = .ok (.iload 5, 2) := dk_21 5 (dk_at dksX1_moreTimes_1 22 rfl rfl)
theorem dX1_moreTimes_48 : decode cX1_moreTimes 48 = .ok (.saload, 1) := dk_53 (dk_at dksX1_moreTimes_2 0 rfl rfl)
theorem dX1_moreTimes_49 : decode cX1_moreTimes 49 = .ok (.invokevirtual 169, 3) := dk_182 0 169 (dk_at dksX1_moreTimes_2 1 rfl rfl)
theorem dX1_moreTimes_52 : decode cX1_moreTimes 52 = .ok (.ifCond .eq 7, 3) := dk_153 0 7 (dk_at dksX1_moreTimes_2 4 rfl rfl)
theorem dX1_moreTimes_55 : decode cX1_moreTimes 55 = .ok (.iconst 1, 1) := dk_4 (dk_at dksX1_moreTimes_2 7 rfl rfl)
theorem dX1_moreTimes_56 : decode cX1_moreTimes 56 = .ok (.goto 4, 3) := dk_167 0 4 (dk_at dksX1_moreTimes_2 8 rfl rfl)
theorem dX1_moreTimes_59 : decode cX1_moreTimes 59 = .ok (.iconst 0, 1) := dk_3 (dk_at dksX1_moreTimes_2 11 rfl rfl)
theorem dX1_moreTimes_60 : decode cX1_moreTimes 60 = .ok (.iadd, 1) := dk_96 (dk_at dksX1_moreTimes_2 12 rfl rfl)
theorem dX1_moreTimes_61 : decode cX1_moreTimes 61 = .ok (.istore 4, 2) := dk_54 4 (dk_at dksX1_moreTimes_2 13 rfl rfl)
theorem dX1_moreTimes_63 : decode cX1_moreTimes 63 = .ok (.iinc 5 1, 3) := dk_132 5 1 (dk_at dksX1_moreTimes_2 15 rfl rfl)
theorem dX1_moreTimes_66 : decode cX1_moreTimes 66 = .ok (.goto (-33), 3) := dk_167 255 223 (dk_at dksX1_moreTimes_2 18 rfl rfl)
theorem dX1_moreTimes_69 : decode cX1_moreTimes 69 = .ok (.aload_n 0, 1) := dk_42 (dk_at dksX1_moreTimes_2 21 rfl rfl)
theorem dX1_moreTimes_70 : decode cX1_moreTimes 70 = .ok (.iload 4, 2) := dk_21 4 (dk_at dksX1_moreTimes_2 22 rfl rfl)
theorem dX1_moreTimes_72 : decode cX1_moreTimes 72 = .ok (.invokevirtual 54, 3) := dk_182 0 54 (dk_at dksX1_moreTimes_3 0 rfl rfl)
theorem dX1_moreTimes_75 : decode cX1_moreTimes 75 = .ok (.ireturn, 1) := dk_172 (dk_at dksX1_moreTimes_3 3 rfl rfl)
abbrev cX1_settles : ByteArray := prog_1_method_33_code
def yX1_settles : MethodName := ⟨RX1, "settles", "(I)I"⟩
def dkwX1_settles_1 : List UInt8 := [182, 0, 54, 172]
abbrev dktX1_settles_1 : List UInt8 := dkwX1_settles_1 ++ []
def dkwX1_settles_0 : List UInt8 := [42, 27, 182, 0, 162, 154, 0, 9, 42, 4, 182, 0, 50, 172, 42, 27, 182, 0, 199, 42, 42, 180, 0, 196]
abbrev dktX1_settles_0 : List UInt8 := dkwX1_settles_0 ++ dktX1_settles_1
theorem dksX1_settles_0 : cX1_settles.data.toList.drop 0 = dktX1_settles_0 := by decide +kernel
theorem dksX1_settles_1 : cX1_settles.data.toList.drop 24 = dktX1_settles_1 := dk_seg dksX1_settles_0 24 rfl rfl
theorem dX1_settles_0 : decode cX1_settles 0 = .ok (.aload_n 0, 1) := dk_42 (dk_at dksX1_settles_0 0 rfl rfl)
theorem dX1_settles_1 : decode cX1_settles 1 = .ok (.iload_n 1, 1) := dk_27 (dk_at dksX1_settles_0 1 rfl rfl)
theorem dX1_settles_2 : decode cX1_settles 2 = .ok (.invokevirtual 162, 3) := dk_182 0 162 (dk_at dksX1_settles_0 2 rfl rfl)
theorem dX1_settles_5 : decode cX1_settles 5 = .ok (.ifCond .ne 9, 3) := dk_154 0 9 (dk_at dksX1_settles_0 5 rfl rfl)
theorem dX1_settles_8 : decode cX1_settles 8 = .ok (.aload_n 0, 1) := dk_42 (dk_at dksX1_settles_0 8 rfl rfl)
theorem dX1_settles_9 : decode cX1_settles 9 = .ok (.iconst 1, 1) := dk_4 (dk_at dksX1_settles_0 9 rfl rfl)
theorem dX1_settles_10 : decode cX1_settles 10 = .ok (.invokevirtual 50, 3) := dk_182 0 50 (dk_at dksX1_settles_0 10 rfl rfl)
theorem dX1_settles_13 : decode cX1_settles 13 = .ok (.ireturn, 1) := dk_172 (dk_at dksX1_settles_0 13 rfl rfl)
theorem dX1_settles_14 : decode cX1_settles 14 = .ok (.aload_n 0, 1) := dk_42 (dk_at dksX1_settles_0 14 rfl rfl)
theorem dX1_settles_15 : decode cX1_settles 15 = .ok (.iload_n 1, 1) := dk_27 (dk_at dksX1_settles_0 15 rfl rfl)
theorem dX1_settles_16 : decode cX1_settles 16 = .ok (.invokevirtual 199, 3) := dk_182 0 199 (dk_at dksX1_settles_0 16 rfl rfl)
theorem dX1_settles_19 : decode cX1_settles 19 = .ok (.aload_n 0, 1) := dk_42 (dk_at dksX1_settles_0 19 rfl rfl)
theorem dX1_settles_20 : decode cX1_settles 20 = .ok (.aload_n 0, 1) := dk_42 (dk_at dksX1_settles_0 20 rfl rfl)
theorem dX1_settles_21 : decode cX1_settles 21 = .ok (.getfield 196, 3) := dk_180 0 196 (dk_at dksX1_settles_0 21 rfl rfl)
theorem dX1_settles_24 : decode cX1_settles 24 = .ok (.invokevirtual 54, 3) := dk_182 0 54 (dk_at dksX1_settles_1 0 rfl rfl)
theorem dX1_settles_27 : decode cX1_settles 27 = .ok (.ireturn, 1) := dk_172 (dk_at dksX1_settles_1 3 rfl rfl)
abbrev cX1_rounds : ByteArray := prog_1_method_32_code
def yX1_rounds : MethodName := ⟨RX1, "rounds", "(I)V"⟩
def dkwX1_rounds_7 : List UInt8 := [100, 181, 0, 196, 167, 255, 209, 177]
abbrev dktX1_rounds_7 : List UInt8 := dkwX1_rounds_7 ++ []
def dkwX1_rounds_6 : List UInt8 := [180, 0, 27, 42, 180, 0, 196, 4, 100, 42, 180, 0, 190, 96, 53, 160, 0, 16, 42, 89, 180, 0, 196, 4]
abbrev dktX1_rounds_6 : List UInt8 := dkwX1_rounds_6 ++ dktX1_rounds_7
def dkwX1_rounds_5 : List UInt8 := [181, 0, 196, 42, 180, 0, 196, 158, 0, 46, 42, 180, 0, 27, 42, 180, 0, 196, 4, 100, 53, 42]
abbrev dktX1_rounds_5 : List UInt8 := dkwX1_rounds_5 ++ dktX1_rounds_6
def dkwX1_rounds_4 : List UInt8 := [96, 182, 0, 193, 154, 0, 16, 42, 89, 180, 0, 190, 4, 96, 181, 0, 190, 167, 255, 218, 42, 21, 4]
abbrev dktX1_rounds_4 : List UInt8 := dkwX1_rounds_4 ++ dktX1_rounds_5
def dkwX1_rounds_3 : List UInt8 := [181, 0, 190, 21, 5, 42, 180, 0, 190, 112, 154, 0, 21, 42, 21, 4, 42, 180, 0, 190, 21, 4, 21, 5]
abbrev dktX1_rounds_3 : List UInt8 := dkwX1_rounds_3 ++ dktX1_rounds_4
def dkwX1_rounds_2 : List UInt8 := [42, 180, 0, 27, 21, 4, 21, 5, 96, 53, 159, 0, 12, 21, 5, 28, 96, 54, 5, 167, 255, 230, 42, 4]
abbrev dktX1_rounds_2 : List UInt8 := dkwX1_rounds_2 ++ dktX1_rounds_3
def dkwX1_rounds_1 : List UInt8 := [62, 42, 27, 5, 29, 104, 29, 96, 182, 0, 180, 29, 54, 4, 28, 54, 5, 42, 180, 0, 27, 21, 4, 53]
abbrev dktX1_rounds_1 : List UInt8 := dkwX1_rounds_1 ++ dktX1_rounds_2
def dkwX1_rounds_0 : List UInt8 := [4, 42, 27, 182, 0, 125, 180, 0, 155, 184, 0, 184, 61, 28, 42, 180, 0, 89, 180, 0, 133, 4, 96, 104]
abbrev dktX1_rounds_0 : List UInt8 := dkwX1_rounds_0 ++ dktX1_rounds_1
theorem dksX1_rounds_0 : cX1_rounds.data.toList.drop 0 = dktX1_rounds_0 := by decide +kernel
theorem dksX1_rounds_1 : cX1_rounds.data.toList.drop 24 = dktX1_rounds_1 := dk_seg dksX1_rounds_0 24 rfl rfl
theorem dksX1_rounds_2 : cX1_rounds.data.toList.drop 48 = dktX1_rounds_2 := dk_seg dksX1_rounds_1 24 rfl rfl
theorem dksX1_rounds_3 : cX1_rounds.data.toList.drop 72 = dktX1_rounds_3 := dk_seg dksX1_rounds_2 24 rfl rfl
theorem dksX1_rounds_4 : cX1_rounds.data.toList.drop 96 = dktX1_rounds_4 := dk_seg dksX1_rounds_3 24 rfl rfl
theorem dksX1_rounds_5 : cX1_rounds.data.toList.drop 119 = dktX1_rounds_5 := dk_seg dksX1_rounds_4 23 rfl rfl
theorem dksX1_rounds_6 : cX1_rounds.data.toList.drop 141 = dktX1_rounds_6 := dk_seg dksX1_rounds_5 22 rfl rfl
theorem dksX1_rounds_7 : cX1_rounds.data.toList.drop 165 = dktX1_rounds_7 := dk_seg dksX1_rounds_6 24 rfl rfl
theorem dX1_rounds_0 : decode cX1_rounds 0 = .ok (.iconst 1, 1) := dk_4 (dk_at dksX1_rounds_0 0 rfl rfl)
theorem dX1_rounds_1 : decode cX1_rounds 1 = .ok (.aload_n 0, 1) := dk_42 (dk_at dksX1_rounds_0 1 rfl rfl)
theorem dX1_rounds_2 : decode cX1_rounds 2 = .ok (.iload_n 1, 1) := dk_27 (dk_at dksX1_rounds_0 2 rfl rfl)
theorem dX1_rounds_3 : decode cX1_rounds 3 = .ok (.invokevirtual 125, 3) := dk_182 0 125 (dk_at dksX1_rounds_0 3 rfl rfl)
theorem dX1_rounds_6 : decode cX1_rounds 6 = .ok (.getfield 155, 3) := dk_180 0 155 (dk_at dksX1_rounds_0 6 rfl rfl)
theorem dX1_rounds_9 : decode cX1_rounds 9 = .ok (.invokestatic 184, 3) := dk_184 0 184 (dk_at dksX1_rounds_0 9 rfl rfl)
theorem dX1_rounds_12 : decode cX1_rounds 12 = .ok (.istore_n 2, 1) := dk_61 (dk_at dksX1_rounds_0 12 rfl rfl)
theorem dX1_rounds_13 : decode cX1_rounds 13 = .ok (.iload_n 2, 1) := dk_28 (dk_at dksX1_rounds_0 13 rfl rfl)
theorem dX1_rounds_14 : decode cX1_rounds 14 = .ok (.aload_n 0, 1) := dk_42 (dk_at dksX1_rounds_0 14 rfl rfl)
theorem dX1_rounds_15 : decode cX1_rounds 15 = .ok (.getfield 89, 3) := dk_180 0 89 (dk_at dksX1_rounds_0 15 rfl rfl)
theorem dX1_rounds_18 : decode cX1_rounds 18 = .ok (.getfield 133, 3) := dk_180 0 133 (dk_at dksX1_rounds_0 18 rfl rfl)
theorem dX1_rounds_21 : decode cX1_rounds 21 = .ok (.iconst 1, 1) := dk_4 (dk_at dksX1_rounds_0 21 rfl rfl)
theorem dX1_rounds_22 : decode cX1_rounds 22 = .ok (.iadd, 1) := dk_96 (dk_at dksX1_rounds_0 22 rfl rfl)
theorem dX1_rounds_23 : decode cX1_rounds 23 = .ok (.imul, 1) := dk_104 (dk_at dksX1_rounds_0 23 rfl rfl)
theorem dX1_rounds_24 : decode cX1_rounds 24 = .ok (.istore_n 3, 1) := dk_62 (dk_at dksX1_rounds_1 0 rfl rfl)
theorem dX1_rounds_25 : decode cX1_rounds 25 = .ok (.aload_n 0, 1) := dk_42 (dk_at dksX1_rounds_1 1 rfl rfl)
theorem dX1_rounds_26 : decode cX1_rounds 26 = .ok (.iload_n 1, 1) := dk_27 (dk_at dksX1_rounds_1 2 rfl rfl)
theorem dX1_rounds_27 : decode cX1_rounds 27 = .ok (.iconst 2, 1) := dk_5 (dk_at dksX1_rounds_1 3 rfl rfl)
theorem dX1_rounds_28 : decode cX1_rounds 28 = .ok (.iload_n 3, 1) := dk_29 (dk_at dksX1_rounds_1 4 rfl rfl)
theorem dX1_rounds_29 : decode cX1_rounds 29 = .ok (.imul, 1) := dk_104 (dk_at dksX1_rounds_1 5 rfl rfl)
theorem dX1_rounds_30 : decode cX1_rounds 30 = .ok (.iload_n 3, 1) := dk_29 (dk_at dksX1_rounds_1 6 rfl rfl)
theorem dX1_rounds_31 : decode cX1_rounds 31 = .ok (.iadd, 1) := dk_96 (dk_at dksX1_rounds_1 7 rfl rfl)
theorem dX1_rounds_32 : decode cX1_rounds 32 = .ok (.invokevirtual 180, 3) := dk_182 0 180 (dk_at dksX1_rounds_1 8 rfl rfl)
theorem dX1_rounds_35 : decode cX1_rounds 35 = .ok (.iload_n 3, 1) := dk_29 (dk_at dksX1_rounds_1 11 rfl rfl)
theorem dX1_rounds_36 : decode cX1_rounds 36 = .ok (.istore 4, 2) := dk_54 4 (dk_at dksX1_rounds_1 12 rfl rfl)
theorem dX1_rounds_38 : decode cX1_rounds 38 = .ok (.iload_n 2, 1) := dk_28 (dk_at dksX1_rounds_1 14 rfl rfl)
theorem dX1_rounds_39 : decode cX1_rounds 39 = .ok (.istore 5, 2) := dk_54 5 (dk_at dksX1_rounds_1 15 rfl rfl)
theorem dX1_rounds_41 : decode cX1_rounds 41 = .ok (.aload_n 0, 1) := dk_42 (dk_at dksX1_rounds_1 17 rfl rfl)
theorem dX1_rounds_42 : decode cX1_rounds 42 = .ok (.getfield 27, 3) := dk_180 0 27 (dk_at dksX1_rounds_1 18 rfl rfl)
theorem dX1_rounds_45 : decode cX1_rounds 45 = .ok (.iload 4, 2) := dk_21 4 (dk_at dksX1_rounds_1 21 rfl rfl)
theorem dX1_rounds_47 : decode cX1_rounds 47 = .ok (.saload, 1) := dk_53 (dk_at dksX1_rounds_1 23 rfl rfl)
theorem dX1_rounds_48 : decode cX1_rounds 48 = .ok (.aload_n 0, 1) := dk_42 (dk_at dksX1_rounds_2 0 rfl rfl)
theorem dX1_rounds_49 : decode cX1_rounds 49 = .ok (.getfield 27, 3) := dk_180 0 27 (dk_at dksX1_rounds_2 1 rfl rfl)
theorem dX1_rounds_52 : decode cX1_rounds 52 = .ok (.iload 4, 2) := dk_21 4 (dk_at dksX1_rounds_2 4 rfl rfl)
theorem dX1_rounds_54 : decode cX1_rounds 54 = .ok (.iload 5, 2) := dk_21 5 (dk_at dksX1_rounds_2 6 rfl rfl)
theorem dX1_rounds_56 : decode cX1_rounds 56 = .ok (.iadd, 1) := dk_96 (dk_at dksX1_rounds_2 8 rfl rfl)
theorem dX1_rounds_57 : decode cX1_rounds 57 = .ok (.saload, 1) := dk_53 (dk_at dksX1_rounds_2 9 rfl rfl)
theorem dX1_rounds_58 : decode cX1_rounds 58 = .ok (.if_icmp .eq 12, 3) := dk_159 0 12 (dk_at dksX1_rounds_2 10 rfl rfl)
theorem dX1_rounds_61 : decode cX1_rounds 61 = .ok (.iload 5, 2) := dk_21 5 (dk_at dksX1_rounds_2 13 rfl rfl)
theorem dX1_rounds_63 : decode cX1_rounds 63 = .ok (.iload_n 2, 1) := dk_28 (dk_at dksX1_rounds_2 15 rfl rfl)
theorem dX1_rounds_64 : decode cX1_rounds 64 = .ok (.iadd, 1) := dk_96 (dk_at dksX1_rounds_2 16 rfl rfl)
theorem dX1_rounds_65 : decode cX1_rounds 65 = .ok (.istore 5, 2) := dk_54 5 (dk_at dksX1_rounds_2 17 rfl rfl)
theorem dX1_rounds_67 : decode cX1_rounds 67 = .ok (.goto (-26), 3) := dk_167 255 230 (dk_at dksX1_rounds_2 19 rfl rfl)
theorem dX1_rounds_70 : decode cX1_rounds 70 = .ok (.aload_n 0, 1) := dk_42 (dk_at dksX1_rounds_2 22 rfl rfl)
theorem dX1_rounds_71 : decode cX1_rounds 71 = .ok (.iconst 1, 1) := dk_4 (dk_at dksX1_rounds_2 23 rfl rfl)
theorem dX1_rounds_72 : decode cX1_rounds 72 = .ok (.putfield 190, 3) := dk_181 0 190 (dk_at dksX1_rounds_3 0 rfl rfl)
theorem dX1_rounds_75 : decode cX1_rounds 75 = .ok (.iload 5, 2) := dk_21 5 (dk_at dksX1_rounds_3 3 rfl rfl)
theorem dX1_rounds_77 : decode cX1_rounds 77 = .ok (.aload_n 0, 1) := dk_42 (dk_at dksX1_rounds_3 5 rfl rfl)
theorem dX1_rounds_78 : decode cX1_rounds 78 = .ok (.getfield 190, 3) := dk_180 0 190 (dk_at dksX1_rounds_3 6 rfl rfl)
theorem dX1_rounds_81 : decode cX1_rounds 81 = .ok (.irem, 1) := dk_112 (dk_at dksX1_rounds_3 9 rfl rfl)
theorem dX1_rounds_82 : decode cX1_rounds 82 = .ok (.ifCond .ne 21, 3) := dk_154 0 21 (dk_at dksX1_rounds_3 10 rfl rfl)
theorem dX1_rounds_85 : decode cX1_rounds 85 = .ok (.aload_n 0, 1) := dk_42 (dk_at dksX1_rounds_3 13 rfl rfl)
theorem dX1_rounds_86 : decode cX1_rounds 86 = .ok (.iload 4, 2) := dk_21 4 (dk_at dksX1_rounds_3 14 rfl rfl)
theorem dX1_rounds_88 : decode cX1_rounds 88 = .ok (.aload_n 0, 1) := dk_42 (dk_at dksX1_rounds_3 16 rfl rfl)
theorem dX1_rounds_89 : decode cX1_rounds 89 = .ok (.getfield 190, 3) := dk_180 0 190 (dk_at dksX1_rounds_3 17 rfl rfl)
theorem dX1_rounds_92 : decode cX1_rounds 92 = .ok (.iload 4, 2) := dk_21 4 (dk_at dksX1_rounds_3 20 rfl rfl)
theorem dX1_rounds_94 : decode cX1_rounds 94 = .ok (.iload 5, 2) := dk_21 5 (dk_at dksX1_rounds_3 22 rfl rfl)
theorem dX1_rounds_96 : decode cX1_rounds 96 = .ok (.iadd, 1) := dk_96 (dk_at dksX1_rounds_4 0 rfl rfl)
theorem dX1_rounds_97 : decode cX1_rounds 97 = .ok (.invokevirtual 193, 3) := dk_182 0 193 (dk_at dksX1_rounds_4 1 rfl rfl)
theorem dX1_rounds_100 : decode cX1_rounds 100 = .ok (.ifCond .ne 16, 3) := dk_154 0 16 (dk_at dksX1_rounds_4 4 rfl rfl)
theorem dX1_rounds_103 : decode cX1_rounds 103 = .ok (.aload_n 0, 1) := dk_42 (dk_at dksX1_rounds_4 7 rfl rfl)
theorem dX1_rounds_104 : decode cX1_rounds 104 = .ok (.dup, 1) := dk_89 (dk_at dksX1_rounds_4 8 rfl rfl)
theorem dX1_rounds_105 : decode cX1_rounds 105 = .ok (.getfield 190, 3) := dk_180 0 190 (dk_at dksX1_rounds_4 9 rfl rfl)
theorem dX1_rounds_108 : decode cX1_rounds 108 = .ok (.iconst 1, 1) := dk_4 (dk_at dksX1_rounds_4 12 rfl rfl)
theorem dX1_rounds_109 : decode cX1_rounds 109 = .ok (.iadd, 1) := dk_96 (dk_at dksX1_rounds_4 13 rfl rfl)
theorem dX1_rounds_110 : decode cX1_rounds 110 = .ok (.putfield 190, 3) := dk_181 0 190 (dk_at dksX1_rounds_4 14 rfl rfl)
theorem dX1_rounds_113 : decode cX1_rounds 113 = .ok (.goto (-38), 3) := dk_167 255 218 (dk_at dksX1_rounds_4 17 rfl rfl)
theorem dX1_rounds_116 : decode cX1_rounds 116 = .ok (.aload_n 0, 1) := dk_42 (dk_at dksX1_rounds_4 20 rfl rfl)
theorem dX1_rounds_117 : decode cX1_rounds 117 = .ok (.iload 4, 2) := dk_21 4 (dk_at dksX1_rounds_4 21 rfl rfl)
theorem dX1_rounds_119 : decode cX1_rounds 119 = .ok (.putfield 196, 3) := dk_181 0 196 (dk_at dksX1_rounds_5 0 rfl rfl)
theorem dX1_rounds_122 : decode cX1_rounds 122 = .ok (.aload_n 0, 1) := dk_42 (dk_at dksX1_rounds_5 3 rfl rfl)
theorem dX1_rounds_123 : decode cX1_rounds 123 = .ok (.getfield 196, 3) := dk_180 0 196 (dk_at dksX1_rounds_5 4 rfl rfl)
theorem dX1_rounds_126 : decode cX1_rounds 126 = .ok (.ifCond .le 46, 3) := dk_158 0 46 (dk_at dksX1_rounds_5 7 rfl rfl)
theorem dX1_rounds_129 : decode cX1_rounds 129 = .ok (.aload_n 0, 1) := dk_42 (dk_at dksX1_rounds_5 10 rfl rfl)
theorem dX1_rounds_130 : decode cX1_rounds 130 = .ok (.getfield 27, 3) := dk_180 0 27 (dk_at dksX1_rounds_5 11 rfl rfl)
theorem dX1_rounds_133 : decode cX1_rounds 133 = .ok (.aload_n 0, 1) := dk_42 (dk_at dksX1_rounds_5 14 rfl rfl)
theorem dX1_rounds_134 : decode cX1_rounds 134 = .ok (.getfield 196, 3) := dk_180 0 196 (dk_at dksX1_rounds_5 15 rfl rfl)
theorem dX1_rounds_137 : decode cX1_rounds 137 = .ok (.iconst 1, 1) := dk_4 (dk_at dksX1_rounds_5 18 rfl rfl)
theorem dX1_rounds_138 : decode cX1_rounds 138 = .ok (.isub, 1) := dk_100 (dk_at dksX1_rounds_5 19 rfl rfl)
theorem dX1_rounds_139 : decode cX1_rounds 139 = .ok (.saload, 1) := dk_53 (dk_at dksX1_rounds_5 20 rfl rfl)
theorem dX1_rounds_140 : decode cX1_rounds 140 = .ok (.aload_n 0, 1) := dk_42 (dk_at dksX1_rounds_5 21 rfl rfl)
theorem dX1_rounds_141 : decode cX1_rounds 141 = .ok (.getfield 27, 3) := dk_180 0 27 (dk_at dksX1_rounds_6 0 rfl rfl)
theorem dX1_rounds_144 : decode cX1_rounds 144 = .ok (.aload_n 0, 1) := dk_42 (dk_at dksX1_rounds_6 3 rfl rfl)
theorem dX1_rounds_145 : decode cX1_rounds 145 = .ok (.getfield 196, 3) := dk_180 0 196 (dk_at dksX1_rounds_6 4 rfl rfl)
theorem dX1_rounds_148 : decode cX1_rounds 148 = .ok (.iconst 1, 1) := dk_4 (dk_at dksX1_rounds_6 7 rfl rfl)
theorem dX1_rounds_149 : decode cX1_rounds 149 = .ok (.isub, 1) := dk_100 (dk_at dksX1_rounds_6 8 rfl rfl)
theorem dX1_rounds_150 : decode cX1_rounds 150 = .ok (.aload_n 0, 1) := dk_42 (dk_at dksX1_rounds_6 9 rfl rfl)
theorem dX1_rounds_151 : decode cX1_rounds 151 = .ok (.getfield 190, 3) := dk_180 0 190 (dk_at dksX1_rounds_6 10 rfl rfl)
theorem dX1_rounds_154 : decode cX1_rounds 154 = .ok (.iadd, 1) := dk_96 (dk_at dksX1_rounds_6 13 rfl rfl)
theorem dX1_rounds_155 : decode cX1_rounds 155 = .ok (.saload, 1) := dk_53 (dk_at dksX1_rounds_6 14 rfl rfl)
theorem dX1_rounds_156 : decode cX1_rounds 156 = .ok (.if_icmp .ne 16, 3) := dk_160 0 16 (dk_at dksX1_rounds_6 15 rfl rfl)
theorem dX1_rounds_159 : decode cX1_rounds 159 = .ok (.aload_n 0, 1) := dk_42 (dk_at dksX1_rounds_6 18 rfl rfl)
theorem dX1_rounds_160 : decode cX1_rounds 160 = .ok (.dup, 1) := dk_89 (dk_at dksX1_rounds_6 19 rfl rfl)
theorem dX1_rounds_161 : decode cX1_rounds 161 = .ok (.getfield 196, 3) := dk_180 0 196 (dk_at dksX1_rounds_6 20 rfl rfl)
theorem dX1_rounds_164 : decode cX1_rounds 164 = .ok (.iconst 1, 1) := dk_4 (dk_at dksX1_rounds_6 23 rfl rfl)
theorem dX1_rounds_165 : decode cX1_rounds 165 = .ok (.isub, 1) := dk_100 (dk_at dksX1_rounds_7 0 rfl rfl)
theorem dX1_rounds_166 : decode cX1_rounds 166 = .ok (.putfield 196, 3) := dk_181 0 196 (dk_at dksX1_rounds_7 1 rfl rfl)
theorem dX1_rounds_169 : decode cX1_rounds 169 = .ok (.goto (-47), 3) := dk_167 255 209 (dk_at dksX1_rounds_7 4 rfl rfl)
theorem dX1_rounds_172 : decode cX1_rounds 172 = .ok (.return_, 1) := dk_177 (dk_at dksX1_rounds_7 7 rfl rfl)
abbrev cX1_goesRound : ByteArray := prog_1_method_31_code
def yX1_goesRound : MethodName := ⟨RX1, "goesRound", "(III)Z"⟩
def dkwX1_goesRound_1 : List UInt8 := [53, 159, 0, 5, 3, 172, 132, 4, 1, 167, 255, 226, 4, 172]
abbrev dktX1_goesRound_1 : List UInt8 := dkwX1_goesRound_1 ++ []
def dkwX1_goesRound_0 : List UInt8 := [27, 54, 4, 21, 4, 29, 162, 0, 30, 42, 180, 0, 27, 21, 4, 53, 42, 180, 0, 27, 21, 4, 28, 96]
abbrev dktX1_goesRound_0 : List UInt8 := dkwX1_goesRound_0 ++ dktX1_goesRound_1
theorem dksX1_goesRound_0 : cX1_goesRound.data.toList.drop 0 = dktX1_goesRound_0 := by decide +kernel
theorem dksX1_goesRound_1 : cX1_goesRound.data.toList.drop 24 = dktX1_goesRound_1 := dk_seg dksX1_goesRound_0 24 rfl rfl
theorem dX1_goesRound_0 : decode cX1_goesRound 0 = .ok (.iload_n 1, 1) := dk_27 (dk_at dksX1_goesRound_0 0 rfl rfl)
theorem dX1_goesRound_1 : decode cX1_goesRound 1 = .ok (.istore 4, 2) := dk_54 4 (dk_at dksX1_goesRound_0 1 rfl rfl)
theorem dX1_goesRound_3 : decode cX1_goesRound 3 = .ok (.iload 4, 2) := dk_21 4 (dk_at dksX1_goesRound_0 3 rfl rfl)
theorem dX1_goesRound_5 : decode cX1_goesRound 5 = .ok (.iload_n 3, 1) := dk_29 (dk_at dksX1_goesRound_0 5 rfl rfl)
theorem dX1_goesRound_6 : decode cX1_goesRound 6 = .ok (.if_icmp .ge 30, 3) := dk_162 0 30 (dk_at dksX1_goesRound_0 6 rfl rfl)
theorem dX1_goesRound_9 : decode cX1_goesRound 9 = .ok (.aload_n 0, 1) := dk_42 (dk_at dksX1_goesRound_0 9 rfl rfl)
theorem dX1_goesRound_10 : decode cX1_goesRound 10 = .ok (.getfield 27, 3) := dk_180 0 27 (dk_at dksX1_goesRound_0 10 rfl rfl)
theorem dX1_goesRound_13 : decode cX1_goesRound 13 = .ok (.iload 4, 2) := dk_21 4 (dk_at dksX1_goesRound_0 13 rfl rfl)
theorem dX1_goesRound_15 : decode cX1_goesRound 15 = .ok (.saload, 1) := dk_53 (dk_at dksX1_goesRound_0 15 rfl rfl)
theorem dX1_goesRound_16 : decode cX1_goesRound 16 = .ok (.aload_n 0, 1) := dk_42 (dk_at dksX1_goesRound_0 16 rfl rfl)
theorem dX1_goesRound_17 : decode cX1_goesRound 17 = .ok (.getfield 27, 3) := dk_180 0 27 (dk_at dksX1_goesRound_0 17 rfl rfl)
theorem dX1_goesRound_20 : decode cX1_goesRound 20 = .ok (.iload 4, 2) := dk_21 4 (dk_at dksX1_goesRound_0 20 rfl rfl)
theorem dX1_goesRound_22 : decode cX1_goesRound 22 = .ok (.iload_n 2, 1) := dk_28 (dk_at dksX1_goesRound_0 22 rfl rfl)
theorem dX1_goesRound_23 : decode cX1_goesRound 23 = .ok (.iadd, 1) := dk_96 (dk_at dksX1_goesRound_0 23 rfl rfl)
theorem dX1_goesRound_24 : decode cX1_goesRound 24 = .ok (.saload, 1) := dk_53 (dk_at dksX1_goesRound_1 0 rfl rfl)
theorem dX1_goesRound_25 : decode cX1_goesRound 25 = .ok (.if_icmp .eq 5, 3) := dk_159 0 5 (dk_at dksX1_goesRound_1 1 rfl rfl)
theorem dX1_goesRound_28 : decode cX1_goesRound 28 = .ok (.iconst 0, 1) := dk_3 (dk_at dksX1_goesRound_1 4 rfl rfl)
theorem dX1_goesRound_29 : decode cX1_goesRound 29 = .ok (.ireturn, 1) := dk_172 (dk_at dksX1_goesRound_1 5 rfl rfl)
theorem dX1_goesRound_30 : decode cX1_goesRound 30 = .ok (.iinc 4 1, 3) := dk_132 4 1 (dk_at dksX1_goesRound_1 6 rfl rfl)
theorem dX1_goesRound_33 : decode cX1_goesRound 33 = .ok (.goto (-30), 3) := dk_167 255 226 (dk_at dksX1_goesRound_1 9 rfl rfl)
theorem dX1_goesRound_36 : decode cX1_goesRound 36 = .ok (.iconst 1, 1) := dk_4 (dk_at dksX1_goesRound_1 12 rfl rfl)
theorem dX1_goesRound_37 : decode cX1_goesRound 37 = .ok (.ireturn, 1) := dk_172 (dk_at dksX1_goesRound_1 13 rfl rfl)
abbrev cX1_round : ByteArray := prog_1_method_34_code
def yX1_round : MethodName := ⟨RX1, "round", "(I)I"⟩
def dkwX1_round_1 : List UInt8 := [182, 0, 54, 172]
abbrev dktX1_round_1 : List UInt8 := dkwX1_round_1 ++ []
def dkwX1_round_0 : List UInt8 := [42, 27, 182, 0, 162, 154, 0, 9, 42, 4, 182, 0, 50, 172, 42, 27, 182, 0, 199, 42, 42, 180, 0, 190]
abbrev dktX1_round_0 : List UInt8 := dkwX1_round_0 ++ dktX1_round_1
theorem dksX1_round_0 : cX1_round.data.toList.drop 0 = dktX1_round_0 := by decide +kernel
theorem dksX1_round_1 : cX1_round.data.toList.drop 24 = dktX1_round_1 := dk_seg dksX1_round_0 24 rfl rfl
theorem dX1_round_0 : decode cX1_round 0 = .ok (.aload_n 0, 1) := dk_42 (dk_at dksX1_round_0 0 rfl rfl)
theorem dX1_round_1 : decode cX1_round 1 = .ok (.iload_n 1, 1) := dk_27 (dk_at dksX1_round_0 1 rfl rfl)
theorem dX1_round_2 : decode cX1_round 2 = .ok (.invokevirtual 162, 3) := dk_182 0 162 (dk_at dksX1_round_0 2 rfl rfl)
theorem dX1_round_5 : decode cX1_round 5 = .ok (.ifCond .ne 9, 3) := dk_154 0 9 (dk_at dksX1_round_0 5 rfl rfl)
theorem dX1_round_8 : decode cX1_round 8 = .ok (.aload_n 0, 1) := dk_42 (dk_at dksX1_round_0 8 rfl rfl)
theorem dX1_round_9 : decode cX1_round 9 = .ok (.iconst 1, 1) := dk_4 (dk_at dksX1_round_0 9 rfl rfl)
theorem dX1_round_10 : decode cX1_round 10 = .ok (.invokevirtual 50, 3) := dk_182 0 50 (dk_at dksX1_round_0 10 rfl rfl)
theorem dX1_round_13 : decode cX1_round 13 = .ok (.ireturn, 1) := dk_172 (dk_at dksX1_round_0 13 rfl rfl)
theorem dX1_round_14 : decode cX1_round 14 = .ok (.aload_n 0, 1) := dk_42 (dk_at dksX1_round_0 14 rfl rfl)
theorem dX1_round_15 : decode cX1_round 15 = .ok (.iload_n 1, 1) := dk_27 (dk_at dksX1_round_0 15 rfl rfl)
theorem dX1_round_16 : decode cX1_round 16 = .ok (.invokevirtual 199, 3) := dk_182 0 199 (dk_at dksX1_round_0 16 rfl rfl)
theorem dX1_round_19 : decode cX1_round 19 = .ok (.aload_n 0, 1) := dk_42 (dk_at dksX1_round_0 19 rfl rfl)
theorem dX1_round_20 : decode cX1_round 20 = .ok (.aload_n 0, 1) := dk_42 (dk_at dksX1_round_0 20 rfl rfl)
theorem dX1_round_21 : decode cX1_round 21 = .ok (.getfield 190, 3) := dk_180 0 190 (dk_at dksX1_round_0 21 rfl rfl)
theorem dX1_round_24 : decode cX1_round 24 = .ok (.invokevirtual 54, 3) := dk_182 0 54 (dk_at dksX1_round_1 0 rfl rfl)
theorem dX1_round_27 : decode cX1_round 27 = .ok (.ireturn, 1) := dk_172 (dk_at dksX1_round_1 3 rfl rfl)
abbrev cX1_saysLate : ByteArray := prog_1_method_35_code
def yX1_saysLate : MethodName := ⟨RX1, "saysLate", "(II)I"⟩
def dkwX1_saysLate_2 : List UInt8 := [180, 0, 27, 42, 180, 0, 196, 28, 42, 180, 0, 196, 100, 42, 180, 0, 190, 112, 96, 53, 182, 0, 54, 172]
abbrev dktX1_saysLate_2 : List UInt8 := dkwX1_saysLate_2 ++ []
def dkwX1_saysLate_1 : List UInt8 := [42, 27, 182, 0, 199, 42, 28, 42, 180, 0, 196, 162, 0, 12, 42, 180, 0, 27, 28, 53, 167, 0, 24, 42]
abbrev dktX1_saysLate_1 : List UInt8 := dkwX1_saysLate_1 ++ dktX1_saysLate_2
def dkwX1_saysLate_0 : List UInt8 := [42, 42, 27, 182, 0, 162, 28, 3, 18, 203, 182, 0, 172, 62, 29, 158, 0, 9, 42, 29, 182, 0, 50, 172]
abbrev dktX1_saysLate_0 : List UInt8 := dkwX1_saysLate_0 ++ dktX1_saysLate_1
theorem dksX1_saysLate_0 : cX1_saysLate.data.toList.drop 0 = dktX1_saysLate_0 := by decide +kernel
theorem dksX1_saysLate_1 : cX1_saysLate.data.toList.drop 24 = dktX1_saysLate_1 := dk_seg dksX1_saysLate_0 24 rfl rfl
theorem dksX1_saysLate_2 : cX1_saysLate.data.toList.drop 48 = dktX1_saysLate_2 := dk_seg dksX1_saysLate_1 24 rfl rfl
theorem dX1_saysLate_0 : decode cX1_saysLate 0 = .ok (.aload_n 0, 1) := dk_42 (dk_at dksX1_saysLate_0 0 rfl rfl)
theorem dX1_saysLate_1 : decode cX1_saysLate 1 = .ok (.aload_n 0, 1) := dk_42 (dk_at dksX1_saysLate_0 1 rfl rfl)
theorem dX1_saysLate_2 : decode cX1_saysLate 2 = .ok (.iload_n 1, 1) := dk_27 (dk_at dksX1_saysLate_0 2 rfl rfl)
theorem dX1_saysLate_3 : decode cX1_saysLate 3 = .ok (.invokevirtual 162, 3) := dk_182 0 162 (dk_at dksX1_saysLate_0 3 rfl rfl)
theorem dX1_saysLate_6 : decode cX1_saysLate 6 = .ok (.iload_n 2, 1) := dk_28 (dk_at dksX1_saysLate_0 6 rfl rfl)
theorem dX1_saysLate_7 : decode cX1_saysLate 7 = .ok (.iconst 0, 1) := dk_3 (dk_at dksX1_saysLate_0 7 rfl rfl)
theorem dX1_saysLate_8 : decode cX1_saysLate 8 = .ok (.ldc 203, 2) := dk_18 203 (dk_at dksX1_saysLate_0 8 rfl rfl)
theorem dX1_saysLate_10 : decode cX1_saysLate 10 = .ok (.invokevirtual 172, 3) := dk_182 0 172 (dk_at dksX1_saysLate_0 10 rfl rfl)
theorem dX1_saysLate_13 : decode cX1_saysLate 13 = .ok (.istore_n 3, 1) := dk_62 (dk_at dksX1_saysLate_0 13 rfl rfl)
theorem dX1_saysLate_14 : decode cX1_saysLate 14 = .ok (.iload_n 3, 1) := dk_29 (dk_at dksX1_saysLate_0 14 rfl rfl)
theorem dX1_saysLate_15 : decode cX1_saysLate 15 = .ok (.ifCond .le 9, 3) := dk_158 0 9 (dk_at dksX1_saysLate_0 15 rfl rfl)
theorem dX1_saysLate_18 : decode cX1_saysLate 18 = .ok (.aload_n 0, 1) := dk_42 (dk_at dksX1_saysLate_0 18 rfl rfl)
theorem dX1_saysLate_19 : decode cX1_saysLate 19 = .ok (.iload_n 3, 1) := dk_29 (dk_at dksX1_saysLate_0 19 rfl rfl)
theorem dX1_saysLate_20 : decode cX1_saysLate 20 = .ok (.invokevirtual 50, 3) := dk_182 0 50 (dk_at dksX1_saysLate_0 20 rfl rfl)
theorem dX1_saysLate_23 : decode cX1_saysLate 23 = .ok (.ireturn, 1) := dk_172 (dk_at dksX1_saysLate_0 23 rfl rfl)
theorem dX1_saysLate_24 : decode cX1_saysLate 24 = .ok (.aload_n 0, 1) := dk_42 (dk_at dksX1_saysLate_1 0 rfl rfl)
theorem dX1_saysLate_25 : decode cX1_saysLate 25 = .ok (.iload_n 1, 1) := dk_27 (dk_at dksX1_saysLate_1 1 rfl rfl)
theorem dX1_saysLate_26 : decode cX1_saysLate 26 = .ok (.invokevirtual 199, 3) := dk_182 0 199 (dk_at dksX1_saysLate_1 2 rfl rfl)
theorem dX1_saysLate_29 : decode cX1_saysLate 29 = .ok (.aload_n 0, 1) := dk_42 (dk_at dksX1_saysLate_1 5 rfl rfl)
theorem dX1_saysLate_30 : decode cX1_saysLate 30 = .ok (.iload_n 2, 1) := dk_28 (dk_at dksX1_saysLate_1 6 rfl rfl)
theorem dX1_saysLate_31 : decode cX1_saysLate 31 = .ok (.aload_n 0, 1) := dk_42 (dk_at dksX1_saysLate_1 7 rfl rfl)
theorem dX1_saysLate_32 : decode cX1_saysLate 32 = .ok (.getfield 196, 3) := dk_180 0 196 (dk_at dksX1_saysLate_1 8 rfl rfl)
theorem dX1_saysLate_35 : decode cX1_saysLate 35 = .ok (.if_icmp .ge 12, 3) := dk_162 0 12 (dk_at dksX1_saysLate_1 11 rfl rfl)
theorem dX1_saysLate_38 : decode cX1_saysLate 38 = .ok (.aload_n 0, 1) := dk_42 (dk_at dksX1_saysLate_1 14 rfl rfl)
theorem dX1_saysLate_39 : decode cX1_saysLate 39 = .ok (.getfield 27, 3) := dk_180 0 27 (dk_at dksX1_saysLate_1 15 rfl rfl)
theorem dX1_saysLate_42 : decode cX1_saysLate 42 = .ok (.iload_n 2, 1) := dk_28 (dk_at dksX1_saysLate_1 18 rfl rfl)
theorem dX1_saysLate_43 : decode cX1_saysLate 43 = .ok (.saload, 1) := dk_53 (dk_at dksX1_saysLate_1 19 rfl rfl)
theorem dX1_saysLate_44 : decode cX1_saysLate 44 = .ok (.goto 24, 3) := dk_167 0 24 (dk_at dksX1_saysLate_1 20 rfl rfl)
theorem dX1_saysLate_47 : decode cX1_saysLate 47 = .ok (.aload_n 0, 1) := dk_42 (dk_at dksX1_saysLate_1 23 rfl rfl)
theorem dX1_saysLate_48 : decode cX1_saysLate 48 = .ok (.getfield 27, 3) := dk_180 0 27 (dk_at dksX1_saysLate_2 0 rfl rfl)
theorem dX1_saysLate_51 : decode cX1_saysLate 51 = .ok (.aload_n 0, 1) := dk_42 (dk_at dksX1_saysLate_2 3 rfl rfl)
theorem dX1_saysLate_52 : decode cX1_saysLate 52 = .ok (.getfield 196, 3) := dk_180 0 196 (dk_at dksX1_saysLate_2 4 rfl rfl)
theorem dX1_saysLate_55 : decode cX1_saysLate 55 = .ok (.iload_n 2, 1) := dk_28 (dk_at dksX1_saysLate_2 7 rfl rfl)
theorem dX1_saysLate_56 : decode cX1_saysLate 56 = .ok (.aload_n 0, 1) := dk_42 (dk_at dksX1_saysLate_2 8 rfl rfl)
theorem dX1_saysLate_57 : decode cX1_saysLate 57 = .ok (.getfield 196, 3) := dk_180 0 196 (dk_at dksX1_saysLate_2 9 rfl rfl)
theorem dX1_saysLate_60 : decode cX1_saysLate 60 = .ok (.isub, 1) := dk_100 (dk_at dksX1_saysLate_2 12 rfl rfl)
theorem dX1_saysLate_61 : decode cX1_saysLate 61 = .ok (.aload_n 0, 1) := dk_42 (dk_at dksX1_saysLate_2 13 rfl rfl)
theorem dX1_saysLate_62 : decode cX1_saysLate 62 = .ok (.getfield 190, 3) := dk_180 0 190 (dk_at dksX1_saysLate_2 14 rfl rfl)
theorem dX1_saysLate_65 : decode cX1_saysLate 65 = .ok (.irem, 1) := dk_112 (dk_at dksX1_saysLate_2 17 rfl rfl)
theorem dX1_saysLate_66 : decode cX1_saysLate 66 = .ok (.iadd, 1) := dk_96 (dk_at dksX1_saysLate_2 18 rfl rfl)
theorem dX1_saysLate_67 : decode cX1_saysLate 67 = .ok (.saload, 1) := dk_53 (dk_at dksX1_saysLate_2 19 rfl rfl)
theorem dX1_saysLate_68 : decode cX1_saysLate 68 = .ok (.invokevirtual 54, 3) := dk_182 0 54 (dk_at dksX1_saysLate_2 20 rfl rfl)
theorem dX1_saysLate_71 : decode cX1_saysLate 71 = .ok (.ireturn, 1) := dk_172 (dk_at dksX1_saysLate_2 23 rfl rfl)
abbrev cX1_roundMost : ByteArray := prog_1_method_36_code
def yX1_roundMost : MethodName := ⟨RX1, "roundMost", "(I)I"⟩
def dkwX1_roundMost_2 : List UInt8 := [132, 3, 1, 167, 255, 229, 42, 28, 182, 0, 54, 172]
abbrev dktX1_roundMost_2 : List UInt8 := dkwX1_roundMost_2 ++ []
def dkwX1_roundMost_1 : List UInt8 := [42, 180, 0, 190, 162, 0, 25, 28, 42, 180, 0, 27, 42, 180, 0, 196, 29, 96, 53, 184, 0, 184, 61]
abbrev dktX1_roundMost_1 : List UInt8 := dkwX1_roundMost_1 ++ dktX1_roundMost_2
def dkwX1_roundMost_0 : List UInt8 := [42, 27, 182, 0, 162, 154, 0, 9, 42, 4, 182, 0, 50, 172, 42, 27, 182, 0, 199, 3, 61, 3, 62, 29]
abbrev dktX1_roundMost_0 : List UInt8 := dkwX1_roundMost_0 ++ dktX1_roundMost_1
theorem dksX1_roundMost_0 : cX1_roundMost.data.toList.drop 0 = dktX1_roundMost_0 := by decide +kernel
theorem dksX1_roundMost_1 : cX1_roundMost.data.toList.drop 24 = dktX1_roundMost_1 := dk_seg dksX1_roundMost_0 24 rfl rfl
theorem dksX1_roundMost_2 : cX1_roundMost.data.toList.drop 47 = dktX1_roundMost_2 := dk_seg dksX1_roundMost_1 23 rfl rfl
theorem dX1_roundMost_0 : decode cX1_roundMost 0 = .ok (.aload_n 0, 1) := dk_42 (dk_at dksX1_roundMost_0 0 rfl rfl)
theorem dX1_roundMost_1 : decode cX1_roundMost 1 = .ok (.iload_n 1, 1) := dk_27 (dk_at dksX1_roundMost_0 1 rfl rfl)
theorem dX1_roundMost_2 : decode cX1_roundMost 2 = .ok (.invokevirtual 162, 3) := dk_182 0 162 (dk_at dksX1_roundMost_0 2 rfl rfl)
theorem dX1_roundMost_5 : decode cX1_roundMost 5 = .ok (.ifCond .ne 9, 3) := dk_154 0 9 (dk_at dksX1_roundMost_0 5 rfl rfl)
theorem dX1_roundMost_8 : decode cX1_roundMost 8 = .ok (.aload_n 0, 1) := dk_42 (dk_at dksX1_roundMost_0 8 rfl rfl)
theorem dX1_roundMost_9 : decode cX1_roundMost 9 = .ok (.iconst 1, 1) := dk_4 (dk_at dksX1_roundMost_0 9 rfl rfl)
theorem dX1_roundMost_10 : decode cX1_roundMost 10 = .ok (.invokevirtual 50, 3) := dk_182 0 50 (dk_at dksX1_roundMost_0 10 rfl rfl)
theorem dX1_roundMost_13 : decode cX1_roundMost 13 = .ok (.ireturn, 1) := dk_172 (dk_at dksX1_roundMost_0 13 rfl rfl)
theorem dX1_roundMost_14 : decode cX1_roundMost 14 = .ok (.aload_n 0, 1) := dk_42 (dk_at dksX1_roundMost_0 14 rfl rfl)
theorem dX1_roundMost_15 : decode cX1_roundMost 15 = .ok (.iload_n 1, 1) := dk_27 (dk_at dksX1_roundMost_0 15 rfl rfl)
theorem dX1_roundMost_16 : decode cX1_roundMost 16 = .ok (.invokevirtual 199, 3) := dk_182 0 199 (dk_at dksX1_roundMost_0 16 rfl rfl)
theorem dX1_roundMost_19 : decode cX1_roundMost 19 = .ok (.iconst 0, 1) := dk_3 (dk_at dksX1_roundMost_0 19 rfl rfl)
theorem dX1_roundMost_20 : decode cX1_roundMost 20 = .ok (.istore_n 2, 1) := dk_61 (dk_at dksX1_roundMost_0 20 rfl rfl)
theorem dX1_roundMost_21 : decode cX1_roundMost 21 = .ok (.iconst 0, 1) := dk_3 (dk_at dksX1_roundMost_0 21 rfl rfl)
theorem dX1_roundMost_22 : decode cX1_roundMost 22 = .ok (.istore_n 3, 1) := dk_62 (dk_at dksX1_roundMost_0 22 rfl rfl)
theorem dX1_roundMost_23 : decode cX1_roundMost 23 = .ok (.iload_n 3, 1) := dk_29 (dk_at dksX1_roundMost_0 23 rfl rfl)
theorem dX1_roundMost_24 : decode cX1_roundMost 24 = .ok (.aload_n 0, 1) := dk_42 (dk_at dksX1_roundMost_1 0 rfl rfl)
theorem dX1_roundMost_25 : decode cX1_roundMost 25 = .ok (.getfield 190, 3) := dk_180 0 190 (dk_at dksX1_roundMost_1 1 rfl rfl)
theorem dX1_roundMost_28 : decode cX1_roundMost 28 = .ok (.if_icmp .ge 25, 3) := dk_162 0 25 (dk_at dksX1_roundMost_1 4 rfl rfl)
theorem dX1_roundMost_31 : decode cX1_roundMost 31 = .ok (.iload_n 2, 1) := dk_28 (dk_at dksX1_roundMost_1 7 rfl rfl)
theorem dX1_roundMost_32 : decode cX1_roundMost 32 = .ok (.aload_n 0, 1) := dk_42 (dk_at dksX1_roundMost_1 8 rfl rfl)
theorem dX1_roundMost_33 : decode cX1_roundMost 33 = .ok (.getfield 27, 3) := dk_180 0 27 (dk_at dksX1_roundMost_1 9 rfl rfl)
theorem dX1_roundMost_36 : decode cX1_roundMost 36 = .ok (.aload_n 0, 1) := dk_42 (dk_at dksX1_roundMost_1 12 rfl rfl)
theorem dX1_roundMost_37 : decode cX1_roundMost 37 = .ok (.getfield 196, 3) := dk_180 0 196 (dk_at dksX1_roundMost_1 13 rfl rfl)
theorem dX1_roundMost_40 : decode cX1_roundMost 40 = .ok (.iload_n 3, 1) := dk_29 (dk_at dksX1_roundMost_1 16 rfl rfl)
theorem dX1_roundMost_41 : decode cX1_roundMost 41 = .ok (.iadd, 1) := dk_96 (dk_at dksX1_roundMost_1 17 rfl rfl)
theorem dX1_roundMost_42 : decode cX1_roundMost 42 = .ok (.saload, 1) := dk_53 (dk_at dksX1_roundMost_1 18 rfl rfl)
theorem dX1_roundMost_43 : decode cX1_roundMost 43 = .ok (.invokestatic 184, 3) := dk_184 0 184 (dk_at dksX1_roundMost_1 19 rfl rfl)
theorem dX1_roundMost_46 : decode cX1_roundMost 46 = .ok (.istore_n 2, 1) := dk_61 (dk_at dksX1_roundMost_1 22 rfl rfl)
theorem dX1_roundMost_47 : decode cX1_roundMost 47 = .ok (.iinc 3 1, 3) := dk_132 3 1 (dk_at dksX1_roundMost_2 0 rfl rfl)
theorem dX1_roundMost_50 : decode cX1_roundMost 50 = .ok (.goto (-27), 3) := dk_167 255 229 (dk_at dksX1_roundMost_2 3 rfl rfl)
theorem dX1_roundMost_53 : decode cX1_roundMost 53 = .ok (.aload_n 0, 1) := dk_42 (dk_at dksX1_roundMost_2 6 rfl rfl)
theorem dX1_roundMost_54 : decode cX1_roundMost 54 = .ok (.iload_n 2, 1) := dk_28 (dk_at dksX1_roundMost_2 7 rfl rfl)
theorem dX1_roundMost_55 : decode cX1_roundMost 55 = .ok (.invokevirtual 54, 3) := dk_182 0 54 (dk_at dksX1_roundMost_2 8 rfl rfl)
theorem dX1_roundMost_58 : decode cX1_roundMost 58 = .ok (.ireturn, 1) := dk_172 (dk_at dksX1_roundMost_2 11 rfl rfl)
abbrev cX1_roundLeast : ByteArray := prog_1_method_37_code
def yX1_roundLeast : MethodName := ⟨RX1, "roundLeast", "(I)I"⟩
def dkwX1_roundLeast_2 : List UInt8 := [96, 53, 184, 0, 204, 61, 132, 3, 1, 167, 255, 229, 42, 28, 182, 0, 54, 172]
abbrev dktX1_roundLeast_2 : List UInt8 := dkwX1_roundLeast_2 ++ []
def dkwX1_roundLeast_1 : List UInt8 := [180, 0, 133, 61, 3, 62, 29, 42, 180, 0, 190, 162, 0, 25, 28, 42, 180, 0, 27, 42, 180, 0, 196, 29]
abbrev dktX1_roundLeast_1 : List UInt8 := dkwX1_roundLeast_1 ++ dktX1_roundLeast_2
def dkwX1_roundLeast_0 : List UInt8 := [42, 27, 182, 0, 162, 154, 0, 9, 42, 4, 182, 0, 50, 172, 42, 27, 182, 0, 199, 42, 180, 0, 89]
abbrev dktX1_roundLeast_0 : List UInt8 := dkwX1_roundLeast_0 ++ dktX1_roundLeast_1
theorem dksX1_roundLeast_0 : cX1_roundLeast.data.toList.drop 0 = dktX1_roundLeast_0 := by decide +kernel
theorem dksX1_roundLeast_1 : cX1_roundLeast.data.toList.drop 23 = dktX1_roundLeast_1 := dk_seg dksX1_roundLeast_0 23 rfl rfl
theorem dksX1_roundLeast_2 : cX1_roundLeast.data.toList.drop 47 = dktX1_roundLeast_2 := dk_seg dksX1_roundLeast_1 24 rfl rfl
theorem dX1_roundLeast_0 : decode cX1_roundLeast 0 = .ok (.aload_n 0, 1) := dk_42 (dk_at dksX1_roundLeast_0 0 rfl rfl)
theorem dX1_roundLeast_1 : decode cX1_roundLeast 1 = .ok (.iload_n 1, 1) := dk_27 (dk_at dksX1_roundLeast_0 1 rfl rfl)
theorem dX1_roundLeast_2 : decode cX1_roundLeast 2 = .ok (.invokevirtual 162, 3) := dk_182 0 162 (dk_at dksX1_roundLeast_0 2 rfl rfl)
theorem dX1_roundLeast_5 : decode cX1_roundLeast 5 = .ok (.ifCond .ne 9, 3) := dk_154 0 9 (dk_at dksX1_roundLeast_0 5 rfl rfl)
theorem dX1_roundLeast_8 : decode cX1_roundLeast 8 = .ok (.aload_n 0, 1) := dk_42 (dk_at dksX1_roundLeast_0 8 rfl rfl)
theorem dX1_roundLeast_9 : decode cX1_roundLeast 9 = .ok (.iconst 1, 1) := dk_4 (dk_at dksX1_roundLeast_0 9 rfl rfl)
theorem dX1_roundLeast_10 : decode cX1_roundLeast 10 = .ok (.invokevirtual 50, 3) := dk_182 0 50 (dk_at dksX1_roundLeast_0 10 rfl rfl)
theorem dX1_roundLeast_13 : decode cX1_roundLeast 13 = .ok (.ireturn, 1) := dk_172 (dk_at dksX1_roundLeast_0 13 rfl rfl)
theorem dX1_roundLeast_14 : decode cX1_roundLeast 14 = .ok (.aload_n 0, 1) := dk_42 (dk_at dksX1_roundLeast_0 14 rfl rfl)
theorem dX1_roundLeast_15 : decode cX1_roundLeast 15 = .ok (.iload_n 1, 1) := dk_27 (dk_at dksX1_roundLeast_0 15 rfl rfl)
theorem dX1_roundLeast_16 : decode cX1_roundLeast 16 = .ok (.invokevirtual 199, 3) := dk_182 0 199 (dk_at dksX1_roundLeast_0 16 rfl rfl)
theorem dX1_roundLeast_19 : decode cX1_roundLeast 19 = .ok (.aload_n 0, 1) := dk_42 (dk_at dksX1_roundLeast_0 19 rfl rfl)
theorem dX1_roundLeast_20 : decode cX1_roundLeast 20 = .ok (.getfield 89, 3) := dk_180 0 89 (dk_at dksX1_roundLeast_0 20 rfl rfl)
theorem dX1_roundLeast_23 : decode cX1_roundLeast 23 = .ok (.getfield 133, 3) := dk_180 0 133 (dk_at dksX1_roundLeast_1 0 rfl rfl)
theorem dX1_roundLeast_26 : decode cX1_roundLeast 26 = .ok (.istore_n 2, 1) := dk_61 (dk_at dksX1_roundLeast_1 3 rfl rfl)
theorem dX1_roundLeast_27 : decode cX1_roundLeast 27 = .ok (.iconst 0, 1) := dk_3 (dk_at dksX1_roundLeast_1 4 rfl rfl)
theorem dX1_roundLeast_28 : decode cX1_roundLeast 28 = .ok (.istore_n 3, 1) := dk_62 (dk_at dksX1_roundLeast_1 5 rfl rfl)
theorem dX1_roundLeast_29 : decode cX1_roundLeast 29 = .ok (.iload_n 3, 1) := dk_29 (dk_at dksX1_roundLeast_1 6 rfl rfl)
theorem dX1_roundLeast_30 : decode cX1_roundLeast 30 = .ok (.aload_n 0, 1) := dk_42 (dk_at dksX1_roundLeast_1 7 rfl rfl)
theorem dX1_roundLeast_31 : decode cX1_roundLeast 31 = .ok (.getfield 190, 3) := dk_180 0 190 (dk_at dksX1_roundLeast_1 8 rfl rfl)
theorem dX1_roundLeast_34 : decode cX1_roundLeast 34 = .ok (.if_icmp .ge 25, 3) := dk_162 0 25 (dk_at dksX1_roundLeast_1 11 rfl rfl)
theorem dX1_roundLeast_37 : decode cX1_roundLeast 37 = .ok (.iload_n 2, 1) := dk_28 (dk_at dksX1_roundLeast_1 14 rfl rfl)
theorem dX1_roundLeast_38 : decode cX1_roundLeast 38 = .ok (.aload_n 0, 1) := dk_42 (dk_at dksX1_roundLeast_1 15 rfl rfl)
theorem dX1_roundLeast_39 : decode cX1_roundLeast 39 = .ok (.getfield 27, 3) := dk_180 0 27 (dk_at dksX1_roundLeast_1 16 rfl rfl)
theorem dX1_roundLeast_42 : decode cX1_roundLeast 42 = .ok (.aload_n 0, 1) := dk_42 (dk_at dksX1_roundLeast_1 19 rfl rfl)
theorem dX1_roundLeast_43 : decode cX1_roundLeast 43 = .ok (.getfield 196, 3) := dk_180 0 196 (dk_at dksX1_roundLeast_1 20 rfl rfl)
theorem dX1_roundLeast_46 : decode cX1_roundLeast 46 = .ok (.iload_n 3, 1) := dk_29 (dk_at dksX1_roundLeast_1 23 rfl rfl)
theorem dX1_roundLeast_47 : decode cX1_roundLeast 47 = .ok (.iadd, 1) := dk_96 (dk_at dksX1_roundLeast_2 0 rfl rfl)
theorem dX1_roundLeast_48 : decode cX1_roundLeast 48 = .ok (.saload, 1) := dk_53 (dk_at dksX1_roundLeast_2 1 rfl rfl)
theorem dX1_roundLeast_49 : decode cX1_roundLeast 49 = .ok (.invokestatic 204, 3) := dk_184 0 204 (dk_at dksX1_roundLeast_2 2 rfl rfl)
theorem dX1_roundLeast_52 : decode cX1_roundLeast 52 = .ok (.istore_n 2, 1) := dk_61 (dk_at dksX1_roundLeast_2 5 rfl rfl)
theorem dX1_roundLeast_53 : decode cX1_roundLeast 53 = .ok (.iinc 3 1, 3) := dk_132 3 1 (dk_at dksX1_roundLeast_2 6 rfl rfl)
theorem dX1_roundLeast_56 : decode cX1_roundLeast 56 = .ok (.goto (-27), 3) := dk_167 255 229 (dk_at dksX1_roundLeast_2 9 rfl rfl)
theorem dX1_roundLeast_59 : decode cX1_roundLeast 59 = .ok (.aload_n 0, 1) := dk_42 (dk_at dksX1_roundLeast_2 12 rfl rfl)
theorem dX1_roundLeast_60 : decode cX1_roundLeast 60 = .ok (.iload_n 2, 1) := dk_28 (dk_at dksX1_roundLeast_2 13 rfl rfl)
theorem dX1_roundLeast_61 : decode cX1_roundLeast 61 = .ok (.invokevirtual 54, 3) := dk_182 0 54 (dk_at dksX1_roundLeast_2 14 rfl rfl)
theorem dX1_roundLeast_64 : decode cX1_roundLeast 64 = .ok (.ireturn, 1) := dk_172 (dk_at dksX1_roundLeast_2 17 rfl rfl)
abbrev cX1_turnsAbout : ByteArray := prog_1_method_38_code
def yX1_turnsAbout : MethodName := ⟨RX1, "turnsAbout", "(I)I"⟩
def dkwX1_turnsAbout_3 : List UInt8 := [182, 0, 54, 172]
abbrev dktX1_turnsAbout_3 : List UInt8 := dkwX1_turnsAbout_3 ++ []
def dkwX1_turnsAbout_2 : List UInt8 := [4, 100, 53, 182, 0, 169, 159, 0, 7, 4, 167, 0, 4, 3, 96, 61, 132, 3, 1, 167, 255, 214, 42, 28]
abbrev dktX1_turnsAbout_2 : List UInt8 := dkwX1_turnsAbout_2 ++ dktX1_turnsAbout_3
def dkwX1_turnsAbout_1 : List UInt8 := [62, 29, 16, 60, 163, 0, 42, 28, 42, 42, 180, 0, 27, 29, 53, 182, 0, 169, 42, 42, 180, 0, 27, 29]
abbrev dktX1_turnsAbout_1 : List UInt8 := dkwX1_turnsAbout_1 ++ dktX1_turnsAbout_2
def dkwX1_turnsAbout_0 : List UInt8 := [42, 27, 182, 0, 162, 154, 0, 9, 42, 4, 182, 0, 50, 172, 42, 27, 16, 60, 182, 0, 180, 3, 61, 4]
abbrev dktX1_turnsAbout_0 : List UInt8 := dkwX1_turnsAbout_0 ++ dktX1_turnsAbout_1
theorem dksX1_turnsAbout_0 : cX1_turnsAbout.data.toList.drop 0 = dktX1_turnsAbout_0 := by decide +kernel
theorem dksX1_turnsAbout_1 : cX1_turnsAbout.data.toList.drop 24 = dktX1_turnsAbout_1 := dk_seg dksX1_turnsAbout_0 24 rfl rfl
theorem dksX1_turnsAbout_2 : cX1_turnsAbout.data.toList.drop 48 = dktX1_turnsAbout_2 := dk_seg dksX1_turnsAbout_1 24 rfl rfl
theorem dksX1_turnsAbout_3 : cX1_turnsAbout.data.toList.drop 72 = dktX1_turnsAbout_3 := dk_seg dksX1_turnsAbout_2 24 rfl rfl
theorem dX1_turnsAbout_0 : decode cX1_turnsAbout 0 = .ok (.aload_n 0, 1) := dk_42 (dk_at dksX1_turnsAbout_0 0 rfl rfl)
theorem dX1_turnsAbout_1 : decode cX1_turnsAbout 1 = .ok (.iload_n 1, 1) := dk_27 (dk_at dksX1_turnsAbout_0 1 rfl rfl)
theorem dX1_turnsAbout_2 : decode cX1_turnsAbout 2 = .ok (.invokevirtual 162, 3) := dk_182 0 162 (dk_at dksX1_turnsAbout_0 2 rfl rfl)
theorem dX1_turnsAbout_5 : decode cX1_turnsAbout 5 = .ok (.ifCond .ne 9, 3) := dk_154 0 9 (dk_at dksX1_turnsAbout_0 5 rfl rfl)
theorem dX1_turnsAbout_8 : decode cX1_turnsAbout 8 = .ok (.aload_n 0, 1) := dk_42 (dk_at dksX1_turnsAbout_0 8 rfl rfl)
theorem dX1_turnsAbout_9 : decode cX1_turnsAbout 9 = .ok (.iconst 1, 1) := dk_4 (dk_at dksX1_turnsAbout_0 9 rfl rfl)
theorem dX1_turnsAbout_10 : decode cX1_turnsAbout 10 = .ok (.invokevirtual 50, 3) := dk_182 0 50 (dk_at dksX1_turnsAbout_0 10 rfl rfl)
theorem dX1_turnsAbout_13 : decode cX1_turnsAbout 13 = .ok (.ireturn, 1) := dk_172 (dk_at dksX1_turnsAbout_0 13 rfl rfl)
theorem dX1_turnsAbout_14 : decode cX1_turnsAbout 14 = .ok (.aload_n 0, 1) := dk_42 (dk_at dksX1_turnsAbout_0 14 rfl rfl)
theorem dX1_turnsAbout_15 : decode cX1_turnsAbout 15 = .ok (.iload_n 1, 1) := dk_27 (dk_at dksX1_turnsAbout_0 15 rfl rfl)
theorem dX1_turnsAbout_16 : decode cX1_turnsAbout 16 = .ok (.bipush 60, 2) := dk_16 60 (dk_at dksX1_turnsAbout_0 16 rfl rfl)
theorem dX1_turnsAbout_18 : decode cX1_turnsAbout 18 = .ok (.invokevirtual 180, 3) := dk_182 0 180 (dk_at dksX1_turnsAbout_0 18 rfl rfl)
theorem dX1_turnsAbout_21 : decode cX1_turnsAbout 21 = .ok (.iconst 0, 1) := dk_3 (dk_at dksX1_turnsAbout_0 21 rfl rfl)
theorem dX1_turnsAbout_22 : decode cX1_turnsAbout 22 = .ok (.istore_n 2, 1) := dk_61 (dk_at dksX1_turnsAbout_0 22 rfl rfl)
theorem dX1_turnsAbout_23 : decode cX1_turnsAbout 23 = .ok (.iconst 1, 1) := dk_4 (dk_at dksX1_turnsAbout_0 23 rfl rfl)
theorem dX1_turnsAbout_24 : decode cX1_turnsAbout 24 = .ok (.istore_n 3, 1) := dk_62 (dk_at dksX1_turnsAbout_1 0 rfl rfl)
theorem dX1_turnsAbout_25 : decode cX1_turnsAbout 25 = .ok (.iload_n 3, 1) := dk_29 (dk_at dksX1_turnsAbout_1 1 rfl rfl)
theorem dX1_turnsAbout_26 : decode cX1_turnsAbout 26 = .ok (.bipush 60, 2) := dk_16 60 (dk_at dksX1_turnsAbout_1 2 rfl rfl)
theorem dX1_turnsAbout_28 : decode cX1_turnsAbout 28 = .ok (.if_icmp .gt 42, 3) := dk_163 0 42 (dk_at dksX1_turnsAbout_1 4 rfl rfl)
theorem dX1_turnsAbout_31 : decode cX1_turnsAbout 31 = .ok (.iload_n 2, 1) := dk_28 (dk_at dksX1_turnsAbout_1 7 rfl rfl)
theorem dX1_turnsAbout_32 : decode cX1_turnsAbout 32 = .ok (.aload_n 0, 1) := dk_42 (dk_at dksX1_turnsAbout_1 8 rfl rfl)
theorem dX1_turnsAbout_33 : decode cX1_turnsAbout 33 = .ok (.aload_n 0, 1) := dk_42 (dk_at dksX1_turnsAbout_1 9 rfl rfl)
theorem dX1_turnsAbout_34 : decode cX1_turnsAbout 34 = .ok (.getfield 27, 3) := dk_180 0 27 (dk_at dksX1_turnsAbout_1 10 rfl rfl)
theorem dX1_turnsAbout_37 : decode cX1_turnsAbout 37 = .ok (.iload_n 3, 1) := dk_29 (dk_at dksX1_turnsAbout_1 13 rfl rfl)
theorem dX1_turnsAbout_38 : decode cX1_turnsAbout 38 = .ok (.saload, 1) := dk_53 (dk_at dksX1_turnsAbout_1 14 rfl rfl)
theorem dX1_turnsAbout_39 : decode cX1_turnsAbout 39 = .ok (.invokevirtual 169, 3) := dk_182 0 169 (dk_at dksX1_turnsAbout_1 15 rfl rfl)
theorem dX1_turnsAbout_42 : decode cX1_turnsAbout 42 = .ok (.aload_n 0, 1) := dk_42 (dk_at dksX1_turnsAbout_1 18 rfl rfl)
theorem dX1_turnsAbout_43 : decode cX1_turnsAbout 43 = .ok (.aload_n 0, 1) := dk_42 (dk_at dksX1_turnsAbout_1 19 rfl rfl)
theorem dX1_turnsAbout_44 : decode cX1_turnsAbout 44 = .ok (.getfield 27, 3) := dk_180 0 27 (dk_at dksX1_turnsAbout_1 20 rfl rfl)
theorem dX1_turnsAbout_47 : decode cX1_turnsAbout 47 = .ok (.iload_n 3, 1) := dk_29 (dk_at dksX1_turnsAbout_1 23 rfl rfl)
theorem dX1_turnsAbout_48 : decode cX1_turnsAbout 48 = .ok (.iconst 1, 1) := dk_4 (dk_at dksX1_turnsAbout_2 0 rfl rfl)
theorem dX1_turnsAbout_49 : decode cX1_turnsAbout 49 = .ok (.isub, 1) := dk_100 (dk_at dksX1_turnsAbout_2 1 rfl rfl)
theorem dX1_turnsAbout_50 : decode cX1_turnsAbout 50 = .ok (.saload, 1) := dk_53 (dk_at dksX1_turnsAbout_2 2 rfl rfl)
theorem dX1_turnsAbout_51 : decode cX1_turnsAbout 51 = .ok (.invokevirtual 169, 3) := dk_182 0 169 (dk_at dksX1_turnsAbout_2 3 rfl rfl)
theorem dX1_turnsAbout_54 : decode cX1_turnsAbout 54 = .ok (.if_icmp .eq 7, 3) := dk_159 0 7 (dk_at dksX1_turnsAbout_2 6 rfl rfl)
theorem dX1_turnsAbout_57 : decode cX1_turnsAbout 57 = .ok (.iconst 1, 1) := dk_4 (dk_at dksX1_turnsAbout_2 9 rfl rfl)
theorem dX1_turnsAbout_58 : decode cX1_turnsAbout 58 = .ok (.goto 4, 3) := dk_167 0 4 (dk_at dksX1_turnsAbout_2 10 rfl rfl)
theorem dX1_turnsAbout_61 : decode cX1_turnsAbout 61 = .ok (.iconst 0, 1) := dk_3 (dk_at dksX1_turnsAbout_2 13 rfl rfl)
theorem dX1_turnsAbout_62 : decode cX1_turnsAbout 62 = .ok (.iadd, 1) := dk_96 (dk_at dksX1_turnsAbout_2 14 rfl rfl)
theorem dX1_turnsAbout_63 : decode cX1_turnsAbout 63 = .ok (.istore_n 2, 1) := dk_61 (dk_at dksX1_turnsAbout_2 15 rfl rfl)
theorem dX1_turnsAbout_64 : decode cX1_turnsAbout 64 = .ok (.iinc 3 1, 3) := dk_132 3 1 (dk_at dksX1_turnsAbout_2 16 rfl rfl)
theorem dX1_turnsAbout_67 : decode cX1_turnsAbout 67 = .ok (.goto (-42), 3) := dk_167 255 214 (dk_at dksX1_turnsAbout_2 19 rfl rfl)
theorem dX1_turnsAbout_70 : decode cX1_turnsAbout 70 = .ok (.aload_n 0, 1) := dk_42 (dk_at dksX1_turnsAbout_2 22 rfl rfl)
theorem dX1_turnsAbout_71 : decode cX1_turnsAbout 71 = .ok (.iload_n 2, 1) := dk_28 (dk_at dksX1_turnsAbout_2 23 rfl rfl)
theorem dX1_turnsAbout_72 : decode cX1_turnsAbout 72 = .ok (.invokevirtual 54, 3) := dk_182 0 54 (dk_at dksX1_turnsAbout_3 0 rfl rfl)
theorem dX1_turnsAbout_75 : decode cX1_turnsAbout 75 = .ok (.ireturn, 1) := dk_172 (dk_at dksX1_turnsAbout_3 3 rfl rfl)
abbrev cX1_alikeIn : ByteArray := prog_1_method_39_code
def yX1_alikeIn : MethodName := ⟨RX1, "alikeIn", "(II)I"⟩
def dkwX1_alikeIn_6 : List UInt8 := [16, 254, 182, 0, 54, 172]
abbrev dktX1_alikeIn_6 : List UInt8 := dkwX1_alikeIn_6 ++ []
def dkwX1_alikeIn_5 : List UInt8 := [180, 0, 98, 180, 0, 145, 21, 5, 96, 4, 96, 3, 182, 0, 148, 54, 4, 132, 5, 1, 167, 255, 157, 42]
abbrev dktX1_alikeIn_5 : List UInt8 := dkwX1_alikeIn_5 ++ dktX1_alikeIn_6
def dkwX1_alikeIn_4 : List UInt8 := [62, 42, 28, 21, 4, 42, 180, 0, 98, 180, 0, 152, 28, 51, 42, 28, 182, 0, 125, 180, 0, 155, 42]
abbrev dktX1_alikeIn_4 : List UInt8 := dkwX1_alikeIn_4 ++ dktX1_alikeIn_5
def dkwX1_alikeIn_3 : List UInt8 := [42, 27, 182, 0, 125, 180, 0, 155, 42, 180, 0, 98, 180, 0, 145, 21, 5, 96, 4, 96, 3, 182, 0, 148]
abbrev dktX1_alikeIn_3 : List UInt8 := dkwX1_alikeIn_3 ++ dktX1_alikeIn_4
def dkwX1_alikeIn_2 : List UInt8 := [21, 4, 160, 0, 10, 42, 21, 5, 182, 0, 54, 172, 42, 27, 29, 42, 180, 0, 98, 180, 0, 152, 27, 51]
abbrev dktX1_alikeIn_2 : List UInt8 := dkwX1_alikeIn_2 ++ dktX1_alikeIn_3
def dkwX1_alikeIn_1 : List UInt8 := [62, 42, 180, 0, 98, 180, 0, 142, 28, 51, 54, 4, 3, 54, 5, 21, 5, 16, 60, 163, 0, 98, 29]
abbrev dktX1_alikeIn_1 : List UInt8 := dkwX1_alikeIn_1 ++ dktX1_alikeIn_2
def dkwX1_alikeIn_0 : List UInt8 := [42, 27, 28, 182, 0, 207, 154, 0, 9, 42, 4, 182, 0, 50, 172, 42, 180, 0, 98, 180, 0, 142, 27, 51]
abbrev dktX1_alikeIn_0 : List UInt8 := dkwX1_alikeIn_0 ++ dktX1_alikeIn_1
theorem dksX1_alikeIn_0 : cX1_alikeIn.data.toList.drop 0 = dktX1_alikeIn_0 := by decide +kernel
theorem dksX1_alikeIn_1 : cX1_alikeIn.data.toList.drop 24 = dktX1_alikeIn_1 := dk_seg dksX1_alikeIn_0 24 rfl rfl
theorem dksX1_alikeIn_2 : cX1_alikeIn.data.toList.drop 47 = dktX1_alikeIn_2 := dk_seg dksX1_alikeIn_1 23 rfl rfl
theorem dksX1_alikeIn_3 : cX1_alikeIn.data.toList.drop 71 = dktX1_alikeIn_3 := dk_seg dksX1_alikeIn_2 24 rfl rfl
theorem dksX1_alikeIn_4 : cX1_alikeIn.data.toList.drop 95 = dktX1_alikeIn_4 := dk_seg dksX1_alikeIn_3 24 rfl rfl
theorem dksX1_alikeIn_5 : cX1_alikeIn.data.toList.drop 118 = dktX1_alikeIn_5 := dk_seg dksX1_alikeIn_4 23 rfl rfl
theorem dksX1_alikeIn_6 : cX1_alikeIn.data.toList.drop 142 = dktX1_alikeIn_6 := dk_seg dksX1_alikeIn_5 24 rfl rfl
theorem dX1_alikeIn_0 : decode cX1_alikeIn 0 = .ok (.aload_n 0, 1) := dk_42 (dk_at dksX1_alikeIn_0 0 rfl rfl)
theorem dX1_alikeIn_1 : decode cX1_alikeIn 1 = .ok (.iload_n 1, 1) := dk_27 (dk_at dksX1_alikeIn_0 1 rfl rfl)
theorem dX1_alikeIn_2 : decode cX1_alikeIn 2 = .ok (.iload_n 2, 1) := dk_28 (dk_at dksX1_alikeIn_0 2 rfl rfl)
theorem dX1_alikeIn_3 : decode cX1_alikeIn 3 = .ok (.invokevirtual 207, 3) := dk_182 0 207 (dk_at dksX1_alikeIn_0 3 rfl rfl)
theorem dX1_alikeIn_6 : decode cX1_alikeIn 6 = .ok (.ifCond .ne 9, 3) := dk_154 0 9 (dk_at dksX1_alikeIn_0 6 rfl rfl)
theorem dX1_alikeIn_9 : decode cX1_alikeIn 9 = .ok (.aload_n 0, 1) := dk_42 (dk_at dksX1_alikeIn_0 9 rfl rfl)
theorem dX1_alikeIn_10 : decode cX1_alikeIn 10 = .ok (.iconst 1, 1) := dk_4 (dk_at dksX1_alikeIn_0 10 rfl rfl)
theorem dX1_alikeIn_11 : decode cX1_alikeIn 11 = .ok (.invokevirtual 50, 3) := dk_182 0 50 (dk_at dksX1_alikeIn_0 11 rfl rfl)
theorem dX1_alikeIn_14 : decode cX1_alikeIn 14 = .ok (.ireturn, 1) := dk_172 (dk_at dksX1_alikeIn_0 14 rfl rfl)
theorem dX1_alikeIn_15 : decode cX1_alikeIn 15 = .ok (.aload_n 0, 1) := dk_42 (dk_at dksX1_alikeIn_0 15 rfl rfl)
theorem dX1_alikeIn_16 : decode cX1_alikeIn 16 = .ok (.getfield 98, 3) := dk_180 0 98 (dk_at dksX1_alikeIn_0 16 rfl rfl)
theorem dX1_alikeIn_19 : decode cX1_alikeIn 19 = .ok (.getfield 142, 3) := dk_180 0 142 (dk_at dksX1_alikeIn_0 19 rfl rfl)
theorem dX1_alikeIn_22 : decode cX1_alikeIn 22 = .ok (.iload_n 1, 1) := dk_27 (dk_at dksX1_alikeIn_0 22 rfl rfl)
theorem dX1_alikeIn_23 : decode cX1_alikeIn 23 = .ok (.baload, 1) := dk_51 (dk_at dksX1_alikeIn_0 23 rfl rfl)
theorem dX1_alikeIn_24 : decode cX1_alikeIn 24 = .ok (.istore_n 3, 1) := dk_62 (dk_at dksX1_alikeIn_1 0 rfl rfl)
theorem dX1_alikeIn_25 : decode cX1_alikeIn 25 = .ok (.aload_n 0, 1) := dk_42 (dk_at dksX1_alikeIn_1 1 rfl rfl)
theorem dX1_alikeIn_26 : decode cX1_alikeIn 26 = .ok (.getfield 98, 3) := dk_180 0 98 (dk_at dksX1_alikeIn_1 2 rfl rfl)
theorem dX1_alikeIn_29 : decode cX1_alikeIn 29 = .ok (.getfield 142, 3) := dk_180 0 142 (dk_at dksX1_alikeIn_1 5 rfl rfl)
theorem dX1_alikeIn_32 : decode cX1_alikeIn 32 = .ok (.iload_n 2, 1) := dk_28 (dk_at dksX1_alikeIn_1 8 rfl rfl)
theorem dX1_alikeIn_33 : decode cX1_alikeIn 33 = .ok (.baload, 1) := dk_51 (dk_at dksX1_alikeIn_1 9 rfl rfl)
theorem dX1_alikeIn_34 : decode cX1_alikeIn 34 = .ok (.istore 4, 2) := dk_54 4 (dk_at dksX1_alikeIn_1 10 rfl rfl)
theorem dX1_alikeIn_36 : decode cX1_alikeIn 36 = .ok (.iconst 0, 1) := dk_3 (dk_at dksX1_alikeIn_1 12 rfl rfl)
theorem dX1_alikeIn_37 : decode cX1_alikeIn 37 = .ok (.istore 5, 2) := dk_54 5 (dk_at dksX1_alikeIn_1 13 rfl rfl)
theorem dX1_alikeIn_39 : decode cX1_alikeIn 39 = .ok (.iload 5, 2) := dk_21 5 (dk_at dksX1_alikeIn_1 15 rfl rfl)
theorem dX1_alikeIn_41 : decode cX1_alikeIn 41 = .ok (.bipush 60, 2) := dk_16 60 (dk_at dksX1_alikeIn_1 17 rfl rfl)
theorem dX1_alikeIn_43 : decode cX1_alikeIn 43 = .ok (.if_icmp .gt 98, 3) := dk_163 0 98 (dk_at dksX1_alikeIn_1 19 rfl rfl)
theorem dX1_alikeIn_46 : decode cX1_alikeIn 46 = .ok (.iload_n 3, 1) := dk_29 (dk_at dksX1_alikeIn_1 22 rfl rfl)
theorem dX1_alikeIn_47 : decode cX1_alikeIn 47 = .ok (.iload 4, 2) := dk_21 4 (dk_at dksX1_alikeIn_2 0 rfl rfl)
theorem dX1_alikeIn_49 : decode cX1_alikeIn 49 = .ok (.if_icmp .ne 10, 3) := dk_160 0 10 (dk_at dksX1_alikeIn_2 2 rfl rfl)
theorem dX1_alikeIn_52 : decode cX1_alikeIn 52 = .ok (.aload_n 0, 1) := dk_42 (dk_at dksX1_alikeIn_2 5 rfl rfl)
theorem dX1_alikeIn_53 : decode cX1_alikeIn 53 = .ok (.iload 5, 2) := dk_21 5 (dk_at dksX1_alikeIn_2 6 rfl rfl)
theorem dX1_alikeIn_55 : decode cX1_alikeIn 55 = .ok (.invokevirtual 54, 3) := dk_182 0 54 (dk_at dksX1_alikeIn_2 8 rfl rfl)
theorem dX1_alikeIn_58 : decode cX1_alikeIn 58 = .ok (.ireturn, 1) := dk_172 (dk_at dksX1_alikeIn_2 11 rfl rfl)
theorem dX1_alikeIn_59 : decode cX1_alikeIn 59 = .ok (.aload_n 0, 1) := dk_42 (dk_at dksX1_alikeIn_2 12 rfl rfl)
theorem dX1_alikeIn_60 : decode cX1_alikeIn 60 = .ok (.iload_n 1, 1) := dk_27 (dk_at dksX1_alikeIn_2 13 rfl rfl)
theorem dX1_alikeIn_61 : decode cX1_alikeIn 61 = .ok (.iload_n 3, 1) := dk_29 (dk_at dksX1_alikeIn_2 14 rfl rfl)
theorem dX1_alikeIn_62 : decode cX1_alikeIn 62 = .ok (.aload_n 0, 1) := dk_42 (dk_at dksX1_alikeIn_2 15 rfl rfl)
theorem dX1_alikeIn_63 : decode cX1_alikeIn 63 = .ok (.getfield 98, 3) := dk_180 0 98 (dk_at dksX1_alikeIn_2 16 rfl rfl)
theorem dX1_alikeIn_66 : decode cX1_alikeIn 66 = .ok (.getfield 152, 3) := dk_180 0 152 (dk_at dksX1_alikeIn_2 19 rfl rfl)
theorem dX1_alikeIn_69 : decode cX1_alikeIn 69 = .ok (.iload_n 1, 1) := dk_27 (dk_at dksX1_alikeIn_2 22 rfl rfl)
theorem dX1_alikeIn_70 : decode cX1_alikeIn 70 = .ok (.baload, 1) := dk_51 (dk_at dksX1_alikeIn_2 23 rfl rfl)
theorem dX1_alikeIn_71 : decode cX1_alikeIn 71 = .ok (.aload_n 0, 1) := dk_42 (dk_at dksX1_alikeIn_3 0 rfl rfl)
theorem dX1_alikeIn_72 : decode cX1_alikeIn 72 = .ok (.iload_n 1, 1) := dk_27 (dk_at dksX1_alikeIn_3 1 rfl rfl)
theorem dX1_alikeIn_73 : decode cX1_alikeIn 73 = .ok (.invokevirtual 125, 3) := dk_182 0 125 (dk_at dksX1_alikeIn_3 2 rfl rfl)
theorem dX1_alikeIn_76 : decode cX1_alikeIn 76 = .ok (.getfield 155, 3) := dk_180 0 155 (dk_at dksX1_alikeIn_3 5 rfl rfl)
theorem dX1_alikeIn_79 : decode cX1_alikeIn 79 = .ok (.aload_n 0, 1) := dk_42 (dk_at dksX1_alikeIn_3 8 rfl rfl)
theorem dX1_alikeIn_80 : decode cX1_alikeIn 80 = .ok (.getfield 98, 3) := dk_180 0 98 (dk_at dksX1_alikeIn_3 9 rfl rfl)
theorem dX1_alikeIn_83 : decode cX1_alikeIn 83 = .ok (.getfield 145, 3) := dk_180 0 145 (dk_at dksX1_alikeIn_3 12 rfl rfl)
theorem dX1_alikeIn_86 : decode cX1_alikeIn 86 = .ok (.iload 5, 2) := dk_21 5 (dk_at dksX1_alikeIn_3 15 rfl rfl)
theorem dX1_alikeIn_88 : decode cX1_alikeIn 88 = .ok (.iadd, 1) := dk_96 (dk_at dksX1_alikeIn_3 17 rfl rfl)
theorem dX1_alikeIn_89 : decode cX1_alikeIn 89 = .ok (.iconst 1, 1) := dk_4 (dk_at dksX1_alikeIn_3 18 rfl rfl)
theorem dX1_alikeIn_90 : decode cX1_alikeIn 90 = .ok (.iadd, 1) := dk_96 (dk_at dksX1_alikeIn_3 19 rfl rfl)
theorem dX1_alikeIn_91 : decode cX1_alikeIn 91 = .ok (.iconst 0, 1) := dk_3 (dk_at dksX1_alikeIn_3 20 rfl rfl)
theorem dX1_alikeIn_92 : decode cX1_alikeIn 92 = .ok (.invokevirtual 148, 3) := dk_182 0 148 (dk_at dksX1_alikeIn_3 21 rfl rfl)
theorem dX1_alikeIn_95 : decode cX1_alikeIn 95 = .ok (.istore_n 3, 1) := dk_62 (dk_at dksX1_alikeIn_4 0 rfl rfl)
theorem dX1_alikeIn_96 : decode cX1_alikeIn 96 = .ok (.aload_n 0, 1) := dk_42 (dk_at dksX1_alikeIn_4 1 rfl rfl)
theorem dX1_alikeIn_97 : decode cX1_alikeIn 97 = .ok (.iload_n 2, 1) := dk_28 (dk_at dksX1_alikeIn_4 2 rfl rfl)
theorem dX1_alikeIn_98 : decode cX1_alikeIn 98 = .ok (.iload 4, 2) := dk_21 4 (dk_at dksX1_alikeIn_4 3 rfl rfl)
theorem dX1_alikeIn_100 : decode cX1_alikeIn 100 = .ok (.aload_n 0, 1) := dk_42 (dk_at dksX1_alikeIn_4 5 rfl rfl)
theorem dX1_alikeIn_101 : decode cX1_alikeIn 101 = .ok (.getfield 98, 3) := dk_180 0 98 (dk_at dksX1_alikeIn_4 6 rfl rfl)
theorem dX1_alikeIn_104 : decode cX1_alikeIn 104 = .ok (.getfield 152, 3) := dk_180 0 152 (dk_at dksX1_alikeIn_4 9 rfl rfl)
theorem dX1_alikeIn_107 : decode cX1_alikeIn 107 = .ok (.iload_n 2, 1) := dk_28 (dk_at dksX1_alikeIn_4 12 rfl rfl)
theorem dX1_alikeIn_108 : decode cX1_alikeIn 108 = .ok (.baload, 1) := dk_51 (dk_at dksX1_alikeIn_4 13 rfl rfl)
theorem dX1_alikeIn_109 : decode cX1_alikeIn 109 = .ok (.aload_n 0, 1) := dk_42 (dk_at dksX1_alikeIn_4 14 rfl rfl)
theorem dX1_alikeIn_110 : decode cX1_alikeIn 110 = .ok (.iload_n 2, 1) := dk_28 (dk_at dksX1_alikeIn_4 15 rfl rfl)
theorem dX1_alikeIn_111 : decode cX1_alikeIn 111 = .ok (.invokevirtual 125, 3) := dk_182 0 125 (dk_at dksX1_alikeIn_4 16 rfl rfl)
theorem dX1_alikeIn_114 : decode cX1_alikeIn 114 = .ok (.getfield 155, 3) := dk_180 0 155 (dk_at dksX1_alikeIn_4 19 rfl rfl)
theorem dX1_alikeIn_117 : decode cX1_alikeIn 117 = .ok (.aload_n 0, 1) := dk_42 (dk_at dksX1_alikeIn_4 22 rfl rfl)
theorem dX1_alikeIn_118 : decode cX1_alikeIn 118 = .ok (.getfield 98, 3) := dk_180 0 98 (dk_at dksX1_alikeIn_5 0 rfl rfl)
theorem dX1_alikeIn_121 : decode cX1_alikeIn 121 = .ok (.getfield 145, 3) := dk_180 0 145 (dk_at dksX1_alikeIn_5 3 rfl rfl)
theorem dX1_alikeIn_124 : decode cX1_alikeIn 124 = .ok (.iload 5, 2) := dk_21 5 (dk_at dksX1_alikeIn_5 6 rfl rfl)
theorem dX1_alikeIn_126 : decode cX1_alikeIn 126 = .ok (.iadd, 1) := dk_96 (dk_at dksX1_alikeIn_5 8 rfl rfl)
theorem dX1_alikeIn_127 : decode cX1_alikeIn 127 = .ok (.iconst 1, 1) := dk_4 (dk_at dksX1_alikeIn_5 9 rfl rfl)
theorem dX1_alikeIn_128 : decode cX1_alikeIn 128 = .ok (.iadd, 1) := dk_96 (dk_at dksX1_alikeIn_5 10 rfl rfl)
theorem dX1_alikeIn_129 : decode cX1_alikeIn 129 = .ok (.iconst 0, 1) := dk_3 (dk_at dksX1_alikeIn_5 11 rfl rfl)
theorem dX1_alikeIn_130 : decode cX1_alikeIn 130 = .ok (.invokevirtual 148, 3) := dk_182 0 148 (dk_at dksX1_alikeIn_5 12 rfl rfl)
theorem dX1_alikeIn_133 : decode cX1_alikeIn 133 = .ok (.istore 4, 2) := dk_54 4 (dk_at dksX1_alikeIn_5 15 rfl rfl)
theorem dX1_alikeIn_135 : decode cX1_alikeIn 135 = .ok (.iinc 5 1, 3) := dk_132 5 1 (dk_at dksX1_alikeIn_5 17 rfl rfl)
theorem dX1_alikeIn_138 : decode cX1_alikeIn 138 = .ok (.goto (-99), 3) := dk_167 255 157 (dk_at dksX1_alikeIn_5 20 rfl rfl)
theorem dX1_alikeIn_141 : decode cX1_alikeIn 141 = .ok (.aload_n 0, 1) := dk_42 (dk_at dksX1_alikeIn_5 23 rfl rfl)
theorem dX1_alikeIn_142 : decode cX1_alikeIn 142 = .ok (.bipush (-2), 2) := dk_16 254 (dk_at dksX1_alikeIn_6 0 rfl rfl)
theorem dX1_alikeIn_144 : decode cX1_alikeIn 144 = .ok (.invokevirtual 54, 3) := dk_182 0 54 (dk_at dksX1_alikeIn_6 2 rfl rfl)
theorem dX1_alikeIn_147 : decode cX1_alikeIn 147 = .ok (.ireturn, 1) := dk_172 (dk_at dksX1_alikeIn_6 5 rfl rfl)
abbrev cX1_areTwo : ByteArray := prog_1_method_65_code
def yX1_areTwo : MethodName := ⟨RX1, "areTwo", "(II)Z"⟩
def dkwX1_areTwo_1 : List UInt8 := [167, 0, 4, 3, 172]
abbrev dktX1_areTwo_1 : List UInt8 := dkwX1_areTwo_1 ++ []
def dkwX1_areTwo_0 : List UInt8 := [42, 27, 182, 0, 162, 153, 0, 20, 42, 28, 182, 0, 162, 153, 0, 12, 27, 28, 159, 0, 7, 4]
abbrev dktX1_areTwo_0 : List UInt8 := dkwX1_areTwo_0 ++ dktX1_areTwo_1
theorem dksX1_areTwo_0 : cX1_areTwo.data.toList.drop 0 = dktX1_areTwo_0 := by decide +kernel
theorem dksX1_areTwo_1 : cX1_areTwo.data.toList.drop 22 = dktX1_areTwo_1 := dk_seg dksX1_areTwo_0 22 rfl rfl
theorem dX1_areTwo_0 : decode cX1_areTwo 0 = .ok (.aload_n 0, 1) := dk_42 (dk_at dksX1_areTwo_0 0 rfl rfl)
theorem dX1_areTwo_1 : decode cX1_areTwo 1 = .ok (.iload_n 1, 1) := dk_27 (dk_at dksX1_areTwo_0 1 rfl rfl)
theorem dX1_areTwo_2 : decode cX1_areTwo 2 = .ok (.invokevirtual 162, 3) := dk_182 0 162 (dk_at dksX1_areTwo_0 2 rfl rfl)
theorem dX1_areTwo_5 : decode cX1_areTwo 5 = .ok (.ifCond .eq 20, 3) := dk_153 0 20 (dk_at dksX1_areTwo_0 5 rfl rfl)
theorem dX1_areTwo_8 : decode cX1_areTwo 8 = .ok (.aload_n 0, 1) := dk_42 (dk_at dksX1_areTwo_0 8 rfl rfl)
theorem dX1_areTwo_9 : decode cX1_areTwo 9 = .ok (.iload_n 2, 1) := dk_28 (dk_at dksX1_areTwo_0 9 rfl rfl)
theorem dX1_areTwo_10 : decode cX1_areTwo 10 = .ok (.invokevirtual 162, 3) := dk_182 0 162 (dk_at dksX1_areTwo_0 10 rfl rfl)
theorem dX1_areTwo_13 : decode cX1_areTwo 13 = .ok (.ifCond .eq 12, 3) := dk_153 0 12 (dk_at dksX1_areTwo_0 13 rfl rfl)
theorem dX1_areTwo_16 : decode cX1_areTwo 16 = .ok (.iload_n 1, 1) := dk_27 (dk_at dksX1_areTwo_0 16 rfl rfl)
theorem dX1_areTwo_17 : decode cX1_areTwo 17 = .ok (.iload_n 2, 1) := dk_28 (dk_at dksX1_areTwo_0 17 rfl rfl)
theorem dX1_areTwo_18 : decode cX1_areTwo 18 = .ok (.if_icmp .eq 7, 3) := dk_159 0 7 (dk_at dksX1_areTwo_0 18 rfl rfl)
theorem dX1_areTwo_21 : decode cX1_areTwo 21 = .ok (.iconst 1, 1) := dk_4 (dk_at dksX1_areTwo_0 21 rfl rfl)
theorem dX1_areTwo_22 : decode cX1_areTwo 22 = .ok (.goto 4, 3) := dk_167 0 4 (dk_at dksX1_areTwo_1 0 rfl rfl)
theorem dX1_areTwo_25 : decode cX1_areTwo 25 = .ok (.iconst 0, 1) := dk_3 (dk_at dksX1_areTwo_1 3 rfl rfl)
theorem dX1_areTwo_26 : decode cX1_areTwo 26 = .ok (.ireturn, 1) := dk_172 (dk_at dksX1_areTwo_1 4 rfl rfl)
abbrev cX1_loudest : ByteArray := prog_1_method_40_code
def yX1_loudest : MethodName := ⟨RX1, "loudest", "(I)I"⟩
def dkwX1_loudest_3 : List UInt8 := [54, 4, 21, 5, 62, 132, 5, 1, 167, 255, 212, 42, 29, 182, 0, 54, 172]
abbrev dktX1_loudest_3 : List UInt8 := dkwX1_loudest_3 ++ []
def dkwX1_loudest_2 : List UInt8 := [27, 182, 0, 180, 42, 180, 0, 27, 27, 53, 21, 4, 163, 0, 6, 167, 0, 14, 42, 180, 0, 27, 27, 53]
abbrev dktX1_loudest_2 : List UInt8 := dkwX1_loudest_2 ++ dktX1_loudest_3
def dkwX1_loudest_1 : List UInt8 := [182, 0, 50, 172, 3, 62, 2, 54, 4, 3, 54, 5, 21, 5, 42, 182, 0, 108, 162, 0, 41, 42, 21, 5]
abbrev dktX1_loudest_1 : List UInt8 := dkwX1_loudest_1 ++ dktX1_loudest_2
def dkwX1_loudest_0 : List UInt8 := [42, 42, 180, 0, 89, 198, 0, 7, 4, 167, 0, 4, 3, 27, 182, 0, 176, 61, 28, 158, 0, 9, 42, 28]
abbrev dktX1_loudest_0 : List UInt8 := dkwX1_loudest_0 ++ dktX1_loudest_1
theorem dksX1_loudest_0 : cX1_loudest.data.toList.drop 0 = dktX1_loudest_0 := by decide +kernel
theorem dksX1_loudest_1 : cX1_loudest.data.toList.drop 24 = dktX1_loudest_1 := dk_seg dksX1_loudest_0 24 rfl rfl
theorem dksX1_loudest_2 : cX1_loudest.data.toList.drop 48 = dktX1_loudest_2 := dk_seg dksX1_loudest_1 24 rfl rfl
theorem dksX1_loudest_3 : cX1_loudest.data.toList.drop 72 = dktX1_loudest_3 := dk_seg dksX1_loudest_2 24 rfl rfl
theorem dX1_loudest_0 : decode cX1_loudest 0 = .ok (.aload_n 0, 1) := dk_42 (dk_at dksX1_loudest_0 0 rfl rfl)
theorem dX1_loudest_1 : decode cX1_loudest 1 = .ok (.aload_n 0, 1) := dk_42 (dk_at dksX1_loudest_0 1 rfl rfl)
theorem dX1_loudest_2 : decode cX1_loudest 2 = .ok (.getfield 89, 3) := dk_180 0 89 (dk_at dksX1_loudest_0 2 rfl rfl)
theorem dX1_loudest_5 : decode cX1_loudest 5 = .ok (.ifnull 7, 3) := dk_198 0 7 (dk_at dksX1_loudest_0 5 rfl rfl)
theorem dX1_loudest_8 : decode cX1_loudest 8 = .ok (.iconst 1, 1) := dk_4 (dk_at dksX1_loudest_0 8 rfl rfl)
theorem dX1_loudest_9 : decode cX1_loudest 9 = .ok (.goto 4, 3) := dk_167 0 4 (dk_at dksX1_loudest_0 9 rfl rfl)
theorem dX1_loudest_12 : decode cX1_loudest 12 = .ok (.iconst 0, 1) := dk_3 (dk_at dksX1_loudest_0 12 rfl rfl)
theorem dX1_loudest_13 : decode cX1_loudest 13 = .ok (.iload_n 1, 1) := dk_27 (dk_at dksX1_loudest_0 13 rfl rfl)
theorem dX1_loudest_14 : decode cX1_loudest 14 = .ok (.invokevirtual 176, 3) := dk_182 0 176 (dk_at dksX1_loudest_0 14 rfl rfl)
theorem dX1_loudest_17 : decode cX1_loudest 17 = .ok (.istore_n 2, 1) := dk_61 (dk_at dksX1_loudest_0 17 rfl rfl)
theorem dX1_loudest_18 : decode cX1_loudest 18 = .ok (.iload_n 2, 1) := dk_28 (dk_at dksX1_loudest_0 18 rfl rfl)
theorem dX1_loudest_19 : decode cX1_loudest 19 = .ok (.ifCond .le 9, 3) := dk_158 0 9 (dk_at dksX1_loudest_0 19 rfl rfl)
theorem dX1_loudest_22 : decode cX1_loudest 22 = .ok (.aload_n 0, 1) := dk_42 (dk_at dksX1_loudest_0 22 rfl rfl)
theorem dX1_loudest_23 : decode cX1_loudest 23 = .ok (.iload_n 2, 1) := dk_28 (dk_at dksX1_loudest_0 23 rfl rfl)
theorem dX1_loudest_24 : decode cX1_loudest 24 = .ok (.invokevirtual 50, 3) := dk_182 0 50 (dk_at dksX1_loudest_1 0 rfl rfl)
theorem dX1_loudest_27 : decode cX1_loudest 27 = .ok (.ireturn, 1) := dk_172 (dk_at dksX1_loudest_1 3 rfl rfl)
theorem dX1_loudest_28 : decode cX1_loudest 28 = .ok (.iconst 0, 1) := dk_3 (dk_at dksX1_loudest_1 4 rfl rfl)
theorem dX1_loudest_29 : decode cX1_loudest 29 = .ok (.istore_n 3, 1) := dk_62 (dk_at dksX1_loudest_1 5 rfl rfl)
theorem dX1_loudest_30 : decode cX1_loudest 30 = .ok (.iconst (-1), 1) := dk_2 (dk_at dksX1_loudest_1 6 rfl rfl)
theorem dX1_loudest_31 : decode cX1_loudest 31 = .ok (.istore 4, 2) := dk_54 4 (dk_at dksX1_loudest_1 7 rfl rfl)
theorem dX1_loudest_33 : decode cX1_loudest 33 = .ok (.iconst 0, 1) := dk_3 (dk_at dksX1_loudest_1 9 rfl rfl)
theorem dX1_loudest_34 : decode cX1_loudest 34 = .ok (.istore 5, 2) := dk_54 5 (dk_at dksX1_loudest_1 10 rfl rfl)
theorem dX1_loudest_36 : decode cX1_loudest 36 = .ok (.iload 5, 2) := dk_21 5 (dk_at dksX1_loudest_1 12 rfl rfl)
theorem dX1_loudest_38 : decode cX1_loudest 38 = .ok (.aload_n 0, 1) := dk_42 (dk_at dksX1_loudest_1 14 rfl rfl)
theorem dX1_loudest_39 : decode cX1_loudest 39 = .ok (.invokevirtual 108, 3) := dk_182 0 108 (dk_at dksX1_loudest_1 15 rfl rfl)
theorem dX1_loudest_42 : decode cX1_loudest 42 = .ok (.if_icmp .ge 41, 3) := dk_162 0 41 (dk_at dksX1_loudest_1 18 rfl rfl)
theorem dX1_loudest_45 : decode cX1_loudest 45 = .ok (.aload_n 0, 1) := dk_42 (dk_at dksX1_loudest_1 21 rfl rfl)
theorem dX1_loudest_46 : decode cX1_loudest 46 = .ok (.iload 5, 2) := dk_21 5 (dk_at dksX1_loudest_1 22 rfl rfl)
theorem dX1_loudest_48 : decode cX1_loudest 48 = .ok (.iload_n 1, 1) := dk_27 (dk_at dksX1_loudest_2 0 rfl rfl)
theorem dX1_loudest_49 : decode cX1_loudest 49 = .ok (.invokevirtual 180, 3) := dk_182 0 180 (dk_at dksX1_loudest_2 1 rfl rfl)
theorem dX1_loudest_52 : decode cX1_loudest 52 = .ok (.aload_n 0, 1) := dk_42 (dk_at dksX1_loudest_2 4 rfl rfl)
theorem dX1_loudest_53 : decode cX1_loudest 53 = .ok (.getfield 27, 3) := dk_180 0 27 (dk_at dksX1_loudest_2 5 rfl rfl)
theorem dX1_loudest_56 : decode cX1_loudest 56 = .ok (.iload_n 1, 1) := dk_27 (dk_at dksX1_loudest_2 8 rfl rfl)
theorem dX1_loudest_57 : decode cX1_loudest 57 = .ok (.saload, 1) := dk_53 (dk_at dksX1_loudest_2 9 rfl rfl)
theorem dX1_loudest_58 : decode cX1_loudest 58 = .ok (.iload 4, 2) := dk_21 4 (dk_at dksX1_loudest_2 10 rfl rfl)
theorem dX1_loudest_60 : decode cX1_loudest 60 = .ok (.if_icmp .gt 6, 3) := dk_163 0 6 (dk_at dksX1_loudest_2 12 rfl rfl)
theorem dX1_loudest_63 : decode cX1_loudest 63 = .ok (.goto 14, 3) := dk_167 0 14 (dk_at dksX1_loudest_2 15 rfl rfl)
theorem dX1_loudest_66 : decode cX1_loudest 66 = .ok (.aload_n 0, 1) := dk_42 (dk_at dksX1_loudest_2 18 rfl rfl)
theorem dX1_loudest_67 : decode cX1_loudest 67 = .ok (.getfield 27, 3) := dk_180 0 27 (dk_at dksX1_loudest_2 19 rfl rfl)
theorem dX1_loudest_70 : decode cX1_loudest 70 = .ok (.iload_n 1, 1) := dk_27 (dk_at dksX1_loudest_2 22 rfl rfl)
theorem dX1_loudest_71 : decode cX1_loudest 71 = .ok (.saload, 1) := dk_53 (dk_at dksX1_loudest_2 23 rfl rfl)
theorem dX1_loudest_72 : decode cX1_loudest 72 = .ok (.istore 4, 2) := dk_54 4 (dk_at dksX1_loudest_3 0 rfl rfl)
theorem dX1_loudest_74 : decode cX1_loudest 74 = .ok (.iload 5, 2) := dk_21 5 (dk_at dksX1_loudest_3 2 rfl rfl)
theorem dX1_loudest_76 : decode cX1_loudest 76 = .ok (.istore_n 3, 1) := dk_62 (dk_at dksX1_loudest_3 4 rfl rfl)
theorem dX1_loudest_77 : decode cX1_loudest 77 = .ok (.iinc 5 1, 3) := dk_132 5 1 (dk_at dksX1_loudest_3 5 rfl rfl)
theorem dX1_loudest_80 : decode cX1_loudest 80 = .ok (.goto (-44), 3) := dk_167 255 212 (dk_at dksX1_loudest_3 8 rfl rfl)
theorem dX1_loudest_83 : decode cX1_loudest 83 = .ok (.aload_n 0, 1) := dk_42 (dk_at dksX1_loudest_3 11 rfl rfl)
theorem dX1_loudest_84 : decode cX1_loudest 84 = .ok (.iload_n 3, 1) := dk_29 (dk_at dksX1_loudest_3 12 rfl rfl)
theorem dX1_loudest_85 : decode cX1_loudest 85 = .ok (.invokevirtual 54, 3) := dk_182 0 54 (dk_at dksX1_loudest_3 13 rfl rfl)
theorem dX1_loudest_88 : decode cX1_loudest 88 = .ok (.ireturn, 1) := dk_172 (dk_at dksX1_loudest_3 16 rfl rfl)
abbrev cX1_overtakes : ByteArray := prog_1_method_41_code
def yX1_overtakes : MethodName := ⟨RX1, "overtakes", "(II)I"⟩
def dkwX1_overtakes_6 : List UInt8 := [16, 254, 182, 0, 54, 172]
abbrev dktX1_overtakes_6 : List UInt8 := dkwX1_overtakes_6 ++ []
def dkwX1_overtakes_5 : List UInt8 := [180, 0, 98, 180, 0, 145, 21, 5, 96, 4, 96, 3, 182, 0, 148, 54, 4, 132, 5, 1, 167, 255, 157, 42]
abbrev dktX1_overtakes_5 : List UInt8 := dkwX1_overtakes_5 ++ dktX1_overtakes_6
def dkwX1_overtakes_4 : List UInt8 := [62, 42, 28, 21, 4, 42, 180, 0, 98, 180, 0, 152, 28, 51, 42, 28, 182, 0, 125, 180, 0, 155, 42]
abbrev dktX1_overtakes_4 : List UInt8 := dkwX1_overtakes_4 ++ dktX1_overtakes_5
def dkwX1_overtakes_3 : List UInt8 := [42, 27, 182, 0, 125, 180, 0, 155, 42, 180, 0, 98, 180, 0, 145, 21, 5, 96, 4, 96, 3, 182, 0, 148]
abbrev dktX1_overtakes_3 : List UInt8 := dkwX1_overtakes_3 ++ dktX1_overtakes_4
def dkwX1_overtakes_2 : List UInt8 := [21, 4, 164, 0, 10, 42, 21, 5, 182, 0, 54, 172, 42, 27, 29, 42, 180, 0, 98, 180, 0, 152, 27, 51]
abbrev dktX1_overtakes_2 : List UInt8 := dkwX1_overtakes_2 ++ dktX1_overtakes_3
def dkwX1_overtakes_1 : List UInt8 := [62, 42, 180, 0, 98, 180, 0, 142, 28, 51, 54, 4, 3, 54, 5, 21, 5, 16, 60, 163, 0, 98, 29]
abbrev dktX1_overtakes_1 : List UInt8 := dkwX1_overtakes_1 ++ dktX1_overtakes_2
def dkwX1_overtakes_0 : List UInt8 := [42, 27, 28, 182, 0, 207, 154, 0, 9, 42, 4, 182, 0, 50, 172, 42, 180, 0, 98, 180, 0, 142, 27, 51]
abbrev dktX1_overtakes_0 : List UInt8 := dkwX1_overtakes_0 ++ dktX1_overtakes_1
theorem dksX1_overtakes_0 : cX1_overtakes.data.toList.drop 0 = dktX1_overtakes_0 := by decide +kernel
theorem dksX1_overtakes_1 : cX1_overtakes.data.toList.drop 24 = dktX1_overtakes_1 := dk_seg dksX1_overtakes_0 24 rfl rfl
theorem dksX1_overtakes_2 : cX1_overtakes.data.toList.drop 47 = dktX1_overtakes_2 := dk_seg dksX1_overtakes_1 23 rfl rfl
theorem dksX1_overtakes_3 : cX1_overtakes.data.toList.drop 71 = dktX1_overtakes_3 := dk_seg dksX1_overtakes_2 24 rfl rfl
theorem dksX1_overtakes_4 : cX1_overtakes.data.toList.drop 95 = dktX1_overtakes_4 := dk_seg dksX1_overtakes_3 24 rfl rfl
theorem dksX1_overtakes_5 : cX1_overtakes.data.toList.drop 118 = dktX1_overtakes_5 := dk_seg dksX1_overtakes_4 23 rfl rfl
theorem dksX1_overtakes_6 : cX1_overtakes.data.toList.drop 142 = dktX1_overtakes_6 := dk_seg dksX1_overtakes_5 24 rfl rfl
theorem dX1_overtakes_0 : decode cX1_overtakes 0 = .ok (.aload_n 0, 1) := dk_42 (dk_at dksX1_overtakes_0 0 rfl rfl)
theorem dX1_overtakes_1 : decode cX1_overtakes 1 = .ok (.iload_n 1, 1) := dk_27 (dk_at dksX1_overtakes_0 1 rfl rfl)
theorem dX1_overtakes_2 : decode cX1_overtakes 2 = .ok (.iload_n 2, 1) := dk_28 (dk_at dksX1_overtakes_0 2 rfl rfl)
theorem dX1_overtakes_3 : decode cX1_overtakes 3 = .ok (.invokevirtual 207, 3) := dk_182 0 207 (dk_at dksX1_overtakes_0 3 rfl rfl)
theorem dX1_overtakes_6 : decode cX1_overtakes 6 = .ok (.ifCond .ne 9, 3) := dk_154 0 9 (dk_at dksX1_overtakes_0 6 rfl rfl)
theorem dX1_overtakes_9 : decode cX1_overtakes 9 = .ok (.aload_n 0, 1) := dk_42 (dk_at dksX1_overtakes_0 9 rfl rfl)
theorem dX1_overtakes_10 : decode cX1_overtakes 10 = .ok (.iconst 1, 1) := dk_4 (dk_at dksX1_overtakes_0 10 rfl rfl)
theorem dX1_overtakes_11 : decode cX1_overtakes 11 = .ok (.invokevirtual 50, 3) := dk_182 0 50 (dk_at dksX1_overtakes_0 11 rfl rfl)
theorem dX1_overtakes_14 : decode cX1_overtakes 14 = .ok (.ireturn, 1) := dk_172 (dk_at dksX1_overtakes_0 14 rfl rfl)
theorem dX1_overtakes_15 : decode cX1_overtakes 15 = .ok (.aload_n 0, 1) := dk_42 (dk_at dksX1_overtakes_0 15 rfl rfl)
theorem dX1_overtakes_16 : decode cX1_overtakes 16 = .ok (.getfield 98, 3) := dk_180 0 98 (dk_at dksX1_overtakes_0 16 rfl rfl)
theorem dX1_overtakes_19 : decode cX1_overtakes 19 = .ok (.getfield 142, 3) := dk_180 0 142 (dk_at dksX1_overtakes_0 19 rfl rfl)
theorem dX1_overtakes_22 : decode cX1_overtakes 22 = .ok (.iload_n 1, 1) := dk_27 (dk_at dksX1_overtakes_0 22 rfl rfl)
theorem dX1_overtakes_23 : decode cX1_overtakes 23 = .ok (.baload, 1) := dk_51 (dk_at dksX1_overtakes_0 23 rfl rfl)
theorem dX1_overtakes_24 : decode cX1_overtakes 24 = .ok (.istore_n 3, 1) := dk_62 (dk_at dksX1_overtakes_1 0 rfl rfl)
theorem dX1_overtakes_25 : decode cX1_overtakes 25 = .ok (.aload_n 0, 1) := dk_42 (dk_at dksX1_overtakes_1 1 rfl rfl)
theorem dX1_overtakes_26 : decode cX1_overtakes 26 = .ok (.getfield 98, 3) := dk_180 0 98 (dk_at dksX1_overtakes_1 2 rfl rfl)
theorem dX1_overtakes_29 : decode cX1_overtakes 29 = .ok (.getfield 142, 3) := dk_180 0 142 (dk_at dksX1_overtakes_1 5 rfl rfl)
theorem dX1_overtakes_32 : decode cX1_overtakes 32 = .ok (.iload_n 2, 1) := dk_28 (dk_at dksX1_overtakes_1 8 rfl rfl)
theorem dX1_overtakes_33 : decode cX1_overtakes 33 = .ok (.baload, 1) := dk_51 (dk_at dksX1_overtakes_1 9 rfl rfl)
theorem dX1_overtakes_34 : decode cX1_overtakes 34 = .ok (.istore 4, 2) := dk_54 4 (dk_at dksX1_overtakes_1 10 rfl rfl)
theorem dX1_overtakes_36 : decode cX1_overtakes 36 = .ok (.iconst 0, 1) := dk_3 (dk_at dksX1_overtakes_1 12 rfl rfl)
theorem dX1_overtakes_37 : decode cX1_overtakes 37 = .ok (.istore 5, 2) := dk_54 5 (dk_at dksX1_overtakes_1 13 rfl rfl)
theorem dX1_overtakes_39 : decode cX1_overtakes 39 = .ok (.iload 5, 2) := dk_21 5 (dk_at dksX1_overtakes_1 15 rfl rfl)
theorem dX1_overtakes_41 : decode cX1_overtakes 41 = .ok (.bipush 60, 2) := dk_16 60 (dk_at dksX1_overtakes_1 17 rfl rfl)
theorem dX1_overtakes_43 : decode cX1_overtakes 43 = .ok (.if_icmp .gt 98, 3) := dk_163 0 98 (dk_at dksX1_overtakes_1 19 rfl rfl)
theorem dX1_overtakes_46 : decode cX1_overtakes 46 = .ok (.iload_n 3, 1) := dk_29 (dk_at dksX1_overtakes_1 22 rfl rfl)
theorem dX1_overtakes_47 : decode cX1_overtakes 47 = .ok (.iload 4, 2) := dk_21 4 (dk_at dksX1_overtakes_2 0 rfl rfl)
theorem dX1_overtakes_49 : decode cX1_overtakes 49 = .ok (.if_icmp .le 10, 3) := dk_164 0 10 (dk_at dksX1_overtakes_2 2 rfl rfl)
theorem dX1_overtakes_52 : decode cX1_overtakes 52 = .ok (.aload_n 0, 1) := dk_42 (dk_at dksX1_overtakes_2 5 rfl rfl)
theorem dX1_overtakes_53 : decode cX1_overtakes 53 = .ok (.iload 5, 2) := dk_21 5 (dk_at dksX1_overtakes_2 6 rfl rfl)
theorem dX1_overtakes_55 : decode cX1_overtakes 55 = .ok (.invokevirtual 54, 3) := dk_182 0 54 (dk_at dksX1_overtakes_2 8 rfl rfl)
theorem dX1_overtakes_58 : decode cX1_overtakes 58 = .ok (.ireturn, 1) := dk_172 (dk_at dksX1_overtakes_2 11 rfl rfl)
theorem dX1_overtakes_59 : decode cX1_overtakes 59 = .ok (.aload_n 0, 1) := dk_42 (dk_at dksX1_overtakes_2 12 rfl rfl)
theorem dX1_overtakes_60 : decode cX1_overtakes 60 = .ok (.iload_n 1, 1) := dk_27 (dk_at dksX1_overtakes_2 13 rfl rfl)
theorem dX1_overtakes_61 : decode cX1_overtakes 61 = .ok (.iload_n 3, 1) := dk_29 (dk_at dksX1_overtakes_2 14 rfl rfl)
theorem dX1_overtakes_62 : decode cX1_overtakes 62 = .ok (.aload_n 0, 1) := dk_42 (dk_at dksX1_overtakes_2 15 rfl rfl)
theorem dX1_overtakes_63 : decode cX1_overtakes 63 = .ok (.getfield 98, 3) := dk_180 0 98 (dk_at dksX1_overtakes_2 16 rfl rfl)
theorem dX1_overtakes_66 : decode cX1_overtakes 66 = .ok (.getfield 152, 3) := dk_180 0 152 (dk_at dksX1_overtakes_2 19 rfl rfl)
theorem dX1_overtakes_69 : decode cX1_overtakes 69 = .ok (.iload_n 1, 1) := dk_27 (dk_at dksX1_overtakes_2 22 rfl rfl)
theorem dX1_overtakes_70 : decode cX1_overtakes 70 = .ok (.baload, 1) := dk_51 (dk_at dksX1_overtakes_2 23 rfl rfl)
theorem dX1_overtakes_71 : decode cX1_overtakes 71 = .ok (.aload_n 0, 1) := dk_42 (dk_at dksX1_overtakes_3 0 rfl rfl)
theorem dX1_overtakes_72 : decode cX1_overtakes 72 = .ok (.iload_n 1, 1) := dk_27 (dk_at dksX1_overtakes_3 1 rfl rfl)
theorem dX1_overtakes_73 : decode cX1_overtakes 73 = .ok (.invokevirtual 125, 3) := dk_182 0 125 (dk_at dksX1_overtakes_3 2 rfl rfl)
theorem dX1_overtakes_76 : decode cX1_overtakes 76 = .ok (.getfield 155, 3) := dk_180 0 155 (dk_at dksX1_overtakes_3 5 rfl rfl)
theorem dX1_overtakes_79 : decode cX1_overtakes 79 = .ok (.aload_n 0, 1) := dk_42 (dk_at dksX1_overtakes_3 8 rfl rfl)
theorem dX1_overtakes_80 : decode cX1_overtakes 80 = .ok (.getfield 98, 3) := dk_180 0 98 (dk_at dksX1_overtakes_3 9 rfl rfl)
theorem dX1_overtakes_83 : decode cX1_overtakes 83 = .ok (.getfield 145, 3) := dk_180 0 145 (dk_at dksX1_overtakes_3 12 rfl rfl)
theorem dX1_overtakes_86 : decode cX1_overtakes 86 = .ok (.iload 5, 2) := dk_21 5 (dk_at dksX1_overtakes_3 15 rfl rfl)
theorem dX1_overtakes_88 : decode cX1_overtakes 88 = .ok (.iadd, 1) := dk_96 (dk_at dksX1_overtakes_3 17 rfl rfl)
theorem dX1_overtakes_89 : decode cX1_overtakes 89 = .ok (.iconst 1, 1) := dk_4 (dk_at dksX1_overtakes_3 18 rfl rfl)
theorem dX1_overtakes_90 : decode cX1_overtakes 90 = .ok (.iadd, 1) := dk_96 (dk_at dksX1_overtakes_3 19 rfl rfl)
theorem dX1_overtakes_91 : decode cX1_overtakes 91 = .ok (.iconst 0, 1) := dk_3 (dk_at dksX1_overtakes_3 20 rfl rfl)
theorem dX1_overtakes_92 : decode cX1_overtakes 92 = .ok (.invokevirtual 148, 3) := dk_182 0 148 (dk_at dksX1_overtakes_3 21 rfl rfl)
theorem dX1_overtakes_95 : decode cX1_overtakes 95 = .ok (.istore_n 3, 1) := dk_62 (dk_at dksX1_overtakes_4 0 rfl rfl)
theorem dX1_overtakes_96 : decode cX1_overtakes 96 = .ok (.aload_n 0, 1) := dk_42 (dk_at dksX1_overtakes_4 1 rfl rfl)
theorem dX1_overtakes_97 : decode cX1_overtakes 97 = .ok (.iload_n 2, 1) := dk_28 (dk_at dksX1_overtakes_4 2 rfl rfl)
theorem dX1_overtakes_98 : decode cX1_overtakes 98 = .ok (.iload 4, 2) := dk_21 4 (dk_at dksX1_overtakes_4 3 rfl rfl)
theorem dX1_overtakes_100 : decode cX1_overtakes 100 = .ok (.aload_n 0, 1) := dk_42 (dk_at dksX1_overtakes_4 5 rfl rfl)
theorem dX1_overtakes_101 : decode cX1_overtakes 101 = .ok (.getfield 98, 3) := dk_180 0 98 (dk_at dksX1_overtakes_4 6 rfl rfl)
theorem dX1_overtakes_104 : decode cX1_overtakes 104 = .ok (.getfield 152, 3) := dk_180 0 152 (dk_at dksX1_overtakes_4 9 rfl rfl)
theorem dX1_overtakes_107 : decode cX1_overtakes 107 = .ok (.iload_n 2, 1) := dk_28 (dk_at dksX1_overtakes_4 12 rfl rfl)
theorem dX1_overtakes_108 : decode cX1_overtakes 108 = .ok (.baload, 1) := dk_51 (dk_at dksX1_overtakes_4 13 rfl rfl)
theorem dX1_overtakes_109 : decode cX1_overtakes 109 = .ok (.aload_n 0, 1) := dk_42 (dk_at dksX1_overtakes_4 14 rfl rfl)
theorem dX1_overtakes_110 : decode cX1_overtakes 110 = .ok (.iload_n 2, 1) := dk_28 (dk_at dksX1_overtakes_4 15 rfl rfl)
theorem dX1_overtakes_111 : decode cX1_overtakes 111 = .ok (.invokevirtual 125, 3) := dk_182 0 125 (dk_at dksX1_overtakes_4 16 rfl rfl)
theorem dX1_overtakes_114 : decode cX1_overtakes 114 = .ok (.getfield 155, 3) := dk_180 0 155 (dk_at dksX1_overtakes_4 19 rfl rfl)
theorem dX1_overtakes_117 : decode cX1_overtakes 117 = .ok (.aload_n 0, 1) := dk_42 (dk_at dksX1_overtakes_4 22 rfl rfl)
theorem dX1_overtakes_118 : decode cX1_overtakes 118 = .ok (.getfield 98, 3) := dk_180 0 98 (dk_at dksX1_overtakes_5 0 rfl rfl)
theorem dX1_overtakes_121 : decode cX1_overtakes 121 = .ok (.getfield 145, 3) := dk_180 0 145 (dk_at dksX1_overtakes_5 3 rfl rfl)
theorem dX1_overtakes_124 : decode cX1_overtakes 124 = .ok (.iload 5, 2) := dk_21 5 (dk_at dksX1_overtakes_5 6 rfl rfl)
theorem dX1_overtakes_126 : decode cX1_overtakes 126 = .ok (.iadd, 1) := dk_96 (dk_at dksX1_overtakes_5 8 rfl rfl)
theorem dX1_overtakes_127 : decode cX1_overtakes 127 = .ok (.iconst 1, 1) := dk_4 (dk_at dksX1_overtakes_5 9 rfl rfl)
theorem dX1_overtakes_128 : decode cX1_overtakes 128 = .ok (.iadd, 1) := dk_96 (dk_at dksX1_overtakes_5 10 rfl rfl)
theorem dX1_overtakes_129 : decode cX1_overtakes 129 = .ok (.iconst 0, 1) := dk_3 (dk_at dksX1_overtakes_5 11 rfl rfl)
theorem dX1_overtakes_130 : decode cX1_overtakes 130 = .ok (.invokevirtual 148, 3) := dk_182 0 148 (dk_at dksX1_overtakes_5 12 rfl rfl)
theorem dX1_overtakes_133 : decode cX1_overtakes 133 = .ok (.istore 4, 2) := dk_54 4 (dk_at dksX1_overtakes_5 15 rfl rfl)
theorem dX1_overtakes_135 : decode cX1_overtakes 135 = .ok (.iinc 5 1, 3) := dk_132 5 1 (dk_at dksX1_overtakes_5 17 rfl rfl)
theorem dX1_overtakes_138 : decode cX1_overtakes 138 = .ok (.goto (-99), 3) := dk_167 255 157 (dk_at dksX1_overtakes_5 20 rfl rfl)
theorem dX1_overtakes_141 : decode cX1_overtakes 141 = .ok (.aload_n 0, 1) := dk_42 (dk_at dksX1_overtakes_5 23 rfl rfl)
theorem dX1_overtakes_142 : decode cX1_overtakes 142 = .ok (.bipush (-2), 2) := dk_16 254 (dk_at dksX1_overtakes_6 0 rfl rfl)
theorem dX1_overtakes_144 : decode cX1_overtakes 144 = .ok (.invokevirtual 54, 3) := dk_182 0 54 (dk_at dksX1_overtakes_6 2 rfl rfl)
theorem dX1_overtakes_147 : decode cX1_overtakes 147 = .ok (.ireturn, 1) := dk_172 (dk_at dksX1_overtakes_6 5 rfl rfl)
abbrev cX1_widest : ByteArray := prog_1_method_43_code
def yX1_widest : MethodName := ⟨RX1, "widest", "(I)I"⟩
def dkwX1_widest_5 : List UInt8 := [182, 0, 54, 172]
abbrev dktX1_widest_5 : List UInt8 := dkwX1_widest_5 ++ []
def dkwX1_widest_4 : List UInt8 := [16, 10, 21, 5, 104, 21, 6, 96, 62, 132, 6, 1, 167, 255, 201, 132, 5, 1, 167, 255, 180, 42, 29]
abbrev dktX1_widest_4 : List UInt8 := dkwX1_widest_4 ++ dktX1_widest_5
def dkwX1_widest_3 : List UInt8 := [182, 0, 211, 100, 184, 0, 214, 54, 7, 21, 7, 21, 4, 163, 0, 6, 167, 0, 16, 21, 7, 54, 4]
abbrev dktX1_widest_3 : List UInt8 := dkwX1_widest_3 ++ dktX1_widest_4
def dkwX1_widest_2 : List UInt8 := [4, 96, 54, 6, 21, 6, 42, 182, 0, 108, 162, 0, 52, 42, 21, 5, 27, 182, 0, 211, 42, 21, 6, 27]
abbrev dktX1_widest_2 : List UInt8 := dkwX1_widest_2 ++ dktX1_widest_3
def dkwX1_widest_1 : List UInt8 := [182, 0, 50, 172, 16, 254, 62, 2, 54, 4, 3, 54, 5, 21, 5, 42, 182, 0, 108, 162, 0, 73, 21, 5]
abbrev dktX1_widest_1 : List UInt8 := dkwX1_widest_1 ++ dktX1_widest_2
def dkwX1_widest_0 : List UInt8 := [42, 42, 180, 0, 89, 198, 0, 7, 4, 167, 0, 4, 3, 27, 182, 0, 176, 61, 28, 158, 0, 9, 42, 28]
abbrev dktX1_widest_0 : List UInt8 := dkwX1_widest_0 ++ dktX1_widest_1
theorem dksX1_widest_0 : cX1_widest.data.toList.drop 0 = dktX1_widest_0 := by decide +kernel
theorem dksX1_widest_1 : cX1_widest.data.toList.drop 24 = dktX1_widest_1 := dk_seg dksX1_widest_0 24 rfl rfl
theorem dksX1_widest_2 : cX1_widest.data.toList.drop 48 = dktX1_widest_2 := dk_seg dksX1_widest_1 24 rfl rfl
theorem dksX1_widest_3 : cX1_widest.data.toList.drop 72 = dktX1_widest_3 := dk_seg dksX1_widest_2 24 rfl rfl
theorem dksX1_widest_4 : cX1_widest.data.toList.drop 95 = dktX1_widest_4 := dk_seg dksX1_widest_3 23 rfl rfl
theorem dksX1_widest_5 : cX1_widest.data.toList.drop 118 = dktX1_widest_5 := dk_seg dksX1_widest_4 23 rfl rfl
theorem dX1_widest_0 : decode cX1_widest 0 = .ok (.aload_n 0, 1) := dk_42 (dk_at dksX1_widest_0 0 rfl rfl)
theorem dX1_widest_1 : decode cX1_widest 1 = .ok (.aload_n 0, 1) := dk_42 (dk_at dksX1_widest_0 1 rfl rfl)
theorem dX1_widest_2 : decode cX1_widest 2 = .ok (.getfield 89, 3) := dk_180 0 89 (dk_at dksX1_widest_0 2 rfl rfl)
theorem dX1_widest_5 : decode cX1_widest 5 = .ok (.ifnull 7, 3) := dk_198 0 7 (dk_at dksX1_widest_0 5 rfl rfl)
theorem dX1_widest_8 : decode cX1_widest 8 = .ok (.iconst 1, 1) := dk_4 (dk_at dksX1_widest_0 8 rfl rfl)
theorem dX1_widest_9 : decode cX1_widest 9 = .ok (.goto 4, 3) := dk_167 0 4 (dk_at dksX1_widest_0 9 rfl rfl)
theorem dX1_widest_12 : decode cX1_widest 12 = .ok (.iconst 0, 1) := dk_3 (dk_at dksX1_widest_0 12 rfl rfl)
theorem dX1_widest_13 : decode cX1_widest 13 = .ok (.iload_n 1, 1) := dk_27 (dk_at dksX1_widest_0 13 rfl rfl)
theorem dX1_widest_14 : decode cX1_widest 14 = .ok (.invokevirtual 176, 3) := dk_182 0 176 (dk_at dksX1_widest_0 14 rfl rfl)
theorem dX1_widest_17 : decode cX1_widest 17 = .ok (.istore_n 2, 1) := dk_61 (dk_at dksX1_widest_0 17 rfl rfl)
theorem dX1_widest_18 : decode cX1_widest 18 = .ok (.iload_n 2, 1) := dk_28 (dk_at dksX1_widest_0 18 rfl rfl)
theorem dX1_widest_19 : decode cX1_widest 19 = .ok (.ifCond .le 9, 3) := dk_158 0 9 (dk_at dksX1_widest_0 19 rfl rfl)
theorem dX1_widest_22 : decode cX1_widest 22 = .ok (.aload_n 0, 1) := dk_42 (dk_at dksX1_widest_0 22 rfl rfl)
theorem dX1_widest_23 : decode cX1_widest 23 = .ok (.iload_n 2, 1) := dk_28 (dk_at dksX1_widest_0 23 rfl rfl)
theorem dX1_widest_24 : decode cX1_widest 24 = .ok (.invokevirtual 50, 3) := dk_182 0 50 (dk_at dksX1_widest_1 0 rfl rfl)
theorem dX1_widest_27 : decode cX1_widest 27 = .ok (.ireturn, 1) := dk_172 (dk_at dksX1_widest_1 3 rfl rfl)
theorem dX1_widest_28 : decode cX1_widest 28 = .ok (.bipush (-2), 2) := dk_16 254 (dk_at dksX1_widest_1 4 rfl rfl)
theorem dX1_widest_30 : decode cX1_widest 30 = .ok (.istore_n 3, 1) := dk_62 (dk_at dksX1_widest_1 6 rfl rfl)
theorem dX1_widest_31 : decode cX1_widest 31 = .ok (.iconst (-1), 1) := dk_2 (dk_at dksX1_widest_1 7 rfl rfl)
theorem dX1_widest_32 : decode cX1_widest 32 = .ok (.istore 4, 2) := dk_54 4 (dk_at dksX1_widest_1 8 rfl rfl)
theorem dX1_widest_34 : decode cX1_widest 34 = .ok (.iconst 0, 1) := dk_3 (dk_at dksX1_widest_1 10 rfl rfl)
theorem dX1_widest_35 : decode cX1_widest 35 = .ok (.istore 5, 2) := dk_54 5 (dk_at dksX1_widest_1 11 rfl rfl)
theorem dX1_widest_37 : decode cX1_widest 37 = .ok (.iload 5, 2) := dk_21 5 (dk_at dksX1_widest_1 13 rfl rfl)
theorem dX1_widest_39 : decode cX1_widest 39 = .ok (.aload_n 0, 1) := dk_42 (dk_at dksX1_widest_1 15 rfl rfl)
theorem dX1_widest_40 : decode cX1_widest 40 = .ok (.invokevirtual 108, 3) := dk_182 0 108 (dk_at dksX1_widest_1 16 rfl rfl)
theorem dX1_widest_43 : decode cX1_widest 43 = .ok (.if_icmp .ge 73, 3) := dk_162 0 73 (dk_at dksX1_widest_1 19 rfl rfl)
theorem dX1_widest_46 : decode cX1_widest 46 = .ok (.iload 5, 2) := dk_21 5 (dk_at dksX1_widest_1 22 rfl rfl)
theorem dX1_widest_48 : decode cX1_widest 48 = .ok (.iconst 1, 1) := dk_4 (dk_at dksX1_widest_2 0 rfl rfl)
theorem dX1_widest_49 : decode cX1_widest 49 = .ok (.iadd, 1) := dk_96 (dk_at dksX1_widest_2 1 rfl rfl)
theorem dX1_widest_50 : decode cX1_widest 50 = .ok (.istore 6, 2) := dk_54 6 (dk_at dksX1_widest_2 2 rfl rfl)
theorem dX1_widest_52 : decode cX1_widest 52 = .ok (.iload 6, 2) := dk_21 6 (dk_at dksX1_widest_2 4 rfl rfl)
theorem dX1_widest_54 : decode cX1_widest 54 = .ok (.aload_n 0, 1) := dk_42 (dk_at dksX1_widest_2 6 rfl rfl)
theorem dX1_widest_55 : decode cX1_widest 55 = .ok (.invokevirtual 108, 3) := dk_182 0 108 (dk_at dksX1_widest_2 7 rfl rfl)
theorem dX1_widest_58 : decode cX1_widest 58 = .ok (.if_icmp .ge 52, 3) := dk_162 0 52 (dk_at dksX1_widest_2 10 rfl rfl)
theorem dX1_widest_61 : decode cX1_widest 61 = .ok (.aload_n 0, 1) := dk_42 (dk_at dksX1_widest_2 13 rfl rfl)
theorem dX1_widest_62 : decode cX1_widest 62 = .ok (.iload 5, 2) := dk_21 5 (dk_at dksX1_widest_2 14 rfl rfl)
theorem dX1_widest_64 : decode cX1_widest 64 = .ok (.iload_n 1, 1) := dk_27 (dk_at dksX1_widest_2 16 rfl rfl)
theorem dX1_widest_65 : decode cX1_widest 65 = .ok (.invokevirtual 211, 3) := dk_182 0 211 (dk_at dksX1_widest_2 17 rfl rfl)
theorem dX1_widest_68 : decode cX1_widest 68 = .ok (.aload_n 0, 1) := dk_42 (dk_at dksX1_widest_2 20 rfl rfl)
theorem dX1_widest_69 : decode cX1_widest 69 = .ok (.iload 6, 2) := dk_21 6 (dk_at dksX1_widest_2 21 rfl rfl)
theorem dX1_widest_71 : decode cX1_widest 71 = .ok (.iload_n 1, 1) := dk_27 (dk_at dksX1_widest_2 23 rfl rfl)
theorem dX1_widest_72 : decode cX1_widest 72 = .ok (.invokevirtual 211, 3) := dk_182 0 211 (dk_at dksX1_widest_3 0 rfl rfl)
theorem dX1_widest_75 : decode cX1_widest 75 = .ok (.isub, 1) := dk_100 (dk_at dksX1_widest_3 3 rfl rfl)
theorem dX1_widest_76 : decode cX1_widest 76 = .ok (.invokestatic 214, 3) := dk_184 0 214 (dk_at dksX1_widest_3 4 rfl rfl)
theorem dX1_widest_79 : decode cX1_widest 79 = .ok (.istore 7, 2) := dk_54 7 (dk_at dksX1_widest_3 7 rfl rfl)
theorem dX1_widest_81 : decode cX1_widest 81 = .ok (.iload 7, 2) := dk_21 7 (dk_at dksX1_widest_3 9 rfl rfl)
theorem dX1_widest_83 : decode cX1_widest 83 = .ok (.iload 4, 2) := dk_21 4 (dk_at dksX1_widest_3 11 rfl rfl)
theorem dX1_widest_85 : decode cX1_widest 85 = .ok (.if_icmp .gt 6, 3) := dk_163 0 6 (dk_at dksX1_widest_3 13 rfl rfl)
theorem dX1_widest_88 : decode cX1_widest 88 = .ok (.goto 16, 3) := dk_167 0 16 (dk_at dksX1_widest_3 16 rfl rfl)
theorem dX1_widest_91 : decode cX1_widest 91 = .ok (.iload 7, 2) := dk_21 7 (dk_at dksX1_widest_3 19 rfl rfl)
theorem dX1_widest_93 : decode cX1_widest 93 = .ok (.istore 4, 2) := dk_54 4 (dk_at dksX1_widest_3 21 rfl rfl)
theorem dX1_widest_95 : decode cX1_widest 95 = .ok (.bipush 10, 2) := dk_16 10 (dk_at dksX1_widest_4 0 rfl rfl)
theorem dX1_widest_97 : decode cX1_widest 97 = .ok (.iload 5, 2) := dk_21 5 (dk_at dksX1_widest_4 2 rfl rfl)
theorem dX1_widest_99 : decode cX1_widest 99 = .ok (.imul, 1) := dk_104 (dk_at dksX1_widest_4 4 rfl rfl)
theorem dX1_widest_100 : decode cX1_widest 100 = .ok (.iload 6, 2) := dk_21 6 (dk_at dksX1_widest_4 5 rfl rfl)
theorem dX1_widest_102 : decode cX1_widest 102 = .ok (.iadd, 1) := dk_96 (dk_at dksX1_widest_4 7 rfl rfl)
theorem dX1_widest_103 : decode cX1_widest 103 = .ok (.istore_n 3, 1) := dk_62 (dk_at dksX1_widest_4 8 rfl rfl)
theorem dX1_widest_104 : decode cX1_widest 104 = .ok (.iinc 6 1, 3) := dk_132 6 1 (dk_at dksX1_widest_4 9 rfl rfl)
theorem dX1_widest_107 : decode cX1_widest 107 = .ok (.goto (-55), 3) := dk_167 255 201 (dk_at dksX1_widest_4 12 rfl rfl)
theorem dX1_widest_110 : decode cX1_widest 110 = .ok (.iinc 5 1, 3) := dk_132 5 1 (dk_at dksX1_widest_4 15 rfl rfl)
theorem dX1_widest_113 : decode cX1_widest 113 = .ok (.goto (-76), 3) := dk_167 255 180 (dk_at dksX1_widest_4 18 rfl rfl)
theorem dX1_widest_116 : decode cX1_widest 116 = .ok (.aload_n 0, 1) := dk_42 (dk_at dksX1_widest_4 21 rfl rfl)
theorem dX1_widest_117 : decode cX1_widest 117 = .ok (.iload_n 3, 1) := dk_29 (dk_at dksX1_widest_4 22 rfl rfl)
theorem dX1_widest_118 : decode cX1_widest 118 = .ok (.invokevirtual 54, 3) := dk_182 0 54 (dk_at dksX1_widest_5 0 rfl rfl)
theorem dX1_widest_121 : decode cX1_widest 121 = .ok (.ireturn, 1) := dk_172 (dk_at dksX1_widest_5 3 rfl rfl)
abbrev cX1_saidIn : ByteArray := prog_1_method_42_code
def yX1_saidIn : MethodName := ⟨RX1, "saidIn", "(II)I"⟩
def dkwX1_saidIn_0 : List UInt8 := [42, 27, 28, 182, 0, 180, 42, 180, 0, 27, 28, 53, 172]
abbrev dktX1_saidIn_0 : List UInt8 := dkwX1_saidIn_0 ++ []
theorem dksX1_saidIn_0 : cX1_saidIn.data.toList.drop 0 = dktX1_saidIn_0 := by decide +kernel
theorem dX1_saidIn_0 : decode cX1_saidIn 0 = .ok (.aload_n 0, 1) := dk_42 (dk_at dksX1_saidIn_0 0 rfl rfl)
theorem dX1_saidIn_1 : decode cX1_saidIn 1 = .ok (.iload_n 1, 1) := dk_27 (dk_at dksX1_saidIn_0 1 rfl rfl)
theorem dX1_saidIn_2 : decode cX1_saidIn 2 = .ok (.iload_n 2, 1) := dk_28 (dk_at dksX1_saidIn_0 2 rfl rfl)
theorem dX1_saidIn_3 : decode cX1_saidIn 3 = .ok (.invokevirtual 180, 3) := dk_182 0 180 (dk_at dksX1_saidIn_0 3 rfl rfl)
theorem dX1_saidIn_6 : decode cX1_saidIn 6 = .ok (.aload_n 0, 1) := dk_42 (dk_at dksX1_saidIn_0 6 rfl rfl)
theorem dX1_saidIn_7 : decode cX1_saidIn 7 = .ok (.getfield 27, 3) := dk_180 0 27 (dk_at dksX1_saidIn_0 7 rfl rfl)
theorem dX1_saidIn_10 : decode cX1_saidIn 10 = .ok (.iload_n 2, 1) := dk_28 (dk_at dksX1_saidIn_0 10 rfl rfl)
theorem dX1_saidIn_11 : decode cX1_saidIn 11 = .ok (.saload, 1) := dk_53 (dk_at dksX1_saidIn_0 11 rfl rfl)
theorem dX1_saidIn_12 : decode cX1_saidIn 12 = .ok (.ireturn, 1) := dk_172 (dk_at dksX1_saidIn_0 12 rfl rfl)
abbrev cX1_sumAll : ByteArray := prog_1_method_44_code
def yX1_sumAll : MethodName := ⟨RX1, "sumAll", "(I)I"⟩
def dkwX1_sumAll_2 : List UInt8 := [182, 0, 211, 96, 62, 132, 4, 1, 167, 255, 234, 42, 29, 182, 0, 54, 172]
abbrev dktX1_sumAll_2 : List UInt8 := dkwX1_sumAll_2 ++ []
def dkwX1_sumAll_1 : List UInt8 := [182, 0, 50, 172, 3, 62, 3, 54, 4, 21, 4, 42, 182, 0, 108, 162, 0, 19, 29, 42, 21, 4, 27]
abbrev dktX1_sumAll_1 : List UInt8 := dkwX1_sumAll_1 ++ dktX1_sumAll_2
def dkwX1_sumAll_0 : List UInt8 := [42, 42, 180, 0, 89, 198, 0, 7, 4, 167, 0, 4, 3, 27, 182, 0, 176, 61, 28, 158, 0, 9, 42, 28]
abbrev dktX1_sumAll_0 : List UInt8 := dkwX1_sumAll_0 ++ dktX1_sumAll_1
theorem dksX1_sumAll_0 : cX1_sumAll.data.toList.drop 0 = dktX1_sumAll_0 := by decide +kernel
theorem dksX1_sumAll_1 : cX1_sumAll.data.toList.drop 24 = dktX1_sumAll_1 := dk_seg dksX1_sumAll_0 24 rfl rfl
theorem dksX1_sumAll_2 : cX1_sumAll.data.toList.drop 47 = dktX1_sumAll_2 := dk_seg dksX1_sumAll_1 23 rfl rfl
theorem dX1_sumAll_0 : decode cX1_sumAll 0 = .ok (.aload_n 0, 1) := dk_42 (dk_at dksX1_sumAll_0 0 rfl rfl)
theorem dX1_sumAll_1 : decode cX1_sumAll 1 = .ok (.aload_n 0, 1) := dk_42 (dk_at dksX1_sumAll_0 1 rfl rfl)
theorem dX1_sumAll_2 : decode cX1_sumAll 2 = .ok (.getfield 89, 3) := dk_180 0 89 (dk_at dksX1_sumAll_0 2 rfl rfl)
theorem dX1_sumAll_5 : decode cX1_sumAll 5 = .ok (.ifnull 7, 3) := dk_198 0 7 (dk_at dksX1_sumAll_0 5 rfl rfl)
theorem dX1_sumAll_8 : decode cX1_sumAll 8 = .ok (.iconst 1, 1) := dk_4 (dk_at dksX1_sumAll_0 8 rfl rfl)
theorem dX1_sumAll_9 : decode cX1_sumAll 9 = .ok (.goto 4, 3) := dk_167 0 4 (dk_at dksX1_sumAll_0 9 rfl rfl)
theorem dX1_sumAll_12 : decode cX1_sumAll 12 = .ok (.iconst 0, 1) := dk_3 (dk_at dksX1_sumAll_0 12 rfl rfl)
theorem dX1_sumAll_13 : decode cX1_sumAll 13 = .ok (.iload_n 1, 1) := dk_27 (dk_at dksX1_sumAll_0 13 rfl rfl)
theorem dX1_sumAll_14 : decode cX1_sumAll 14 = .ok (.invokevirtual 176, 3) := dk_182 0 176 (dk_at dksX1_sumAll_0 14 rfl rfl)
theorem dX1_sumAll_17 : decode cX1_sumAll 17 = .ok (.istore_n 2, 1) := dk_61 (dk_at dksX1_sumAll_0 17 rfl rfl)
theorem dX1_sumAll_18 : decode cX1_sumAll 18 = .ok (.iload_n 2, 1) := dk_28 (dk_at dksX1_sumAll_0 18 rfl rfl)
theorem dX1_sumAll_19 : decode cX1_sumAll 19 = .ok (.ifCond .le 9, 3) := dk_158 0 9 (dk_at dksX1_sumAll_0 19 rfl rfl)
theorem dX1_sumAll_22 : decode cX1_sumAll 22 = .ok (.aload_n 0, 1) := dk_42 (dk_at dksX1_sumAll_0 22 rfl rfl)
theorem dX1_sumAll_23 : decode cX1_sumAll 23 = .ok (.iload_n 2, 1) := dk_28 (dk_at dksX1_sumAll_0 23 rfl rfl)
theorem dX1_sumAll_24 : decode cX1_sumAll 24 = .ok (.invokevirtual 50, 3) := dk_182 0 50 (dk_at dksX1_sumAll_1 0 rfl rfl)
theorem dX1_sumAll_27 : decode cX1_sumAll 27 = .ok (.ireturn, 1) := dk_172 (dk_at dksX1_sumAll_1 3 rfl rfl)
theorem dX1_sumAll_28 : decode cX1_sumAll 28 = .ok (.iconst 0, 1) := dk_3 (dk_at dksX1_sumAll_1 4 rfl rfl)
theorem dX1_sumAll_29 : decode cX1_sumAll 29 = .ok (.istore_n 3, 1) := dk_62 (dk_at dksX1_sumAll_1 5 rfl rfl)
theorem dX1_sumAll_30 : decode cX1_sumAll 30 = .ok (.iconst 0, 1) := dk_3 (dk_at dksX1_sumAll_1 6 rfl rfl)
theorem dX1_sumAll_31 : decode cX1_sumAll 31 = .ok (.istore 4, 2) := dk_54 4 (dk_at dksX1_sumAll_1 7 rfl rfl)
theorem dX1_sumAll_33 : decode cX1_sumAll 33 = .ok (.iload 4, 2) := dk_21 4 (dk_at dksX1_sumAll_1 9 rfl rfl)
theorem dX1_sumAll_35 : decode cX1_sumAll 35 = .ok (.aload_n 0, 1) := dk_42 (dk_at dksX1_sumAll_1 11 rfl rfl)
theorem dX1_sumAll_36 : decode cX1_sumAll 36 = .ok (.invokevirtual 108, 3) := dk_182 0 108 (dk_at dksX1_sumAll_1 12 rfl rfl)
theorem dX1_sumAll_39 : decode cX1_sumAll 39 = .ok (.if_icmp .ge 19, 3) := dk_162 0 19 (dk_at dksX1_sumAll_1 15 rfl rfl)
theorem dX1_sumAll_42 : decode cX1_sumAll 42 = .ok (.iload_n 3, 1) := dk_29 (dk_at dksX1_sumAll_1 18 rfl rfl)
theorem dX1_sumAll_43 : decode cX1_sumAll 43 = .ok (.aload_n 0, 1) := dk_42 (dk_at dksX1_sumAll_1 19 rfl rfl)
theorem dX1_sumAll_44 : decode cX1_sumAll 44 = .ok (.iload 4, 2) := dk_21 4 (dk_at dksX1_sumAll_1 20 rfl rfl)
theorem dX1_sumAll_46 : decode cX1_sumAll 46 = .ok (.iload_n 1, 1) := dk_27 (dk_at dksX1_sumAll_1 22 rfl rfl)
theorem dX1_sumAll_47 : decode cX1_sumAll 47 = .ok (.invokevirtual 211, 3) := dk_182 0 211 (dk_at dksX1_sumAll_2 0 rfl rfl)
theorem dX1_sumAll_50 : decode cX1_sumAll 50 = .ok (.iadd, 1) := dk_96 (dk_at dksX1_sumAll_2 3 rfl rfl)
theorem dX1_sumAll_51 : decode cX1_sumAll 51 = .ok (.istore_n 3, 1) := dk_62 (dk_at dksX1_sumAll_2 4 rfl rfl)
theorem dX1_sumAll_52 : decode cX1_sumAll 52 = .ok (.iinc 4 1, 3) := dk_132 4 1 (dk_at dksX1_sumAll_2 5 rfl rfl)
theorem dX1_sumAll_55 : decode cX1_sumAll 55 = .ok (.goto (-22), 3) := dk_167 255 234 (dk_at dksX1_sumAll_2 8 rfl rfl)
theorem dX1_sumAll_58 : decode cX1_sumAll 58 = .ok (.aload_n 0, 1) := dk_42 (dk_at dksX1_sumAll_2 11 rfl rfl)
theorem dX1_sumAll_59 : decode cX1_sumAll 59 = .ok (.iload_n 3, 1) := dk_29 (dk_at dksX1_sumAll_2 12 rfl rfl)
theorem dX1_sumAll_60 : decode cX1_sumAll 60 = .ok (.invokevirtual 54, 3) := dk_182 0 54 (dk_at dksX1_sumAll_2 13 rfl rfl)
theorem dX1_sumAll_63 : decode cX1_sumAll 63 = .ok (.ireturn, 1) := dk_172 (dk_at dksX1_sumAll_2 16 rfl rfl)
abbrev cX1_masters : ByteArray := prog_1_method_46_code
def yX1_masters : MethodName := ⟨RX1, "masters", "(I)I"⟩
def dkwX1_masters_1 : List UInt8 := [182, 0, 50, 167, 0, 12, 42, 42, 27, 182, 0, 217, 182, 0, 54, 172]
abbrev dktX1_masters_1 : List UInt8 := dkwX1_masters_1 ++ []
def dkwX1_masters_0 : List UInt8 := [42, 42, 180, 0, 89, 198, 0, 7, 4, 167, 0, 4, 3, 27, 182, 0, 176, 61, 28, 158, 0, 11, 42, 28]
abbrev dktX1_masters_0 : List UInt8 := dkwX1_masters_0 ++ dktX1_masters_1
theorem dksX1_masters_0 : cX1_masters.data.toList.drop 0 = dktX1_masters_0 := by decide +kernel
theorem dksX1_masters_1 : cX1_masters.data.toList.drop 24 = dktX1_masters_1 := dk_seg dksX1_masters_0 24 rfl rfl
theorem dX1_masters_0 : decode cX1_masters 0 = .ok (.aload_n 0, 1) := dk_42 (dk_at dksX1_masters_0 0 rfl rfl)
theorem dX1_masters_1 : decode cX1_masters 1 = .ok (.aload_n 0, 1) := dk_42 (dk_at dksX1_masters_0 1 rfl rfl)
theorem dX1_masters_2 : decode cX1_masters 2 = .ok (.getfield 89, 3) := dk_180 0 89 (dk_at dksX1_masters_0 2 rfl rfl)
theorem dX1_masters_5 : decode cX1_masters 5 = .ok (.ifnull 7, 3) := dk_198 0 7 (dk_at dksX1_masters_0 5 rfl rfl)
theorem dX1_masters_8 : decode cX1_masters 8 = .ok (.iconst 1, 1) := dk_4 (dk_at dksX1_masters_0 8 rfl rfl)
theorem dX1_masters_9 : decode cX1_masters 9 = .ok (.goto 4, 3) := dk_167 0 4 (dk_at dksX1_masters_0 9 rfl rfl)
theorem dX1_masters_12 : decode cX1_masters 12 = .ok (.iconst 0, 1) := dk_3 (dk_at dksX1_masters_0 12 rfl rfl)
theorem dX1_masters_13 : decode cX1_masters 13 = .ok (.iload_n 1, 1) := dk_27 (dk_at dksX1_masters_0 13 rfl rfl)
theorem dX1_masters_14 : decode cX1_masters 14 = .ok (.invokevirtual 176, 3) := dk_182 0 176 (dk_at dksX1_masters_0 14 rfl rfl)
theorem dX1_masters_17 : decode cX1_masters 17 = .ok (.istore_n 2, 1) := dk_61 (dk_at dksX1_masters_0 17 rfl rfl)
theorem dX1_masters_18 : decode cX1_masters 18 = .ok (.iload_n 2, 1) := dk_28 (dk_at dksX1_masters_0 18 rfl rfl)
theorem dX1_masters_19 : decode cX1_masters 19 = .ok (.ifCond .le 11, 3) := dk_158 0 11 (dk_at dksX1_masters_0 19 rfl rfl)
theorem dX1_masters_22 : decode cX1_masters 22 = .ok (.aload_n 0, 1) := dk_42 (dk_at dksX1_masters_0 22 rfl rfl)
theorem dX1_masters_23 : decode cX1_masters 23 = .ok (.iload_n 2, 1) := dk_28 (dk_at dksX1_masters_0 23 rfl rfl)
theorem dX1_masters_24 : decode cX1_masters 24 = .ok (.invokevirtual 50, 3) := dk_182 0 50 (dk_at dksX1_masters_1 0 rfl rfl)
theorem dX1_masters_27 : decode cX1_masters 27 = .ok (.goto 12, 3) := dk_167 0 12 (dk_at dksX1_masters_1 3 rfl rfl)
theorem dX1_masters_30 : decode cX1_masters 30 = .ok (.aload_n 0, 1) := dk_42 (dk_at dksX1_masters_1 6 rfl rfl)
theorem dX1_masters_31 : decode cX1_masters 31 = .ok (.aload_n 0, 1) := dk_42 (dk_at dksX1_masters_1 7 rfl rfl)
theorem dX1_masters_32 : decode cX1_masters 32 = .ok (.iload_n 1, 1) := dk_27 (dk_at dksX1_masters_1 8 rfl rfl)
theorem dX1_masters_33 : decode cX1_masters 33 = .ok (.invokevirtual 217, 3) := dk_182 0 217 (dk_at dksX1_masters_1 9 rfl rfl)
theorem dX1_masters_36 : decode cX1_masters 36 = .ok (.invokevirtual 54, 3) := dk_182 0 54 (dk_at dksX1_masters_1 12 rfl rfl)
theorem dX1_masters_39 : decode cX1_masters 39 = .ok (.ireturn, 1) := dk_172 (dk_at dksX1_masters_1 15 rfl rfl)
abbrev cX1_mastersIn : ByteArray := prog_1_method_45_code
def yX1_mastersIn : MethodName := ⟨RX1, "mastersIn", "(I)I"⟩
def dkwX1_mastersIn_2 : List UInt8 := [172]
abbrev dktX1_mastersIn_2 : List UInt8 := dkwX1_mastersIn_2 ++ []
def dkwX1_mastersIn_1 : List UInt8 := [27, 53, 182, 0, 169, 153, 0, 9, 4, 29, 120, 167, 0, 4, 3, 128, 61, 132, 3, 1, 167, 255, 216, 28]
abbrev dktX1_mastersIn_1 : List UInt8 := dkwX1_mastersIn_1 ++ dktX1_mastersIn_2
def dkwX1_mastersIn_0 : List UInt8 := [3, 61, 3, 62, 29, 42, 182, 0, 108, 162, 0, 38, 42, 29, 27, 182, 0, 180, 28, 42, 42, 180, 0, 27]
abbrev dktX1_mastersIn_0 : List UInt8 := dkwX1_mastersIn_0 ++ dktX1_mastersIn_1
theorem dksX1_mastersIn_0 : cX1_mastersIn.data.toList.drop 0 = dktX1_mastersIn_0 := by decide +kernel
theorem dksX1_mastersIn_1 : cX1_mastersIn.data.toList.drop 24 = dktX1_mastersIn_1 := dk_seg dksX1_mastersIn_0 24 rfl rfl
theorem dksX1_mastersIn_2 : cX1_mastersIn.data.toList.drop 48 = dktX1_mastersIn_2 := dk_seg dksX1_mastersIn_1 24 rfl rfl
theorem dX1_mastersIn_0 : decode cX1_mastersIn 0 = .ok (.iconst 0, 1) := dk_3 (dk_at dksX1_mastersIn_0 0 rfl rfl)
theorem dX1_mastersIn_1 : decode cX1_mastersIn 1 = .ok (.istore_n 2, 1) := dk_61 (dk_at dksX1_mastersIn_0 1 rfl rfl)
theorem dX1_mastersIn_2 : decode cX1_mastersIn 2 = .ok (.iconst 0, 1) := dk_3 (dk_at dksX1_mastersIn_0 2 rfl rfl)
theorem dX1_mastersIn_3 : decode cX1_mastersIn 3 = .ok (.istore_n 3, 1) := dk_62 (dk_at dksX1_mastersIn_0 3 rfl rfl)
theorem dX1_mastersIn_4 : decode cX1_mastersIn 4 = .ok (.iload_n 3, 1) := dk_29 (dk_at dksX1_mastersIn_0 4 rfl rfl)
theorem dX1_mastersIn_5 : decode cX1_mastersIn 5 = .ok (.aload_n 0, 1) := dk_42 (dk_at dksX1_mastersIn_0 5 rfl rfl)
theorem dX1_mastersIn_6 : decode cX1_mastersIn 6 = .ok (.invokevirtual 108, 3) := dk_182 0 108 (dk_at dksX1_mastersIn_0 6 rfl rfl)
theorem dX1_mastersIn_9 : decode cX1_mastersIn 9 = .ok (.if_icmp .ge 38, 3) := dk_162 0 38 (dk_at dksX1_mastersIn_0 9 rfl rfl)
theorem dX1_mastersIn_12 : decode cX1_mastersIn 12 = .ok (.aload_n 0, 1) := dk_42 (dk_at dksX1_mastersIn_0 12 rfl rfl)
theorem dX1_mastersIn_13 : decode cX1_mastersIn 13 = .ok (.iload_n 3, 1) := dk_29 (dk_at dksX1_mastersIn_0 13 rfl rfl)
theorem dX1_mastersIn_14 : decode cX1_mastersIn 14 = .ok (.iload_n 1, 1) := dk_27 (dk_at dksX1_mastersIn_0 14 rfl rfl)
theorem dX1_mastersIn_15 : decode cX1_mastersIn 15 = .ok (.invokevirtual 180, 3) := dk_182 0 180 (dk_at dksX1_mastersIn_0 15 rfl rfl)
theorem dX1_mastersIn_18 : decode cX1_mastersIn 18 = .ok (.iload_n 2, 1) := dk_28 (dk_at dksX1_mastersIn_0 18 rfl rfl)
theorem dX1_mastersIn_19 : decode cX1_mastersIn 19 = .ok (.aload_n 0, 1) := dk_42 (dk_at dksX1_mastersIn_0 19 rfl rfl)
theorem dX1_mastersIn_20 : decode cX1_mastersIn 20 = .ok (.aload_n 0, 1) := dk_42 (dk_at dksX1_mastersIn_0 20 rfl rfl)
theorem dX1_mastersIn_21 : decode cX1_mastersIn 21 = .ok (.getfield 27, 3) := dk_180 0 27 (dk_at dksX1_mastersIn_0 21 rfl rfl)
theorem dX1_mastersIn_24 : decode cX1_mastersIn 24 = .ok (.iload_n 1, 1) := dk_27 (dk_at dksX1_mastersIn_1 0 rfl rfl)
theorem dX1_mastersIn_25 : decode cX1_mastersIn 25 = .ok (.saload, 1) := dk_53 (dk_at dksX1_mastersIn_1 1 rfl rfl)
theorem dX1_mastersIn_26 : decode cX1_mastersIn 26 = .ok (.invokevirtual 169, 3) := dk_182 0 169 (dk_at dksX1_mastersIn_1 2 rfl rfl)
theorem dX1_mastersIn_29 : decode cX1_mastersIn 29 = .ok (.ifCond .eq 9, 3) := dk_153 0 9 (dk_at dksX1_mastersIn_1 5 rfl rfl)
theorem dX1_mastersIn_32 : decode cX1_mastersIn 32 = .ok (.iconst 1, 1) := dk_4 (dk_at dksX1_mastersIn_1 8 rfl rfl)
theorem dX1_mastersIn_33 : decode cX1_mastersIn 33 = .ok (.iload_n 3, 1) := dk_29 (dk_at dksX1_mastersIn_1 9 rfl rfl)
theorem dX1_mastersIn_34 : decode cX1_mastersIn 34 = .ok (.ishl, 1) := dk_120 (dk_at dksX1_mastersIn_1 10 rfl rfl)
theorem dX1_mastersIn_35 : decode cX1_mastersIn 35 = .ok (.goto 4, 3) := dk_167 0 4 (dk_at dksX1_mastersIn_1 11 rfl rfl)
theorem dX1_mastersIn_38 : decode cX1_mastersIn 38 = .ok (.iconst 0, 1) := dk_3 (dk_at dksX1_mastersIn_1 14 rfl rfl)
theorem dX1_mastersIn_39 : decode cX1_mastersIn 39 = .ok (.ior, 1) := dk_128 (dk_at dksX1_mastersIn_1 15 rfl rfl)
theorem dX1_mastersIn_40 : decode cX1_mastersIn 40 = .ok (.istore_n 2, 1) := dk_61 (dk_at dksX1_mastersIn_1 16 rfl rfl)
theorem dX1_mastersIn_41 : decode cX1_mastersIn 41 = .ok (.iinc 3 1, 3) := dk_132 3 1 (dk_at dksX1_mastersIn_1 17 rfl rfl)
theorem dX1_mastersIn_44 : decode cX1_mastersIn 44 = .ok (.goto (-40), 3) := dk_167 255 216 (dk_at dksX1_mastersIn_1 20 rfl rfl)
theorem dX1_mastersIn_47 : decode cX1_mastersIn 47 = .ok (.iload_n 2, 1) := dk_28 (dk_at dksX1_mastersIn_1 23 rfl rfl)
theorem dX1_mastersIn_48 : decode cX1_mastersIn 48 = .ok (.ireturn, 1) := dk_172 (dk_at dksX1_mastersIn_2 0 rfl rfl)
abbrev cX1_everyFor : ByteArray := prog_1_method_48_code
def yX1_everyFor : MethodName := ⟨RX1, "everyFor", "(II)I"⟩
def dkwX1_everyFor_1 : List UInt8 := [42, 27, 28, 182, 0, 223, 182, 0, 54, 172]
abbrev dktX1_everyFor_1 : List UInt8 := dkwX1_everyFor_1 ++ []
def dkwX1_everyFor_0 : List UInt8 := [42, 42, 27, 182, 0, 162, 28, 182, 0, 176, 62, 29, 158, 0, 11, 42, 29, 182, 0, 50, 167, 0, 13, 42]
abbrev dktX1_everyFor_0 : List UInt8 := dkwX1_everyFor_0 ++ dktX1_everyFor_1
theorem dksX1_everyFor_0 : cX1_everyFor.data.toList.drop 0 = dktX1_everyFor_0 := by decide +kernel
theorem dksX1_everyFor_1 : cX1_everyFor.data.toList.drop 24 = dktX1_everyFor_1 := dk_seg dksX1_everyFor_0 24 rfl rfl
theorem dX1_everyFor_0 : decode cX1_everyFor 0 = .ok (.aload_n 0, 1) := dk_42 (dk_at dksX1_everyFor_0 0 rfl rfl)
theorem dX1_everyFor_1 : decode cX1_everyFor 1 = .ok (.aload_n 0, 1) := dk_42 (dk_at dksX1_everyFor_0 1 rfl rfl)
theorem dX1_everyFor_2 : decode cX1_everyFor 2 = .ok (.iload_n 1, 1) := dk_27 (dk_at dksX1_everyFor_0 2 rfl rfl)
theorem dX1_everyFor_3 : decode cX1_everyFor 3 = .ok (.invokevirtual 162, 3) := dk_182 0 162 (dk_at dksX1_everyFor_0 3 rfl rfl)
theorem dX1_everyFor_6 : decode cX1_everyFor 6 = .ok (.iload_n 2, 1) := dk_28 (dk_at dksX1_everyFor_0 6 rfl rfl)
theorem dX1_everyFor_7 : decode cX1_everyFor 7 = .ok (.invokevirtual 176, 3) := dk_182 0 176 (dk_at dksX1_everyFor_0 7 rfl rfl)
theorem dX1_everyFor_10 : decode cX1_everyFor 10 = .ok (.istore_n 3, 1) := dk_62 (dk_at dksX1_everyFor_0 10 rfl rfl)
theorem dX1_everyFor_11 : decode cX1_everyFor 11 = .ok (.iload_n 3, 1) := dk_29 (dk_at dksX1_everyFor_0 11 rfl rfl)
theorem dX1_everyFor_12 : decode cX1_everyFor 12 = .ok (.ifCond .le 11, 3) := dk_158 0 11 (dk_at dksX1_everyFor_0 12 rfl rfl)
theorem dX1_everyFor_15 : decode cX1_everyFor 15 = .ok (.aload_n 0, 1) := dk_42 (dk_at dksX1_everyFor_0 15 rfl rfl)
theorem dX1_everyFor_16 : decode cX1_everyFor 16 = .ok (.iload_n 3, 1) := dk_29 (dk_at dksX1_everyFor_0 16 rfl rfl)
theorem dX1_everyFor_17 : decode cX1_everyFor 17 = .ok (.invokevirtual 50, 3) := dk_182 0 50 (dk_at dksX1_everyFor_0 17 rfl rfl)
theorem dX1_everyFor_20 : decode cX1_everyFor 20 = .ok (.goto 13, 3) := dk_167 0 13 (dk_at dksX1_everyFor_0 20 rfl rfl)
theorem dX1_everyFor_23 : decode cX1_everyFor 23 = .ok (.aload_n 0, 1) := dk_42 (dk_at dksX1_everyFor_0 23 rfl rfl)
theorem dX1_everyFor_24 : decode cX1_everyFor 24 = .ok (.aload_n 0, 1) := dk_42 (dk_at dksX1_everyFor_1 0 rfl rfl)
theorem dX1_everyFor_25 : decode cX1_everyFor 25 = .ok (.iload_n 1, 1) := dk_27 (dk_at dksX1_everyFor_1 1 rfl rfl)
theorem dX1_everyFor_26 : decode cX1_everyFor 26 = .ok (.iload_n 2, 1) := dk_28 (dk_at dksX1_everyFor_1 2 rfl rfl)
theorem dX1_everyFor_27 : decode cX1_everyFor 27 = .ok (.invokevirtual 223, 3) := dk_182 0 223 (dk_at dksX1_everyFor_1 3 rfl rfl)
theorem dX1_everyFor_30 : decode cX1_everyFor 30 = .ok (.invokevirtual 54, 3) := dk_182 0 54 (dk_at dksX1_everyFor_1 6 rfl rfl)
theorem dX1_everyFor_33 : decode cX1_everyFor 33 = .ok (.ireturn, 1) := dk_172 (dk_at dksX1_everyFor_1 9 rfl rfl)
abbrev cX1_bestEvery : ByteArray := prog_1_method_47_code
def yX1_bestEvery : MethodName := ⟨RX1, "bestEvery", "(II)I"⟩
def dkwX1_bestEvery_2 : List UInt8 := [167, 0, 16, 42, 42, 180, 0, 27, 28, 53, 181, 0, 220, 21, 4, 62, 132, 4, 1, 167, 255, 200, 29, 172]
abbrev dktX1_bestEvery_2 : List UInt8 := dkwX1_bestEvery_2 ++ []
def dkwX1_bestEvery_1 : List UInt8 := [180, 0, 152, 27, 51, 21, 4, 28, 182, 0, 158, 42, 180, 0, 27, 28, 53, 42, 180, 0, 220, 163, 0, 6]
abbrev dktX1_bestEvery_1 : List UInt8 := dkwX1_bestEvery_1 ++ dktX1_bestEvery_2
def dkwX1_bestEvery_0 : List UInt8 := [3, 62, 42, 2, 181, 0, 220, 3, 54, 4, 21, 4, 16, 9, 163, 0, 55, 42, 27, 42, 180, 0, 98]
abbrev dktX1_bestEvery_0 : List UInt8 := dkwX1_bestEvery_0 ++ dktX1_bestEvery_1
theorem dksX1_bestEvery_0 : cX1_bestEvery.data.toList.drop 0 = dktX1_bestEvery_0 := by decide +kernel
theorem dksX1_bestEvery_1 : cX1_bestEvery.data.toList.drop 23 = dktX1_bestEvery_1 := dk_seg dksX1_bestEvery_0 23 rfl rfl
theorem dksX1_bestEvery_2 : cX1_bestEvery.data.toList.drop 47 = dktX1_bestEvery_2 := dk_seg dksX1_bestEvery_1 24 rfl rfl
theorem dX1_bestEvery_0 : decode cX1_bestEvery 0 = .ok (.iconst 0, 1) := dk_3 (dk_at dksX1_bestEvery_0 0 rfl rfl)
theorem dX1_bestEvery_1 : decode cX1_bestEvery 1 = .ok (.istore_n 3, 1) := dk_62 (dk_at dksX1_bestEvery_0 1 rfl rfl)
theorem dX1_bestEvery_2 : decode cX1_bestEvery 2 = .ok (.aload_n 0, 1) := dk_42 (dk_at dksX1_bestEvery_0 2 rfl rfl)
theorem dX1_bestEvery_3 : decode cX1_bestEvery 3 = .ok (.iconst (-1), 1) := dk_2 (dk_at dksX1_bestEvery_0 3 rfl rfl)
theorem dX1_bestEvery_4 : decode cX1_bestEvery 4 = .ok (.putfield 220, 3) := dk_181 0 220 (dk_at dksX1_bestEvery_0 4 rfl rfl)
theorem dX1_bestEvery_7 : decode cX1_bestEvery 7 = .ok (.iconst 0, 1) := dk_3 (dk_at dksX1_bestEvery_0 7 rfl rfl)
theorem dX1_bestEvery_8 : decode cX1_bestEvery 8 = .ok (.istore 4, 2) := dk_54 4 (dk_at dksX1_bestEvery_0 8 rfl rfl)
theorem dX1_bestEvery_10 : decode cX1_bestEvery 10 = .ok (.iload 4, 2) := dk_21 4 (dk_at dksX1_bestEvery_0 10 rfl rfl)
theorem dX1_bestEvery_12 : decode cX1_bestEvery 12 = .ok (.bipush 9, 2) := dk_16 9 (dk_at dksX1_bestEvery_0 12 rfl rfl)
theorem dX1_bestEvery_14 : decode cX1_bestEvery 14 = .ok (.if_icmp .gt 55, 3) := dk_163 0 55 (dk_at dksX1_bestEvery_0 14 rfl rfl)
theorem dX1_bestEvery_17 : decode cX1_bestEvery 17 = .ok (.aload_n 0, 1) := dk_42 (dk_at dksX1_bestEvery_0 17 rfl rfl)
theorem dX1_bestEvery_18 : decode cX1_bestEvery 18 = .ok (.iload_n 1, 1) := dk_27 (dk_at dksX1_bestEvery_0 18 rfl rfl)
theorem dX1_bestEvery_19 : decode cX1_bestEvery 19 = .ok (.aload_n 0, 1) := dk_42 (dk_at dksX1_bestEvery_0 19 rfl rfl)
theorem dX1_bestEvery_20 : decode cX1_bestEvery 20 = .ok (.getfield 98, 3) := dk_180 0 98 (dk_at dksX1_bestEvery_0 20 rfl rfl)
theorem dX1_bestEvery_23 : decode cX1_bestEvery 23 = .ok (.getfield 152, 3) := dk_180 0 152 (dk_at dksX1_bestEvery_1 0 rfl rfl)
theorem dX1_bestEvery_26 : decode cX1_bestEvery 26 = .ok (.iload_n 1, 1) := dk_27 (dk_at dksX1_bestEvery_1 3 rfl rfl)
theorem dX1_bestEvery_27 : decode cX1_bestEvery 27 = .ok (.baload, 1) := dk_51 (dk_at dksX1_bestEvery_1 4 rfl rfl)
theorem dX1_bestEvery_28 : decode cX1_bestEvery 28 = .ok (.iload 4, 2) := dk_21 4 (dk_at dksX1_bestEvery_1 5 rfl rfl)
theorem dX1_bestEvery_30 : decode cX1_bestEvery 30 = .ok (.iload_n 2, 1) := dk_28 (dk_at dksX1_bestEvery_1 7 rfl rfl)
theorem dX1_bestEvery_31 : decode cX1_bestEvery 31 = .ok (.invokevirtual 158, 3) := dk_182 0 158 (dk_at dksX1_bestEvery_1 8 rfl rfl)
theorem dX1_bestEvery_34 : decode cX1_bestEvery 34 = .ok (.aload_n 0, 1) := dk_42 (dk_at dksX1_bestEvery_1 11 rfl rfl)
theorem dX1_bestEvery_35 : decode cX1_bestEvery 35 = .ok (.getfield 27, 3) := dk_180 0 27 (dk_at dksX1_bestEvery_1 12 rfl rfl)
theorem dX1_bestEvery_38 : decode cX1_bestEvery 38 = .ok (.iload_n 2, 1) := dk_28 (dk_at dksX1_bestEvery_1 15 rfl rfl)
theorem dX1_bestEvery_39 : decode cX1_bestEvery 39 = .ok (.saload, 1) := dk_53 (dk_at dksX1_bestEvery_1 16 rfl rfl)
theorem dX1_bestEvery_40 : decode cX1_bestEvery 40 = .ok (.aload_n 0, 1) := dk_42 (dk_at dksX1_bestEvery_1 17 rfl rfl)
theorem dX1_bestEvery_41 : decode cX1_bestEvery 41 = .ok (.getfield 220, 3) := dk_180 0 220 (dk_at dksX1_bestEvery_1 18 rfl rfl)
theorem dX1_bestEvery_44 : decode cX1_bestEvery 44 = .ok (.if_icmp .gt 6, 3) := dk_163 0 6 (dk_at dksX1_bestEvery_1 21 rfl rfl)
theorem dX1_bestEvery_47 : decode cX1_bestEvery 47 = .ok (.goto 16, 3) := dk_167 0 16 (dk_at dksX1_bestEvery_2 0 rfl rfl)
theorem dX1_bestEvery_50 : decode cX1_bestEvery 50 = .ok (.aload_n 0, 1) := dk_42 (dk_at dksX1_bestEvery_2 3 rfl rfl)
theorem dX1_bestEvery_51 : decode cX1_bestEvery 51 = .ok (.aload_n 0, 1) := dk_42 (dk_at dksX1_bestEvery_2 4 rfl rfl)
theorem dX1_bestEvery_52 : decode cX1_bestEvery 52 = .ok (.getfield 27, 3) := dk_180 0 27 (dk_at dksX1_bestEvery_2 5 rfl rfl)
theorem dX1_bestEvery_55 : decode cX1_bestEvery 55 = .ok (.iload_n 2, 1) := dk_28 (dk_at dksX1_bestEvery_2 8 rfl rfl)
theorem dX1_bestEvery_56 : decode cX1_bestEvery 56 = .ok (.saload, 1) := dk_53 (dk_at dksX1_bestEvery_2 9 rfl rfl)
theorem dX1_bestEvery_57 : decode cX1_bestEvery 57 = .ok (.putfield 220, 3) := dk_181 0 220 (dk_at dksX1_bestEvery_2 10 rfl rfl)
theorem dX1_bestEvery_60 : decode cX1_bestEvery 60 = .ok (.iload 4, 2) := dk_21 4 (dk_at dksX1_bestEvery_2 13 rfl rfl)
theorem dX1_bestEvery_62 : decode cX1_bestEvery 62 = .ok (.istore_n 3, 1) := dk_62 (dk_at dksX1_bestEvery_2 15 rfl rfl)
theorem dX1_bestEvery_63 : decode cX1_bestEvery 63 = .ok (.iinc 4 1, 3) := dk_132 4 1 (dk_at dksX1_bestEvery_2 16 rfl rfl)
theorem dX1_bestEvery_66 : decode cX1_bestEvery 66 = .ok (.goto (-56), 3) := dk_167 255 200 (dk_at dksX1_bestEvery_2 19 rfl rfl)
theorem dX1_bestEvery_69 : decode cX1_bestEvery 69 = .ok (.iload_n 3, 1) := dk_29 (dk_at dksX1_bestEvery_2 22 rfl rfl)
theorem dX1_bestEvery_70 : decode cX1_bestEvery 70 = .ok (.ireturn, 1) := dk_172 (dk_at dksX1_bestEvery_2 23 rfl rfl)
abbrev cX1_everySays : ByteArray := prog_1_method_49_code
def yX1_everySays : MethodName := ⟨RX1, "everySays", "(II)I"⟩
def dkwX1_everySays_1 : List UInt8 := [182, 0, 223, 87, 42, 42, 180, 0, 220, 182, 0, 54, 172]
abbrev dktX1_everySays_1 : List UInt8 := dkwX1_everySays_1 ++ []
def dkwX1_everySays_0 : List UInt8 := [42, 42, 27, 182, 0, 162, 28, 182, 0, 176, 62, 29, 158, 0, 9, 42, 29, 182, 0, 50, 172, 42, 27, 28]
abbrev dktX1_everySays_0 : List UInt8 := dkwX1_everySays_0 ++ dktX1_everySays_1
theorem dksX1_everySays_0 : cX1_everySays.data.toList.drop 0 = dktX1_everySays_0 := by decide +kernel
theorem dksX1_everySays_1 : cX1_everySays.data.toList.drop 24 = dktX1_everySays_1 := dk_seg dksX1_everySays_0 24 rfl rfl
theorem dX1_everySays_0 : decode cX1_everySays 0 = .ok (.aload_n 0, 1) := dk_42 (dk_at dksX1_everySays_0 0 rfl rfl)
theorem dX1_everySays_1 : decode cX1_everySays 1 = .ok (.aload_n 0, 1) := dk_42 (dk_at dksX1_everySays_0 1 rfl rfl)
theorem dX1_everySays_2 : decode cX1_everySays 2 = .ok (.iload_n 1, 1) := dk_27 (dk_at dksX1_everySays_0 2 rfl rfl)
theorem dX1_everySays_3 : decode cX1_everySays 3 = .ok (.invokevirtual 162, 3) := dk_182 0 162 (dk_at dksX1_everySays_0 3 rfl rfl)
theorem dX1_everySays_6 : decode cX1_everySays 6 = .ok (.iload_n 2, 1) := dk_28 (dk_at dksX1_everySays_0 6 rfl rfl)
theorem dX1_everySays_7 : decode cX1_everySays 7 = .ok (.invokevirtual 176, 3) := dk_182 0 176 (dk_at dksX1_everySays_0 7 rfl rfl)
theorem dX1_everySays_10 : decode cX1_everySays 10 = .ok (.istore_n 3, 1) := dk_62 (dk_at dksX1_everySays_0 10 rfl rfl)
theorem dX1_everySays_11 : decode cX1_everySays 11 = .ok (.iload_n 3, 1) := dk_29 (dk_at dksX1_everySays_0 11 rfl rfl)
theorem dX1_everySays_12 : decode cX1_everySays 12 = .ok (.ifCond .le 9, 3) := dk_158 0 9 (dk_at dksX1_everySays_0 12 rfl rfl)
theorem dX1_everySays_15 : decode cX1_everySays 15 = .ok (.aload_n 0, 1) := dk_42 (dk_at dksX1_everySays_0 15 rfl rfl)
theorem dX1_everySays_16 : decode cX1_everySays 16 = .ok (.iload_n 3, 1) := dk_29 (dk_at dksX1_everySays_0 16 rfl rfl)
theorem dX1_everySays_17 : decode cX1_everySays 17 = .ok (.invokevirtual 50, 3) := dk_182 0 50 (dk_at dksX1_everySays_0 17 rfl rfl)
theorem dX1_everySays_20 : decode cX1_everySays 20 = .ok (.ireturn, 1) := dk_172 (dk_at dksX1_everySays_0 20 rfl rfl)
theorem dX1_everySays_21 : decode cX1_everySays 21 = .ok (.aload_n 0, 1) := dk_42 (dk_at dksX1_everySays_0 21 rfl rfl)
theorem dX1_everySays_22 : decode cX1_everySays 22 = .ok (.iload_n 1, 1) := dk_27 (dk_at dksX1_everySays_0 22 rfl rfl)
theorem dX1_everySays_23 : decode cX1_everySays 23 = .ok (.iload_n 2, 1) := dk_28 (dk_at dksX1_everySays_0 23 rfl rfl)
theorem dX1_everySays_24 : decode cX1_everySays 24 = .ok (.invokevirtual 223, 3) := dk_182 0 223 (dk_at dksX1_everySays_1 0 rfl rfl)
theorem dX1_everySays_27 : decode cX1_everySays 27 = .ok (.pop, 1) := dk_87 (dk_at dksX1_everySays_1 3 rfl rfl)
theorem dX1_everySays_28 : decode cX1_everySays 28 = .ok (.aload_n 0, 1) := dk_42 (dk_at dksX1_everySays_1 4 rfl rfl)
theorem dX1_everySays_29 : decode cX1_everySays 29 = .ok (.aload_n 0, 1) := dk_42 (dk_at dksX1_everySays_1 5 rfl rfl)
theorem dX1_everySays_30 : decode cX1_everySays 30 = .ok (.getfield 220, 3) := dk_180 0 220 (dk_at dksX1_everySays_1 6 rfl rfl)
theorem dX1_everySays_33 : decode cX1_everySays 33 = .ok (.invokevirtual 54, 3) := dk_182 0 54 (dk_at dksX1_everySays_1 9 rfl rfl)
theorem dX1_everySays_36 : decode cX1_everySays 36 = .ok (.ireturn, 1) := dk_172 (dk_at dksX1_everySays_1 12 rfl rfl)
abbrev cX1_everyNever : ByteArray := prog_1_method_50_code
def yX1_everyNever : MethodName := ⟨RX1, "everyNever", "(I)I"⟩
def dkwX1_everyNever_4 : List UInt8 := [182, 0, 54, 172]
abbrev dktX1_everyNever_4 : List UInt8 := dkwX1_everyNever_4 ++ []
def dkwX1_everyNever_3 : List UInt8 := [167, 255, 230, 29, 153, 0, 9, 42, 28, 182, 0, 54, 172, 132, 2, 1, 167, 255, 186, 42, 16, 254]
abbrev dktX1_everyNever_3 : List UInt8 := dkwX1_everyNever_3 ++ dktX1_everyNever_4
def dkwX1_everyNever_2 : List UInt8 := [163, 0, 25, 42, 42, 180, 0, 27, 21, 4, 53, 182, 0, 169, 153, 0, 5, 3, 62, 132, 4, 1]
abbrev dktX1_everyNever_2 : List UInt8 := dkwX1_everyNever_2 ++ dktX1_everyNever_3
def dkwX1_everyNever_1 : List UInt8 := [42, 180, 0, 98, 180, 0, 152, 27, 51, 28, 16, 60, 182, 0, 158, 4, 62, 4, 54, 4, 21, 4, 16, 60]
abbrev dktX1_everyNever_1 : List UInt8 := dkwX1_everyNever_1 ++ dktX1_everyNever_2
def dkwX1_everyNever_0 : List UInt8 := [42, 27, 182, 0, 162, 154, 0, 9, 42, 4, 182, 0, 50, 172, 3, 61, 28, 16, 9, 163, 0, 70, 42, 27]
abbrev dktX1_everyNever_0 : List UInt8 := dkwX1_everyNever_0 ++ dktX1_everyNever_1
theorem dksX1_everyNever_0 : cX1_everyNever.data.toList.drop 0 = dktX1_everyNever_0 := by decide +kernel
theorem dksX1_everyNever_1 : cX1_everyNever.data.toList.drop 24 = dktX1_everyNever_1 := dk_seg dksX1_everyNever_0 24 rfl rfl
theorem dksX1_everyNever_2 : cX1_everyNever.data.toList.drop 48 = dktX1_everyNever_2 := dk_seg dksX1_everyNever_1 24 rfl rfl
theorem dksX1_everyNever_3 : cX1_everyNever.data.toList.drop 70 = dktX1_everyNever_3 := dk_seg dksX1_everyNever_2 22 rfl rfl
theorem dksX1_everyNever_4 : cX1_everyNever.data.toList.drop 92 = dktX1_everyNever_4 := dk_seg dksX1_everyNever_3 22 rfl rfl
theorem dX1_everyNever_0 : decode cX1_everyNever 0 = .ok (.aload_n 0, 1) := dk_42 (dk_at dksX1_everyNever_0 0 rfl rfl)
theorem dX1_everyNever_1 : decode cX1_everyNever 1 = .ok (.iload_n 1, 1) := dk_27 (dk_at dksX1_everyNever_0 1 rfl rfl)
theorem dX1_everyNever_2 : decode cX1_everyNever 2 = .ok (.invokevirtual 162, 3) := dk_182 0 162 (dk_at dksX1_everyNever_0 2 rfl rfl)
theorem dX1_everyNever_5 : decode cX1_everyNever 5 = .ok (.ifCond .ne 9, 3) := dk_154 0 9 (dk_at dksX1_everyNever_0 5 rfl rfl)
theorem dX1_everyNever_8 : decode cX1_everyNever 8 = .ok (.aload_n 0, 1) := dk_42 (dk_at dksX1_everyNever_0 8 rfl rfl)
theorem dX1_everyNever_9 : decode cX1_everyNever 9 = .ok (.iconst 1, 1) := dk_4 (dk_at dksX1_everyNever_0 9 rfl rfl)
theorem dX1_everyNever_10 : decode cX1_everyNever 10 = .ok (.invokevirtual 50, 3) := dk_182 0 50 (dk_at dksX1_everyNever_0 10 rfl rfl)
theorem dX1_everyNever_13 : decode cX1_everyNever 13 = .ok (.ireturn, 1) := dk_172 (dk_at dksX1_everyNever_0 13 rfl rfl)
theorem dX1_everyNever_14 : decode cX1_everyNever 14 = .ok (.iconst 0, 1) := dk_3 (dk_at dksX1_everyNever_0 14 rfl rfl)
theorem dX1_everyNever_15 : decode cX1_everyNever 15 = .ok (.istore_n 2, 1) := dk_61 (dk_at dksX1_everyNever_0 15 rfl rfl)
theorem dX1_everyNever_16 : decode cX1_everyNever 16 = .ok (.iload_n 2, 1) := dk_28 (dk_at dksX1_everyNever_0 16 rfl rfl)
theorem dX1_everyNever_17 : decode cX1_everyNever 17 = .ok (.bipush 9, 2) := dk_16 9 (dk_at dksX1_everyNever_0 17 rfl rfl)
theorem dX1_everyNever_19 : decode cX1_everyNever 19 = .ok (.if_icmp .gt 70, 3) := dk_163 0 70 (dk_at dksX1_everyNever_0 19 rfl rfl)
theorem dX1_everyNever_22 : decode cX1_everyNever 22 = .ok (.aload_n 0, 1) := dk_42 (dk_at dksX1_everyNever_0 22 rfl rfl)
theorem dX1_everyNever_23 : decode cX1_everyNever 23 = .ok (.iload_n 1, 1) := dk_27 (dk_at dksX1_everyNever_0 23 rfl rfl)
theorem dX1_everyNever_24 : decode cX1_everyNever 24 = .ok (.aload_n 0, 1) := dk_42 (dk_at dksX1_everyNever_1 0 rfl rfl)
theorem dX1_everyNever_25 : decode cX1_everyNever 25 = .ok (.getfield 98, 3) := dk_180 0 98 (dk_at dksX1_everyNever_1 1 rfl rfl)
theorem dX1_everyNever_28 : decode cX1_everyNever 28 = .ok (.getfield 152, 3) := dk_180 0 152 (dk_at dksX1_everyNever_1 4 rfl rfl)
theorem dX1_everyNever_31 : decode cX1_everyNever 31 = .ok (.iload_n 1, 1) := dk_27 (dk_at dksX1_everyNever_1 7 rfl rfl)
theorem dX1_everyNever_32 : decode cX1_everyNever 32 = .ok (.baload, 1) := dk_51 (dk_at dksX1_everyNever_1 8 rfl rfl)
theorem dX1_everyNever_33 : decode cX1_everyNever 33 = .ok (.iload_n 2, 1) := dk_28 (dk_at dksX1_everyNever_1 9 rfl rfl)
theorem dX1_everyNever_34 : decode cX1_everyNever 34 = .ok (.bipush 60, 2) := dk_16 60 (dk_at dksX1_everyNever_1 10 rfl rfl)
theorem dX1_everyNever_36 : decode cX1_everyNever 36 = .ok (.invokevirtual 158, 3) := dk_182 0 158 (dk_at dksX1_everyNever_1 12 rfl rfl)
theorem dX1_everyNever_39 : decode cX1_everyNever 39 = .ok (.iconst 1, 1) := dk_4 (dk_at dksX1_everyNever_1 15 rfl rfl)
theorem dX1_everyNever_40 : decode cX1_everyNever 40 = .ok (.istore_n 3, 1) := dk_62 (dk_at dksX1_everyNever_1 16 rfl rfl)
theorem dX1_everyNever_41 : decode cX1_everyNever 41 = .ok (.iconst 1, 1) := dk_4 (dk_at dksX1_everyNever_1 17 rfl rfl)
theorem dX1_everyNever_42 : decode cX1_everyNever 42 = .ok (.istore 4, 2) := dk_54 4 (dk_at dksX1_everyNever_1 18 rfl rfl)
theorem dX1_everyNever_44 : decode cX1_everyNever 44 = .ok (.iload 4, 2) := dk_21 4 (dk_at dksX1_everyNever_1 20 rfl rfl)
theorem dX1_everyNever_46 : decode cX1_everyNever 46 = .ok (.bipush 60, 2) := dk_16 60 (dk_at dksX1_everyNever_1 22 rfl rfl)
theorem dX1_everyNever_48 : decode cX1_everyNever 48 = .ok (.if_icmp .gt 25, 3) := dk_163 0 25 (dk_at dksX1_everyNever_2 0 rfl rfl)
theorem dX1_everyNever_51 : decode cX1_everyNever 51 = .ok (.aload_n 0, 1) := dk_42 (dk_at dksX1_everyNever_2 3 rfl rfl)
theorem dX1_everyNever_52 : decode cX1_everyNever 52 = .ok (.aload_n 0, 1) := dk_42 (dk_at dksX1_everyNever_2 4 rfl rfl)
theorem dX1_everyNever_53 : decode cX1_everyNever 53 = .ok (.getfield 27, 3) := dk_180 0 27 (dk_at dksX1_everyNever_2 5 rfl rfl)
theorem dX1_everyNever_56 : decode cX1_everyNever 56 = .ok (.iload 4, 2) := dk_21 4 (dk_at dksX1_everyNever_2 8 rfl rfl)
theorem dX1_everyNever_58 : decode cX1_everyNever 58 = .ok (.saload, 1) := dk_53 (dk_at dksX1_everyNever_2 10 rfl rfl)
theorem dX1_everyNever_59 : decode cX1_everyNever 59 = .ok (.invokevirtual 169, 3) := dk_182 0 169 (dk_at dksX1_everyNever_2 11 rfl rfl)
theorem dX1_everyNever_62 : decode cX1_everyNever 62 = .ok (.ifCond .eq 5, 3) := dk_153 0 5 (dk_at dksX1_everyNever_2 14 rfl rfl)
theorem dX1_everyNever_65 : decode cX1_everyNever 65 = .ok (.iconst 0, 1) := dk_3 (dk_at dksX1_everyNever_2 17 rfl rfl)
theorem dX1_everyNever_66 : decode cX1_everyNever 66 = .ok (.istore_n 3, 1) := dk_62 (dk_at dksX1_everyNever_2 18 rfl rfl)
theorem dX1_everyNever_67 : decode cX1_everyNever 67 = .ok (.iinc 4 1, 3) := dk_132 4 1 (dk_at dksX1_everyNever_2 19 rfl rfl)
theorem dX1_everyNever_70 : decode cX1_everyNever 70 = .ok (.goto (-26), 3) := dk_167 255 230 (dk_at dksX1_everyNever_3 0 rfl rfl)
theorem dX1_everyNever_73 : decode cX1_everyNever 73 = .ok (.iload_n 3, 1) := dk_29 (dk_at dksX1_everyNever_3 3 rfl rfl)
theorem dX1_everyNever_74 : decode cX1_everyNever 74 = .ok (.ifCond .eq 9, 3) := dk_153 0 9 (dk_at dksX1_everyNever_3 4 rfl rfl)
theorem dX1_everyNever_77 : decode cX1_everyNever 77 = .ok (.aload_n 0, 1) := dk_42 (dk_at dksX1_everyNever_3 7 rfl rfl)
theorem dX1_everyNever_78 : decode cX1_everyNever 78 = .ok (.iload_n 2, 1) := dk_28 (dk_at dksX1_everyNever_3 8 rfl rfl)
theorem dX1_everyNever_79 : decode cX1_everyNever 79 = .ok (.invokevirtual 54, 3) := dk_182 0 54 (dk_at dksX1_everyNever_3 9 rfl rfl)
theorem dX1_everyNever_82 : decode cX1_everyNever 82 = .ok (.ireturn, 1) := dk_172 (dk_at dksX1_everyNever_3 12 rfl rfl)
theorem dX1_everyNever_83 : decode cX1_everyNever 83 = .ok (.iinc 2 1, 3) := dk_132 2 1 (dk_at dksX1_everyNever_3 13 rfl rfl)
theorem dX1_everyNever_86 : decode cX1_everyNever 86 = .ok (.goto (-70), 3) := dk_167 255 186 (dk_at dksX1_everyNever_3 16 rfl rfl)
theorem dX1_everyNever_89 : decode cX1_everyNever 89 = .ok (.aload_n 0, 1) := dk_42 (dk_at dksX1_everyNever_3 19 rfl rfl)
theorem dX1_everyNever_90 : decode cX1_everyNever 90 = .ok (.bipush (-2), 2) := dk_16 254 (dk_at dksX1_everyNever_3 20 rfl rfl)
theorem dX1_everyNever_92 : decode cX1_everyNever 92 = .ok (.invokevirtual 54, 3) := dk_182 0 54 (dk_at dksX1_everyNever_4 0 rfl rfl)
theorem dX1_everyNever_95 : decode cX1_everyNever 95 = .ok (.ireturn, 1) := dk_172 (dk_at dksX1_everyNever_4 3 rfl rfl)
abbrev cX1_stepFor : ByteArray := prog_1_method_51_code
def yX1_stepFor : MethodName := ⟨RX1, "stepFor", "(II)I"⟩
def dkwX1_stepFor_3 : List UInt8 := [167, 255, 210, 42, 16, 254, 182, 0, 54, 172]
abbrev dktX1_stepFor_3 : List UInt8 := dkwX1_stepFor_3 ++ []
def dkwX1_stepFor_2 : List UInt8 := [42, 180, 0, 27, 28, 53, 182, 0, 169, 153, 0, 10, 42, 21, 4, 182, 0, 54, 172, 132, 4, 1]
abbrev dktX1_stepFor_2 : List UInt8 := dkwX1_stepFor_2 ++ dktX1_stepFor_3
def dkwX1_stepFor_1 : List UInt8 := [21, 4, 16, 20, 163, 0, 45, 42, 27, 21, 4, 42, 27, 182, 0, 125, 180, 0, 155, 28, 182, 0, 158, 42]
abbrev dktX1_stepFor_1 : List UInt8 := dkwX1_stepFor_1 ++ dktX1_stepFor_2
def dkwX1_stepFor_0 : List UInt8 := [42, 42, 27, 182, 0, 162, 28, 182, 0, 176, 62, 29, 158, 0, 9, 42, 29, 182, 0, 50, 172, 3, 54, 4]
abbrev dktX1_stepFor_0 : List UInt8 := dkwX1_stepFor_0 ++ dktX1_stepFor_1
theorem dksX1_stepFor_0 : cX1_stepFor.data.toList.drop 0 = dktX1_stepFor_0 := by decide +kernel
theorem dksX1_stepFor_1 : cX1_stepFor.data.toList.drop 24 = dktX1_stepFor_1 := dk_seg dksX1_stepFor_0 24 rfl rfl
theorem dksX1_stepFor_2 : cX1_stepFor.data.toList.drop 48 = dktX1_stepFor_2 := dk_seg dksX1_stepFor_1 24 rfl rfl
theorem dksX1_stepFor_3 : cX1_stepFor.data.toList.drop 70 = dktX1_stepFor_3 := dk_seg dksX1_stepFor_2 22 rfl rfl
theorem dX1_stepFor_0 : decode cX1_stepFor 0 = .ok (.aload_n 0, 1) := dk_42 (dk_at dksX1_stepFor_0 0 rfl rfl)
theorem dX1_stepFor_1 : decode cX1_stepFor 1 = .ok (.aload_n 0, 1) := dk_42 (dk_at dksX1_stepFor_0 1 rfl rfl)
theorem dX1_stepFor_2 : decode cX1_stepFor 2 = .ok (.iload_n 1, 1) := dk_27 (dk_at dksX1_stepFor_0 2 rfl rfl)
theorem dX1_stepFor_3 : decode cX1_stepFor 3 = .ok (.invokevirtual 162, 3) := dk_182 0 162 (dk_at dksX1_stepFor_0 3 rfl rfl)
theorem dX1_stepFor_6 : decode cX1_stepFor 6 = .ok (.iload_n 2, 1) := dk_28 (dk_at dksX1_stepFor_0 6 rfl rfl)
theorem dX1_stepFor_7 : decode cX1_stepFor 7 = .ok (.invokevirtual 176, 3) := dk_182 0 176 (dk_at dksX1_stepFor_0 7 rfl rfl)
theorem dX1_stepFor_10 : decode cX1_stepFor 10 = .ok (.istore_n 3, 1) := dk_62 (dk_at dksX1_stepFor_0 10 rfl rfl)
theorem dX1_stepFor_11 : decode cX1_stepFor 11 = .ok (.iload_n 3, 1) := dk_29 (dk_at dksX1_stepFor_0 11 rfl rfl)
theorem dX1_stepFor_12 : decode cX1_stepFor 12 = .ok (.ifCond .le 9, 3) := dk_158 0 9 (dk_at dksX1_stepFor_0 12 rfl rfl)
theorem dX1_stepFor_15 : decode cX1_stepFor 15 = .ok (.aload_n 0, 1) := dk_42 (dk_at dksX1_stepFor_0 15 rfl rfl)
theorem dX1_stepFor_16 : decode cX1_stepFor 16 = .ok (.iload_n 3, 1) := dk_29 (dk_at dksX1_stepFor_0 16 rfl rfl)
theorem dX1_stepFor_17 : decode cX1_stepFor 17 = .ok (.invokevirtual 50, 3) := dk_182 0 50 (dk_at dksX1_stepFor_0 17 rfl rfl)
theorem dX1_stepFor_20 : decode cX1_stepFor 20 = .ok (.ireturn, 1) := dk_172 (dk_at dksX1_stepFor_0 20 rfl rfl)
theorem dX1_stepFor_21 : decode cX1_stepFor 21 = .ok (.iconst 0, 1) := dk_3 (dk_at dksX1_stepFor_0 21 rfl rfl)
theorem dX1_stepFor_22 : decode cX1_stepFor 22 = .ok (.istore 4, 2) := dk_54 4 (dk_at dksX1_stepFor_0 22 rfl rfl)
theorem dX1_stepFor_24 : decode cX1_stepFor 24 = .ok (.iload 4, 2) := dk_21 4 (dk_at dksX1_stepFor_1 0 rfl rfl)
theorem dX1_stepFor_26 : decode cX1_stepFor 26 = .ok (.bipush 20, 2) := dk_16 20 (dk_at dksX1_stepFor_1 2 rfl rfl)
theorem dX1_stepFor_28 : decode cX1_stepFor 28 = .ok (.if_icmp .gt 45, 3) := dk_163 0 45 (dk_at dksX1_stepFor_1 4 rfl rfl)
theorem dX1_stepFor_31 : decode cX1_stepFor 31 = .ok (.aload_n 0, 1) := dk_42 (dk_at dksX1_stepFor_1 7 rfl rfl)
theorem dX1_stepFor_32 : decode cX1_stepFor 32 = .ok (.iload_n 1, 1) := dk_27 (dk_at dksX1_stepFor_1 8 rfl rfl)
theorem dX1_stepFor_33 : decode cX1_stepFor 33 = .ok (.iload 4, 2) := dk_21 4 (dk_at dksX1_stepFor_1 9 rfl rfl)
theorem dX1_stepFor_35 : decode cX1_stepFor 35 = .ok (.aload_n 0, 1) := dk_42 (dk_at dksX1_stepFor_1 11 rfl rfl)
theorem dX1_stepFor_36 : decode cX1_stepFor 36 = .ok (.iload_n 1, 1) := dk_27 (dk_at dksX1_stepFor_1 12 rfl rfl)
theorem dX1_stepFor_37 : decode cX1_stepFor 37 = .ok (.invokevirtual 125, 3) := dk_182 0 125 (dk_at dksX1_stepFor_1 13 rfl rfl)
theorem dX1_stepFor_40 : decode cX1_stepFor 40 = .ok (.getfield 155, 3) := dk_180 0 155 (dk_at dksX1_stepFor_1 16 rfl rfl)
theorem dX1_stepFor_43 : decode cX1_stepFor 43 = .ok (.iload_n 2, 1) := dk_28 (dk_at dksX1_stepFor_1 19 rfl rfl)
theorem dX1_stepFor_44 : decode cX1_stepFor 44 = .ok (.invokevirtual 158, 3) := dk_182 0 158 (dk_at dksX1_stepFor_1 20 rfl rfl)
theorem dX1_stepFor_47 : decode cX1_stepFor 47 = .ok (.aload_n 0, 1) := dk_42 (dk_at dksX1_stepFor_1 23 rfl rfl)
theorem dX1_stepFor_48 : decode cX1_stepFor 48 = .ok (.aload_n 0, 1) := dk_42 (dk_at dksX1_stepFor_2 0 rfl rfl)
theorem dX1_stepFor_49 : decode cX1_stepFor 49 = .ok (.getfield 27, 3) := dk_180 0 27 (dk_at dksX1_stepFor_2 1 rfl rfl)
theorem dX1_stepFor_52 : decode cX1_stepFor 52 = .ok (.iload_n 2, 1) := dk_28 (dk_at dksX1_stepFor_2 4 rfl rfl)
theorem dX1_stepFor_53 : decode cX1_stepFor 53 = .ok (.saload, 1) := dk_53 (dk_at dksX1_stepFor_2 5 rfl rfl)
theorem dX1_stepFor_54 : decode cX1_stepFor 54 = .ok (.invokevirtual 169, 3) := dk_182 0 169 (dk_at dksX1_stepFor_2 6 rfl rfl)
theorem dX1_stepFor_57 : decode cX1_stepFor 57 = .ok (.ifCond .eq 10, 3) := dk_153 0 10 (dk_at dksX1_stepFor_2 9 rfl rfl)
theorem dX1_stepFor_60 : decode cX1_stepFor 60 = .ok (.aload_n 0, 1) := dk_42 (dk_at dksX1_stepFor_2 12 rfl rfl)
theorem dX1_stepFor_61 : decode cX1_stepFor 61 = .ok (.iload 4, 2) := dk_21 4 (dk_at dksX1_stepFor_2 13 rfl rfl)
theorem dX1_stepFor_63 : decode cX1_stepFor 63 = .ok (.invokevirtual 54, 3) := dk_182 0 54 (dk_at dksX1_stepFor_2 15 rfl rfl)
theorem dX1_stepFor_66 : decode cX1_stepFor 66 = .ok (.ireturn, 1) := dk_172 (dk_at dksX1_stepFor_2 18 rfl rfl)
theorem dX1_stepFor_67 : decode cX1_stepFor 67 = .ok (.iinc 4 1, 3) := dk_132 4 1 (dk_at dksX1_stepFor_2 19 rfl rfl)
theorem dX1_stepFor_70 : decode cX1_stepFor 70 = .ok (.goto (-46), 3) := dk_167 255 210 (dk_at dksX1_stepFor_3 0 rfl rfl)
theorem dX1_stepFor_73 : decode cX1_stepFor 73 = .ok (.aload_n 0, 1) := dk_42 (dk_at dksX1_stepFor_3 3 rfl rfl)
theorem dX1_stepFor_74 : decode cX1_stepFor 74 = .ok (.bipush (-2), 2) := dk_16 254 (dk_at dksX1_stepFor_3 4 rfl rfl)
theorem dX1_stepFor_76 : decode cX1_stepFor 76 = .ok (.invokevirtual 54, 3) := dk_182 0 54 (dk_at dksX1_stepFor_3 6 rfl rfl)
theorem dX1_stepFor_79 : decode cX1_stepFor 79 = .ok (.ireturn, 1) := dk_172 (dk_at dksX1_stepFor_3 9 rfl rfl)
abbrev cX1_fits : ByteArray := prog_1_method_56_code
def yX1_fits : MethodName := ⟨RX1, "fits", "()I"⟩
def dkwX1_fits_1 : List UInt8 := [182, 0, 54, 172]
abbrev dktX1_fits_1 : List UInt8 := dkwX1_fits_1 ++ []
def dkwX1_fits_0 : List UInt8 := [42, 180, 0, 89, 199, 0, 9, 42, 4, 182, 0, 50, 172, 42, 2, 182, 1, 16, 87, 42, 42, 180, 1, 4]
abbrev dktX1_fits_0 : List UInt8 := dkwX1_fits_0 ++ dktX1_fits_1
theorem dksX1_fits_0 : cX1_fits.data.toList.drop 0 = dktX1_fits_0 := by decide +kernel
theorem dksX1_fits_1 : cX1_fits.data.toList.drop 24 = dktX1_fits_1 := dk_seg dksX1_fits_0 24 rfl rfl
theorem dX1_fits_0 : decode cX1_fits 0 = .ok (.aload_n 0, 1) := dk_42 (dk_at dksX1_fits_0 0 rfl rfl)
theorem dX1_fits_1 : decode cX1_fits 1 = .ok (.getfield 89, 3) := dk_180 0 89 (dk_at dksX1_fits_0 1 rfl rfl)
theorem dX1_fits_4 : decode cX1_fits 4 = .ok (.ifnonnull 9, 3) := dk_199 0 9 (dk_at dksX1_fits_0 4 rfl rfl)
theorem dX1_fits_7 : decode cX1_fits 7 = .ok (.aload_n 0, 1) := dk_42 (dk_at dksX1_fits_0 7 rfl rfl)
theorem dX1_fits_8 : decode cX1_fits 8 = .ok (.iconst 1, 1) := dk_4 (dk_at dksX1_fits_0 8 rfl rfl)
theorem dX1_fits_9 : decode cX1_fits 9 = .ok (.invokevirtual 50, 3) := dk_182 0 50 (dk_at dksX1_fits_0 9 rfl rfl)
theorem dX1_fits_12 : decode cX1_fits 12 = .ok (.ireturn, 1) := dk_172 (dk_at dksX1_fits_0 12 rfl rfl)
theorem dX1_fits_13 : decode cX1_fits 13 = .ok (.aload_n 0, 1) := dk_42 (dk_at dksX1_fits_0 13 rfl rfl)
theorem dX1_fits_14 : decode cX1_fits 14 = .ok (.iconst (-1), 1) := dk_2 (dk_at dksX1_fits_0 14 rfl rfl)
theorem dX1_fits_15 : decode cX1_fits 15 = .ok (.invokevirtual 272, 3) := dk_182 1 16 (dk_at dksX1_fits_0 15 rfl rfl)
theorem dX1_fits_18 : decode cX1_fits 18 = .ok (.pop, 1) := dk_87 (dk_at dksX1_fits_0 18 rfl rfl)
theorem dX1_fits_19 : decode cX1_fits 19 = .ok (.aload_n 0, 1) := dk_42 (dk_at dksX1_fits_0 19 rfl rfl)
theorem dX1_fits_20 : decode cX1_fits 20 = .ok (.aload_n 0, 1) := dk_42 (dk_at dksX1_fits_0 20 rfl rfl)
theorem dX1_fits_21 : decode cX1_fits 21 = .ok (.getfield 260, 3) := dk_180 1 4 (dk_at dksX1_fits_0 21 rfl rfl)
theorem dX1_fits_24 : decode cX1_fits 24 = .ok (.invokevirtual 54, 3) := dk_182 0 54 (dk_at dksX1_fits_1 0 rfl rfl)
theorem dX1_fits_27 : decode cX1_fits 27 = .ok (.ireturn, 1) := dk_172 (dk_at dksX1_fits_1 3 rfl rfl)
abbrev cX1_fitting : ByteArray := prog_1_method_55_code
def yX1_fitting : MethodName := ⟨RX1, "fitting", "(I)I"⟩
def dkwX1_fitting_7 : List UInt8 := [167, 255, 142, 42, 180, 1, 4, 154, 0, 8, 42, 3, 181, 1, 10, 28, 172]
abbrev dktX1_fitting_7 : List UInt8 := dkwX1_fitting_7 ++ []
def dkwX1_fitting_6 : List UInt8 := [21, 4, 184, 0, 232, 153, 0, 7, 4, 167, 0, 4, 3, 96, 79, 132, 4, 1, 167, 255, 217, 132, 3, 1]
abbrev dktX1_fitting_6 : List UInt8 := dkwX1_fitting_6 ++ dktX1_fitting_7
def dkwX1_fitting_5 : List UInt8 := [3, 54, 4, 21, 4, 42, 180, 0, 89, 180, 0, 226, 162, 0, 33, 42, 180, 0, 31, 21, 4, 92, 46, 29]
abbrev dktX1_fitting_5 : List UInt8 := dkwX1_fitting_5 ++ dktX1_fitting_6
def dkwX1_fitting_4 : List UInt8 := [96, 181, 1, 4, 42, 89, 180, 1, 7, 29, 128, 181, 1, 7, 42, 89, 180, 1, 10, 29, 126, 181, 1, 10]
abbrev dktX1_fitting_4 : List UInt8 := dkwX1_fitting_4 ++ dktX1_fitting_5
def dkwX1_fitting_3 : List UInt8 := [16, 254, 159, 0, 6, 167, 0, 88, 42, 180, 1, 4, 27, 160, 0, 5, 29, 61, 42, 89, 180, 1, 4, 4]
abbrev dktX1_fitting_3 : List UInt8 := dkwX1_fitting_3 ++ dktX1_fitting_4
def dkwX1_fitting_2 : List UInt8 := [167, 255, 241, 3, 62, 29, 4, 42, 180, 0, 89, 180, 0, 226, 120, 162, 0, 107, 42, 29, 182, 1, 13]
abbrev dktX1_fitting_2 : List UInt8 := dkwX1_fitting_2 ++ dktX1_fitting_3
def dkwX1_fitting_1 : List UInt8 := [181, 1, 10, 16, 254, 61, 3, 62, 29, 7, 162, 0, 16, 42, 180, 0, 31, 29, 3, 79, 132, 3, 1]
abbrev dktX1_fitting_1 : List UInt8 := dkwX1_fitting_1 ++ dktX1_fitting_2
def dkwX1_fitting_0 : List UInt8 := [42, 3, 181, 1, 4, 42, 3, 181, 1, 7, 42, 4, 42, 180, 0, 89, 180, 0, 226, 120, 4, 100]
abbrev dktX1_fitting_0 : List UInt8 := dkwX1_fitting_0 ++ dktX1_fitting_1
theorem dksX1_fitting_0 : cX1_fitting.data.toList.drop 0 = dktX1_fitting_0 := by decide +kernel
theorem dksX1_fitting_1 : cX1_fitting.data.toList.drop 22 = dktX1_fitting_1 := dk_seg dksX1_fitting_0 22 rfl rfl
theorem dksX1_fitting_2 : cX1_fitting.data.toList.drop 45 = dktX1_fitting_2 := dk_seg dksX1_fitting_1 23 rfl rfl
theorem dksX1_fitting_3 : cX1_fitting.data.toList.drop 68 = dktX1_fitting_3 := dk_seg dksX1_fitting_2 23 rfl rfl
theorem dksX1_fitting_4 : cX1_fitting.data.toList.drop 92 = dktX1_fitting_4 := dk_seg dksX1_fitting_3 24 rfl rfl
theorem dksX1_fitting_5 : cX1_fitting.data.toList.drop 116 = dktX1_fitting_5 := dk_seg dksX1_fitting_4 24 rfl rfl
theorem dksX1_fitting_6 : cX1_fitting.data.toList.drop 140 = dktX1_fitting_6 := dk_seg dksX1_fitting_5 24 rfl rfl
theorem dksX1_fitting_7 : cX1_fitting.data.toList.drop 164 = dktX1_fitting_7 := dk_seg dksX1_fitting_6 24 rfl rfl
theorem dX1_fitting_0 : decode cX1_fitting 0 = .ok (.aload_n 0, 1) := dk_42 (dk_at dksX1_fitting_0 0 rfl rfl)
theorem dX1_fitting_1 : decode cX1_fitting 1 = .ok (.iconst 0, 1) := dk_3 (dk_at dksX1_fitting_0 1 rfl rfl)
theorem dX1_fitting_2 : decode cX1_fitting 2 = .ok (.putfield 260, 3) := dk_181 1 4 (dk_at dksX1_fitting_0 2 rfl rfl)
theorem dX1_fitting_5 : decode cX1_fitting 5 = .ok (.aload_n 0, 1) := dk_42 (dk_at dksX1_fitting_0 5 rfl rfl)
theorem dX1_fitting_6 : decode cX1_fitting 6 = .ok (.iconst 0, 1) := dk_3 (dk_at dksX1_fitting_0 6 rfl rfl)
theorem dX1_fitting_7 : decode cX1_fitting 7 = .ok (.putfield 263, 3) := dk_181 1 7 (dk_at dksX1_fitting_0 7 rfl rfl)
theorem dX1_fitting_10 : decode cX1_fitting 10 = .ok (.aload_n 0, 1) := dk_42 (dk_at dksX1_fitting_0 10 rfl rfl)
theorem dX1_fitting_11 : decode cX1_fitting 11 = .ok (.iconst 1, 1) := dk_4 (dk_at dksX1_fitting_0 11 rfl rfl)
theorem dX1_fitting_12 : decode cX1_fitting 12 = .ok (.aload_n 0, 1) := dk_42 (dk_at dksX1_fitting_0 12 rfl rfl)
theorem dX1_fitting_13 : decode cX1_fitting 13 = .ok (.getfield 89, 3) := dk_180 0 89 (dk_at dksX1_fitting_0 13 rfl rfl)
theorem dX1_fitting_16 : decode cX1_fitting 16 = .ok (.getfield 226, 3) := dk_180 0 226 (dk_at dksX1_fitting_0 16 rfl rfl)
theorem dX1_fitting_19 : decode cX1_fitting 19 = .ok (.ishl, 1) := dk_120 (dk_at dksX1_fitting_0 19 rfl rfl)
theorem dX1_fitting_20 : decode cX1_fitting 20 = .ok (.iconst 1, 1) := dk_4 (dk_at dksX1_fitting_0 20 rfl rfl)
theorem dX1_fitting_21 : decode cX1_fitting 21 = .ok (.isub, 1) := dk_100 (dk_at dksX1_fitting_0 21 rfl rfl)
theorem dX1_fitting_22 : decode cX1_fitting 22 = .ok (.putfield 266, 3) := dk_181 1 10 (dk_at dksX1_fitting_1 0 rfl rfl)
theorem dX1_fitting_25 : decode cX1_fitting 25 = .ok (.bipush (-2), 2) := dk_16 254 (dk_at dksX1_fitting_1 3 rfl rfl)
theorem dX1_fitting_27 : decode cX1_fitting 27 = .ok (.istore_n 2, 1) := dk_61 (dk_at dksX1_fitting_1 5 rfl rfl)
theorem dX1_fitting_28 : decode cX1_fitting 28 = .ok (.iconst 0, 1) := dk_3 (dk_at dksX1_fitting_1 6 rfl rfl)
theorem dX1_fitting_29 : decode cX1_fitting 29 = .ok (.istore_n 3, 1) := dk_62 (dk_at dksX1_fitting_1 7 rfl rfl)
theorem dX1_fitting_30 : decode cX1_fitting 30 = .ok (.iload_n 3, 1) := dk_29 (dk_at dksX1_fitting_1 8 rfl rfl)
theorem dX1_fitting_31 : decode cX1_fitting 31 = .ok (.iconst 4, 1) := dk_7 (dk_at dksX1_fitting_1 9 rfl rfl)
theorem dX1_fitting_32 : decode cX1_fitting 32 = .ok (.if_icmp .ge 16, 3) := dk_162 0 16 (dk_at dksX1_fitting_1 10 rfl rfl)
theorem dX1_fitting_35 : decode cX1_fitting 35 = .ok (.aload_n 0, 1) := dk_42 (dk_at dksX1_fitting_1 13 rfl rfl)
theorem dX1_fitting_36 : decode cX1_fitting 36 = .ok (.getfield 31, 3) := dk_180 0 31 (dk_at dksX1_fitting_1 14 rfl rfl)
theorem dX1_fitting_39 : decode cX1_fitting 39 = .ok (.iload_n 3, 1) := dk_29 (dk_at dksX1_fitting_1 17 rfl rfl)
theorem dX1_fitting_40 : decode cX1_fitting 40 = .ok (.iconst 0, 1) := dk_3 (dk_at dksX1_fitting_1 18 rfl rfl)
theorem dX1_fitting_41 : decode cX1_fitting 41 = .ok (.iastore, 1) := dk_79 (dk_at dksX1_fitting_1 19 rfl rfl)
theorem dX1_fitting_42 : decode cX1_fitting 42 = .ok (.iinc 3 1, 3) := dk_132 3 1 (dk_at dksX1_fitting_1 20 rfl rfl)
theorem dX1_fitting_45 : decode cX1_fitting 45 = .ok (.goto (-15), 3) := dk_167 255 241 (dk_at dksX1_fitting_2 0 rfl rfl)
theorem dX1_fitting_48 : decode cX1_fitting 48 = .ok (.iconst 0, 1) := dk_3 (dk_at dksX1_fitting_2 3 rfl rfl)
theorem dX1_fitting_49 : decode cX1_fitting 49 = .ok (.istore_n 3, 1) := dk_62 (dk_at dksX1_fitting_2 4 rfl rfl)
theorem dX1_fitting_50 : decode cX1_fitting 50 = .ok (.iload_n 3, 1) := dk_29 (dk_at dksX1_fitting_2 5 rfl rfl)
theorem dX1_fitting_51 : decode cX1_fitting 51 = .ok (.iconst 1, 1) := dk_4 (dk_at dksX1_fitting_2 6 rfl rfl)
theorem dX1_fitting_52 : decode cX1_fitting 52 = .ok (.aload_n 0, 1) := dk_42 (dk_at dksX1_fitting_2 7 rfl rfl)
theorem dX1_fitting_53 : decode cX1_fitting 53 = .ok (.getfield 89, 3) := dk_180 0 89 (dk_at dksX1_fitting_2 8 rfl rfl)
theorem dX1_fitting_56 : decode cX1_fitting 56 = .ok (.getfield 226, 3) := dk_180 0 226 (dk_at dksX1_fitting_2 11 rfl rfl)
theorem dX1_fitting_59 : decode cX1_fitting 59 = .ok (.ishl, 1) := dk_120 (dk_at dksX1_fitting_2 14 rfl rfl)
theorem dX1_fitting_60 : decode cX1_fitting 60 = .ok (.if_icmp .ge 107, 3) := dk_162 0 107 (dk_at dksX1_fitting_2 15 rfl rfl)
theorem dX1_fitting_63 : decode cX1_fitting 63 = .ok (.aload_n 0, 1) := dk_42 (dk_at dksX1_fitting_2 18 rfl rfl)
theorem dX1_fitting_64 : decode cX1_fitting 64 = .ok (.iload_n 3, 1) := dk_29 (dk_at dksX1_fitting_2 19 rfl rfl)
theorem dX1_fitting_65 : decode cX1_fitting 65 = .ok (.invokevirtual 269, 3) := dk_182 1 13 (dk_at dksX1_fitting_2 20 rfl rfl)
theorem dX1_fitting_68 : decode cX1_fitting 68 = .ok (.bipush (-2), 2) := dk_16 254 (dk_at dksX1_fitting_3 0 rfl rfl)
theorem dX1_fitting_70 : decode cX1_fitting 70 = .ok (.if_icmp .eq 6, 3) := dk_159 0 6 (dk_at dksX1_fitting_3 2 rfl rfl)
theorem dX1_fitting_73 : decode cX1_fitting 73 = .ok (.goto 88, 3) := dk_167 0 88 (dk_at dksX1_fitting_3 5 rfl rfl)
theorem dX1_fitting_76 : decode cX1_fitting 76 = .ok (.aload_n 0, 1) := dk_42 (dk_at dksX1_fitting_3 8 rfl rfl)
theorem dX1_fitting_77 : decode cX1_fitting 77 = .ok (.getfield 260, 3) := dk_180 1 4 (dk_at dksX1_fitting_3 9 rfl rfl)
theorem dX1_fitting_80 : decode cX1_fitting 80 = .ok (.iload_n 1, 1) := dk_27 (dk_at dksX1_fitting_3 12 rfl rfl)
theorem dX1_fitting_81 : decode cX1_fitting 81 = .ok (.if_icmp .ne 5, 3) := dk_160 0 5 (dk_at dksX1_fitting_3 13 rfl rfl)
theorem dX1_fitting_84 : decode cX1_fitting 84 = .ok (.iload_n 3, 1) := dk_29 (dk_at dksX1_fitting_3 16 rfl rfl)
theorem dX1_fitting_85 : decode cX1_fitting 85 = .ok (.istore_n 2, 1) := dk_61 (dk_at dksX1_fitting_3 17 rfl rfl)
theorem dX1_fitting_86 : decode cX1_fitting 86 = .ok (.aload_n 0, 1) := dk_42 (dk_at dksX1_fitting_3 18 rfl rfl)
theorem dX1_fitting_87 : decode cX1_fitting 87 = .ok (.dup, 1) := dk_89 (dk_at dksX1_fitting_3 19 rfl rfl)
theorem dX1_fitting_88 : decode cX1_fitting 88 = .ok (.getfield 260, 3) := dk_180 1 4 (dk_at dksX1_fitting_3 20 rfl rfl)
theorem dX1_fitting_91 : decode cX1_fitting 91 = .ok (.iconst 1, 1) := dk_4 (dk_at dksX1_fitting_3 23 rfl rfl)
theorem dX1_fitting_92 : decode cX1_fitting 92 = .ok (.iadd, 1) := dk_96 (dk_at dksX1_fitting_4 0 rfl rfl)
theorem dX1_fitting_93 : decode cX1_fitting 93 = .ok (.putfield 260, 3) := dk_181 1 4 (dk_at dksX1_fitting_4 1 rfl rfl)
theorem dX1_fitting_96 : decode cX1_fitting 96 = .ok (.aload_n 0, 1) := dk_42 (dk_at dksX1_fitting_4 4 rfl rfl)
theorem dX1_fitting_97 : decode cX1_fitting 97 = .ok (.dup, 1) := dk_89 (dk_at dksX1_fitting_4 5 rfl rfl)
theorem dX1_fitting_98 : decode cX1_fitting 98 = .ok (.getfield 263, 3) := dk_180 1 7 (dk_at dksX1_fitting_4 6 rfl rfl)
theorem dX1_fitting_101 : decode cX1_fitting 101 = .ok (.iload_n 3, 1) := dk_29 (dk_at dksX1_fitting_4 9 rfl rfl)
theorem dX1_fitting_102 : decode cX1_fitting 102 = .ok (.ior, 1) := dk_128 (dk_at dksX1_fitting_4 10 rfl rfl)
theorem dX1_fitting_103 : decode cX1_fitting 103 = .ok (.putfield 263, 3) := dk_181 1 7 (dk_at dksX1_fitting_4 11 rfl rfl)
theorem dX1_fitting_106 : decode cX1_fitting 106 = .ok (.aload_n 0, 1) := dk_42 (dk_at dksX1_fitting_4 14 rfl rfl)
theorem dX1_fitting_107 : decode cX1_fitting 107 = .ok (.dup, 1) := dk_89 (dk_at dksX1_fitting_4 15 rfl rfl)
theorem dX1_fitting_108 : decode cX1_fitting 108 = .ok (.getfield 266, 3) := dk_180 1 10 (dk_at dksX1_fitting_4 16 rfl rfl)
theorem dX1_fitting_111 : decode cX1_fitting 111 = .ok (.iload_n 3, 1) := dk_29 (dk_at dksX1_fitting_4 19 rfl rfl)
theorem dX1_fitting_112 : decode cX1_fitting 112 = .ok (.iand, 1) := dk_126 (dk_at dksX1_fitting_4 20 rfl rfl)
theorem dX1_fitting_113 : decode cX1_fitting 113 = .ok (.putfield 266, 3) := dk_181 1 10 (dk_at dksX1_fitting_4 21 rfl rfl)
theorem dX1_fitting_116 : decode cX1_fitting 116 = .ok (.iconst 0, 1) := dk_3 (dk_at dksX1_fitting_5 0 rfl rfl)
theorem dX1_fitting_117 : decode cX1_fitting 117 = .ok (.istore 4, 2) := dk_54 4 (dk_at dksX1_fitting_5 1 rfl rfl)
theorem dX1_fitting_119 : decode cX1_fitting 119 = .ok (.iload 4, 2) := dk_21 4 (dk_at dksX1_fitting_5 3 rfl rfl)
theorem dX1_fitting_121 : decode cX1_fitting 121 = .ok (.aload_n 0, 1) := dk_42 (dk_at dksX1_fitting_5 5 rfl rfl)
theorem dX1_fitting_122 : decode cX1_fitting 122 = .ok (.getfield 89, 3) := dk_180 0 89 (dk_at dksX1_fitting_5 6 rfl rfl)
theorem dX1_fitting_125 : decode cX1_fitting 125 = .ok (.getfield 226, 3) := dk_180 0 226 (dk_at dksX1_fitting_5 9 rfl rfl)
theorem dX1_fitting_128 : decode cX1_fitting 128 = .ok (.if_icmp .ge 33, 3) := dk_162 0 33 (dk_at dksX1_fitting_5 12 rfl rfl)
theorem dX1_fitting_131 : decode cX1_fitting 131 = .ok (.aload_n 0, 1) := dk_42 (dk_at dksX1_fitting_5 15 rfl rfl)
theorem dX1_fitting_132 : decode cX1_fitting 132 = .ok (.getfield 31, 3) := dk_180 0 31 (dk_at dksX1_fitting_5 16 rfl rfl)
theorem dX1_fitting_135 : decode cX1_fitting 135 = .ok (.iload 4, 2) := dk_21 4 (dk_at dksX1_fitting_5 19 rfl rfl)
theorem dX1_fitting_137 : decode cX1_fitting 137 = .ok (.dup2, 1) := dk_92 (dk_at dksX1_fitting_5 21 rfl rfl)
theorem dX1_fitting_138 : decode cX1_fitting 138 = .ok (.iaload, 1) := dk_46 (dk_at dksX1_fitting_5 22 rfl rfl)
theorem dX1_fitting_139 : decode cX1_fitting 139 = .ok (.iload_n 3, 1) := dk_29 (dk_at dksX1_fitting_5 23 rfl rfl)
theorem dX1_fitting_140 : decode cX1_fitting 140 = .ok (.iload 4, 2) := dk_21 4 (dk_at dksX1_fitting_6 0 rfl rfl)
theorem dX1_fitting_142 : decode cX1_fitting 142 = .ok (.invokestatic 232, 3) := dk_184 0 232 (dk_at dksX1_fitting_6 2 rfl rfl)
theorem dX1_fitting_145 : decode cX1_fitting 145 = .ok (.ifCond .eq 7, 3) := dk_153 0 7 (dk_at dksX1_fitting_6 5 rfl rfl)
theorem dX1_fitting_148 : decode cX1_fitting 148 = .ok (.iconst 1, 1) := dk_4 (dk_at dksX1_fitting_6 8 rfl rfl)
theorem dX1_fitting_149 : decode cX1_fitting 149 = .ok (.goto 4, 3) := dk_167 0 4 (dk_at dksX1_fitting_6 9 rfl rfl)
theorem dX1_fitting_152 : decode cX1_fitting 152 = .ok (.iconst 0, 1) := dk_3 (dk_at dksX1_fitting_6 12 rfl rfl)
theorem dX1_fitting_153 : decode cX1_fitting 153 = .ok (.iadd, 1) := dk_96 (dk_at dksX1_fitting_6 13 rfl rfl)
theorem dX1_fitting_154 : decode cX1_fitting 154 = .ok (.iastore, 1) := dk_79 (dk_at dksX1_fitting_6 14 rfl rfl)
theorem dX1_fitting_155 : decode cX1_fitting 155 = .ok (.iinc 4 1, 3) := dk_132 4 1 (dk_at dksX1_fitting_6 15 rfl rfl)
theorem dX1_fitting_158 : decode cX1_fitting 158 = .ok (.goto (-39), 3) := dk_167 255 217 (dk_at dksX1_fitting_6 18 rfl rfl)
theorem dX1_fitting_161 : decode cX1_fitting 161 = .ok (.iinc 3 1, 3) := dk_132 3 1 (dk_at dksX1_fitting_6 21 rfl rfl)
theorem dX1_fitting_164 : decode cX1_fitting 164 = .ok (.goto (-114), 3) := dk_167 255 142 (dk_at dksX1_fitting_7 0 rfl rfl)
theorem dX1_fitting_167 : decode cX1_fitting 167 = .ok (.aload_n 0, 1) := dk_42 (dk_at dksX1_fitting_7 3 rfl rfl)
theorem dX1_fitting_168 : decode cX1_fitting 168 = .ok (.getfield 260, 3) := dk_180 1 4 (dk_at dksX1_fitting_7 4 rfl rfl)
theorem dX1_fitting_171 : decode cX1_fitting 171 = .ok (.ifCond .ne 8, 3) := dk_154 0 8 (dk_at dksX1_fitting_7 7 rfl rfl)
theorem dX1_fitting_174 : decode cX1_fitting 174 = .ok (.aload_n 0, 1) := dk_42 (dk_at dksX1_fitting_7 10 rfl rfl)
theorem dX1_fitting_175 : decode cX1_fitting 175 = .ok (.iconst 0, 1) := dk_3 (dk_at dksX1_fitting_7 11 rfl rfl)
theorem dX1_fitting_176 : decode cX1_fitting 176 = .ok (.putfield 266, 3) := dk_181 1 10 (dk_at dksX1_fitting_7 12 rfl rfl)
theorem dX1_fitting_179 : decode cX1_fitting 179 = .ok (.iload_n 2, 1) := dk_28 (dk_at dksX1_fitting_7 15 rfl rfl)
theorem dX1_fitting_180 : decode cX1_fitting 180 = .ok (.ireturn, 1) := dk_172 (dk_at dksX1_fitting_7 16 rfl rfl)
abbrev cX1_wrongHeard : ByteArray := prog_1_method_54_code
def yX1_wrongHeard : MethodName := ⟨RX1, "wrongHeard", "(I)I"⟩
def dkwX1_wrongHeard_2 : List UInt8 := [159, 0, 5, 28, 172, 132, 2, 1, 167, 255, 202, 16, 254, 172]
abbrev dktX1_wrongHeard_2 : List UInt8 := dkwX1_wrongHeard_2 ++ []
def dkwX1_wrongHeard_1 : List UInt8 := [182, 0, 119, 192, 0, 248, 78, 42, 45, 180, 0, 250, 45, 180, 0, 253, 27, 182, 1, 0, 45, 180, 1, 3]
abbrev dktX1_wrongHeard_1 : List UInt8 := dkwX1_wrongHeard_1 ++ dktX1_wrongHeard_2
def dkwX1_wrongHeard_0 : List UInt8 := [3, 61, 28, 42, 180, 0, 89, 180, 0, 245, 182, 0, 116, 162, 0, 46, 42, 180, 0, 89, 180, 0, 245, 28]
abbrev dktX1_wrongHeard_0 : List UInt8 := dkwX1_wrongHeard_0 ++ dktX1_wrongHeard_1
theorem dksX1_wrongHeard_0 : cX1_wrongHeard.data.toList.drop 0 = dktX1_wrongHeard_0 := by decide +kernel
theorem dksX1_wrongHeard_1 : cX1_wrongHeard.data.toList.drop 24 = dktX1_wrongHeard_1 := dk_seg dksX1_wrongHeard_0 24 rfl rfl
theorem dksX1_wrongHeard_2 : cX1_wrongHeard.data.toList.drop 48 = dktX1_wrongHeard_2 := dk_seg dksX1_wrongHeard_1 24 rfl rfl
theorem dX1_wrongHeard_0 : decode cX1_wrongHeard 0 = .ok (.iconst 0, 1) := dk_3 (dk_at dksX1_wrongHeard_0 0 rfl rfl)
theorem dX1_wrongHeard_1 : decode cX1_wrongHeard 1 = .ok (.istore_n 2, 1) := dk_61 (dk_at dksX1_wrongHeard_0 1 rfl rfl)
theorem dX1_wrongHeard_2 : decode cX1_wrongHeard 2 = .ok (.iload_n 2, 1) := dk_28 (dk_at dksX1_wrongHeard_0 2 rfl rfl)
theorem dX1_wrongHeard_3 : decode cX1_wrongHeard 3 = .ok (.aload_n 0, 1) := dk_42 (dk_at dksX1_wrongHeard_0 3 rfl rfl)
theorem dX1_wrongHeard_4 : decode cX1_wrongHeard 4 = .ok (.getfield 89, 3) := dk_180 0 89 (dk_at dksX1_wrongHeard_0 4 rfl rfl)
theorem dX1_wrongHeard_7 : decode cX1_wrongHeard 7 = .ok (.getfield 245, 3) := dk_180 0 245 (dk_at dksX1_wrongHeard_0 7 rfl rfl)
theorem dX1_wrongHeard_10 : decode cX1_wrongHeard 10 = .ok (.invokevirtual 116, 3) := dk_182 0 116 (dk_at dksX1_wrongHeard_0 10 rfl rfl)
theorem dX1_wrongHeard_13 : decode cX1_wrongHeard 13 = .ok (.if_icmp .ge 46, 3) := dk_162 0 46 (dk_at dksX1_wrongHeard_0 13 rfl rfl)
theorem dX1_wrongHeard_16 : decode cX1_wrongHeard 16 = .ok (.aload_n 0, 1) := dk_42 (dk_at dksX1_wrongHeard_0 16 rfl rfl)
theorem dX1_wrongHeard_17 : decode cX1_wrongHeard 17 = .ok (.getfield 89, 3) := dk_180 0 89 (dk_at dksX1_wrongHeard_0 17 rfl rfl)
theorem dX1_wrongHeard_20 : decode cX1_wrongHeard 20 = .ok (.getfield 245, 3) := dk_180 0 245 (dk_at dksX1_wrongHeard_0 20 rfl rfl)
theorem dX1_wrongHeard_23 : decode cX1_wrongHeard 23 = .ok (.iload_n 2, 1) := dk_28 (dk_at dksX1_wrongHeard_0 23 rfl rfl)
theorem dX1_wrongHeard_24 : decode cX1_wrongHeard 24 = .ok (.invokevirtual 119, 3) := dk_182 0 119 (dk_at dksX1_wrongHeard_1 0 rfl rfl)
theorem dX1_wrongHeard_27 : decode cX1_wrongHeard 27 = .ok (.checkcast 248, 3) := dk_192 0 248 (dk_at dksX1_wrongHeard_1 3 rfl rfl)
theorem dX1_wrongHeard_30 : decode cX1_wrongHeard 30 = .ok (.astore_n 3, 1) := dk_78 (dk_at dksX1_wrongHeard_1 6 rfl rfl)
theorem dX1_wrongHeard_31 : decode cX1_wrongHeard 31 = .ok (.aload_n 0, 1) := dk_42 (dk_at dksX1_wrongHeard_1 7 rfl rfl)
theorem dX1_wrongHeard_32 : decode cX1_wrongHeard 32 = .ok (.aload_n 3, 1) := dk_45 (dk_at dksX1_wrongHeard_1 8 rfl rfl)
theorem dX1_wrongHeard_33 : decode cX1_wrongHeard 33 = .ok (.getfield 250, 3) := dk_180 0 250 (dk_at dksX1_wrongHeard_1 9 rfl rfl)
theorem dX1_wrongHeard_36 : decode cX1_wrongHeard 36 = .ok (.aload_n 3, 1) := dk_45 (dk_at dksX1_wrongHeard_1 12 rfl rfl)
theorem dX1_wrongHeard_37 : decode cX1_wrongHeard 37 = .ok (.getfield 253, 3) := dk_180 0 253 (dk_at dksX1_wrongHeard_1 13 rfl rfl)
theorem dX1_wrongHeard_40 : decode cX1_wrongHeard 40 = .ok (.iload_n 1, 1) := dk_27 (dk_at dksX1_wrongHeard_1 16 rfl rfl)
theorem dX1_wrongHeard_41 : decode cX1_wrongHeard 41 = .ok (.invokevirtual 256, 3) := dk_182 1 0 (dk_at dksX1_wrongHeard_1 17 rfl rfl)
theorem dX1_wrongHeard_44 : decode cX1_wrongHeard 44 = .ok (.aload_n 3, 1) := dk_45 (dk_at dksX1_wrongHeard_1 20 rfl rfl)
theorem dX1_wrongHeard_45 : decode cX1_wrongHeard 45 = .ok (.getfield 259, 3) := dk_180 1 3 (dk_at dksX1_wrongHeard_1 21 rfl rfl)
theorem dX1_wrongHeard_48 : decode cX1_wrongHeard 48 = .ok (.if_icmp .eq 5, 3) := dk_159 0 5 (dk_at dksX1_wrongHeard_2 0 rfl rfl)
theorem dX1_wrongHeard_51 : decode cX1_wrongHeard 51 = .ok (.iload_n 2, 1) := dk_28 (dk_at dksX1_wrongHeard_2 3 rfl rfl)
theorem dX1_wrongHeard_52 : decode cX1_wrongHeard 52 = .ok (.ireturn, 1) := dk_172 (dk_at dksX1_wrongHeard_2 4 rfl rfl)
theorem dX1_wrongHeard_53 : decode cX1_wrongHeard 53 = .ok (.iinc 2 1, 3) := dk_132 2 1 (dk_at dksX1_wrongHeard_2 5 rfl rfl)
theorem dX1_wrongHeard_56 : decode cX1_wrongHeard 56 = .ok (.goto (-54), 3) := dk_167 255 202 (dk_at dksX1_wrongHeard_2 8 rfl rfl)
theorem dX1_wrongHeard_59 : decode cX1_wrongHeard 59 = .ok (.bipush (-2), 2) := dk_16 254 (dk_at dksX1_wrongHeard_2 11 rfl rfl)
theorem dX1_wrongHeard_61 : decode cX1_wrongHeard 61 = .ok (.ireturn, 1) := dk_172 (dk_at dksX1_wrongHeard_2 13 rfl rfl)
abbrev cX1_saidAt : ByteArray := prog_1_method_53_code
def yX1_saidAt : MethodName := ⟨RX1, "saidAt", "(III)I"⟩
def dkwX1_saidAt_2 : List UInt8 := [167, 255, 221, 21, 4, 172]
abbrev dktX1_saidAt_2 : List UInt8 := dkwX1_saidAt_2 ++ []
def dkwX1_saidAt_1 : List UInt8 := [27, 29, 182, 0, 242, 42, 27, 182, 0, 125, 180, 0, 155, 21, 5, 3, 182, 0, 148, 54, 4, 132, 5, 1]
abbrev dktX1_saidAt_1 : List UInt8 := dkwX1_saidAt_1 ++ dktX1_saidAt_2
def dkwX1_saidAt_0 : List UInt8 := [42, 27, 182, 0, 125, 180, 0, 240, 54, 4, 4, 54, 5, 21, 5, 28, 163, 0, 35, 42, 27, 21, 4, 42]
abbrev dktX1_saidAt_0 : List UInt8 := dkwX1_saidAt_0 ++ dktX1_saidAt_1
theorem dksX1_saidAt_0 : cX1_saidAt.data.toList.drop 0 = dktX1_saidAt_0 := by decide +kernel
theorem dksX1_saidAt_1 : cX1_saidAt.data.toList.drop 24 = dktX1_saidAt_1 := dk_seg dksX1_saidAt_0 24 rfl rfl
theorem dksX1_saidAt_2 : cX1_saidAt.data.toList.drop 48 = dktX1_saidAt_2 := dk_seg dksX1_saidAt_1 24 rfl rfl
theorem dX1_saidAt_0 : decode cX1_saidAt 0 = .ok (.aload_n 0, 1) := dk_42 (dk_at dksX1_saidAt_0 0 rfl rfl)
theorem dX1_saidAt_1 : decode cX1_saidAt 1 = .ok (.iload_n 1, 1) := dk_27 (dk_at dksX1_saidAt_0 1 rfl rfl)
theorem dX1_saidAt_2 : decode cX1_saidAt 2 = .ok (.invokevirtual 125, 3) := dk_182 0 125 (dk_at dksX1_saidAt_0 2 rfl rfl)
theorem dX1_saidAt_5 : decode cX1_saidAt 5 = .ok (.getfield 240, 3) := dk_180 0 240 (dk_at dksX1_saidAt_0 5 rfl rfl)
theorem dX1_saidAt_8 : decode cX1_saidAt 8 = .ok (.istore 4, 2) := dk_54 4 (dk_at dksX1_saidAt_0 8 rfl rfl)
theorem dX1_saidAt_10 : decode cX1_saidAt 10 = .ok (.iconst 1, 1) := dk_4 (dk_at dksX1_saidAt_0 10 rfl rfl)
theorem dX1_saidAt_11 : decode cX1_saidAt 11 = .ok (.istore 5, 2) := dk_54 5 (dk_at dksX1_saidAt_0 11 rfl rfl)
theorem dX1_saidAt_13 : decode cX1_saidAt 13 = .ok (.iload 5, 2) := dk_21 5 (dk_at dksX1_saidAt_0 13 rfl rfl)
theorem dX1_saidAt_15 : decode cX1_saidAt 15 = .ok (.iload_n 2, 1) := dk_28 (dk_at dksX1_saidAt_0 15 rfl rfl)
theorem dX1_saidAt_16 : decode cX1_saidAt 16 = .ok (.if_icmp .gt 35, 3) := dk_163 0 35 (dk_at dksX1_saidAt_0 16 rfl rfl)
theorem dX1_saidAt_19 : decode cX1_saidAt 19 = .ok (.aload_n 0, 1) := dk_42 (dk_at dksX1_saidAt_0 19 rfl rfl)
theorem dX1_saidAt_20 : decode cX1_saidAt 20 = .ok (.iload_n 1, 1) := dk_27 (dk_at dksX1_saidAt_0 20 rfl rfl)
theorem dX1_saidAt_21 : decode cX1_saidAt 21 = .ok (.iload 4, 2) := dk_21 4 (dk_at dksX1_saidAt_0 21 rfl rfl)
theorem dX1_saidAt_23 : decode cX1_saidAt 23 = .ok (.aload_n 0, 1) := dk_42 (dk_at dksX1_saidAt_0 23 rfl rfl)
theorem dX1_saidAt_24 : decode cX1_saidAt 24 = .ok (.iload_n 1, 1) := dk_27 (dk_at dksX1_saidAt_1 0 rfl rfl)
theorem dX1_saidAt_25 : decode cX1_saidAt 25 = .ok (.iload_n 3, 1) := dk_29 (dk_at dksX1_saidAt_1 1 rfl rfl)
theorem dX1_saidAt_26 : decode cX1_saidAt 26 = .ok (.invokevirtual 242, 3) := dk_182 0 242 (dk_at dksX1_saidAt_1 2 rfl rfl)
theorem dX1_saidAt_29 : decode cX1_saidAt 29 = .ok (.aload_n 0, 1) := dk_42 (dk_at dksX1_saidAt_1 5 rfl rfl)
theorem dX1_saidAt_30 : decode cX1_saidAt 30 = .ok (.iload_n 1, 1) := dk_27 (dk_at dksX1_saidAt_1 6 rfl rfl)
theorem dX1_saidAt_31 : decode cX1_saidAt 31 = .ok (.invokevirtual 125, 3) := dk_182 0 125 (dk_at dksX1_saidAt_1 7 rfl rfl)
theorem dX1_saidAt_34 : decode cX1_saidAt 34 = .ok (.getfield 155, 3) := dk_180 0 155 (dk_at dksX1_saidAt_1 10 rfl rfl)
theorem dX1_saidAt_37 : decode cX1_saidAt 37 = .ok (.iload 5, 2) := dk_21 5 (dk_at dksX1_saidAt_1 13 rfl rfl)
theorem dX1_saidAt_39 : decode cX1_saidAt 39 = .ok (.iconst 0, 1) := dk_3 (dk_at dksX1_saidAt_1 15 rfl rfl)
theorem dX1_saidAt_40 : decode cX1_saidAt 40 = .ok (.invokevirtual 148, 3) := dk_182 0 148 (dk_at dksX1_saidAt_1 16 rfl rfl)
theorem dX1_saidAt_43 : decode cX1_saidAt 43 = .ok (.istore 4, 2) := dk_54 4 (dk_at dksX1_saidAt_1 19 rfl rfl)
theorem dX1_saidAt_45 : decode cX1_saidAt 45 = .ok (.iinc 5 1, 3) := dk_132 5 1 (dk_at dksX1_saidAt_1 21 rfl rfl)
theorem dX1_saidAt_48 : decode cX1_saidAt 48 = .ok (.goto (-35), 3) := dk_167 255 221 (dk_at dksX1_saidAt_2 0 rfl rfl)
theorem dX1_saidAt_51 : decode cX1_saidAt 51 = .ok (.iload 4, 2) := dk_21 4 (dk_at dksX1_saidAt_2 3 rfl rfl)
theorem dX1_saidAt_53 : decode cX1_saidAt 53 = .ok (.ireturn, 1) := dk_172 (dk_at dksX1_saidAt_2 5 rfl rfl)
abbrev cX1_stepBy : ByteArray := prog_1_method_52_code
def yX1_stepBy : MethodName := ⟨RX1, "stepBy", "(II)I"⟩
def dkwX1_stepBy_2 : List UInt8 := [167, 255, 212, 42, 27, 182, 0, 125, 180, 0, 238, 172]
abbrev dktX1_stepBy_2 : List UInt8 := dkwX1_stepBy_2 ++ []
def dkwX1_stepBy_1 : List UInt8 := [160, 0, 20, 28, 29, 184, 0, 232, 153, 0, 12, 42, 27, 182, 0, 125, 180, 0, 235, 172, 132, 3, 1]
abbrev dktX1_stepBy_1 : List UInt8 := dkwX1_stepBy_1 ++ dktX1_stepBy_2
def dkwX1_stepBy_0 : List UInt8 := [3, 62, 29, 42, 180, 0, 89, 180, 0, 226, 162, 0, 39, 42, 180, 0, 89, 180, 0, 229, 29, 46, 27]
abbrev dktX1_stepBy_0 : List UInt8 := dkwX1_stepBy_0 ++ dktX1_stepBy_1
theorem dksX1_stepBy_0 : cX1_stepBy.data.toList.drop 0 = dktX1_stepBy_0 := by decide +kernel
theorem dksX1_stepBy_1 : cX1_stepBy.data.toList.drop 23 = dktX1_stepBy_1 := dk_seg dksX1_stepBy_0 23 rfl rfl
theorem dksX1_stepBy_2 : cX1_stepBy.data.toList.drop 46 = dktX1_stepBy_2 := dk_seg dksX1_stepBy_1 23 rfl rfl
theorem dX1_stepBy_0 : decode cX1_stepBy 0 = .ok (.iconst 0, 1) := dk_3 (dk_at dksX1_stepBy_0 0 rfl rfl)
theorem dX1_stepBy_1 : decode cX1_stepBy 1 = .ok (.istore_n 3, 1) := dk_62 (dk_at dksX1_stepBy_0 1 rfl rfl)
theorem dX1_stepBy_2 : decode cX1_stepBy 2 = .ok (.iload_n 3, 1) := dk_29 (dk_at dksX1_stepBy_0 2 rfl rfl)
theorem dX1_stepBy_3 : decode cX1_stepBy 3 = .ok (.aload_n 0, 1) := dk_42 (dk_at dksX1_stepBy_0 3 rfl rfl)
theorem dX1_stepBy_4 : decode cX1_stepBy 4 = .ok (.getfield 89, 3) := dk_180 0 89 (dk_at dksX1_stepBy_0 4 rfl rfl)
theorem dX1_stepBy_7 : decode cX1_stepBy 7 = .ok (.getfield 226, 3) := dk_180 0 226 (dk_at dksX1_stepBy_0 7 rfl rfl)
theorem dX1_stepBy_10 : decode cX1_stepBy 10 = .ok (.if_icmp .ge 39, 3) := dk_162 0 39 (dk_at dksX1_stepBy_0 10 rfl rfl)
theorem dX1_stepBy_13 : decode cX1_stepBy 13 = .ok (.aload_n 0, 1) := dk_42 (dk_at dksX1_stepBy_0 13 rfl rfl)
theorem dX1_stepBy_14 : decode cX1_stepBy 14 = .ok (.getfield 89, 3) := dk_180 0 89 (dk_at dksX1_stepBy_0 14 rfl rfl)
theorem dX1_stepBy_17 : decode cX1_stepBy 17 = .ok (.getfield 229, 3) := dk_180 0 229 (dk_at dksX1_stepBy_0 17 rfl rfl)
theorem dX1_stepBy_20 : decode cX1_stepBy 20 = .ok (.iload_n 3, 1) := dk_29 (dk_at dksX1_stepBy_0 20 rfl rfl)
theorem dX1_stepBy_21 : decode cX1_stepBy 21 = .ok (.iaload, 1) := dk_46 (dk_at dksX1_stepBy_0 21 rfl rfl)
theorem dX1_stepBy_22 : decode cX1_stepBy 22 = .ok (.iload_n 1, 1) := dk_27 (dk_at dksX1_stepBy_0 22 rfl rfl)
theorem dX1_stepBy_23 : decode cX1_stepBy 23 = .ok (.if_icmp .ne 20, 3) := dk_160 0 20 (dk_at dksX1_stepBy_1 0 rfl rfl)
theorem dX1_stepBy_26 : decode cX1_stepBy 26 = .ok (.iload_n 2, 1) := dk_28 (dk_at dksX1_stepBy_1 3 rfl rfl)
theorem dX1_stepBy_27 : decode cX1_stepBy 27 = .ok (.iload_n 3, 1) := dk_29 (dk_at dksX1_stepBy_1 4 rfl rfl)
theorem dX1_stepBy_28 : decode cX1_stepBy 28 = .ok (.invokestatic 232, 3) := dk_184 0 232 (dk_at dksX1_stepBy_1 5 rfl rfl)
theorem dX1_stepBy_31 : decode cX1_stepBy 31 = .ok (.ifCond .eq 12, 3) := dk_153 0 12 (dk_at dksX1_stepBy_1 8 rfl rfl)
theorem dX1_stepBy_34 : decode cX1_stepBy 34 = .ok (.aload_n 0, 1) := dk_42 (dk_at dksX1_stepBy_1 11 rfl rfl)
theorem dX1_stepBy_35 : decode cX1_stepBy 35 = .ok (.iload_n 1, 1) := dk_27 (dk_at dksX1_stepBy_1 12 rfl rfl)
theorem dX1_stepBy_36 : decode cX1_stepBy 36 = .ok (.invokevirtual 125, 3) := dk_182 0 125 (dk_at dksX1_stepBy_1 13 rfl rfl)
theorem dX1_stepBy_39 : decode cX1_stepBy 39 = .ok (.getfield 235, 3) := dk_180 0 235 (dk_at dksX1_stepBy_1 16 rfl rfl)
theorem dX1_stepBy_42 : decode cX1_stepBy 42 = .ok (.ireturn, 1) := dk_172 (dk_at dksX1_stepBy_1 19 rfl rfl)
theorem dX1_stepBy_43 : decode cX1_stepBy 43 = .ok (.iinc 3 1, 3) := dk_132 3 1 (dk_at dksX1_stepBy_1 20 rfl rfl)
theorem dX1_stepBy_46 : decode cX1_stepBy 46 = .ok (.goto (-44), 3) := dk_167 255 212 (dk_at dksX1_stepBy_2 0 rfl rfl)
theorem dX1_stepBy_49 : decode cX1_stepBy 49 = .ok (.aload_n 0, 1) := dk_42 (dk_at dksX1_stepBy_2 3 rfl rfl)
theorem dX1_stepBy_50 : decode cX1_stepBy 50 = .ok (.iload_n 1, 1) := dk_27 (dk_at dksX1_stepBy_2 4 rfl rfl)
theorem dX1_stepBy_51 : decode cX1_stepBy 51 = .ok (.invokevirtual 125, 3) := dk_182 0 125 (dk_at dksX1_stepBy_2 5 rfl rfl)
theorem dX1_stepBy_54 : decode cX1_stepBy 54 = .ok (.getfield 238, 3) := dk_180 0 238 (dk_at dksX1_stepBy_2 8 rfl rfl)
theorem dX1_stepBy_57 : decode cX1_stepBy 57 = .ok (.ireturn, 1) := dk_172 (dk_at dksX1_stepBy_2 11 rfl rfl)
abbrev cX1_has : ByteArray := prog_1_method_3_code
def yX1_has : MethodName := ⟨RX1, "has", "(II)Z"⟩
def dkwX1_has_0 : List UInt8 := [26, 27, 122, 4, 126, 4, 160, 0, 7, 4, 167, 0, 4, 3, 172]
abbrev dktX1_has_0 : List UInt8 := dkwX1_has_0 ++ []
theorem dksX1_has_0 : cX1_has.data.toList.drop 0 = dktX1_has_0 := by decide +kernel
theorem dX1_has_0 : decode cX1_has 0 = .ok (.iload_n 0, 1) := dk_26 (dk_at dksX1_has_0 0 rfl rfl)
theorem dX1_has_1 : decode cX1_has 1 = .ok (.iload_n 1, 1) := dk_27 (dk_at dksX1_has_0 1 rfl rfl)
theorem dX1_has_2 : decode cX1_has 2 = .ok (.ishr, 1) := dk_122 (dk_at dksX1_has_0 2 rfl rfl)
theorem dX1_has_3 : decode cX1_has 3 = .ok (.iconst 1, 1) := dk_4 (dk_at dksX1_has_0 3 rfl rfl)
theorem dX1_has_4 : decode cX1_has 4 = .ok (.iand, 1) := dk_126 (dk_at dksX1_has_0 4 rfl rfl)
theorem dX1_has_5 : decode cX1_has 5 = .ok (.iconst 1, 1) := dk_4 (dk_at dksX1_has_0 5 rfl rfl)
theorem dX1_has_6 : decode cX1_has 6 = .ok (.if_icmp .ne 7, 3) := dk_160 0 7 (dk_at dksX1_has_0 6 rfl rfl)
theorem dX1_has_9 : decode cX1_has 9 = .ok (.iconst 1, 1) := dk_4 (dk_at dksX1_has_0 9 rfl rfl)
theorem dX1_has_10 : decode cX1_has 10 = .ok (.goto 4, 3) := dk_167 0 4 (dk_at dksX1_has_0 10 rfl rfl)
theorem dX1_has_13 : decode cX1_has 13 = .ok (.iconst 0, 1) := dk_3 (dk_at dksX1_has_0 13 rfl rfl)
theorem dX1_has_14 : decode cX1_has 14 = .ok (.ireturn, 1) := dk_172 (dk_at dksX1_has_0 14 rfl rfl)
abbrev cX1_fitAt : ByteArray := prog_1_method_57_code
def yX1_fitAt : MethodName := ⟨RX1, "fitAt", "(I)I"⟩
def dkwX1_fitAt_1 : List UInt8 := [16, 254, 160, 0, 11, 42, 4, 182, 0, 50, 167, 0, 8, 42, 28, 182, 0, 54, 172]
abbrev dktX1_fitAt_1 : List UInt8 := dkwX1_fitAt_1 ++ []
def dkwX1_fitAt_0 : List UInt8 := [42, 180, 0, 89, 198, 0, 7, 27, 156, 0, 9, 42, 4, 182, 0, 50, 172, 42, 27, 182, 1, 16, 61, 28]
abbrev dktX1_fitAt_0 : List UInt8 := dkwX1_fitAt_0 ++ dktX1_fitAt_1
theorem dksX1_fitAt_0 : cX1_fitAt.data.toList.drop 0 = dktX1_fitAt_0 := by decide +kernel
theorem dksX1_fitAt_1 : cX1_fitAt.data.toList.drop 24 = dktX1_fitAt_1 := dk_seg dksX1_fitAt_0 24 rfl rfl
theorem dX1_fitAt_0 : decode cX1_fitAt 0 = .ok (.aload_n 0, 1) := dk_42 (dk_at dksX1_fitAt_0 0 rfl rfl)
theorem dX1_fitAt_1 : decode cX1_fitAt 1 = .ok (.getfield 89, 3) := dk_180 0 89 (dk_at dksX1_fitAt_0 1 rfl rfl)
theorem dX1_fitAt_4 : decode cX1_fitAt 4 = .ok (.ifnull 7, 3) := dk_198 0 7 (dk_at dksX1_fitAt_0 4 rfl rfl)
theorem dX1_fitAt_7 : decode cX1_fitAt 7 = .ok (.iload_n 1, 1) := dk_27 (dk_at dksX1_fitAt_0 7 rfl rfl)
theorem dX1_fitAt_8 : decode cX1_fitAt 8 = .ok (.ifCond .ge 9, 3) := dk_156 0 9 (dk_at dksX1_fitAt_0 8 rfl rfl)
theorem dX1_fitAt_11 : decode cX1_fitAt 11 = .ok (.aload_n 0, 1) := dk_42 (dk_at dksX1_fitAt_0 11 rfl rfl)
theorem dX1_fitAt_12 : decode cX1_fitAt 12 = .ok (.iconst 1, 1) := dk_4 (dk_at dksX1_fitAt_0 12 rfl rfl)
theorem dX1_fitAt_13 : decode cX1_fitAt 13 = .ok (.invokevirtual 50, 3) := dk_182 0 50 (dk_at dksX1_fitAt_0 13 rfl rfl)
theorem dX1_fitAt_16 : decode cX1_fitAt 16 = .ok (.ireturn, 1) := dk_172 (dk_at dksX1_fitAt_0 16 rfl rfl)
theorem dX1_fitAt_17 : decode cX1_fitAt 17 = .ok (.aload_n 0, 1) := dk_42 (dk_at dksX1_fitAt_0 17 rfl rfl)
theorem dX1_fitAt_18 : decode cX1_fitAt 18 = .ok (.iload_n 1, 1) := dk_27 (dk_at dksX1_fitAt_0 18 rfl rfl)
theorem dX1_fitAt_19 : decode cX1_fitAt 19 = .ok (.invokevirtual 272, 3) := dk_182 1 16 (dk_at dksX1_fitAt_0 19 rfl rfl)
theorem dX1_fitAt_22 : decode cX1_fitAt 22 = .ok (.istore_n 2, 1) := dk_61 (dk_at dksX1_fitAt_0 22 rfl rfl)
theorem dX1_fitAt_23 : decode cX1_fitAt 23 = .ok (.iload_n 2, 1) := dk_28 (dk_at dksX1_fitAt_0 23 rfl rfl)
theorem dX1_fitAt_24 : decode cX1_fitAt 24 = .ok (.bipush (-2), 2) := dk_16 254 (dk_at dksX1_fitAt_1 0 rfl rfl)
theorem dX1_fitAt_26 : decode cX1_fitAt 26 = .ok (.if_icmp .ne 11, 3) := dk_160 0 11 (dk_at dksX1_fitAt_1 2 rfl rfl)
theorem dX1_fitAt_29 : decode cX1_fitAt 29 = .ok (.aload_n 0, 1) := dk_42 (dk_at dksX1_fitAt_1 5 rfl rfl)
theorem dX1_fitAt_30 : decode cX1_fitAt 30 = .ok (.iconst 1, 1) := dk_4 (dk_at dksX1_fitAt_1 6 rfl rfl)
theorem dX1_fitAt_31 : decode cX1_fitAt 31 = .ok (.invokevirtual 50, 3) := dk_182 0 50 (dk_at dksX1_fitAt_1 7 rfl rfl)
theorem dX1_fitAt_34 : decode cX1_fitAt 34 = .ok (.goto 8, 3) := dk_167 0 8 (dk_at dksX1_fitAt_1 10 rfl rfl)
theorem dX1_fitAt_37 : decode cX1_fitAt 37 = .ok (.aload_n 0, 1) := dk_42 (dk_at dksX1_fitAt_1 13 rfl rfl)
theorem dX1_fitAt_38 : decode cX1_fitAt 38 = .ok (.iload_n 2, 1) := dk_28 (dk_at dksX1_fitAt_1 14 rfl rfl)
theorem dX1_fitAt_39 : decode cX1_fitAt 39 = .ok (.invokevirtual 54, 3) := dk_182 0 54 (dk_at dksX1_fitAt_1 15 rfl rfl)
theorem dX1_fitAt_42 : decode cX1_fitAt 42 = .ok (.ireturn, 1) := dk_172 (dk_at dksX1_fitAt_1 18 rfl rfl)
abbrev cX1_could : ByteArray := prog_1_method_58_code
def yX1_could : MethodName := ⟨RX1, "could", "()I"⟩
def dkwX1_could_1 : List UInt8 := [182, 0, 54, 172]
abbrev dktX1_could_1 : List UInt8 := dkwX1_could_1 ++ []
def dkwX1_could_0 : List UInt8 := [42, 180, 0, 89, 199, 0, 9, 42, 4, 182, 0, 50, 172, 42, 2, 182, 1, 16, 87, 42, 42, 180, 1, 7]
abbrev dktX1_could_0 : List UInt8 := dkwX1_could_0 ++ dktX1_could_1
theorem dksX1_could_0 : cX1_could.data.toList.drop 0 = dktX1_could_0 := by decide +kernel
theorem dksX1_could_1 : cX1_could.data.toList.drop 24 = dktX1_could_1 := dk_seg dksX1_could_0 24 rfl rfl
theorem dX1_could_0 : decode cX1_could 0 = .ok (.aload_n 0, 1) := dk_42 (dk_at dksX1_could_0 0 rfl rfl)
theorem dX1_could_1 : decode cX1_could 1 = .ok (.getfield 89, 3) := dk_180 0 89 (dk_at dksX1_could_0 1 rfl rfl)
theorem dX1_could_4 : decode cX1_could 4 = .ok (.ifnonnull 9, 3) := dk_199 0 9 (dk_at dksX1_could_0 4 rfl rfl)
theorem dX1_could_7 : decode cX1_could 7 = .ok (.aload_n 0, 1) := dk_42 (dk_at dksX1_could_0 7 rfl rfl)
theorem dX1_could_8 : decode cX1_could 8 = .ok (.iconst 1, 1) := dk_4 (dk_at dksX1_could_0 8 rfl rfl)
theorem dX1_could_9 : decode cX1_could 9 = .ok (.invokevirtual 50, 3) := dk_182 0 50 (dk_at dksX1_could_0 9 rfl rfl)
theorem dX1_could_12 : decode cX1_could 12 = .ok (.ireturn, 1) := dk_172 (dk_at dksX1_could_0 12 rfl rfl)
theorem dX1_could_13 : decode cX1_could 13 = .ok (.aload_n 0, 1) := dk_42 (dk_at dksX1_could_0 13 rfl rfl)
theorem dX1_could_14 : decode cX1_could 14 = .ok (.iconst (-1), 1) := dk_2 (dk_at dksX1_could_0 14 rfl rfl)
theorem dX1_could_15 : decode cX1_could 15 = .ok (.invokevirtual 272, 3) := dk_182 1 16 (dk_at dksX1_could_0 15 rfl rfl)
theorem dX1_could_18 : decode cX1_could 18 = .ok (.pop, 1) := dk_87 (dk_at dksX1_could_0 18 rfl rfl)
theorem dX1_could_19 : decode cX1_could 19 = .ok (.aload_n 0, 1) := dk_42 (dk_at dksX1_could_0 19 rfl rfl)
theorem dX1_could_20 : decode cX1_could 20 = .ok (.aload_n 0, 1) := dk_42 (dk_at dksX1_could_0 20 rfl rfl)
theorem dX1_could_21 : decode cX1_could 21 = .ok (.getfield 263, 3) := dk_180 1 7 (dk_at dksX1_could_0 21 rfl rfl)
theorem dX1_could_24 : decode cX1_could 24 = .ok (.invokevirtual 54, 3) := dk_182 0 54 (dk_at dksX1_could_1 0 rfl rfl)
theorem dX1_could_27 : decode cX1_could 27 = .ok (.ireturn, 1) := dk_172 (dk_at dksX1_could_1 3 rfl rfl)
abbrev cX1_surely : ByteArray := prog_1_method_59_code
def yX1_surely : MethodName := ⟨RX1, "surely", "()I"⟩
def dkwX1_surely_1 : List UInt8 := [182, 0, 54, 172]
abbrev dktX1_surely_1 : List UInt8 := dkwX1_surely_1 ++ []
def dkwX1_surely_0 : List UInt8 := [42, 180, 0, 89, 199, 0, 9, 42, 4, 182, 0, 50, 172, 42, 2, 182, 1, 16, 87, 42, 42, 180, 1, 10]
abbrev dktX1_surely_0 : List UInt8 := dkwX1_surely_0 ++ dktX1_surely_1
theorem dksX1_surely_0 : cX1_surely.data.toList.drop 0 = dktX1_surely_0 := by decide +kernel
theorem dksX1_surely_1 : cX1_surely.data.toList.drop 24 = dktX1_surely_1 := dk_seg dksX1_surely_0 24 rfl rfl
theorem dX1_surely_0 : decode cX1_surely 0 = .ok (.aload_n 0, 1) := dk_42 (dk_at dksX1_surely_0 0 rfl rfl)
theorem dX1_surely_1 : decode cX1_surely 1 = .ok (.getfield 89, 3) := dk_180 0 89 (dk_at dksX1_surely_0 1 rfl rfl)
theorem dX1_surely_4 : decode cX1_surely 4 = .ok (.ifnonnull 9, 3) := dk_199 0 9 (dk_at dksX1_surely_0 4 rfl rfl)
theorem dX1_surely_7 : decode cX1_surely 7 = .ok (.aload_n 0, 1) := dk_42 (dk_at dksX1_surely_0 7 rfl rfl)
theorem dX1_surely_8 : decode cX1_surely 8 = .ok (.iconst 1, 1) := dk_4 (dk_at dksX1_surely_0 8 rfl rfl)
theorem dX1_surely_9 : decode cX1_surely 9 = .ok (.invokevirtual 50, 3) := dk_182 0 50 (dk_at dksX1_surely_0 9 rfl rfl)
theorem dX1_surely_12 : decode cX1_surely 12 = .ok (.ireturn, 1) := dk_172 (dk_at dksX1_surely_0 12 rfl rfl)
theorem dX1_surely_13 : decode cX1_surely 13 = .ok (.aload_n 0, 1) := dk_42 (dk_at dksX1_surely_0 13 rfl rfl)
theorem dX1_surely_14 : decode cX1_surely 14 = .ok (.iconst (-1), 1) := dk_2 (dk_at dksX1_surely_0 14 rfl rfl)
theorem dX1_surely_15 : decode cX1_surely 15 = .ok (.invokevirtual 272, 3) := dk_182 1 16 (dk_at dksX1_surely_0 15 rfl rfl)
theorem dX1_surely_18 : decode cX1_surely 18 = .ok (.pop, 1) := dk_87 (dk_at dksX1_surely_0 18 rfl rfl)
theorem dX1_surely_19 : decode cX1_surely 19 = .ok (.aload_n 0, 1) := dk_42 (dk_at dksX1_surely_0 19 rfl rfl)
theorem dX1_surely_20 : decode cX1_surely 20 = .ok (.aload_n 0, 1) := dk_42 (dk_at dksX1_surely_0 20 rfl rfl)
theorem dX1_surely_21 : decode cX1_surely 21 = .ok (.getfield 266, 3) := dk_180 1 10 (dk_at dksX1_surely_0 21 rfl rfl)
theorem dX1_surely_24 : decode cX1_surely 24 = .ok (.invokevirtual 54, 3) := dk_182 0 54 (dk_at dksX1_surely_1 0 rfl rfl)
theorem dX1_surely_27 : decode cX1_surely 27 = .ok (.ireturn, 1) := dk_172 (dk_at dksX1_surely_1 3 rfl rfl)
abbrev cX1_ask : ByteArray := prog_1_method_61_code
def yX1_ask : MethodName := ⟨RX1, "ask", "()I"⟩
def dkwX1_ask_0 : List UInt8 := [42, 180, 0, 89, 199, 0, 11, 42, 4, 182, 0, 50, 167, 0, 11, 42, 42, 182, 1, 22, 182, 0, 54, 172]
abbrev dktX1_ask_0 : List UInt8 := dkwX1_ask_0 ++ []
theorem dksX1_ask_0 : cX1_ask.data.toList.drop 0 = dktX1_ask_0 := by decide +kernel
theorem dX1_ask_0 : decode cX1_ask 0 = .ok (.aload_n 0, 1) := dk_42 (dk_at dksX1_ask_0 0 rfl rfl)
theorem dX1_ask_1 : decode cX1_ask 1 = .ok (.getfield 89, 3) := dk_180 0 89 (dk_at dksX1_ask_0 1 rfl rfl)
theorem dX1_ask_4 : decode cX1_ask 4 = .ok (.ifnonnull 11, 3) := dk_199 0 11 (dk_at dksX1_ask_0 4 rfl rfl)
theorem dX1_ask_7 : decode cX1_ask 7 = .ok (.aload_n 0, 1) := dk_42 (dk_at dksX1_ask_0 7 rfl rfl)
theorem dX1_ask_8 : decode cX1_ask 8 = .ok (.iconst 1, 1) := dk_4 (dk_at dksX1_ask_0 8 rfl rfl)
theorem dX1_ask_9 : decode cX1_ask 9 = .ok (.invokevirtual 50, 3) := dk_182 0 50 (dk_at dksX1_ask_0 9 rfl rfl)
theorem dX1_ask_12 : decode cX1_ask 12 = .ok (.goto 11, 3) := dk_167 0 11 (dk_at dksX1_ask_0 12 rfl rfl)
theorem dX1_ask_15 : decode cX1_ask 15 = .ok (.aload_n 0, 1) := dk_42 (dk_at dksX1_ask_0 15 rfl rfl)
theorem dX1_ask_16 : decode cX1_ask 16 = .ok (.aload_n 0, 1) := dk_42 (dk_at dksX1_ask_0 16 rfl rfl)
theorem dX1_ask_17 : decode cX1_ask 17 = .ok (.invokevirtual 278, 3) := dk_182 1 22 (dk_at dksX1_ask_0 17 rfl rfl)
theorem dX1_ask_20 : decode cX1_ask 20 = .ok (.invokevirtual 54, 3) := dk_182 0 54 (dk_at dksX1_ask_0 20 rfl rfl)
theorem dX1_ask_23 : decode cX1_ask 23 = .ok (.ireturn, 1) := dk_172 (dk_at dksX1_ask_0 23 rfl rfl)
abbrev cX1_asks : ByteArray := prog_1_method_60_code
def yX1_asks : MethodName := ⟨RX1, "asks", "()I"⟩
def dkwX1_asks_3 : List UInt8 := [167, 0, 10, 28, 60, 42, 29, 181, 1, 19, 132, 2, 1, 167, 255, 190, 27, 172]
abbrev dktX1_asks_3 : List UInt8 := dkwX1_asks_3 ++ []
def dkwX1_asks_2 : List UInt8 := [180, 0, 31, 28, 46, 100, 184, 0, 184, 62, 27, 16, 254, 159, 0, 14, 29, 42, 180, 1, 19, 161, 0, 6]
abbrev dktX1_asks_2 : List UInt8 := dkwX1_asks_2 ++ dktX1_asks_3
def dkwX1_asks_1 : List UInt8 := [180, 0, 226, 162, 0, 61, 42, 180, 1, 4, 158, 0, 54, 42, 180, 0, 31, 28, 46, 42, 180, 1, 4, 42]
abbrev dktX1_asks_1 : List UInt8 := dkwX1_asks_1 ++ dktX1_asks_2
def dkwX1_asks_0 : List UInt8 := [42, 2, 182, 1, 16, 87, 16, 254, 60, 42, 16, 254, 181, 1, 19, 3, 61, 28, 42, 180, 0, 89]
abbrev dktX1_asks_0 : List UInt8 := dkwX1_asks_0 ++ dktX1_asks_1
theorem dksX1_asks_0 : cX1_asks.data.toList.drop 0 = dktX1_asks_0 := by decide +kernel
theorem dksX1_asks_1 : cX1_asks.data.toList.drop 22 = dktX1_asks_1 := dk_seg dksX1_asks_0 22 rfl rfl
theorem dksX1_asks_2 : cX1_asks.data.toList.drop 46 = dktX1_asks_2 := dk_seg dksX1_asks_1 24 rfl rfl
theorem dksX1_asks_3 : cX1_asks.data.toList.drop 70 = dktX1_asks_3 := dk_seg dksX1_asks_2 24 rfl rfl
theorem dX1_asks_0 : decode cX1_asks 0 = .ok (.aload_n 0, 1) := dk_42 (dk_at dksX1_asks_0 0 rfl rfl)
theorem dX1_asks_1 : decode cX1_asks 1 = .ok (.iconst (-1), 1) := dk_2 (dk_at dksX1_asks_0 1 rfl rfl)
theorem dX1_asks_2 : decode cX1_asks 2 = .ok (.invokevirtual 272, 3) := dk_182 1 16 (dk_at dksX1_asks_0 2 rfl rfl)
theorem dX1_asks_5 : decode cX1_asks 5 = .ok (.pop, 1) := dk_87 (dk_at dksX1_asks_0 5 rfl rfl)
theorem dX1_asks_6 : decode cX1_asks 6 = .ok (.bipush (-2), 2) := dk_16 254 (dk_at dksX1_asks_0 6 rfl rfl)
theorem dX1_asks_8 : decode cX1_asks 8 = .ok (.istore_n 1, 1) := dk_60 (dk_at dksX1_asks_0 8 rfl rfl)
theorem dX1_asks_9 : decode cX1_asks 9 = .ok (.aload_n 0, 1) := dk_42 (dk_at dksX1_asks_0 9 rfl rfl)
theorem dX1_asks_10 : decode cX1_asks 10 = .ok (.bipush (-2), 2) := dk_16 254 (dk_at dksX1_asks_0 10 rfl rfl)
theorem dX1_asks_12 : decode cX1_asks 12 = .ok (.putfield 275, 3) := dk_181 1 19 (dk_at dksX1_asks_0 12 rfl rfl)
theorem dX1_asks_15 : decode cX1_asks 15 = .ok (.iconst 0, 1) := dk_3 (dk_at dksX1_asks_0 15 rfl rfl)
theorem dX1_asks_16 : decode cX1_asks 16 = .ok (.istore_n 2, 1) := dk_61 (dk_at dksX1_asks_0 16 rfl rfl)
theorem dX1_asks_17 : decode cX1_asks 17 = .ok (.iload_n 2, 1) := dk_28 (dk_at dksX1_asks_0 17 rfl rfl)
theorem dX1_asks_18 : decode cX1_asks 18 = .ok (.aload_n 0, 1) := dk_42 (dk_at dksX1_asks_0 18 rfl rfl)
theorem dX1_asks_19 : decode cX1_asks 19 = .ok (.getfield 89, 3) := dk_180 0 89 (dk_at dksX1_asks_0 19 rfl rfl)
theorem dX1_asks_22 : decode cX1_asks 22 = .ok (.getfield 226, 3) := dk_180 0 226 (dk_at dksX1_asks_1 0 rfl rfl)
theorem dX1_asks_25 : decode cX1_asks 25 = .ok (.if_icmp .ge 61, 3) := dk_162 0 61 (dk_at dksX1_asks_1 3 rfl rfl)
theorem dX1_asks_28 : decode cX1_asks 28 = .ok (.aload_n 0, 1) := dk_42 (dk_at dksX1_asks_1 6 rfl rfl)
theorem dX1_asks_29 : decode cX1_asks 29 = .ok (.getfield 260, 3) := dk_180 1 4 (dk_at dksX1_asks_1 7 rfl rfl)
theorem dX1_asks_32 : decode cX1_asks 32 = .ok (.ifCond .le 54, 3) := dk_158 0 54 (dk_at dksX1_asks_1 10 rfl rfl)
theorem dX1_asks_35 : decode cX1_asks 35 = .ok (.aload_n 0, 1) := dk_42 (dk_at dksX1_asks_1 13 rfl rfl)
theorem dX1_asks_36 : decode cX1_asks 36 = .ok (.getfield 31, 3) := dk_180 0 31 (dk_at dksX1_asks_1 14 rfl rfl)
theorem dX1_asks_39 : decode cX1_asks 39 = .ok (.iload_n 2, 1) := dk_28 (dk_at dksX1_asks_1 17 rfl rfl)
theorem dX1_asks_40 : decode cX1_asks 40 = .ok (.iaload, 1) := dk_46 (dk_at dksX1_asks_1 18 rfl rfl)
theorem dX1_asks_41 : decode cX1_asks 41 = .ok (.aload_n 0, 1) := dk_42 (dk_at dksX1_asks_1 19 rfl rfl)
theorem dX1_asks_42 : decode cX1_asks 42 = .ok (.getfield 260, 3) := dk_180 1 4 (dk_at dksX1_asks_1 20 rfl rfl)
theorem dX1_asks_45 : decode cX1_asks 45 = .ok (.aload_n 0, 1) := dk_42 (dk_at dksX1_asks_1 23 rfl rfl)
theorem dX1_asks_46 : decode cX1_asks 46 = .ok (.getfield 31, 3) := dk_180 0 31 (dk_at dksX1_asks_2 0 rfl rfl)
theorem dX1_asks_49 : decode cX1_asks 49 = .ok (.iload_n 2, 1) := dk_28 (dk_at dksX1_asks_2 3 rfl rfl)
theorem dX1_asks_50 : decode cX1_asks 50 = .ok (.iaload, 1) := dk_46 (dk_at dksX1_asks_2 4 rfl rfl)
theorem dX1_asks_51 : decode cX1_asks 51 = .ok (.isub, 1) := dk_100 (dk_at dksX1_asks_2 5 rfl rfl)
theorem dX1_asks_52 : decode cX1_asks 52 = .ok (.invokestatic 184, 3) := dk_184 0 184 (dk_at dksX1_asks_2 6 rfl rfl)
theorem dX1_asks_55 : decode cX1_asks 55 = .ok (.istore_n 3, 1) := dk_62 (dk_at dksX1_asks_2 9 rfl rfl)
theorem dX1_asks_56 : decode cX1_asks 56 = .ok (.iload_n 1, 1) := dk_27 (dk_at dksX1_asks_2 10 rfl rfl)
theorem dX1_asks_57 : decode cX1_asks 57 = .ok (.bipush (-2), 2) := dk_16 254 (dk_at dksX1_asks_2 11 rfl rfl)
theorem dX1_asks_59 : decode cX1_asks 59 = .ok (.if_icmp .eq 14, 3) := dk_159 0 14 (dk_at dksX1_asks_2 13 rfl rfl)
theorem dX1_asks_62 : decode cX1_asks 62 = .ok (.iload_n 3, 1) := dk_29 (dk_at dksX1_asks_2 16 rfl rfl)
theorem dX1_asks_63 : decode cX1_asks 63 = .ok (.aload_n 0, 1) := dk_42 (dk_at dksX1_asks_2 17 rfl rfl)
theorem dX1_asks_64 : decode cX1_asks 64 = .ok (.getfield 275, 3) := dk_180 1 19 (dk_at dksX1_asks_2 18 rfl rfl)
theorem dX1_asks_67 : decode cX1_asks 67 = .ok (.if_icmp .lt 6, 3) := dk_161 0 6 (dk_at dksX1_asks_2 21 rfl rfl)
theorem dX1_asks_70 : decode cX1_asks 70 = .ok (.goto 10, 3) := dk_167 0 10 (dk_at dksX1_asks_3 0 rfl rfl)
theorem dX1_asks_73 : decode cX1_asks 73 = .ok (.iload_n 2, 1) := dk_28 (dk_at dksX1_asks_3 3 rfl rfl)
theorem dX1_asks_74 : decode cX1_asks 74 = .ok (.istore_n 1, 1) := dk_60 (dk_at dksX1_asks_3 4 rfl rfl)
theorem dX1_asks_75 : decode cX1_asks 75 = .ok (.aload_n 0, 1) := dk_42 (dk_at dksX1_asks_3 5 rfl rfl)
theorem dX1_asks_76 : decode cX1_asks 76 = .ok (.iload_n 3, 1) := dk_29 (dk_at dksX1_asks_3 6 rfl rfl)
theorem dX1_asks_77 : decode cX1_asks 77 = .ok (.putfield 275, 3) := dk_181 1 19 (dk_at dksX1_asks_3 7 rfl rfl)
theorem dX1_asks_80 : decode cX1_asks 80 = .ok (.iinc 2 1, 3) := dk_132 2 1 (dk_at dksX1_asks_3 10 rfl rfl)
theorem dX1_asks_83 : decode cX1_asks 83 = .ok (.goto (-66), 3) := dk_167 255 190 (dk_at dksX1_asks_3 13 rfl rfl)
theorem dX1_asks_86 : decode cX1_asks 86 = .ok (.iload_n 1, 1) := dk_27 (dk_at dksX1_asks_3 16 rfl rfl)
theorem dX1_asks_87 : decode cX1_asks 87 = .ok (.ireturn, 1) := dk_172 (dk_at dksX1_asks_3 17 rfl rfl)
abbrev cX1_askLeaves : ByteArray := prog_1_method_62_code
def yX1_askLeaves : MethodName := ⟨RX1, "askLeaves", "()I"⟩
def dkwX1_askLeaves_1 : List UInt8 := [182, 0, 54, 172]
abbrev dktX1_askLeaves_1 : List UInt8 := dkwX1_askLeaves_1 ++ []
def dkwX1_askLeaves_0 : List UInt8 := [42, 180, 0, 89, 199, 0, 9, 42, 4, 182, 0, 50, 172, 42, 182, 1, 22, 87, 42, 42, 180, 1, 19]
abbrev dktX1_askLeaves_0 : List UInt8 := dkwX1_askLeaves_0 ++ dktX1_askLeaves_1
theorem dksX1_askLeaves_0 : cX1_askLeaves.data.toList.drop 0 = dktX1_askLeaves_0 := by decide +kernel
theorem dksX1_askLeaves_1 : cX1_askLeaves.data.toList.drop 23 = dktX1_askLeaves_1 := dk_seg dksX1_askLeaves_0 23 rfl rfl
theorem dX1_askLeaves_0 : decode cX1_askLeaves 0 = .ok (.aload_n 0, 1) := dk_42 (dk_at dksX1_askLeaves_0 0 rfl rfl)
theorem dX1_askLeaves_1 : decode cX1_askLeaves 1 = .ok (.getfield 89, 3) := dk_180 0 89 (dk_at dksX1_askLeaves_0 1 rfl rfl)
theorem dX1_askLeaves_4 : decode cX1_askLeaves 4 = .ok (.ifnonnull 9, 3) := dk_199 0 9 (dk_at dksX1_askLeaves_0 4 rfl rfl)
theorem dX1_askLeaves_7 : decode cX1_askLeaves 7 = .ok (.aload_n 0, 1) := dk_42 (dk_at dksX1_askLeaves_0 7 rfl rfl)
theorem dX1_askLeaves_8 : decode cX1_askLeaves 8 = .ok (.iconst 1, 1) := dk_4 (dk_at dksX1_askLeaves_0 8 rfl rfl)
theorem dX1_askLeaves_9 : decode cX1_askLeaves 9 = .ok (.invokevirtual 50, 3) := dk_182 0 50 (dk_at dksX1_askLeaves_0 9 rfl rfl)
theorem dX1_askLeaves_12 : decode cX1_askLeaves 12 = .ok (.ireturn, 1) := dk_172 (dk_at dksX1_askLeaves_0 12 rfl rfl)
theorem dX1_askLeaves_13 : decode cX1_askLeaves 13 = .ok (.aload_n 0, 1) := dk_42 (dk_at dksX1_askLeaves_0 13 rfl rfl)
theorem dX1_askLeaves_14 : decode cX1_askLeaves 14 = .ok (.invokevirtual 278, 3) := dk_182 1 22 (dk_at dksX1_askLeaves_0 14 rfl rfl)
theorem dX1_askLeaves_17 : decode cX1_askLeaves 17 = .ok (.pop, 1) := dk_87 (dk_at dksX1_askLeaves_0 17 rfl rfl)
theorem dX1_askLeaves_18 : decode cX1_askLeaves 18 = .ok (.aload_n 0, 1) := dk_42 (dk_at dksX1_askLeaves_0 18 rfl rfl)
theorem dX1_askLeaves_19 : decode cX1_askLeaves 19 = .ok (.aload_n 0, 1) := dk_42 (dk_at dksX1_askLeaves_0 19 rfl rfl)
theorem dX1_askLeaves_20 : decode cX1_askLeaves 20 = .ok (.getfield 275, 3) := dk_180 1 19 (dk_at dksX1_askLeaves_0 20 rfl rfl)
theorem dX1_askLeaves_23 : decode cX1_askLeaves 23 = .ok (.invokevirtual 54, 3) := dk_182 0 54 (dk_at dksX1_askLeaves_1 0 rfl rfl)
theorem dX1_askLeaves_26 : decode cX1_askLeaves 26 = .ok (.ireturn, 1) := dk_172 (dk_at dksX1_askLeaves_1 3 rfl rfl)
abbrev cX1_judge : ByteArray := prog_1_method_63_code
def yX1_judge : MethodName := ⟨RX1, "judge", "()I"⟩
def dkwX1_judge_1 : List UInt8 := [172]
abbrev dktX1_judge_1 : List UInt8 := dkwX1_judge_1 ++ []
def dkwX1_judge_0 : List UInt8 := [42, 180, 0, 89, 199, 0, 11, 42, 4, 182, 0, 50, 167, 0, 12, 42, 42, 3, 182, 1, 13, 182, 0, 54]
abbrev dktX1_judge_0 : List UInt8 := dkwX1_judge_0 ++ dktX1_judge_1
theorem dksX1_judge_0 : cX1_judge.data.toList.drop 0 = dktX1_judge_0 := by decide +kernel
theorem dksX1_judge_1 : cX1_judge.data.toList.drop 24 = dktX1_judge_1 := dk_seg dksX1_judge_0 24 rfl rfl
theorem dX1_judge_0 : decode cX1_judge 0 = .ok (.aload_n 0, 1) := dk_42 (dk_at dksX1_judge_0 0 rfl rfl)
theorem dX1_judge_1 : decode cX1_judge 1 = .ok (.getfield 89, 3) := dk_180 0 89 (dk_at dksX1_judge_0 1 rfl rfl)
theorem dX1_judge_4 : decode cX1_judge 4 = .ok (.ifnonnull 11, 3) := dk_199 0 11 (dk_at dksX1_judge_0 4 rfl rfl)
theorem dX1_judge_7 : decode cX1_judge 7 = .ok (.aload_n 0, 1) := dk_42 (dk_at dksX1_judge_0 7 rfl rfl)
theorem dX1_judge_8 : decode cX1_judge 8 = .ok (.iconst 1, 1) := dk_4 (dk_at dksX1_judge_0 8 rfl rfl)
theorem dX1_judge_9 : decode cX1_judge 9 = .ok (.invokevirtual 50, 3) := dk_182 0 50 (dk_at dksX1_judge_0 9 rfl rfl)
theorem dX1_judge_12 : decode cX1_judge 12 = .ok (.goto 12, 3) := dk_167 0 12 (dk_at dksX1_judge_0 12 rfl rfl)
theorem dX1_judge_15 : decode cX1_judge 15 = .ok (.aload_n 0, 1) := dk_42 (dk_at dksX1_judge_0 15 rfl rfl)
theorem dX1_judge_16 : decode cX1_judge 16 = .ok (.aload_n 0, 1) := dk_42 (dk_at dksX1_judge_0 16 rfl rfl)
theorem dX1_judge_17 : decode cX1_judge 17 = .ok (.iconst 0, 1) := dk_3 (dk_at dksX1_judge_0 17 rfl rfl)
theorem dX1_judge_18 : decode cX1_judge 18 = .ok (.invokevirtual 269, 3) := dk_182 1 13 (dk_at dksX1_judge_0 18 rfl rfl)
theorem dX1_judge_21 : decode cX1_judge 21 = .ok (.invokevirtual 54, 3) := dk_182 0 54 (dk_at dksX1_judge_0 21 rfl rfl)
theorem dX1_judge_24 : decode cX1_judge 24 = .ok (.ireturn, 1) := dk_172 (dk_at dksX1_judge_1 0 rfl rfl)
abbrev cX1_third : ByteArray := prog_1_method_64_code
def yX1_third : MethodName := ⟨RX1, "third", "(I)I"⟩
def dkwX1_third_4 : List UInt8 := [182, 0, 54, 172]
abbrev dktX1_third_4 : List UInt8 := dkwX1_third_4 ++ []
def dkwX1_third_3 : List UInt8 := [3, 182, 1, 0, 100, 184, 0, 214, 167, 0, 4, 3, 96, 61, 132, 3, 1, 167, 255, 187, 42, 28]
abbrev dktX1_third_3 : List UInt8 := dkwX1_third_3 ++ dktX1_third_4
def dkwX1_third_2 : List UInt8 := [58, 4, 28, 25, 4, 180, 0, 250, 27, 160, 0, 26, 25, 4, 180, 1, 3, 42, 27, 25, 4, 180, 0, 253]
abbrev dktX1_third_2 : List UInt8 := dkwX1_third_2 ++ dktX1_third_3
def dkwX1_third_1 : List UInt8 := [180, 0, 245, 182, 0, 116, 162, 0, 61, 42, 180, 0, 89, 180, 0, 245, 29, 182, 0, 119, 192, 0, 248]
abbrev dktX1_third_1 : List UInt8 := dkwX1_third_1 ++ dktX1_third_2
def dkwX1_third_0 : List UInt8 := [42, 27, 182, 0, 162, 154, 0, 9, 42, 4, 182, 0, 50, 172, 3, 61, 3, 62, 29, 42, 180, 0, 89]
abbrev dktX1_third_0 : List UInt8 := dkwX1_third_0 ++ dktX1_third_1
theorem dksX1_third_0 : cX1_third.data.toList.drop 0 = dktX1_third_0 := by decide +kernel
theorem dksX1_third_1 : cX1_third.data.toList.drop 23 = dktX1_third_1 := dk_seg dksX1_third_0 23 rfl rfl
theorem dksX1_third_2 : cX1_third.data.toList.drop 46 = dktX1_third_2 := dk_seg dksX1_third_1 23 rfl rfl
theorem dksX1_third_3 : cX1_third.data.toList.drop 70 = dktX1_third_3 := dk_seg dksX1_third_2 24 rfl rfl
theorem dksX1_third_4 : cX1_third.data.toList.drop 92 = dktX1_third_4 := dk_seg dksX1_third_3 22 rfl rfl
theorem dX1_third_0 : decode cX1_third 0 = .ok (.aload_n 0, 1) := dk_42 (dk_at dksX1_third_0 0 rfl rfl)
theorem dX1_third_1 : decode cX1_third 1 = .ok (.iload_n 1, 1) := dk_27 (dk_at dksX1_third_0 1 rfl rfl)
theorem dX1_third_2 : decode cX1_third 2 = .ok (.invokevirtual 162, 3) := dk_182 0 162 (dk_at dksX1_third_0 2 rfl rfl)
theorem dX1_third_5 : decode cX1_third 5 = .ok (.ifCond .ne 9, 3) := dk_154 0 9 (dk_at dksX1_third_0 5 rfl rfl)
theorem dX1_third_8 : decode cX1_third 8 = .ok (.aload_n 0, 1) := dk_42 (dk_at dksX1_third_0 8 rfl rfl)
theorem dX1_third_9 : decode cX1_third 9 = .ok (.iconst 1, 1) := dk_4 (dk_at dksX1_third_0 9 rfl rfl)
theorem dX1_third_10 : decode cX1_third 10 = .ok (.invokevirtual 50, 3) := dk_182 0 50 (dk_at dksX1_third_0 10 rfl rfl)
theorem dX1_third_13 : decode cX1_third 13 = .ok (.ireturn, 1) := dk_172 (dk_at dksX1_third_0 13 rfl rfl)
theorem dX1_third_14 : decode cX1_third 14 = .ok (.iconst 0, 1) := dk_3 (dk_at dksX1_third_0 14 rfl rfl)
theorem dX1_third_15 : decode cX1_third 15 = .ok (.istore_n 2, 1) := dk_61 (dk_at dksX1_third_0 15 rfl rfl)
theorem dX1_third_16 : decode cX1_third 16 = .ok (.iconst 0, 1) := dk_3 (dk_at dksX1_third_0 16 rfl rfl)
theorem dX1_third_17 : decode cX1_third 17 = .ok (.istore_n 3, 1) := dk_62 (dk_at dksX1_third_0 17 rfl rfl)
theorem dX1_third_18 : decode cX1_third 18 = .ok (.iload_n 3, 1) := dk_29 (dk_at dksX1_third_0 18 rfl rfl)
theorem dX1_third_19 : decode cX1_third 19 = .ok (.aload_n 0, 1) := dk_42 (dk_at dksX1_third_0 19 rfl rfl)
theorem dX1_third_20 : decode cX1_third 20 = .ok (.getfield 89, 3) := dk_180 0 89 (dk_at dksX1_third_0 20 rfl rfl)
theorem dX1_third_23 : decode cX1_third 23 = .ok (.getfield 245, 3) := dk_180 0 245 (dk_at dksX1_third_1 0 rfl rfl)
theorem dX1_third_26 : decode cX1_third 26 = .ok (.invokevirtual 116, 3) := dk_182 0 116 (dk_at dksX1_third_1 3 rfl rfl)
theorem dX1_third_29 : decode cX1_third 29 = .ok (.if_icmp .ge 61, 3) := dk_162 0 61 (dk_at dksX1_third_1 6 rfl rfl)
theorem dX1_third_32 : decode cX1_third 32 = .ok (.aload_n 0, 1) := dk_42 (dk_at dksX1_third_1 9 rfl rfl)
theorem dX1_third_33 : decode cX1_third 33 = .ok (.getfield 89, 3) := dk_180 0 89 (dk_at dksX1_third_1 10 rfl rfl)
theorem dX1_third_36 : decode cX1_third 36 = .ok (.getfield 245, 3) := dk_180 0 245 (dk_at dksX1_third_1 13 rfl rfl)
theorem dX1_third_39 : decode cX1_third 39 = .ok (.iload_n 3, 1) := dk_29 (dk_at dksX1_third_1 16 rfl rfl)
theorem dX1_third_40 : decode cX1_third 40 = .ok (.invokevirtual 119, 3) := dk_182 0 119 (dk_at dksX1_third_1 17 rfl rfl)
theorem dX1_third_43 : decode cX1_third 43 = .ok (.checkcast 248, 3) := dk_192 0 248 (dk_at dksX1_third_1 20 rfl rfl)
theorem dX1_third_46 : decode cX1_third 46 = .ok (.astore 4, 2) := dk_58 4 (dk_at dksX1_third_2 0 rfl rfl)
theorem dX1_third_48 : decode cX1_third 48 = .ok (.iload_n 2, 1) := dk_28 (dk_at dksX1_third_2 2 rfl rfl)
theorem dX1_third_49 : decode cX1_third 49 = .ok (.aload 4, 2) := dk_25 4 (dk_at dksX1_third_2 3 rfl rfl)
theorem dX1_third_51 : decode cX1_third 51 = .ok (.getfield 250, 3) := dk_180 0 250 (dk_at dksX1_third_2 5 rfl rfl)
theorem dX1_third_54 : decode cX1_third 54 = .ok (.iload_n 1, 1) := dk_27 (dk_at dksX1_third_2 8 rfl rfl)
theorem dX1_third_55 : decode cX1_third 55 = .ok (.if_icmp .ne 26, 3) := dk_160 0 26 (dk_at dksX1_third_2 9 rfl rfl)
theorem dX1_third_58 : decode cX1_third 58 = .ok (.aload 4, 2) := dk_25 4 (dk_at dksX1_third_2 12 rfl rfl)
theorem dX1_third_60 : decode cX1_third 60 = .ok (.getfield 259, 3) := dk_180 1 3 (dk_at dksX1_third_2 14 rfl rfl)
theorem dX1_third_63 : decode cX1_third 63 = .ok (.aload_n 0, 1) := dk_42 (dk_at dksX1_third_2 17 rfl rfl)
theorem dX1_third_64 : decode cX1_third 64 = .ok (.iload_n 1, 1) := dk_27 (dk_at dksX1_third_2 18 rfl rfl)
theorem dX1_third_65 : decode cX1_third 65 = .ok (.aload 4, 2) := dk_25 4 (dk_at dksX1_third_2 19 rfl rfl)
theorem dX1_third_67 : decode cX1_third 67 = .ok (.getfield 253, 3) := dk_180 0 253 (dk_at dksX1_third_2 21 rfl rfl)
theorem dX1_third_70 : decode cX1_third 70 = .ok (.iconst 0, 1) := dk_3 (dk_at dksX1_third_3 0 rfl rfl)
theorem dX1_third_71 : decode cX1_third 71 = .ok (.invokevirtual 256, 3) := dk_182 1 0 (dk_at dksX1_third_3 1 rfl rfl)
theorem dX1_third_74 : decode cX1_third 74 = .ok (.isub, 1) := dk_100 (dk_at dksX1_third_3 4 rfl rfl)
theorem dX1_third_75 : decode cX1_third 75 = .ok (.invokestatic 214, 3) := dk_184 0 214 (dk_at dksX1_third_3 5 rfl rfl)
theorem dX1_third_78 : decode cX1_third 78 = .ok (.goto 4, 3) := dk_167 0 4 (dk_at dksX1_third_3 8 rfl rfl)
theorem dX1_third_81 : decode cX1_third 81 = .ok (.iconst 0, 1) := dk_3 (dk_at dksX1_third_3 11 rfl rfl)
theorem dX1_third_82 : decode cX1_third 82 = .ok (.iadd, 1) := dk_96 (dk_at dksX1_third_3 12 rfl rfl)
theorem dX1_third_83 : decode cX1_third 83 = .ok (.istore_n 2, 1) := dk_61 (dk_at dksX1_third_3 13 rfl rfl)
theorem dX1_third_84 : decode cX1_third 84 = .ok (.iinc 3 1, 3) := dk_132 3 1 (dk_at dksX1_third_3 14 rfl rfl)
theorem dX1_third_87 : decode cX1_third 87 = .ok (.goto (-69), 3) := dk_167 255 187 (dk_at dksX1_third_3 17 rfl rfl)
theorem dX1_third_90 : decode cX1_third 90 = .ok (.aload_n 0, 1) := dk_42 (dk_at dksX1_third_3 20 rfl rfl)
theorem dX1_third_91 : decode cX1_third 91 = .ok (.iload_n 2, 1) := dk_28 (dk_at dksX1_third_3 21 rfl rfl)
theorem dX1_third_92 : decode cX1_third 92 = .ok (.invokevirtual 54, 3) := dk_182 0 54 (dk_at dksX1_third_4 0 rfl rfl)
theorem dX1_third_95 : decode cX1_third 95 = .ok (.ireturn, 1) := dk_172 (dk_at dksX1_third_4 3 rfl rfl)
abbrev cX1_owes : ByteArray := prog_1_method_68_code
def yX1_owes : MethodName := ⟨RX1, "owes", "(II)I"⟩
def dkwX1_owes_1 : List UInt8 := [182, 0, 50, 172]
abbrev dktX1_owes_1 : List UInt8 := dkwX1_owes_1 ++ []
def dkwX1_owes_0 : List UInt8 := [42, 27, 28, 182, 0, 207, 153, 0, 16, 42, 42, 27, 28, 182, 1, 28, 182, 0, 54, 167, 0, 8, 42, 4]
abbrev dktX1_owes_0 : List UInt8 := dkwX1_owes_0 ++ dktX1_owes_1
theorem dksX1_owes_0 : cX1_owes.data.toList.drop 0 = dktX1_owes_0 := by decide +kernel
theorem dksX1_owes_1 : cX1_owes.data.toList.drop 24 = dktX1_owes_1 := dk_seg dksX1_owes_0 24 rfl rfl
theorem dX1_owes_0 : decode cX1_owes 0 = .ok (.aload_n 0, 1) := dk_42 (dk_at dksX1_owes_0 0 rfl rfl)
theorem dX1_owes_1 : decode cX1_owes 1 = .ok (.iload_n 1, 1) := dk_27 (dk_at dksX1_owes_0 1 rfl rfl)
theorem dX1_owes_2 : decode cX1_owes 2 = .ok (.iload_n 2, 1) := dk_28 (dk_at dksX1_owes_0 2 rfl rfl)
theorem dX1_owes_3 : decode cX1_owes 3 = .ok (.invokevirtual 207, 3) := dk_182 0 207 (dk_at dksX1_owes_0 3 rfl rfl)
theorem dX1_owes_6 : decode cX1_owes 6 = .ok (.ifCond .eq 16, 3) := dk_153 0 16 (dk_at dksX1_owes_0 6 rfl rfl)
theorem dX1_owes_9 : decode cX1_owes 9 = .ok (.aload_n 0, 1) := dk_42 (dk_at dksX1_owes_0 9 rfl rfl)
theorem dX1_owes_10 : decode cX1_owes 10 = .ok (.aload_n 0, 1) := dk_42 (dk_at dksX1_owes_0 10 rfl rfl)
theorem dX1_owes_11 : decode cX1_owes 11 = .ok (.iload_n 1, 1) := dk_27 (dk_at dksX1_owes_0 11 rfl rfl)
theorem dX1_owes_12 : decode cX1_owes 12 = .ok (.iload_n 2, 1) := dk_28 (dk_at dksX1_owes_0 12 rfl rfl)
theorem dX1_owes_13 : decode cX1_owes 13 = .ok (.invokevirtual 284, 3) := dk_182 1 28 (dk_at dksX1_owes_0 13 rfl rfl)
theorem dX1_owes_16 : decode cX1_owes 16 = .ok (.invokevirtual 54, 3) := dk_182 0 54 (dk_at dksX1_owes_0 16 rfl rfl)
theorem dX1_owes_19 : decode cX1_owes 19 = .ok (.goto 8, 3) := dk_167 0 8 (dk_at dksX1_owes_0 19 rfl rfl)
theorem dX1_owes_22 : decode cX1_owes 22 = .ok (.aload_n 0, 1) := dk_42 (dk_at dksX1_owes_0 22 rfl rfl)
theorem dX1_owes_23 : decode cX1_owes 23 = .ok (.iconst 1, 1) := dk_4 (dk_at dksX1_owes_0 23 rfl rfl)
theorem dX1_owes_24 : decode cX1_owes 24 = .ok (.invokevirtual 50, 3) := dk_182 0 50 (dk_at dksX1_owes_1 0 rfl rfl)
theorem dX1_owes_27 : decode cX1_owes 27 = .ok (.ireturn, 1) := dk_172 (dk_at dksX1_owes_1 3 rfl rfl)
abbrev cX1_owed : ByteArray := prog_1_method_66_code
def yX1_owed : MethodName := ⟨RX1, "owed", "(II)I"⟩
def dkwX1_owed_0 : List UInt8 := [42, 180, 0, 98, 180, 1, 25, 8, 27, 104, 28, 96, 53, 172]
abbrev dktX1_owed_0 : List UInt8 := dkwX1_owed_0 ++ []
theorem dksX1_owed_0 : cX1_owed.data.toList.drop 0 = dktX1_owed_0 := by decide +kernel
theorem dX1_owed_0 : decode cX1_owed 0 = .ok (.aload_n 0, 1) := dk_42 (dk_at dksX1_owed_0 0 rfl rfl)
theorem dX1_owed_1 : decode cX1_owed 1 = .ok (.getfield 98, 3) := dk_180 0 98 (dk_at dksX1_owed_0 1 rfl rfl)
theorem dX1_owed_4 : decode cX1_owed 4 = .ok (.getfield 281, 3) := dk_180 1 25 (dk_at dksX1_owed_0 4 rfl rfl)
theorem dX1_owed_7 : decode cX1_owed 7 = .ok (.iconst 5, 1) := dk_8 (dk_at dksX1_owed_0 7 rfl rfl)
theorem dX1_owed_8 : decode cX1_owed 8 = .ok (.iload_n 1, 1) := dk_27 (dk_at dksX1_owed_0 8 rfl rfl)
theorem dX1_owed_9 : decode cX1_owed 9 = .ok (.imul, 1) := dk_104 (dk_at dksX1_owed_0 9 rfl rfl)
theorem dX1_owed_10 : decode cX1_owed 10 = .ok (.iload_n 2, 1) := dk_28 (dk_at dksX1_owed_0 10 rfl rfl)
theorem dX1_owed_11 : decode cX1_owed 11 = .ok (.iadd, 1) := dk_96 (dk_at dksX1_owed_0 11 rfl rfl)
theorem dX1_owed_12 : decode cX1_owed 12 = .ok (.saload, 1) := dk_53 (dk_at dksX1_owed_0 12 rfl rfl)
theorem dX1_owed_13 : decode cX1_owed 13 = .ok (.ireturn, 1) := dk_172 (dk_at dksX1_owed_0 13 rfl rfl)
abbrev cX1_net : ByteArray := prog_1_method_69_code
def yX1_net : MethodName := ⟨RX1, "net", "(I)I"⟩
def dkwX1_net_1 : List UInt8 := [19, 1, 34, 182, 1, 35, 172]
abbrev dktX1_net_1 : List UInt8 := dkwX1_net_1 ++ []
def dkwX1_net_0 : List UInt8 := [42, 27, 182, 0, 162, 153, 0, 15, 42, 42, 27, 182, 1, 31, 182, 0, 54, 167, 0, 11, 42, 4]
abbrev dktX1_net_0 : List UInt8 := dkwX1_net_0 ++ dktX1_net_1
theorem dksX1_net_0 : cX1_net.data.toList.drop 0 = dktX1_net_0 := by decide +kernel
theorem dksX1_net_1 : cX1_net.data.toList.drop 22 = dktX1_net_1 := dk_seg dksX1_net_0 22 rfl rfl
theorem dX1_net_0 : decode cX1_net 0 = .ok (.aload_n 0, 1) := dk_42 (dk_at dksX1_net_0 0 rfl rfl)
theorem dX1_net_1 : decode cX1_net 1 = .ok (.iload_n 1, 1) := dk_27 (dk_at dksX1_net_0 1 rfl rfl)
theorem dX1_net_2 : decode cX1_net 2 = .ok (.invokevirtual 162, 3) := dk_182 0 162 (dk_at dksX1_net_0 2 rfl rfl)
theorem dX1_net_5 : decode cX1_net 5 = .ok (.ifCond .eq 15, 3) := dk_153 0 15 (dk_at dksX1_net_0 5 rfl rfl)
theorem dX1_net_8 : decode cX1_net 8 = .ok (.aload_n 0, 1) := dk_42 (dk_at dksX1_net_0 8 rfl rfl)
theorem dX1_net_9 : decode cX1_net 9 = .ok (.aload_n 0, 1) := dk_42 (dk_at dksX1_net_0 9 rfl rfl)
theorem dX1_net_10 : decode cX1_net 10 = .ok (.iload_n 1, 1) := dk_27 (dk_at dksX1_net_0 10 rfl rfl)
theorem dX1_net_11 : decode cX1_net 11 = .ok (.invokevirtual 287, 3) := dk_182 1 31 (dk_at dksX1_net_0 11 rfl rfl)
theorem dX1_net_14 : decode cX1_net 14 = .ok (.invokevirtual 54, 3) := dk_182 0 54 (dk_at dksX1_net_0 14 rfl rfl)
theorem dX1_net_17 : decode cX1_net 17 = .ok (.goto 11, 3) := dk_167 0 11 (dk_at dksX1_net_0 17 rfl rfl)
theorem dX1_net_20 : decode cX1_net 20 = .ok (.aload_n 0, 1) := dk_42 (dk_at dksX1_net_0 20 rfl rfl)
theorem dX1_net_21 : decode cX1_net 21 = .ok (.iconst 1, 1) := dk_4 (dk_at dksX1_net_0 21 rfl rfl)
theorem dX1_net_22 : decode cX1_net 22 = .ok (.ldc_w 290, 3) := dk_19 1 34 (dk_at dksX1_net_1 0 rfl rfl)
theorem dX1_net_25 : decode cX1_net 25 = .ok (.invokevirtual 291, 3) := dk_182 1 35 (dk_at dksX1_net_1 3 rfl rfl)
theorem dX1_net_28 : decode cX1_net 28 = .ok (.ireturn, 1) := dk_172 (dk_at dksX1_net_1 6 rfl rfl)
abbrev cX1_netOf : ByteArray := prog_1_method_67_code
def yX1_netOf : MethodName := ⟨RX1, "netOf", "(I)I"⟩
def dkwX1_netOf_1 : List UInt8 := [182, 1, 28, 100, 96, 61, 132, 3, 1, 167, 255, 229, 28, 172]
abbrev dktX1_netOf_1 : List UInt8 := dkwX1_netOf_1 ++ []
def dkwX1_netOf_0 : List UInt8 := [3, 61, 3, 62, 29, 42, 182, 0, 108, 162, 0, 25, 28, 42, 29, 27, 182, 1, 28, 42, 27, 29]
abbrev dktX1_netOf_0 : List UInt8 := dkwX1_netOf_0 ++ dktX1_netOf_1
theorem dksX1_netOf_0 : cX1_netOf.data.toList.drop 0 = dktX1_netOf_0 := by decide +kernel
theorem dksX1_netOf_1 : cX1_netOf.data.toList.drop 22 = dktX1_netOf_1 := dk_seg dksX1_netOf_0 22 rfl rfl
theorem dX1_netOf_0 : decode cX1_netOf 0 = .ok (.iconst 0, 1) := dk_3 (dk_at dksX1_netOf_0 0 rfl rfl)
theorem dX1_netOf_1 : decode cX1_netOf 1 = .ok (.istore_n 2, 1) := dk_61 (dk_at dksX1_netOf_0 1 rfl rfl)
theorem dX1_netOf_2 : decode cX1_netOf 2 = .ok (.iconst 0, 1) := dk_3 (dk_at dksX1_netOf_0 2 rfl rfl)
theorem dX1_netOf_3 : decode cX1_netOf 3 = .ok (.istore_n 3, 1) := dk_62 (dk_at dksX1_netOf_0 3 rfl rfl)
theorem dX1_netOf_4 : decode cX1_netOf 4 = .ok (.iload_n 3, 1) := dk_29 (dk_at dksX1_netOf_0 4 rfl rfl)
theorem dX1_netOf_5 : decode cX1_netOf 5 = .ok (.aload_n 0, 1) := dk_42 (dk_at dksX1_netOf_0 5 rfl rfl)
theorem dX1_netOf_6 : decode cX1_netOf 6 = .ok (.invokevirtual 108, 3) := dk_182 0 108 (dk_at dksX1_netOf_0 6 rfl rfl)
theorem dX1_netOf_9 : decode cX1_netOf 9 = .ok (.if_icmp .ge 25, 3) := dk_162 0 25 (dk_at dksX1_netOf_0 9 rfl rfl)
theorem dX1_netOf_12 : decode cX1_netOf 12 = .ok (.iload_n 2, 1) := dk_28 (dk_at dksX1_netOf_0 12 rfl rfl)
theorem dX1_netOf_13 : decode cX1_netOf 13 = .ok (.aload_n 0, 1) := dk_42 (dk_at dksX1_netOf_0 13 rfl rfl)
theorem dX1_netOf_14 : decode cX1_netOf 14 = .ok (.iload_n 3, 1) := dk_29 (dk_at dksX1_netOf_0 14 rfl rfl)
theorem dX1_netOf_15 : decode cX1_netOf 15 = .ok (.iload_n 1, 1) := dk_27 (dk_at dksX1_netOf_0 15 rfl rfl)
theorem dX1_netOf_16 : decode cX1_netOf 16 = .ok (.invokevirtual 284, 3) := dk_182 1 28 (dk_at dksX1_netOf_0 16 rfl rfl)
theorem dX1_netOf_19 : decode cX1_netOf 19 = .ok (.aload_n 0, 1) := dk_42 (dk_at dksX1_netOf_0 19 rfl rfl)
theorem dX1_netOf_20 : decode cX1_netOf 20 = .ok (.iload_n 1, 1) := dk_27 (dk_at dksX1_netOf_0 20 rfl rfl)
theorem dX1_netOf_21 : decode cX1_netOf 21 = .ok (.iload_n 3, 1) := dk_29 (dk_at dksX1_netOf_0 21 rfl rfl)
theorem dX1_netOf_22 : decode cX1_netOf 22 = .ok (.invokevirtual 284, 3) := dk_182 1 28 (dk_at dksX1_netOf_1 0 rfl rfl)
theorem dX1_netOf_25 : decode cX1_netOf 25 = .ok (.isub, 1) := dk_100 (dk_at dksX1_netOf_1 3 rfl rfl)
theorem dX1_netOf_26 : decode cX1_netOf 26 = .ok (.iadd, 1) := dk_96 (dk_at dksX1_netOf_1 4 rfl rfl)
theorem dX1_netOf_27 : decode cX1_netOf 27 = .ok (.istore_n 2, 1) := dk_61 (dk_at dksX1_netOf_1 5 rfl rfl)
theorem dX1_netOf_28 : decode cX1_netOf 28 = .ok (.iinc 3 1, 3) := dk_132 3 1 (dk_at dksX1_netOf_1 6 rfl rfl)
theorem dX1_netOf_31 : decode cX1_netOf 31 = .ok (.goto (-27), 3) := dk_167 255 229 (dk_at dksX1_netOf_1 9 rfl rfl)
theorem dX1_netOf_34 : decode cX1_netOf 34 = .ok (.iload_n 2, 1) := dk_28 (dk_at dksX1_netOf_1 12 rfl rfl)
theorem dX1_netOf_35 : decode cX1_netOf 35 = .ok (.ireturn, 1) := dk_172 (dk_at dksX1_netOf_1 13 rfl rfl)
abbrev cX1_refusedBy : ByteArray := prog_1_method_8_code
def yX1_refusedBy : MethodName := ⟨RX1, "refusedBy", "(II)I"⟩
def dkwX1_refusedBy_0 : List UInt8 := [42, 27, 182, 0, 50, 87, 28, 172]
abbrev dktX1_refusedBy_0 : List UInt8 := dkwX1_refusedBy_0 ++ []
theorem dksX1_refusedBy_0 : cX1_refusedBy.data.toList.drop 0 = dktX1_refusedBy_0 := by decide +kernel
theorem dX1_refusedBy_0 : decode cX1_refusedBy 0 = .ok (.aload_n 0, 1) := dk_42 (dk_at dksX1_refusedBy_0 0 rfl rfl)
theorem dX1_refusedBy_1 : decode cX1_refusedBy 1 = .ok (.iload_n 1, 1) := dk_27 (dk_at dksX1_refusedBy_0 1 rfl rfl)
theorem dX1_refusedBy_2 : decode cX1_refusedBy 2 = .ok (.invokevirtual 50, 3) := dk_182 0 50 (dk_at dksX1_refusedBy_0 2 rfl rfl)
theorem dX1_refusedBy_5 : decode cX1_refusedBy 5 = .ok (.pop, 1) := dk_87 (dk_at dksX1_refusedBy_0 5 rfl rfl)
theorem dX1_refusedBy_6 : decode cX1_refusedBy 6 = .ok (.iload_n 2, 1) := dk_28 (dk_at dksX1_refusedBy_0 6 rfl rfl)
theorem dX1_refusedBy_7 : decode cX1_refusedBy 7 = .ok (.ireturn, 1) := dk_172 (dk_at dksX1_refusedBy_0 7 rfl rfl)
abbrev cX1_due : ByteArray := prog_1_method_70_code
def yX1_due : MethodName := ⟨RX1, "due", "()I"⟩
def dkwX1_due_2 : List UInt8 := [182, 0, 54, 172]
abbrev dktX1_due_2 : List UInt8 := dkwX1_due_2 ++ []
def dkwX1_due_1 : List UInt8 := [162, 0, 21, 27, 3, 42, 28, 182, 1, 31, 184, 0, 184, 96, 60, 132, 2, 1, 167, 255, 233, 42, 27]
abbrev dktX1_due_1 : List UInt8 := dkwX1_due_1 ++ dktX1_due_2
def dkwX1_due_0 : List UInt8 := [42, 180, 0, 89, 199, 0, 9, 42, 4, 182, 0, 50, 172, 3, 60, 3, 61, 28, 42, 182, 0, 108]
abbrev dktX1_due_0 : List UInt8 := dkwX1_due_0 ++ dktX1_due_1
theorem dksX1_due_0 : cX1_due.data.toList.drop 0 = dktX1_due_0 := by decide +kernel
theorem dksX1_due_1 : cX1_due.data.toList.drop 22 = dktX1_due_1 := dk_seg dksX1_due_0 22 rfl rfl
theorem dksX1_due_2 : cX1_due.data.toList.drop 45 = dktX1_due_2 := dk_seg dksX1_due_1 23 rfl rfl
theorem dX1_due_0 : decode cX1_due 0 = .ok (.aload_n 0, 1) := dk_42 (dk_at dksX1_due_0 0 rfl rfl)
theorem dX1_due_1 : decode cX1_due 1 = .ok (.getfield 89, 3) := dk_180 0 89 (dk_at dksX1_due_0 1 rfl rfl)
theorem dX1_due_4 : decode cX1_due 4 = .ok (.ifnonnull 9, 3) := dk_199 0 9 (dk_at dksX1_due_0 4 rfl rfl)
theorem dX1_due_7 : decode cX1_due 7 = .ok (.aload_n 0, 1) := dk_42 (dk_at dksX1_due_0 7 rfl rfl)
theorem dX1_due_8 : decode cX1_due 8 = .ok (.iconst 1, 1) := dk_4 (dk_at dksX1_due_0 8 rfl rfl)
theorem dX1_due_9 : decode cX1_due 9 = .ok (.invokevirtual 50, 3) := dk_182 0 50 (dk_at dksX1_due_0 9 rfl rfl)
theorem dX1_due_12 : decode cX1_due 12 = .ok (.ireturn, 1) := dk_172 (dk_at dksX1_due_0 12 rfl rfl)
theorem dX1_due_13 : decode cX1_due 13 = .ok (.iconst 0, 1) := dk_3 (dk_at dksX1_due_0 13 rfl rfl)
theorem dX1_due_14 : decode cX1_due 14 = .ok (.istore_n 1, 1) := dk_60 (dk_at dksX1_due_0 14 rfl rfl)
theorem dX1_due_15 : decode cX1_due 15 = .ok (.iconst 0, 1) := dk_3 (dk_at dksX1_due_0 15 rfl rfl)
theorem dX1_due_16 : decode cX1_due 16 = .ok (.istore_n 2, 1) := dk_61 (dk_at dksX1_due_0 16 rfl rfl)
theorem dX1_due_17 : decode cX1_due 17 = .ok (.iload_n 2, 1) := dk_28 (dk_at dksX1_due_0 17 rfl rfl)
theorem dX1_due_18 : decode cX1_due 18 = .ok (.aload_n 0, 1) := dk_42 (dk_at dksX1_due_0 18 rfl rfl)
theorem dX1_due_19 : decode cX1_due 19 = .ok (.invokevirtual 108, 3) := dk_182 0 108 (dk_at dksX1_due_0 19 rfl rfl)
theorem dX1_due_22 : decode cX1_due 22 = .ok (.if_icmp .ge 21, 3) := dk_162 0 21 (dk_at dksX1_due_1 0 rfl rfl)
theorem dX1_due_25 : decode cX1_due 25 = .ok (.iload_n 1, 1) := dk_27 (dk_at dksX1_due_1 3 rfl rfl)
theorem dX1_due_26 : decode cX1_due 26 = .ok (.iconst 0, 1) := dk_3 (dk_at dksX1_due_1 4 rfl rfl)
theorem dX1_due_27 : decode cX1_due 27 = .ok (.aload_n 0, 1) := dk_42 (dk_at dksX1_due_1 5 rfl rfl)
theorem dX1_due_28 : decode cX1_due 28 = .ok (.iload_n 2, 1) := dk_28 (dk_at dksX1_due_1 6 rfl rfl)
theorem dX1_due_29 : decode cX1_due 29 = .ok (.invokevirtual 287, 3) := dk_182 1 31 (dk_at dksX1_due_1 7 rfl rfl)
theorem dX1_due_32 : decode cX1_due 32 = .ok (.invokestatic 184, 3) := dk_184 0 184 (dk_at dksX1_due_1 10 rfl rfl)
theorem dX1_due_35 : decode cX1_due 35 = .ok (.iadd, 1) := dk_96 (dk_at dksX1_due_1 13 rfl rfl)
theorem dX1_due_36 : decode cX1_due 36 = .ok (.istore_n 1, 1) := dk_60 (dk_at dksX1_due_1 14 rfl rfl)
theorem dX1_due_37 : decode cX1_due 37 = .ok (.iinc 2 1, 3) := dk_132 2 1 (dk_at dksX1_due_1 15 rfl rfl)
theorem dX1_due_40 : decode cX1_due 40 = .ok (.goto (-23), 3) := dk_167 255 233 (dk_at dksX1_due_1 18 rfl rfl)
theorem dX1_due_43 : decode cX1_due 43 = .ok (.aload_n 0, 1) := dk_42 (dk_at dksX1_due_1 21 rfl rfl)
theorem dX1_due_44 : decode cX1_due 44 = .ok (.iload_n 1, 1) := dk_27 (dk_at dksX1_due_1 22 rfl rfl)
theorem dX1_due_45 : decode cX1_due 45 = .ok (.invokevirtual 54, 3) := dk_182 0 54 (dk_at dksX1_due_2 0 rfl rfl)
theorem dX1_due_48 : decode cX1_due 48 = .ok (.ireturn, 1) := dk_172 (dk_at dksX1_due_2 3 rfl rfl)
abbrev cX1_creditor : ByteArray := prog_1_method_71_code
def yX1_creditor : MethodName := ⟨RX1, "creditor", "()I"⟩
def dkwX1_creditor_2 : List UInt8 := [42, 27, 182, 0, 54, 172]
abbrev dktX1_creditor_2 : List UInt8 := dkwX1_creditor_2 ++ []
def dkwX1_creditor_1 : List UInt8 := [162, 0, 24, 42, 28, 182, 1, 31, 42, 27, 182, 1, 31, 164, 0, 5, 28, 60, 132, 2, 1, 167, 255, 230]
abbrev dktX1_creditor_1 : List UInt8 := dkwX1_creditor_1 ++ dktX1_creditor_2
def dkwX1_creditor_0 : List UInt8 := [42, 180, 0, 89, 199, 0, 9, 42, 4, 182, 0, 50, 172, 3, 60, 4, 61, 28, 42, 182, 0, 108]
abbrev dktX1_creditor_0 : List UInt8 := dkwX1_creditor_0 ++ dktX1_creditor_1
theorem dksX1_creditor_0 : cX1_creditor.data.toList.drop 0 = dktX1_creditor_0 := by decide +kernel
theorem dksX1_creditor_1 : cX1_creditor.data.toList.drop 22 = dktX1_creditor_1 := dk_seg dksX1_creditor_0 22 rfl rfl
theorem dksX1_creditor_2 : cX1_creditor.data.toList.drop 46 = dktX1_creditor_2 := dk_seg dksX1_creditor_1 24 rfl rfl
theorem dX1_creditor_0 : decode cX1_creditor 0 = .ok (.aload_n 0, 1) := dk_42 (dk_at dksX1_creditor_0 0 rfl rfl)
theorem dX1_creditor_1 : decode cX1_creditor 1 = .ok (.getfield 89, 3) := dk_180 0 89 (dk_at dksX1_creditor_0 1 rfl rfl)
theorem dX1_creditor_4 : decode cX1_creditor 4 = .ok (.ifnonnull 9, 3) := dk_199 0 9 (dk_at dksX1_creditor_0 4 rfl rfl)
theorem dX1_creditor_7 : decode cX1_creditor 7 = .ok (.aload_n 0, 1) := dk_42 (dk_at dksX1_creditor_0 7 rfl rfl)
theorem dX1_creditor_8 : decode cX1_creditor 8 = .ok (.iconst 1, 1) := dk_4 (dk_at dksX1_creditor_0 8 rfl rfl)
theorem dX1_creditor_9 : decode cX1_creditor 9 = .ok (.invokevirtual 50, 3) := dk_182 0 50 (dk_at dksX1_creditor_0 9 rfl rfl)
theorem dX1_creditor_12 : decode cX1_creditor 12 = .ok (.ireturn, 1) := dk_172 (dk_at dksX1_creditor_0 12 rfl rfl)
theorem dX1_creditor_13 : decode cX1_creditor 13 = .ok (.iconst 0, 1) := dk_3 (dk_at dksX1_creditor_0 13 rfl rfl)
theorem dX1_creditor_14 : decode cX1_creditor 14 = .ok (.istore_n 1, 1) := dk_60 (dk_at dksX1_creditor_0 14 rfl rfl)
theorem dX1_creditor_15 : decode cX1_creditor 15 = .ok (.iconst 1, 1) := dk_4 (dk_at dksX1_creditor_0 15 rfl rfl)
theorem dX1_creditor_16 : decode cX1_creditor 16 = .ok (.istore_n 2, 1) := dk_61 (dk_at dksX1_creditor_0 16 rfl rfl)
theorem dX1_creditor_17 : decode cX1_creditor 17 = .ok (.iload_n 2, 1) := dk_28 (dk_at dksX1_creditor_0 17 rfl rfl)
theorem dX1_creditor_18 : decode cX1_creditor 18 = .ok (.aload_n 0, 1) := dk_42 (dk_at dksX1_creditor_0 18 rfl rfl)
theorem dX1_creditor_19 : decode cX1_creditor 19 = .ok (.invokevirtual 108, 3) := dk_182 0 108 (dk_at dksX1_creditor_0 19 rfl rfl)
theorem dX1_creditor_22 : decode cX1_creditor 22 = .ok (.if_icmp .ge 24, 3) := dk_162 0 24 (dk_at dksX1_creditor_1 0 rfl rfl)
theorem dX1_creditor_25 : decode cX1_creditor 25 = .ok (.aload_n 0, 1) := dk_42 (dk_at dksX1_creditor_1 3 rfl rfl)
theorem dX1_creditor_26 : decode cX1_creditor 26 = .ok (.iload_n 2, 1) := dk_28 (dk_at dksX1_creditor_1 4 rfl rfl)
theorem dX1_creditor_27 : decode cX1_creditor 27 = .ok (.invokevirtual 287, 3) := dk_182 1 31 (dk_at dksX1_creditor_1 5 rfl rfl)
theorem dX1_creditor_30 : decode cX1_creditor 30 = .ok (.aload_n 0, 1) := dk_42 (dk_at dksX1_creditor_1 8 rfl rfl)
theorem dX1_creditor_31 : decode cX1_creditor 31 = .ok (.iload_n 1, 1) := dk_27 (dk_at dksX1_creditor_1 9 rfl rfl)
theorem dX1_creditor_32 : decode cX1_creditor 32 = .ok (.invokevirtual 287, 3) := dk_182 1 31 (dk_at dksX1_creditor_1 10 rfl rfl)
theorem dX1_creditor_35 : decode cX1_creditor 35 = .ok (.if_icmp .le 5, 3) := dk_164 0 5 (dk_at dksX1_creditor_1 13 rfl rfl)
theorem dX1_creditor_38 : decode cX1_creditor 38 = .ok (.iload_n 2, 1) := dk_28 (dk_at dksX1_creditor_1 16 rfl rfl)
theorem dX1_creditor_39 : decode cX1_creditor 39 = .ok (.istore_n 1, 1) := dk_60 (dk_at dksX1_creditor_1 17 rfl rfl)
theorem dX1_creditor_40 : decode cX1_creditor 40 = .ok (.iinc 2 1, 3) := dk_132 2 1 (dk_at dksX1_creditor_1 18 rfl rfl)
theorem dX1_creditor_43 : decode cX1_creditor 43 = .ok (.goto (-26), 3) := dk_167 255 230 (dk_at dksX1_creditor_1 21 rfl rfl)
theorem dX1_creditor_46 : decode cX1_creditor 46 = .ok (.aload_n 0, 1) := dk_42 (dk_at dksX1_creditor_2 0 rfl rfl)
theorem dX1_creditor_47 : decode cX1_creditor 47 = .ok (.iload_n 1, 1) := dk_27 (dk_at dksX1_creditor_2 1 rfl rfl)
theorem dX1_creditor_48 : decode cX1_creditor 48 = .ok (.invokevirtual 54, 3) := dk_182 0 54 (dk_at dksX1_creditor_2 2 rfl rfl)
theorem dX1_creditor_51 : decode cX1_creditor 51 = .ok (.ireturn, 1) := dk_172 (dk_at dksX1_creditor_2 5 rfl rfl)
abbrev cX1_payments : ByteArray := prog_1_method_72_code
def yX1_payments : MethodName := ⟨RX1, "payments", "()I"⟩
def dkwX1_payments_7 : List UInt8 := [27, 46, 100, 182, 0, 54, 172]
abbrev dktX1_payments_7 : List UInt8 := dkwX1_payments_7 ++ []
def dkwX1_payments_6 : List UInt8 := [180, 0, 35, 28, 92, 46, 4, 96, 79, 132, 2, 1, 167, 255, 154, 42, 27, 184, 1, 38, 42, 180, 0, 35]
abbrev dktX1_payments_6 : List UInt8 := dkwX1_payments_6 ++ dktX1_payments_7
def dkwX1_payments_5 : List UInt8 := [120, 2, 130, 126, 46, 184, 0, 184, 79, 132, 4, 1, 167, 255, 195, 28, 153, 0, 17, 29, 154, 0, 13, 42]
abbrev dktX1_payments_5 : List UInt8 := dkwX1_payments_5 ++ dktX1_payments_6
def dkwX1_payments_4 : List UInt8 := [182, 1, 31, 96, 62, 42, 180, 0, 35, 28, 42, 180, 0, 35, 28, 46, 42, 180, 0, 35, 28, 4, 21, 4]
abbrev dktX1_payments_4 : List UInt8 := dkwX1_payments_4 ++ dktX1_payments_5
def dkwX1_payments_3 : List UInt8 := [42, 182, 0, 108, 162, 0, 58, 28, 21, 4, 184, 0, 232, 154, 0, 6, 167, 0, 40, 29, 42, 21, 4]
abbrev dktX1_payments_3 : List UInt8 := dkwX1_payments_3 ++ dktX1_payments_4
def dkwX1_payments_2 : List UInt8 := [167, 255, 227, 3, 61, 28, 27, 163, 0, 103, 3, 62, 42, 180, 0, 35, 28, 3, 79, 3, 54, 4, 21, 4]
abbrev dktX1_payments_2 : List UInt8 := dkwX1_payments_2 ++ dktX1_payments_3
def dkwX1_payments_1 : List UInt8 := [162, 0, 27, 27, 42, 28, 182, 1, 31, 153, 0, 9, 4, 28, 120, 167, 0, 4, 3, 128, 60, 132, 2, 1]
abbrev dktX1_payments_1 : List UInt8 := dkwX1_payments_1 ++ dktX1_payments_2
def dkwX1_payments_0 : List UInt8 := [42, 180, 0, 89, 199, 0, 9, 42, 4, 182, 0, 50, 172, 3, 60, 3, 61, 28, 42, 182, 0, 108]
abbrev dktX1_payments_0 : List UInt8 := dkwX1_payments_0 ++ dktX1_payments_1
theorem dksX1_payments_0 : cX1_payments.data.toList.drop 0 = dktX1_payments_0 := by decide +kernel
theorem dksX1_payments_1 : cX1_payments.data.toList.drop 22 = dktX1_payments_1 := dk_seg dksX1_payments_0 22 rfl rfl
theorem dksX1_payments_2 : cX1_payments.data.toList.drop 46 = dktX1_payments_2 := dk_seg dksX1_payments_1 24 rfl rfl
theorem dksX1_payments_3 : cX1_payments.data.toList.drop 70 = dktX1_payments_3 := dk_seg dksX1_payments_2 24 rfl rfl
theorem dksX1_payments_4 : cX1_payments.data.toList.drop 93 = dktX1_payments_4 := dk_seg dksX1_payments_3 23 rfl rfl
theorem dksX1_payments_5 : cX1_payments.data.toList.drop 117 = dktX1_payments_5 := dk_seg dksX1_payments_4 24 rfl rfl
theorem dksX1_payments_6 : cX1_payments.data.toList.drop 141 = dktX1_payments_6 := dk_seg dksX1_payments_5 24 rfl rfl
theorem dksX1_payments_7 : cX1_payments.data.toList.drop 165 = dktX1_payments_7 := dk_seg dksX1_payments_6 24 rfl rfl
theorem dX1_payments_0 : decode cX1_payments 0 = .ok (.aload_n 0, 1) := dk_42 (dk_at dksX1_payments_0 0 rfl rfl)
theorem dX1_payments_1 : decode cX1_payments 1 = .ok (.getfield 89, 3) := dk_180 0 89 (dk_at dksX1_payments_0 1 rfl rfl)
theorem dX1_payments_4 : decode cX1_payments 4 = .ok (.ifnonnull 9, 3) := dk_199 0 9 (dk_at dksX1_payments_0 4 rfl rfl)
theorem dX1_payments_7 : decode cX1_payments 7 = .ok (.aload_n 0, 1) := dk_42 (dk_at dksX1_payments_0 7 rfl rfl)
theorem dX1_payments_8 : decode cX1_payments 8 = .ok (.iconst 1, 1) := dk_4 (dk_at dksX1_payments_0 8 rfl rfl)
theorem dX1_payments_9 : decode cX1_payments 9 = .ok (.invokevirtual 50, 3) := dk_182 0 50 (dk_at dksX1_payments_0 9 rfl rfl)
theorem dX1_payments_12 : decode cX1_payments 12 = .ok (.ireturn, 1) := dk_172 (dk_at dksX1_payments_0 12 rfl rfl)
theorem dX1_payments_13 : decode cX1_payments 13 = .ok (.iconst 0, 1) := dk_3 (dk_at dksX1_payments_0 13 rfl rfl)
theorem dX1_payments_14 : decode cX1_payments 14 = .ok (.istore_n 1, 1) := dk_60 (dk_at dksX1_payments_0 14 rfl rfl)
theorem dX1_payments_15 : decode cX1_payments 15 = .ok (.iconst 0, 1) := dk_3 (dk_at dksX1_payments_0 15 rfl rfl)
theorem dX1_payments_16 : decode cX1_payments 16 = .ok (.istore_n 2, 1) := dk_61 (dk_at dksX1_payments_0 16 rfl rfl)
theorem dX1_payments_17 : decode cX1_payments 17 = .ok (.iload_n 2, 1) := dk_28 (dk_at dksX1_payments_0 17 rfl rfl)
theorem dX1_payments_18 : decode cX1_payments 18 = .ok (.aload_n 0, 1) := dk_42 (dk_at dksX1_payments_0 18 rfl rfl)
theorem dX1_payments_19 : decode cX1_payments 19 = .ok (.invokevirtual 108, 3) := dk_182 0 108 (dk_at dksX1_payments_0 19 rfl rfl)
theorem dX1_payments_22 : decode cX1_payments 22 = .ok (.if_icmp .ge 27, 3) := dk_162 0 27 (dk_at dksX1_payments_1 0 rfl rfl)
theorem dX1_payments_25 : decode cX1_payments 25 = .ok (.iload_n 1, 1) := dk_27 (dk_at dksX1_payments_1 3 rfl rfl)
theorem dX1_payments_26 : decode cX1_payments 26 = .ok (.aload_n 0, 1) := dk_42 (dk_at dksX1_payments_1 4 rfl rfl)
theorem dX1_payments_27 : decode cX1_payments 27 = .ok (.iload_n 2, 1) := dk_28 (dk_at dksX1_payments_1 5 rfl rfl)
theorem dX1_payments_28 : decode cX1_payments 28 = .ok (.invokevirtual 287, 3) := dk_182 1 31 (dk_at dksX1_payments_1 6 rfl rfl)
theorem dX1_payments_31 : decode cX1_payments 31 = .ok (.ifCond .eq 9, 3) := dk_153 0 9 (dk_at dksX1_payments_1 9 rfl rfl)
theorem dX1_payments_34 : decode cX1_payments 34 = .ok (.iconst 1, 1) := dk_4 (dk_at dksX1_payments_1 12 rfl rfl)
theorem dX1_payments_35 : decode cX1_payments 35 = .ok (.iload_n 2, 1) := dk_28 (dk_at dksX1_payments_1 13 rfl rfl)
theorem dX1_payments_36 : decode cX1_payments 36 = .ok (.ishl, 1) := dk_120 (dk_at dksX1_payments_1 14 rfl rfl)
theorem dX1_payments_37 : decode cX1_payments 37 = .ok (.goto 4, 3) := dk_167 0 4 (dk_at dksX1_payments_1 15 rfl rfl)
theorem dX1_payments_40 : decode cX1_payments 40 = .ok (.iconst 0, 1) := dk_3 (dk_at dksX1_payments_1 18 rfl rfl)
theorem dX1_payments_41 : decode cX1_payments 41 = .ok (.ior, 1) := dk_128 (dk_at dksX1_payments_1 19 rfl rfl)
theorem dX1_payments_42 : decode cX1_payments 42 = .ok (.istore_n 1, 1) := dk_60 (dk_at dksX1_payments_1 20 rfl rfl)
theorem dX1_payments_43 : decode cX1_payments 43 = .ok (.iinc 2 1, 3) := dk_132 2 1 (dk_at dksX1_payments_1 21 rfl rfl)
theorem dX1_payments_46 : decode cX1_payments 46 = .ok (.goto (-29), 3) := dk_167 255 227 (dk_at dksX1_payments_2 0 rfl rfl)
theorem dX1_payments_49 : decode cX1_payments 49 = .ok (.iconst 0, 1) := dk_3 (dk_at dksX1_payments_2 3 rfl rfl)
theorem dX1_payments_50 : decode cX1_payments 50 = .ok (.istore_n 2, 1) := dk_61 (dk_at dksX1_payments_2 4 rfl rfl)
theorem dX1_payments_51 : decode cX1_payments 51 = .ok (.iload_n 2, 1) := dk_28 (dk_at dksX1_payments_2 5 rfl rfl)
theorem dX1_payments_52 : decode cX1_payments 52 = .ok (.iload_n 1, 1) := dk_27 (dk_at dksX1_payments_2 6 rfl rfl)
theorem dX1_payments_53 : decode cX1_payments 53 = .ok (.if_icmp .gt 103, 3) := dk_163 0 103 (dk_at dksX1_payments_2 7 rfl rfl)
theorem dX1_payments_56 : decode cX1_payments 56 = .ok (.iconst 0, 1) := dk_3 (dk_at dksX1_payments_2 10 rfl rfl)
theorem dX1_payments_57 : decode cX1_payments 57 = .ok (.istore_n 3, 1) := dk_62 (dk_at dksX1_payments_2 11 rfl rfl)
theorem dX1_payments_58 : decode cX1_payments 58 = .ok (.aload_n 0, 1) := dk_42 (dk_at dksX1_payments_2 12 rfl rfl)
theorem dX1_payments_59 : decode cX1_payments 59 = .ok (.getfield 35, 3) := dk_180 0 35 (dk_at dksX1_payments_2 13 rfl rfl)
theorem dX1_payments_62 : decode cX1_payments 62 = .ok (.iload_n 2, 1) := dk_28 (dk_at dksX1_payments_2 16 rfl rfl)
theorem dX1_payments_63 : decode cX1_payments 63 = .ok (.iconst 0, 1) := dk_3 (dk_at dksX1_payments_2 17 rfl rfl)
theorem dX1_payments_64 : decode cX1_payments 64 = .ok (.iastore, 1) := dk_79 (dk_at dksX1_payments_2 18 rfl rfl)
theorem dX1_payments_65 : decode cX1_payments 65 = .ok (.iconst 0, 1) := dk_3 (dk_at dksX1_payments_2 19 rfl rfl)
theorem dX1_payments_66 : decode cX1_payments 66 = .ok (.istore 4, 2) := dk_54 4 (dk_at dksX1_payments_2 20 rfl rfl)
theorem dX1_payments_68 : decode cX1_payments 68 = .ok (.iload 4, 2) := dk_21 4 (dk_at dksX1_payments_2 22 rfl rfl)
theorem dX1_payments_70 : decode cX1_payments 70 = .ok (.aload_n 0, 1) := dk_42 (dk_at dksX1_payments_3 0 rfl rfl)
theorem dX1_payments_71 : decode cX1_payments 71 = .ok (.invokevirtual 108, 3) := dk_182 0 108 (dk_at dksX1_payments_3 1 rfl rfl)
theorem dX1_payments_74 : decode cX1_payments 74 = .ok (.if_icmp .ge 58, 3) := dk_162 0 58 (dk_at dksX1_payments_3 4 rfl rfl)
theorem dX1_payments_77 : decode cX1_payments 77 = .ok (.iload_n 2, 1) := dk_28 (dk_at dksX1_payments_3 7 rfl rfl)
theorem dX1_payments_78 : decode cX1_payments 78 = .ok (.iload 4, 2) := dk_21 4 (dk_at dksX1_payments_3 8 rfl rfl)
theorem dX1_payments_80 : decode cX1_payments 80 = .ok (.invokestatic 232, 3) := dk_184 0 232 (dk_at dksX1_payments_3 10 rfl rfl)
theorem dX1_payments_83 : decode cX1_payments 83 = .ok (.ifCond .ne 6, 3) := dk_154 0 6 (dk_at dksX1_payments_3 13 rfl rfl)
theorem dX1_payments_86 : decode cX1_payments 86 = .ok (.goto 40, 3) := dk_167 0 40 (dk_at dksX1_payments_3 16 rfl rfl)
theorem dX1_payments_89 : decode cX1_payments 89 = .ok (.iload_n 3, 1) := dk_29 (dk_at dksX1_payments_3 19 rfl rfl)
theorem dX1_payments_90 : decode cX1_payments 90 = .ok (.aload_n 0, 1) := dk_42 (dk_at dksX1_payments_3 20 rfl rfl)
theorem dX1_payments_91 : decode cX1_payments 91 = .ok (.iload 4, 2) := dk_21 4 (dk_at dksX1_payments_3 21 rfl rfl)
theorem dX1_payments_93 : decode cX1_payments 93 = .ok (.invokevirtual 287, 3) := dk_182 1 31 (dk_at dksX1_payments_4 0 rfl rfl)
theorem dX1_payments_96 : decode cX1_payments 96 = .ok (.iadd, 1) := dk_96 (dk_at dksX1_payments_4 3 rfl rfl)
theorem dX1_payments_97 : decode cX1_payments 97 = .ok (.istore_n 3, 1) := dk_62 (dk_at dksX1_payments_4 4 rfl rfl)
theorem dX1_payments_98 : decode cX1_payments 98 = .ok (.aload_n 0, 1) := dk_42 (dk_at dksX1_payments_4 5 rfl rfl)
theorem dX1_payments_99 : decode cX1_payments 99 = .ok (.getfield 35, 3) := dk_180 0 35 (dk_at dksX1_payments_4 6 rfl rfl)
theorem dX1_payments_102 : decode cX1_payments 102 = .ok (.iload_n 2, 1) := dk_28 (dk_at dksX1_payments_4 9 rfl rfl)
theorem dX1_payments_103 : decode cX1_payments 103 = .ok (.aload_n 0, 1) := dk_42 (dk_at dksX1_payments_4 10 rfl rfl)
theorem dX1_payments_104 : decode cX1_payments 104 = .ok (.getfield 35, 3) := dk_180 0 35 (dk_at dksX1_payments_4 11 rfl rfl)
theorem dX1_payments_107 : decode cX1_payments 107 = .ok (.iload_n 2, 1) := dk_28 (dk_at dksX1_payments_4 14 rfl rfl)
theorem dX1_payments_108 : decode cX1_payments 108 = .ok (.iaload, 1) := dk_46 (dk_at dksX1_payments_4 15 rfl rfl)
theorem dX1_payments_109 : decode cX1_payments 109 = .ok (.aload_n 0, 1) := dk_42 (dk_at dksX1_payments_4 16 rfl rfl)
theorem dX1_payments_110 : decode cX1_payments 110 = .ok (.getfield 35, 3) := dk_180 0 35 (dk_at dksX1_payments_4 17 rfl rfl)
theorem dX1_payments_113 : decode cX1_payments 113 = .ok (.iload_n 2, 1) := dk_28 (dk_at dksX1_payments_4 20 rfl rfl)
theorem dX1_payments_114 : decode cX1_payments 114 = .ok (.iconst 1, 1) := dk_4 (dk_at dksX1_payments_4 21 rfl rfl)
theorem dX1_payments_115 : decode cX1_payments 115 = .ok (.iload 4, 2) := dk_21 4 (dk_at dksX1_payments_4 22 rfl rfl)
theorem dX1_payments_117 : decode cX1_payments 117 = .ok (.ishl, 1) := dk_120 (dk_at dksX1_payments_5 0 rfl rfl)
theorem dX1_payments_118 : decode cX1_payments 118 = .ok (.iconst (-1), 1) := dk_2 (dk_at dksX1_payments_5 1 rfl rfl)
theorem dX1_payments_119 : decode cX1_payments 119 = .ok (.ixor, 1) := dk_130 (dk_at dksX1_payments_5 2 rfl rfl)
theorem dX1_payments_120 : decode cX1_payments 120 = .ok (.iand, 1) := dk_126 (dk_at dksX1_payments_5 3 rfl rfl)
theorem dX1_payments_121 : decode cX1_payments 121 = .ok (.iaload, 1) := dk_46 (dk_at dksX1_payments_5 4 rfl rfl)
theorem dX1_payments_122 : decode cX1_payments 122 = .ok (.invokestatic 184, 3) := dk_184 0 184 (dk_at dksX1_payments_5 5 rfl rfl)
theorem dX1_payments_125 : decode cX1_payments 125 = .ok (.iastore, 1) := dk_79 (dk_at dksX1_payments_5 8 rfl rfl)
theorem dX1_payments_126 : decode cX1_payments 126 = .ok (.iinc 4 1, 3) := dk_132 4 1 (dk_at dksX1_payments_5 9 rfl rfl)
theorem dX1_payments_129 : decode cX1_payments 129 = .ok (.goto (-61), 3) := dk_167 255 195 (dk_at dksX1_payments_5 12 rfl rfl)
theorem dX1_payments_132 : decode cX1_payments 132 = .ok (.iload_n 2, 1) := dk_28 (dk_at dksX1_payments_5 15 rfl rfl)
theorem dX1_payments_133 : decode cX1_payments 133 = .ok (.ifCond .eq 17, 3) := dk_153 0 17 (dk_at dksX1_payments_5 16 rfl rfl)
theorem dX1_payments_136 : decode cX1_payments 136 = .ok (.iload_n 3, 1) := dk_29 (dk_at dksX1_payments_5 19 rfl rfl)
theorem dX1_payments_137 : decode cX1_payments 137 = .ok (.ifCond .ne 13, 3) := dk_154 0 13 (dk_at dksX1_payments_5 20 rfl rfl)
theorem dX1_payments_140 : decode cX1_payments 140 = .ok (.aload_n 0, 1) := dk_42 (dk_at dksX1_payments_5 23 rfl rfl)
theorem dX1_payments_141 : decode cX1_payments 141 = .ok (.getfield 35, 3) := dk_180 0 35 (dk_at dksX1_payments_6 0 rfl rfl)
theorem dX1_payments_144 : decode cX1_payments 144 = .ok (.iload_n 2, 1) := dk_28 (dk_at dksX1_payments_6 3 rfl rfl)
theorem dX1_payments_145 : decode cX1_payments 145 = .ok (.dup2, 1) := dk_92 (dk_at dksX1_payments_6 4 rfl rfl)
theorem dX1_payments_146 : decode cX1_payments 146 = .ok (.iaload, 1) := dk_46 (dk_at dksX1_payments_6 5 rfl rfl)
theorem dX1_payments_147 : decode cX1_payments 147 = .ok (.iconst 1, 1) := dk_4 (dk_at dksX1_payments_6 6 rfl rfl)
theorem dX1_payments_148 : decode cX1_payments 148 = .ok (.iadd, 1) := dk_96 (dk_at dksX1_payments_6 7 rfl rfl)
theorem dX1_payments_149 : decode cX1_payments 149 = .ok (.iastore, 1) := dk_79 (dk_at dksX1_payments_6 8 rfl rfl)
theorem dX1_payments_150 : decode cX1_payments 150 = .ok (.iinc 2 1, 3) := dk_132 2 1 (dk_at dksX1_payments_6 9 rfl rfl)
theorem dX1_payments_153 : decode cX1_payments 153 = .ok (.goto (-102), 3) := dk_167 255 154 (dk_at dksX1_payments_6 12 rfl rfl)
theorem dX1_payments_156 : decode cX1_payments 156 = .ok (.aload_n 0, 1) := dk_42 (dk_at dksX1_payments_6 15 rfl rfl)
theorem dX1_payments_157 : decode cX1_payments 157 = .ok (.iload_n 1, 1) := dk_27 (dk_at dksX1_payments_6 16 rfl rfl)
theorem dX1_payments_158 : decode cX1_payments 158 = .ok (.invokestatic 294, 3) := dk_184 1 38 (dk_at dksX1_payments_6 17 rfl rfl)
theorem dX1_payments_161 : decode cX1_payments 161 = .ok (.aload_n 0, 1) := dk_42 (dk_at dksX1_payments_6 20 rfl rfl)
theorem dX1_payments_162 : decode cX1_payments 162 = .ok (.getfield 35, 3) := dk_180 0 35 (dk_at dksX1_payments_6 21 rfl rfl)
theorem dX1_payments_165 : decode cX1_payments 165 = .ok (.iload_n 1, 1) := dk_27 (dk_at dksX1_payments_7 0 rfl rfl)
theorem dX1_payments_166 : decode cX1_payments 166 = .ok (.iaload, 1) := dk_46 (dk_at dksX1_payments_7 1 rfl rfl)
theorem dX1_payments_167 : decode cX1_payments 167 = .ok (.isub, 1) := dk_100 (dk_at dksX1_payments_7 2 rfl rfl)
theorem dX1_payments_168 : decode cX1_payments 168 = .ok (.invokevirtual 54, 3) := dk_182 0 54 (dk_at dksX1_payments_7 3 rfl rfl)
theorem dX1_payments_171 : decode cX1_payments 171 = .ok (.ireturn, 1) := dk_172 (dk_at dksX1_payments_7 6 rfl rfl)
abbrev cX1_bits : ByteArray := prog_1_method_4_code
def yX1_bits : MethodName := ⟨RX1, "bits", "(I)I"⟩
def dkwX1_bits_0 : List UInt8 := [3, 60, 26, 61, 28, 153, 0, 15, 132, 1, 1, 28, 28, 4, 100, 126, 61, 167, 255, 243, 27, 172]
abbrev dktX1_bits_0 : List UInt8 := dkwX1_bits_0 ++ []
theorem dksX1_bits_0 : cX1_bits.data.toList.drop 0 = dktX1_bits_0 := by decide +kernel
theorem dX1_bits_0 : decode cX1_bits 0 = .ok (.iconst 0, 1) := dk_3 (dk_at dksX1_bits_0 0 rfl rfl)
theorem dX1_bits_1 : decode cX1_bits 1 = .ok (.istore_n 1, 1) := dk_60 (dk_at dksX1_bits_0 1 rfl rfl)
theorem dX1_bits_2 : decode cX1_bits 2 = .ok (.iload_n 0, 1) := dk_26 (dk_at dksX1_bits_0 2 rfl rfl)
theorem dX1_bits_3 : decode cX1_bits 3 = .ok (.istore_n 2, 1) := dk_61 (dk_at dksX1_bits_0 3 rfl rfl)
theorem dX1_bits_4 : decode cX1_bits 4 = .ok (.iload_n 2, 1) := dk_28 (dk_at dksX1_bits_0 4 rfl rfl)
theorem dX1_bits_5 : decode cX1_bits 5 = .ok (.ifCond .eq 15, 3) := dk_153 0 15 (dk_at dksX1_bits_0 5 rfl rfl)
theorem dX1_bits_8 : decode cX1_bits 8 = .ok (.iinc 1 1, 3) := dk_132 1 1 (dk_at dksX1_bits_0 8 rfl rfl)
theorem dX1_bits_11 : decode cX1_bits 11 = .ok (.iload_n 2, 1) := dk_28 (dk_at dksX1_bits_0 11 rfl rfl)
theorem dX1_bits_12 : decode cX1_bits 12 = .ok (.iload_n 2, 1) := dk_28 (dk_at dksX1_bits_0 12 rfl rfl)
theorem dX1_bits_13 : decode cX1_bits 13 = .ok (.iconst 1, 1) := dk_4 (dk_at dksX1_bits_0 13 rfl rfl)
theorem dX1_bits_14 : decode cX1_bits 14 = .ok (.isub, 1) := dk_100 (dk_at dksX1_bits_0 14 rfl rfl)
theorem dX1_bits_15 : decode cX1_bits 15 = .ok (.iand, 1) := dk_126 (dk_at dksX1_bits_0 15 rfl rfl)
theorem dX1_bits_16 : decode cX1_bits 16 = .ok (.istore_n 2, 1) := dk_61 (dk_at dksX1_bits_0 16 rfl rfl)
theorem dX1_bits_17 : decode cX1_bits 17 = .ok (.goto (-13), 3) := dk_167 255 243 (dk_at dksX1_bits_0 17 rfl rfl)
theorem dX1_bits_20 : decode cX1_bits 20 = .ok (.iload_n 1, 1) := dk_27 (dk_at dksX1_bits_0 20 rfl rfl)
theorem dX1_bits_21 : decode cX1_bits 21 = .ok (.ireturn, 1) := dk_172 (dk_at dksX1_bits_0 21 rfl rfl)
abbrev cX1_ring : ByteArray := prog_1_method_75_code
def yX1_ring : MethodName := ⟨RX1, "ring", "(I)I"⟩
def dkwX1_ring_1 : List UInt8 := [167, 0, 8, 42, 4, 182, 0, 50, 172]
abbrev dktX1_ring_1 : List UInt8 := dkwX1_ring_1 ++ []
def dkwX1_ring_0 : List UInt8 := [42, 27, 182, 0, 162, 153, 0, 20, 42, 42, 27, 27, 42, 182, 0, 108, 182, 1, 44, 182, 0, 54]
abbrev dktX1_ring_0 : List UInt8 := dkwX1_ring_0 ++ dktX1_ring_1
theorem dksX1_ring_0 : cX1_ring.data.toList.drop 0 = dktX1_ring_0 := by decide +kernel
theorem dksX1_ring_1 : cX1_ring.data.toList.drop 22 = dktX1_ring_1 := dk_seg dksX1_ring_0 22 rfl rfl
theorem dX1_ring_0 : decode cX1_ring 0 = .ok (.aload_n 0, 1) := dk_42 (dk_at dksX1_ring_0 0 rfl rfl)
theorem dX1_ring_1 : decode cX1_ring 1 = .ok (.iload_n 1, 1) := dk_27 (dk_at dksX1_ring_0 1 rfl rfl)
theorem dX1_ring_2 : decode cX1_ring 2 = .ok (.invokevirtual 162, 3) := dk_182 0 162 (dk_at dksX1_ring_0 2 rfl rfl)
theorem dX1_ring_5 : decode cX1_ring 5 = .ok (.ifCond .eq 20, 3) := dk_153 0 20 (dk_at dksX1_ring_0 5 rfl rfl)
theorem dX1_ring_8 : decode cX1_ring 8 = .ok (.aload_n 0, 1) := dk_42 (dk_at dksX1_ring_0 8 rfl rfl)
theorem dX1_ring_9 : decode cX1_ring 9 = .ok (.aload_n 0, 1) := dk_42 (dk_at dksX1_ring_0 9 rfl rfl)
theorem dX1_ring_10 : decode cX1_ring 10 = .ok (.iload_n 1, 1) := dk_27 (dk_at dksX1_ring_0 10 rfl rfl)
theorem dX1_ring_11 : decode cX1_ring 11 = .ok (.iload_n 1, 1) := dk_27 (dk_at dksX1_ring_0 11 rfl rfl)
theorem dX1_ring_12 : decode cX1_ring 12 = .ok (.aload_n 0, 1) := dk_42 (dk_at dksX1_ring_0 12 rfl rfl)
theorem dX1_ring_13 : decode cX1_ring 13 = .ok (.invokevirtual 108, 3) := dk_182 0 108 (dk_at dksX1_ring_0 13 rfl rfl)
theorem dX1_ring_16 : decode cX1_ring 16 = .ok (.invokevirtual 300, 3) := dk_182 1 44 (dk_at dksX1_ring_0 16 rfl rfl)
theorem dX1_ring_19 : decode cX1_ring 19 = .ok (.invokevirtual 54, 3) := dk_182 0 54 (dk_at dksX1_ring_0 19 rfl rfl)
theorem dX1_ring_22 : decode cX1_ring 22 = .ok (.goto 8, 3) := dk_167 0 8 (dk_at dksX1_ring_1 0 rfl rfl)
theorem dX1_ring_25 : decode cX1_ring 25 = .ok (.aload_n 0, 1) := dk_42 (dk_at dksX1_ring_1 3 rfl rfl)
theorem dX1_ring_26 : decode cX1_ring 26 = .ok (.iconst 1, 1) := dk_4 (dk_at dksX1_ring_1 4 rfl rfl)
theorem dX1_ring_27 : decode cX1_ring 27 = .ok (.invokevirtual 50, 3) := dk_182 0 50 (dk_at dksX1_ring_1 5 rfl rfl)
theorem dX1_ring_30 : decode cX1_ring 30 = .ok (.ireturn, 1) := dk_172 (dk_at dksX1_ring_1 8 rfl rfl)
abbrev cX1_debtsTo : ByteArray := prog_1_method_74_code
def yX1_debtsTo : MethodName := ⟨RX1, "debtsTo", "(III)I"⟩
def dkwX1_debtsTo_3 : List UInt8 := [153, 0, 6, 21, 5, 172, 132, 5, 1, 167, 255, 185, 16, 254, 172]
abbrev dktX1_debtsTo_3 : List UInt8 := dkwX1_debtsTo_3 ++ []
def dkwX1_debtsTo_2 : List UInt8 := [167, 0, 4, 3, 128, 54, 6, 132, 7, 1, 167, 255, 219, 21, 6, 54, 4, 21, 4, 28, 184, 0, 232]
abbrev dktX1_debtsTo_2 : List UInt8 := dkwX1_debtsTo_2 ++ dktX1_debtsTo_3
def dkwX1_debtsTo_1 : List UInt8 := [182, 0, 108, 162, 0, 34, 21, 6, 21, 4, 21, 7, 184, 0, 232, 153, 0, 12, 42, 21, 7, 182, 1, 41]
abbrev dktX1_debtsTo_1 : List UInt8 := dkwX1_debtsTo_1 ++ dktX1_debtsTo_2
def dkwX1_debtsTo_0 : List UInt8 := [4, 27, 120, 54, 4, 4, 54, 5, 21, 5, 29, 163, 0, 71, 3, 54, 6, 3, 54, 7, 21, 7, 42]
abbrev dktX1_debtsTo_0 : List UInt8 := dkwX1_debtsTo_0 ++ dktX1_debtsTo_1
theorem dksX1_debtsTo_0 : cX1_debtsTo.data.toList.drop 0 = dktX1_debtsTo_0 := by decide +kernel
theorem dksX1_debtsTo_1 : cX1_debtsTo.data.toList.drop 23 = dktX1_debtsTo_1 := dk_seg dksX1_debtsTo_0 23 rfl rfl
theorem dksX1_debtsTo_2 : cX1_debtsTo.data.toList.drop 47 = dktX1_debtsTo_2 := dk_seg dksX1_debtsTo_1 24 rfl rfl
theorem dksX1_debtsTo_3 : cX1_debtsTo.data.toList.drop 70 = dktX1_debtsTo_3 := dk_seg dksX1_debtsTo_2 23 rfl rfl
theorem dX1_debtsTo_0 : decode cX1_debtsTo 0 = .ok (.iconst 1, 1) := dk_4 (dk_at dksX1_debtsTo_0 0 rfl rfl)
theorem dX1_debtsTo_1 : decode cX1_debtsTo 1 = .ok (.iload_n 1, 1) := dk_27 (dk_at dksX1_debtsTo_0 1 rfl rfl)
theorem dX1_debtsTo_2 : decode cX1_debtsTo 2 = .ok (.ishl, 1) := dk_120 (dk_at dksX1_debtsTo_0 2 rfl rfl)
theorem dX1_debtsTo_3 : decode cX1_debtsTo 3 = .ok (.istore 4, 2) := dk_54 4 (dk_at dksX1_debtsTo_0 3 rfl rfl)
theorem dX1_debtsTo_5 : decode cX1_debtsTo 5 = .ok (.iconst 1, 1) := dk_4 (dk_at dksX1_debtsTo_0 5 rfl rfl)
theorem dX1_debtsTo_6 : decode cX1_debtsTo 6 = .ok (.istore 5, 2) := dk_54 5 (dk_at dksX1_debtsTo_0 6 rfl rfl)
theorem dX1_debtsTo_8 : decode cX1_debtsTo 8 = .ok (.iload 5, 2) := dk_21 5 (dk_at dksX1_debtsTo_0 8 rfl rfl)
theorem dX1_debtsTo_10 : decode cX1_debtsTo 10 = .ok (.iload_n 3, 1) := dk_29 (dk_at dksX1_debtsTo_0 10 rfl rfl)
theorem dX1_debtsTo_11 : decode cX1_debtsTo 11 = .ok (.if_icmp .gt 71, 3) := dk_163 0 71 (dk_at dksX1_debtsTo_0 11 rfl rfl)
theorem dX1_debtsTo_14 : decode cX1_debtsTo 14 = .ok (.iconst 0, 1) := dk_3 (dk_at dksX1_debtsTo_0 14 rfl rfl)
theorem dX1_debtsTo_15 : decode cX1_debtsTo 15 = .ok (.istore 6, 2) := dk_54 6 (dk_at dksX1_debtsTo_0 15 rfl rfl)
theorem dX1_debtsTo_17 : decode cX1_debtsTo 17 = .ok (.iconst 0, 1) := dk_3 (dk_at dksX1_debtsTo_0 17 rfl rfl)
theorem dX1_debtsTo_18 : decode cX1_debtsTo 18 = .ok (.istore 7, 2) := dk_54 7 (dk_at dksX1_debtsTo_0 18 rfl rfl)
theorem dX1_debtsTo_20 : decode cX1_debtsTo 20 = .ok (.iload 7, 2) := dk_21 7 (dk_at dksX1_debtsTo_0 20 rfl rfl)
theorem dX1_debtsTo_22 : decode cX1_debtsTo 22 = .ok (.aload_n 0, 1) := dk_42 (dk_at dksX1_debtsTo_0 22 rfl rfl)
theorem dX1_debtsTo_23 : decode cX1_debtsTo 23 = .ok (.invokevirtual 108, 3) := dk_182 0 108 (dk_at dksX1_debtsTo_1 0 rfl rfl)
theorem dX1_debtsTo_26 : decode cX1_debtsTo 26 = .ok (.if_icmp .ge 34, 3) := dk_162 0 34 (dk_at dksX1_debtsTo_1 3 rfl rfl)
theorem dX1_debtsTo_29 : decode cX1_debtsTo 29 = .ok (.iload 6, 2) := dk_21 6 (dk_at dksX1_debtsTo_1 6 rfl rfl)
theorem dX1_debtsTo_31 : decode cX1_debtsTo 31 = .ok (.iload 4, 2) := dk_21 4 (dk_at dksX1_debtsTo_1 8 rfl rfl)
theorem dX1_debtsTo_33 : decode cX1_debtsTo 33 = .ok (.iload 7, 2) := dk_21 7 (dk_at dksX1_debtsTo_1 10 rfl rfl)
theorem dX1_debtsTo_35 : decode cX1_debtsTo 35 = .ok (.invokestatic 232, 3) := dk_184 0 232 (dk_at dksX1_debtsTo_1 12 rfl rfl)
theorem dX1_debtsTo_38 : decode cX1_debtsTo 38 = .ok (.ifCond .eq 12, 3) := dk_153 0 12 (dk_at dksX1_debtsTo_1 15 rfl rfl)
theorem dX1_debtsTo_41 : decode cX1_debtsTo 41 = .ok (.aload_n 0, 1) := dk_42 (dk_at dksX1_debtsTo_1 18 rfl rfl)
theorem dX1_debtsTo_42 : decode cX1_debtsTo 42 = .ok (.iload 7, 2) := dk_21 7 (dk_at dksX1_debtsTo_1 19 rfl rfl)
theorem dX1_debtsTo_44 : decode cX1_debtsTo 44 = .ok (.invokevirtual 297, 3) := dk_182 1 41 (dk_at dksX1_debtsTo_1 21 rfl rfl)
theorem dX1_debtsTo_47 : decode cX1_debtsTo 47 = .ok (.goto 4, 3) := dk_167 0 4 (dk_at dksX1_debtsTo_2 0 rfl rfl)
theorem dX1_debtsTo_50 : decode cX1_debtsTo 50 = .ok (.iconst 0, 1) := dk_3 (dk_at dksX1_debtsTo_2 3 rfl rfl)
theorem dX1_debtsTo_51 : decode cX1_debtsTo 51 = .ok (.ior, 1) := dk_128 (dk_at dksX1_debtsTo_2 4 rfl rfl)
theorem dX1_debtsTo_52 : decode cX1_debtsTo 52 = .ok (.istore 6, 2) := dk_54 6 (dk_at dksX1_debtsTo_2 5 rfl rfl)
theorem dX1_debtsTo_54 : decode cX1_debtsTo 54 = .ok (.iinc 7 1, 3) := dk_132 7 1 (dk_at dksX1_debtsTo_2 7 rfl rfl)
theorem dX1_debtsTo_57 : decode cX1_debtsTo 57 = .ok (.goto (-37), 3) := dk_167 255 219 (dk_at dksX1_debtsTo_2 10 rfl rfl)
theorem dX1_debtsTo_60 : decode cX1_debtsTo 60 = .ok (.iload 6, 2) := dk_21 6 (dk_at dksX1_debtsTo_2 13 rfl rfl)
theorem dX1_debtsTo_62 : decode cX1_debtsTo 62 = .ok (.istore 4, 2) := dk_54 4 (dk_at dksX1_debtsTo_2 15 rfl rfl)
theorem dX1_debtsTo_64 : decode cX1_debtsTo 64 = .ok (.iload 4, 2) := dk_21 4 (dk_at dksX1_debtsTo_2 17 rfl rfl)
theorem dX1_debtsTo_66 : decode cX1_debtsTo 66 = .ok (.iload_n 2, 1) := dk_28 (dk_at dksX1_debtsTo_2 19 rfl rfl)
theorem dX1_debtsTo_67 : decode cX1_debtsTo 67 = .ok (.invokestatic 232, 3) := dk_184 0 232 (dk_at dksX1_debtsTo_2 20 rfl rfl)
theorem dX1_debtsTo_70 : decode cX1_debtsTo 70 = .ok (.ifCond .eq 6, 3) := dk_153 0 6 (dk_at dksX1_debtsTo_3 0 rfl rfl)
theorem dX1_debtsTo_73 : decode cX1_debtsTo 73 = .ok (.iload 5, 2) := dk_21 5 (dk_at dksX1_debtsTo_3 3 rfl rfl)
theorem dX1_debtsTo_75 : decode cX1_debtsTo 75 = .ok (.ireturn, 1) := dk_172 (dk_at dksX1_debtsTo_3 5 rfl rfl)
theorem dX1_debtsTo_76 : decode cX1_debtsTo 76 = .ok (.iinc 5 1, 3) := dk_132 5 1 (dk_at dksX1_debtsTo_3 6 rfl rfl)
theorem dX1_debtsTo_79 : decode cX1_debtsTo 79 = .ok (.goto (-71), 3) := dk_167 255 185 (dk_at dksX1_debtsTo_3 9 rfl rfl)
theorem dX1_debtsTo_82 : decode cX1_debtsTo 82 = .ok (.bipush (-2), 2) := dk_16 254 (dk_at dksX1_debtsTo_3 12 rfl rfl)
theorem dX1_debtsTo_84 : decode cX1_debtsTo 84 = .ok (.ireturn, 1) := dk_172 (dk_at dksX1_debtsTo_3 14 rfl rfl)
abbrev cX1_owedBy : ByteArray := prog_1_method_73_code
def yX1_owedBy : MethodName := ⟨RX1, "owedBy", "(I)I"⟩
def dkwX1_owedBy_1 : List UInt8 := [120, 167, 0, 4, 3, 128, 61, 132, 3, 1, 167, 255, 226, 28, 172]
abbrev dktX1_owedBy_1 : List UInt8 := dkwX1_owedBy_1 ++ []
def dkwX1_owedBy_0 : List UInt8 := [3, 61, 3, 62, 29, 42, 182, 0, 108, 162, 0, 28, 28, 42, 27, 29, 182, 1, 28, 158, 0, 9, 4, 29]
abbrev dktX1_owedBy_0 : List UInt8 := dkwX1_owedBy_0 ++ dktX1_owedBy_1
theorem dksX1_owedBy_0 : cX1_owedBy.data.toList.drop 0 = dktX1_owedBy_0 := by decide +kernel
theorem dksX1_owedBy_1 : cX1_owedBy.data.toList.drop 24 = dktX1_owedBy_1 := dk_seg dksX1_owedBy_0 24 rfl rfl
theorem dX1_owedBy_0 : decode cX1_owedBy 0 = .ok (.iconst 0, 1) := dk_3 (dk_at dksX1_owedBy_0 0 rfl rfl)
theorem dX1_owedBy_1 : decode cX1_owedBy 1 = .ok (.istore_n 2, 1) := dk_61 (dk_at dksX1_owedBy_0 1 rfl rfl)
theorem dX1_owedBy_2 : decode cX1_owedBy 2 = .ok (.iconst 0, 1) := dk_3 (dk_at dksX1_owedBy_0 2 rfl rfl)
theorem dX1_owedBy_3 : decode cX1_owedBy 3 = .ok (.istore_n 3, 1) := dk_62 (dk_at dksX1_owedBy_0 3 rfl rfl)
theorem dX1_owedBy_4 : decode cX1_owedBy 4 = .ok (.iload_n 3, 1) := dk_29 (dk_at dksX1_owedBy_0 4 rfl rfl)
theorem dX1_owedBy_5 : decode cX1_owedBy 5 = .ok (.aload_n 0, 1) := dk_42 (dk_at dksX1_owedBy_0 5 rfl rfl)
theorem dX1_owedBy_6 : decode cX1_owedBy 6 = .ok (.invokevirtual 108, 3) := dk_182 0 108 (dk_at dksX1_owedBy_0 6 rfl rfl)
theorem dX1_owedBy_9 : decode cX1_owedBy 9 = .ok (.if_icmp .ge 28, 3) := dk_162 0 28 (dk_at dksX1_owedBy_0 9 rfl rfl)
theorem dX1_owedBy_12 : decode cX1_owedBy 12 = .ok (.iload_n 2, 1) := dk_28 (dk_at dksX1_owedBy_0 12 rfl rfl)
theorem dX1_owedBy_13 : decode cX1_owedBy 13 = .ok (.aload_n 0, 1) := dk_42 (dk_at dksX1_owedBy_0 13 rfl rfl)
theorem dX1_owedBy_14 : decode cX1_owedBy 14 = .ok (.iload_n 1, 1) := dk_27 (dk_at dksX1_owedBy_0 14 rfl rfl)
theorem dX1_owedBy_15 : decode cX1_owedBy 15 = .ok (.iload_n 3, 1) := dk_29 (dk_at dksX1_owedBy_0 15 rfl rfl)
theorem dX1_owedBy_16 : decode cX1_owedBy 16 = .ok (.invokevirtual 284, 3) := dk_182 1 28 (dk_at dksX1_owedBy_0 16 rfl rfl)
theorem dX1_owedBy_19 : decode cX1_owedBy 19 = .ok (.ifCond .le 9, 3) := dk_158 0 9 (dk_at dksX1_owedBy_0 19 rfl rfl)
theorem dX1_owedBy_22 : decode cX1_owedBy 22 = .ok (.iconst 1, 1) := dk_4 (dk_at dksX1_owedBy_0 22 rfl rfl)
theorem dX1_owedBy_23 : decode cX1_owedBy 23 = .ok (.iload_n 3, 1) := dk_29 (dk_at dksX1_owedBy_0 23 rfl rfl)
theorem dX1_owedBy_24 : decode cX1_owedBy 24 = .ok (.ishl, 1) := dk_120 (dk_at dksX1_owedBy_1 0 rfl rfl)
theorem dX1_owedBy_25 : decode cX1_owedBy 25 = .ok (.goto 4, 3) := dk_167 0 4 (dk_at dksX1_owedBy_1 1 rfl rfl)
theorem dX1_owedBy_28 : decode cX1_owedBy 28 = .ok (.iconst 0, 1) := dk_3 (dk_at dksX1_owedBy_1 4 rfl rfl)
theorem dX1_owedBy_29 : decode cX1_owedBy 29 = .ok (.ior, 1) := dk_128 (dk_at dksX1_owedBy_1 5 rfl rfl)
theorem dX1_owedBy_30 : decode cX1_owedBy 30 = .ok (.istore_n 2, 1) := dk_61 (dk_at dksX1_owedBy_1 6 rfl rfl)
theorem dX1_owedBy_31 : decode cX1_owedBy 31 = .ok (.iinc 3 1, 3) := dk_132 3 1 (dk_at dksX1_owedBy_1 7 rfl rfl)
theorem dX1_owedBy_34 : decode cX1_owedBy 34 = .ok (.goto (-30), 3) := dk_167 255 226 (dk_at dksX1_owedBy_1 10 rfl rfl)
theorem dX1_owedBy_37 : decode cX1_owedBy 37 = .ok (.iload_n 2, 1) := dk_28 (dk_at dksX1_owedBy_1 13 rfl rfl)
theorem dX1_owedBy_38 : decode cX1_owedBy 38 = .ok (.ireturn, 1) := dk_172 (dk_at dksX1_owedBy_1 14 rfl rfl)
abbrev cX1_ringAt : ByteArray := prog_1_method_76_code
def yX1_ringAt : MethodName := ⟨RX1, "ringAt", "(II)I"⟩
def dkwX1_ringAt_4 : List UInt8 := [54, 4, 132, 5, 1, 167, 255, 205, 42, 21, 4, 182, 0, 54, 172]
abbrev dktX1_ringAt_4 : List UInt8 := dkwX1_ringAt_4 ++ []
def dkwX1_ringAt_3 : List UInt8 := [153, 0, 15, 42, 21, 6, 27, 29, 182, 1, 44, 29, 159, 0, 9, 132, 6, 1, 167, 255, 227, 21, 6]
abbrev dktX1_ringAt_3 : List UInt8 := dkwX1_ringAt_3 ++ dktX1_ringAt_4
def dkwX1_ringAt_2 : List UInt8 := [21, 5, 28, 162, 0, 51, 132, 3, 255, 3, 54, 6, 42, 21, 4, 182, 1, 41, 21, 6, 184, 0, 232]
abbrev dktX1_ringAt_2 : List UInt8 := dkwX1_ringAt_2 ++ dktX1_ringAt_3
def dkwX1_ringAt_1 : List UInt8 := [62, 28, 3, 29, 4, 100, 184, 0, 64, 154, 0, 9, 42, 4, 182, 0, 50, 172, 27, 54, 4, 3, 54, 5]
abbrev dktX1_ringAt_1 : List UInt8 := dkwX1_ringAt_1 ++ dktX1_ringAt_2
def dkwX1_ringAt_0 : List UInt8 := [42, 27, 182, 0, 162, 154, 0, 9, 42, 4, 182, 0, 50, 172, 42, 27, 27, 42, 182, 0, 108, 182, 1, 44]
abbrev dktX1_ringAt_0 : List UInt8 := dkwX1_ringAt_0 ++ dktX1_ringAt_1
theorem dksX1_ringAt_0 : cX1_ringAt.data.toList.drop 0 = dktX1_ringAt_0 := by decide +kernel
theorem dksX1_ringAt_1 : cX1_ringAt.data.toList.drop 24 = dktX1_ringAt_1 := dk_seg dksX1_ringAt_0 24 rfl rfl
theorem dksX1_ringAt_2 : cX1_ringAt.data.toList.drop 48 = dktX1_ringAt_2 := dk_seg dksX1_ringAt_1 24 rfl rfl
theorem dksX1_ringAt_3 : cX1_ringAt.data.toList.drop 71 = dktX1_ringAt_3 := dk_seg dksX1_ringAt_2 23 rfl rfl
theorem dksX1_ringAt_4 : cX1_ringAt.data.toList.drop 94 = dktX1_ringAt_4 := dk_seg dksX1_ringAt_3 23 rfl rfl
theorem dX1_ringAt_0 : decode cX1_ringAt 0 = .ok (.aload_n 0, 1) := dk_42 (dk_at dksX1_ringAt_0 0 rfl rfl)
theorem dX1_ringAt_1 : decode cX1_ringAt 1 = .ok (.iload_n 1, 1) := dk_27 (dk_at dksX1_ringAt_0 1 rfl rfl)
theorem dX1_ringAt_2 : decode cX1_ringAt 2 = .ok (.invokevirtual 162, 3) := dk_182 0 162 (dk_at dksX1_ringAt_0 2 rfl rfl)
theorem dX1_ringAt_5 : decode cX1_ringAt 5 = .ok (.ifCond .ne 9, 3) := dk_154 0 9 (dk_at dksX1_ringAt_0 5 rfl rfl)
theorem dX1_ringAt_8 : decode cX1_ringAt 8 = .ok (.aload_n 0, 1) := dk_42 (dk_at dksX1_ringAt_0 8 rfl rfl)
theorem dX1_ringAt_9 : decode cX1_ringAt 9 = .ok (.iconst 1, 1) := dk_4 (dk_at dksX1_ringAt_0 9 rfl rfl)
theorem dX1_ringAt_10 : decode cX1_ringAt 10 = .ok (.invokevirtual 50, 3) := dk_182 0 50 (dk_at dksX1_ringAt_0 10 rfl rfl)
theorem dX1_ringAt_13 : decode cX1_ringAt 13 = .ok (.ireturn, 1) := dk_172 (dk_at dksX1_ringAt_0 13 rfl rfl)
theorem dX1_ringAt_14 : decode cX1_ringAt 14 = .ok (.aload_n 0, 1) := dk_42 (dk_at dksX1_ringAt_0 14 rfl rfl)
theorem dX1_ringAt_15 : decode cX1_ringAt 15 = .ok (.iload_n 1, 1) := dk_27 (dk_at dksX1_ringAt_0 15 rfl rfl)
theorem dX1_ringAt_16 : decode cX1_ringAt 16 = .ok (.iload_n 1, 1) := dk_27 (dk_at dksX1_ringAt_0 16 rfl rfl)
theorem dX1_ringAt_17 : decode cX1_ringAt 17 = .ok (.aload_n 0, 1) := dk_42 (dk_at dksX1_ringAt_0 17 rfl rfl)
theorem dX1_ringAt_18 : decode cX1_ringAt 18 = .ok (.invokevirtual 108, 3) := dk_182 0 108 (dk_at dksX1_ringAt_0 18 rfl rfl)
theorem dX1_ringAt_21 : decode cX1_ringAt 21 = .ok (.invokevirtual 300, 3) := dk_182 1 44 (dk_at dksX1_ringAt_0 21 rfl rfl)
theorem dX1_ringAt_24 : decode cX1_ringAt 24 = .ok (.istore_n 3, 1) := dk_62 (dk_at dksX1_ringAt_1 0 rfl rfl)
theorem dX1_ringAt_25 : decode cX1_ringAt 25 = .ok (.iload_n 2, 1) := dk_28 (dk_at dksX1_ringAt_1 1 rfl rfl)
theorem dX1_ringAt_26 : decode cX1_ringAt 26 = .ok (.iconst 0, 1) := dk_3 (dk_at dksX1_ringAt_1 2 rfl rfl)
theorem dX1_ringAt_27 : decode cX1_ringAt 27 = .ok (.iload_n 3, 1) := dk_29 (dk_at dksX1_ringAt_1 3 rfl rfl)
theorem dX1_ringAt_28 : decode cX1_ringAt 28 = .ok (.iconst 1, 1) := dk_4 (dk_at dksX1_ringAt_1 4 rfl rfl)
theorem dX1_ringAt_29 : decode cX1_ringAt 29 = .ok (.isub, 1) := dk_100 (dk_at dksX1_ringAt_1 5 rfl rfl)
theorem dX1_ringAt_30 : decode cX1_ringAt 30 = .ok (.invokestatic 64, 3) := dk_184 0 64 (dk_at dksX1_ringAt_1 6 rfl rfl)
theorem dX1_ringAt_33 : decode cX1_ringAt 33 = .ok (.ifCond .ne 9, 3) := dk_154 0 9 (dk_at dksX1_ringAt_1 9 rfl rfl)
theorem dX1_ringAt_36 : decode cX1_ringAt 36 = .ok (.aload_n 0, 1) := dk_42 (dk_at dksX1_ringAt_1 12 rfl rfl)
theorem dX1_ringAt_37 : decode cX1_ringAt 37 = .ok (.iconst 1, 1) := dk_4 (dk_at dksX1_ringAt_1 13 rfl rfl)
theorem dX1_ringAt_38 : decode cX1_ringAt 38 = .ok (.invokevirtual 50, 3) := dk_182 0 50 (dk_at dksX1_ringAt_1 14 rfl rfl)
theorem dX1_ringAt_41 : decode cX1_ringAt 41 = .ok (.ireturn, 1) := dk_172 (dk_at dksX1_ringAt_1 17 rfl rfl)
theorem dX1_ringAt_42 : decode cX1_ringAt 42 = .ok (.iload_n 1, 1) := dk_27 (dk_at dksX1_ringAt_1 18 rfl rfl)
theorem dX1_ringAt_43 : decode cX1_ringAt 43 = .ok (.istore 4, 2) := dk_54 4 (dk_at dksX1_ringAt_1 19 rfl rfl)
theorem dX1_ringAt_45 : decode cX1_ringAt 45 = .ok (.iconst 0, 1) := dk_3 (dk_at dksX1_ringAt_1 21 rfl rfl)
theorem dX1_ringAt_46 : decode cX1_ringAt 46 = .ok (.istore 5, 2) := dk_54 5 (dk_at dksX1_ringAt_1 22 rfl rfl)
theorem dX1_ringAt_48 : decode cX1_ringAt 48 = .ok (.iload 5, 2) := dk_21 5 (dk_at dksX1_ringAt_2 0 rfl rfl)
theorem dX1_ringAt_50 : decode cX1_ringAt 50 = .ok (.iload_n 2, 1) := dk_28 (dk_at dksX1_ringAt_2 2 rfl rfl)
theorem dX1_ringAt_51 : decode cX1_ringAt 51 = .ok (.if_icmp .ge 51, 3) := dk_162 0 51 (dk_at dksX1_ringAt_2 3 rfl rfl)
theorem dX1_ringAt_54 : decode cX1_ringAt 54 = .ok (.iinc 3 (-1), 3) := dk_132 3 255 (dk_at dksX1_ringAt_2 6 rfl rfl)
theorem dX1_ringAt_57 : decode cX1_ringAt 57 = .ok (.iconst 0, 1) := dk_3 (dk_at dksX1_ringAt_2 9 rfl rfl)
theorem dX1_ringAt_58 : decode cX1_ringAt 58 = .ok (.istore 6, 2) := dk_54 6 (dk_at dksX1_ringAt_2 10 rfl rfl)
theorem dX1_ringAt_60 : decode cX1_ringAt 60 = .ok (.aload_n 0, 1) := dk_42 (dk_at dksX1_ringAt_2 12 rfl rfl)
theorem dX1_ringAt_61 : decode cX1_ringAt 61 = .ok (.iload 4, 2) := dk_21 4 (dk_at dksX1_ringAt_2 13 rfl rfl)
theorem dX1_ringAt_63 : decode cX1_ringAt 63 = .ok (.invokevirtual 297, 3) := dk_182 1 41 (dk_at dksX1_ringAt_2 15 rfl rfl)
theorem dX1_ringAt_66 : decode cX1_ringAt 66 = .ok (.iload 6, 2) := dk_21 6 (dk_at dksX1_ringAt_2 18 rfl rfl)
theorem dX1_ringAt_68 : decode cX1_ringAt 68 = .ok (.invokestatic 232, 3) := dk_184 0 232 (dk_at dksX1_ringAt_2 20 rfl rfl)
theorem dX1_ringAt_71 : decode cX1_ringAt 71 = .ok (.ifCond .eq 15, 3) := dk_153 0 15 (dk_at dksX1_ringAt_3 0 rfl rfl)
theorem dX1_ringAt_74 : decode cX1_ringAt 74 = .ok (.aload_n 0, 1) := dk_42 (dk_at dksX1_ringAt_3 3 rfl rfl)
theorem dX1_ringAt_75 : decode cX1_ringAt 75 = .ok (.iload 6, 2) := dk_21 6 (dk_at dksX1_ringAt_3 4 rfl rfl)
theorem dX1_ringAt_77 : decode cX1_ringAt 77 = .ok (.iload_n 1, 1) := dk_27 (dk_at dksX1_ringAt_3 6 rfl rfl)
theorem dX1_ringAt_78 : decode cX1_ringAt 78 = .ok (.iload_n 3, 1) := dk_29 (dk_at dksX1_ringAt_3 7 rfl rfl)
theorem dX1_ringAt_79 : decode cX1_ringAt 79 = .ok (.invokevirtual 300, 3) := dk_182 1 44 (dk_at dksX1_ringAt_3 8 rfl rfl)
theorem dX1_ringAt_82 : decode cX1_ringAt 82 = .ok (.iload_n 3, 1) := dk_29 (dk_at dksX1_ringAt_3 11 rfl rfl)
theorem dX1_ringAt_83 : decode cX1_ringAt 83 = .ok (.if_icmp .eq 9, 3) := dk_159 0 9 (dk_at dksX1_ringAt_3 12 rfl rfl)
theorem dX1_ringAt_86 : decode cX1_ringAt 86 = .ok (.iinc 6 1, 3) := dk_132 6 1 (dk_at dksX1_ringAt_3 15 rfl rfl)
theorem dX1_ringAt_89 : decode cX1_ringAt 89 = .ok (.goto (-29), 3) := dk_167 255 227 (dk_at dksX1_ringAt_3 18 rfl rfl)
theorem dX1_ringAt_92 : decode cX1_ringAt 92 = .ok (.iload 6, 2) := dk_21 6 (dk_at dksX1_ringAt_3 21 rfl rfl)
theorem dX1_ringAt_94 : decode cX1_ringAt 94 = .ok (.istore 4, 2) := dk_54 4 (dk_at dksX1_ringAt_4 0 rfl rfl)
theorem dX1_ringAt_96 : decode cX1_ringAt 96 = .ok (.iinc 5 1, 3) := dk_132 5 1 (dk_at dksX1_ringAt_4 2 rfl rfl)
theorem dX1_ringAt_99 : decode cX1_ringAt 99 = .ok (.goto (-51), 3) := dk_167 255 205 (dk_at dksX1_ringAt_4 5 rfl rfl)
theorem dX1_ringAt_102 : decode cX1_ringAt 102 = .ok (.aload_n 0, 1) := dk_42 (dk_at dksX1_ringAt_4 8 rfl rfl)
theorem dX1_ringAt_103 : decode cX1_ringAt 103 = .ok (.iload 4, 2) := dk_21 4 (dk_at dksX1_ringAt_4 9 rfl rfl)
theorem dX1_ringAt_105 : decode cX1_ringAt 105 = .ok (.invokevirtual 54, 3) := dk_182 0 54 (dk_at dksX1_ringAt_4 11 rfl rfl)
theorem dX1_ringAt_108 : decode cX1_ringAt 108 = .ok (.ireturn, 1) := dk_172 (dk_at dksX1_ringAt_4 14 rfl rfl)
abbrev cX1_talks : ByteArray := prog_1_method_79_code
def yX1_talks : MethodName := ⟨RX1, "talks", "(IZZZ)I"⟩
def dkwX1_talks_1 : List UInt8 := [21, 4, 153, 0, 12, 27, 29, 28, 184, 1, 50, 167, 0, 9, 27, 28, 29, 184, 1, 50, 182, 0, 54, 172]
abbrev dktX1_talks_1 : List UInt8 := dkwX1_talks_1 ++ []
def dkwX1_talks_0 : List UInt8 := [42, 27, 182, 1, 47, 54, 5, 21, 5, 158, 0, 14, 42, 21, 5, 16, 156, 182, 1, 35, 167, 0, 27, 42]
abbrev dktX1_talks_0 : List UInt8 := dkwX1_talks_0 ++ dktX1_talks_1
theorem dksX1_talks_0 : cX1_talks.data.toList.drop 0 = dktX1_talks_0 := by decide +kernel
theorem dksX1_talks_1 : cX1_talks.data.toList.drop 24 = dktX1_talks_1 := dk_seg dksX1_talks_0 24 rfl rfl
theorem dX1_talks_0 : decode cX1_talks 0 = .ok (.aload_n 0, 1) := dk_42 (dk_at dksX1_talks_0 0 rfl rfl)
theorem dX1_talks_1 : decode cX1_talks 1 = .ok (.iload_n 1, 1) := dk_27 (dk_at dksX1_talks_0 1 rfl rfl)
theorem dX1_talks_2 : decode cX1_talks 2 = .ok (.invokevirtual 303, 3) := dk_182 1 47 (dk_at dksX1_talks_0 2 rfl rfl)
theorem dX1_talks_5 : decode cX1_talks 5 = .ok (.istore 5, 2) := dk_54 5 (dk_at dksX1_talks_0 5 rfl rfl)
theorem dX1_talks_7 : decode cX1_talks 7 = .ok (.iload 5, 2) := dk_21 5 (dk_at dksX1_talks_0 7 rfl rfl)
theorem dX1_talks_9 : decode cX1_talks 9 = .ok (.ifCond .le 14, 3) := dk_158 0 14 (dk_at dksX1_talks_0 9 rfl rfl)
theorem dX1_talks_12 : decode cX1_talks 12 = .ok (.aload_n 0, 1) := dk_42 (dk_at dksX1_talks_0 12 rfl rfl)
theorem dX1_talks_13 : decode cX1_talks 13 = .ok (.iload 5, 2) := dk_21 5 (dk_at dksX1_talks_0 13 rfl rfl)
theorem dX1_talks_15 : decode cX1_talks 15 = .ok (.bipush (-100), 2) := dk_16 156 (dk_at dksX1_talks_0 15 rfl rfl)
theorem dX1_talks_17 : decode cX1_talks 17 = .ok (.invokevirtual 291, 3) := dk_182 1 35 (dk_at dksX1_talks_0 17 rfl rfl)
theorem dX1_talks_20 : decode cX1_talks 20 = .ok (.goto 27, 3) := dk_167 0 27 (dk_at dksX1_talks_0 20 rfl rfl)
theorem dX1_talks_23 : decode cX1_talks 23 = .ok (.aload_n 0, 1) := dk_42 (dk_at dksX1_talks_0 23 rfl rfl)
theorem dX1_talks_24 : decode cX1_talks 24 = .ok (.iload 4, 2) := dk_21 4 (dk_at dksX1_talks_1 0 rfl rfl)
theorem dX1_talks_26 : decode cX1_talks 26 = .ok (.ifCond .eq 12, 3) := dk_153 0 12 (dk_at dksX1_talks_1 2 rfl rfl)
theorem dX1_talks_29 : decode cX1_talks 29 = .ok (.iload_n 1, 1) := dk_27 (dk_at dksX1_talks_1 5 rfl rfl)
theorem dX1_talks_30 : decode cX1_talks 30 = .ok (.iload_n 3, 1) := dk_29 (dk_at dksX1_talks_1 6 rfl rfl)
theorem dX1_talks_31 : decode cX1_talks 31 = .ok (.iload_n 2, 1) := dk_28 (dk_at dksX1_talks_1 7 rfl rfl)
theorem dX1_talks_32 : decode cX1_talks 32 = .ok (.invokestatic 306, 3) := dk_184 1 50 (dk_at dksX1_talks_1 8 rfl rfl)
theorem dX1_talks_35 : decode cX1_talks 35 = .ok (.goto 9, 3) := dk_167 0 9 (dk_at dksX1_talks_1 11 rfl rfl)
theorem dX1_talks_38 : decode cX1_talks 38 = .ok (.iload_n 1, 1) := dk_27 (dk_at dksX1_talks_1 14 rfl rfl)
theorem dX1_talks_39 : decode cX1_talks 39 = .ok (.iload_n 2, 1) := dk_28 (dk_at dksX1_talks_1 15 rfl rfl)
theorem dX1_talks_40 : decode cX1_talks 40 = .ok (.iload_n 3, 1) := dk_29 (dk_at dksX1_talks_1 16 rfl rfl)
theorem dX1_talks_41 : decode cX1_talks 41 = .ok (.invokestatic 306, 3) := dk_184 1 50 (dk_at dksX1_talks_1 17 rfl rfl)
theorem dX1_talks_44 : decode cX1_talks 44 = .ok (.invokevirtual 54, 3) := dk_182 0 54 (dk_at dksX1_talks_1 20 rfl rfl)
theorem dX1_talks_47 : decode cX1_talks 47 = .ok (.ireturn, 1) := dk_172 (dk_at dksX1_talks_1 23 rfl rfl)
abbrev cX1_whyBreath : ByteArray := prog_1_method_78_code
def yX1_whyBreath : MethodName := ⟨RX1, "whyBreath", "(I)I"⟩
def dkwX1_whyBreath_0 : List UInt8 := [42, 42, 180, 0, 89, 198, 0, 7, 4, 167, 0, 4, 3, 27, 3, 16, 9, 182, 0, 172, 172]
abbrev dktX1_whyBreath_0 : List UInt8 := dkwX1_whyBreath_0 ++ []
theorem dksX1_whyBreath_0 : cX1_whyBreath.data.toList.drop 0 = dktX1_whyBreath_0 := by decide +kernel
theorem dX1_whyBreath_0 : decode cX1_whyBreath 0 = .ok (.aload_n 0, 1) := dk_42 (dk_at dksX1_whyBreath_0 0 rfl rfl)
theorem dX1_whyBreath_1 : decode cX1_whyBreath 1 = .ok (.aload_n 0, 1) := dk_42 (dk_at dksX1_whyBreath_0 1 rfl rfl)
theorem dX1_whyBreath_2 : decode cX1_whyBreath 2 = .ok (.getfield 89, 3) := dk_180 0 89 (dk_at dksX1_whyBreath_0 2 rfl rfl)
theorem dX1_whyBreath_5 : decode cX1_whyBreath 5 = .ok (.ifnull 7, 3) := dk_198 0 7 (dk_at dksX1_whyBreath_0 5 rfl rfl)
theorem dX1_whyBreath_8 : decode cX1_whyBreath 8 = .ok (.iconst 1, 1) := dk_4 (dk_at dksX1_whyBreath_0 8 rfl rfl)
theorem dX1_whyBreath_9 : decode cX1_whyBreath 9 = .ok (.goto 4, 3) := dk_167 0 4 (dk_at dksX1_whyBreath_0 9 rfl rfl)
theorem dX1_whyBreath_12 : decode cX1_whyBreath 12 = .ok (.iconst 0, 1) := dk_3 (dk_at dksX1_whyBreath_0 12 rfl rfl)
theorem dX1_whyBreath_13 : decode cX1_whyBreath 13 = .ok (.iload_n 1, 1) := dk_27 (dk_at dksX1_whyBreath_0 13 rfl rfl)
theorem dX1_whyBreath_14 : decode cX1_whyBreath 14 = .ok (.iconst 0, 1) := dk_3 (dk_at dksX1_whyBreath_0 14 rfl rfl)
theorem dX1_whyBreath_15 : decode cX1_whyBreath 15 = .ok (.bipush 9, 2) := dk_16 9 (dk_at dksX1_whyBreath_0 15 rfl rfl)
theorem dX1_whyBreath_17 : decode cX1_whyBreath 17 = .ok (.invokevirtual 172, 3) := dk_182 0 172 (dk_at dksX1_whyBreath_0 17 rfl rfl)
theorem dX1_whyBreath_20 : decode cX1_whyBreath 20 = .ok (.ireturn, 1) := dk_172 (dk_at dksX1_whyBreath_0 20 rfl rfl)
abbrev cX1_gets : ByteArray := prog_1_method_77_code
def yX1_gets : MethodName := ⟨RX1, "gets", "(IZZ)I"⟩
def dkwX1_gets_1 : List UInt8 := [167, 0, 4, 3, 172]
abbrev dktX1_gets_1 : List UInt8 := dkwX1_gets_1 ++ []
def dkwX1_gets_0 : List UInt8 := [27, 153, 0, 17, 28, 153, 0, 9, 4, 26, 100, 167, 0, 16, 7, 167, 0, 12, 28, 153, 0, 7, 2]
abbrev dktX1_gets_0 : List UInt8 := dkwX1_gets_0 ++ dktX1_gets_1
theorem dksX1_gets_0 : cX1_gets.data.toList.drop 0 = dktX1_gets_0 := by decide +kernel
theorem dksX1_gets_1 : cX1_gets.data.toList.drop 23 = dktX1_gets_1 := dk_seg dksX1_gets_0 23 rfl rfl
theorem dX1_gets_0 : decode cX1_gets 0 = .ok (.iload_n 1, 1) := dk_27 (dk_at dksX1_gets_0 0 rfl rfl)
theorem dX1_gets_1 : decode cX1_gets 1 = .ok (.ifCond .eq 17, 3) := dk_153 0 17 (dk_at dksX1_gets_0 1 rfl rfl)
theorem dX1_gets_4 : decode cX1_gets 4 = .ok (.iload_n 2, 1) := dk_28 (dk_at dksX1_gets_0 4 rfl rfl)
theorem dX1_gets_5 : decode cX1_gets 5 = .ok (.ifCond .eq 9, 3) := dk_153 0 9 (dk_at dksX1_gets_0 5 rfl rfl)
theorem dX1_gets_8 : decode cX1_gets 8 = .ok (.iconst 1, 1) := dk_4 (dk_at dksX1_gets_0 8 rfl rfl)
theorem dX1_gets_9 : decode cX1_gets 9 = .ok (.iload_n 0, 1) := dk_26 (dk_at dksX1_gets_0 9 rfl rfl)
theorem dX1_gets_10 : decode cX1_gets 10 = .ok (.isub, 1) := dk_100 (dk_at dksX1_gets_0 10 rfl rfl)
theorem dX1_gets_11 : decode cX1_gets 11 = .ok (.goto 16, 3) := dk_167 0 16 (dk_at dksX1_gets_0 11 rfl rfl)
theorem dX1_gets_14 : decode cX1_gets 14 = .ok (.iconst 4, 1) := dk_7 (dk_at dksX1_gets_0 14 rfl rfl)
theorem dX1_gets_15 : decode cX1_gets 15 = .ok (.goto 12, 3) := dk_167 0 12 (dk_at dksX1_gets_0 15 rfl rfl)
theorem dX1_gets_18 : decode cX1_gets 18 = .ok (.iload_n 2, 1) := dk_28 (dk_at dksX1_gets_0 18 rfl rfl)
theorem dX1_gets_19 : decode cX1_gets 19 = .ok (.ifCond .eq 7, 3) := dk_153 0 7 (dk_at dksX1_gets_0 19 rfl rfl)
theorem dX1_gets_22 : decode cX1_gets 22 = .ok (.iconst (-1), 1) := dk_2 (dk_at dksX1_gets_0 22 rfl rfl)
theorem dX1_gets_23 : decode cX1_gets 23 = .ok (.goto 4, 3) := dk_167 0 4 (dk_at dksX1_gets_1 0 rfl rfl)
theorem dX1_gets_26 : decode cX1_gets 26 = .ok (.iconst 0, 1) := dk_3 (dk_at dksX1_gets_1 3 rfl rfl)
theorem dX1_gets_27 : decode cX1_gets 27 = .ok (.ireturn, 1) := dk_172 (dk_at dksX1_gets_1 4 rfl rfl)
abbrev cX1_rests : ByteArray := prog_1_method_81_code
def yX1_rests : MethodName := ⟨RX1, "rests", "(I)I"⟩
def dkwX1_rests_2 : List UInt8 := [167, 255, 230, 42, 29, 182, 0, 54, 172]
abbrev dktX1_rests_2 : List UInt8 := dkwX1_rests_2 ++ []
def dkwX1_rests_1 : List UInt8 := [162, 0, 26, 29, 27, 21, 4, 184, 1, 54, 153, 0, 7, 4, 167, 0, 4, 3, 96, 62, 132, 4, 1]
abbrev dktX1_rests_1 : List UInt8 := dkwX1_rests_1 ++ dktX1_rests_2
def dkwX1_rests_0 : List UInt8 := [42, 27, 182, 1, 47, 61, 28, 158, 0, 9, 42, 28, 182, 0, 50, 172, 3, 62, 3, 54, 4, 21, 4, 7]
abbrev dktX1_rests_0 : List UInt8 := dkwX1_rests_0 ++ dktX1_rests_1
theorem dksX1_rests_0 : cX1_rests.data.toList.drop 0 = dktX1_rests_0 := by decide +kernel
theorem dksX1_rests_1 : cX1_rests.data.toList.drop 24 = dktX1_rests_1 := dk_seg dksX1_rests_0 24 rfl rfl
theorem dksX1_rests_2 : cX1_rests.data.toList.drop 47 = dktX1_rests_2 := dk_seg dksX1_rests_1 23 rfl rfl
theorem dX1_rests_0 : decode cX1_rests 0 = .ok (.aload_n 0, 1) := dk_42 (dk_at dksX1_rests_0 0 rfl rfl)
theorem dX1_rests_1 : decode cX1_rests 1 = .ok (.iload_n 1, 1) := dk_27 (dk_at dksX1_rests_0 1 rfl rfl)
theorem dX1_rests_2 : decode cX1_rests 2 = .ok (.invokevirtual 303, 3) := dk_182 1 47 (dk_at dksX1_rests_0 2 rfl rfl)
theorem dX1_rests_5 : decode cX1_rests 5 = .ok (.istore_n 2, 1) := dk_61 (dk_at dksX1_rests_0 5 rfl rfl)
theorem dX1_rests_6 : decode cX1_rests 6 = .ok (.iload_n 2, 1) := dk_28 (dk_at dksX1_rests_0 6 rfl rfl)
theorem dX1_rests_7 : decode cX1_rests 7 = .ok (.ifCond .le 9, 3) := dk_158 0 9 (dk_at dksX1_rests_0 7 rfl rfl)
theorem dX1_rests_10 : decode cX1_rests 10 = .ok (.aload_n 0, 1) := dk_42 (dk_at dksX1_rests_0 10 rfl rfl)
theorem dX1_rests_11 : decode cX1_rests 11 = .ok (.iload_n 2, 1) := dk_28 (dk_at dksX1_rests_0 11 rfl rfl)
theorem dX1_rests_12 : decode cX1_rests 12 = .ok (.invokevirtual 50, 3) := dk_182 0 50 (dk_at dksX1_rests_0 12 rfl rfl)
theorem dX1_rests_15 : decode cX1_rests 15 = .ok (.ireturn, 1) := dk_172 (dk_at dksX1_rests_0 15 rfl rfl)
theorem dX1_rests_16 : decode cX1_rests 16 = .ok (.iconst 0, 1) := dk_3 (dk_at dksX1_rests_0 16 rfl rfl)
theorem dX1_rests_17 : decode cX1_rests 17 = .ok (.istore_n 3, 1) := dk_62 (dk_at dksX1_rests_0 17 rfl rfl)
theorem dX1_rests_18 : decode cX1_rests 18 = .ok (.iconst 0, 1) := dk_3 (dk_at dksX1_rests_0 18 rfl rfl)
theorem dX1_rests_19 : decode cX1_rests 19 = .ok (.istore 4, 2) := dk_54 4 (dk_at dksX1_rests_0 19 rfl rfl)
theorem dX1_rests_21 : decode cX1_rests 21 = .ok (.iload 4, 2) := dk_21 4 (dk_at dksX1_rests_0 21 rfl rfl)
theorem dX1_rests_23 : decode cX1_rests 23 = .ok (.iconst 4, 1) := dk_7 (dk_at dksX1_rests_0 23 rfl rfl)
theorem dX1_rests_24 : decode cX1_rests 24 = .ok (.if_icmp .ge 26, 3) := dk_162 0 26 (dk_at dksX1_rests_1 0 rfl rfl)
theorem dX1_rests_27 : decode cX1_rests 27 = .ok (.iload_n 3, 1) := dk_29 (dk_at dksX1_rests_1 3 rfl rfl)
theorem dX1_rests_28 : decode cX1_rests 28 = .ok (.iload_n 1, 1) := dk_27 (dk_at dksX1_rests_1 4 rfl rfl)
theorem dX1_rests_29 : decode cX1_rests 29 = .ok (.iload 4, 2) := dk_21 4 (dk_at dksX1_rests_1 5 rfl rfl)
theorem dX1_rests_31 : decode cX1_rests 31 = .ok (.invokestatic 310, 3) := dk_184 1 54 (dk_at dksX1_rests_1 7 rfl rfl)
theorem dX1_rests_34 : decode cX1_rests 34 = .ok (.ifCond .eq 7, 3) := dk_153 0 7 (dk_at dksX1_rests_1 10 rfl rfl)
theorem dX1_rests_37 : decode cX1_rests 37 = .ok (.iconst 1, 1) := dk_4 (dk_at dksX1_rests_1 13 rfl rfl)
theorem dX1_rests_38 : decode cX1_rests 38 = .ok (.goto 4, 3) := dk_167 0 4 (dk_at dksX1_rests_1 14 rfl rfl)
theorem dX1_rests_41 : decode cX1_rests 41 = .ok (.iconst 0, 1) := dk_3 (dk_at dksX1_rests_1 17 rfl rfl)
theorem dX1_rests_42 : decode cX1_rests 42 = .ok (.iadd, 1) := dk_96 (dk_at dksX1_rests_1 18 rfl rfl)
theorem dX1_rests_43 : decode cX1_rests 43 = .ok (.istore_n 3, 1) := dk_62 (dk_at dksX1_rests_1 19 rfl rfl)
theorem dX1_rests_44 : decode cX1_rests 44 = .ok (.iinc 4 1, 3) := dk_132 4 1 (dk_at dksX1_rests_1 20 rfl rfl)
theorem dX1_rests_47 : decode cX1_rests 47 = .ok (.goto (-26), 3) := dk_167 255 230 (dk_at dksX1_rests_2 0 rfl rfl)
theorem dX1_rests_50 : decode cX1_rests 50 = .ok (.aload_n 0, 1) := dk_42 (dk_at dksX1_rests_2 3 rfl rfl)
theorem dX1_rests_51 : decode cX1_rests 51 = .ok (.iload_n 3, 1) := dk_29 (dk_at dksX1_rests_2 4 rfl rfl)
theorem dX1_rests_52 : decode cX1_rests 52 = .ok (.invokevirtual 54, 3) := dk_182 0 54 (dk_at dksX1_rests_2 5 rfl rfl)
theorem dX1_rests_55 : decode cX1_rests 55 = .ok (.ireturn, 1) := dk_172 (dk_at dksX1_rests_2 8 rfl rfl)
abbrev cX1_isRest : ByteArray := prog_1_method_80_code
def yX1_isRest : MethodName := ⟨RX1, "isRest", "(II)Z"⟩
def dkwX1_isRest_3 : List UInt8 := [167, 0, 4, 3, 172]
abbrev dktX1_isRest_3 : List UInt8 := dkwX1_isRest_3 ++ []
def dkwX1_isRest_2 : List UInt8 := [29, 154, 0, 7, 4, 167, 0, 4, 3, 28, 184, 1, 50, 26, 29, 28, 184, 1, 50, 163, 0, 7, 4]
abbrev dktX1_isRest_2 : List UInt8 := dkwX1_isRest_2 ++ dktX1_isRest_3
def dkwX1_isRest_1 : List UInt8 := [26, 28, 154, 0, 7, 4, 167, 0, 4, 3, 29, 184, 1, 50, 26, 28, 29, 184, 1, 50, 163, 0, 30, 26]
abbrev dktX1_isRest_1 : List UInt8 := dkwX1_isRest_1 ++ dktX1_isRest_2
def dkwX1_isRest_0 : List UInt8 := [27, 4, 164, 0, 7, 4, 167, 0, 4, 3, 61, 27, 5, 112, 4, 160, 0, 7, 4, 167, 0, 4, 3, 62]
abbrev dktX1_isRest_0 : List UInt8 := dkwX1_isRest_0 ++ dktX1_isRest_1
theorem dksX1_isRest_0 : cX1_isRest.data.toList.drop 0 = dktX1_isRest_0 := by decide +kernel
theorem dksX1_isRest_1 : cX1_isRest.data.toList.drop 24 = dktX1_isRest_1 := dk_seg dksX1_isRest_0 24 rfl rfl
theorem dksX1_isRest_2 : cX1_isRest.data.toList.drop 48 = dktX1_isRest_2 := dk_seg dksX1_isRest_1 24 rfl rfl
theorem dksX1_isRest_3 : cX1_isRest.data.toList.drop 71 = dktX1_isRest_3 := dk_seg dksX1_isRest_2 23 rfl rfl
theorem dX1_isRest_0 : decode cX1_isRest 0 = .ok (.iload_n 1, 1) := dk_27 (dk_at dksX1_isRest_0 0 rfl rfl)
theorem dX1_isRest_1 : decode cX1_isRest 1 = .ok (.iconst 1, 1) := dk_4 (dk_at dksX1_isRest_0 1 rfl rfl)
theorem dX1_isRest_2 : decode cX1_isRest 2 = .ok (.if_icmp .le 7, 3) := dk_164 0 7 (dk_at dksX1_isRest_0 2 rfl rfl)
theorem dX1_isRest_5 : decode cX1_isRest 5 = .ok (.iconst 1, 1) := dk_4 (dk_at dksX1_isRest_0 5 rfl rfl)
theorem dX1_isRest_6 : decode cX1_isRest 6 = .ok (.goto 4, 3) := dk_167 0 4 (dk_at dksX1_isRest_0 6 rfl rfl)
theorem dX1_isRest_9 : decode cX1_isRest 9 = .ok (.iconst 0, 1) := dk_3 (dk_at dksX1_isRest_0 9 rfl rfl)
theorem dX1_isRest_10 : decode cX1_isRest 10 = .ok (.istore_n 2, 1) := dk_61 (dk_at dksX1_isRest_0 10 rfl rfl)
theorem dX1_isRest_11 : decode cX1_isRest 11 = .ok (.iload_n 1, 1) := dk_27 (dk_at dksX1_isRest_0 11 rfl rfl)
theorem dX1_isRest_12 : decode cX1_isRest 12 = .ok (.iconst 2, 1) := dk_5 (dk_at dksX1_isRest_0 12 rfl rfl)
theorem dX1_isRest_13 : decode cX1_isRest 13 = .ok (.irem, 1) := dk_112 (dk_at dksX1_isRest_0 13 rfl rfl)
theorem dX1_isRest_14 : decode cX1_isRest 14 = .ok (.iconst 1, 1) := dk_4 (dk_at dksX1_isRest_0 14 rfl rfl)
theorem dX1_isRest_15 : decode cX1_isRest 15 = .ok (.if_icmp .ne 7, 3) := dk_160 0 7 (dk_at dksX1_isRest_0 15 rfl rfl)
theorem dX1_isRest_18 : decode cX1_isRest 18 = .ok (.iconst 1, 1) := dk_4 (dk_at dksX1_isRest_0 18 rfl rfl)
theorem dX1_isRest_19 : decode cX1_isRest 19 = .ok (.goto 4, 3) := dk_167 0 4 (dk_at dksX1_isRest_0 19 rfl rfl)
theorem dX1_isRest_22 : decode cX1_isRest 22 = .ok (.iconst 0, 1) := dk_3 (dk_at dksX1_isRest_0 22 rfl rfl)
theorem dX1_isRest_23 : decode cX1_isRest 23 = .ok (.istore_n 3, 1) := dk_62 (dk_at dksX1_isRest_0 23 rfl rfl)
theorem dX1_isRest_24 : decode cX1_isRest 24 = .ok (.iload_n 0, 1) := dk_26 (dk_at dksX1_isRest_1 0 rfl rfl)
theorem dX1_isRest_25 : decode cX1_isRest 25 = .ok (.iload_n 2, 1) := dk_28 (dk_at dksX1_isRest_1 1 rfl rfl)
theorem dX1_isRest_26 : decode cX1_isRest 26 = .ok (.ifCond .ne 7, 3) := dk_154 0 7 (dk_at dksX1_isRest_1 2 rfl rfl)
theorem dX1_isRest_29 : decode cX1_isRest 29 = .ok (.iconst 1, 1) := dk_4 (dk_at dksX1_isRest_1 5 rfl rfl)
theorem dX1_isRest_30 : decode cX1_isRest 30 = .ok (.goto 4, 3) := dk_167 0 4 (dk_at dksX1_isRest_1 6 rfl rfl)
theorem dX1_isRest_33 : decode cX1_isRest 33 = .ok (.iconst 0, 1) := dk_3 (dk_at dksX1_isRest_1 9 rfl rfl)
theorem dX1_isRest_34 : decode cX1_isRest 34 = .ok (.iload_n 3, 1) := dk_29 (dk_at dksX1_isRest_1 10 rfl rfl)
theorem dX1_isRest_35 : decode cX1_isRest 35 = .ok (.invokestatic 306, 3) := dk_184 1 50 (dk_at dksX1_isRest_1 11 rfl rfl)
theorem dX1_isRest_38 : decode cX1_isRest 38 = .ok (.iload_n 0, 1) := dk_26 (dk_at dksX1_isRest_1 14 rfl rfl)
theorem dX1_isRest_39 : decode cX1_isRest 39 = .ok (.iload_n 2, 1) := dk_28 (dk_at dksX1_isRest_1 15 rfl rfl)
theorem dX1_isRest_40 : decode cX1_isRest 40 = .ok (.iload_n 3, 1) := dk_29 (dk_at dksX1_isRest_1 16 rfl rfl)
theorem dX1_isRest_41 : decode cX1_isRest 41 = .ok (.invokestatic 306, 3) := dk_184 1 50 (dk_at dksX1_isRest_1 17 rfl rfl)
theorem dX1_isRest_44 : decode cX1_isRest 44 = .ok (.if_icmp .gt 30, 3) := dk_163 0 30 (dk_at dksX1_isRest_1 20 rfl rfl)
theorem dX1_isRest_47 : decode cX1_isRest 47 = .ok (.iload_n 0, 1) := dk_26 (dk_at dksX1_isRest_1 23 rfl rfl)
theorem dX1_isRest_48 : decode cX1_isRest 48 = .ok (.iload_n 3, 1) := dk_29 (dk_at dksX1_isRest_2 0 rfl rfl)
theorem dX1_isRest_49 : decode cX1_isRest 49 = .ok (.ifCond .ne 7, 3) := dk_154 0 7 (dk_at dksX1_isRest_2 1 rfl rfl)
theorem dX1_isRest_52 : decode cX1_isRest 52 = .ok (.iconst 1, 1) := dk_4 (dk_at dksX1_isRest_2 4 rfl rfl)
theorem dX1_isRest_53 : decode cX1_isRest 53 = .ok (.goto 4, 3) := dk_167 0 4 (dk_at dksX1_isRest_2 5 rfl rfl)
theorem dX1_isRest_56 : decode cX1_isRest 56 = .ok (.iconst 0, 1) := dk_3 (dk_at dksX1_isRest_2 8 rfl rfl)
theorem dX1_isRest_57 : decode cX1_isRest 57 = .ok (.iload_n 2, 1) := dk_28 (dk_at dksX1_isRest_2 9 rfl rfl)
theorem dX1_isRest_58 : decode cX1_isRest 58 = .ok (.invokestatic 306, 3) := dk_184 1 50 (dk_at dksX1_isRest_2 10 rfl rfl)
theorem dX1_isRest_61 : decode cX1_isRest 61 = .ok (.iload_n 0, 1) := dk_26 (dk_at dksX1_isRest_2 13 rfl rfl)
theorem dX1_isRest_62 : decode cX1_isRest 62 = .ok (.iload_n 3, 1) := dk_29 (dk_at dksX1_isRest_2 14 rfl rfl)
theorem dX1_isRest_63 : decode cX1_isRest 63 = .ok (.iload_n 2, 1) := dk_28 (dk_at dksX1_isRest_2 15 rfl rfl)
theorem dX1_isRest_64 : decode cX1_isRest 64 = .ok (.invokestatic 306, 3) := dk_184 1 50 (dk_at dksX1_isRest_2 16 rfl rfl)
theorem dX1_isRest_67 : decode cX1_isRest 67 = .ok (.if_icmp .gt 7, 3) := dk_163 0 7 (dk_at dksX1_isRest_2 19 rfl rfl)
theorem dX1_isRest_70 : decode cX1_isRest 70 = .ok (.iconst 1, 1) := dk_4 (dk_at dksX1_isRest_2 22 rfl rfl)
theorem dX1_isRest_71 : decode cX1_isRest 71 = .ok (.goto 4, 3) := dk_167 0 4 (dk_at dksX1_isRest_3 0 rfl rfl)
theorem dX1_isRest_74 : decode cX1_isRest 74 = .ok (.iconst 0, 1) := dk_3 (dk_at dksX1_isRest_3 3 rfl rfl)
theorem dX1_isRest_75 : decode cX1_isRest 75 = .ok (.ireturn, 1) := dk_172 (dk_at dksX1_isRest_3 4 rfl rfl)
abbrev cX1_rest : ByteArray := prog_1_method_82_code
def yX1_rest : MethodName := ⟨RX1, "rest", "(I)I"⟩
def dkwX1_rest_2 : List UInt8 := [132, 3, 1, 167, 255, 225, 42, 16, 254, 182, 0, 54, 172]
abbrev dktX1_rest_2 : List UInt8 := dkwX1_rest_2 ++ []
def dkwX1_rest_1 : List UInt8 := [29, 184, 1, 54, 153, 0, 18, 42, 16, 10, 29, 5, 108, 104, 29, 5, 112, 96, 182, 0, 54, 172]
abbrev dktX1_rest_1 : List UInt8 := dkwX1_rest_1 ++ dktX1_rest_2
def dkwX1_rest_0 : List UInt8 := [42, 27, 182, 1, 47, 61, 28, 158, 0, 9, 42, 28, 182, 0, 50, 172, 3, 62, 29, 7, 162, 0, 32, 27]
abbrev dktX1_rest_0 : List UInt8 := dkwX1_rest_0 ++ dktX1_rest_1
theorem dksX1_rest_0 : cX1_rest.data.toList.drop 0 = dktX1_rest_0 := by decide +kernel
theorem dksX1_rest_1 : cX1_rest.data.toList.drop 24 = dktX1_rest_1 := dk_seg dksX1_rest_0 24 rfl rfl
theorem dksX1_rest_2 : cX1_rest.data.toList.drop 46 = dktX1_rest_2 := dk_seg dksX1_rest_1 22 rfl rfl
theorem dX1_rest_0 : decode cX1_rest 0 = .ok (.aload_n 0, 1) := dk_42 (dk_at dksX1_rest_0 0 rfl rfl)
theorem dX1_rest_1 : decode cX1_rest 1 = .ok (.iload_n 1, 1) := dk_27 (dk_at dksX1_rest_0 1 rfl rfl)
theorem dX1_rest_2 : decode cX1_rest 2 = .ok (.invokevirtual 303, 3) := dk_182 1 47 (dk_at dksX1_rest_0 2 rfl rfl)
theorem dX1_rest_5 : decode cX1_rest 5 = .ok (.istore_n 2, 1) := dk_61 (dk_at dksX1_rest_0 5 rfl rfl)
theorem dX1_rest_6 : decode cX1_rest 6 = .ok (.iload_n 2, 1) := dk_28 (dk_at dksX1_rest_0 6 rfl rfl)
theorem dX1_rest_7 : decode cX1_rest 7 = .ok (.ifCond .le 9, 3) := dk_158 0 9 (dk_at dksX1_rest_0 7 rfl rfl)
theorem dX1_rest_10 : decode cX1_rest 10 = .ok (.aload_n 0, 1) := dk_42 (dk_at dksX1_rest_0 10 rfl rfl)
theorem dX1_rest_11 : decode cX1_rest 11 = .ok (.iload_n 2, 1) := dk_28 (dk_at dksX1_rest_0 11 rfl rfl)
theorem dX1_rest_12 : decode cX1_rest 12 = .ok (.invokevirtual 50, 3) := dk_182 0 50 (dk_at dksX1_rest_0 12 rfl rfl)
theorem dX1_rest_15 : decode cX1_rest 15 = .ok (.ireturn, 1) := dk_172 (dk_at dksX1_rest_0 15 rfl rfl)
theorem dX1_rest_16 : decode cX1_rest 16 = .ok (.iconst 0, 1) := dk_3 (dk_at dksX1_rest_0 16 rfl rfl)
theorem dX1_rest_17 : decode cX1_rest 17 = .ok (.istore_n 3, 1) := dk_62 (dk_at dksX1_rest_0 17 rfl rfl)
theorem dX1_rest_18 : decode cX1_rest 18 = .ok (.iload_n 3, 1) := dk_29 (dk_at dksX1_rest_0 18 rfl rfl)
theorem dX1_rest_19 : decode cX1_rest 19 = .ok (.iconst 4, 1) := dk_7 (dk_at dksX1_rest_0 19 rfl rfl)
theorem dX1_rest_20 : decode cX1_rest 20 = .ok (.if_icmp .ge 32, 3) := dk_162 0 32 (dk_at dksX1_rest_0 20 rfl rfl)
theorem dX1_rest_23 : decode cX1_rest 23 = .ok (.iload_n 1, 1) := dk_27 (dk_at dksX1_rest_0 23 rfl rfl)
theorem dX1_rest_24 : decode cX1_rest 24 = .ok (.iload_n 3, 1) := dk_29 (dk_at dksX1_rest_1 0 rfl rfl)
theorem dX1_rest_25 : decode cX1_rest 25 = .ok (.invokestatic 310, 3) := dk_184 1 54 (dk_at dksX1_rest_1 1 rfl rfl)
theorem dX1_rest_28 : decode cX1_rest 28 = .ok (.ifCond .eq 18, 3) := dk_153 0 18 (dk_at dksX1_rest_1 4 rfl rfl)
theorem dX1_rest_31 : decode cX1_rest 31 = .ok (.aload_n 0, 1) := dk_42 (dk_at dksX1_rest_1 7 rfl rfl)
theorem dX1_rest_32 : decode cX1_rest 32 = .ok (.bipush 10, 2) := dk_16 10 (dk_at dksX1_rest_1 8 rfl rfl)
theorem dX1_rest_34 : decode cX1_rest 34 = .ok (.iload_n 3, 1) := dk_29 (dk_at dksX1_rest_1 10 rfl rfl)
theorem dX1_rest_35 : decode cX1_rest 35 = .ok (.iconst 2, 1) := dk_5 (dk_at dksX1_rest_1 11 rfl rfl)
theorem dX1_rest_36 : decode cX1_rest 36 = .ok (.idiv, 1) := dk_108 (dk_at dksX1_rest_1 12 rfl rfl)
theorem dX1_rest_37 : decode cX1_rest 37 = .ok (.imul, 1) := dk_104 (dk_at dksX1_rest_1 13 rfl rfl)
theorem dX1_rest_38 : decode cX1_rest 38 = .ok (.iload_n 3, 1) := dk_29 (dk_at dksX1_rest_1 14 rfl rfl)
theorem dX1_rest_39 : decode cX1_rest 39 = .ok (.iconst 2, 1) := dk_5 (dk_at dksX1_rest_1 15 rfl rfl)
theorem dX1_rest_40 : decode cX1_rest 40 = .ok (.irem, 1) := dk_112 (dk_at dksX1_rest_1 16 rfl rfl)
theorem dX1_rest_41 : decode cX1_rest 41 = .ok (.iadd, 1) := dk_96 (dk_at dksX1_rest_1 17 rfl rfl)
theorem dX1_rest_42 : decode cX1_rest 42 = .ok (.invokevirtual 54, 3) := dk_182 0 54 (dk_at dksX1_rest_1 18 rfl rfl)
theorem dX1_rest_45 : decode cX1_rest 45 = .ok (.ireturn, 1) := dk_172 (dk_at dksX1_rest_1 21 rfl rfl)
theorem dX1_rest_46 : decode cX1_rest 46 = .ok (.iinc 3 1, 3) := dk_132 3 1 (dk_at dksX1_rest_2 0 rfl rfl)
theorem dX1_rest_49 : decode cX1_rest 49 = .ok (.goto (-31), 3) := dk_167 255 225 (dk_at dksX1_rest_2 3 rfl rfl)
theorem dX1_rest_52 : decode cX1_rest 52 = .ok (.aload_n 0, 1) := dk_42 (dk_at dksX1_rest_2 6 rfl rfl)
theorem dX1_rest_53 : decode cX1_rest 53 = .ok (.bipush (-2), 2) := dk_16 254 (dk_at dksX1_rest_2 7 rfl rfl)
theorem dX1_rest_55 : decode cX1_rest 55 = .ok (.invokevirtual 54, 3) := dk_182 0 54 (dk_at dksX1_rest_2 9 rfl rfl)
theorem dX1_rest_58 : decode cX1_rest 58 = .ok (.ireturn, 1) := dk_172 (dk_at dksX1_rest_2 12 rfl rfl)
abbrev cX1_verdictOdds : ByteArray := prog_1_method_85_code
def yX1_verdictOdds : MethodName := ⟨RX1, "verdictOdds", "(IIZ)J"⟩
def dkwX1_verdictOdds_6 : List UInt8 := [42, 21, 6, 133, 21, 5, 133, 29, 182, 1, 63, 173]
abbrev dktX1_verdictOdds_6 : List UInt8 := dkwX1_verdictOdds_6 ++ []
def dkwX1_verdictOdds_5 : List UInt8 := [21, 6, 42, 182, 1, 60, 27, 160, 0, 7, 4, 167, 0, 4, 3, 96, 54, 6, 132, 7, 1, 167, 255, 180]
abbrev dktX1_verdictOdds_5 : List UInt8 := dkwX1_verdictOdds_5 ++ dktX1_verdictOdds_6
def dkwX1_verdictOdds_4 : List UInt8 := [182, 0, 108, 112, 92, 46, 4, 96, 79, 21, 8, 42, 182, 0, 108, 108, 54, 8, 132, 9, 1, 167, 255, 222]
abbrev dktX1_verdictOdds_4 : List UInt8 := dkwX1_verdictOdds_4 ++ dktX1_verdictOdds_5
def dkwX1_verdictOdds_3 : List UInt8 := [182, 1, 57, 21, 7, 54, 8, 3, 54, 9, 21, 9, 28, 162, 0, 34, 42, 180, 0, 38, 21, 8, 42]
abbrev dktX1_verdictOdds_3 : List UInt8 := dkwX1_verdictOdds_3 ++ dktX1_verdictOdds_4
def dkwX1_verdictOdds_2 : List UInt8 := [182, 0, 108, 104, 54, 5, 132, 7, 1, 167, 255, 238, 3, 54, 7, 21, 7, 21, 5, 162, 0, 75, 42]
abbrev dktX1_verdictOdds_2 : List UInt8 := dkwX1_verdictOdds_2 ++ dktX1_verdictOdds_3
def dkwX1_verdictOdds_1 : List UInt8 := [182, 0, 50, 133, 173, 4, 54, 5, 3, 54, 6, 3, 54, 7, 21, 7, 28, 162, 0, 18, 21, 5, 42]
abbrev dktX1_verdictOdds_1 : List UInt8 := dkwX1_verdictOdds_1 ++ dktX1_verdictOdds_2
def dkwX1_verdictOdds_0 : List UInt8 := [42, 42, 27, 182, 0, 162, 28, 3, 7, 182, 0, 172, 54, 4, 21, 4, 158, 0, 11, 42, 21, 4]
abbrev dktX1_verdictOdds_0 : List UInt8 := dkwX1_verdictOdds_0 ++ dktX1_verdictOdds_1
theorem dksX1_verdictOdds_0 : cX1_verdictOdds.data.toList.drop 0 = dktX1_verdictOdds_0 := by decide +kernel
theorem dksX1_verdictOdds_1 : cX1_verdictOdds.data.toList.drop 22 = dktX1_verdictOdds_1 := dk_seg dksX1_verdictOdds_0 22 rfl rfl
theorem dksX1_verdictOdds_2 : cX1_verdictOdds.data.toList.drop 45 = dktX1_verdictOdds_2 := dk_seg dksX1_verdictOdds_1 23 rfl rfl
theorem dksX1_verdictOdds_3 : cX1_verdictOdds.data.toList.drop 68 = dktX1_verdictOdds_3 := dk_seg dksX1_verdictOdds_2 23 rfl rfl
theorem dksX1_verdictOdds_4 : cX1_verdictOdds.data.toList.drop 91 = dktX1_verdictOdds_4 := dk_seg dksX1_verdictOdds_3 23 rfl rfl
theorem dksX1_verdictOdds_5 : cX1_verdictOdds.data.toList.drop 115 = dktX1_verdictOdds_5 := dk_seg dksX1_verdictOdds_4 24 rfl rfl
theorem dksX1_verdictOdds_6 : cX1_verdictOdds.data.toList.drop 139 = dktX1_verdictOdds_6 := dk_seg dksX1_verdictOdds_5 24 rfl rfl
theorem dX1_verdictOdds_0 : decode cX1_verdictOdds 0 = .ok (.aload_n 0, 1) := dk_42 (dk_at dksX1_verdictOdds_0 0 rfl rfl)
theorem dX1_verdictOdds_1 : decode cX1_verdictOdds 1 = .ok (.aload_n 0, 1) := dk_42 (dk_at dksX1_verdictOdds_0 1 rfl rfl)
theorem dX1_verdictOdds_2 : decode cX1_verdictOdds 2 = .ok (.iload_n 1, 1) := dk_27 (dk_at dksX1_verdictOdds_0 2 rfl rfl)
theorem dX1_verdictOdds_3 : decode cX1_verdictOdds 3 = .ok (.invokevirtual 162, 3) := dk_182 0 162 (dk_at dksX1_verdictOdds_0 3 rfl rfl)
theorem dX1_verdictOdds_6 : decode cX1_verdictOdds 6 = .ok (.iload_n 2, 1) := dk_28 (dk_at dksX1_verdictOdds_0 6 rfl rfl)
theorem dX1_verdictOdds_7 : decode cX1_verdictOdds 7 = .ok (.iconst 0, 1) := dk_3 (dk_at dksX1_verdictOdds_0 7 rfl rfl)
theorem dX1_verdictOdds_8 : decode cX1_verdictOdds 8 = .ok (.iconst 4, 1) := dk_7 (dk_at dksX1_verdictOdds_0 8 rfl rfl)
theorem dX1_verdictOdds_9 : decode cX1_verdictOdds 9 = .ok (.invokevirtual 172, 3) := dk_182 0 172 (dk_at dksX1_verdictOdds_0 9 rfl rfl)
theorem dX1_verdictOdds_12 : decode cX1_verdictOdds 12 = .ok (.istore 4, 2) := dk_54 4 (dk_at dksX1_verdictOdds_0 12 rfl rfl)
theorem dX1_verdictOdds_14 : decode cX1_verdictOdds 14 = .ok (.iload 4, 2) := dk_21 4 (dk_at dksX1_verdictOdds_0 14 rfl rfl)
theorem dX1_verdictOdds_16 : decode cX1_verdictOdds 16 = .ok (.ifCond .le 11, 3) := dk_158 0 11 (dk_at dksX1_verdictOdds_0 16 rfl rfl)
theorem dX1_verdictOdds_19 : decode cX1_verdictOdds 19 = .ok (.aload_n 0, 1) := dk_42 (dk_at dksX1_verdictOdds_0 19 rfl rfl)
theorem dX1_verdictOdds_20 : decode cX1_verdictOdds 20 = .ok (.iload 4, 2) := dk_21 4 (dk_at dksX1_verdictOdds_0 20 rfl rfl)
theorem dX1_verdictOdds_22 : decode cX1_verdictOdds 22 = .ok (.invokevirtual 50, 3) := dk_182 0 50 (dk_at dksX1_verdictOdds_1 0 rfl rfl)
theorem dX1_verdictOdds_25 : decode cX1_verdictOdds 25 = .ok (.i2l, 1) := dk_133 (dk_at dksX1_verdictOdds_1 3 rfl rfl)
theorem dX1_verdictOdds_26 : decode cX1_verdictOdds 26 = .ok (.lreturn, 1) := dk_173 (dk_at dksX1_verdictOdds_1 4 rfl rfl)
theorem dX1_verdictOdds_27 : decode cX1_verdictOdds 27 = .ok (.iconst 1, 1) := dk_4 (dk_at dksX1_verdictOdds_1 5 rfl rfl)
theorem dX1_verdictOdds_28 : decode cX1_verdictOdds 28 = .ok (.istore 5, 2) := dk_54 5 (dk_at dksX1_verdictOdds_1 6 rfl rfl)
theorem dX1_verdictOdds_30 : decode cX1_verdictOdds 30 = .ok (.iconst 0, 1) := dk_3 (dk_at dksX1_verdictOdds_1 8 rfl rfl)
theorem dX1_verdictOdds_31 : decode cX1_verdictOdds 31 = .ok (.istore 6, 2) := dk_54 6 (dk_at dksX1_verdictOdds_1 9 rfl rfl)
theorem dX1_verdictOdds_33 : decode cX1_verdictOdds 33 = .ok (.iconst 0, 1) := dk_3 (dk_at dksX1_verdictOdds_1 11 rfl rfl)
theorem dX1_verdictOdds_34 : decode cX1_verdictOdds 34 = .ok (.istore 7, 2) := dk_54 7 (dk_at dksX1_verdictOdds_1 12 rfl rfl)
theorem dX1_verdictOdds_36 : decode cX1_verdictOdds 36 = .ok (.iload 7, 2) := dk_21 7 (dk_at dksX1_verdictOdds_1 14 rfl rfl)
theorem dX1_verdictOdds_38 : decode cX1_verdictOdds 38 = .ok (.iload_n 2, 1) := dk_28 (dk_at dksX1_verdictOdds_1 16 rfl rfl)
theorem dX1_verdictOdds_39 : decode cX1_verdictOdds 39 = .ok (.if_icmp .ge 18, 3) := dk_162 0 18 (dk_at dksX1_verdictOdds_1 17 rfl rfl)
theorem dX1_verdictOdds_42 : decode cX1_verdictOdds 42 = .ok (.iload 5, 2) := dk_21 5 (dk_at dksX1_verdictOdds_1 20 rfl rfl)
theorem dX1_verdictOdds_44 : decode cX1_verdictOdds 44 = .ok (.aload_n 0, 1) := dk_42 (dk_at dksX1_verdictOdds_1 22 rfl rfl)
theorem dX1_verdictOdds_45 : decode cX1_verdictOdds 45 = .ok (.invokevirtual 108, 3) := dk_182 0 108 (dk_at dksX1_verdictOdds_2 0 rfl rfl)
theorem dX1_verdictOdds_48 : decode cX1_verdictOdds 48 = .ok (.imul, 1) := dk_104 (dk_at dksX1_verdictOdds_2 3 rfl rfl)
theorem dX1_verdictOdds_49 : decode cX1_verdictOdds 49 = .ok (.istore 5, 2) := dk_54 5 (dk_at dksX1_verdictOdds_2 4 rfl rfl)
theorem dX1_verdictOdds_51 : decode cX1_verdictOdds 51 = .ok (.iinc 7 1, 3) := dk_132 7 1 (dk_at dksX1_verdictOdds_2 6 rfl rfl)
theorem dX1_verdictOdds_54 : decode cX1_verdictOdds 54 = .ok (.goto (-18), 3) := dk_167 255 238 (dk_at dksX1_verdictOdds_2 9 rfl rfl)
theorem dX1_verdictOdds_57 : decode cX1_verdictOdds 57 = .ok (.iconst 0, 1) := dk_3 (dk_at dksX1_verdictOdds_2 12 rfl rfl)
theorem dX1_verdictOdds_58 : decode cX1_verdictOdds 58 = .ok (.istore 7, 2) := dk_54 7 (dk_at dksX1_verdictOdds_2 13 rfl rfl)
theorem dX1_verdictOdds_60 : decode cX1_verdictOdds 60 = .ok (.iload 7, 2) := dk_21 7 (dk_at dksX1_verdictOdds_2 15 rfl rfl)
theorem dX1_verdictOdds_62 : decode cX1_verdictOdds 62 = .ok (.iload 5, 2) := dk_21 5 (dk_at dksX1_verdictOdds_2 17 rfl rfl)
theorem dX1_verdictOdds_64 : decode cX1_verdictOdds 64 = .ok (.if_icmp .ge 75, 3) := dk_162 0 75 (dk_at dksX1_verdictOdds_2 19 rfl rfl)
theorem dX1_verdictOdds_67 : decode cX1_verdictOdds 67 = .ok (.aload_n 0, 1) := dk_42 (dk_at dksX1_verdictOdds_2 22 rfl rfl)
theorem dX1_verdictOdds_68 : decode cX1_verdictOdds 68 = .ok (.invokevirtual 313, 3) := dk_182 1 57 (dk_at dksX1_verdictOdds_3 0 rfl rfl)
theorem dX1_verdictOdds_71 : decode cX1_verdictOdds 71 = .ok (.iload 7, 2) := dk_21 7 (dk_at dksX1_verdictOdds_3 3 rfl rfl)
theorem dX1_verdictOdds_73 : decode cX1_verdictOdds 73 = .ok (.istore 8, 2) := dk_54 8 (dk_at dksX1_verdictOdds_3 5 rfl rfl)
theorem dX1_verdictOdds_75 : decode cX1_verdictOdds 75 = .ok (.iconst 0, 1) := dk_3 (dk_at dksX1_verdictOdds_3 7 rfl rfl)
theorem dX1_verdictOdds_76 : decode cX1_verdictOdds 76 = .ok (.istore 9, 2) := dk_54 9 (dk_at dksX1_verdictOdds_3 8 rfl rfl)
theorem dX1_verdictOdds_78 : decode cX1_verdictOdds 78 = .ok (.iload 9, 2) := dk_21 9 (dk_at dksX1_verdictOdds_3 10 rfl rfl)
theorem dX1_verdictOdds_80 : decode cX1_verdictOdds 80 = .ok (.iload_n 2, 1) := dk_28 (dk_at dksX1_verdictOdds_3 12 rfl rfl)
theorem dX1_verdictOdds_81 : decode cX1_verdictOdds 81 = .ok (.if_icmp .ge 34, 3) := dk_162 0 34 (dk_at dksX1_verdictOdds_3 13 rfl rfl)
theorem dX1_verdictOdds_84 : decode cX1_verdictOdds 84 = .ok (.aload_n 0, 1) := dk_42 (dk_at dksX1_verdictOdds_3 16 rfl rfl)
theorem dX1_verdictOdds_85 : decode cX1_verdictOdds 85 = .ok (.getfield 38, 3) := dk_180 0 38 (dk_at dksX1_verdictOdds_3 17 rfl rfl)
theorem dX1_verdictOdds_88 : decode cX1_verdictOdds 88 = .ok (.iload 8, 2) := dk_21 8 (dk_at dksX1_verdictOdds_3 20 rfl rfl)
theorem dX1_verdictOdds_90 : decode cX1_verdictOdds 90 = .ok (.aload_n 0, 1) := dk_42 (dk_at dksX1_verdictOdds_3 22 rfl rfl)
theorem dX1_verdictOdds_91 : decode cX1_verdictOdds 91 = .ok (.invokevirtual 108, 3) := dk_182 0 108 (dk_at dksX1_verdictOdds_4 0 rfl rfl)
theorem dX1_verdictOdds_94 : decode cX1_verdictOdds 94 = .ok (.irem, 1) := dk_112 (dk_at dksX1_verdictOdds_4 3 rfl rfl)
theorem dX1_verdictOdds_95 : decode cX1_verdictOdds 95 = .ok (.dup2, 1) := dk_92 (dk_at dksX1_verdictOdds_4 4 rfl rfl)
theorem dX1_verdictOdds_96 : decode cX1_verdictOdds 96 = .ok (.iaload, 1) := dk_46 (dk_at dksX1_verdictOdds_4 5 rfl rfl)
theorem dX1_verdictOdds_97 : decode cX1_verdictOdds 97 = .ok (.iconst 1, 1) := dk_4 (dk_at dksX1_verdictOdds_4 6 rfl rfl)
theorem dX1_verdictOdds_98 : decode cX1_verdictOdds 98 = .ok (.iadd, 1) := dk_96 (dk_at dksX1_verdictOdds_4 7 rfl rfl)
theorem dX1_verdictOdds_99 : decode cX1_verdictOdds 99 = .ok (.iastore, 1) := dk_79 (dk_at dksX1_verdictOdds_4 8 rfl rfl)
theorem dX1_verdictOdds_100 : decode cX1_verdictOdds 100 = .ok (.iload 8, 2) := dk_21 8 (dk_at dksX1_verdictOdds_4 9 rfl rfl)
theorem dX1_verdictOdds_102 : decode cX1_verdictOdds 102 = .ok (.aload_n 0, 1) := dk_42 (dk_at dksX1_verdictOdds_4 11 rfl rfl)
theorem dX1_verdictOdds_103 : decode cX1_verdictOdds 103 = .ok (.invokevirtual 108, 3) := dk_182 0 108 (dk_at dksX1_verdictOdds_4 12 rfl rfl)
theorem dX1_verdictOdds_106 : decode cX1_verdictOdds 106 = .ok (.idiv, 1) := dk_108 (dk_at dksX1_verdictOdds_4 15 rfl rfl)
theorem dX1_verdictOdds_107 : decode cX1_verdictOdds 107 = .ok (.istore 8, 2) := dk_54 8 (dk_at dksX1_verdictOdds_4 16 rfl rfl)
theorem dX1_verdictOdds_109 : decode cX1_verdictOdds 109 = .ok (.iinc 9 1, 3) := dk_132 9 1 (dk_at dksX1_verdictOdds_4 18 rfl rfl)
theorem dX1_verdictOdds_112 : decode cX1_verdictOdds 112 = .ok (.goto (-34), 3) := dk_167 255 222 (dk_at dksX1_verdictOdds_4 21 rfl rfl)
theorem dX1_verdictOdds_115 : decode cX1_verdictOdds 115 = .ok (.iload 6, 2) := dk_21 6 (dk_at dksX1_verdictOdds_5 0 rfl rfl)
theorem dX1_verdictOdds_117 : decode cX1_verdictOdds 117 = .ok (.aload_n 0, 1) := dk_42 (dk_at dksX1_verdictOdds_5 2 rfl rfl)
theorem dX1_verdictOdds_118 : decode cX1_verdictOdds 118 = .ok (.invokevirtual 316, 3) := dk_182 1 60 (dk_at dksX1_verdictOdds_5 3 rfl rfl)
theorem dX1_verdictOdds_121 : decode cX1_verdictOdds 121 = .ok (.iload_n 1, 1) := dk_27 (dk_at dksX1_verdictOdds_5 6 rfl rfl)
theorem dX1_verdictOdds_122 : decode cX1_verdictOdds 122 = .ok (.if_icmp .ne 7, 3) := dk_160 0 7 (dk_at dksX1_verdictOdds_5 7 rfl rfl)
theorem dX1_verdictOdds_125 : decode cX1_verdictOdds 125 = .ok (.iconst 1, 1) := dk_4 (dk_at dksX1_verdictOdds_5 10 rfl rfl)
theorem dX1_verdictOdds_126 : decode cX1_verdictOdds 126 = .ok (.goto 4, 3) := dk_167 0 4 (dk_at dksX1_verdictOdds_5 11 rfl rfl)
theorem dX1_verdictOdds_129 : decode cX1_verdictOdds 129 = .ok (.iconst 0, 1) := dk_3 (dk_at dksX1_verdictOdds_5 14 rfl rfl)
theorem dX1_verdictOdds_130 : decode cX1_verdictOdds 130 = .ok (.iadd, 1) := dk_96 (dk_at dksX1_verdictOdds_5 15 rfl rfl)
theorem dX1_verdictOdds_131 : decode cX1_verdictOdds 131 = .ok (.istore 6, 2) := dk_54 6 (dk_at dksX1_verdictOdds_5 16 rfl rfl)
theorem dX1_verdictOdds_133 : decode cX1_verdictOdds 133 = .ok (.iinc 7 1, 3) := dk_132 7 1 (dk_at dksX1_verdictOdds_5 18 rfl rfl)
theorem dX1_verdictOdds_136 : decode cX1_verdictOdds 136 = .ok (.goto (-76), 3) := dk_167 255 180 (dk_at dksX1_verdictOdds_5 21 rfl rfl)
theorem dX1_verdictOdds_139 : decode cX1_verdictOdds 139 = .ok (.aload_n 0, 1) := dk_42 (dk_at dksX1_verdictOdds_6 0 rfl rfl)
theorem dX1_verdictOdds_140 : decode cX1_verdictOdds 140 = .ok (.iload 6, 2) := dk_21 6 (dk_at dksX1_verdictOdds_6 1 rfl rfl)
theorem dX1_verdictOdds_142 : decode cX1_verdictOdds 142 = .ok (.i2l, 1) := dk_133 (dk_at dksX1_verdictOdds_6 3 rfl rfl)
theorem dX1_verdictOdds_143 : decode cX1_verdictOdds 143 = .ok (.iload 5, 2) := dk_21 5 (dk_at dksX1_verdictOdds_6 4 rfl rfl)
theorem dX1_verdictOdds_145 : decode cX1_verdictOdds 145 = .ok (.i2l, 1) := dk_133 (dk_at dksX1_verdictOdds_6 6 rfl rfl)
theorem dX1_verdictOdds_146 : decode cX1_verdictOdds 146 = .ok (.iload_n 3, 1) := dk_29 (dk_at dksX1_verdictOdds_6 7 rfl rfl)
theorem dX1_verdictOdds_147 : decode cX1_verdictOdds 147 = .ok (.invokevirtual 319, 3) := dk_182 1 63 (dk_at dksX1_verdictOdds_6 8 rfl rfl)
theorem dX1_verdictOdds_150 : decode cX1_verdictOdds 150 = .ok (.lreturn, 1) := dk_173 (dk_at dksX1_verdictOdds_6 11 rfl rfl)
abbrev cX1_looksAway : ByteArray := prog_1_method_83_code
def yX1_looksAway : MethodName := ⟨RX1, "looksAway", "()V"⟩
def dkwX1_looksAway_0 : List UInt8 := [3, 60, 27, 8, 162, 0, 16, 42, 180, 0, 38, 27, 3, 79, 132, 1, 1, 167, 255, 241, 177]
abbrev dktX1_looksAway_0 : List UInt8 := dkwX1_looksAway_0 ++ []
theorem dksX1_looksAway_0 : cX1_looksAway.data.toList.drop 0 = dktX1_looksAway_0 := by decide +kernel
theorem dX1_looksAway_0 : decode cX1_looksAway 0 = .ok (.iconst 0, 1) := dk_3 (dk_at dksX1_looksAway_0 0 rfl rfl)
theorem dX1_looksAway_1 : decode cX1_looksAway 1 = .ok (.istore_n 1, 1) := dk_60 (dk_at dksX1_looksAway_0 1 rfl rfl)
theorem dX1_looksAway_2 : decode cX1_looksAway 2 = .ok (.iload_n 1, 1) := dk_27 (dk_at dksX1_looksAway_0 2 rfl rfl)
theorem dX1_looksAway_3 : decode cX1_looksAway 3 = .ok (.iconst 5, 1) := dk_8 (dk_at dksX1_looksAway_0 3 rfl rfl)
theorem dX1_looksAway_4 : decode cX1_looksAway 4 = .ok (.if_icmp .ge 16, 3) := dk_162 0 16 (dk_at dksX1_looksAway_0 4 rfl rfl)
theorem dX1_looksAway_7 : decode cX1_looksAway 7 = .ok (.aload_n 0, 1) := dk_42 (dk_at dksX1_looksAway_0 7 rfl rfl)
theorem dX1_looksAway_8 : decode cX1_looksAway 8 = .ok (.getfield 38, 3) := dk_180 0 38 (dk_at dksX1_looksAway_0 8 rfl rfl)
theorem dX1_looksAway_11 : decode cX1_looksAway 11 = .ok (.iload_n 1, 1) := dk_27 (dk_at dksX1_looksAway_0 11 rfl rfl)
theorem dX1_looksAway_12 : decode cX1_looksAway 12 = .ok (.iconst 0, 1) := dk_3 (dk_at dksX1_looksAway_0 12 rfl rfl)
theorem dX1_looksAway_13 : decode cX1_looksAway 13 = .ok (.iastore, 1) := dk_79 (dk_at dksX1_looksAway_0 13 rfl rfl)
theorem dX1_looksAway_14 : decode cX1_looksAway 14 = .ok (.iinc 1 1, 3) := dk_132 1 1 (dk_at dksX1_looksAway_0 14 rfl rfl)
theorem dX1_looksAway_17 : decode cX1_looksAway 17 = .ok (.goto (-15), 3) := dk_167 255 241 (dk_at dksX1_looksAway_0 17 rfl rfl)
theorem dX1_looksAway_20 : decode cX1_looksAway 20 = .ok (.return_, 1) := dk_177 (dk_at dksX1_looksAway_0 20 rfl rfl)
abbrev cX1_mostLooked : ByteArray := prog_1_method_84_code
def yX1_mostLooked : MethodName := ⟨RX1, "mostLooked", "()I"⟩
def dkwX1_mostLooked_1 : List UInt8 := [164, 0, 5, 28, 60, 132, 2, 1, 167, 255, 228, 27, 172]
abbrev dktX1_mostLooked_1 : List UInt8 := dkwX1_mostLooked_1 ++ []
def dkwX1_mostLooked_0 : List UInt8 := [3, 60, 4, 61, 28, 42, 182, 0, 108, 162, 0, 26, 42, 180, 0, 38, 28, 46, 42, 180, 0, 38, 27, 46]
abbrev dktX1_mostLooked_0 : List UInt8 := dkwX1_mostLooked_0 ++ dktX1_mostLooked_1
theorem dksX1_mostLooked_0 : cX1_mostLooked.data.toList.drop 0 = dktX1_mostLooked_0 := by decide +kernel
theorem dksX1_mostLooked_1 : cX1_mostLooked.data.toList.drop 24 = dktX1_mostLooked_1 := dk_seg dksX1_mostLooked_0 24 rfl rfl
theorem dX1_mostLooked_0 : decode cX1_mostLooked 0 = .ok (.iconst 0, 1) := dk_3 (dk_at dksX1_mostLooked_0 0 rfl rfl)
theorem dX1_mostLooked_1 : decode cX1_mostLooked 1 = .ok (.istore_n 1, 1) := dk_60 (dk_at dksX1_mostLooked_0 1 rfl rfl)
theorem dX1_mostLooked_2 : decode cX1_mostLooked 2 = .ok (.iconst 1, 1) := dk_4 (dk_at dksX1_mostLooked_0 2 rfl rfl)
theorem dX1_mostLooked_3 : decode cX1_mostLooked 3 = .ok (.istore_n 2, 1) := dk_61 (dk_at dksX1_mostLooked_0 3 rfl rfl)
theorem dX1_mostLooked_4 : decode cX1_mostLooked 4 = .ok (.iload_n 2, 1) := dk_28 (dk_at dksX1_mostLooked_0 4 rfl rfl)
theorem dX1_mostLooked_5 : decode cX1_mostLooked 5 = .ok (.aload_n 0, 1) := dk_42 (dk_at dksX1_mostLooked_0 5 rfl rfl)
theorem dX1_mostLooked_6 : decode cX1_mostLooked 6 = .ok (.invokevirtual 108, 3) := dk_182 0 108 (dk_at dksX1_mostLooked_0 6 rfl rfl)
theorem dX1_mostLooked_9 : decode cX1_mostLooked 9 = .ok (.if_icmp .ge 26, 3) := dk_162 0 26 (dk_at dksX1_mostLooked_0 9 rfl rfl)
theorem dX1_mostLooked_12 : decode cX1_mostLooked 12 = .ok (.aload_n 0, 1) := dk_42 (dk_at dksX1_mostLooked_0 12 rfl rfl)
theorem dX1_mostLooked_13 : decode cX1_mostLooked 13 = .ok (.getfield 38, 3) := dk_180 0 38 (dk_at dksX1_mostLooked_0 13 rfl rfl)
theorem dX1_mostLooked_16 : decode cX1_mostLooked 16 = .ok (.iload_n 2, 1) := dk_28 (dk_at dksX1_mostLooked_0 16 rfl rfl)
theorem dX1_mostLooked_17 : decode cX1_mostLooked 17 = .ok (.iaload, 1) := dk_46 (dk_at dksX1_mostLooked_0 17 rfl rfl)
theorem dX1_mostLooked_18 : decode cX1_mostLooked 18 = .ok (.aload_n 0, 1) := dk_42 (dk_at dksX1_mostLooked_0 18 rfl rfl)
theorem dX1_mostLooked_19 : decode cX1_mostLooked 19 = .ok (.getfield 38, 3) := dk_180 0 38 (dk_at dksX1_mostLooked_0 19 rfl rfl)
theorem dX1_mostLooked_22 : decode cX1_mostLooked 22 = .ok (.iload_n 1, 1) := dk_27 (dk_at dksX1_mostLooked_0 22 rfl rfl)
theorem dX1_mostLooked_23 : decode cX1_mostLooked 23 = .ok (.iaload, 1) := dk_46 (dk_at dksX1_mostLooked_0 23 rfl rfl)
theorem dX1_mostLooked_24 : decode cX1_mostLooked 24 = .ok (.if_icmp .le 5, 3) := dk_164 0 5 (dk_at dksX1_mostLooked_1 0 rfl rfl)
theorem dX1_mostLooked_27 : decode cX1_mostLooked 27 = .ok (.iload_n 2, 1) := dk_28 (dk_at dksX1_mostLooked_1 3 rfl rfl)
theorem dX1_mostLooked_28 : decode cX1_mostLooked 28 = .ok (.istore_n 1, 1) := dk_60 (dk_at dksX1_mostLooked_1 4 rfl rfl)
theorem dX1_mostLooked_29 : decode cX1_mostLooked 29 = .ok (.iinc 2 1, 3) := dk_132 2 1 (dk_at dksX1_mostLooked_1 5 rfl rfl)
theorem dX1_mostLooked_32 : decode cX1_mostLooked 32 = .ok (.goto (-28), 3) := dk_167 255 228 (dk_at dksX1_mostLooked_1 8 rfl rfl)
theorem dX1_mostLooked_35 : decode cX1_mostLooked 35 = .ok (.iload_n 1, 1) := dk_27 (dk_at dksX1_mostLooked_1 11 rfl rfl)
theorem dX1_mostLooked_36 : decode cX1_mostLooked 36 = .ok (.ireturn, 1) := dk_172 (dk_at dksX1_mostLooked_1 12 rfl rfl)
abbrev cX1_fraction : ByteArray := prog_1_method_12_code
def yX1_fraction : MethodName := ⟨RX1, "fraction", "(JJZ)J"⟩
def dkwX1_fraction_0 : List UInt8 := [42, 3, 182, 0, 54, 87, 21, 5, 153, 0, 7, 33, 167, 0, 4, 31, 31, 33, 184, 0, 57, 109, 173]
abbrev dktX1_fraction_0 : List UInt8 := dkwX1_fraction_0 ++ []
theorem dksX1_fraction_0 : cX1_fraction.data.toList.drop 0 = dktX1_fraction_0 := by decide +kernel
theorem dX1_fraction_0 : decode cX1_fraction 0 = .ok (.aload_n 0, 1) := dk_42 (dk_at dksX1_fraction_0 0 rfl rfl)
theorem dX1_fraction_1 : decode cX1_fraction 1 = .ok (.iconst 0, 1) := dk_3 (dk_at dksX1_fraction_0 1 rfl rfl)
theorem dX1_fraction_2 : decode cX1_fraction 2 = .ok (.invokevirtual 54, 3) := dk_182 0 54 (dk_at dksX1_fraction_0 2 rfl rfl)
theorem dX1_fraction_5 : decode cX1_fraction 5 = .ok (.pop, 1) := dk_87 (dk_at dksX1_fraction_0 5 rfl rfl)
theorem dX1_fraction_6 : decode cX1_fraction 6 = .ok (.iload 5, 2) := dk_21 5 (dk_at dksX1_fraction_0 6 rfl rfl)
theorem dX1_fraction_8 : decode cX1_fraction 8 = .ok (.ifCond .eq 7, 3) := dk_153 0 7 (dk_at dksX1_fraction_0 8 rfl rfl)
theorem dX1_fraction_11 : decode cX1_fraction 11 = .ok (.lload_n 3, 1) := dk_33 (dk_at dksX1_fraction_0 11 rfl rfl)
theorem dX1_fraction_12 : decode cX1_fraction 12 = .ok (.goto 4, 3) := dk_167 0 4 (dk_at dksX1_fraction_0 12 rfl rfl)
theorem dX1_fraction_15 : decode cX1_fraction 15 = .ok (.lload_n 1, 1) := dk_31 (dk_at dksX1_fraction_0 15 rfl rfl)
theorem dX1_fraction_16 : decode cX1_fraction 16 = .ok (.lload_n 1, 1) := dk_31 (dk_at dksX1_fraction_0 16 rfl rfl)
theorem dX1_fraction_17 : decode cX1_fraction 17 = .ok (.lload_n 3, 1) := dk_33 (dk_at dksX1_fraction_0 17 rfl rfl)
theorem dX1_fraction_18 : decode cX1_fraction 18 = .ok (.invokestatic 57, 3) := dk_184 0 57 (dk_at dksX1_fraction_0 18 rfl rfl)
theorem dX1_fraction_21 : decode cX1_fraction 21 = .ok (.ldiv, 1) := dk_109 (dk_at dksX1_fraction_0 21 rfl rfl)
theorem dX1_fraction_22 : decode cX1_fraction 22 = .ok (.lreturn, 1) := dk_173 (dk_at dksX1_fraction_0 22 rfl rfl)
abbrev cX1_common : ByteArray := prog_1_method_5_code
def yX1_common : MethodName := ⟨RX1, "common", "(JJ)J"⟩
def dkwX1_common_1 : List UInt8 := [22, 8, 55, 6, 167, 255, 234, 22, 4, 173]
abbrev dktX1_common_1 : List UInt8 := dkwX1_common_1 ++ []
def dkwX1_common_0 : List UInt8 := [30, 55, 4, 32, 55, 6, 22, 6, 9, 148, 153, 0, 21, 22, 4, 22, 6, 113, 55, 8, 22, 6, 55, 4]
abbrev dktX1_common_0 : List UInt8 := dkwX1_common_0 ++ dktX1_common_1
theorem dksX1_common_0 : cX1_common.data.toList.drop 0 = dktX1_common_0 := by decide +kernel
theorem dksX1_common_1 : cX1_common.data.toList.drop 24 = dktX1_common_1 := dk_seg dksX1_common_0 24 rfl rfl
theorem dX1_common_0 : decode cX1_common 0 = .ok (.lload_n 0, 1) := dk_30 (dk_at dksX1_common_0 0 rfl rfl)
theorem dX1_common_1 : decode cX1_common 1 = .ok (.lstore 4, 2) := dk_55 4 (dk_at dksX1_common_0 1 rfl rfl)
theorem dX1_common_3 : decode cX1_common 3 = .ok (.lload_n 2, 1) := dk_32 (dk_at dksX1_common_0 3 rfl rfl)
theorem dX1_common_4 : decode cX1_common 4 = .ok (.lstore 6, 2) := dk_55 6 (dk_at dksX1_common_0 4 rfl rfl)
theorem dX1_common_6 : decode cX1_common 6 = .ok (.lload 6, 2) := dk_22 6 (dk_at dksX1_common_0 6 rfl rfl)
theorem dX1_common_8 : decode cX1_common 8 = .ok (.lconst 0, 1) := dk_9 (dk_at dksX1_common_0 8 rfl rfl)
theorem dX1_common_9 : decode cX1_common 9 = .ok (.lcmp, 1) := dk_148 (dk_at dksX1_common_0 9 rfl rfl)
theorem dX1_common_10 : decode cX1_common 10 = .ok (.ifCond .eq 21, 3) := dk_153 0 21 (dk_at dksX1_common_0 10 rfl rfl)
theorem dX1_common_13 : decode cX1_common 13 = .ok (.lload 4, 2) := dk_22 4 (dk_at dksX1_common_0 13 rfl rfl)
theorem dX1_common_15 : decode cX1_common 15 = .ok (.lload 6, 2) := dk_22 6 (dk_at dksX1_common_0 15 rfl rfl)
theorem dX1_common_17 : decode cX1_common 17 = .ok (.lrem, 1) := dk_113 (dk_at dksX1_common_0 17 rfl rfl)
theorem dX1_common_18 : decode cX1_common 18 = .ok (.lstore 8, 2) := dk_55 8 (dk_at dksX1_common_0 18 rfl rfl)
theorem dX1_common_20 : decode cX1_common 20 = .ok (.lload 6, 2) := dk_22 6 (dk_at dksX1_common_0 20 rfl rfl)
theorem dX1_common_22 : decode cX1_common 22 = .ok (.lstore 4, 2) := dk_55 4 (dk_at dksX1_common_0 22 rfl rfl)
theorem dX1_common_24 : decode cX1_common 24 = .ok (.lload 8, 2) := dk_22 8 (dk_at dksX1_common_1 0 rfl rfl)
theorem dX1_common_26 : decode cX1_common 26 = .ok (.lstore 6, 2) := dk_55 6 (dk_at dksX1_common_1 2 rfl rfl)
theorem dX1_common_28 : decode cX1_common 28 = .ok (.goto (-22), 3) := dk_167 255 234 (dk_at dksX1_common_1 4 rfl rfl)
theorem dX1_common_31 : decode cX1_common 31 = .ok (.lload 4, 2) := dk_22 4 (dk_at dksX1_common_1 7 rfl rfl)
theorem dX1_common_33 : decode cX1_common 33 = .ok (.lreturn, 1) := dk_173 (dk_at dksX1_common_1 9 rfl rfl)
abbrev cX1_looks : ByteArray := prog_1_method_88_code
def yX1_looks : MethodName := ⟨RX1, "looks", "(III)I"⟩
def dkwX1_looks_1 : List UInt8 := [172, 42, 28, 29, 182, 1, 75, 42, 42, 180, 0, 38, 27, 46, 182, 0, 54, 172]
abbrev dktX1_looks_1 : List UInt8 := dkwX1_looks_1 ++ []
def dkwX1_looks_0 : List UInt8 := [42, 42, 27, 182, 0, 162, 28, 29, 182, 1, 71, 54, 4, 21, 4, 158, 0, 10, 42, 21, 4, 182, 0, 50]
abbrev dktX1_looks_0 : List UInt8 := dkwX1_looks_0 ++ dktX1_looks_1
theorem dksX1_looks_0 : cX1_looks.data.toList.drop 0 = dktX1_looks_0 := by decide +kernel
theorem dksX1_looks_1 : cX1_looks.data.toList.drop 24 = dktX1_looks_1 := dk_seg dksX1_looks_0 24 rfl rfl
theorem dX1_looks_0 : decode cX1_looks 0 = .ok (.aload_n 0, 1) := dk_42 (dk_at dksX1_looks_0 0 rfl rfl)
theorem dX1_looks_1 : decode cX1_looks 1 = .ok (.aload_n 0, 1) := dk_42 (dk_at dksX1_looks_0 1 rfl rfl)
theorem dX1_looks_2 : decode cX1_looks 2 = .ok (.iload_n 1, 1) := dk_27 (dk_at dksX1_looks_0 2 rfl rfl)
theorem dX1_looks_3 : decode cX1_looks 3 = .ok (.invokevirtual 162, 3) := dk_182 0 162 (dk_at dksX1_looks_0 3 rfl rfl)
theorem dX1_looks_6 : decode cX1_looks 6 = .ok (.iload_n 2, 1) := dk_28 (dk_at dksX1_looks_0 6 rfl rfl)
theorem dX1_looks_7 : decode cX1_looks 7 = .ok (.iload_n 3, 1) := dk_29 (dk_at dksX1_looks_0 7 rfl rfl)
theorem dX1_looks_8 : decode cX1_looks 8 = .ok (.invokevirtual 327, 3) := dk_182 1 71 (dk_at dksX1_looks_0 8 rfl rfl)
theorem dX1_looks_11 : decode cX1_looks 11 = .ok (.istore 4, 2) := dk_54 4 (dk_at dksX1_looks_0 11 rfl rfl)
theorem dX1_looks_13 : decode cX1_looks 13 = .ok (.iload 4, 2) := dk_21 4 (dk_at dksX1_looks_0 13 rfl rfl)
theorem dX1_looks_15 : decode cX1_looks 15 = .ok (.ifCond .le 10, 3) := dk_158 0 10 (dk_at dksX1_looks_0 15 rfl rfl)
theorem dX1_looks_18 : decode cX1_looks 18 = .ok (.aload_n 0, 1) := dk_42 (dk_at dksX1_looks_0 18 rfl rfl)
theorem dX1_looks_19 : decode cX1_looks 19 = .ok (.iload 4, 2) := dk_21 4 (dk_at dksX1_looks_0 19 rfl rfl)
theorem dX1_looks_21 : decode cX1_looks 21 = .ok (.invokevirtual 50, 3) := dk_182 0 50 (dk_at dksX1_looks_0 21 rfl rfl)
theorem dX1_looks_24 : decode cX1_looks 24 = .ok (.ireturn, 1) := dk_172 (dk_at dksX1_looks_1 0 rfl rfl)
theorem dX1_looks_25 : decode cX1_looks 25 = .ok (.aload_n 0, 1) := dk_42 (dk_at dksX1_looks_1 1 rfl rfl)
theorem dX1_looks_26 : decode cX1_looks 26 = .ok (.iload_n 2, 1) := dk_28 (dk_at dksX1_looks_1 2 rfl rfl)
theorem dX1_looks_27 : decode cX1_looks 27 = .ok (.iload_n 3, 1) := dk_29 (dk_at dksX1_looks_1 3 rfl rfl)
theorem dX1_looks_28 : decode cX1_looks 28 = .ok (.invokevirtual 331, 3) := dk_182 1 75 (dk_at dksX1_looks_1 4 rfl rfl)
theorem dX1_looks_31 : decode cX1_looks 31 = .ok (.aload_n 0, 1) := dk_42 (dk_at dksX1_looks_1 7 rfl rfl)
theorem dX1_looks_32 : decode cX1_looks 32 = .ok (.aload_n 0, 1) := dk_42 (dk_at dksX1_looks_1 8 rfl rfl)
theorem dX1_looks_33 : decode cX1_looks 33 = .ok (.getfield 38, 3) := dk_180 0 38 (dk_at dksX1_looks_1 9 rfl rfl)
theorem dX1_looks_36 : decode cX1_looks 36 = .ok (.iload_n 1, 1) := dk_27 (dk_at dksX1_looks_1 12 rfl rfl)
theorem dX1_looks_37 : decode cX1_looks 37 = .ok (.iaload, 1) := dk_46 (dk_at dksX1_looks_1 13 rfl rfl)
theorem dX1_looks_38 : decode cX1_looks 38 = .ok (.invokevirtual 54, 3) := dk_182 0 54 (dk_at dksX1_looks_1 14 rfl rfl)
theorem dX1_looks_41 : decode cX1_looks 41 = .ok (.ireturn, 1) := dk_172 (dk_at dksX1_looks_1 17 rfl rfl)
abbrev cX1_whyLooks : ByteArray := prog_1_method_86_code
def yX1_whyLooks : MethodName := ⟨RX1, "whyLooks", "(ZII)I"⟩
def dkwX1_whyLooks_1 : List UInt8 := [29, 3, 17, 0, 200, 182, 0, 172, 172]
abbrev dktX1_whyLooks_1 : List UInt8 := dkwX1_whyLooks_1 ++ []
def dkwX1_whyLooks_0 : List UInt8 := [42, 27, 28, 3, 19, 1, 67, 182, 0, 172, 54, 4, 21, 4, 158, 0, 8, 21, 4, 167, 0, 13, 42, 27]
abbrev dktX1_whyLooks_0 : List UInt8 := dkwX1_whyLooks_0 ++ dktX1_whyLooks_1
theorem dksX1_whyLooks_0 : cX1_whyLooks.data.toList.drop 0 = dktX1_whyLooks_0 := by decide +kernel
theorem dksX1_whyLooks_1 : cX1_whyLooks.data.toList.drop 24 = dktX1_whyLooks_1 := dk_seg dksX1_whyLooks_0 24 rfl rfl
theorem dX1_whyLooks_0 : decode cX1_whyLooks 0 = .ok (.aload_n 0, 1) := dk_42 (dk_at dksX1_whyLooks_0 0 rfl rfl)
theorem dX1_whyLooks_1 : decode cX1_whyLooks 1 = .ok (.iload_n 1, 1) := dk_27 (dk_at dksX1_whyLooks_0 1 rfl rfl)
theorem dX1_whyLooks_2 : decode cX1_whyLooks 2 = .ok (.iload_n 2, 1) := dk_28 (dk_at dksX1_whyLooks_0 2 rfl rfl)
theorem dX1_whyLooks_3 : decode cX1_whyLooks 3 = .ok (.iconst 0, 1) := dk_3 (dk_at dksX1_whyLooks_0 3 rfl rfl)
theorem dX1_whyLooks_4 : decode cX1_whyLooks 4 = .ok (.ldc_w 323, 3) := dk_19 1 67 (dk_at dksX1_whyLooks_0 4 rfl rfl)
theorem dX1_whyLooks_7 : decode cX1_whyLooks 7 = .ok (.invokevirtual 172, 3) := dk_182 0 172 (dk_at dksX1_whyLooks_0 7 rfl rfl)
theorem dX1_whyLooks_10 : decode cX1_whyLooks 10 = .ok (.istore 4, 2) := dk_54 4 (dk_at dksX1_whyLooks_0 10 rfl rfl)
theorem dX1_whyLooks_12 : decode cX1_whyLooks 12 = .ok (.iload 4, 2) := dk_21 4 (dk_at dksX1_whyLooks_0 12 rfl rfl)
theorem dX1_whyLooks_14 : decode cX1_whyLooks 14 = .ok (.ifCond .le 8, 3) := dk_158 0 8 (dk_at dksX1_whyLooks_0 14 rfl rfl)
theorem dX1_whyLooks_17 : decode cX1_whyLooks 17 = .ok (.iload 4, 2) := dk_21 4 (dk_at dksX1_whyLooks_0 17 rfl rfl)
theorem dX1_whyLooks_19 : decode cX1_whyLooks 19 = .ok (.goto 13, 3) := dk_167 0 13 (dk_at dksX1_whyLooks_0 19 rfl rfl)
theorem dX1_whyLooks_22 : decode cX1_whyLooks 22 = .ok (.aload_n 0, 1) := dk_42 (dk_at dksX1_whyLooks_0 22 rfl rfl)
theorem dX1_whyLooks_23 : decode cX1_whyLooks 23 = .ok (.iload_n 1, 1) := dk_27 (dk_at dksX1_whyLooks_0 23 rfl rfl)
theorem dX1_whyLooks_24 : decode cX1_whyLooks 24 = .ok (.iload_n 3, 1) := dk_29 (dk_at dksX1_whyLooks_1 0 rfl rfl)
theorem dX1_whyLooks_25 : decode cX1_whyLooks 25 = .ok (.iconst 0, 1) := dk_3 (dk_at dksX1_whyLooks_1 1 rfl rfl)
theorem dX1_whyLooks_26 : decode cX1_whyLooks 26 = .ok (.sipush 200, 3) := dk_17 0 200 (dk_at dksX1_whyLooks_1 2 rfl rfl)
theorem dX1_whyLooks_29 : decode cX1_whyLooks 29 = .ok (.invokevirtual 172, 3) := dk_182 0 172 (dk_at dksX1_whyLooks_1 5 rfl rfl)
theorem dX1_whyLooks_32 : decode cX1_whyLooks 32 = .ok (.ireturn, 1) := dk_172 (dk_at dksX1_whyLooks_1 8 rfl rfl)
abbrev cX1_looksBy : ByteArray := prog_1_method_87_code
def yX1_looksBy : MethodName := ⟨RX1, "looksBy", "(II)V"⟩
def dkwX1_looksBy_1 : List UInt8 := [29, 42, 182, 0, 108, 112, 92, 46, 4, 96, 79, 132, 4, 1, 167, 255, 227, 177]
abbrev dktX1_looksBy_1 : List UInt8 := dkwX1_looksBy_1 ++ []
def dkwX1_looksBy_0 : List UInt8 := [27, 62, 42, 182, 1, 57, 3, 54, 4, 21, 4, 28, 162, 0, 29, 29, 184, 1, 68, 62, 42, 180, 0, 38]
abbrev dktX1_looksBy_0 : List UInt8 := dkwX1_looksBy_0 ++ dktX1_looksBy_1
theorem dksX1_looksBy_0 : cX1_looksBy.data.toList.drop 0 = dktX1_looksBy_0 := by decide +kernel
theorem dksX1_looksBy_1 : cX1_looksBy.data.toList.drop 24 = dktX1_looksBy_1 := dk_seg dksX1_looksBy_0 24 rfl rfl
theorem dX1_looksBy_0 : decode cX1_looksBy 0 = .ok (.iload_n 1, 1) := dk_27 (dk_at dksX1_looksBy_0 0 rfl rfl)
theorem dX1_looksBy_1 : decode cX1_looksBy 1 = .ok (.istore_n 3, 1) := dk_62 (dk_at dksX1_looksBy_0 1 rfl rfl)
theorem dX1_looksBy_2 : decode cX1_looksBy 2 = .ok (.aload_n 0, 1) := dk_42 (dk_at dksX1_looksBy_0 2 rfl rfl)
theorem dX1_looksBy_3 : decode cX1_looksBy 3 = .ok (.invokevirtual 313, 3) := dk_182 1 57 (dk_at dksX1_looksBy_0 3 rfl rfl)
theorem dX1_looksBy_6 : decode cX1_looksBy 6 = .ok (.iconst 0, 1) := dk_3 (dk_at dksX1_looksBy_0 6 rfl rfl)
theorem dX1_looksBy_7 : decode cX1_looksBy 7 = .ok (.istore 4, 2) := dk_54 4 (dk_at dksX1_looksBy_0 7 rfl rfl)
theorem dX1_looksBy_9 : decode cX1_looksBy 9 = .ok (.iload 4, 2) := dk_21 4 (dk_at dksX1_looksBy_0 9 rfl rfl)
theorem dX1_looksBy_11 : decode cX1_looksBy 11 = .ok (.iload_n 2, 1) := dk_28 (dk_at dksX1_looksBy_0 11 rfl rfl)
theorem dX1_looksBy_12 : decode cX1_looksBy 12 = .ok (.if_icmp .ge 29, 3) := dk_162 0 29 (dk_at dksX1_looksBy_0 12 rfl rfl)
theorem dX1_looksBy_15 : decode cX1_looksBy 15 = .ok (.iload_n 3, 1) := dk_29 (dk_at dksX1_looksBy_0 15 rfl rfl)
theorem dX1_looksBy_16 : decode cX1_looksBy 16 = .ok (.invokestatic 324, 3) := dk_184 1 68 (dk_at dksX1_looksBy_0 16 rfl rfl)
theorem dX1_looksBy_19 : decode cX1_looksBy 19 = .ok (.istore_n 3, 1) := dk_62 (dk_at dksX1_looksBy_0 19 rfl rfl)
theorem dX1_looksBy_20 : decode cX1_looksBy 20 = .ok (.aload_n 0, 1) := dk_42 (dk_at dksX1_looksBy_0 20 rfl rfl)
theorem dX1_looksBy_21 : decode cX1_looksBy 21 = .ok (.getfield 38, 3) := dk_180 0 38 (dk_at dksX1_looksBy_0 21 rfl rfl)
theorem dX1_looksBy_24 : decode cX1_looksBy 24 = .ok (.iload_n 3, 1) := dk_29 (dk_at dksX1_looksBy_1 0 rfl rfl)
theorem dX1_looksBy_25 : decode cX1_looksBy 25 = .ok (.aload_n 0, 1) := dk_42 (dk_at dksX1_looksBy_1 1 rfl rfl)
theorem dX1_looksBy_26 : decode cX1_looksBy 26 = .ok (.invokevirtual 108, 3) := dk_182 0 108 (dk_at dksX1_looksBy_1 2 rfl rfl)
theorem dX1_looksBy_29 : decode cX1_looksBy 29 = .ok (.irem, 1) := dk_112 (dk_at dksX1_looksBy_1 5 rfl rfl)
theorem dX1_looksBy_30 : decode cX1_looksBy 30 = .ok (.dup2, 1) := dk_92 (dk_at dksX1_looksBy_1 6 rfl rfl)
theorem dX1_looksBy_31 : decode cX1_looksBy 31 = .ok (.iaload, 1) := dk_46 (dk_at dksX1_looksBy_1 7 rfl rfl)
theorem dX1_looksBy_32 : decode cX1_looksBy 32 = .ok (.iconst 1, 1) := dk_4 (dk_at dksX1_looksBy_1 8 rfl rfl)
theorem dX1_looksBy_33 : decode cX1_looksBy 33 = .ok (.iadd, 1) := dk_96 (dk_at dksX1_looksBy_1 9 rfl rfl)
theorem dX1_looksBy_34 : decode cX1_looksBy 34 = .ok (.iastore, 1) := dk_79 (dk_at dksX1_looksBy_1 10 rfl rfl)
theorem dX1_looksBy_35 : decode cX1_looksBy 35 = .ok (.iinc 4 1, 3) := dk_132 4 1 (dk_at dksX1_looksBy_1 11 rfl rfl)
theorem dX1_looksBy_38 : decode cX1_looksBy 38 = .ok (.goto (-29), 3) := dk_167 255 227 (dk_at dksX1_looksBy_1 14 rfl rfl)
theorem dX1_looksBy_41 : decode cX1_looksBy 41 = .ok (.return_, 1) := dk_177 (dk_at dksX1_looksBy_1 17 rfl rfl)
abbrev cX1_drawOf : ByteArray := prog_1_method_6_code
def yX1_drawOf : MethodName := ⟨RX1, "drawOf", "(I)I"⟩
def dkwX1_drawOf_0 : List UInt8 := [20, 0, 41, 26, 133, 105, 20, 0, 43, 97, 20, 0, 45, 113, 136, 172]
abbrev dktX1_drawOf_0 : List UInt8 := dkwX1_drawOf_0 ++ []
theorem dksX1_drawOf_0 : cX1_drawOf.data.toList.drop 0 = dktX1_drawOf_0 := by decide +kernel
theorem dX1_drawOf_0 : decode cX1_drawOf 0 = .ok (.ldc2_w 41, 3) := dk_20 0 41 (dk_at dksX1_drawOf_0 0 rfl rfl)
theorem dX1_drawOf_3 : decode cX1_drawOf 3 = .ok (.iload_n 0, 1) := dk_26 (dk_at dksX1_drawOf_0 3 rfl rfl)
theorem dX1_drawOf_4 : decode cX1_drawOf 4 = .ok (.i2l, 1) := dk_133 (dk_at dksX1_drawOf_0 4 rfl rfl)
theorem dX1_drawOf_5 : decode cX1_drawOf 5 = .ok (.lmul, 1) := dk_105 (dk_at dksX1_drawOf_0 5 rfl rfl)
theorem dX1_drawOf_6 : decode cX1_drawOf 6 = .ok (.ldc2_w 43, 3) := dk_20 0 43 (dk_at dksX1_drawOf_0 6 rfl rfl)
theorem dX1_drawOf_9 : decode cX1_drawOf 9 = .ok (.ladd, 1) := dk_97 (dk_at dksX1_drawOf_0 9 rfl rfl)
theorem dX1_drawOf_10 : decode cX1_drawOf 10 = .ok (.ldc2_w 45, 3) := dk_20 0 45 (dk_at dksX1_drawOf_0 10 rfl rfl)
theorem dX1_drawOf_13 : decode cX1_drawOf 13 = .ok (.lrem, 1) := dk_113 (dk_at dksX1_drawOf_0 13 rfl rfl)
theorem dX1_drawOf_14 : decode cX1_drawOf 14 = .ok (.l2i, 1) := dk_136 (dk_at dksX1_drawOf_0 14 rfl rfl)
theorem dX1_drawOf_15 : decode cX1_drawOf 15 = .ok (.ireturn, 1) := dk_172 (dk_at dksX1_drawOf_0 15 rfl rfl)
abbrev cX1_verdict : ByteArray := prog_1_method_89_code
def yX1_verdict : MethodName := ⟨RX1, "verdict", "(II)I"⟩
def dkwX1_verdict_1 : List UInt8 := [29, 182, 0, 50, 172, 42, 27, 28, 182, 1, 75, 42, 42, 182, 1, 60, 182, 0, 54, 172]
abbrev dktX1_verdict_1 : List UInt8 := dkwX1_verdict_1 ++ []
def dkwX1_verdict_0 : List UInt8 := [42, 42, 180, 0, 89, 198, 0, 7, 4, 167, 0, 4, 3, 27, 28, 182, 1, 71, 62, 29, 158, 0, 9, 42]
abbrev dktX1_verdict_0 : List UInt8 := dkwX1_verdict_0 ++ dktX1_verdict_1
theorem dksX1_verdict_0 : cX1_verdict.data.toList.drop 0 = dktX1_verdict_0 := by decide +kernel
theorem dksX1_verdict_1 : cX1_verdict.data.toList.drop 24 = dktX1_verdict_1 := dk_seg dksX1_verdict_0 24 rfl rfl
theorem dX1_verdict_0 : decode cX1_verdict 0 = .ok (.aload_n 0, 1) := dk_42 (dk_at dksX1_verdict_0 0 rfl rfl)
theorem dX1_verdict_1 : decode cX1_verdict 1 = .ok (.aload_n 0, 1) := dk_42 (dk_at dksX1_verdict_0 1 rfl rfl)
theorem dX1_verdict_2 : decode cX1_verdict 2 = .ok (.getfield 89, 3) := dk_180 0 89 (dk_at dksX1_verdict_0 2 rfl rfl)
theorem dX1_verdict_5 : decode cX1_verdict 5 = .ok (.ifnull 7, 3) := dk_198 0 7 (dk_at dksX1_verdict_0 5 rfl rfl)
theorem dX1_verdict_8 : decode cX1_verdict 8 = .ok (.iconst 1, 1) := dk_4 (dk_at dksX1_verdict_0 8 rfl rfl)
theorem dX1_verdict_9 : decode cX1_verdict 9 = .ok (.goto 4, 3) := dk_167 0 4 (dk_at dksX1_verdict_0 9 rfl rfl)
theorem dX1_verdict_12 : decode cX1_verdict 12 = .ok (.iconst 0, 1) := dk_3 (dk_at dksX1_verdict_0 12 rfl rfl)
theorem dX1_verdict_13 : decode cX1_verdict 13 = .ok (.iload_n 1, 1) := dk_27 (dk_at dksX1_verdict_0 13 rfl rfl)
theorem dX1_verdict_14 : decode cX1_verdict 14 = .ok (.iload_n 2, 1) := dk_28 (dk_at dksX1_verdict_0 14 rfl rfl)
theorem dX1_verdict_15 : decode cX1_verdict 15 = .ok (.invokevirtual 327, 3) := dk_182 1 71 (dk_at dksX1_verdict_0 15 rfl rfl)
theorem dX1_verdict_18 : decode cX1_verdict 18 = .ok (.istore_n 3, 1) := dk_62 (dk_at dksX1_verdict_0 18 rfl rfl)
theorem dX1_verdict_19 : decode cX1_verdict 19 = .ok (.iload_n 3, 1) := dk_29 (dk_at dksX1_verdict_0 19 rfl rfl)
theorem dX1_verdict_20 : decode cX1_verdict 20 = .ok (.ifCond .le 9, 3) := dk_158 0 9 (dk_at dksX1_verdict_0 20 rfl rfl)
theorem dX1_verdict_23 : decode cX1_verdict 23 = .ok (.aload_n 0, 1) := dk_42 (dk_at dksX1_verdict_0 23 rfl rfl)
theorem dX1_verdict_24 : decode cX1_verdict 24 = .ok (.iload_n 3, 1) := dk_29 (dk_at dksX1_verdict_1 0 rfl rfl)
theorem dX1_verdict_25 : decode cX1_verdict 25 = .ok (.invokevirtual 50, 3) := dk_182 0 50 (dk_at dksX1_verdict_1 1 rfl rfl)
theorem dX1_verdict_28 : decode cX1_verdict 28 = .ok (.ireturn, 1) := dk_172 (dk_at dksX1_verdict_1 4 rfl rfl)
theorem dX1_verdict_29 : decode cX1_verdict 29 = .ok (.aload_n 0, 1) := dk_42 (dk_at dksX1_verdict_1 5 rfl rfl)
theorem dX1_verdict_30 : decode cX1_verdict 30 = .ok (.iload_n 1, 1) := dk_27 (dk_at dksX1_verdict_1 6 rfl rfl)
theorem dX1_verdict_31 : decode cX1_verdict 31 = .ok (.iload_n 2, 1) := dk_28 (dk_at dksX1_verdict_1 7 rfl rfl)
theorem dX1_verdict_32 : decode cX1_verdict 32 = .ok (.invokevirtual 331, 3) := dk_182 1 75 (dk_at dksX1_verdict_1 8 rfl rfl)
theorem dX1_verdict_35 : decode cX1_verdict 35 = .ok (.aload_n 0, 1) := dk_42 (dk_at dksX1_verdict_1 11 rfl rfl)
theorem dX1_verdict_36 : decode cX1_verdict 36 = .ok (.aload_n 0, 1) := dk_42 (dk_at dksX1_verdict_1 12 rfl rfl)
theorem dX1_verdict_37 : decode cX1_verdict 37 = .ok (.invokevirtual 316, 3) := dk_182 1 60 (dk_at dksX1_verdict_1 13 rfl rfl)
theorem dX1_verdict_40 : decode cX1_verdict 40 = .ok (.invokevirtual 54, 3) := dk_182 0 54 (dk_at dksX1_verdict_1 16 rfl rfl)
theorem dX1_verdict_43 : decode cX1_verdict 43 = .ok (.ireturn, 1) := dk_172 (dk_at dksX1_verdict_1 19 rfl rfl)
abbrev cX1_odds : ByteArray := prog_1_method_93_code
def yX1_odds : MethodName := ⟨RX1, "odds", "(IIIZ)J"⟩
def dkwX1_odds_4 : List UInt8 := [184, 1, 90, 21, 4, 182, 1, 63, 173]
abbrev dktX1_odds_4 : List UInt8 := dkwX1_odds_4 ++ []
def dkwX1_odds_3 : List UInt8 := [42, 28, 21, 8, 182, 1, 86, 167, 0, 4, 9, 97, 55, 6, 132, 8, 1, 167, 255, 217, 42, 22, 6, 28]
abbrev dktX1_odds_3 : List UInt8 := dkwX1_odds_3 ++ dktX1_odds_4
def dkwX1_odds_2 : List UInt8 := [54, 8, 21, 8, 4, 28, 120, 162, 0, 37, 22, 6, 42, 27, 28, 21, 8, 182, 1, 83, 29, 161, 0, 13]
abbrev dktX1_odds_2 : List UInt8 := dkwX1_odds_2 ++ dktX1_odds_3
def dkwX1_odds_1 : List UInt8 := [16, 99, 182, 0, 172, 54, 5, 21, 5, 158, 0, 11, 42, 21, 5, 182, 0, 50, 133, 173, 9, 55, 6, 3]
abbrev dktX1_odds_1 : List UInt8 := dkwX1_odds_1 ++ dktX1_odds_2
def dkwX1_odds_0 : List UInt8 := [42, 42, 27, 182, 0, 162, 28, 3, 8, 182, 0, 172, 54, 5, 21, 5, 154, 0, 14, 42, 4, 29, 3]
abbrev dktX1_odds_0 : List UInt8 := dkwX1_odds_0 ++ dktX1_odds_1
theorem dksX1_odds_0 : cX1_odds.data.toList.drop 0 = dktX1_odds_0 := by decide +kernel
theorem dksX1_odds_1 : cX1_odds.data.toList.drop 23 = dktX1_odds_1 := dk_seg dksX1_odds_0 23 rfl rfl
theorem dksX1_odds_2 : cX1_odds.data.toList.drop 47 = dktX1_odds_2 := dk_seg dksX1_odds_1 24 rfl rfl
theorem dksX1_odds_3 : cX1_odds.data.toList.drop 71 = dktX1_odds_3 := dk_seg dksX1_odds_2 24 rfl rfl
theorem dksX1_odds_4 : cX1_odds.data.toList.drop 95 = dktX1_odds_4 := dk_seg dksX1_odds_3 24 rfl rfl
theorem dX1_odds_0 : decode cX1_odds 0 = .ok (.aload_n 0, 1) := dk_42 (dk_at dksX1_odds_0 0 rfl rfl)
theorem dX1_odds_1 : decode cX1_odds 1 = .ok (.aload_n 0, 1) := dk_42 (dk_at dksX1_odds_0 1 rfl rfl)
theorem dX1_odds_2 : decode cX1_odds 2 = .ok (.iload_n 1, 1) := dk_27 (dk_at dksX1_odds_0 2 rfl rfl)
theorem dX1_odds_3 : decode cX1_odds 3 = .ok (.invokevirtual 162, 3) := dk_182 0 162 (dk_at dksX1_odds_0 3 rfl rfl)
theorem dX1_odds_6 : decode cX1_odds 6 = .ok (.iload_n 2, 1) := dk_28 (dk_at dksX1_odds_0 6 rfl rfl)
theorem dX1_odds_7 : decode cX1_odds 7 = .ok (.iconst 0, 1) := dk_3 (dk_at dksX1_odds_0 7 rfl rfl)
theorem dX1_odds_8 : decode cX1_odds 8 = .ok (.iconst 5, 1) := dk_8 (dk_at dksX1_odds_0 8 rfl rfl)
theorem dX1_odds_9 : decode cX1_odds 9 = .ok (.invokevirtual 172, 3) := dk_182 0 172 (dk_at dksX1_odds_0 9 rfl rfl)
theorem dX1_odds_12 : decode cX1_odds 12 = .ok (.istore 5, 2) := dk_54 5 (dk_at dksX1_odds_0 12 rfl rfl)
theorem dX1_odds_14 : decode cX1_odds 14 = .ok (.iload 5, 2) := dk_21 5 (dk_at dksX1_odds_0 14 rfl rfl)
theorem dX1_odds_16 : decode cX1_odds 16 = .ok (.ifCond .ne 14, 3) := dk_154 0 14 (dk_at dksX1_odds_0 16 rfl rfl)
theorem dX1_odds_19 : decode cX1_odds 19 = .ok (.aload_n 0, 1) := dk_42 (dk_at dksX1_odds_0 19 rfl rfl)
theorem dX1_odds_20 : decode cX1_odds 20 = .ok (.iconst 1, 1) := dk_4 (dk_at dksX1_odds_0 20 rfl rfl)
theorem dX1_odds_21 : decode cX1_odds 21 = .ok (.iload_n 3, 1) := dk_29 (dk_at dksX1_odds_0 21 rfl rfl)
theorem dX1_odds_22 : decode cX1_odds 22 = .ok (.iconst 0, 1) := dk_3 (dk_at dksX1_odds_0 22 rfl rfl)
theorem dX1_odds_23 : decode cX1_odds 23 = .ok (.bipush 99, 2) := dk_16 99 (dk_at dksX1_odds_1 0 rfl rfl)
theorem dX1_odds_25 : decode cX1_odds 25 = .ok (.invokevirtual 172, 3) := dk_182 0 172 (dk_at dksX1_odds_1 2 rfl rfl)
theorem dX1_odds_28 : decode cX1_odds 28 = .ok (.istore 5, 2) := dk_54 5 (dk_at dksX1_odds_1 5 rfl rfl)
theorem dX1_odds_30 : decode cX1_odds 30 = .ok (.iload 5, 2) := dk_21 5 (dk_at dksX1_odds_1 7 rfl rfl)
theorem dX1_odds_32 : decode cX1_odds 32 = .ok (.ifCond .le 11, 3) := dk_158 0 11 (dk_at dksX1_odds_1 9 rfl rfl)
theorem dX1_odds_35 : decode cX1_odds 35 = .ok (.aload_n 0, 1) := dk_42 (dk_at dksX1_odds_1 12 rfl rfl)
theorem dX1_odds_36 : decode cX1_odds 36 = .ok (.iload 5, 2) := dk_21 5 (dk_at dksX1_odds_1 13 rfl rfl)
theorem dX1_odds_38 : decode cX1_odds 38 = .ok (.invokevirtual 50, 3) := dk_182 0 50 (dk_at dksX1_odds_1 15 rfl rfl)
theorem dX1_odds_41 : decode cX1_odds 41 = .ok (.i2l, 1) := dk_133 (dk_at dksX1_odds_1 18 rfl rfl)
theorem dX1_odds_42 : decode cX1_odds 42 = .ok (.lreturn, 1) := dk_173 (dk_at dksX1_odds_1 19 rfl rfl)
theorem dX1_odds_43 : decode cX1_odds 43 = .ok (.lconst 0, 1) := dk_9 (dk_at dksX1_odds_1 20 rfl rfl)
theorem dX1_odds_44 : decode cX1_odds 44 = .ok (.lstore 6, 2) := dk_55 6 (dk_at dksX1_odds_1 21 rfl rfl)
theorem dX1_odds_46 : decode cX1_odds 46 = .ok (.iconst 0, 1) := dk_3 (dk_at dksX1_odds_1 23 rfl rfl)
theorem dX1_odds_47 : decode cX1_odds 47 = .ok (.istore 8, 2) := dk_54 8 (dk_at dksX1_odds_2 0 rfl rfl)
theorem dX1_odds_49 : decode cX1_odds 49 = .ok (.iload 8, 2) := dk_21 8 (dk_at dksX1_odds_2 2 rfl rfl)
theorem dX1_odds_51 : decode cX1_odds 51 = .ok (.iconst 1, 1) := dk_4 (dk_at dksX1_odds_2 4 rfl rfl)
theorem dX1_odds_52 : decode cX1_odds 52 = .ok (.iload_n 2, 1) := dk_28 (dk_at dksX1_odds_2 5 rfl rfl)
theorem dX1_odds_53 : decode cX1_odds 53 = .ok (.ishl, 1) := dk_120 (dk_at dksX1_odds_2 6 rfl rfl)
theorem dX1_odds_54 : decode cX1_odds 54 = .ok (.if_icmp .ge 37, 3) := dk_162 0 37 (dk_at dksX1_odds_2 7 rfl rfl)
theorem dX1_odds_57 : decode cX1_odds 57 = .ok (.lload 6, 2) := dk_22 6 (dk_at dksX1_odds_2 10 rfl rfl)
theorem dX1_odds_59 : decode cX1_odds 59 = .ok (.aload_n 0, 1) := dk_42 (dk_at dksX1_odds_2 12 rfl rfl)
theorem dX1_odds_60 : decode cX1_odds 60 = .ok (.iload_n 1, 1) := dk_27 (dk_at dksX1_odds_2 13 rfl rfl)
theorem dX1_odds_61 : decode cX1_odds 61 = .ok (.iload_n 2, 1) := dk_28 (dk_at dksX1_odds_2 14 rfl rfl)
theorem dX1_odds_62 : decode cX1_odds 62 = .ok (.iload 8, 2) := dk_21 8 (dk_at dksX1_odds_2 15 rfl rfl)
theorem dX1_odds_64 : decode cX1_odds 64 = .ok (.invokevirtual 339, 3) := dk_182 1 83 (dk_at dksX1_odds_2 17 rfl rfl)
theorem dX1_odds_67 : decode cX1_odds 67 = .ok (.iload_n 3, 1) := dk_29 (dk_at dksX1_odds_2 20 rfl rfl)
theorem dX1_odds_68 : decode cX1_odds 68 = .ok (.if_icmp .lt 13, 3) := dk_161 0 13 (dk_at dksX1_odds_2 21 rfl rfl)
theorem dX1_odds_71 : decode cX1_odds 71 = .ok (.aload_n 0, 1) := dk_42 (dk_at dksX1_odds_3 0 rfl rfl)
theorem dX1_odds_72 : decode cX1_odds 72 = .ok (.iload_n 2, 1) := dk_28 (dk_at dksX1_odds_3 1 rfl rfl)
theorem dX1_odds_73 : decode cX1_odds 73 = .ok (.iload 8, 2) := dk_21 8 (dk_at dksX1_odds_3 2 rfl rfl)
theorem dX1_odds_75 : decode cX1_odds 75 = .ok (.invokevirtual 342, 3) := dk_182 1 86 (dk_at dksX1_odds_3 4 rfl rfl)
theorem dX1_odds_78 : decode cX1_odds 78 = .ok (.goto 4, 3) := dk_167 0 4 (dk_at dksX1_odds_3 7 rfl rfl)
theorem dX1_odds_81 : decode cX1_odds 81 = .ok (.lconst 0, 1) := dk_9 (dk_at dksX1_odds_3 10 rfl rfl)
theorem dX1_odds_82 : decode cX1_odds 82 = .ok (.ladd, 1) := dk_97 (dk_at dksX1_odds_3 11 rfl rfl)
theorem dX1_odds_83 : decode cX1_odds 83 = .ok (.lstore 6, 2) := dk_55 6 (dk_at dksX1_odds_3 12 rfl rfl)
theorem dX1_odds_85 : decode cX1_odds 85 = .ok (.iinc 8 1, 3) := dk_132 8 1 (dk_at dksX1_odds_3 14 rfl rfl)
theorem dX1_odds_88 : decode cX1_odds 88 = .ok (.goto (-39), 3) := dk_167 255 217 (dk_at dksX1_odds_3 17 rfl rfl)
theorem dX1_odds_91 : decode cX1_odds 91 = .ok (.aload_n 0, 1) := dk_42 (dk_at dksX1_odds_3 20 rfl rfl)
theorem dX1_odds_92 : decode cX1_odds 92 = .ok (.lload 6, 2) := dk_22 6 (dk_at dksX1_odds_3 21 rfl rfl)
theorem dX1_odds_94 : decode cX1_odds 94 = .ok (.iload_n 2, 1) := dk_28 (dk_at dksX1_odds_3 23 rfl rfl)
theorem dX1_odds_95 : decode cX1_odds 95 = .ok (.invokestatic 346, 3) := dk_184 1 90 (dk_at dksX1_odds_4 0 rfl rfl)
theorem dX1_odds_98 : decode cX1_odds 98 = .ok (.iload 4, 2) := dk_21 4 (dk_at dksX1_odds_4 3 rfl rfl)
theorem dX1_odds_100 : decode cX1_odds 100 = .ok (.invokevirtual 319, 3) := dk_182 1 63 (dk_at dksX1_odds_4 5 rfl rfl)
theorem dX1_odds_103 : decode cX1_odds 103 = .ok (.lreturn, 1) := dk_173 (dk_at dksX1_odds_4 8 rfl rfl)
abbrev cX1_saysBy : ByteArray := prog_1_method_90_code
def yX1_saysBy : MethodName := ⟨RX1, "saysBy", "(III)I"⟩
def dkwX1_saysBy_3 : List UInt8 := [172]
abbrev dktX1_saysBy_3 : List UInt8 := dkwX1_saysBy_3 ++ []
def dkwX1_saysBy_2 : List UInt8 := [21, 5, 96, 29, 21, 5, 4, 100, 184, 0, 232, 182, 0, 148, 54, 4, 132, 5, 1, 167, 255, 203, 21, 4]
abbrev dktX1_saysBy_2 : List UInt8 := dkwX1_saysBy_2 ++ dktX1_saysBy_3
def dkwX1_saysBy_1 : List UInt8 := [42, 180, 0, 98, 180, 0, 152, 27, 51, 42, 27, 182, 0, 125, 180, 0, 155, 42, 180, 0, 98, 180, 0, 145]
abbrev dktX1_saysBy_1 : List UInt8 := dkwX1_saysBy_1 ++ dktX1_saysBy_2
def dkwX1_saysBy_0 : List UInt8 := [42, 180, 0, 98, 180, 0, 142, 27, 51, 54, 4, 4, 54, 5, 21, 5, 28, 163, 0, 53, 42, 27, 21, 4]
abbrev dktX1_saysBy_0 : List UInt8 := dkwX1_saysBy_0 ++ dktX1_saysBy_1
theorem dksX1_saysBy_0 : cX1_saysBy.data.toList.drop 0 = dktX1_saysBy_0 := by decide +kernel
theorem dksX1_saysBy_1 : cX1_saysBy.data.toList.drop 24 = dktX1_saysBy_1 := dk_seg dksX1_saysBy_0 24 rfl rfl
theorem dksX1_saysBy_2 : cX1_saysBy.data.toList.drop 48 = dktX1_saysBy_2 := dk_seg dksX1_saysBy_1 24 rfl rfl
theorem dksX1_saysBy_3 : cX1_saysBy.data.toList.drop 72 = dktX1_saysBy_3 := dk_seg dksX1_saysBy_2 24 rfl rfl
theorem dX1_saysBy_0 : decode cX1_saysBy 0 = .ok (.aload_n 0, 1) := dk_42 (dk_at dksX1_saysBy_0 0 rfl rfl)
theorem dX1_saysBy_1 : decode cX1_saysBy 1 = .ok (.getfield 98, 3) := dk_180 0 98 (dk_at dksX1_saysBy_0 1 rfl rfl)
theorem dX1_saysBy_4 : decode cX1_saysBy 4 = .ok (.getfield 142, 3) := dk_180 0 142 (dk_at dksX1_saysBy_0 4 rfl rfl)
theorem dX1_saysBy_7 : decode cX1_saysBy 7 = .ok (.iload_n 1, 1) := dk_27 (dk_at dksX1_saysBy_0 7 rfl rfl)
theorem dX1_saysBy_8 : decode cX1_saysBy 8 = .ok (.baload, 1) := dk_51 (dk_at dksX1_saysBy_0 8 rfl rfl)
theorem dX1_saysBy_9 : decode cX1_saysBy 9 = .ok (.istore 4, 2) := dk_54 4 (dk_at dksX1_saysBy_0 9 rfl rfl)
theorem dX1_saysBy_11 : decode cX1_saysBy 11 = .ok (.iconst 1, 1) := dk_4 (dk_at dksX1_saysBy_0 11 rfl rfl)
theorem dX1_saysBy_12 : decode cX1_saysBy 12 = .ok (.istore 5, 2) := dk_54 5 (dk_at dksX1_saysBy_0 12 rfl rfl)
theorem dX1_saysBy_14 : decode cX1_saysBy 14 = .ok (.iload 5, 2) := dk_21 5 (dk_at dksX1_saysBy_0 14 rfl rfl)
theorem dX1_saysBy_16 : decode cX1_saysBy 16 = .ok (.iload_n 2, 1) := dk_28 (dk_at dksX1_saysBy_0 16 rfl rfl)
theorem dX1_saysBy_17 : decode cX1_saysBy 17 = .ok (.if_icmp .gt 53, 3) := dk_163 0 53 (dk_at dksX1_saysBy_0 17 rfl rfl)
theorem dX1_saysBy_20 : decode cX1_saysBy 20 = .ok (.aload_n 0, 1) := dk_42 (dk_at dksX1_saysBy_0 20 rfl rfl)
theorem dX1_saysBy_21 : decode cX1_saysBy 21 = .ok (.iload_n 1, 1) := dk_27 (dk_at dksX1_saysBy_0 21 rfl rfl)
theorem dX1_saysBy_22 : decode cX1_saysBy 22 = .ok (.iload 4, 2) := dk_21 4 (dk_at dksX1_saysBy_0 22 rfl rfl)
theorem dX1_saysBy_24 : decode cX1_saysBy 24 = .ok (.aload_n 0, 1) := dk_42 (dk_at dksX1_saysBy_1 0 rfl rfl)
theorem dX1_saysBy_25 : decode cX1_saysBy 25 = .ok (.getfield 98, 3) := dk_180 0 98 (dk_at dksX1_saysBy_1 1 rfl rfl)
theorem dX1_saysBy_28 : decode cX1_saysBy 28 = .ok (.getfield 152, 3) := dk_180 0 152 (dk_at dksX1_saysBy_1 4 rfl rfl)
theorem dX1_saysBy_31 : decode cX1_saysBy 31 = .ok (.iload_n 1, 1) := dk_27 (dk_at dksX1_saysBy_1 7 rfl rfl)
theorem dX1_saysBy_32 : decode cX1_saysBy 32 = .ok (.baload, 1) := dk_51 (dk_at dksX1_saysBy_1 8 rfl rfl)
theorem dX1_saysBy_33 : decode cX1_saysBy 33 = .ok (.aload_n 0, 1) := dk_42 (dk_at dksX1_saysBy_1 9 rfl rfl)
theorem dX1_saysBy_34 : decode cX1_saysBy 34 = .ok (.iload_n 1, 1) := dk_27 (dk_at dksX1_saysBy_1 10 rfl rfl)
theorem dX1_saysBy_35 : decode cX1_saysBy 35 = .ok (.invokevirtual 125, 3) := dk_182 0 125 (dk_at dksX1_saysBy_1 11 rfl rfl)
theorem dX1_saysBy_38 : decode cX1_saysBy 38 = .ok (.getfield 155, 3) := dk_180 0 155 (dk_at dksX1_saysBy_1 14 rfl rfl)
theorem dX1_saysBy_41 : decode cX1_saysBy 41 = .ok (.aload_n 0, 1) := dk_42 (dk_at dksX1_saysBy_1 17 rfl rfl)
theorem dX1_saysBy_42 : decode cX1_saysBy 42 = .ok (.getfield 98, 3) := dk_180 0 98 (dk_at dksX1_saysBy_1 18 rfl rfl)
theorem dX1_saysBy_45 : decode cX1_saysBy 45 = .ok (.getfield 145, 3) := dk_180 0 145 (dk_at dksX1_saysBy_1 21 rfl rfl)
theorem dX1_saysBy_48 : decode cX1_saysBy 48 = .ok (.iload 5, 2) := dk_21 5 (dk_at dksX1_saysBy_2 0 rfl rfl)
theorem dX1_saysBy_50 : decode cX1_saysBy 50 = .ok (.iadd, 1) := dk_96 (dk_at dksX1_saysBy_2 2 rfl rfl)
theorem dX1_saysBy_51 : decode cX1_saysBy 51 = .ok (.iload_n 3, 1) := dk_29 (dk_at dksX1_saysBy_2 3 rfl rfl)
theorem dX1_saysBy_52 : decode cX1_saysBy 52 = .ok (.iload 5, 2) := dk_21 5 (dk_at dksX1_saysBy_2 4 rfl rfl)
theorem dX1_saysBy_54 : decode cX1_saysBy 54 = .ok (.iconst 1, 1) := dk_4 (dk_at dksX1_saysBy_2 6 rfl rfl)
theorem dX1_saysBy_55 : decode cX1_saysBy 55 = .ok (.isub, 1) := dk_100 (dk_at dksX1_saysBy_2 7 rfl rfl)
theorem dX1_saysBy_56 : decode cX1_saysBy 56 = .ok (.invokestatic 232, 3) := dk_184 0 232 (dk_at dksX1_saysBy_2 8 rfl rfl)
theorem dX1_saysBy_59 : decode cX1_saysBy 59 = .ok (.invokevirtual 148, 3) := dk_182 0 148 (dk_at dksX1_saysBy_2 11 rfl rfl)
theorem dX1_saysBy_62 : decode cX1_saysBy 62 = .ok (.istore 4, 2) := dk_54 4 (dk_at dksX1_saysBy_2 14 rfl rfl)
theorem dX1_saysBy_64 : decode cX1_saysBy 64 = .ok (.iinc 5 1, 3) := dk_132 5 1 (dk_at dksX1_saysBy_2 16 rfl rfl)
theorem dX1_saysBy_67 : decode cX1_saysBy 67 = .ok (.goto (-53), 3) := dk_167 255 203 (dk_at dksX1_saysBy_2 19 rfl rfl)
theorem dX1_saysBy_70 : decode cX1_saysBy 70 = .ok (.iload 4, 2) := dk_21 4 (dk_at dksX1_saysBy_2 22 rfl rfl)
theorem dX1_saysBy_72 : decode cX1_saysBy 72 = .ok (.ireturn, 1) := dk_172 (dk_at dksX1_saysBy_3 0 rfl rfl)
abbrev cX1_partOf : ByteArray := prog_1_method_91_code
def yX1_partOf : MethodName := ⟨RX1, "partOf", "(II)J"⟩
def dkwX1_partOf_2 : List UInt8 := [132, 5, 1, 167, 255, 213, 33, 173]
abbrev dktX1_partOf_2 : List UInt8 := dkwX1_partOf_2 ++ []
def dkwX1_partOf_1 : List UInt8 := [180, 0, 89, 180, 1, 78, 133, 167, 0, 14, 16, 100, 42, 180, 0, 89, 180, 1, 78, 100, 133, 105, 66]
abbrev dktX1_partOf_1 : List UInt8 := dkwX1_partOf_1 ++ dktX1_partOf_2
def dkwX1_partOf_0 : List UInt8 := [10, 66, 3, 54, 5, 21, 5, 27, 162, 0, 43, 33, 28, 21, 5, 184, 0, 232, 153, 0, 14, 42]
abbrev dktX1_partOf_0 : List UInt8 := dkwX1_partOf_0 ++ dktX1_partOf_1
theorem dksX1_partOf_0 : cX1_partOf.data.toList.drop 0 = dktX1_partOf_0 := by decide +kernel
theorem dksX1_partOf_1 : cX1_partOf.data.toList.drop 22 = dktX1_partOf_1 := dk_seg dksX1_partOf_0 22 rfl rfl
theorem dksX1_partOf_2 : cX1_partOf.data.toList.drop 45 = dktX1_partOf_2 := dk_seg dksX1_partOf_1 23 rfl rfl
theorem dX1_partOf_0 : decode cX1_partOf 0 = .ok (.lconst 1, 1) := dk_10 (dk_at dksX1_partOf_0 0 rfl rfl)
theorem dX1_partOf_1 : decode cX1_partOf 1 = .ok (.lstore_n 3, 1) := dk_66 (dk_at dksX1_partOf_0 1 rfl rfl)
theorem dX1_partOf_2 : decode cX1_partOf 2 = .ok (.iconst 0, 1) := dk_3 (dk_at dksX1_partOf_0 2 rfl rfl)
theorem dX1_partOf_3 : decode cX1_partOf 3 = .ok (.istore 5, 2) := dk_54 5 (dk_at dksX1_partOf_0 3 rfl rfl)
theorem dX1_partOf_5 : decode cX1_partOf 5 = .ok (.iload 5, 2) := dk_21 5 (dk_at dksX1_partOf_0 5 rfl rfl)
theorem dX1_partOf_7 : decode cX1_partOf 7 = .ok (.iload_n 1, 1) := dk_27 (dk_at dksX1_partOf_0 7 rfl rfl)
theorem dX1_partOf_8 : decode cX1_partOf 8 = .ok (.if_icmp .ge 43, 3) := dk_162 0 43 (dk_at dksX1_partOf_0 8 rfl rfl)
theorem dX1_partOf_11 : decode cX1_partOf 11 = .ok (.lload_n 3, 1) := dk_33 (dk_at dksX1_partOf_0 11 rfl rfl)
theorem dX1_partOf_12 : decode cX1_partOf 12 = .ok (.iload_n 2, 1) := dk_28 (dk_at dksX1_partOf_0 12 rfl rfl)
theorem dX1_partOf_13 : decode cX1_partOf 13 = .ok (.iload 5, 2) := dk_21 5 (dk_at dksX1_partOf_0 13 rfl rfl)
theorem dX1_partOf_15 : decode cX1_partOf 15 = .ok (.invokestatic 232, 3) := dk_184 0 232 (dk_at dksX1_partOf_0 15 rfl rfl)
theorem dX1_partOf_18 : decode cX1_partOf 18 = .ok (.ifCond .eq 14, 3) := dk_153 0 14 (dk_at dksX1_partOf_0 18 rfl rfl)
theorem dX1_partOf_21 : decode cX1_partOf 21 = .ok (.aload_n 0, 1) := dk_42 (dk_at dksX1_partOf_0 21 rfl rfl)
theorem dX1_partOf_22 : decode cX1_partOf 22 = .ok (.getfield 89, 3) := dk_180 0 89 (dk_at dksX1_partOf_1 0 rfl rfl)
theorem dX1_partOf_25 : decode cX1_partOf 25 = .ok (.getfield 334, 3) := dk_180 1 78 (dk_at dksX1_partOf_1 3 rfl rfl)
theorem dX1_partOf_28 : decode cX1_partOf 28 = .ok (.i2l, 1) := dk_133 (dk_at dksX1_partOf_1 6 rfl rfl)
theorem dX1_partOf_29 : decode cX1_partOf 29 = .ok (.goto 14, 3) := dk_167 0 14 (dk_at dksX1_partOf_1 7 rfl rfl)
theorem dX1_partOf_32 : decode cX1_partOf 32 = .ok (.bipush 100, 2) := dk_16 100 (dk_at dksX1_partOf_1 10 rfl rfl)
theorem dX1_partOf_34 : decode cX1_partOf 34 = .ok (.aload_n 0, 1) := dk_42 (dk_at dksX1_partOf_1 12 rfl rfl)
theorem dX1_partOf_35 : decode cX1_partOf 35 = .ok (.getfield 89, 3) := dk_180 0 89 (dk_at dksX1_partOf_1 13 rfl rfl)
theorem dX1_partOf_38 : decode cX1_partOf 38 = .ok (.getfield 334, 3) := dk_180 1 78 (dk_at dksX1_partOf_1 16 rfl rfl)
theorem dX1_partOf_41 : decode cX1_partOf 41 = .ok (.isub, 1) := dk_100 (dk_at dksX1_partOf_1 19 rfl rfl)
theorem dX1_partOf_42 : decode cX1_partOf 42 = .ok (.i2l, 1) := dk_133 (dk_at dksX1_partOf_1 20 rfl rfl)
theorem dX1_partOf_43 : decode cX1_partOf 43 = .ok (.lmul, 1) := dk_105 (dk_at dksX1_partOf_1 21 rfl rfl)
theorem dX1_partOf_44 : decode cX1_partOf 44 = .ok (.lstore_n 3, 1) := dk_66 (dk_at dksX1_partOf_1 22 rfl rfl)
theorem dX1_partOf_45 : decode cX1_partOf 45 = .ok (.iinc 5 1, 3) := dk_132 5 1 (dk_at dksX1_partOf_2 0 rfl rfl)
theorem dX1_partOf_48 : decode cX1_partOf 48 = .ok (.goto (-43), 3) := dk_167 255 213 (dk_at dksX1_partOf_2 3 rfl rfl)
theorem dX1_partOf_51 : decode cX1_partOf 51 = .ok (.lload_n 3, 1) := dk_33 (dk_at dksX1_partOf_2 6 rfl rfl)
theorem dX1_partOf_52 : decode cX1_partOf 52 = .ok (.lreturn, 1) := dk_173 (dk_at dksX1_partOf_2 7 rfl rfl)
abbrev cX1_whole : ByteArray := prog_1_method_92_code
def yX1_whole : MethodName := ⟨RX1, "whole", "(I)J"⟩
def dkwX1_whole_0 : List UInt8 := [10, 64, 3, 62, 29, 26, 162, 0, 15, 31, 20, 1, 81, 105, 64, 132, 3, 1, 167, 255, 242, 31, 173]
abbrev dktX1_whole_0 : List UInt8 := dkwX1_whole_0 ++ []
theorem dksX1_whole_0 : cX1_whole.data.toList.drop 0 = dktX1_whole_0 := by decide +kernel
theorem dX1_whole_0 : decode cX1_whole 0 = .ok (.lconst 1, 1) := dk_10 (dk_at dksX1_whole_0 0 rfl rfl)
theorem dX1_whole_1 : decode cX1_whole 1 = .ok (.lstore_n 1, 1) := dk_64 (dk_at dksX1_whole_0 1 rfl rfl)
theorem dX1_whole_2 : decode cX1_whole 2 = .ok (.iconst 0, 1) := dk_3 (dk_at dksX1_whole_0 2 rfl rfl)
theorem dX1_whole_3 : decode cX1_whole 3 = .ok (.istore_n 3, 1) := dk_62 (dk_at dksX1_whole_0 3 rfl rfl)
theorem dX1_whole_4 : decode cX1_whole 4 = .ok (.iload_n 3, 1) := dk_29 (dk_at dksX1_whole_0 4 rfl rfl)
theorem dX1_whole_5 : decode cX1_whole 5 = .ok (.iload_n 0, 1) := dk_26 (dk_at dksX1_whole_0 5 rfl rfl)
theorem dX1_whole_6 : decode cX1_whole 6 = .ok (.if_icmp .ge 15, 3) := dk_162 0 15 (dk_at dksX1_whole_0 6 rfl rfl)
theorem dX1_whole_9 : decode cX1_whole 9 = .ok (.lload_n 1, 1) := dk_31 (dk_at dksX1_whole_0 9 rfl rfl)
theorem dX1_whole_10 : decode cX1_whole 10 = .ok (.ldc2_w 337, 3) := dk_20 1 81 (dk_at dksX1_whole_0 10 rfl rfl)
theorem dX1_whole_13 : decode cX1_whole 13 = .ok (.lmul, 1) := dk_105 (dk_at dksX1_whole_0 13 rfl rfl)
theorem dX1_whole_14 : decode cX1_whole 14 = .ok (.lstore_n 1, 1) := dk_64 (dk_at dksX1_whole_0 14 rfl rfl)
theorem dX1_whole_15 : decode cX1_whole 15 = .ok (.iinc 3 1, 3) := dk_132 3 1 (dk_at dksX1_whole_0 15 rfl rfl)
theorem dX1_whole_18 : decode cX1_whole 18 = .ok (.goto (-14), 3) := dk_167 255 242 (dk_at dksX1_whole_0 18 rfl rfl)
theorem dX1_whole_21 : decode cX1_whole 21 = .ok (.lload_n 1, 1) := dk_31 (dk_at dksX1_whole_0 21 rfl rfl)
theorem dX1_whole_22 : decode cX1_whole 22 = .ok (.lreturn, 1) := dk_173 (dk_at dksX1_whole_0 22 rfl rfl)
abbrev cX1_mean : ByteArray := prog_1_method_94_code
def yX1_mean : MethodName := ⟨RX1, "mean", "(IIZ)J"⟩
def dkwX1_mean_3 : List UInt8 := [42, 22, 5, 28, 184, 1, 90, 29, 182, 1, 63, 173]
abbrev dktX1_mean_3 : List UInt8 := dkwX1_mean_3 ++ []
def dkwX1_mean_2 : List UInt8 := [21, 7, 182, 1, 86, 42, 27, 28, 21, 7, 182, 1, 83, 133, 105, 97, 55, 5, 132, 7, 1, 167, 255, 223]
abbrev dktX1_mean_2 : List UInt8 := dkwX1_mean_2 ++ dktX1_mean_3
def dkwX1_mean_1 : List UInt8 := [182, 0, 50, 133, 173, 9, 55, 5, 3, 54, 7, 21, 7, 4, 28, 120, 162, 0, 31, 22, 5, 42, 28]
abbrev dktX1_mean_1 : List UInt8 := dkwX1_mean_1 ++ dktX1_mean_2
def dkwX1_mean_0 : List UInt8 := [42, 42, 27, 182, 0, 162, 28, 3, 8, 182, 0, 172, 54, 4, 21, 4, 158, 0, 11, 42, 21, 4]
abbrev dktX1_mean_0 : List UInt8 := dkwX1_mean_0 ++ dktX1_mean_1
theorem dksX1_mean_0 : cX1_mean.data.toList.drop 0 = dktX1_mean_0 := by decide +kernel
theorem dksX1_mean_1 : cX1_mean.data.toList.drop 22 = dktX1_mean_1 := dk_seg dksX1_mean_0 22 rfl rfl
theorem dksX1_mean_2 : cX1_mean.data.toList.drop 45 = dktX1_mean_2 := dk_seg dksX1_mean_1 23 rfl rfl
theorem dksX1_mean_3 : cX1_mean.data.toList.drop 69 = dktX1_mean_3 := dk_seg dksX1_mean_2 24 rfl rfl
theorem dX1_mean_0 : decode cX1_mean 0 = .ok (.aload_n 0, 1) := dk_42 (dk_at dksX1_mean_0 0 rfl rfl)
theorem dX1_mean_1 : decode cX1_mean 1 = .ok (.aload_n 0, 1) := dk_42 (dk_at dksX1_mean_0 1 rfl rfl)
theorem dX1_mean_2 : decode cX1_mean 2 = .ok (.iload_n 1, 1) := dk_27 (dk_at dksX1_mean_0 2 rfl rfl)
theorem dX1_mean_3 : decode cX1_mean 3 = .ok (.invokevirtual 162, 3) := dk_182 0 162 (dk_at dksX1_mean_0 3 rfl rfl)
theorem dX1_mean_6 : decode cX1_mean 6 = .ok (.iload_n 2, 1) := dk_28 (dk_at dksX1_mean_0 6 rfl rfl)
theorem dX1_mean_7 : decode cX1_mean 7 = .ok (.iconst 0, 1) := dk_3 (dk_at dksX1_mean_0 7 rfl rfl)
theorem dX1_mean_8 : decode cX1_mean 8 = .ok (.iconst 5, 1) := dk_8 (dk_at dksX1_mean_0 8 rfl rfl)
theorem dX1_mean_9 : decode cX1_mean 9 = .ok (.invokevirtual 172, 3) := dk_182 0 172 (dk_at dksX1_mean_0 9 rfl rfl)
theorem dX1_mean_12 : decode cX1_mean 12 = .ok (.istore 4, 2) := dk_54 4 (dk_at dksX1_mean_0 12 rfl rfl)
theorem dX1_mean_14 : decode cX1_mean 14 = .ok (.iload 4, 2) := dk_21 4 (dk_at dksX1_mean_0 14 rfl rfl)
theorem dX1_mean_16 : decode cX1_mean 16 = .ok (.ifCond .le 11, 3) := dk_158 0 11 (dk_at dksX1_mean_0 16 rfl rfl)
theorem dX1_mean_19 : decode cX1_mean 19 = .ok (.aload_n 0, 1) := dk_42 (dk_at dksX1_mean_0 19 rfl rfl)
theorem dX1_mean_20 : decode cX1_mean 20 = .ok (.iload 4, 2) := dk_21 4 (dk_at dksX1_mean_0 20 rfl rfl)
theorem dX1_mean_22 : decode cX1_mean 22 = .ok (.invokevirtual 50, 3) := dk_182 0 50 (dk_at dksX1_mean_1 0 rfl rfl)
theorem dX1_mean_25 : decode cX1_mean 25 = .ok (.i2l, 1) := dk_133 (dk_at dksX1_mean_1 3 rfl rfl)
theorem dX1_mean_26 : decode cX1_mean 26 = .ok (.lreturn, 1) := dk_173 (dk_at dksX1_mean_1 4 rfl rfl)
theorem dX1_mean_27 : decode cX1_mean 27 = .ok (.lconst 0, 1) := dk_9 (dk_at dksX1_mean_1 5 rfl rfl)
theorem dX1_mean_28 : decode cX1_mean 28 = .ok (.lstore 5, 2) := dk_55 5 (dk_at dksX1_mean_1 6 rfl rfl)
theorem dX1_mean_30 : decode cX1_mean 30 = .ok (.iconst 0, 1) := dk_3 (dk_at dksX1_mean_1 8 rfl rfl)
theorem dX1_mean_31 : decode cX1_mean 31 = .ok (.istore 7, 2) := dk_54 7 (dk_at dksX1_mean_1 9 rfl rfl)
theorem dX1_mean_33 : decode cX1_mean 33 = .ok (.iload 7, 2) := dk_21 7 (dk_at dksX1_mean_1 11 rfl rfl)
theorem dX1_mean_35 : decode cX1_mean 35 = .ok (.iconst 1, 1) := dk_4 (dk_at dksX1_mean_1 13 rfl rfl)
theorem dX1_mean_36 : decode cX1_mean 36 = .ok (.iload_n 2, 1) := dk_28 (dk_at dksX1_mean_1 14 rfl rfl)
theorem dX1_mean_37 : decode cX1_mean 37 = .ok (.ishl, 1) := dk_120 (dk_at dksX1_mean_1 15 rfl rfl)
theorem dX1_mean_38 : decode cX1_mean 38 = .ok (.if_icmp .ge 31, 3) := dk_162 0 31 (dk_at dksX1_mean_1 16 rfl rfl)
theorem dX1_mean_41 : decode cX1_mean 41 = .ok (.lload 5, 2) := dk_22 5 (dk_at dksX1_mean_1 19 rfl rfl)
theorem dX1_mean_43 : decode cX1_mean 43 = .ok (.aload_n 0, 1) := dk_42 (dk_at dksX1_mean_1 21 rfl rfl)
theorem dX1_mean_44 : decode cX1_mean 44 = .ok (.iload_n 2, 1) := dk_28 (dk_at dksX1_mean_1 22 rfl rfl)
theorem dX1_mean_45 : decode cX1_mean 45 = .ok (.iload 7, 2) := dk_21 7 (dk_at dksX1_mean_2 0 rfl rfl)
theorem dX1_mean_47 : decode cX1_mean 47 = .ok (.invokevirtual 342, 3) := dk_182 1 86 (dk_at dksX1_mean_2 2 rfl rfl)
theorem dX1_mean_50 : decode cX1_mean 50 = .ok (.aload_n 0, 1) := dk_42 (dk_at dksX1_mean_2 5 rfl rfl)
theorem dX1_mean_51 : decode cX1_mean 51 = .ok (.iload_n 1, 1) := dk_27 (dk_at dksX1_mean_2 6 rfl rfl)
theorem dX1_mean_52 : decode cX1_mean 52 = .ok (.iload_n 2, 1) := dk_28 (dk_at dksX1_mean_2 7 rfl rfl)
theorem dX1_mean_53 : decode cX1_mean 53 = .ok (.iload 7, 2) := dk_21 7 (dk_at dksX1_mean_2 8 rfl rfl)
theorem dX1_mean_55 : decode cX1_mean 55 = .ok (.invokevirtual 339, 3) := dk_182 1 83 (dk_at dksX1_mean_2 10 rfl rfl)
theorem dX1_mean_58 : decode cX1_mean 58 = .ok (.i2l, 1) := dk_133 (dk_at dksX1_mean_2 13 rfl rfl)
theorem dX1_mean_59 : decode cX1_mean 59 = .ok (.lmul, 1) := dk_105 (dk_at dksX1_mean_2 14 rfl rfl)
theorem dX1_mean_60 : decode cX1_mean 60 = .ok (.ladd, 1) := dk_97 (dk_at dksX1_mean_2 15 rfl rfl)
theorem dX1_mean_61 : decode cX1_mean 61 = .ok (.lstore 5, 2) := dk_55 5 (dk_at dksX1_mean_2 16 rfl rfl)
theorem dX1_mean_63 : decode cX1_mean 63 = .ok (.iinc 7 1, 3) := dk_132 7 1 (dk_at dksX1_mean_2 18 rfl rfl)
theorem dX1_mean_66 : decode cX1_mean 66 = .ok (.goto (-33), 3) := dk_167 255 223 (dk_at dksX1_mean_2 21 rfl rfl)
theorem dX1_mean_69 : decode cX1_mean 69 = .ok (.aload_n 0, 1) := dk_42 (dk_at dksX1_mean_3 0 rfl rfl)
theorem dX1_mean_70 : decode cX1_mean 70 = .ok (.lload 5, 2) := dk_22 5 (dk_at dksX1_mean_3 1 rfl rfl)
theorem dX1_mean_72 : decode cX1_mean 72 = .ok (.iload_n 2, 1) := dk_28 (dk_at dksX1_mean_3 3 rfl rfl)
theorem dX1_mean_73 : decode cX1_mean 73 = .ok (.invokestatic 346, 3) := dk_184 1 90 (dk_at dksX1_mean_3 4 rfl rfl)
theorem dX1_mean_76 : decode cX1_mean 76 = .ok (.iload_n 3, 1) := dk_29 (dk_at dksX1_mean_3 7 rfl rfl)
theorem dX1_mean_77 : decode cX1_mean 77 = .ok (.invokevirtual 319, 3) := dk_182 1 63 (dk_at dksX1_mean_3 8 rfl rfl)
theorem dX1_mean_80 : decode cX1_mean 80 = .ok (.lreturn, 1) := dk_173 (dk_at dksX1_mean_3 11 rfl rfl)
abbrev cX1_drawn : ByteArray := prog_1_method_95_code
def yX1_drawn : MethodName := ⟨RX1, "drawn", "(III)I"⟩
def dkwX1_drawn_5 : List UInt8 := [167, 0, 4, 3, 182, 0, 148, 54, 6, 132, 7, 1, 167, 255, 184, 42, 21, 6, 182, 0, 54, 172]
abbrev dktX1_drawn_5 : List UInt8 := dkwX1_drawn_5 ++ []
def dkwX1_drawn_4 : List UInt8 := [180, 0, 145, 21, 7, 96, 21, 5, 16, 100, 112, 42, 180, 0, 89, 180, 1, 78, 162, 0, 7, 4]
abbrev dktX1_drawn_4 : List UInt8 := dkwX1_drawn_4 ++ dktX1_drawn_5
def dkwX1_drawn_3 : List UInt8 := [27, 21, 6, 42, 180, 0, 98, 180, 0, 152, 27, 51, 42, 27, 182, 0, 125, 180, 0, 155, 42, 180, 0, 98]
abbrev dktX1_drawn_3 : List UInt8 := dkwX1_drawn_3 ++ dktX1_drawn_4
def dkwX1_drawn_2 : List UInt8 := [180, 0, 142, 27, 51, 54, 6, 4, 54, 7, 21, 7, 29, 163, 0, 72, 21, 5, 184, 1, 68, 54, 5, 42]
abbrev dktX1_drawn_2 : List UInt8 := dkwX1_drawn_2 ++ dktX1_drawn_3
def dkwX1_drawn_1 : List UInt8 := [182, 0, 176, 54, 4, 21, 4, 158, 0, 10, 42, 21, 4, 182, 0, 50, 172, 28, 54, 5, 42, 180, 0, 98]
abbrev dktX1_drawn_1 : List UInt8 := dkwX1_drawn_1 ++ dktX1_drawn_2
def dkwX1_drawn_0 : List UInt8 := [42, 42, 27, 182, 0, 162, 28, 3, 19, 1, 67, 182, 0, 172, 54, 4, 21, 4, 154, 0, 11, 42, 4, 29]
abbrev dktX1_drawn_0 : List UInt8 := dkwX1_drawn_0 ++ dktX1_drawn_1
theorem dksX1_drawn_0 : cX1_drawn.data.toList.drop 0 = dktX1_drawn_0 := by decide +kernel
theorem dksX1_drawn_1 : cX1_drawn.data.toList.drop 24 = dktX1_drawn_1 := dk_seg dksX1_drawn_0 24 rfl rfl
theorem dksX1_drawn_2 : cX1_drawn.data.toList.drop 48 = dktX1_drawn_2 := dk_seg dksX1_drawn_1 24 rfl rfl
theorem dksX1_drawn_3 : cX1_drawn.data.toList.drop 72 = dktX1_drawn_3 := dk_seg dksX1_drawn_2 24 rfl rfl
theorem dksX1_drawn_4 : cX1_drawn.data.toList.drop 96 = dktX1_drawn_4 := dk_seg dksX1_drawn_3 24 rfl rfl
theorem dksX1_drawn_5 : cX1_drawn.data.toList.drop 118 = dktX1_drawn_5 := dk_seg dksX1_drawn_4 22 rfl rfl
theorem dX1_drawn_0 : decode cX1_drawn 0 = .ok (.aload_n 0, 1) := dk_42 (dk_at dksX1_drawn_0 0 rfl rfl)
theorem dX1_drawn_1 : decode cX1_drawn 1 = .ok (.aload_n 0, 1) := dk_42 (dk_at dksX1_drawn_0 1 rfl rfl)
theorem dX1_drawn_2 : decode cX1_drawn 2 = .ok (.iload_n 1, 1) := dk_27 (dk_at dksX1_drawn_0 2 rfl rfl)
theorem dX1_drawn_3 : decode cX1_drawn 3 = .ok (.invokevirtual 162, 3) := dk_182 0 162 (dk_at dksX1_drawn_0 3 rfl rfl)
theorem dX1_drawn_6 : decode cX1_drawn 6 = .ok (.iload_n 2, 1) := dk_28 (dk_at dksX1_drawn_0 6 rfl rfl)
theorem dX1_drawn_7 : decode cX1_drawn 7 = .ok (.iconst 0, 1) := dk_3 (dk_at dksX1_drawn_0 7 rfl rfl)
theorem dX1_drawn_8 : decode cX1_drawn 8 = .ok (.ldc_w 323, 3) := dk_19 1 67 (dk_at dksX1_drawn_0 8 rfl rfl)
theorem dX1_drawn_11 : decode cX1_drawn 11 = .ok (.invokevirtual 172, 3) := dk_182 0 172 (dk_at dksX1_drawn_0 11 rfl rfl)
theorem dX1_drawn_14 : decode cX1_drawn 14 = .ok (.istore 4, 2) := dk_54 4 (dk_at dksX1_drawn_0 14 rfl rfl)
theorem dX1_drawn_16 : decode cX1_drawn 16 = .ok (.iload 4, 2) := dk_21 4 (dk_at dksX1_drawn_0 16 rfl rfl)
theorem dX1_drawn_18 : decode cX1_drawn 18 = .ok (.ifCond .ne 11, 3) := dk_154 0 11 (dk_at dksX1_drawn_0 18 rfl rfl)
theorem dX1_drawn_21 : decode cX1_drawn 21 = .ok (.aload_n 0, 1) := dk_42 (dk_at dksX1_drawn_0 21 rfl rfl)
theorem dX1_drawn_22 : decode cX1_drawn 22 = .ok (.iconst 1, 1) := dk_4 (dk_at dksX1_drawn_0 22 rfl rfl)
theorem dX1_drawn_23 : decode cX1_drawn 23 = .ok (.iload_n 3, 1) := dk_29 (dk_at dksX1_drawn_0 23 rfl rfl)
theorem dX1_drawn_24 : decode cX1_drawn 24 = .ok (.invokevirtual 176, 3) := dk_182 0 176 (dk_at dksX1_drawn_1 0 rfl rfl)
theorem dX1_drawn_27 : decode cX1_drawn 27 = .ok (.istore 4, 2) := dk_54 4 (dk_at dksX1_drawn_1 3 rfl rfl)
theorem dX1_drawn_29 : decode cX1_drawn 29 = .ok (.iload 4, 2) := dk_21 4 (dk_at dksX1_drawn_1 5 rfl rfl)
theorem dX1_drawn_31 : decode cX1_drawn 31 = .ok (.ifCond .le 10, 3) := dk_158 0 10 (dk_at dksX1_drawn_1 7 rfl rfl)
theorem dX1_drawn_34 : decode cX1_drawn 34 = .ok (.aload_n 0, 1) := dk_42 (dk_at dksX1_drawn_1 10 rfl rfl)
theorem dX1_drawn_35 : decode cX1_drawn 35 = .ok (.iload 4, 2) := dk_21 4 (dk_at dksX1_drawn_1 11 rfl rfl)
theorem dX1_drawn_37 : decode cX1_drawn 37 = .ok (.invokevirtual 50, 3) := dk_182 0 50 (dk_at dksX1_drawn_1 13 rfl rfl)
theorem dX1_drawn_40 : decode cX1_drawn 40 = .ok (.ireturn, 1) := dk_172 (dk_at dksX1_drawn_1 16 rfl rfl)
theorem dX1_drawn_41 : decode cX1_drawn 41 = .ok (.iload_n 2, 1) := dk_28 (dk_at dksX1_drawn_1 17 rfl rfl)
theorem dX1_drawn_42 : decode cX1_drawn 42 = .ok (.istore 5, 2) := dk_54 5 (dk_at dksX1_drawn_1 18 rfl rfl)
theorem dX1_drawn_44 : decode cX1_drawn 44 = .ok (.aload_n 0, 1) := dk_42 (dk_at dksX1_drawn_1 20 rfl rfl)
theorem dX1_drawn_45 : decode cX1_drawn 45 = .ok (.getfield 98, 3) := dk_180 0 98 (dk_at dksX1_drawn_1 21 rfl rfl)
theorem dX1_drawn_48 : decode cX1_drawn 48 = .ok (.getfield 142, 3) := dk_180 0 142 (dk_at dksX1_drawn_2 0 rfl rfl)
theorem dX1_drawn_51 : decode cX1_drawn 51 = .ok (.iload_n 1, 1) := dk_27 (dk_at dksX1_drawn_2 3 rfl rfl)
theorem dX1_drawn_52 : decode cX1_drawn 52 = .ok (.baload, 1) := dk_51 (dk_at dksX1_drawn_2 4 rfl rfl)
theorem dX1_drawn_53 : decode cX1_drawn 53 = .ok (.istore 6, 2) := dk_54 6 (dk_at dksX1_drawn_2 5 rfl rfl)
theorem dX1_drawn_55 : decode cX1_drawn 55 = .ok (.iconst 1, 1) := dk_4 (dk_at dksX1_drawn_2 7 rfl rfl)
theorem dX1_drawn_56 : decode cX1_drawn 56 = .ok (.istore 7, 2) := dk_54 7 (dk_at dksX1_drawn_2 8 rfl rfl)
theorem dX1_drawn_58 : decode cX1_drawn 58 = .ok (.iload 7, 2) := dk_21 7 (dk_at dksX1_drawn_2 10 rfl rfl)
theorem dX1_drawn_60 : decode cX1_drawn 60 = .ok (.iload_n 3, 1) := dk_29 (dk_at dksX1_drawn_2 12 rfl rfl)
theorem dX1_drawn_61 : decode cX1_drawn 61 = .ok (.if_icmp .gt 72, 3) := dk_163 0 72 (dk_at dksX1_drawn_2 13 rfl rfl)
theorem dX1_drawn_64 : decode cX1_drawn 64 = .ok (.iload 5, 2) := dk_21 5 (dk_at dksX1_drawn_2 16 rfl rfl)
theorem dX1_drawn_66 : decode cX1_drawn 66 = .ok (.invokestatic 324, 3) := dk_184 1 68 (dk_at dksX1_drawn_2 18 rfl rfl)
theorem dX1_drawn_69 : decode cX1_drawn 69 = .ok (.istore 5, 2) := dk_54 5 (dk_at dksX1_drawn_2 21 rfl rfl)
theorem dX1_drawn_71 : decode cX1_drawn 71 = .ok (.aload_n 0, 1) := dk_42 (dk_at dksX1_drawn_2 23 rfl rfl)
theorem dX1_drawn_72 : decode cX1_drawn 72 = .ok (.iload_n 1, 1) := dk_27 (dk_at dksX1_drawn_3 0 rfl rfl)
theorem dX1_drawn_73 : decode cX1_drawn 73 = .ok (.iload 6, 2) := dk_21 6 (dk_at dksX1_drawn_3 1 rfl rfl)
theorem dX1_drawn_75 : decode cX1_drawn 75 = .ok (.aload_n 0, 1) := dk_42 (dk_at dksX1_drawn_3 3 rfl rfl)
theorem dX1_drawn_76 : decode cX1_drawn 76 = .ok (.getfield 98, 3) := dk_180 0 98 (dk_at dksX1_drawn_3 4 rfl rfl)
theorem dX1_drawn_79 : decode cX1_drawn 79 = .ok (.getfield 152, 3) := dk_180 0 152 (dk_at dksX1_drawn_3 7 rfl rfl)
theorem dX1_drawn_82 : decode cX1_drawn 82 = .ok (.iload_n 1, 1) := dk_27 (dk_at dksX1_drawn_3 10 rfl rfl)
theorem dX1_drawn_83 : decode cX1_drawn 83 = .ok (.baload, 1) := dk_51 (dk_at dksX1_drawn_3 11 rfl rfl)
theorem dX1_drawn_84 : decode cX1_drawn 84 = .ok (.aload_n 0, 1) := dk_42 (dk_at dksX1_drawn_3 12 rfl rfl)
theorem dX1_drawn_85 : decode cX1_drawn 85 = .ok (.iload_n 1, 1) := dk_27 (dk_at dksX1_drawn_3 13 rfl rfl)
theorem dX1_drawn_86 : decode cX1_drawn 86 = .ok (.invokevirtual 125, 3) := dk_182 0 125 (dk_at dksX1_drawn_3 14 rfl rfl)
theorem dX1_drawn_89 : decode cX1_drawn 89 = .ok (.getfield 155, 3) := dk_180 0 155 (dk_at dksX1_drawn_3 17 rfl rfl)
theorem dX1_drawn_92 : decode cX1_drawn 92 = .ok (.aload_n 0, 1) := dk_42 (dk_at dksX1_drawn_3 20 rfl rfl)
theorem dX1_drawn_93 : decode cX1_drawn 93 = .ok (.getfield 98, 3) := dk_180 0 98 (dk_at dksX1_drawn_3 21 rfl rfl)
theorem dX1_drawn_96 : decode cX1_drawn 96 = .ok (.getfield 145, 3) := dk_180 0 145 (dk_at dksX1_drawn_4 0 rfl rfl)
theorem dX1_drawn_99 : decode cX1_drawn 99 = .ok (.iload 7, 2) := dk_21 7 (dk_at dksX1_drawn_4 3 rfl rfl)
theorem dX1_drawn_101 : decode cX1_drawn 101 = .ok (.iadd, 1) := dk_96 (dk_at dksX1_drawn_4 5 rfl rfl)
theorem dX1_drawn_102 : decode cX1_drawn 102 = .ok (.iload 5, 2) := dk_21 5 (dk_at dksX1_drawn_4 6 rfl rfl)
theorem dX1_drawn_104 : decode cX1_drawn 104 = .ok (.bipush 100, 2) := dk_16 100 (dk_at dksX1_drawn_4 8 rfl rfl)
theorem dX1_drawn_106 : decode cX1_drawn 106 = .ok (.irem, 1) := dk_112 (dk_at dksX1_drawn_4 10 rfl rfl)
theorem dX1_drawn_107 : decode cX1_drawn 107 = .ok (.aload_n 0, 1) := dk_42 (dk_at dksX1_drawn_4 11 rfl rfl)
theorem dX1_drawn_108 : decode cX1_drawn 108 = .ok (.getfield 89, 3) := dk_180 0 89 (dk_at dksX1_drawn_4 12 rfl rfl)
theorem dX1_drawn_111 : decode cX1_drawn 111 = .ok (.getfield 334, 3) := dk_180 1 78 (dk_at dksX1_drawn_4 15 rfl rfl)
theorem dX1_drawn_114 : decode cX1_drawn 114 = .ok (.if_icmp .ge 7, 3) := dk_162 0 7 (dk_at dksX1_drawn_4 18 rfl rfl)
theorem dX1_drawn_117 : decode cX1_drawn 117 = .ok (.iconst 1, 1) := dk_4 (dk_at dksX1_drawn_4 21 rfl rfl)
theorem dX1_drawn_118 : decode cX1_drawn 118 = .ok (.goto 4, 3) := dk_167 0 4 (dk_at dksX1_drawn_5 0 rfl rfl)
theorem dX1_drawn_121 : decode cX1_drawn 121 = .ok (.iconst 0, 1) := dk_3 (dk_at dksX1_drawn_5 3 rfl rfl)
theorem dX1_drawn_122 : decode cX1_drawn 122 = .ok (.invokevirtual 148, 3) := dk_182 0 148 (dk_at dksX1_drawn_5 4 rfl rfl)
theorem dX1_drawn_125 : decode cX1_drawn 125 = .ok (.istore 6, 2) := dk_54 6 (dk_at dksX1_drawn_5 7 rfl rfl)
theorem dX1_drawn_127 : decode cX1_drawn 127 = .ok (.iinc 7 1, 3) := dk_132 7 1 (dk_at dksX1_drawn_5 9 rfl rfl)
theorem dX1_drawn_130 : decode cX1_drawn 130 = .ok (.goto (-72), 3) := dk_167 255 184 (dk_at dksX1_drawn_5 12 rfl rfl)
theorem dX1_drawn_133 : decode cX1_drawn 133 = .ok (.aload_n 0, 1) := dk_42 (dk_at dksX1_drawn_5 15 rfl rfl)
theorem dX1_drawn_134 : decode cX1_drawn 134 = .ok (.iload 6, 2) := dk_21 6 (dk_at dksX1_drawn_5 16 rfl rfl)
theorem dX1_drawn_136 : decode cX1_drawn 136 = .ok (.invokevirtual 54, 3) := dk_182 0 54 (dk_at dksX1_drawn_5 18 rfl rfl)
theorem dX1_drawn_139 : decode cX1_drawn 139 = .ok (.ireturn, 1) := dk_172 (dk_at dksX1_drawn_5 21 rfl rfl)
abbrev cX1_season : ByteArray := prog_1_method_97_code
def yX1_season : MethodName := ⟨RX1, "season", "()I"⟩
def dkwX1_season_4 : List UInt8 := [182, 0, 54, 172]
abbrev dktX1_season_4 : List UInt8 := dkwX1_season_4 ++ []
def dkwX1_season_3 : List UInt8 := [167, 255, 223, 42, 180, 0, 98, 89, 180, 0, 145, 4, 96, 181, 0, 145, 42, 42, 3, 182, 0, 217]
abbrev dktX1_season_3 : List UInt8 := dkwX1_season_3 ++ dktX1_season_4
def dkwX1_season_2 : List UInt8 := [27, 4, 182, 0, 180, 42, 180, 0, 98, 180, 0, 142, 27, 42, 180, 0, 27, 4, 53, 145, 84, 132, 1, 1]
abbrev dktX1_season_2 : List UInt8 := dkwX1_season_2 ++ dktX1_season_3
def dkwX1_season_1 : List UInt8 := [160, 0, 9, 42, 6, 182, 0, 50, 172, 42, 182, 1, 105, 3, 60, 27, 42, 182, 0, 108, 162, 0, 31, 42]
abbrev dktX1_season_1 : List UInt8 := dkwX1_season_1 ++ dktX1_season_2
def dkwX1_season_0 : List UInt8 := [42, 180, 0, 89, 199, 0, 9, 42, 4, 182, 0, 50, 172, 42, 180, 0, 98, 180, 0, 145, 17, 3, 231]
abbrev dktX1_season_0 : List UInt8 := dkwX1_season_0 ++ dktX1_season_1
theorem dksX1_season_0 : cX1_season.data.toList.drop 0 = dktX1_season_0 := by decide +kernel
theorem dksX1_season_1 : cX1_season.data.toList.drop 23 = dktX1_season_1 := dk_seg dksX1_season_0 23 rfl rfl
theorem dksX1_season_2 : cX1_season.data.toList.drop 47 = dktX1_season_2 := dk_seg dksX1_season_1 24 rfl rfl
theorem dksX1_season_3 : cX1_season.data.toList.drop 71 = dktX1_season_3 := dk_seg dksX1_season_2 24 rfl rfl
theorem dksX1_season_4 : cX1_season.data.toList.drop 93 = dktX1_season_4 := dk_seg dksX1_season_3 22 rfl rfl
theorem dX1_season_0 : decode cX1_season 0 = .ok (.aload_n 0, 1) := dk_42 (dk_at dksX1_season_0 0 rfl rfl)
theorem dX1_season_1 : decode cX1_season 1 = .ok (.getfield 89, 3) := dk_180 0 89 (dk_at dksX1_season_0 1 rfl rfl)
theorem dX1_season_4 : decode cX1_season 4 = .ok (.ifnonnull 9, 3) := dk_199 0 9 (dk_at dksX1_season_0 4 rfl rfl)
theorem dX1_season_7 : decode cX1_season 7 = .ok (.aload_n 0, 1) := dk_42 (dk_at dksX1_season_0 7 rfl rfl)
theorem dX1_season_8 : decode cX1_season 8 = .ok (.iconst 1, 1) := dk_4 (dk_at dksX1_season_0 8 rfl rfl)
theorem dX1_season_9 : decode cX1_season 9 = .ok (.invokevirtual 50, 3) := dk_182 0 50 (dk_at dksX1_season_0 9 rfl rfl)
theorem dX1_season_12 : decode cX1_season 12 = .ok (.ireturn, 1) := dk_172 (dk_at dksX1_season_0 12 rfl rfl)
theorem dX1_season_13 : decode cX1_season 13 = .ok (.aload_n 0, 1) := dk_42 (dk_at dksX1_season_0 13 rfl rfl)
theorem dX1_season_14 : decode cX1_season 14 = .ok (.getfield 98, 3) := dk_180 0 98 (dk_at dksX1_season_0 14 rfl rfl)
theorem dX1_season_17 : decode cX1_season 17 = .ok (.getfield 145, 3) := dk_180 0 145 (dk_at dksX1_season_0 17 rfl rfl)
theorem dX1_season_20 : decode cX1_season 20 = .ok (.sipush 999, 3) := dk_17 3 231 (dk_at dksX1_season_0 20 rfl rfl)
theorem dX1_season_23 : decode cX1_season 23 = .ok (.if_icmp .ne 9, 3) := dk_160 0 9 (dk_at dksX1_season_1 0 rfl rfl)
theorem dX1_season_26 : decode cX1_season 26 = .ok (.aload_n 0, 1) := dk_42 (dk_at dksX1_season_1 3 rfl rfl)
theorem dX1_season_27 : decode cX1_season 27 = .ok (.iconst 3, 1) := dk_6 (dk_at dksX1_season_1 4 rfl rfl)
theorem dX1_season_28 : decode cX1_season 28 = .ok (.invokevirtual 50, 3) := dk_182 0 50 (dk_at dksX1_season_1 5 rfl rfl)
theorem dX1_season_31 : decode cX1_season 31 = .ok (.ireturn, 1) := dk_172 (dk_at dksX1_season_1 8 rfl rfl)
theorem dX1_season_32 : decode cX1_season 32 = .ok (.aload_n 0, 1) := dk_42 (dk_at dksX1_season_1 9 rfl rfl)
theorem dX1_season_33 : decode cX1_season 33 = .ok (.invokevirtual 361, 3) := dk_182 1 105 (dk_at dksX1_season_1 10 rfl rfl)
theorem dX1_season_36 : decode cX1_season 36 = .ok (.iconst 0, 1) := dk_3 (dk_at dksX1_season_1 13 rfl rfl)
theorem dX1_season_37 : decode cX1_season 37 = .ok (.istore_n 1, 1) := dk_60 (dk_at dksX1_season_1 14 rfl rfl)
theorem dX1_season_38 : decode cX1_season 38 = .ok (.iload_n 1, 1) := dk_27 (dk_at dksX1_season_1 15 rfl rfl)
theorem dX1_season_39 : decode cX1_season 39 = .ok (.aload_n 0, 1) := dk_42 (dk_at dksX1_season_1 16 rfl rfl)
theorem dX1_season_40 : decode cX1_season 40 = .ok (.invokevirtual 108, 3) := dk_182 0 108 (dk_at dksX1_season_1 17 rfl rfl)
theorem dX1_season_43 : decode cX1_season 43 = .ok (.if_icmp .ge 31, 3) := dk_162 0 31 (dk_at dksX1_season_1 20 rfl rfl)
theorem dX1_season_46 : decode cX1_season 46 = .ok (.aload_n 0, 1) := dk_42 (dk_at dksX1_season_1 23 rfl rfl)
theorem dX1_season_47 : decode cX1_season 47 = .ok (.iload_n 1, 1) := dk_27 (dk_at dksX1_season_2 0 rfl rfl)
theorem dX1_season_48 : decode cX1_season 48 = .ok (.iconst 1, 1) := dk_4 (dk_at dksX1_season_2 1 rfl rfl)
theorem dX1_season_49 : decode cX1_season 49 = .ok (.invokevirtual 180, 3) := dk_182 0 180 (dk_at dksX1_season_2 2 rfl rfl)
theorem dX1_season_52 : decode cX1_season 52 = .ok (.aload_n 0, 1) := dk_42 (dk_at dksX1_season_2 5 rfl rfl)
theorem dX1_season_53 : decode cX1_season 53 = .ok (.getfield 98, 3) := dk_180 0 98 (dk_at dksX1_season_2 6 rfl rfl)
theorem dX1_season_56 : decode cX1_season 56 = .ok (.getfield 142, 3) := dk_180 0 142 (dk_at dksX1_season_2 9 rfl rfl)
theorem dX1_season_59 : decode cX1_season 59 = .ok (.iload_n 1, 1) := dk_27 (dk_at dksX1_season_2 12 rfl rfl)
theorem dX1_season_60 : decode cX1_season 60 = .ok (.aload_n 0, 1) := dk_42 (dk_at dksX1_season_2 13 rfl rfl)
theorem dX1_season_61 : decode cX1_season 61 = .ok (.getfield 27, 3) := dk_180 0 27 (dk_at dksX1_season_2 14 rfl rfl)
theorem dX1_season_64 : decode cX1_season 64 = .ok (.iconst 1, 1) := dk_4 (dk_at dksX1_season_2 17 rfl rfl)
theorem dX1_season_65 : decode cX1_season 65 = .ok (.saload, 1) := dk_53 (dk_at dksX1_season_2 18 rfl rfl)
theorem dX1_season_66 : decode cX1_season 66 = .ok (.i2b, 1) := dk_145 (dk_at dksX1_season_2 19 rfl rfl)
theorem dX1_season_67 : decode cX1_season 67 = .ok (.bastore, 1) := dk_84 (dk_at dksX1_season_2 20 rfl rfl)
theorem dX1_season_68 : decode cX1_season 68 = .ok (.iinc 1 1, 3) := dk_132 1 1 (dk_at dksX1_season_2 21 rfl rfl)
theorem dX1_season_71 : decode cX1_season 71 = .ok (.goto (-33), 3) := dk_167 255 223 (dk_at dksX1_season_3 0 rfl rfl)
theorem dX1_season_74 : decode cX1_season 74 = .ok (.aload_n 0, 1) := dk_42 (dk_at dksX1_season_3 3 rfl rfl)
theorem dX1_season_75 : decode cX1_season 75 = .ok (.getfield 98, 3) := dk_180 0 98 (dk_at dksX1_season_3 4 rfl rfl)
theorem dX1_season_78 : decode cX1_season 78 = .ok (.dup, 1) := dk_89 (dk_at dksX1_season_3 7 rfl rfl)
theorem dX1_season_79 : decode cX1_season 79 = .ok (.getfield 145, 3) := dk_180 0 145 (dk_at dksX1_season_3 8 rfl rfl)
theorem dX1_season_82 : decode cX1_season 82 = .ok (.iconst 1, 1) := dk_4 (dk_at dksX1_season_3 11 rfl rfl)
theorem dX1_season_83 : decode cX1_season 83 = .ok (.iadd, 1) := dk_96 (dk_at dksX1_season_3 12 rfl rfl)
theorem dX1_season_84 : decode cX1_season 84 = .ok (.putfield 145, 3) := dk_181 0 145 (dk_at dksX1_season_3 13 rfl rfl)
theorem dX1_season_87 : decode cX1_season 87 = .ok (.aload_n 0, 1) := dk_42 (dk_at dksX1_season_3 16 rfl rfl)
theorem dX1_season_88 : decode cX1_season 88 = .ok (.aload_n 0, 1) := dk_42 (dk_at dksX1_season_3 17 rfl rfl)
theorem dX1_season_89 : decode cX1_season 89 = .ok (.iconst 0, 1) := dk_3 (dk_at dksX1_season_3 18 rfl rfl)
theorem dX1_season_90 : decode cX1_season 90 = .ok (.invokevirtual 217, 3) := dk_182 0 217 (dk_at dksX1_season_3 19 rfl rfl)
theorem dX1_season_93 : decode cX1_season 93 = .ok (.invokevirtual 54, 3) := dk_182 0 54 (dk_at dksX1_season_4 0 rfl rfl)
theorem dX1_season_96 : decode cX1_season 96 = .ok (.ireturn, 1) := dk_172 (dk_at dksX1_season_4 3 rfl rfl)
abbrev cX1_remembers : ByteArray := prog_1_method_96_code
def yX1_remembers : MethodName := ⟨RX1, "remembers", "()V"⟩
def dkwX1_remembers_1 : List UInt8 := [180, 0, 20, 42, 180, 0, 98, 182, 1, 97, 87, 42, 42, 180, 0, 98, 182, 1, 101, 181, 0, 98, 177]
abbrev dktX1_remembers_1 : List UInt8 := dkwX1_remembers_1 ++ []
def dkwX1_remembers_0 : List UInt8 := [42, 180, 0, 20, 182, 0, 116, 16, 16, 160, 0, 12, 42, 180, 0, 20, 3, 182, 1, 94, 87, 42]
abbrev dktX1_remembers_0 : List UInt8 := dkwX1_remembers_0 ++ dktX1_remembers_1
theorem dksX1_remembers_0 : cX1_remembers.data.toList.drop 0 = dktX1_remembers_0 := by decide +kernel
theorem dksX1_remembers_1 : cX1_remembers.data.toList.drop 22 = dktX1_remembers_1 := dk_seg dksX1_remembers_0 22 rfl rfl
theorem dX1_remembers_0 : decode cX1_remembers 0 = .ok (.aload_n 0, 1) := dk_42 (dk_at dksX1_remembers_0 0 rfl rfl)
theorem dX1_remembers_1 : decode cX1_remembers 1 = .ok (.getfield 20, 3) := dk_180 0 20 (dk_at dksX1_remembers_0 1 rfl rfl)
theorem dX1_remembers_4 : decode cX1_remembers 4 = .ok (.invokevirtual 116, 3) := dk_182 0 116 (dk_at dksX1_remembers_0 4 rfl rfl)
theorem dX1_remembers_7 : decode cX1_remembers 7 = .ok (.bipush 16, 2) := dk_16 16 (dk_at dksX1_remembers_0 7 rfl rfl)
theorem dX1_remembers_9 : decode cX1_remembers 9 = .ok (.if_icmp .ne 12, 3) := dk_160 0 12 (dk_at dksX1_remembers_0 9 rfl rfl)
theorem dX1_remembers_12 : decode cX1_remembers 12 = .ok (.aload_n 0, 1) := dk_42 (dk_at dksX1_remembers_0 12 rfl rfl)
theorem dX1_remembers_13 : decode cX1_remembers 13 = .ok (.getfield 20, 3) := dk_180 0 20 (dk_at dksX1_remembers_0 13 rfl rfl)
theorem dX1_remembers_16 : decode cX1_remembers 16 = .ok (.iconst 0, 1) := dk_3 (dk_at dksX1_remembers_0 16 rfl rfl)
theorem dX1_remembers_17 : decode cX1_remembers 17 = .ok (.invokevirtual 350, 3) := dk_182 1 94 (dk_at dksX1_remembers_0 17 rfl rfl)
theorem dX1_remembers_20 : decode cX1_remembers 20 = .ok (.pop, 1) := dk_87 (dk_at dksX1_remembers_0 20 rfl rfl)
theorem dX1_remembers_21 : decode cX1_remembers 21 = .ok (.aload_n 0, 1) := dk_42 (dk_at dksX1_remembers_0 21 rfl rfl)
theorem dX1_remembers_22 : decode cX1_remembers 22 = .ok (.getfield 20, 3) := dk_180 0 20 (dk_at dksX1_remembers_1 0 rfl rfl)
theorem dX1_remembers_25 : decode cX1_remembers 25 = .ok (.aload_n 0, 1) := dk_42 (dk_at dksX1_remembers_1 3 rfl rfl)
theorem dX1_remembers_26 : decode cX1_remembers 26 = .ok (.getfield 98, 3) := dk_180 0 98 (dk_at dksX1_remembers_1 4 rfl rfl)
theorem dX1_remembers_29 : decode cX1_remembers 29 = .ok (.invokevirtual 353, 3) := dk_182 1 97 (dk_at dksX1_remembers_1 7 rfl rfl)
theorem dX1_remembers_32 : decode cX1_remembers 32 = .ok (.pop, 1) := dk_87 (dk_at dksX1_remembers_1 10 rfl rfl)
theorem dX1_remembers_33 : decode cX1_remembers 33 = .ok (.aload_n 0, 1) := dk_42 (dk_at dksX1_remembers_1 11 rfl rfl)
theorem dX1_remembers_34 : decode cX1_remembers 34 = .ok (.aload_n 0, 1) := dk_42 (dk_at dksX1_remembers_1 12 rfl rfl)
theorem dX1_remembers_35 : decode cX1_remembers 35 = .ok (.getfield 98, 3) := dk_180 0 98 (dk_at dksX1_remembers_1 13 rfl rfl)
theorem dX1_remembers_38 : decode cX1_remembers 38 = .ok (.invokevirtual 357, 3) := dk_182 1 101 (dk_at dksX1_remembers_1 16 rfl rfl)
theorem dX1_remembers_41 : decode cX1_remembers 41 = .ok (.putfield 98, 3) := dk_181 0 98 (dk_at dksX1_remembers_1 19 rfl rfl)
theorem dX1_remembers_44 : decode cX1_remembers 44 = .ok (.return_, 1) := dk_177 (dk_at dksX1_remembers_1 22 rfl rfl)
abbrev cX1_change : ByteArray := prog_1_method_98_code
def yX1_change : MethodName := ⟨RX1, "change", "(I)I"⟩
def dkwX1_change_3 : List UInt8 := [145, 84, 42, 42, 180, 0, 98, 180, 0, 142, 27, 51, 182, 0, 54, 172]
abbrev dktX1_change_3 : List UInt8 := dkwX1_change_3 ++ []
def dkwX1_change_2 : List UInt8 := [180, 0, 98, 180, 0, 142, 27, 42, 180, 0, 89, 180, 0, 133, 42, 180, 0, 98, 180, 0, 142, 27, 51, 100]
abbrev dktX1_change_2 : List UInt8 := dkwX1_change_2 ++ dktX1_change_3
def dkwX1_change_1 : List UInt8 := [104, 42, 180, 0, 89, 180, 0, 133, 160, 0, 9, 42, 8, 182, 0, 50, 172, 42, 182, 1, 105, 42]
abbrev dktX1_change_1 : List UInt8 := dkwX1_change_1 ++ dktX1_change_2
def dkwX1_change_0 : List UInt8 := [42, 27, 182, 0, 162, 154, 0, 9, 42, 4, 182, 0, 50, 172, 5, 42, 180, 0, 98, 180, 0, 142, 27, 51]
abbrev dktX1_change_0 : List UInt8 := dkwX1_change_0 ++ dktX1_change_1
theorem dksX1_change_0 : cX1_change.data.toList.drop 0 = dktX1_change_0 := by decide +kernel
theorem dksX1_change_1 : cX1_change.data.toList.drop 24 = dktX1_change_1 := dk_seg dksX1_change_0 24 rfl rfl
theorem dksX1_change_2 : cX1_change.data.toList.drop 46 = dktX1_change_2 := dk_seg dksX1_change_1 22 rfl rfl
theorem dksX1_change_3 : cX1_change.data.toList.drop 70 = dktX1_change_3 := dk_seg dksX1_change_2 24 rfl rfl
theorem dX1_change_0 : decode cX1_change 0 = .ok (.aload_n 0, 1) := dk_42 (dk_at dksX1_change_0 0 rfl rfl)
theorem dX1_change_1 : decode cX1_change 1 = .ok (.iload_n 1, 1) := dk_27 (dk_at dksX1_change_0 1 rfl rfl)
theorem dX1_change_2 : decode cX1_change 2 = .ok (.invokevirtual 162, 3) := dk_182 0 162 (dk_at dksX1_change_0 2 rfl rfl)
theorem dX1_change_5 : decode cX1_change 5 = .ok (.ifCond .ne 9, 3) := dk_154 0 9 (dk_at dksX1_change_0 5 rfl rfl)
theorem dX1_change_8 : decode cX1_change 8 = .ok (.aload_n 0, 1) := dk_42 (dk_at dksX1_change_0 8 rfl rfl)
theorem dX1_change_9 : decode cX1_change 9 = .ok (.iconst 1, 1) := dk_4 (dk_at dksX1_change_0 9 rfl rfl)
theorem dX1_change_10 : decode cX1_change 10 = .ok (.invokevirtual 50, 3) := dk_182 0 50 (dk_at dksX1_change_0 10 rfl rfl)
theorem dX1_change_13 : decode cX1_change 13 = .ok (.ireturn, 1) := dk_172 (dk_at dksX1_change_0 13 rfl rfl)
theorem dX1_change_14 : decode cX1_change 14 = .ok (.iconst 2, 1) := dk_5 (dk_at dksX1_change_0 14 rfl rfl)
theorem dX1_change_15 : decode cX1_change 15 = .ok (.aload_n 0, 1) := dk_42 (dk_at dksX1_change_0 15 rfl rfl)
theorem dX1_change_16 : decode cX1_change 16 = .ok (.getfield 98, 3) := dk_180 0 98 (dk_at dksX1_change_0 16 rfl rfl)
theorem dX1_change_19 : decode cX1_change 19 = .ok (.getfield 142, 3) := dk_180 0 142 (dk_at dksX1_change_0 19 rfl rfl)
theorem dX1_change_22 : decode cX1_change 22 = .ok (.iload_n 1, 1) := dk_27 (dk_at dksX1_change_0 22 rfl rfl)
theorem dX1_change_23 : decode cX1_change 23 = .ok (.baload, 1) := dk_51 (dk_at dksX1_change_0 23 rfl rfl)
theorem dX1_change_24 : decode cX1_change 24 = .ok (.imul, 1) := dk_104 (dk_at dksX1_change_1 0 rfl rfl)
theorem dX1_change_25 : decode cX1_change 25 = .ok (.aload_n 0, 1) := dk_42 (dk_at dksX1_change_1 1 rfl rfl)
theorem dX1_change_26 : decode cX1_change 26 = .ok (.getfield 89, 3) := dk_180 0 89 (dk_at dksX1_change_1 2 rfl rfl)
theorem dX1_change_29 : decode cX1_change 29 = .ok (.getfield 133, 3) := dk_180 0 133 (dk_at dksX1_change_1 5 rfl rfl)
theorem dX1_change_32 : decode cX1_change 32 = .ok (.if_icmp .ne 9, 3) := dk_160 0 9 (dk_at dksX1_change_1 8 rfl rfl)
theorem dX1_change_35 : decode cX1_change 35 = .ok (.aload_n 0, 1) := dk_42 (dk_at dksX1_change_1 11 rfl rfl)
theorem dX1_change_36 : decode cX1_change 36 = .ok (.iconst 5, 1) := dk_8 (dk_at dksX1_change_1 12 rfl rfl)
theorem dX1_change_37 : decode cX1_change 37 = .ok (.invokevirtual 50, 3) := dk_182 0 50 (dk_at dksX1_change_1 13 rfl rfl)
theorem dX1_change_40 : decode cX1_change 40 = .ok (.ireturn, 1) := dk_172 (dk_at dksX1_change_1 16 rfl rfl)
theorem dX1_change_41 : decode cX1_change 41 = .ok (.aload_n 0, 1) := dk_42 (dk_at dksX1_change_1 17 rfl rfl)
theorem dX1_change_42 : decode cX1_change 42 = .ok (.invokevirtual 361, 3) := dk_182 1 105 (dk_at dksX1_change_1 18 rfl rfl)
theorem dX1_change_45 : decode cX1_change 45 = .ok (.aload_n 0, 1) := dk_42 (dk_at dksX1_change_1 21 rfl rfl)
theorem dX1_change_46 : decode cX1_change 46 = .ok (.getfield 98, 3) := dk_180 0 98 (dk_at dksX1_change_2 0 rfl rfl)
theorem dX1_change_49 : decode cX1_change 49 = .ok (.getfield 142, 3) := dk_180 0 142 (dk_at dksX1_change_2 3 rfl rfl)
theorem dX1_change_52 : decode cX1_change 52 = .ok (.iload_n 1, 1) := dk_27 (dk_at dksX1_change_2 6 rfl rfl)
theorem dX1_change_53 : decode cX1_change 53 = .ok (.aload_n 0, 1) := dk_42 (dk_at dksX1_change_2 7 rfl rfl)
theorem dX1_change_54 : decode cX1_change 54 = .ok (.getfield 89, 3) := dk_180 0 89 (dk_at dksX1_change_2 8 rfl rfl)
theorem dX1_change_57 : decode cX1_change 57 = .ok (.getfield 133, 3) := dk_180 0 133 (dk_at dksX1_change_2 11 rfl rfl)
theorem dX1_change_60 : decode cX1_change 60 = .ok (.aload_n 0, 1) := dk_42 (dk_at dksX1_change_2 14 rfl rfl)
theorem dX1_change_61 : decode cX1_change 61 = .ok (.getfield 98, 3) := dk_180 0 98 (dk_at dksX1_change_2 15 rfl rfl)
theorem dX1_change_64 : decode cX1_change 64 = .ok (.getfield 142, 3) := dk_180 0 142 (dk_at dksX1_change_2 18 rfl rfl)
theorem dX1_change_67 : decode cX1_change 67 = .ok (.iload_n 1, 1) := dk_27 (dk_at dksX1_change_2 21 rfl rfl)
theorem dX1_change_68 : decode cX1_change 68 = .ok (.baload, 1) := dk_51 (dk_at dksX1_change_2 22 rfl rfl)
theorem dX1_change_69 : decode cX1_change 69 = .ok (.isub, 1) := dk_100 (dk_at dksX1_change_2 23 rfl rfl)
theorem dX1_change_70 : decode cX1_change 70 = .ok (.i2b, 1) := dk_145 (dk_at dksX1_change_3 0 rfl rfl)
theorem dX1_change_71 : decode cX1_change 71 = .ok (.bastore, 1) := dk_84 (dk_at dksX1_change_3 1 rfl rfl)
theorem dX1_change_72 : decode cX1_change 72 = .ok (.aload_n 0, 1) := dk_42 (dk_at dksX1_change_3 2 rfl rfl)
theorem dX1_change_73 : decode cX1_change 73 = .ok (.aload_n 0, 1) := dk_42 (dk_at dksX1_change_3 3 rfl rfl)
theorem dX1_change_74 : decode cX1_change 74 = .ok (.getfield 98, 3) := dk_180 0 98 (dk_at dksX1_change_3 4 rfl rfl)
theorem dX1_change_77 : decode cX1_change 77 = .ok (.getfield 142, 3) := dk_180 0 142 (dk_at dksX1_change_3 7 rfl rfl)
theorem dX1_change_80 : decode cX1_change 80 = .ok (.iload_n 1, 1) := dk_27 (dk_at dksX1_change_3 10 rfl rfl)
theorem dX1_change_81 : decode cX1_change 81 = .ok (.baload, 1) := dk_51 (dk_at dksX1_change_3 11 rfl rfl)
theorem dX1_change_82 : decode cX1_change 82 = .ok (.invokevirtual 54, 3) := dk_182 0 54 (dk_at dksX1_change_3 12 rfl rfl)
theorem dX1_change_85 : decode cX1_change 85 = .ok (.ireturn, 1) := dk_172 (dk_at dksX1_change_3 15 rfl rfl)
abbrev cX1_step : ByteArray := prog_1_method_99_code
def yX1_step : MethodName := ⟨RX1, "step", "(II)Z"⟩
def dkwX1_step_2 : List UInt8 := [182, 1, 105, 42, 180, 0, 98, 180, 0, 152, 27, 28, 145, 84, 42, 182, 1, 111, 172]
abbrev dktX1_step_2 : List UInt8 := dkwX1_step_2 ++ []
def dkwX1_step_1 : List UInt8 := [180, 0, 152, 27, 51, 28, 160, 0, 5, 8, 62, 29, 158, 0, 9, 42, 29, 182, 1, 108, 172, 42]
abbrev dktX1_step_1 : List UInt8 := dkwX1_step_1 ++ dktX1_step_2
def dkwX1_step_0 : List UInt8 := [42, 42, 27, 182, 0, 162, 28, 3, 16, 20, 182, 0, 172, 62, 29, 154, 0, 18, 42, 180, 0, 98]
abbrev dktX1_step_0 : List UInt8 := dkwX1_step_0 ++ dktX1_step_1
theorem dksX1_step_0 : cX1_step.data.toList.drop 0 = dktX1_step_0 := by decide +kernel
theorem dksX1_step_1 : cX1_step.data.toList.drop 22 = dktX1_step_1 := dk_seg dksX1_step_0 22 rfl rfl
theorem dksX1_step_2 : cX1_step.data.toList.drop 44 = dktX1_step_2 := dk_seg dksX1_step_1 22 rfl rfl
theorem dX1_step_0 : decode cX1_step 0 = .ok (.aload_n 0, 1) := dk_42 (dk_at dksX1_step_0 0 rfl rfl)
theorem dX1_step_1 : decode cX1_step 1 = .ok (.aload_n 0, 1) := dk_42 (dk_at dksX1_step_0 1 rfl rfl)
theorem dX1_step_2 : decode cX1_step 2 = .ok (.iload_n 1, 1) := dk_27 (dk_at dksX1_step_0 2 rfl rfl)
theorem dX1_step_3 : decode cX1_step 3 = .ok (.invokevirtual 162, 3) := dk_182 0 162 (dk_at dksX1_step_0 3 rfl rfl)
theorem dX1_step_6 : decode cX1_step 6 = .ok (.iload_n 2, 1) := dk_28 (dk_at dksX1_step_0 6 rfl rfl)
theorem dX1_step_7 : decode cX1_step 7 = .ok (.iconst 0, 1) := dk_3 (dk_at dksX1_step_0 7 rfl rfl)
theorem dX1_step_8 : decode cX1_step 8 = .ok (.bipush 20, 2) := dk_16 20 (dk_at dksX1_step_0 8 rfl rfl)
theorem dX1_step_10 : decode cX1_step 10 = .ok (.invokevirtual 172, 3) := dk_182 0 172 (dk_at dksX1_step_0 10 rfl rfl)
theorem dX1_step_13 : decode cX1_step 13 = .ok (.istore_n 3, 1) := dk_62 (dk_at dksX1_step_0 13 rfl rfl)
theorem dX1_step_14 : decode cX1_step 14 = .ok (.iload_n 3, 1) := dk_29 (dk_at dksX1_step_0 14 rfl rfl)
theorem dX1_step_15 : decode cX1_step 15 = .ok (.ifCond .ne 18, 3) := dk_154 0 18 (dk_at dksX1_step_0 15 rfl rfl)
theorem dX1_step_18 : decode cX1_step 18 = .ok (.aload_n 0, 1) := dk_42 (dk_at dksX1_step_0 18 rfl rfl)
theorem dX1_step_19 : decode cX1_step 19 = .ok (.getfield 98, 3) := dk_180 0 98 (dk_at dksX1_step_0 19 rfl rfl)
theorem dX1_step_22 : decode cX1_step 22 = .ok (.getfield 152, 3) := dk_180 0 152 (dk_at dksX1_step_1 0 rfl rfl)
theorem dX1_step_25 : decode cX1_step 25 = .ok (.iload_n 1, 1) := dk_27 (dk_at dksX1_step_1 3 rfl rfl)
theorem dX1_step_26 : decode cX1_step 26 = .ok (.baload, 1) := dk_51 (dk_at dksX1_step_1 4 rfl rfl)
theorem dX1_step_27 : decode cX1_step 27 = .ok (.iload_n 2, 1) := dk_28 (dk_at dksX1_step_1 5 rfl rfl)
theorem dX1_step_28 : decode cX1_step 28 = .ok (.if_icmp .ne 5, 3) := dk_160 0 5 (dk_at dksX1_step_1 6 rfl rfl)
theorem dX1_step_31 : decode cX1_step 31 = .ok (.iconst 5, 1) := dk_8 (dk_at dksX1_step_1 9 rfl rfl)
theorem dX1_step_32 : decode cX1_step 32 = .ok (.istore_n 3, 1) := dk_62 (dk_at dksX1_step_1 10 rfl rfl)
theorem dX1_step_33 : decode cX1_step 33 = .ok (.iload_n 3, 1) := dk_29 (dk_at dksX1_step_1 11 rfl rfl)
theorem dX1_step_34 : decode cX1_step 34 = .ok (.ifCond .le 9, 3) := dk_158 0 9 (dk_at dksX1_step_1 12 rfl rfl)
theorem dX1_step_37 : decode cX1_step 37 = .ok (.aload_n 0, 1) := dk_42 (dk_at dksX1_step_1 15 rfl rfl)
theorem dX1_step_38 : decode cX1_step 38 = .ok (.iload_n 3, 1) := dk_29 (dk_at dksX1_step_1 16 rfl rfl)
theorem dX1_step_39 : decode cX1_step 39 = .ok (.invokevirtual 364, 3) := dk_182 1 108 (dk_at dksX1_step_1 17 rfl rfl)
theorem dX1_step_42 : decode cX1_step 42 = .ok (.ireturn, 1) := dk_172 (dk_at dksX1_step_1 20 rfl rfl)
theorem dX1_step_43 : decode cX1_step 43 = .ok (.aload_n 0, 1) := dk_42 (dk_at dksX1_step_1 21 rfl rfl)
theorem dX1_step_44 : decode cX1_step 44 = .ok (.invokevirtual 361, 3) := dk_182 1 105 (dk_at dksX1_step_2 0 rfl rfl)
theorem dX1_step_47 : decode cX1_step 47 = .ok (.aload_n 0, 1) := dk_42 (dk_at dksX1_step_2 3 rfl rfl)
theorem dX1_step_48 : decode cX1_step 48 = .ok (.getfield 98, 3) := dk_180 0 98 (dk_at dksX1_step_2 4 rfl rfl)
theorem dX1_step_51 : decode cX1_step 51 = .ok (.getfield 152, 3) := dk_180 0 152 (dk_at dksX1_step_2 7 rfl rfl)
theorem dX1_step_54 : decode cX1_step 54 = .ok (.iload_n 1, 1) := dk_27 (dk_at dksX1_step_2 10 rfl rfl)
theorem dX1_step_55 : decode cX1_step 55 = .ok (.iload_n 2, 1) := dk_28 (dk_at dksX1_step_2 11 rfl rfl)
theorem dX1_step_56 : decode cX1_step 56 = .ok (.i2b, 1) := dk_145 (dk_at dksX1_step_2 12 rfl rfl)
theorem dX1_step_57 : decode cX1_step 57 = .ok (.bastore, 1) := dk_84 (dk_at dksX1_step_2 13 rfl rfl)
theorem dX1_step_58 : decode cX1_step 58 = .ok (.aload_n 0, 1) := dk_42 (dk_at dksX1_step_2 14 rfl rfl)
theorem dX1_step_59 : decode cX1_step 59 = .ok (.invokevirtual 367, 3) := dk_182 1 111 (dk_at dksX1_step_2 15 rfl rfl)
theorem dX1_step_62 : decode cX1_step 62 = .ok (.ireturn, 1) := dk_172 (dk_at dksX1_step_2 18 rfl rfl)
abbrev cX1_denied : ByteArray := prog_1_method_9_code
def yX1_denied : MethodName := ⟨RX1, "denied", "(I)Z"⟩
def dkwX1_denied_0 : List UInt8 := [42, 27, 182, 0, 50, 87, 3, 172]
abbrev dktX1_denied_0 : List UInt8 := dkwX1_denied_0 ++ []
theorem dksX1_denied_0 : cX1_denied.data.toList.drop 0 = dktX1_denied_0 := by decide +kernel
theorem dX1_denied_0 : decode cX1_denied 0 = .ok (.aload_n 0, 1) := dk_42 (dk_at dksX1_denied_0 0 rfl rfl)
theorem dX1_denied_1 : decode cX1_denied 1 = .ok (.iload_n 1, 1) := dk_27 (dk_at dksX1_denied_0 1 rfl rfl)
theorem dX1_denied_2 : decode cX1_denied 2 = .ok (.invokevirtual 50, 3) := dk_182 0 50 (dk_at dksX1_denied_0 2 rfl rfl)
theorem dX1_denied_5 : decode cX1_denied 5 = .ok (.pop, 1) := dk_87 (dk_at dksX1_denied_0 5 rfl rfl)
theorem dX1_denied_6 : decode cX1_denied 6 = .ok (.iconst 0, 1) := dk_3 (dk_at dksX1_denied_0 6 rfl rfl)
theorem dX1_denied_7 : decode cX1_denied 7 = .ok (.ireturn, 1) := dk_172 (dk_at dksX1_denied_0 7 rfl rfl)
abbrev cX1_granted : ByteArray := prog_1_method_11_code
def yX1_granted : MethodName := ⟨RX1, "granted", "()Z"⟩
def dkwX1_granted_0 : List UInt8 := [42, 3, 182, 0, 54, 87, 4, 172]
abbrev dktX1_granted_0 : List UInt8 := dkwX1_granted_0 ++ []
theorem dksX1_granted_0 : cX1_granted.data.toList.drop 0 = dktX1_granted_0 := by decide +kernel
theorem dX1_granted_0 : decode cX1_granted 0 = .ok (.aload_n 0, 1) := dk_42 (dk_at dksX1_granted_0 0 rfl rfl)
theorem dX1_granted_1 : decode cX1_granted 1 = .ok (.iconst 0, 1) := dk_3 (dk_at dksX1_granted_0 1 rfl rfl)
theorem dX1_granted_2 : decode cX1_granted 2 = .ok (.invokevirtual 54, 3) := dk_182 0 54 (dk_at dksX1_granted_0 2 rfl rfl)
theorem dX1_granted_5 : decode cX1_granted 5 = .ok (.pop, 1) := dk_87 (dk_at dksX1_granted_0 5 rfl rfl)
theorem dX1_granted_6 : decode cX1_granted 6 = .ok (.iconst 1, 1) := dk_4 (dk_at dksX1_granted_0 6 rfl rfl)
theorem dX1_granted_7 : decode cX1_granted 7 = .ok (.ireturn, 1) := dk_172 (dk_at dksX1_granted_0 7 rfl rfl)
abbrev cX1_pay : ByteArray := prog_1_method_100_code
def yX1_pay : MethodName := ⟨RX1, "pay", "(III)I"⟩
def dkwX1_pay_3 : List UInt8 := [27, 28, 182, 1, 28, 182, 0, 54, 172]
abbrev dktX1_pay_3 : List UInt8 := dkwX1_pay_3 ++ []
def dkwX1_pay_2 : List UInt8 := [182, 1, 105, 42, 180, 0, 98, 180, 1, 25, 8, 27, 104, 28, 96, 92, 53, 29, 147, 100, 147, 86, 42, 42]
abbrev dktX1_pay_2 : List UInt8 := dkwX1_pay_2 ++ dktX1_pay_3
def dkwX1_pay_1 : List UInt8 := [28, 182, 1, 28, 164, 0, 6, 8, 54, 4, 21, 4, 158, 0, 10, 42, 21, 4, 182, 0, 50, 172, 42]
abbrev dktX1_pay_1 : List UInt8 := dkwX1_pay_1 ++ dktX1_pay_2
def dkwX1_pay_0 : List UInt8 := [42, 42, 27, 28, 182, 0, 207, 29, 4, 16, 99, 182, 0, 172, 54, 4, 21, 4, 154, 0, 16, 29, 42, 27]
abbrev dktX1_pay_0 : List UInt8 := dkwX1_pay_0 ++ dktX1_pay_1
theorem dksX1_pay_0 : cX1_pay.data.toList.drop 0 = dktX1_pay_0 := by decide +kernel
theorem dksX1_pay_1 : cX1_pay.data.toList.drop 24 = dktX1_pay_1 := dk_seg dksX1_pay_0 24 rfl rfl
theorem dksX1_pay_2 : cX1_pay.data.toList.drop 47 = dktX1_pay_2 := dk_seg dksX1_pay_1 23 rfl rfl
theorem dksX1_pay_3 : cX1_pay.data.toList.drop 71 = dktX1_pay_3 := dk_seg dksX1_pay_2 24 rfl rfl
theorem dX1_pay_0 : decode cX1_pay 0 = .ok (.aload_n 0, 1) := dk_42 (dk_at dksX1_pay_0 0 rfl rfl)
theorem dX1_pay_1 : decode cX1_pay 1 = .ok (.aload_n 0, 1) := dk_42 (dk_at dksX1_pay_0 1 rfl rfl)
theorem dX1_pay_2 : decode cX1_pay 2 = .ok (.iload_n 1, 1) := dk_27 (dk_at dksX1_pay_0 2 rfl rfl)
theorem dX1_pay_3 : decode cX1_pay 3 = .ok (.iload_n 2, 1) := dk_28 (dk_at dksX1_pay_0 3 rfl rfl)
theorem dX1_pay_4 : decode cX1_pay 4 = .ok (.invokevirtual 207, 3) := dk_182 0 207 (dk_at dksX1_pay_0 4 rfl rfl)
theorem dX1_pay_7 : decode cX1_pay 7 = .ok (.iload_n 3, 1) := dk_29 (dk_at dksX1_pay_0 7 rfl rfl)
theorem dX1_pay_8 : decode cX1_pay 8 = .ok (.iconst 1, 1) := dk_4 (dk_at dksX1_pay_0 8 rfl rfl)
theorem dX1_pay_9 : decode cX1_pay 9 = .ok (.bipush 99, 2) := dk_16 99 (dk_at dksX1_pay_0 9 rfl rfl)
theorem dX1_pay_11 : decode cX1_pay 11 = .ok (.invokevirtual 172, 3) := dk_182 0 172 (dk_at dksX1_pay_0 11 rfl rfl)
theorem dX1_pay_14 : decode cX1_pay 14 = .ok (.istore 4, 2) := dk_54 4 (dk_at dksX1_pay_0 14 rfl rfl)
theorem dX1_pay_16 : decode cX1_pay 16 = .ok (.iload 4, 2) := dk_21 4 (dk_at dksX1_pay_0 16 rfl rfl)
theorem dX1_pay_18 : decode cX1_pay 18 = .ok (.ifCond .ne 16, 3) := dk_154 0 16 (dk_at dksX1_pay_0 18 rfl rfl)
theorem dX1_pay_21 : decode cX1_pay 21 = .ok (.iload_n 3, 1) := dk_29 (dk_at dksX1_pay_0 21 rfl rfl)
theorem dX1_pay_22 : decode cX1_pay 22 = .ok (.aload_n 0, 1) := dk_42 (dk_at dksX1_pay_0 22 rfl rfl)
theorem dX1_pay_23 : decode cX1_pay 23 = .ok (.iload_n 1, 1) := dk_27 (dk_at dksX1_pay_0 23 rfl rfl)
theorem dX1_pay_24 : decode cX1_pay 24 = .ok (.iload_n 2, 1) := dk_28 (dk_at dksX1_pay_1 0 rfl rfl)
theorem dX1_pay_25 : decode cX1_pay 25 = .ok (.invokevirtual 284, 3) := dk_182 1 28 (dk_at dksX1_pay_1 1 rfl rfl)
theorem dX1_pay_28 : decode cX1_pay 28 = .ok (.if_icmp .le 6, 3) := dk_164 0 6 (dk_at dksX1_pay_1 4 rfl rfl)
theorem dX1_pay_31 : decode cX1_pay 31 = .ok (.iconst 5, 1) := dk_8 (dk_at dksX1_pay_1 7 rfl rfl)
theorem dX1_pay_32 : decode cX1_pay 32 = .ok (.istore 4, 2) := dk_54 4 (dk_at dksX1_pay_1 8 rfl rfl)
theorem dX1_pay_34 : decode cX1_pay 34 = .ok (.iload 4, 2) := dk_21 4 (dk_at dksX1_pay_1 10 rfl rfl)
theorem dX1_pay_36 : decode cX1_pay 36 = .ok (.ifCond .le 10, 3) := dk_158 0 10 (dk_at dksX1_pay_1 12 rfl rfl)
theorem dX1_pay_39 : decode cX1_pay 39 = .ok (.aload_n 0, 1) := dk_42 (dk_at dksX1_pay_1 15 rfl rfl)
theorem dX1_pay_40 : decode cX1_pay 40 = .ok (.iload 4, 2) := dk_21 4 (dk_at dksX1_pay_1 16 rfl rfl)
theorem dX1_pay_42 : decode cX1_pay 42 = .ok (.invokevirtual 50, 3) := dk_182 0 50 (dk_at dksX1_pay_1 18 rfl rfl)
theorem dX1_pay_45 : decode cX1_pay 45 = .ok (.ireturn, 1) := dk_172 (dk_at dksX1_pay_1 21 rfl rfl)
theorem dX1_pay_46 : decode cX1_pay 46 = .ok (.aload_n 0, 1) := dk_42 (dk_at dksX1_pay_1 22 rfl rfl)
theorem dX1_pay_47 : decode cX1_pay 47 = .ok (.invokevirtual 361, 3) := dk_182 1 105 (dk_at dksX1_pay_2 0 rfl rfl)
theorem dX1_pay_50 : decode cX1_pay 50 = .ok (.aload_n 0, 1) := dk_42 (dk_at dksX1_pay_2 3 rfl rfl)
theorem dX1_pay_51 : decode cX1_pay 51 = .ok (.getfield 98, 3) := dk_180 0 98 (dk_at dksX1_pay_2 4 rfl rfl)
theorem dX1_pay_54 : decode cX1_pay 54 = .ok (.getfield 281, 3) := dk_180 1 25 (dk_at dksX1_pay_2 7 rfl rfl)
theorem dX1_pay_57 : decode cX1_pay 57 = .ok (.iconst 5, 1) := dk_8 (dk_at dksX1_pay_2 10 rfl rfl)
theorem dX1_pay_58 : decode cX1_pay 58 = .ok (.iload_n 1, 1) := dk_27 (dk_at dksX1_pay_2 11 rfl rfl)
theorem dX1_pay_59 : decode cX1_pay 59 = .ok (.imul, 1) := dk_104 (dk_at dksX1_pay_2 12 rfl rfl)
theorem dX1_pay_60 : decode cX1_pay 60 = .ok (.iload_n 2, 1) := dk_28 (dk_at dksX1_pay_2 13 rfl rfl)
theorem dX1_pay_61 : decode cX1_pay 61 = .ok (.iadd, 1) := dk_96 (dk_at dksX1_pay_2 14 rfl rfl)
theorem dX1_pay_62 : decode cX1_pay 62 = .ok (.dup2, 1) := dk_92 (dk_at dksX1_pay_2 15 rfl rfl)
theorem dX1_pay_63 : decode cX1_pay 63 = .ok (.saload, 1) := dk_53 (dk_at dksX1_pay_2 16 rfl rfl)
theorem dX1_pay_64 : decode cX1_pay 64 = .ok (.iload_n 3, 1) := dk_29 (dk_at dksX1_pay_2 17 rfl rfl)
theorem dX1_pay_65 : decode cX1_pay 65 = .ok (.i2s, 1) := dk_147 (dk_at dksX1_pay_2 18 rfl rfl)
theorem dX1_pay_66 : decode cX1_pay 66 = .ok (.isub, 1) := dk_100 (dk_at dksX1_pay_2 19 rfl rfl)
theorem dX1_pay_67 : decode cX1_pay 67 = .ok (.i2s, 1) := dk_147 (dk_at dksX1_pay_2 20 rfl rfl)
theorem dX1_pay_68 : decode cX1_pay 68 = .ok (.sastore, 1) := dk_86 (dk_at dksX1_pay_2 21 rfl rfl)
theorem dX1_pay_69 : decode cX1_pay 69 = .ok (.aload_n 0, 1) := dk_42 (dk_at dksX1_pay_2 22 rfl rfl)
theorem dX1_pay_70 : decode cX1_pay 70 = .ok (.aload_n 0, 1) := dk_42 (dk_at dksX1_pay_2 23 rfl rfl)
theorem dX1_pay_71 : decode cX1_pay 71 = .ok (.iload_n 1, 1) := dk_27 (dk_at dksX1_pay_3 0 rfl rfl)
theorem dX1_pay_72 : decode cX1_pay 72 = .ok (.iload_n 2, 1) := dk_28 (dk_at dksX1_pay_3 1 rfl rfl)
theorem dX1_pay_73 : decode cX1_pay 73 = .ok (.invokevirtual 284, 3) := dk_182 1 28 (dk_at dksX1_pay_3 2 rfl rfl)
theorem dX1_pay_76 : decode cX1_pay 76 = .ok (.invokevirtual 54, 3) := dk_182 0 54 (dk_at dksX1_pay_3 5 rfl rfl)
theorem dX1_pay_79 : decode cX1_pay 79 = .ok (.ireturn, 1) := dk_172 (dk_at dksX1_pay_3 8 rfl rfl)
abbrev cX1_undo : ByteArray := prog_1_method_101_code
def yX1_undo : MethodName := ⟨RX1, "undo", "()Z"⟩
def dkwX1_undo_1 : List UInt8 := [180, 0, 20, 182, 0, 116, 4, 100, 182, 1, 94, 192, 0, 93, 181, 0, 98, 42, 182, 1, 111, 172]
abbrev dktX1_undo_1 : List UInt8 := dkwX1_undo_1 ++ []
def dkwX1_undo_0 : List UInt8 := [42, 180, 0, 20, 182, 1, 115, 153, 0, 10, 42, 16, 6, 182, 1, 108, 172, 42, 42, 180, 0, 20, 42]
abbrev dktX1_undo_0 : List UInt8 := dkwX1_undo_0 ++ dktX1_undo_1
theorem dksX1_undo_0 : cX1_undo.data.toList.drop 0 = dktX1_undo_0 := by decide +kernel
theorem dksX1_undo_1 : cX1_undo.data.toList.drop 23 = dktX1_undo_1 := dk_seg dksX1_undo_0 23 rfl rfl
theorem dX1_undo_0 : decode cX1_undo 0 = .ok (.aload_n 0, 1) := dk_42 (dk_at dksX1_undo_0 0 rfl rfl)
theorem dX1_undo_1 : decode cX1_undo 1 = .ok (.getfield 20, 3) := dk_180 0 20 (dk_at dksX1_undo_0 1 rfl rfl)
theorem dX1_undo_4 : decode cX1_undo 4 = .ok (.invokevirtual 371, 3) := dk_182 1 115 (dk_at dksX1_undo_0 4 rfl rfl)
theorem dX1_undo_7 : decode cX1_undo 7 = .ok (.ifCond .eq 10, 3) := dk_153 0 10 (dk_at dksX1_undo_0 7 rfl rfl)
theorem dX1_undo_10 : decode cX1_undo 10 = .ok (.aload_n 0, 1) := dk_42 (dk_at dksX1_undo_0 10 rfl rfl)
theorem dX1_undo_11 : decode cX1_undo 11 = .ok (.bipush 6, 2) := dk_16 6 (dk_at dksX1_undo_0 11 rfl rfl)
theorem dX1_undo_13 : decode cX1_undo 13 = .ok (.invokevirtual 364, 3) := dk_182 1 108 (dk_at dksX1_undo_0 13 rfl rfl)
theorem dX1_undo_16 : decode cX1_undo 16 = .ok (.ireturn, 1) := dk_172 (dk_at dksX1_undo_0 16 rfl rfl)
theorem dX1_undo_17 : decode cX1_undo 17 = .ok (.aload_n 0, 1) := dk_42 (dk_at dksX1_undo_0 17 rfl rfl)
theorem dX1_undo_18 : decode cX1_undo 18 = .ok (.aload_n 0, 1) := dk_42 (dk_at dksX1_undo_0 18 rfl rfl)
theorem dX1_undo_19 : decode cX1_undo 19 = .ok (.getfield 20, 3) := dk_180 0 20 (dk_at dksX1_undo_0 19 rfl rfl)
theorem dX1_undo_22 : decode cX1_undo 22 = .ok (.aload_n 0, 1) := dk_42 (dk_at dksX1_undo_0 22 rfl rfl)
theorem dX1_undo_23 : decode cX1_undo 23 = .ok (.getfield 20, 3) := dk_180 0 20 (dk_at dksX1_undo_1 0 rfl rfl)
theorem dX1_undo_26 : decode cX1_undo 26 = .ok (.invokevirtual 116, 3) := dk_182 0 116 (dk_at dksX1_undo_1 3 rfl rfl)
theorem dX1_undo_29 : decode cX1_undo 29 = .ok (.iconst 1, 1) := dk_4 (dk_at dksX1_undo_1 6 rfl rfl)
theorem dX1_undo_30 : decode cX1_undo 30 = .ok (.isub, 1) := dk_100 (dk_at dksX1_undo_1 7 rfl rfl)
theorem dX1_undo_31 : decode cX1_undo 31 = .ok (.invokevirtual 350, 3) := dk_182 1 94 (dk_at dksX1_undo_1 8 rfl rfl)
theorem dX1_undo_34 : decode cX1_undo 34 = .ok (.checkcast 93, 3) := dk_192 0 93 (dk_at dksX1_undo_1 11 rfl rfl)
theorem dX1_undo_37 : decode cX1_undo 37 = .ok (.putfield 98, 3) := dk_181 0 98 (dk_at dksX1_undo_1 14 rfl rfl)
theorem dX1_undo_40 : decode cX1_undo 40 = .ok (.aload_n 0, 1) := dk_42 (dk_at dksX1_undo_1 17 rfl rfl)
theorem dX1_undo_41 : decode cX1_undo 41 = .ok (.invokevirtual 367, 3) := dk_182 1 111 (dk_at dksX1_undo_1 18 rfl rfl)
theorem dX1_undo_44 : decode cX1_undo 44 = .ok (.ireturn, 1) := dk_172 (dk_at dksX1_undo_1 21 rfl rfl)
abbrev cX1_image : ByteArray := prog_1_method_102_code
def yX1_image : MethodName := ⟨RX1, "image", "()I"⟩
def dkwX1_image_2 : List UInt8 := [180, 0, 24, 182, 0, 116, 4, 100, 182, 0, 54, 172]
abbrev dktX1_image_2 : List UInt8 := dkwX1_image_2 ++ []
def dkwX1_image_1 : List UInt8 := [42, 6, 182, 0, 50, 172, 42, 180, 0, 24, 42, 180, 0, 98, 182, 1, 101, 182, 1, 97, 87, 42, 42]
abbrev dktX1_image_1 : List UInt8 := dkwX1_image_1 ++ dktX1_image_2
def dkwX1_image_0 : List UInt8 := [42, 180, 0, 89, 199, 0, 9, 42, 4, 182, 0, 50, 172, 42, 180, 0, 24, 182, 0, 116, 6, 160, 0, 9]
abbrev dktX1_image_0 : List UInt8 := dkwX1_image_0 ++ dktX1_image_1
theorem dksX1_image_0 : cX1_image.data.toList.drop 0 = dktX1_image_0 := by decide +kernel
theorem dksX1_image_1 : cX1_image.data.toList.drop 24 = dktX1_image_1 := dk_seg dksX1_image_0 24 rfl rfl
theorem dksX1_image_2 : cX1_image.data.toList.drop 47 = dktX1_image_2 := dk_seg dksX1_image_1 23 rfl rfl
theorem dX1_image_0 : decode cX1_image 0 = .ok (.aload_n 0, 1) := dk_42 (dk_at dksX1_image_0 0 rfl rfl)
theorem dX1_image_1 : decode cX1_image 1 = .ok (.getfield 89, 3) := dk_180 0 89 (dk_at dksX1_image_0 1 rfl rfl)
theorem dX1_image_4 : decode cX1_image 4 = .ok (.ifnonnull 9, 3) := dk_199 0 9 (dk_at dksX1_image_0 4 rfl rfl)
theorem dX1_image_7 : decode cX1_image 7 = .ok (.aload_n 0, 1) := dk_42 (dk_at dksX1_image_0 7 rfl rfl)
theorem dX1_image_8 : decode cX1_image 8 = .ok (.iconst 1, 1) := dk_4 (dk_at dksX1_image_0 8 rfl rfl)
theorem dX1_image_9 : decode cX1_image 9 = .ok (.invokevirtual 50, 3) := dk_182 0 50 (dk_at dksX1_image_0 9 rfl rfl)
theorem dX1_image_12 : decode cX1_image 12 = .ok (.ireturn, 1) := dk_172 (dk_at dksX1_image_0 12 rfl rfl)
theorem dX1_image_13 : decode cX1_image 13 = .ok (.aload_n 0, 1) := dk_42 (dk_at dksX1_image_0 13 rfl rfl)
theorem dX1_image_14 : decode cX1_image 14 = .ok (.getfield 24, 3) := dk_180 0 24 (dk_at dksX1_image_0 14 rfl rfl)
theorem dX1_image_17 : decode cX1_image 17 = .ok (.invokevirtual 116, 3) := dk_182 0 116 (dk_at dksX1_image_0 17 rfl rfl)
theorem dX1_image_20 : decode cX1_image 20 = .ok (.iconst 3, 1) := dk_6 (dk_at dksX1_image_0 20 rfl rfl)
theorem dX1_image_21 : decode cX1_image 21 = .ok (.if_icmp .ne 9, 3) := dk_160 0 9 (dk_at dksX1_image_0 21 rfl rfl)
theorem dX1_image_24 : decode cX1_image 24 = .ok (.aload_n 0, 1) := dk_42 (dk_at dksX1_image_1 0 rfl rfl)
theorem dX1_image_25 : decode cX1_image 25 = .ok (.iconst 3, 1) := dk_6 (dk_at dksX1_image_1 1 rfl rfl)
theorem dX1_image_26 : decode cX1_image 26 = .ok (.invokevirtual 50, 3) := dk_182 0 50 (dk_at dksX1_image_1 2 rfl rfl)
theorem dX1_image_29 : decode cX1_image 29 = .ok (.ireturn, 1) := dk_172 (dk_at dksX1_image_1 5 rfl rfl)
theorem dX1_image_30 : decode cX1_image 30 = .ok (.aload_n 0, 1) := dk_42 (dk_at dksX1_image_1 6 rfl rfl)
theorem dX1_image_31 : decode cX1_image 31 = .ok (.getfield 24, 3) := dk_180 0 24 (dk_at dksX1_image_1 7 rfl rfl)
theorem dX1_image_34 : decode cX1_image 34 = .ok (.aload_n 0, 1) := dk_42 (dk_at dksX1_image_1 10 rfl rfl)
theorem dX1_image_35 : decode cX1_image 35 = .ok (.getfield 98, 3) := dk_180 0 98 (dk_at dksX1_image_1 11 rfl rfl)
theorem dX1_image_38 : decode cX1_image 38 = .ok (.invokevirtual 357, 3) := dk_182 1 101 (dk_at dksX1_image_1 14 rfl rfl)
theorem dX1_image_41 : decode cX1_image 41 = .ok (.invokevirtual 353, 3) := dk_182 1 97 (dk_at dksX1_image_1 17 rfl rfl)
theorem dX1_image_44 : decode cX1_image 44 = .ok (.pop, 1) := dk_87 (dk_at dksX1_image_1 20 rfl rfl)
theorem dX1_image_45 : decode cX1_image 45 = .ok (.aload_n 0, 1) := dk_42 (dk_at dksX1_image_1 21 rfl rfl)
theorem dX1_image_46 : decode cX1_image 46 = .ok (.aload_n 0, 1) := dk_42 (dk_at dksX1_image_1 22 rfl rfl)
theorem dX1_image_47 : decode cX1_image 47 = .ok (.getfield 24, 3) := dk_180 0 24 (dk_at dksX1_image_2 0 rfl rfl)
theorem dX1_image_50 : decode cX1_image 50 = .ok (.invokevirtual 116, 3) := dk_182 0 116 (dk_at dksX1_image_2 3 rfl rfl)
theorem dX1_image_53 : decode cX1_image 53 = .ok (.iconst 1, 1) := dk_4 (dk_at dksX1_image_2 6 rfl rfl)
theorem dX1_image_54 : decode cX1_image 54 = .ok (.isub, 1) := dk_100 (dk_at dksX1_image_2 7 rfl rfl)
theorem dX1_image_55 : decode cX1_image 55 = .ok (.invokevirtual 54, 3) := dk_182 0 54 (dk_at dksX1_image_2 8 rfl rfl)
theorem dX1_image_58 : decode cX1_image 58 = .ok (.ireturn, 1) := dk_172 (dk_at dksX1_image_2 11 rfl rfl)
abbrev cX1_back : ByteArray := prog_1_method_103_code
def yX1_back : MethodName := ⟨RX1, "back", "(I)Z"⟩
def dkwX1_back_2 : List UInt8 := [42, 182, 1, 111, 172]
abbrev dktX1_back_2 : List UInt8 := dkwX1_back_2 ++ []
def dkwX1_back_1 : List UInt8 := [42, 180, 0, 24, 27, 182, 0, 119, 192, 0, 93, 182, 1, 101, 181, 0, 98, 42, 180, 0, 20, 182, 0, 105]
abbrev dktX1_back_1 : List UInt8 := dkwX1_back_1 ++ dktX1_back_2
def dkwX1_back_0 : List UInt8 := [27, 3, 42, 180, 0, 24, 182, 0, 116, 4, 100, 184, 0, 64, 154, 0, 9, 42, 4, 182, 1, 108, 172, 42]
abbrev dktX1_back_0 : List UInt8 := dkwX1_back_0 ++ dktX1_back_1
theorem dksX1_back_0 : cX1_back.data.toList.drop 0 = dktX1_back_0 := by decide +kernel
theorem dksX1_back_1 : cX1_back.data.toList.drop 24 = dktX1_back_1 := dk_seg dksX1_back_0 24 rfl rfl
theorem dksX1_back_2 : cX1_back.data.toList.drop 48 = dktX1_back_2 := dk_seg dksX1_back_1 24 rfl rfl
theorem dX1_back_0 : decode cX1_back 0 = .ok (.iload_n 1, 1) := dk_27 (dk_at dksX1_back_0 0 rfl rfl)
theorem dX1_back_1 : decode cX1_back 1 = .ok (.iconst 0, 1) := dk_3 (dk_at dksX1_back_0 1 rfl rfl)
theorem dX1_back_2 : decode cX1_back 2 = .ok (.aload_n 0, 1) := dk_42 (dk_at dksX1_back_0 2 rfl rfl)
theorem dX1_back_3 : decode cX1_back 3 = .ok (.getfield 24, 3) := dk_180 0 24 (dk_at dksX1_back_0 3 rfl rfl)
theorem dX1_back_6 : decode cX1_back 6 = .ok (.invokevirtual 116, 3) := dk_182 0 116 (dk_at dksX1_back_0 6 rfl rfl)
theorem dX1_back_9 : decode cX1_back 9 = .ok (.iconst 1, 1) := dk_4 (dk_at dksX1_back_0 9 rfl rfl)
theorem dX1_back_10 : decode cX1_back 10 = .ok (.isub, 1) := dk_100 (dk_at dksX1_back_0 10 rfl rfl)
theorem dX1_back_11 : decode cX1_back 11 = .ok (.invokestatic 64, 3) := dk_184 0 64 (dk_at dksX1_back_0 11 rfl rfl)
theorem dX1_back_14 : decode cX1_back 14 = .ok (.ifCond .ne 9, 3) := dk_154 0 9 (dk_at dksX1_back_0 14 rfl rfl)
theorem dX1_back_17 : decode cX1_back 17 = .ok (.aload_n 0, 1) := dk_42 (dk_at dksX1_back_0 17 rfl rfl)
theorem dX1_back_18 : decode cX1_back 18 = .ok (.iconst 1, 1) := dk_4 (dk_at dksX1_back_0 18 rfl rfl)
theorem dX1_back_19 : decode cX1_back 19 = .ok (.invokevirtual 364, 3) := dk_182 1 108 (dk_at dksX1_back_0 19 rfl rfl)
theorem dX1_back_22 : decode cX1_back 22 = .ok (.ireturn, 1) := dk_172 (dk_at dksX1_back_0 22 rfl rfl)
theorem dX1_back_23 : decode cX1_back 23 = .ok (.aload_n 0, 1) := dk_42 (dk_at dksX1_back_0 23 rfl rfl)
theorem dX1_back_24 : decode cX1_back 24 = .ok (.aload_n 0, 1) := dk_42 (dk_at dksX1_back_1 0 rfl rfl)
theorem dX1_back_25 : decode cX1_back 25 = .ok (.getfield 24, 3) := dk_180 0 24 (dk_at dksX1_back_1 1 rfl rfl)
theorem dX1_back_28 : decode cX1_back 28 = .ok (.iload_n 1, 1) := dk_27 (dk_at dksX1_back_1 4 rfl rfl)
theorem dX1_back_29 : decode cX1_back 29 = .ok (.invokevirtual 119, 3) := dk_182 0 119 (dk_at dksX1_back_1 5 rfl rfl)
theorem dX1_back_32 : decode cX1_back 32 = .ok (.checkcast 93, 3) := dk_192 0 93 (dk_at dksX1_back_1 8 rfl rfl)
theorem dX1_back_35 : decode cX1_back 35 = .ok (.invokevirtual 357, 3) := dk_182 1 101 (dk_at dksX1_back_1 11 rfl rfl)
theorem dX1_back_38 : decode cX1_back 38 = .ok (.putfield 98, 3) := dk_181 0 98 (dk_at dksX1_back_1 14 rfl rfl)
theorem dX1_back_41 : decode cX1_back 41 = .ok (.aload_n 0, 1) := dk_42 (dk_at dksX1_back_1 17 rfl rfl)
theorem dX1_back_42 : decode cX1_back 42 = .ok (.getfield 20, 3) := dk_180 0 20 (dk_at dksX1_back_1 18 rfl rfl)
theorem dX1_back_45 : decode cX1_back 45 = .ok (.invokevirtual 105, 3) := dk_182 0 105 (dk_at dksX1_back_1 21 rfl rfl)
theorem dX1_back_48 : decode cX1_back 48 = .ok (.aload_n 0, 1) := dk_42 (dk_at dksX1_back_2 0 rfl rfl)
theorem dX1_back_49 : decode cX1_back 49 = .ok (.invokevirtual 367, 3) := dk_182 1 111 (dk_at dksX1_back_2 1 rfl rfl)
theorem dX1_back_52 : decode cX1_back 52 = .ok (.ireturn, 1) := dk_172 (dk_at dksX1_back_2 4 rfl rfl)
abbrev cX1_size : ByteArray := prog_1_method_105_code
def yX1_size : MethodName := ⟨RX1, "size", "(I)I"⟩
def dkwX1_size_6 : List UInt8 := [180, 0, 20, 182, 0, 116, 172, 42, 180, 0, 24, 182, 0, 116, 172]
abbrev dktX1_size_6 : List UInt8 := dkwX1_size_6 ++ []
def dkwX1_size_5 : List UInt8 := [180, 0, 226, 172, 42, 180, 0, 89, 180, 0, 245, 182, 0, 116, 172, 42, 180, 0, 98, 180, 0, 145, 172, 42]
abbrev dktX1_size_5 : List UInt8 := dkwX1_size_5 ++ dktX1_size_6
def dkwX1_size_4 : List UInt8 := [180, 0, 89, 180, 1, 121, 172, 42, 180, 0, 89, 180, 1, 124, 182, 0, 116, 172, 42, 180, 0, 89]
abbrev dktX1_size_4 : List UInt8 := dkwX1_size_4 ++ dktX1_size_5
def dkwX1_size_3 : List UInt8 := [42, 180, 0, 89, 180, 0, 133, 172, 42, 180, 0, 89, 180, 1, 78, 172, 42, 182, 0, 108, 172, 42]
abbrev dktX1_size_3 : List UInt8 := dkwX1_size_3 ++ dktX1_size_4
def dkwX1_size_2 : List UInt8 := [170, 0, 0, 0, 0, 0, 126, 0, 0, 0, 0, 0, 0, 0, 8, 0, 0, 0, 51, 0, 0, 0, 59, 0, 0, 0, 67, 0, 0, 0, 72, 0, 0, 0, 80, 0, 0, 0, 91, 0, 0, 0, 99, 0, 0, 0, 110, 0, 0, 0, 118]
abbrev dktX1_size_2 : List UInt8 := dkwX1_size_2 ++ dktX1_size_3
def dkwX1_size_1 : List UInt8 := [180, 0, 89, 199, 0, 5, 3, 172, 27]
abbrev dktX1_size_1 : List UInt8 := dkwX1_size_1 ++ dktX1_size_2
def dkwX1_size_0 : List UInt8 := [27, 16, 10, 160, 0, 8, 42, 180, 0, 61, 172, 27, 3, 16, 9, 184, 0, 64, 154, 0, 5, 2, 172, 42]
abbrev dktX1_size_0 : List UInt8 := dkwX1_size_0 ++ dktX1_size_1
theorem dksX1_size_0 : cX1_size.data.toList.drop 0 = dktX1_size_0 := by decide +kernel
theorem dksX1_size_1 : cX1_size.data.toList.drop 24 = dktX1_size_1 := dk_seg dksX1_size_0 24 rfl rfl
theorem dksX1_size_2 : cX1_size.data.toList.drop 33 = dktX1_size_2 := dk_seg dksX1_size_1 9 rfl rfl
theorem dksX1_size_3 : cX1_size.data.toList.drop 84 = dktX1_size_3 := dk_seg dksX1_size_2 51 rfl rfl
theorem dksX1_size_4 : cX1_size.data.toList.drop 106 = dktX1_size_4 := dk_seg dksX1_size_3 22 rfl rfl
theorem dksX1_size_5 : cX1_size.data.toList.drop 128 = dktX1_size_5 := dk_seg dksX1_size_4 22 rfl rfl
theorem dksX1_size_6 : cX1_size.data.toList.drop 152 = dktX1_size_6 := dk_seg dksX1_size_5 24 rfl rfl
theorem dX1_size_0 : decode cX1_size 0 = .ok (.iload_n 1, 1) := dk_27 (dk_at dksX1_size_0 0 rfl rfl)
theorem dX1_size_1 : decode cX1_size 1 = .ok (.bipush 10, 2) := dk_16 10 (dk_at dksX1_size_0 1 rfl rfl)
theorem dX1_size_3 : decode cX1_size 3 = .ok (.if_icmp .ne 8, 3) := dk_160 0 8 (dk_at dksX1_size_0 3 rfl rfl)
theorem dX1_size_6 : decode cX1_size 6 = .ok (.aload_n 0, 1) := dk_42 (dk_at dksX1_size_0 6 rfl rfl)
theorem dX1_size_7 : decode cX1_size 7 = .ok (.getfield 61, 3) := dk_180 0 61 (dk_at dksX1_size_0 7 rfl rfl)
theorem dX1_size_10 : decode cX1_size 10 = .ok (.ireturn, 1) := dk_172 (dk_at dksX1_size_0 10 rfl rfl)
theorem dX1_size_11 : decode cX1_size 11 = .ok (.iload_n 1, 1) := dk_27 (dk_at dksX1_size_0 11 rfl rfl)
theorem dX1_size_12 : decode cX1_size 12 = .ok (.iconst 0, 1) := dk_3 (dk_at dksX1_size_0 12 rfl rfl)
theorem dX1_size_13 : decode cX1_size 13 = .ok (.bipush 9, 2) := dk_16 9 (dk_at dksX1_size_0 13 rfl rfl)
theorem dX1_size_15 : decode cX1_size 15 = .ok (.invokestatic 64, 3) := dk_184 0 64 (dk_at dksX1_size_0 15 rfl rfl)
theorem dX1_size_18 : decode cX1_size 18 = .ok (.ifCond .ne 5, 3) := dk_154 0 5 (dk_at dksX1_size_0 18 rfl rfl)
theorem dX1_size_21 : decode cX1_size 21 = .ok (.iconst (-1), 1) := dk_2 (dk_at dksX1_size_0 21 rfl rfl)
theorem dX1_size_22 : decode cX1_size 22 = .ok (.ireturn, 1) := dk_172 (dk_at dksX1_size_0 22 rfl rfl)
theorem dX1_size_23 : decode cX1_size 23 = .ok (.aload_n 0, 1) := dk_42 (dk_at dksX1_size_0 23 rfl rfl)
theorem dX1_size_24 : decode cX1_size 24 = .ok (.getfield 89, 3) := dk_180 0 89 (dk_at dksX1_size_1 0 rfl rfl)
theorem dX1_size_27 : decode cX1_size 27 = .ok (.ifnonnull 5, 3) := dk_199 0 5 (dk_at dksX1_size_1 3 rfl rfl)
theorem dX1_size_30 : decode cX1_size 30 = .ok (.iconst 0, 1) := dk_3 (dk_at dksX1_size_1 6 rfl rfl)
theorem dX1_size_31 : decode cX1_size 31 = .ok (.ireturn, 1) := dk_172 (dk_at dksX1_size_1 7 rfl rfl)
theorem dX1_size_32 : decode cX1_size 32 = .ok (.iload_n 1, 1) := dk_27 (dk_at dksX1_size_1 8 rfl rfl)
theorem dX1_size_33 : decode cX1_size 33 = .ok (.tableswitch 126 0 8 #[51, 59, 67, 72, 80, 91, 99, 110, 118], 51) := by decide +kernel
theorem dX1_size_84 : decode cX1_size 84 = .ok (.aload_n 0, 1) := dk_42 (dk_at dksX1_size_3 0 rfl rfl)
theorem dX1_size_85 : decode cX1_size 85 = .ok (.getfield 89, 3) := dk_180 0 89 (dk_at dksX1_size_3 1 rfl rfl)
theorem dX1_size_88 : decode cX1_size 88 = .ok (.getfield 133, 3) := dk_180 0 133 (dk_at dksX1_size_3 4 rfl rfl)
theorem dX1_size_91 : decode cX1_size 91 = .ok (.ireturn, 1) := dk_172 (dk_at dksX1_size_3 7 rfl rfl)
theorem dX1_size_92 : decode cX1_size 92 = .ok (.aload_n 0, 1) := dk_42 (dk_at dksX1_size_3 8 rfl rfl)
theorem dX1_size_93 : decode cX1_size 93 = .ok (.getfield 89, 3) := dk_180 0 89 (dk_at dksX1_size_3 9 rfl rfl)
theorem dX1_size_96 : decode cX1_size 96 = .ok (.getfield 334, 3) := dk_180 1 78 (dk_at dksX1_size_3 12 rfl rfl)
theorem dX1_size_99 : decode cX1_size 99 = .ok (.ireturn, 1) := dk_172 (dk_at dksX1_size_3 15 rfl rfl)
theorem dX1_size_100 : decode cX1_size 100 = .ok (.aload_n 0, 1) := dk_42 (dk_at dksX1_size_3 16 rfl rfl)
theorem dX1_size_101 : decode cX1_size 101 = .ok (.invokevirtual 108, 3) := dk_182 0 108 (dk_at dksX1_size_3 17 rfl rfl)
theorem dX1_size_104 : decode cX1_size 104 = .ok (.ireturn, 1) := dk_172 (dk_at dksX1_size_3 20 rfl rfl)
theorem dX1_size_105 : decode cX1_size 105 = .ok (.aload_n 0, 1) := dk_42 (dk_at dksX1_size_3 21 rfl rfl)
theorem dX1_size_106 : decode cX1_size 106 = .ok (.getfield 89, 3) := dk_180 0 89 (dk_at dksX1_size_4 0 rfl rfl)
theorem dX1_size_109 : decode cX1_size 109 = .ok (.getfield 377, 3) := dk_180 1 121 (dk_at dksX1_size_4 3 rfl rfl)
theorem dX1_size_112 : decode cX1_size 112 = .ok (.ireturn, 1) := dk_172 (dk_at dksX1_size_4 6 rfl rfl)
theorem dX1_size_113 : decode cX1_size 113 = .ok (.aload_n 0, 1) := dk_42 (dk_at dksX1_size_4 7 rfl rfl)
theorem dX1_size_114 : decode cX1_size 114 = .ok (.getfield 89, 3) := dk_180 0 89 (dk_at dksX1_size_4 8 rfl rfl)
theorem dX1_size_117 : decode cX1_size 117 = .ok (.getfield 380, 3) := dk_180 1 124 (dk_at dksX1_size_4 11 rfl rfl)
theorem dX1_size_120 : decode cX1_size 120 = .ok (.invokevirtual 116, 3) := dk_182 0 116 (dk_at dksX1_size_4 14 rfl rfl)
theorem dX1_size_123 : decode cX1_size 123 = .ok (.ireturn, 1) := dk_172 (dk_at dksX1_size_4 17 rfl rfl)
theorem dX1_size_124 : decode cX1_size 124 = .ok (.aload_n 0, 1) := dk_42 (dk_at dksX1_size_4 18 rfl rfl)
theorem dX1_size_125 : decode cX1_size 125 = .ok (.getfield 89, 3) := dk_180 0 89 (dk_at dksX1_size_4 19 rfl rfl)
theorem dX1_size_128 : decode cX1_size 128 = .ok (.getfield 226, 3) := dk_180 0 226 (dk_at dksX1_size_5 0 rfl rfl)
theorem dX1_size_131 : decode cX1_size 131 = .ok (.ireturn, 1) := dk_172 (dk_at dksX1_size_5 3 rfl rfl)
theorem dX1_size_132 : decode cX1_size 132 = .ok (.aload_n 0, 1) := dk_42 (dk_at dksX1_size_5 4 rfl rfl)
theorem dX1_size_133 : decode cX1_size 133 = .ok (.getfield 89, 3) := dk_180 0 89 (dk_at dksX1_size_5 5 rfl rfl)
theorem dX1_size_136 : decode cX1_size 136 = .ok (.getfield 245, 3) := dk_180 0 245 (dk_at dksX1_size_5 8 rfl rfl)
theorem dX1_size_139 : decode cX1_size 139 = .ok (.invokevirtual 116, 3) := dk_182 0 116 (dk_at dksX1_size_5 11 rfl rfl)
theorem dX1_size_142 : decode cX1_size 142 = .ok (.ireturn, 1) := dk_172 (dk_at dksX1_size_5 14 rfl rfl)
theorem dX1_size_143 : decode cX1_size 143 = .ok (.aload_n 0, 1) := dk_42 (dk_at dksX1_size_5 15 rfl rfl)
theorem dX1_size_144 : decode cX1_size 144 = .ok (.getfield 98, 3) := dk_180 0 98 (dk_at dksX1_size_5 16 rfl rfl)
theorem dX1_size_147 : decode cX1_size 147 = .ok (.getfield 145, 3) := dk_180 0 145 (dk_at dksX1_size_5 19 rfl rfl)
theorem dX1_size_150 : decode cX1_size 150 = .ok (.ireturn, 1) := dk_172 (dk_at dksX1_size_5 22 rfl rfl)
theorem dX1_size_151 : decode cX1_size 151 = .ok (.aload_n 0, 1) := dk_42 (dk_at dksX1_size_5 23 rfl rfl)
theorem dX1_size_152 : decode cX1_size 152 = .ok (.getfield 20, 3) := dk_180 0 20 (dk_at dksX1_size_6 0 rfl rfl)
theorem dX1_size_155 : decode cX1_size 155 = .ok (.invokevirtual 116, 3) := dk_182 0 116 (dk_at dksX1_size_6 3 rfl rfl)
theorem dX1_size_158 : decode cX1_size 158 = .ok (.ireturn, 1) := dk_172 (dk_at dksX1_size_6 6 rfl rfl)
theorem dX1_size_159 : decode cX1_size 159 = .ok (.aload_n 0, 1) := dk_42 (dk_at dksX1_size_6 7 rfl rfl)
theorem dX1_size_160 : decode cX1_size 160 = .ok (.getfield 24, 3) := dk_180 0 24 (dk_at dksX1_size_6 8 rfl rfl)
theorem dX1_size_163 : decode cX1_size 163 = .ok (.invokevirtual 116, 3) := dk_182 0 116 (dk_at dksX1_size_6 11 rfl rfl)
theorem dX1_size_166 : decode cX1_size 166 = .ok (.ireturn, 1) := dk_172 (dk_at dksX1_size_6 14 rfl rfl)
abbrev cX1_trouble : ByteArray := prog_1_method_106_code
def yX1_trouble : MethodName := ⟨RX1, "trouble", "()I"⟩
theorem dX1_trouble_0 : decode cX1_trouble 0 = .ok (.aload_n 0, 1) := by decide +kernel
theorem dX1_trouble_1 : decode cX1_trouble 1 = .ok (.getfield 47, 3) := by decide +kernel
theorem dX1_trouble_4 : decode cX1_trouble 4 = .ok (.ireturn, 1) := by decide +kernel
abbrev cX1_led : ByteArray := prog_1_method_104_code
def yX1_led : MethodName := ⟨RX1, "led", "(I)I"⟩
def dkwX1_led_2 : List UInt8 := [132, 3, 1, 167, 255, 209, 187, 1, 118, 89, 183, 1, 120, 191]
abbrev dktX1_led_2 : List UInt8 := dkwX1_led_2 ++ []
def dkwX1_led_1 : List UInt8 := [180, 0, 142, 29, 51, 182, 0, 169, 154, 0, 6, 167, 0, 13, 28, 27, 160, 0, 5, 29, 172, 132, 2, 1]
abbrev dktX1_led_1 : List UInt8 := dkwX1_led_1 ++ dktX1_led_2
def dkwX1_led_0 : List UInt8 := [3, 61, 3, 62, 42, 180, 0, 89, 198, 0, 46, 29, 42, 182, 0, 108, 162, 0, 38, 42, 42, 180, 0, 98]
abbrev dktX1_led_0 : List UInt8 := dkwX1_led_0 ++ dktX1_led_1
theorem dksX1_led_0 : cX1_led.data.toList.drop 0 = dktX1_led_0 := by decide +kernel
theorem dksX1_led_1 : cX1_led.data.toList.drop 24 = dktX1_led_1 := dk_seg dksX1_led_0 24 rfl rfl
theorem dksX1_led_2 : cX1_led.data.toList.drop 48 = dktX1_led_2 := dk_seg dksX1_led_1 24 rfl rfl
theorem dX1_led_0 : decode cX1_led 0 = .ok (.iconst 0, 1) := dk_3 (dk_at dksX1_led_0 0 rfl rfl)
theorem dX1_led_1 : decode cX1_led 1 = .ok (.istore_n 2, 1) := dk_61 (dk_at dksX1_led_0 1 rfl rfl)
theorem dX1_led_2 : decode cX1_led 2 = .ok (.iconst 0, 1) := dk_3 (dk_at dksX1_led_0 2 rfl rfl)
theorem dX1_led_3 : decode cX1_led 3 = .ok (.istore_n 3, 1) := dk_62 (dk_at dksX1_led_0 3 rfl rfl)
theorem dX1_led_4 : decode cX1_led 4 = .ok (.aload_n 0, 1) := dk_42 (dk_at dksX1_led_0 4 rfl rfl)
theorem dX1_led_5 : decode cX1_led 5 = .ok (.getfield 89, 3) := dk_180 0 89 (dk_at dksX1_led_0 5 rfl rfl)
theorem dX1_led_8 : decode cX1_led 8 = .ok (.ifnull 46, 3) := dk_198 0 46 (dk_at dksX1_led_0 8 rfl rfl)
theorem dX1_led_11 : decode cX1_led 11 = .ok (.iload_n 3, 1) := dk_29 (dk_at dksX1_led_0 11 rfl rfl)
theorem dX1_led_12 : decode cX1_led 12 = .ok (.aload_n 0, 1) := dk_42 (dk_at dksX1_led_0 12 rfl rfl)
theorem dX1_led_13 : decode cX1_led 13 = .ok (.invokevirtual 108, 3) := dk_182 0 108 (dk_at dksX1_led_0 13 rfl rfl)
theorem dX1_led_16 : decode cX1_led 16 = .ok (.if_icmp .ge 38, 3) := dk_162 0 38 (dk_at dksX1_led_0 16 rfl rfl)
theorem dX1_led_19 : decode cX1_led 19 = .ok (.aload_n 0, 1) := dk_42 (dk_at dksX1_led_0 19 rfl rfl)
theorem dX1_led_20 : decode cX1_led 20 = .ok (.aload_n 0, 1) := dk_42 (dk_at dksX1_led_0 20 rfl rfl)
theorem dX1_led_21 : decode cX1_led 21 = .ok (.getfield 98, 3) := dk_180 0 98 (dk_at dksX1_led_0 21 rfl rfl)
theorem dX1_led_24 : decode cX1_led 24 = .ok (.getfield 142, 3) := dk_180 0 142 (dk_at dksX1_led_1 0 rfl rfl)
theorem dX1_led_27 : decode cX1_led 27 = .ok (.iload_n 3, 1) := dk_29 (dk_at dksX1_led_1 3 rfl rfl)
theorem dX1_led_28 : decode cX1_led 28 = .ok (.baload, 1) := dk_51 (dk_at dksX1_led_1 4 rfl rfl)
theorem dX1_led_29 : decode cX1_led 29 = .ok (.invokevirtual 169, 3) := dk_182 0 169 (dk_at dksX1_led_1 5 rfl rfl)
theorem dX1_led_32 : decode cX1_led 32 = .ok (.ifCond .ne 6, 3) := dk_154 0 6 (dk_at dksX1_led_1 8 rfl rfl)
theorem dX1_led_35 : decode cX1_led 35 = .ok (.goto 13, 3) := dk_167 0 13 (dk_at dksX1_led_1 11 rfl rfl)
theorem dX1_led_38 : decode cX1_led 38 = .ok (.iload_n 2, 1) := dk_28 (dk_at dksX1_led_1 14 rfl rfl)
theorem dX1_led_39 : decode cX1_led 39 = .ok (.iload_n 1, 1) := dk_27 (dk_at dksX1_led_1 15 rfl rfl)
theorem dX1_led_40 : decode cX1_led 40 = .ok (.if_icmp .ne 5, 3) := dk_160 0 5 (dk_at dksX1_led_1 16 rfl rfl)
theorem dX1_led_43 : decode cX1_led 43 = .ok (.iload_n 3, 1) := dk_29 (dk_at dksX1_led_1 19 rfl rfl)
theorem dX1_led_44 : decode cX1_led 44 = .ok (.ireturn, 1) := dk_172 (dk_at dksX1_led_1 20 rfl rfl)
theorem dX1_led_45 : decode cX1_led 45 = .ok (.iinc 2 1, 3) := dk_132 2 1 (dk_at dksX1_led_1 21 rfl rfl)
theorem dX1_led_48 : decode cX1_led 48 = .ok (.iinc 3 1, 3) := dk_132 3 1 (dk_at dksX1_led_2 0 rfl rfl)
theorem dX1_led_51 : decode cX1_led 51 = .ok (.goto (-47), 3) := dk_167 255 209 (dk_at dksX1_led_2 3 rfl rfl)
theorem dX1_led_54 : decode cX1_led 54 = .ok (.new 374, 3) := dk_187 1 118 (dk_at dksX1_led_2 6 rfl rfl)
theorem dX1_led_57 : decode cX1_led 57 = .ok (.dup, 1) := dk_89 (dk_at dksX1_led_2 9 rfl rfl)
theorem dX1_led_58 : decode cX1_led 58 = .ok (.invokespecial 376, 3) := dk_183 1 120 (dk_at dksX1_led_2 10 rfl rfl)
theorem dX1_led_61 : decode cX1_led 61 = .ok (.athrow, 1) := dk_191 (dk_at dksX1_led_2 13 rfl rfl)
theorem q122 : (Jvm.Cond.initialized "FigureKnee") ∈ lw_all := lw_g (lw_at lw_m1 1 rfl) rfl
theorem q156 : (Jvm.Cond.instantiable "FigureKnee" (20 : Nat)) ∈ lw_all := lw_g (lw_at lw_m1 35 rfl) rfl
theorem q158 : (Jvm.Cond.instanceMethod ({ cls := "FigureKnee", name := "<init>", desc := "()V" } : Jvm.MethodName)) ∈ lw_all := lw_g (lw_at lw_m1 37 rfl) rfl
theorem q159 : (Jvm.Cond.code ({ cls := "FigureKnee", name := "<init>", desc := "()V" } : Jvm.MethodName) prog_1_method_1_code (1 : Nat) (Option.none : Option Jvm.ClassFile.FieldType)) ∈ lw_all := lw_g (lw_at lw_m1 38 rfl) rfl
theorem q160 : (Jvm.Cond.methodLink "FigureKnee" (1 : Nat) ({ cls := "java/lang/Object", name := "<init>", desc := "()V" } : Jvm.MethodName)) ∈ lw_all := lw_g (lw_at lw_m1 39 rfl) rfl
theorem q163 : (Jvm.Cond.classLink "FigureKnee" (17 : Nat) "java/util/ArrayList") ∈ lw_all := lw_g (lw_at lw_m1 42 rfl) rfl
theorem q165 : (Jvm.Cond.methodLink "FigureKnee" (19 : Nat) ({ cls := "java/util/ArrayList", name := "<init>", desc := "()V" } : Jvm.MethodName)) ∈ lw_all := lw_g (lw_at lw_m1 44 rfl) rfl
theorem q190 : (Jvm.Cond.fieldLink "FigureKnee" (9 : Nat) "FigureKnee" "tape" "[B") ∈ lw_all := lw_g (lw_at lw_m1 69 rfl) rfl
theorem q191 : (Jvm.Cond.fieldLink "FigureKnee" (61 : Nat) "FigureKnee" "taped" "I") ∈ lw_all := lw_g (lw_at lw_m1 70 rfl) rfl
theorem q192 : (Jvm.Cond.fieldLink "FigureKnee" (85 : Nat) "FigureKnee" "fault" "I") ∈ lw_all := lw_g (lw_at lw_m1 71 rfl) rfl
theorem q193 : (Jvm.Cond.fieldLink "FigureKnee" (13 : Nat) "FigureKnee" "where" "I") ∈ lw_all := lw_g (lw_at lw_m1 72 rfl) rfl
theorem q194 : (Jvm.Cond.fieldLink "FigureKnee" (47 : Nat) "FigureKnee" "trouble" "I") ∈ lw_all := lw_g (lw_at lw_m1 73 rfl) rfl
theorem q195 : (Jvm.Cond.fieldLink "FigureKnee" (89 : Nat) "FigureKnee" "pier" "LFigureKnee$Pier;") ∈ lw_all := lw_g (lw_at lw_m1 74 rfl) rfl
theorem q196 : (Jvm.Cond.fieldLink "FigureKnee" (98 : Nat) "FigureKnee" "stage" "LFigureKnee$Stage;") ∈ lw_all := lw_g (lw_at lw_m1 75 rfl) rfl
theorem q197 : (Jvm.Cond.fieldLink "FigureKnee" (20 : Nat) "FigureKnee" "past" "Ljava/util/ArrayList;") ∈ lw_all := lw_g (lw_at lw_m1 76 rfl) rfl
theorem q198 : (Jvm.Cond.fieldLink "FigureKnee" (24 : Nat) "FigureKnee" "images" "Ljava/util/ArrayList;") ∈ lw_all := lw_g (lw_at lw_m1 77 rfl) rfl
theorem q199 : (Jvm.Cond.fieldLink "FigureKnee" (27 : Nat) "FigureKnee" "tale" "[S") ∈ lw_all := lw_g (lw_at lw_m1 78 rfl) rfl
theorem q200 : (Jvm.Cond.fieldLink "FigureKnee" (196 : Nat) "FigureKnee" "roundFrom" "I") ∈ lw_all := lw_g (lw_at lw_m1 79 rfl) rfl
theorem q201 : (Jvm.Cond.fieldLink "FigureKnee" (190 : Nat) "FigureKnee" "roundLong" "I") ∈ lw_all := lw_g (lw_at lw_m1 80 rfl) rfl
theorem q202 : (Jvm.Cond.fieldLink "FigureKnee" (220 : Nat) "FigureKnee" "everyBest" "I") ∈ lw_all := lw_g (lw_at lw_m1 81 rfl) rfl
theorem q203 : (Jvm.Cond.fieldLink "FigureKnee" (260 : Nat) "FigureKnee" "fitsNow" "I") ∈ lw_all := lw_g (lw_at lw_m1 82 rfl) rfl
theorem q204 : (Jvm.Cond.fieldLink "FigureKnee" (263 : Nat) "FigureKnee" "someNow" "I") ∈ lw_all := lw_g (lw_at lw_m1 83 rfl) rfl
theorem q205 : (Jvm.Cond.fieldLink "FigureKnee" (266 : Nat) "FigureKnee" "everyNow" "I") ∈ lw_all := lw_g (lw_at lw_m1 84 rfl) rfl
theorem q206 : (Jvm.Cond.fieldLink "FigureKnee" (31 : Nat) "FigureKnee" "otherIn" "[I") ∈ lw_all := lw_g (lw_at lw_m1 85 rfl) rfl
theorem q207 : (Jvm.Cond.fieldLink "FigureKnee" (275 : Nat) "FigureKnee" "askLeft" "I") ∈ lw_all := lw_g (lw_at lw_m1 86 rfl) rfl
theorem q208 : (Jvm.Cond.fieldLink "FigureKnee" (35 : Nat) "FigureKnee" "quits" "[I") ∈ lw_all := lw_g (lw_at lw_m1 87 rfl) rfl
theorem q209 : (Jvm.Cond.fieldLink "FigureKnee" (38 : Nat) "FigureKnee" "looked" "[I") ∈ lw_all := lw_g (lw_at lw_m1 88 rfl) rfl
theorem q210 : (Jvm.Cond.laysFinal "FigureKnee" "FigureKnee" "tape" "[B") ∈ lw_all := lw_g (lw_at lw_m1 89 rfl) rfl
theorem q211 : (Jvm.Cond.soleField "FigureKnee" "tape") ∈ lw_all := lw_g (lw_at lw_m1 90 rfl) rfl
theorem q212 : (Jvm.Cond.lays "FigureKnee" "FigureKnee" "taped" "I") ∈ lw_all := lw_g (lw_at lw_m1 91 rfl) rfl
theorem q213 : (Jvm.Cond.soleField "FigureKnee" "taped") ∈ lw_all := lw_g (lw_at lw_m1 92 rfl) rfl
theorem q214 : (Jvm.Cond.lays "FigureKnee" "FigureKnee" "fault" "I") ∈ lw_all := lw_g (lw_at lw_m1 93 rfl) rfl
theorem q215 : (Jvm.Cond.soleField "FigureKnee" "fault") ∈ lw_all := lw_g (lw_at lw_m1 94 rfl) rfl
theorem q216 : (Jvm.Cond.lays "FigureKnee" "FigureKnee" "where" "I") ∈ lw_all := lw_g (lw_at lw_m1 95 rfl) rfl
theorem q217 : (Jvm.Cond.soleField "FigureKnee" "where") ∈ lw_all := lw_g (lw_at lw_m1 96 rfl) rfl
theorem q218 : (Jvm.Cond.lays "FigureKnee" "FigureKnee" "trouble" "I") ∈ lw_all := lw_g (lw_at lw_m1 97 rfl) rfl
theorem q219 : (Jvm.Cond.soleField "FigureKnee" "trouble") ∈ lw_all := lw_g (lw_at lw_m1 98 rfl) rfl
theorem q220 : (Jvm.Cond.lays "FigureKnee" "FigureKnee" "pier" "LFigureKnee$Pier;") ∈ lw_all := lw_g (lw_at lw_m1 99 rfl) rfl
theorem q221 : (Jvm.Cond.soleField "FigureKnee" "pier") ∈ lw_all := lw_g (lw_at lw_m1 100 rfl) rfl
theorem q222 : (Jvm.Cond.lays "FigureKnee" "FigureKnee" "stage" "LFigureKnee$Stage;") ∈ lw_all := lw_g (lw_at lw_m1 101 rfl) rfl
theorem q223 : (Jvm.Cond.soleField "FigureKnee" "stage") ∈ lw_all := lw_g (lw_at lw_m1 102 rfl) rfl
theorem q224 : (Jvm.Cond.laysFinal "FigureKnee" "FigureKnee" "past" "Ljava/util/ArrayList;") ∈ lw_all := lw_g (lw_at lw_m1 103 rfl) rfl
theorem q225 : (Jvm.Cond.soleField "FigureKnee" "past") ∈ lw_all := lw_g (lw_at lw_m1 104 rfl) rfl
theorem q226 : (Jvm.Cond.laysFinal "FigureKnee" "FigureKnee" "images" "Ljava/util/ArrayList;") ∈ lw_all := lw_g (lw_at lw_m1 105 rfl) rfl
theorem q227 : (Jvm.Cond.soleField "FigureKnee" "images") ∈ lw_all := lw_g (lw_at lw_m1 106 rfl) rfl
theorem q228 : (Jvm.Cond.laysFinal "FigureKnee" "FigureKnee" "tale" "[S") ∈ lw_all := lw_g (lw_at lw_m1 107 rfl) rfl
theorem q229 : (Jvm.Cond.soleField "FigureKnee" "tale") ∈ lw_all := lw_g (lw_at lw_m1 108 rfl) rfl
theorem q230 : (Jvm.Cond.lays "FigureKnee" "FigureKnee" "roundFrom" "I") ∈ lw_all := lw_g (lw_at lw_m1 109 rfl) rfl
theorem q231 : (Jvm.Cond.soleField "FigureKnee" "roundFrom") ∈ lw_all := lw_g (lw_at lw_m1 110 rfl) rfl
theorem q232 : (Jvm.Cond.lays "FigureKnee" "FigureKnee" "roundLong" "I") ∈ lw_all := lw_g (lw_at lw_m1 111 rfl) rfl
theorem q233 : (Jvm.Cond.soleField "FigureKnee" "roundLong") ∈ lw_all := lw_g (lw_at lw_m1 112 rfl) rfl
theorem q234 : (Jvm.Cond.lays "FigureKnee" "FigureKnee" "everyBest" "I") ∈ lw_all := lw_g (lw_at lw_m1 113 rfl) rfl
theorem q235 : (Jvm.Cond.soleField "FigureKnee" "everyBest") ∈ lw_all := lw_g (lw_at lw_m1 114 rfl) rfl
theorem q236 : (Jvm.Cond.lays "FigureKnee" "FigureKnee" "fitsNow" "I") ∈ lw_all := lw_g (lw_at lw_m1 115 rfl) rfl
theorem q237 : (Jvm.Cond.soleField "FigureKnee" "fitsNow") ∈ lw_all := lw_g (lw_at lw_m1 116 rfl) rfl
theorem q238 : (Jvm.Cond.lays "FigureKnee" "FigureKnee" "someNow" "I") ∈ lw_all := lw_g (lw_at lw_m1 117 rfl) rfl
theorem q239 : (Jvm.Cond.soleField "FigureKnee" "someNow") ∈ lw_all := lw_g (lw_at lw_m1 118 rfl) rfl
theorem q240 : (Jvm.Cond.lays "FigureKnee" "FigureKnee" "everyNow" "I") ∈ lw_all := lw_g (lw_at lw_m1 119 rfl) rfl
theorem q241 : (Jvm.Cond.soleField "FigureKnee" "everyNow") ∈ lw_all := lw_g (lw_at lw_m1 120 rfl) rfl
theorem q242 : (Jvm.Cond.laysFinal "FigureKnee" "FigureKnee" "otherIn" "[I") ∈ lw_all := lw_g (lw_at lw_m1 121 rfl) rfl
theorem q243 : (Jvm.Cond.soleField "FigureKnee" "otherIn") ∈ lw_all := lw_g (lw_at lw_m1 122 rfl) rfl
theorem q244 : (Jvm.Cond.lays "FigureKnee" "FigureKnee" "askLeft" "I") ∈ lw_all := lw_g (lw_at lw_m1 123 rfl) rfl
theorem q245 : (Jvm.Cond.soleField "FigureKnee" "askLeft") ∈ lw_all := lw_g (lw_at lw_m1 124 rfl) rfl
theorem q246 : (Jvm.Cond.laysFinal "FigureKnee" "FigureKnee" "quits" "[I") ∈ lw_all := lw_g (lw_at lw_m1 125 rfl) rfl
theorem q247 : (Jvm.Cond.soleField "FigureKnee" "quits") ∈ lw_all := lw_g (lw_at lw_m1 126 rfl) rfl
theorem q248 : (Jvm.Cond.laysFinal "FigureKnee" "FigureKnee" "looked" "[I") ∈ lw_all := lw_g (lw_at lw_m1 127 rfl) rfl
theorem q249 : (Jvm.Cond.soleField "FigureKnee" "looked") ∈ lw_all := lw_g (lw_at lw_m1 128 rfl) rfl
theorem q250 : (Jvm.Cond.superclass "FigureKnee" "java/lang/Object") ∈ lw_all := lw_g (lw_at lw_m1 129 rfl) rfl
theorem q254 : (Jvm.Cond.instanceMethod ({ cls := "FigureKnee", name := "feed", desc := "(IIIII)I" } : Jvm.MethodName)) ∈ lw_all := lw_g (lw_at lw_m1 133 rfl) rfl
theorem q255 : (Jvm.Cond.selects "FigureKnee" ({ cls := "FigureKnee", name := "feed", desc := "(IIIII)I" } : Jvm.MethodName) ({ cls := "FigureKnee", name := "feed", desc := "(IIIII)I" } : Jvm.MethodName)) ∈ lw_all := lw_g (lw_at lw_m1 134 rfl) rfl
theorem q256 : (Jvm.Cond.code ({ cls := "FigureKnee", name := "feed", desc := "(IIIII)I" } : Jvm.MethodName) prog_1_method_13_code (8 : Nat) (Option.some Jvm.ClassFile.FieldType.int)) ∈ lw_all := lw_g (lw_at lw_m1 135 rfl) rfl
theorem q258 : (Jvm.Cond.instanceMethod ({ cls := "FigureKnee", name := "pier", desc := "(I)I" } : Jvm.MethodName)) ∈ lw_all := lw_g (lw_at lw_m1 137 rfl) rfl
theorem q259 : (Jvm.Cond.selects "FigureKnee" ({ cls := "FigureKnee", name := "pier", desc := "(I)I" } : Jvm.MethodName) ({ cls := "FigureKnee", name := "pier", desc := "(I)I" } : Jvm.MethodName)) ∈ lw_all := lw_g (lw_at lw_m1 138 rfl) rfl
theorem q260 : (Jvm.Cond.code ({ cls := "FigureKnee", name := "pier", desc := "(I)I" } : Jvm.MethodName) prog_1_method_14_code (4 : Nat) (Option.some Jvm.ClassFile.FieldType.int)) ∈ lw_all := lw_g (lw_at lw_m1 139 rfl) rfl
theorem q261 : (Jvm.Cond.methodLink "FigureKnee" (64 : Nat) ({ cls := "FigureKnee", name := "in", desc := "(III)Z" } : Jvm.MethodName)) ∈ lw_all := lw_g (lw_at lw_m1 140 rfl) rfl
theorem q262 : (Jvm.Cond.static ({ cls := "FigureKnee", name := "in", desc := "(III)Z" } : Jvm.MethodName)) ∈ lw_all := lw_g (lw_at lw_m1 141 rfl) rfl
theorem q263 : (Jvm.Cond.code ({ cls := "FigureKnee", name := "in", desc := "(III)Z" } : Jvm.MethodName) prog_1_method_2_code (3 : Nat) (Option.some Jvm.ClassFile.FieldType.boolean)) ∈ lw_all := lw_g (lw_at lw_m1 142 rfl) rfl
theorem q264 : (Jvm.Cond.methodLink "FigureKnee" (50 : Nat) ({ cls := "FigureKnee", name := "refused", desc := "(I)I" } : Jvm.MethodName)) ∈ lw_all := lw_g (lw_at lw_m1 143 rfl) rfl
theorem q265 : (Jvm.Cond.privateMethod ({ cls := "FigureKnee", name := "refused", desc := "(I)I" } : Jvm.MethodName)) ∈ lw_tbl := lw_at lw_m1 144 rfl
theorem q266 : (Jvm.Cond.instanceMethod ({ cls := "FigureKnee", name := "refused", desc := "(I)I" } : Jvm.MethodName)) ∈ lw_all := lw_g (lw_at lw_m1 145 rfl) rfl
theorem q267 : (Jvm.Cond.code ({ cls := "FigureKnee", name := "refused", desc := "(I)I" } : Jvm.MethodName) prog_1_method_7_code (2 : Nat) (Option.some Jvm.ClassFile.FieldType.int)) ∈ lw_all := lw_g (lw_at lw_m1 146 rfl) rfl
theorem q268 : (Jvm.Cond.classLink "FigureKnee" (68 : Nat) "FigureKnee$Reader") ∈ lw_all := lw_g (lw_at lw_m1 147 rfl) rfl
theorem q270 : (Jvm.Cond.classLink "FigureKnee" (70 : Nat) "FigureKnee$Tokens") ∈ lw_all := lw_g (lw_at lw_m1 149 rfl) rfl
theorem q272 : (Jvm.Cond.methodLink "FigureKnee" (72 : Nat) ({ cls := "FigureKnee$Tokens", name := "<init>", desc := "([BI)V" } : Jvm.MethodName)) ∈ lw_all := lw_g (lw_at lw_m1 151 rfl) rfl
theorem q286 : (Jvm.Cond.methodLink "FigureKnee" (75 : Nat) ({ cls := "FigureKnee$Reader", name := "<init>", desc := "(LFigureKnee$Tokens;)V" } : Jvm.MethodName)) ∈ lw_all := lw_g (lw_at lw_m1 165 rfl) rfl
theorem q300 : (Jvm.Cond.fieldLink "FigureKnee" (133 : Nat) "FigureKnee$Pier" "words" "I") ∈ lw_all := lw_g (lw_at lw_m1 179 rfl) rfl
theorem q302 : (Jvm.Cond.fieldLink "FigureKnee" (334 : Nat) "FigureKnee$Pier" "dumb" "I") ∈ lw_all := lw_g (lw_at lw_m1 181 rfl) rfl
theorem q304 : (Jvm.Cond.fieldLink "FigureKnee" (377 : Nat) "FigureKnee$Pier" "contracts" "I") ∈ lw_all := lw_g (lw_at lw_m1 183 rfl) rfl
theorem q306 : (Jvm.Cond.fieldLink "FigureKnee" (226 : Nat) "FigureKnee$Pier" "unsures" "I") ∈ lw_all := lw_g (lw_at lw_m1 185 rfl) rfl
theorem q310 : (Jvm.Cond.fieldLink "FigureKnee" (112 : Nat) "FigureKnee$Pier" "pairs" "Ljava/util/ArrayList;") ∈ lw_all := lw_g (lw_at lw_m1 189 rfl) rfl
theorem q314 : (Jvm.Cond.fieldLink "FigureKnee" (380 : Nat) "FigureKnee$Pier" "debts" "Ljava/util/ArrayList;") ∈ lw_all := lw_g (lw_at lw_m1 193 rfl) rfl
theorem q317 : (Jvm.Cond.fieldLink "FigureKnee" (245 : Nat) "FigureKnee$Pier" "heard" "Ljava/util/ArrayList;") ∈ lw_all := lw_g (lw_at lw_m1 196 rfl) rfl
theorem q320 : (Jvm.Cond.fieldLink "FigureKnee" (229 : Nat) "FigureKnee$Pier" "unsure" "[I") ∈ lw_all := lw_g (lw_at lw_m1 199 rfl) rfl
theorem q564 : (Jvm.Cond.fieldLinkNest "FigureKnee" (82 : Nat) "FigureKnee$Reader" "fault" "I" "FigureKnee") ∈ lw_tbl := lw_at lw_m2 203 rfl
theorem q566 : (Jvm.Cond.fieldLinkNest "FigureKnee" (86 : Nat) "FigureKnee$Reader" "place" "I" "FigureKnee") ∈ lw_tbl := lw_at lw_m2 205 rfl
theorem q578 : (Jvm.Cond.methodLink "FigureKnee" (78 : Nat) ({ cls := "FigureKnee$Reader", name := "read", desc := "()LFigureKnee$Pier;" } : Jvm.MethodName)) ∈ lw_all := lw_g (lw_at lw_m2 217 rfl) rfl
theorem q745 : (Jvm.Cond.fieldLink "FigureKnee" (129 : Nat) "FigureKnee$Pair" "law" "LFigureKnee$Law;") ∈ lw_all := lw_g (lw_at lw_m3 144 rfl) rfl
theorem q748 : (Jvm.Cond.fieldLink "FigureKnee" (240 : Nat) "FigureKnee$Pair" "said" "I") ∈ lw_all := lw_g (lw_at lw_m3 147 rfl) rfl
theorem q751 : (Jvm.Cond.fieldLink "FigureKnee" (238 : Nat) "FigureKnee$Pair" "step" "I") ∈ lw_all := lw_g (lw_at lw_m3 150 rfl) rfl
theorem q753 : (Jvm.Cond.fieldLink "FigureKnee" (155 : Nat) "FigureKnee$Pair" "every" "I") ∈ lw_all := lw_g (lw_at lw_m3 152 rfl) rfl
theorem q755 : (Jvm.Cond.fieldLink "FigureKnee" (235 : Nat) "FigureKnee$Pair" "other" "I") ∈ lw_all := lw_g (lw_at lw_m3 154 rfl) rfl
theorem q790 : (Jvm.Cond.fieldLinkNest "FigureKnee" (166 : Nat) "FigureKnee$Law" "number" "I" "FigureKnee") ∈ lw_tbl := lw_at lw_m3 189 rfl
theorem q843 : (Jvm.Cond.selects "FigureKnee" ({ cls := "java/lang/Object", name := "getClass", desc := "()Ljava/lang/Class;" } : Jvm.MethodName) ({ cls := "java/lang/Object", name := "getClass", desc := "()Ljava/lang/Class;" } : Jvm.MethodName)) ∈ lw_all := lw_g (lw_at lw_m4 2 rfl) rfl
theorem q937 : (Jvm.Cond.fieldLink "FigureKnee" (250 : Nat) "FigureKnee$Heard" "pair" "I") ∈ lw_all := lw_g (lw_at lw_m4 96 rfl) rfl
theorem q940 : (Jvm.Cond.fieldLink "FigureKnee" (253 : Nat) "FigureKnee$Heard" "season" "I") ∈ lw_all := lw_g (lw_at lw_m4 99 rfl) rfl
theorem q942 : (Jvm.Cond.fieldLink "FigureKnee" (259 : Nat) "FigureKnee$Heard" "said" "I") ∈ lw_all := lw_g (lw_at lw_m4 101 rfl) rfl
theorem q958 : (Jvm.Cond.classLink "FigureKnee" (93 : Nat) "FigureKnee$Stage") ∈ lw_all := lw_g (lw_at lw_m4 117 rfl) rfl
theorem q960 : (Jvm.Cond.methodLink "FigureKnee" (95 : Nat) ({ cls := "FigureKnee$Stage", name := "<init>", desc := "(LFigureKnee$Pier;)V" } : Jvm.MethodName)) ∈ lw_all := lw_g (lw_at lw_m4 119 rfl) rfl
theorem q966 : (Jvm.Cond.fieldLink "FigureKnee" (142 : Nat) "FigureKnee$Stage" "said" "[B") ∈ lw_all := lw_g (lw_at lw_m4 125 rfl) rfl
theorem q968 : (Jvm.Cond.fieldLink "FigureKnee" (152 : Nat) "FigureKnee$Stage" "step" "[B") ∈ lw_all := lw_g (lw_at lw_m4 127 rfl) rfl
theorem q970 : (Jvm.Cond.fieldLink "FigureKnee" (281 : Nat) "FigureKnee$Stage" "owes" "[S") ∈ lw_all := lw_g (lw_at lw_m4 129 rfl) rfl
theorem q972 : (Jvm.Cond.fieldLink "FigureKnee" (145 : Nat) "FigureKnee$Stage" "gone" "I") ∈ lw_all := lw_g (lw_at lw_m4 131 rfl) rfl
theorem q984 : (Jvm.Cond.methodLink "FigureKnee" (102 : Nat) ({ cls := "FigureKnee$Stage", name := "begins", desc := "()V" } : Jvm.MethodName)) ∈ lw_all := lw_g (lw_at lw_m4 143 rfl) rfl
theorem q992 : (Jvm.Cond.methodLink "FigureKnee" (105 : Nat) ({ cls := "java/util/ArrayList", name := "clear", desc := "()V" } : Jvm.MethodName)) ∈ lw_all := lw_g (lw_at lw_m4 151 rfl) rfl
theorem q996 : (Jvm.Cond.methodLink "FigureKnee" (108 : Nat) ({ cls := "FigureKnee", name := "pairs", desc := "()I" } : Jvm.MethodName)) ∈ lw_all := lw_g (lw_at lw_m4 155 rfl) rfl
theorem q997 : (Jvm.Cond.privateMethod ({ cls := "FigureKnee", name := "pairs", desc := "()I" } : Jvm.MethodName)) ∈ lw_tbl := lw_at lw_m4 156 rfl
theorem q998 : (Jvm.Cond.instanceMethod ({ cls := "FigureKnee", name := "pairs", desc := "()I" } : Jvm.MethodName)) ∈ lw_all := lw_g (lw_at lw_m4 157 rfl) rfl
theorem q999 : (Jvm.Cond.code ({ cls := "FigureKnee", name := "pairs", desc := "()I" } : Jvm.MethodName) prog_1_method_17_code (1 : Nat) (Option.some Jvm.ClassFile.FieldType.int)) ∈ lw_all := lw_g (lw_at lw_m4 158 rfl) rfl
theorem q1000 : (Jvm.Cond.methodLink "FigureKnee" (116 : Nat) ({ cls := "java/util/ArrayList", name := "size", desc := "()I" } : Jvm.MethodName)) ∈ lw_all := lw_g (lw_at lw_m4 159 rfl) rfl
theorem q1001 : (Jvm.Cond.methodLink "FigureKnee" (54 : Nat) ({ cls := "FigureKnee", name := "well", desc := "(I)I" } : Jvm.MethodName)) ∈ lw_all := lw_g (lw_at lw_m4 160 rfl) rfl
theorem q1002 : (Jvm.Cond.privateMethod ({ cls := "FigureKnee", name := "well", desc := "(I)I" } : Jvm.MethodName)) ∈ lw_tbl := lw_at lw_m4 161 rfl
theorem q1003 : (Jvm.Cond.instanceMethod ({ cls := "FigureKnee", name := "well", desc := "(I)I" } : Jvm.MethodName)) ∈ lw_all := lw_g (lw_at lw_m4 162 rfl) rfl
theorem q1004 : (Jvm.Cond.code ({ cls := "FigureKnee", name := "well", desc := "(I)I" } : Jvm.MethodName) prog_1_method_10_code (2 : Nat) (Option.some Jvm.ClassFile.FieldType.int)) ∈ lw_all := lw_g (lw_at lw_m4 163 rfl) rfl
theorem q1006 : (Jvm.Cond.instanceMethod ({ cls := "FigureKnee", name := "fault", desc := "()I" } : Jvm.MethodName)) ∈ lw_all := lw_g (lw_at lw_m4 165 rfl) rfl
theorem q1007 : (Jvm.Cond.selects "FigureKnee" ({ cls := "FigureKnee", name := "fault", desc := "()I" } : Jvm.MethodName) ({ cls := "FigureKnee", name := "fault", desc := "()I" } : Jvm.MethodName)) ∈ lw_all := lw_g (lw_at lw_m4 166 rfl) rfl
theorem q1008 : (Jvm.Cond.code ({ cls := "FigureKnee", name := "fault", desc := "()I" } : Jvm.MethodName) prog_1_method_15_code (1 : Nat) (Option.some Jvm.ClassFile.FieldType.int)) ∈ lw_all := lw_g (lw_at lw_m4 167 rfl) rfl
theorem q1010 : (Jvm.Cond.instanceMethod ({ cls := "FigureKnee", name := "where", desc := "()I" } : Jvm.MethodName)) ∈ lw_all := lw_g (lw_at lw_m4 169 rfl) rfl
theorem q1011 : (Jvm.Cond.selects "FigureKnee" ({ cls := "FigureKnee", name := "where", desc := "()I" } : Jvm.MethodName) ({ cls := "FigureKnee", name := "where", desc := "()I" } : Jvm.MethodName)) ∈ lw_all := lw_g (lw_at lw_m4 170 rfl) rfl
theorem q1012 : (Jvm.Cond.code ({ cls := "FigureKnee", name := "where", desc := "()I" } : Jvm.MethodName) prog_1_method_16_code (1 : Nat) (Option.some Jvm.ClassFile.FieldType.int)) ∈ lw_all := lw_g (lw_at lw_m4 171 rfl) rfl
theorem q1014 : (Jvm.Cond.instanceMethod ({ cls := "FigureKnee", name := "pair", desc := "(II)I" } : Jvm.MethodName)) ∈ lw_all := lw_g (lw_at lw_m4 173 rfl) rfl
theorem q1015 : (Jvm.Cond.selects "FigureKnee" ({ cls := "FigureKnee", name := "pair", desc := "(II)I" } : Jvm.MethodName) ({ cls := "FigureKnee", name := "pair", desc := "(II)I" } : Jvm.MethodName)) ∈ lw_all := lw_g (lw_at lw_m4 174 rfl) rfl
theorem q1016 : (Jvm.Cond.code ({ cls := "FigureKnee", name := "pair", desc := "(II)I" } : Jvm.MethodName) prog_1_method_25_code (3 : Nat) (Option.some Jvm.ClassFile.FieldType.int)) ∈ lw_all := lw_g (lw_at lw_m4 175 rfl) rfl
theorem q1017 : (Jvm.Cond.methodLink "FigureKnee" (162 : Nat) ({ cls := "FigureKnee", name := "isPair", desc := "(I)Z" } : Jvm.MethodName)) ∈ lw_all := lw_g (lw_at lw_m4 176 rfl) rfl
theorem q1018 : (Jvm.Cond.privateMethod ({ cls := "FigureKnee", name := "isPair", desc := "(I)Z" } : Jvm.MethodName)) ∈ lw_tbl := lw_at lw_m4 177 rfl
theorem q1019 : (Jvm.Cond.instanceMethod ({ cls := "FigureKnee", name := "isPair", desc := "(I)Z" } : Jvm.MethodName)) ∈ lw_all := lw_g (lw_at lw_m4 178 rfl) rfl
theorem q1020 : (Jvm.Cond.code ({ cls := "FigureKnee", name := "isPair", desc := "(I)Z" } : Jvm.MethodName) prog_1_method_19_code (2 : Nat) (Option.some Jvm.ClassFile.FieldType.boolean)) ∈ lw_all := lw_g (lw_at lw_m4 179 rfl) rfl
theorem q1021 : (Jvm.Cond.methodLink "FigureKnee" (125 : Nat) ({ cls := "FigureKnee", name := "at", desc := "(I)LFigureKnee$Pair;" } : Jvm.MethodName)) ∈ lw_all := lw_g (lw_at lw_m4 180 rfl) rfl
theorem q1022 : (Jvm.Cond.privateMethod ({ cls := "FigureKnee", name := "at", desc := "(I)LFigureKnee$Pair;" } : Jvm.MethodName)) ∈ lw_tbl := lw_at lw_m4 181 rfl
theorem q1023 : (Jvm.Cond.instanceMethod ({ cls := "FigureKnee", name := "at", desc := "(I)LFigureKnee$Pair;" } : Jvm.MethodName)) ∈ lw_all := lw_g (lw_at lw_m4 182 rfl) rfl
theorem q1024 : (Jvm.Cond.code ({ cls := "FigureKnee", name := "at", desc := "(I)LFigureKnee$Pair;" } : Jvm.MethodName) prog_1_method_18_code (2 : Nat) (Option.some (Jvm.ClassFile.FieldType.object "FigureKnee$Pair"))) ∈ lw_all := lw_g (lw_at lw_m4 183 rfl) rfl
theorem q1025 : (Jvm.Cond.methodLink "FigureKnee" (119 : Nat) ({ cls := "java/util/ArrayList", name := "get", desc := "(I)Ljava/lang/Object;" } : Jvm.MethodName)) ∈ lw_all := lw_g (lw_at lw_m4 184 rfl) rfl
theorem q1026 : (Jvm.Cond.classLink "FigureKnee" (123 : Nat) "FigureKnee$Pair") ∈ lw_all := lw_g (lw_at lw_m4 185 rfl) rfl
theorem q1027 : (Jvm.Cond.methodLink "FigureKnee" (169 : Nat) ({ cls := "FigureKnee", name := "isMore", desc := "(I)Z" } : Jvm.MethodName)) ∈ lw_all := lw_g (lw_at lw_m4 186 rfl) rfl
theorem q1028 : (Jvm.Cond.privateMethod ({ cls := "FigureKnee", name := "isMore", desc := "(I)Z" } : Jvm.MethodName)) ∈ lw_tbl := lw_at lw_m4 187 rfl
theorem q1029 : (Jvm.Cond.instanceMethod ({ cls := "FigureKnee", name := "isMore", desc := "(I)Z" } : Jvm.MethodName)) ∈ lw_all := lw_g (lw_at lw_m4 188 rfl) rfl
theorem q1030 : (Jvm.Cond.code ({ cls := "FigureKnee", name := "isMore", desc := "(I)Z" } : Jvm.MethodName) prog_1_method_24_code (2 : Nat) (Option.some Jvm.ClassFile.FieldType.boolean)) ∈ lw_all := lw_g (lw_at lw_m4 189 rfl) rfl
theorem q1032 : (Jvm.Cond.instanceMethod ({ cls := "FigureKnee", name := "says", desc := "(II)I" } : Jvm.MethodName)) ∈ lw_all := lw_g (lw_at lw_m4 191 rfl) rfl
theorem q1033 : (Jvm.Cond.selects "FigureKnee" ({ cls := "FigureKnee", name := "says", desc := "(II)I" } : Jvm.MethodName) ({ cls := "FigureKnee", name := "says", desc := "(II)I" } : Jvm.MethodName)) ∈ lw_all := lw_g (lw_at lw_m4 192 rfl) rfl
theorem q1034 : (Jvm.Cond.code ({ cls := "FigureKnee", name := "says", desc := "(II)I" } : Jvm.MethodName) prog_1_method_27_code (4 : Nat) (Option.some Jvm.ClassFile.FieldType.int)) ∈ lw_all := lw_g (lw_at lw_m4 193 rfl) rfl
theorem q1035 : (Jvm.Cond.methodLink "FigureKnee" (176 : Nat) ({ cls := "FigureKnee", name := "whyAhead", desc := "(ZI)I" } : Jvm.MethodName)) ∈ lw_all := lw_g (lw_at lw_m4 194 rfl) rfl
theorem q1036 : (Jvm.Cond.privateMethod ({ cls := "FigureKnee", name := "whyAhead", desc := "(ZI)I" } : Jvm.MethodName)) ∈ lw_tbl := lw_at lw_m4 195 rfl
theorem q1037 : (Jvm.Cond.instanceMethod ({ cls := "FigureKnee", name := "whyAhead", desc := "(ZI)I" } : Jvm.MethodName)) ∈ lw_all := lw_g (lw_at lw_m4 196 rfl) rfl
theorem q1038 : (Jvm.Cond.code ({ cls := "FigureKnee", name := "whyAhead", desc := "(ZI)I" } : Jvm.MethodName) prog_1_method_26_code (3 : Nat) (Option.some Jvm.ClassFile.FieldType.int)) ∈ lw_all := lw_g (lw_at lw_m4 197 rfl) rfl
theorem q1039 : (Jvm.Cond.methodLink "FigureKnee" (172 : Nat) ({ cls := "FigureKnee", name := "why", desc := "(ZIII)I" } : Jvm.MethodName)) ∈ lw_all := lw_g (lw_at lw_m4 198 rfl) rfl
theorem q1040 : (Jvm.Cond.privateMethod ({ cls := "FigureKnee", name := "why", desc := "(ZIII)I" } : Jvm.MethodName)) ∈ lw_tbl := lw_at lw_m4 199 rfl
theorem q1041 : (Jvm.Cond.instanceMethod ({ cls := "FigureKnee", name := "why", desc := "(ZIII)I" } : Jvm.MethodName)) ∈ lw_all := lw_g (lw_at lw_m4 200 rfl) rfl
theorem q1042 : (Jvm.Cond.code ({ cls := "FigureKnee", name := "why", desc := "(ZIII)I" } : Jvm.MethodName) prog_1_method_20_code (5 : Nat) (Option.some Jvm.ClassFile.FieldType.int)) ∈ lw_all := lw_g (lw_at lw_m4 201 rfl) rfl
theorem q1043 : (Jvm.Cond.methodLink "FigureKnee" (180 : Nat) ({ cls := "FigureKnee", name := "tellsOn", desc := "(II)V" } : Jvm.MethodName)) ∈ lw_all := lw_g (lw_at lw_m4 202 rfl) rfl
theorem q1044 : (Jvm.Cond.privateMethod ({ cls := "FigureKnee", name := "tellsOn", desc := "(II)V" } : Jvm.MethodName)) ∈ lw_tbl := lw_at lw_m4 203 rfl
theorem q1045 : (Jvm.Cond.instanceMethod ({ cls := "FigureKnee", name := "tellsOn", desc := "(II)V" } : Jvm.MethodName)) ∈ lw_all := lw_g (lw_at lw_m4 204 rfl) rfl
theorem q1046 : (Jvm.Cond.code ({ cls := "FigureKnee", name := "tellsOn", desc := "(II)V" } : Jvm.MethodName) prog_1_method_23_code (3 : Nat) (Option.none : Option Jvm.ClassFile.FieldType)) ∈ lw_all := lw_g (lw_at lw_m4 205 rfl) rfl
theorem q1047 : (Jvm.Cond.methodLink "FigureKnee" (158 : Nat) ({ cls := "FigureKnee", name := "tells", desc := "(IIII)V" } : Jvm.MethodName)) ∈ lw_all := lw_g (lw_at lw_m4 206 rfl) rfl
theorem q1048 : (Jvm.Cond.privateMethod ({ cls := "FigureKnee", name := "tells", desc := "(IIII)V" } : Jvm.MethodName)) ∈ lw_tbl := lw_at lw_m4 207 rfl
theorem q1049 : (Jvm.Cond.instanceMethod ({ cls := "FigureKnee", name := "tells", desc := "(IIII)V" } : Jvm.MethodName)) ∈ lw_all := lw_g (lw_at lw_m4 208 rfl) rfl
theorem q1050 : (Jvm.Cond.code ({ cls := "FigureKnee", name := "tells", desc := "(IIII)V" } : Jvm.MethodName) prog_1_method_22_code (6 : Nat) (Option.none : Option Jvm.ClassFile.FieldType)) ∈ lw_all := lw_g (lw_at lw_m4 209 rfl) rfl
theorem q1051 : (Jvm.Cond.methodLink "FigureKnee" (148 : Nat) ({ cls := "FigureKnee", name := "then", desc := "(IIIIIZ)I" } : Jvm.MethodName)) ∈ lw_all := lw_g (lw_at lw_m4 210 rfl) rfl
theorem q1052 : (Jvm.Cond.privateMethod ({ cls := "FigureKnee", name := "then", desc := "(IIIIIZ)I" } : Jvm.MethodName)) ∈ lw_tbl := lw_at lw_m4 211 rfl
theorem q1053 : (Jvm.Cond.instanceMethod ({ cls := "FigureKnee", name := "then", desc := "(IIIIIZ)I" } : Jvm.MethodName)) ∈ lw_all := lw_g (lw_at lw_m4 212 rfl) rfl
theorem q1054 : (Jvm.Cond.code ({ cls := "FigureKnee", name := "then", desc := "(IIIIIZ)I" } : Jvm.MethodName) prog_1_method_21_code (8 : Nat) (Option.some Jvm.ClassFile.FieldType.int)) ∈ lw_all := lw_g (lw_at lw_m4 213 rfl) rfl
theorem q1055 : (Jvm.Cond.methodLink "FigureKnee" (136 : Nat) ({ cls := "FigureKnee$Law", name := "next", desc := "(III)I" } : Jvm.MethodName)) ∈ lw_all := lw_g (lw_at lw_m4 214 rfl) rfl
theorem q1084 : (Jvm.Cond.instanceMethod ({ cls := "FigureKnee", name := "saysAll", desc := "(II)I" } : Jvm.MethodName)) ∈ lw_all := lw_g (lw_at lw_m5 3 rfl) rfl
theorem q1085 : (Jvm.Cond.selects "FigureKnee" ({ cls := "FigureKnee", name := "saysAll", desc := "(II)I" } : Jvm.MethodName) ({ cls := "FigureKnee", name := "saysAll", desc := "(II)I" } : Jvm.MethodName)) ∈ lw_all := lw_g (lw_at lw_m5 4 rfl) rfl
theorem q1086 : (Jvm.Cond.code ({ cls := "FigureKnee", name := "saysAll", desc := "(II)I" } : Jvm.MethodName) prog_1_method_28_code (6 : Nat) (Option.some Jvm.ClassFile.FieldType.int)) ∈ lw_all := lw_g (lw_at lw_m5 5 rfl) rfl
theorem q1088 : (Jvm.Cond.instanceMethod ({ cls := "FigureKnee", name := "moreIn", desc := "(I)I" } : Jvm.MethodName)) ∈ lw_all := lw_g (lw_at lw_m5 7 rfl) rfl
theorem q1089 : (Jvm.Cond.selects "FigureKnee" ({ cls := "FigureKnee", name := "moreIn", desc := "(I)I" } : Jvm.MethodName) ({ cls := "FigureKnee", name := "moreIn", desc := "(I)I" } : Jvm.MethodName)) ∈ lw_all := lw_g (lw_at lw_m5 8 rfl) rfl
theorem q1090 : (Jvm.Cond.code ({ cls := "FigureKnee", name := "moreIn", desc := "(I)I" } : Jvm.MethodName) prog_1_method_29_code (3 : Nat) (Option.some Jvm.ClassFile.FieldType.int)) ∈ lw_all := lw_g (lw_at lw_m5 9 rfl) rfl
theorem q1092 : (Jvm.Cond.instanceMethod ({ cls := "FigureKnee", name := "moreTimes", desc := "(II)I" } : Jvm.MethodName)) ∈ lw_all := lw_g (lw_at lw_m5 11 rfl) rfl
theorem q1093 : (Jvm.Cond.selects "FigureKnee" ({ cls := "FigureKnee", name := "moreTimes", desc := "(II)I" } : Jvm.MethodName) ({ cls := "FigureKnee", name := "moreTimes", desc := "(II)I" } : Jvm.MethodName)) ∈ lw_all := lw_g (lw_at lw_m5 12 rfl) rfl
theorem q1094 : (Jvm.Cond.code ({ cls := "FigureKnee", name := "moreTimes", desc := "(II)I" } : Jvm.MethodName) prog_1_method_30_code (6 : Nat) (Option.some Jvm.ClassFile.FieldType.int)) ∈ lw_all := lw_g (lw_at lw_m5 13 rfl) rfl
theorem q1096 : (Jvm.Cond.instanceMethod ({ cls := "FigureKnee", name := "settles", desc := "(I)I" } : Jvm.MethodName)) ∈ lw_all := lw_g (lw_at lw_m5 15 rfl) rfl
theorem q1097 : (Jvm.Cond.selects "FigureKnee" ({ cls := "FigureKnee", name := "settles", desc := "(I)I" } : Jvm.MethodName) ({ cls := "FigureKnee", name := "settles", desc := "(I)I" } : Jvm.MethodName)) ∈ lw_all := lw_g (lw_at lw_m5 16 rfl) rfl
theorem q1098 : (Jvm.Cond.code ({ cls := "FigureKnee", name := "settles", desc := "(I)I" } : Jvm.MethodName) prog_1_method_33_code (2 : Nat) (Option.some Jvm.ClassFile.FieldType.int)) ∈ lw_all := lw_g (lw_at lw_m5 17 rfl) rfl
theorem q1099 : (Jvm.Cond.methodLink "FigureKnee" (199 : Nat) ({ cls := "FigureKnee", name := "rounds", desc := "(I)V" } : Jvm.MethodName)) ∈ lw_all := lw_g (lw_at lw_m5 18 rfl) rfl
theorem q1100 : (Jvm.Cond.privateMethod ({ cls := "FigureKnee", name := "rounds", desc := "(I)V" } : Jvm.MethodName)) ∈ lw_tbl := lw_at lw_m5 19 rfl
theorem q1101 : (Jvm.Cond.instanceMethod ({ cls := "FigureKnee", name := "rounds", desc := "(I)V" } : Jvm.MethodName)) ∈ lw_all := lw_g (lw_at lw_m5 20 rfl) rfl
theorem q1102 : (Jvm.Cond.code ({ cls := "FigureKnee", name := "rounds", desc := "(I)V" } : Jvm.MethodName) prog_1_method_32_code (6 : Nat) (Option.none : Option Jvm.ClassFile.FieldType)) ∈ lw_all := lw_g (lw_at lw_m5 21 rfl) rfl
theorem q1103 : (Jvm.Cond.methodLink "FigureKnee" (184 : Nat) ({ cls := "java/lang/Math", name := "max", desc := "(II)I" } : Jvm.MethodName)) ∈ lw_all := lw_g (lw_at lw_m5 22 rfl) rfl
theorem q1104 : (Jvm.Cond.methodLink "FigureKnee" (193 : Nat) ({ cls := "FigureKnee", name := "goesRound", desc := "(III)Z" } : Jvm.MethodName)) ∈ lw_all := lw_g (lw_at lw_m5 23 rfl) rfl
theorem q1105 : (Jvm.Cond.privateMethod ({ cls := "FigureKnee", name := "goesRound", desc := "(III)Z" } : Jvm.MethodName)) ∈ lw_tbl := lw_at lw_m5 24 rfl
theorem q1106 : (Jvm.Cond.instanceMethod ({ cls := "FigureKnee", name := "goesRound", desc := "(III)Z" } : Jvm.MethodName)) ∈ lw_all := lw_g (lw_at lw_m5 25 rfl) rfl
theorem q1107 : (Jvm.Cond.code ({ cls := "FigureKnee", name := "goesRound", desc := "(III)Z" } : Jvm.MethodName) prog_1_method_31_code (5 : Nat) (Option.some Jvm.ClassFile.FieldType.boolean)) ∈ lw_all := lw_g (lw_at lw_m5 26 rfl) rfl
theorem q1109 : (Jvm.Cond.instanceMethod ({ cls := "FigureKnee", name := "round", desc := "(I)I" } : Jvm.MethodName)) ∈ lw_all := lw_g (lw_at lw_m5 28 rfl) rfl
theorem q1110 : (Jvm.Cond.selects "FigureKnee" ({ cls := "FigureKnee", name := "round", desc := "(I)I" } : Jvm.MethodName) ({ cls := "FigureKnee", name := "round", desc := "(I)I" } : Jvm.MethodName)) ∈ lw_all := lw_g (lw_at lw_m5 29 rfl) rfl
theorem q1111 : (Jvm.Cond.code ({ cls := "FigureKnee", name := "round", desc := "(I)I" } : Jvm.MethodName) prog_1_method_34_code (2 : Nat) (Option.some Jvm.ClassFile.FieldType.int)) ∈ lw_all := lw_g (lw_at lw_m5 30 rfl) rfl
theorem q1113 : (Jvm.Cond.instanceMethod ({ cls := "FigureKnee", name := "saysLate", desc := "(II)I" } : Jvm.MethodName)) ∈ lw_all := lw_g (lw_at lw_m5 32 rfl) rfl
theorem q1114 : (Jvm.Cond.selects "FigureKnee" ({ cls := "FigureKnee", name := "saysLate", desc := "(II)I" } : Jvm.MethodName) ({ cls := "FigureKnee", name := "saysLate", desc := "(II)I" } : Jvm.MethodName)) ∈ lw_all := lw_g (lw_at lw_m5 33 rfl) rfl
theorem q1115 : (Jvm.Cond.code ({ cls := "FigureKnee", name := "saysLate", desc := "(II)I" } : Jvm.MethodName) prog_1_method_35_code (4 : Nat) (Option.some Jvm.ClassFile.FieldType.int)) ∈ lw_all := lw_g (lw_at lw_m5 34 rfl) rfl
theorem q1116 : (Jvm.Cond.constant "FigureKnee" (203 : Nat) (2000000000 : Int32)) ∈ lw_all := lw_g (lw_at lw_m5 35 rfl) rfl
theorem q1118 : (Jvm.Cond.instanceMethod ({ cls := "FigureKnee", name := "roundMost", desc := "(I)I" } : Jvm.MethodName)) ∈ lw_all := lw_g (lw_at lw_m5 37 rfl) rfl
theorem q1119 : (Jvm.Cond.selects "FigureKnee" ({ cls := "FigureKnee", name := "roundMost", desc := "(I)I" } : Jvm.MethodName) ({ cls := "FigureKnee", name := "roundMost", desc := "(I)I" } : Jvm.MethodName)) ∈ lw_all := lw_g (lw_at lw_m5 38 rfl) rfl
theorem q1120 : (Jvm.Cond.code ({ cls := "FigureKnee", name := "roundMost", desc := "(I)I" } : Jvm.MethodName) prog_1_method_36_code (4 : Nat) (Option.some Jvm.ClassFile.FieldType.int)) ∈ lw_all := lw_g (lw_at lw_m5 39 rfl) rfl
theorem q1122 : (Jvm.Cond.instanceMethod ({ cls := "FigureKnee", name := "roundLeast", desc := "(I)I" } : Jvm.MethodName)) ∈ lw_all := lw_g (lw_at lw_m5 41 rfl) rfl
theorem q1123 : (Jvm.Cond.selects "FigureKnee" ({ cls := "FigureKnee", name := "roundLeast", desc := "(I)I" } : Jvm.MethodName) ({ cls := "FigureKnee", name := "roundLeast", desc := "(I)I" } : Jvm.MethodName)) ∈ lw_all := lw_g (lw_at lw_m5 42 rfl) rfl
theorem q1124 : (Jvm.Cond.code ({ cls := "FigureKnee", name := "roundLeast", desc := "(I)I" } : Jvm.MethodName) prog_1_method_37_code (4 : Nat) (Option.some Jvm.ClassFile.FieldType.int)) ∈ lw_all := lw_g (lw_at lw_m5 43 rfl) rfl
theorem q1125 : (Jvm.Cond.methodLink "FigureKnee" (204 : Nat) ({ cls := "java/lang/Math", name := "min", desc := "(II)I" } : Jvm.MethodName)) ∈ lw_all := lw_g (lw_at lw_m5 44 rfl) rfl
theorem q1127 : (Jvm.Cond.instanceMethod ({ cls := "FigureKnee", name := "turnsAbout", desc := "(I)I" } : Jvm.MethodName)) ∈ lw_all := lw_g (lw_at lw_m5 46 rfl) rfl
theorem q1128 : (Jvm.Cond.selects "FigureKnee" ({ cls := "FigureKnee", name := "turnsAbout", desc := "(I)I" } : Jvm.MethodName) ({ cls := "FigureKnee", name := "turnsAbout", desc := "(I)I" } : Jvm.MethodName)) ∈ lw_all := lw_g (lw_at lw_m5 47 rfl) rfl
theorem q1129 : (Jvm.Cond.code ({ cls := "FigureKnee", name := "turnsAbout", desc := "(I)I" } : Jvm.MethodName) prog_1_method_38_code (4 : Nat) (Option.some Jvm.ClassFile.FieldType.int)) ∈ lw_all := lw_g (lw_at lw_m5 48 rfl) rfl
theorem q1131 : (Jvm.Cond.instanceMethod ({ cls := "FigureKnee", name := "alikeIn", desc := "(II)I" } : Jvm.MethodName)) ∈ lw_all := lw_g (lw_at lw_m5 50 rfl) rfl
theorem q1132 : (Jvm.Cond.selects "FigureKnee" ({ cls := "FigureKnee", name := "alikeIn", desc := "(II)I" } : Jvm.MethodName) ({ cls := "FigureKnee", name := "alikeIn", desc := "(II)I" } : Jvm.MethodName)) ∈ lw_all := lw_g (lw_at lw_m5 51 rfl) rfl
theorem q1133 : (Jvm.Cond.code ({ cls := "FigureKnee", name := "alikeIn", desc := "(II)I" } : Jvm.MethodName) prog_1_method_39_code (6 : Nat) (Option.some Jvm.ClassFile.FieldType.int)) ∈ lw_all := lw_g (lw_at lw_m5 52 rfl) rfl
theorem q1134 : (Jvm.Cond.methodLink "FigureKnee" (207 : Nat) ({ cls := "FigureKnee", name := "areTwo", desc := "(II)Z" } : Jvm.MethodName)) ∈ lw_all := lw_g (lw_at lw_m5 53 rfl) rfl
theorem q1135 : (Jvm.Cond.privateMethod ({ cls := "FigureKnee", name := "areTwo", desc := "(II)Z" } : Jvm.MethodName)) ∈ lw_tbl := lw_at lw_m5 54 rfl
theorem q1136 : (Jvm.Cond.instanceMethod ({ cls := "FigureKnee", name := "areTwo", desc := "(II)Z" } : Jvm.MethodName)) ∈ lw_all := lw_g (lw_at lw_m5 55 rfl) rfl
theorem q1137 : (Jvm.Cond.code ({ cls := "FigureKnee", name := "areTwo", desc := "(II)Z" } : Jvm.MethodName) prog_1_method_65_code (3 : Nat) (Option.some Jvm.ClassFile.FieldType.boolean)) ∈ lw_all := lw_g (lw_at lw_m5 56 rfl) rfl
theorem q1139 : (Jvm.Cond.instanceMethod ({ cls := "FigureKnee", name := "loudest", desc := "(I)I" } : Jvm.MethodName)) ∈ lw_all := lw_g (lw_at lw_m5 58 rfl) rfl
theorem q1140 : (Jvm.Cond.selects "FigureKnee" ({ cls := "FigureKnee", name := "loudest", desc := "(I)I" } : Jvm.MethodName) ({ cls := "FigureKnee", name := "loudest", desc := "(I)I" } : Jvm.MethodName)) ∈ lw_all := lw_g (lw_at lw_m5 59 rfl) rfl
theorem q1141 : (Jvm.Cond.code ({ cls := "FigureKnee", name := "loudest", desc := "(I)I" } : Jvm.MethodName) prog_1_method_40_code (6 : Nat) (Option.some Jvm.ClassFile.FieldType.int)) ∈ lw_all := lw_g (lw_at lw_m5 60 rfl) rfl
theorem q1143 : (Jvm.Cond.instanceMethod ({ cls := "FigureKnee", name := "overtakes", desc := "(II)I" } : Jvm.MethodName)) ∈ lw_all := lw_g (lw_at lw_m5 62 rfl) rfl
theorem q1144 : (Jvm.Cond.selects "FigureKnee" ({ cls := "FigureKnee", name := "overtakes", desc := "(II)I" } : Jvm.MethodName) ({ cls := "FigureKnee", name := "overtakes", desc := "(II)I" } : Jvm.MethodName)) ∈ lw_all := lw_g (lw_at lw_m5 63 rfl) rfl
theorem q1145 : (Jvm.Cond.code ({ cls := "FigureKnee", name := "overtakes", desc := "(II)I" } : Jvm.MethodName) prog_1_method_41_code (6 : Nat) (Option.some Jvm.ClassFile.FieldType.int)) ∈ lw_all := lw_g (lw_at lw_m5 64 rfl) rfl
theorem q1147 : (Jvm.Cond.instanceMethod ({ cls := "FigureKnee", name := "widest", desc := "(I)I" } : Jvm.MethodName)) ∈ lw_all := lw_g (lw_at lw_m5 66 rfl) rfl
theorem q1148 : (Jvm.Cond.selects "FigureKnee" ({ cls := "FigureKnee", name := "widest", desc := "(I)I" } : Jvm.MethodName) ({ cls := "FigureKnee", name := "widest", desc := "(I)I" } : Jvm.MethodName)) ∈ lw_all := lw_g (lw_at lw_m5 67 rfl) rfl
theorem q1149 : (Jvm.Cond.code ({ cls := "FigureKnee", name := "widest", desc := "(I)I" } : Jvm.MethodName) prog_1_method_43_code (8 : Nat) (Option.some Jvm.ClassFile.FieldType.int)) ∈ lw_all := lw_g (lw_at lw_m5 68 rfl) rfl
theorem q1150 : (Jvm.Cond.methodLink "FigureKnee" (211 : Nat) ({ cls := "FigureKnee", name := "saidIn", desc := "(II)I" } : Jvm.MethodName)) ∈ lw_all := lw_g (lw_at lw_m5 69 rfl) rfl
theorem q1151 : (Jvm.Cond.privateMethod ({ cls := "FigureKnee", name := "saidIn", desc := "(II)I" } : Jvm.MethodName)) ∈ lw_tbl := lw_at lw_m5 70 rfl
theorem q1152 : (Jvm.Cond.instanceMethod ({ cls := "FigureKnee", name := "saidIn", desc := "(II)I" } : Jvm.MethodName)) ∈ lw_all := lw_g (lw_at lw_m5 71 rfl) rfl
theorem q1153 : (Jvm.Cond.code ({ cls := "FigureKnee", name := "saidIn", desc := "(II)I" } : Jvm.MethodName) prog_1_method_42_code (3 : Nat) (Option.some Jvm.ClassFile.FieldType.int)) ∈ lw_all := lw_g (lw_at lw_m5 72 rfl) rfl
theorem q1154 : (Jvm.Cond.methodLink "FigureKnee" (214 : Nat) ({ cls := "java/lang/Math", name := "abs", desc := "(I)I" } : Jvm.MethodName)) ∈ lw_all := lw_g (lw_at lw_m5 73 rfl) rfl
theorem q1158 : (Jvm.Cond.instanceMethod ({ cls := "FigureKnee", name := "sumAll", desc := "(I)I" } : Jvm.MethodName)) ∈ lw_all := lw_g (lw_at lw_m5 77 rfl) rfl
theorem q1159 : (Jvm.Cond.selects "FigureKnee" ({ cls := "FigureKnee", name := "sumAll", desc := "(I)I" } : Jvm.MethodName) ({ cls := "FigureKnee", name := "sumAll", desc := "(I)I" } : Jvm.MethodName)) ∈ lw_all := lw_g (lw_at lw_m5 78 rfl) rfl
theorem q1160 : (Jvm.Cond.code ({ cls := "FigureKnee", name := "sumAll", desc := "(I)I" } : Jvm.MethodName) prog_1_method_44_code (5 : Nat) (Option.some Jvm.ClassFile.FieldType.int)) ∈ lw_all := lw_g (lw_at lw_m5 79 rfl) rfl
theorem q1162 : (Jvm.Cond.instanceMethod ({ cls := "FigureKnee", name := "masters", desc := "(I)I" } : Jvm.MethodName)) ∈ lw_all := lw_g (lw_at lw_m5 81 rfl) rfl
theorem q1163 : (Jvm.Cond.selects "FigureKnee" ({ cls := "FigureKnee", name := "masters", desc := "(I)I" } : Jvm.MethodName) ({ cls := "FigureKnee", name := "masters", desc := "(I)I" } : Jvm.MethodName)) ∈ lw_all := lw_g (lw_at lw_m5 82 rfl) rfl
theorem q1164 : (Jvm.Cond.code ({ cls := "FigureKnee", name := "masters", desc := "(I)I" } : Jvm.MethodName) prog_1_method_46_code (3 : Nat) (Option.some Jvm.ClassFile.FieldType.int)) ∈ lw_all := lw_g (lw_at lw_m5 83 rfl) rfl
theorem q1165 : (Jvm.Cond.methodLink "FigureKnee" (217 : Nat) ({ cls := "FigureKnee", name := "mastersIn", desc := "(I)I" } : Jvm.MethodName)) ∈ lw_all := lw_g (lw_at lw_m5 84 rfl) rfl
theorem q1166 : (Jvm.Cond.privateMethod ({ cls := "FigureKnee", name := "mastersIn", desc := "(I)I" } : Jvm.MethodName)) ∈ lw_tbl := lw_at lw_m5 85 rfl
theorem q1167 : (Jvm.Cond.instanceMethod ({ cls := "FigureKnee", name := "mastersIn", desc := "(I)I" } : Jvm.MethodName)) ∈ lw_all := lw_g (lw_at lw_m5 86 rfl) rfl
theorem q1168 : (Jvm.Cond.code ({ cls := "FigureKnee", name := "mastersIn", desc := "(I)I" } : Jvm.MethodName) prog_1_method_45_code (4 : Nat) (Option.some Jvm.ClassFile.FieldType.int)) ∈ lw_all := lw_g (lw_at lw_m5 87 rfl) rfl
theorem q1170 : (Jvm.Cond.instanceMethod ({ cls := "FigureKnee", name := "everyFor", desc := "(II)I" } : Jvm.MethodName)) ∈ lw_all := lw_g (lw_at lw_m5 89 rfl) rfl
theorem q1171 : (Jvm.Cond.selects "FigureKnee" ({ cls := "FigureKnee", name := "everyFor", desc := "(II)I" } : Jvm.MethodName) ({ cls := "FigureKnee", name := "everyFor", desc := "(II)I" } : Jvm.MethodName)) ∈ lw_all := lw_g (lw_at lw_m5 90 rfl) rfl
theorem q1172 : (Jvm.Cond.code ({ cls := "FigureKnee", name := "everyFor", desc := "(II)I" } : Jvm.MethodName) prog_1_method_48_code (4 : Nat) (Option.some Jvm.ClassFile.FieldType.int)) ∈ lw_all := lw_g (lw_at lw_m5 91 rfl) rfl
theorem q1173 : (Jvm.Cond.methodLink "FigureKnee" (223 : Nat) ({ cls := "FigureKnee", name := "bestEvery", desc := "(II)I" } : Jvm.MethodName)) ∈ lw_all := lw_g (lw_at lw_m5 92 rfl) rfl
theorem q1174 : (Jvm.Cond.privateMethod ({ cls := "FigureKnee", name := "bestEvery", desc := "(II)I" } : Jvm.MethodName)) ∈ lw_tbl := lw_at lw_m5 93 rfl
theorem q1175 : (Jvm.Cond.instanceMethod ({ cls := "FigureKnee", name := "bestEvery", desc := "(II)I" } : Jvm.MethodName)) ∈ lw_all := lw_g (lw_at lw_m5 94 rfl) rfl
theorem q1176 : (Jvm.Cond.code ({ cls := "FigureKnee", name := "bestEvery", desc := "(II)I" } : Jvm.MethodName) prog_1_method_47_code (5 : Nat) (Option.some Jvm.ClassFile.FieldType.int)) ∈ lw_all := lw_g (lw_at lw_m5 95 rfl) rfl
theorem q1178 : (Jvm.Cond.instanceMethod ({ cls := "FigureKnee", name := "everySays", desc := "(II)I" } : Jvm.MethodName)) ∈ lw_all := lw_g (lw_at lw_m5 97 rfl) rfl
theorem q1179 : (Jvm.Cond.selects "FigureKnee" ({ cls := "FigureKnee", name := "everySays", desc := "(II)I" } : Jvm.MethodName) ({ cls := "FigureKnee", name := "everySays", desc := "(II)I" } : Jvm.MethodName)) ∈ lw_all := lw_g (lw_at lw_m5 98 rfl) rfl
theorem q1180 : (Jvm.Cond.code ({ cls := "FigureKnee", name := "everySays", desc := "(II)I" } : Jvm.MethodName) prog_1_method_49_code (4 : Nat) (Option.some Jvm.ClassFile.FieldType.int)) ∈ lw_all := lw_g (lw_at lw_m5 99 rfl) rfl
theorem q1182 : (Jvm.Cond.instanceMethod ({ cls := "FigureKnee", name := "everyNever", desc := "(I)I" } : Jvm.MethodName)) ∈ lw_all := lw_g (lw_at lw_m5 101 rfl) rfl
theorem q1183 : (Jvm.Cond.selects "FigureKnee" ({ cls := "FigureKnee", name := "everyNever", desc := "(I)I" } : Jvm.MethodName) ({ cls := "FigureKnee", name := "everyNever", desc := "(I)I" } : Jvm.MethodName)) ∈ lw_all := lw_g (lw_at lw_m5 102 rfl) rfl
theorem q1184 : (Jvm.Cond.code ({ cls := "FigureKnee", name := "everyNever", desc := "(I)I" } : Jvm.MethodName) prog_1_method_50_code (5 : Nat) (Option.some Jvm.ClassFile.FieldType.int)) ∈ lw_all := lw_g (lw_at lw_m5 103 rfl) rfl
theorem q1186 : (Jvm.Cond.instanceMethod ({ cls := "FigureKnee", name := "stepFor", desc := "(II)I" } : Jvm.MethodName)) ∈ lw_all := lw_g (lw_at lw_m5 105 rfl) rfl
theorem q1187 : (Jvm.Cond.selects "FigureKnee" ({ cls := "FigureKnee", name := "stepFor", desc := "(II)I" } : Jvm.MethodName) ({ cls := "FigureKnee", name := "stepFor", desc := "(II)I" } : Jvm.MethodName)) ∈ lw_all := lw_g (lw_at lw_m5 106 rfl) rfl
theorem q1188 : (Jvm.Cond.code ({ cls := "FigureKnee", name := "stepFor", desc := "(II)I" } : Jvm.MethodName) prog_1_method_51_code (5 : Nat) (Option.some Jvm.ClassFile.FieldType.int)) ∈ lw_all := lw_g (lw_at lw_m5 107 rfl) rfl
theorem q1190 : (Jvm.Cond.instanceMethod ({ cls := "FigureKnee", name := "fits", desc := "()I" } : Jvm.MethodName)) ∈ lw_all := lw_g (lw_at lw_m5 109 rfl) rfl
theorem q1191 : (Jvm.Cond.selects "FigureKnee" ({ cls := "FigureKnee", name := "fits", desc := "()I" } : Jvm.MethodName) ({ cls := "FigureKnee", name := "fits", desc := "()I" } : Jvm.MethodName)) ∈ lw_all := lw_g (lw_at lw_m5 110 rfl) rfl
theorem q1192 : (Jvm.Cond.code ({ cls := "FigureKnee", name := "fits", desc := "()I" } : Jvm.MethodName) prog_1_method_56_code (1 : Nat) (Option.some Jvm.ClassFile.FieldType.int)) ∈ lw_all := lw_g (lw_at lw_m5 111 rfl) rfl
theorem q1193 : (Jvm.Cond.methodLink "FigureKnee" (272 : Nat) ({ cls := "FigureKnee", name := "fitting", desc := "(I)I" } : Jvm.MethodName)) ∈ lw_all := lw_g (lw_at lw_m5 112 rfl) rfl
theorem q1194 : (Jvm.Cond.privateMethod ({ cls := "FigureKnee", name := "fitting", desc := "(I)I" } : Jvm.MethodName)) ∈ lw_tbl := lw_at lw_m5 113 rfl
theorem q1195 : (Jvm.Cond.instanceMethod ({ cls := "FigureKnee", name := "fitting", desc := "(I)I" } : Jvm.MethodName)) ∈ lw_all := lw_g (lw_at lw_m5 114 rfl) rfl
theorem q1196 : (Jvm.Cond.code ({ cls := "FigureKnee", name := "fitting", desc := "(I)I" } : Jvm.MethodName) prog_1_method_55_code (5 : Nat) (Option.some Jvm.ClassFile.FieldType.int)) ∈ lw_all := lw_g (lw_at lw_m5 115 rfl) rfl
theorem q1197 : (Jvm.Cond.methodLink "FigureKnee" (269 : Nat) ({ cls := "FigureKnee", name := "wrongHeard", desc := "(I)I" } : Jvm.MethodName)) ∈ lw_all := lw_g (lw_at lw_m5 116 rfl) rfl
theorem q1198 : (Jvm.Cond.privateMethod ({ cls := "FigureKnee", name := "wrongHeard", desc := "(I)I" } : Jvm.MethodName)) ∈ lw_tbl := lw_at lw_m5 117 rfl
theorem q1199 : (Jvm.Cond.instanceMethod ({ cls := "FigureKnee", name := "wrongHeard", desc := "(I)I" } : Jvm.MethodName)) ∈ lw_all := lw_g (lw_at lw_m5 118 rfl) rfl
theorem q1200 : (Jvm.Cond.code ({ cls := "FigureKnee", name := "wrongHeard", desc := "(I)I" } : Jvm.MethodName) prog_1_method_54_code (4 : Nat) (Option.some Jvm.ClassFile.FieldType.int)) ∈ lw_all := lw_g (lw_at lw_m5 119 rfl) rfl
theorem q1201 : (Jvm.Cond.classLink "FigureKnee" (248 : Nat) "FigureKnee$Heard") ∈ lw_all := lw_g (lw_at lw_m5 120 rfl) rfl
theorem q1202 : (Jvm.Cond.methodLink "FigureKnee" (256 : Nat) ({ cls := "FigureKnee", name := "saidAt", desc := "(III)I" } : Jvm.MethodName)) ∈ lw_all := lw_g (lw_at lw_m5 121 rfl) rfl
theorem q1203 : (Jvm.Cond.privateMethod ({ cls := "FigureKnee", name := "saidAt", desc := "(III)I" } : Jvm.MethodName)) ∈ lw_tbl := lw_at lw_m5 122 rfl
theorem q1204 : (Jvm.Cond.instanceMethod ({ cls := "FigureKnee", name := "saidAt", desc := "(III)I" } : Jvm.MethodName)) ∈ lw_all := lw_g (lw_at lw_m5 123 rfl) rfl
theorem q1205 : (Jvm.Cond.code ({ cls := "FigureKnee", name := "saidAt", desc := "(III)I" } : Jvm.MethodName) prog_1_method_53_code (6 : Nat) (Option.some Jvm.ClassFile.FieldType.int)) ∈ lw_all := lw_g (lw_at lw_m5 124 rfl) rfl
theorem q1206 : (Jvm.Cond.methodLink "FigureKnee" (242 : Nat) ({ cls := "FigureKnee", name := "stepBy", desc := "(II)I" } : Jvm.MethodName)) ∈ lw_all := lw_g (lw_at lw_m5 125 rfl) rfl
theorem q1207 : (Jvm.Cond.privateMethod ({ cls := "FigureKnee", name := "stepBy", desc := "(II)I" } : Jvm.MethodName)) ∈ lw_tbl := lw_at lw_m5 126 rfl
theorem q1208 : (Jvm.Cond.instanceMethod ({ cls := "FigureKnee", name := "stepBy", desc := "(II)I" } : Jvm.MethodName)) ∈ lw_all := lw_g (lw_at lw_m5 127 rfl) rfl
theorem q1209 : (Jvm.Cond.code ({ cls := "FigureKnee", name := "stepBy", desc := "(II)I" } : Jvm.MethodName) prog_1_method_52_code (4 : Nat) (Option.some Jvm.ClassFile.FieldType.int)) ∈ lw_all := lw_g (lw_at lw_m5 128 rfl) rfl
theorem q1210 : (Jvm.Cond.methodLink "FigureKnee" (232 : Nat) ({ cls := "FigureKnee", name := "has", desc := "(II)Z" } : Jvm.MethodName)) ∈ lw_all := lw_g (lw_at lw_m5 129 rfl) rfl
theorem q1211 : (Jvm.Cond.static ({ cls := "FigureKnee", name := "has", desc := "(II)Z" } : Jvm.MethodName)) ∈ lw_all := lw_g (lw_at lw_m5 130 rfl) rfl
theorem q1212 : (Jvm.Cond.code ({ cls := "FigureKnee", name := "has", desc := "(II)Z" } : Jvm.MethodName) prog_1_method_3_code (2 : Nat) (Option.some Jvm.ClassFile.FieldType.boolean)) ∈ lw_all := lw_g (lw_at lw_m5 131 rfl) rfl
theorem q1214 : (Jvm.Cond.instanceMethod ({ cls := "FigureKnee", name := "fitAt", desc := "(I)I" } : Jvm.MethodName)) ∈ lw_all := lw_g (lw_at lw_m5 133 rfl) rfl
theorem q1215 : (Jvm.Cond.selects "FigureKnee" ({ cls := "FigureKnee", name := "fitAt", desc := "(I)I" } : Jvm.MethodName) ({ cls := "FigureKnee", name := "fitAt", desc := "(I)I" } : Jvm.MethodName)) ∈ lw_all := lw_g (lw_at lw_m5 134 rfl) rfl
theorem q1216 : (Jvm.Cond.code ({ cls := "FigureKnee", name := "fitAt", desc := "(I)I" } : Jvm.MethodName) prog_1_method_57_code (3 : Nat) (Option.some Jvm.ClassFile.FieldType.int)) ∈ lw_all := lw_g (lw_at lw_m5 135 rfl) rfl
theorem q1218 : (Jvm.Cond.instanceMethod ({ cls := "FigureKnee", name := "could", desc := "()I" } : Jvm.MethodName)) ∈ lw_all := lw_g (lw_at lw_m5 137 rfl) rfl
theorem q1219 : (Jvm.Cond.selects "FigureKnee" ({ cls := "FigureKnee", name := "could", desc := "()I" } : Jvm.MethodName) ({ cls := "FigureKnee", name := "could", desc := "()I" } : Jvm.MethodName)) ∈ lw_all := lw_g (lw_at lw_m5 138 rfl) rfl
theorem q1220 : (Jvm.Cond.code ({ cls := "FigureKnee", name := "could", desc := "()I" } : Jvm.MethodName) prog_1_method_58_code (1 : Nat) (Option.some Jvm.ClassFile.FieldType.int)) ∈ lw_all := lw_g (lw_at lw_m5 139 rfl) rfl
theorem q1222 : (Jvm.Cond.instanceMethod ({ cls := "FigureKnee", name := "surely", desc := "()I" } : Jvm.MethodName)) ∈ lw_all := lw_g (lw_at lw_m5 141 rfl) rfl
theorem q1223 : (Jvm.Cond.selects "FigureKnee" ({ cls := "FigureKnee", name := "surely", desc := "()I" } : Jvm.MethodName) ({ cls := "FigureKnee", name := "surely", desc := "()I" } : Jvm.MethodName)) ∈ lw_all := lw_g (lw_at lw_m5 142 rfl) rfl
theorem q1224 : (Jvm.Cond.code ({ cls := "FigureKnee", name := "surely", desc := "()I" } : Jvm.MethodName) prog_1_method_59_code (1 : Nat) (Option.some Jvm.ClassFile.FieldType.int)) ∈ lw_all := lw_g (lw_at lw_m5 143 rfl) rfl
theorem q1226 : (Jvm.Cond.instanceMethod ({ cls := "FigureKnee", name := "ask", desc := "()I" } : Jvm.MethodName)) ∈ lw_all := lw_g (lw_at lw_m5 145 rfl) rfl
theorem q1227 : (Jvm.Cond.selects "FigureKnee" ({ cls := "FigureKnee", name := "ask", desc := "()I" } : Jvm.MethodName) ({ cls := "FigureKnee", name := "ask", desc := "()I" } : Jvm.MethodName)) ∈ lw_all := lw_g (lw_at lw_m5 146 rfl) rfl
theorem q1228 : (Jvm.Cond.code ({ cls := "FigureKnee", name := "ask", desc := "()I" } : Jvm.MethodName) prog_1_method_61_code (1 : Nat) (Option.some Jvm.ClassFile.FieldType.int)) ∈ lw_all := lw_g (lw_at lw_m5 147 rfl) rfl
theorem q1229 : (Jvm.Cond.methodLink "FigureKnee" (278 : Nat) ({ cls := "FigureKnee", name := "asks", desc := "()I" } : Jvm.MethodName)) ∈ lw_all := lw_g (lw_at lw_m5 148 rfl) rfl
theorem q1230 : (Jvm.Cond.privateMethod ({ cls := "FigureKnee", name := "asks", desc := "()I" } : Jvm.MethodName)) ∈ lw_tbl := lw_at lw_m5 149 rfl
theorem q1231 : (Jvm.Cond.instanceMethod ({ cls := "FigureKnee", name := "asks", desc := "()I" } : Jvm.MethodName)) ∈ lw_all := lw_g (lw_at lw_m5 150 rfl) rfl
theorem q1232 : (Jvm.Cond.code ({ cls := "FigureKnee", name := "asks", desc := "()I" } : Jvm.MethodName) prog_1_method_60_code (4 : Nat) (Option.some Jvm.ClassFile.FieldType.int)) ∈ lw_all := lw_g (lw_at lw_m5 151 rfl) rfl
theorem q1234 : (Jvm.Cond.instanceMethod ({ cls := "FigureKnee", name := "askLeaves", desc := "()I" } : Jvm.MethodName)) ∈ lw_all := lw_g (lw_at lw_m5 153 rfl) rfl
theorem q1235 : (Jvm.Cond.selects "FigureKnee" ({ cls := "FigureKnee", name := "askLeaves", desc := "()I" } : Jvm.MethodName) ({ cls := "FigureKnee", name := "askLeaves", desc := "()I" } : Jvm.MethodName)) ∈ lw_all := lw_g (lw_at lw_m5 154 rfl) rfl
theorem q1236 : (Jvm.Cond.code ({ cls := "FigureKnee", name := "askLeaves", desc := "()I" } : Jvm.MethodName) prog_1_method_62_code (1 : Nat) (Option.some Jvm.ClassFile.FieldType.int)) ∈ lw_all := lw_g (lw_at lw_m5 155 rfl) rfl
theorem q1238 : (Jvm.Cond.instanceMethod ({ cls := "FigureKnee", name := "judge", desc := "()I" } : Jvm.MethodName)) ∈ lw_all := lw_g (lw_at lw_m5 157 rfl) rfl
theorem q1239 : (Jvm.Cond.selects "FigureKnee" ({ cls := "FigureKnee", name := "judge", desc := "()I" } : Jvm.MethodName) ({ cls := "FigureKnee", name := "judge", desc := "()I" } : Jvm.MethodName)) ∈ lw_all := lw_g (lw_at lw_m5 158 rfl) rfl
theorem q1240 : (Jvm.Cond.code ({ cls := "FigureKnee", name := "judge", desc := "()I" } : Jvm.MethodName) prog_1_method_63_code (1 : Nat) (Option.some Jvm.ClassFile.FieldType.int)) ∈ lw_all := lw_g (lw_at lw_m5 159 rfl) rfl
theorem q1242 : (Jvm.Cond.instanceMethod ({ cls := "FigureKnee", name := "third", desc := "(I)I" } : Jvm.MethodName)) ∈ lw_all := lw_g (lw_at lw_m5 161 rfl) rfl
theorem q1243 : (Jvm.Cond.selects "FigureKnee" ({ cls := "FigureKnee", name := "third", desc := "(I)I" } : Jvm.MethodName) ({ cls := "FigureKnee", name := "third", desc := "(I)I" } : Jvm.MethodName)) ∈ lw_all := lw_g (lw_at lw_m5 162 rfl) rfl
theorem q1244 : (Jvm.Cond.code ({ cls := "FigureKnee", name := "third", desc := "(I)I" } : Jvm.MethodName) prog_1_method_64_code (5 : Nat) (Option.some Jvm.ClassFile.FieldType.int)) ∈ lw_all := lw_g (lw_at lw_m5 163 rfl) rfl
theorem q1246 : (Jvm.Cond.instanceMethod ({ cls := "FigureKnee", name := "owes", desc := "(II)I" } : Jvm.MethodName)) ∈ lw_all := lw_g (lw_at lw_m5 165 rfl) rfl
theorem q1247 : (Jvm.Cond.selects "FigureKnee" ({ cls := "FigureKnee", name := "owes", desc := "(II)I" } : Jvm.MethodName) ({ cls := "FigureKnee", name := "owes", desc := "(II)I" } : Jvm.MethodName)) ∈ lw_all := lw_g (lw_at lw_m5 166 rfl) rfl
theorem q1248 : (Jvm.Cond.code ({ cls := "FigureKnee", name := "owes", desc := "(II)I" } : Jvm.MethodName) prog_1_method_68_code (3 : Nat) (Option.some Jvm.ClassFile.FieldType.int)) ∈ lw_all := lw_g (lw_at lw_m5 167 rfl) rfl
theorem q1249 : (Jvm.Cond.methodLink "FigureKnee" (284 : Nat) ({ cls := "FigureKnee", name := "owed", desc := "(II)I" } : Jvm.MethodName)) ∈ lw_all := lw_g (lw_at lw_m5 168 rfl) rfl
theorem q1250 : (Jvm.Cond.privateMethod ({ cls := "FigureKnee", name := "owed", desc := "(II)I" } : Jvm.MethodName)) ∈ lw_tbl := lw_at lw_m5 169 rfl
theorem q1251 : (Jvm.Cond.instanceMethod ({ cls := "FigureKnee", name := "owed", desc := "(II)I" } : Jvm.MethodName)) ∈ lw_all := lw_g (lw_at lw_m5 170 rfl) rfl
theorem q1252 : (Jvm.Cond.code ({ cls := "FigureKnee", name := "owed", desc := "(II)I" } : Jvm.MethodName) prog_1_method_66_code (3 : Nat) (Option.some Jvm.ClassFile.FieldType.int)) ∈ lw_all := lw_g (lw_at lw_m5 171 rfl) rfl
theorem q1254 : (Jvm.Cond.instanceMethod ({ cls := "FigureKnee", name := "net", desc := "(I)I" } : Jvm.MethodName)) ∈ lw_all := lw_g (lw_at lw_m5 173 rfl) rfl
theorem q1255 : (Jvm.Cond.selects "FigureKnee" ({ cls := "FigureKnee", name := "net", desc := "(I)I" } : Jvm.MethodName) ({ cls := "FigureKnee", name := "net", desc := "(I)I" } : Jvm.MethodName)) ∈ lw_all := lw_g (lw_at lw_m5 174 rfl) rfl
theorem q1256 : (Jvm.Cond.code ({ cls := "FigureKnee", name := "net", desc := "(I)I" } : Jvm.MethodName) prog_1_method_69_code (2 : Nat) (Option.some Jvm.ClassFile.FieldType.int)) ∈ lw_all := lw_g (lw_at lw_m5 175 rfl) rfl
theorem q1257 : (Jvm.Cond.methodLink "FigureKnee" (287 : Nat) ({ cls := "FigureKnee", name := "netOf", desc := "(I)I" } : Jvm.MethodName)) ∈ lw_all := lw_g (lw_at lw_m5 176 rfl) rfl
theorem q1258 : (Jvm.Cond.privateMethod ({ cls := "FigureKnee", name := "netOf", desc := "(I)I" } : Jvm.MethodName)) ∈ lw_tbl := lw_at lw_m5 177 rfl
theorem q1259 : (Jvm.Cond.instanceMethod ({ cls := "FigureKnee", name := "netOf", desc := "(I)I" } : Jvm.MethodName)) ∈ lw_all := lw_g (lw_at lw_m5 178 rfl) rfl
theorem q1260 : (Jvm.Cond.code ({ cls := "FigureKnee", name := "netOf", desc := "(I)I" } : Jvm.MethodName) prog_1_method_67_code (4 : Nat) (Option.some Jvm.ClassFile.FieldType.int)) ∈ lw_all := lw_g (lw_at lw_m5 179 rfl) rfl
theorem q1261 : (Jvm.Cond.constant "FigureKnee" (290 : Nat) (-1000000 : Int32)) ∈ lw_all := lw_g (lw_at lw_m5 180 rfl) rfl
theorem q1262 : (Jvm.Cond.methodLink "FigureKnee" (291 : Nat) ({ cls := "FigureKnee", name := "refusedBy", desc := "(II)I" } : Jvm.MethodName)) ∈ lw_all := lw_g (lw_at lw_m5 181 rfl) rfl
theorem q1263 : (Jvm.Cond.privateMethod ({ cls := "FigureKnee", name := "refusedBy", desc := "(II)I" } : Jvm.MethodName)) ∈ lw_tbl := lw_at lw_m5 182 rfl
theorem q1264 : (Jvm.Cond.instanceMethod ({ cls := "FigureKnee", name := "refusedBy", desc := "(II)I" } : Jvm.MethodName)) ∈ lw_all := lw_g (lw_at lw_m5 183 rfl) rfl
theorem q1265 : (Jvm.Cond.code ({ cls := "FigureKnee", name := "refusedBy", desc := "(II)I" } : Jvm.MethodName) prog_1_method_8_code (3 : Nat) (Option.some Jvm.ClassFile.FieldType.int)) ∈ lw_all := lw_g (lw_at lw_m5 184 rfl) rfl
theorem q1267 : (Jvm.Cond.instanceMethod ({ cls := "FigureKnee", name := "due", desc := "()I" } : Jvm.MethodName)) ∈ lw_all := lw_g (lw_at lw_m5 186 rfl) rfl
theorem q1268 : (Jvm.Cond.selects "FigureKnee" ({ cls := "FigureKnee", name := "due", desc := "()I" } : Jvm.MethodName) ({ cls := "FigureKnee", name := "due", desc := "()I" } : Jvm.MethodName)) ∈ lw_all := lw_g (lw_at lw_m5 187 rfl) rfl
theorem q1269 : (Jvm.Cond.code ({ cls := "FigureKnee", name := "due", desc := "()I" } : Jvm.MethodName) prog_1_method_70_code (3 : Nat) (Option.some Jvm.ClassFile.FieldType.int)) ∈ lw_all := lw_g (lw_at lw_m5 188 rfl) rfl
theorem q1271 : (Jvm.Cond.instanceMethod ({ cls := "FigureKnee", name := "creditor", desc := "()I" } : Jvm.MethodName)) ∈ lw_all := lw_g (lw_at lw_m5 190 rfl) rfl
theorem q1272 : (Jvm.Cond.selects "FigureKnee" ({ cls := "FigureKnee", name := "creditor", desc := "()I" } : Jvm.MethodName) ({ cls := "FigureKnee", name := "creditor", desc := "()I" } : Jvm.MethodName)) ∈ lw_all := lw_g (lw_at lw_m5 191 rfl) rfl
theorem q1273 : (Jvm.Cond.code ({ cls := "FigureKnee", name := "creditor", desc := "()I" } : Jvm.MethodName) prog_1_method_71_code (3 : Nat) (Option.some Jvm.ClassFile.FieldType.int)) ∈ lw_all := lw_g (lw_at lw_m5 192 rfl) rfl
theorem q1275 : (Jvm.Cond.instanceMethod ({ cls := "FigureKnee", name := "payments", desc := "()I" } : Jvm.MethodName)) ∈ lw_all := lw_g (lw_at lw_m5 194 rfl) rfl
theorem q1276 : (Jvm.Cond.selects "FigureKnee" ({ cls := "FigureKnee", name := "payments", desc := "()I" } : Jvm.MethodName) ({ cls := "FigureKnee", name := "payments", desc := "()I" } : Jvm.MethodName)) ∈ lw_all := lw_g (lw_at lw_m5 195 rfl) rfl
theorem q1277 : (Jvm.Cond.code ({ cls := "FigureKnee", name := "payments", desc := "()I" } : Jvm.MethodName) prog_1_method_72_code (5 : Nat) (Option.some Jvm.ClassFile.FieldType.int)) ∈ lw_all := lw_g (lw_at lw_m5 196 rfl) rfl
theorem q1278 : (Jvm.Cond.methodLink "FigureKnee" (294 : Nat) ({ cls := "FigureKnee", name := "bits", desc := "(I)I" } : Jvm.MethodName)) ∈ lw_all := lw_g (lw_at lw_m5 197 rfl) rfl
theorem q1279 : (Jvm.Cond.static ({ cls := "FigureKnee", name := "bits", desc := "(I)I" } : Jvm.MethodName)) ∈ lw_all := lw_g (lw_at lw_m5 198 rfl) rfl
theorem q1280 : (Jvm.Cond.code ({ cls := "FigureKnee", name := "bits", desc := "(I)I" } : Jvm.MethodName) prog_1_method_4_code (3 : Nat) (Option.some Jvm.ClassFile.FieldType.int)) ∈ lw_all := lw_g (lw_at lw_m5 199 rfl) rfl
theorem q1282 : (Jvm.Cond.instanceMethod ({ cls := "FigureKnee", name := "ring", desc := "(I)I" } : Jvm.MethodName)) ∈ lw_all := lw_g (lw_at lw_m5 201 rfl) rfl
theorem q1283 : (Jvm.Cond.selects "FigureKnee" ({ cls := "FigureKnee", name := "ring", desc := "(I)I" } : Jvm.MethodName) ({ cls := "FigureKnee", name := "ring", desc := "(I)I" } : Jvm.MethodName)) ∈ lw_all := lw_g (lw_at lw_m5 202 rfl) rfl
theorem q1284 : (Jvm.Cond.code ({ cls := "FigureKnee", name := "ring", desc := "(I)I" } : Jvm.MethodName) prog_1_method_75_code (2 : Nat) (Option.some Jvm.ClassFile.FieldType.int)) ∈ lw_all := lw_g (lw_at lw_m5 203 rfl) rfl
theorem q1285 : (Jvm.Cond.methodLink "FigureKnee" (300 : Nat) ({ cls := "FigureKnee", name := "debtsTo", desc := "(III)I" } : Jvm.MethodName)) ∈ lw_all := lw_g (lw_at lw_m5 204 rfl) rfl
theorem q1286 : (Jvm.Cond.privateMethod ({ cls := "FigureKnee", name := "debtsTo", desc := "(III)I" } : Jvm.MethodName)) ∈ lw_tbl := lw_at lw_m5 205 rfl
theorem q1287 : (Jvm.Cond.instanceMethod ({ cls := "FigureKnee", name := "debtsTo", desc := "(III)I" } : Jvm.MethodName)) ∈ lw_all := lw_g (lw_at lw_m5 206 rfl) rfl
theorem q1288 : (Jvm.Cond.code ({ cls := "FigureKnee", name := "debtsTo", desc := "(III)I" } : Jvm.MethodName) prog_1_method_74_code (8 : Nat) (Option.some Jvm.ClassFile.FieldType.int)) ∈ lw_all := lw_g (lw_at lw_m5 207 rfl) rfl
theorem q1289 : (Jvm.Cond.methodLink "FigureKnee" (297 : Nat) ({ cls := "FigureKnee", name := "owedBy", desc := "(I)I" } : Jvm.MethodName)) ∈ lw_all := lw_g (lw_at lw_m5 208 rfl) rfl
theorem q1290 : (Jvm.Cond.privateMethod ({ cls := "FigureKnee", name := "owedBy", desc := "(I)I" } : Jvm.MethodName)) ∈ lw_tbl := lw_at lw_m5 209 rfl
theorem q1291 : (Jvm.Cond.instanceMethod ({ cls := "FigureKnee", name := "owedBy", desc := "(I)I" } : Jvm.MethodName)) ∈ lw_all := lw_g (lw_at lw_m5 210 rfl) rfl
theorem q1292 : (Jvm.Cond.code ({ cls := "FigureKnee", name := "owedBy", desc := "(I)I" } : Jvm.MethodName) prog_1_method_73_code (4 : Nat) (Option.some Jvm.ClassFile.FieldType.int)) ∈ lw_all := lw_g (lw_at lw_m5 211 rfl) rfl
theorem q1294 : (Jvm.Cond.instanceMethod ({ cls := "FigureKnee", name := "ringAt", desc := "(II)I" } : Jvm.MethodName)) ∈ lw_all := lw_g (lw_at lw_m5 213 rfl) rfl
theorem q1295 : (Jvm.Cond.selects "FigureKnee" ({ cls := "FigureKnee", name := "ringAt", desc := "(II)I" } : Jvm.MethodName) ({ cls := "FigureKnee", name := "ringAt", desc := "(II)I" } : Jvm.MethodName)) ∈ lw_all := lw_g (lw_at lw_m5 214 rfl) rfl
theorem q1296 : (Jvm.Cond.code ({ cls := "FigureKnee", name := "ringAt", desc := "(II)I" } : Jvm.MethodName) prog_1_method_76_code (7 : Nat) (Option.some Jvm.ClassFile.FieldType.int)) ∈ lw_all := lw_g (lw_at lw_m5 215 rfl) rfl
theorem q1298 : (Jvm.Cond.instanceMethod ({ cls := "FigureKnee", name := "talks", desc := "(IZZZ)I" } : Jvm.MethodName)) ∈ lw_all := lw_g (lw_at lw_m5 217 rfl) rfl
theorem q1299 : (Jvm.Cond.selects "FigureKnee" ({ cls := "FigureKnee", name := "talks", desc := "(IZZZ)I" } : Jvm.MethodName) ({ cls := "FigureKnee", name := "talks", desc := "(IZZZ)I" } : Jvm.MethodName)) ∈ lw_all := lw_g (lw_at lw_m5 218 rfl) rfl
theorem q1300 : (Jvm.Cond.code ({ cls := "FigureKnee", name := "talks", desc := "(IZZZ)I" } : Jvm.MethodName) prog_1_method_79_code (6 : Nat) (Option.some Jvm.ClassFile.FieldType.int)) ∈ lw_all := lw_g (lw_at lw_m5 219 rfl) rfl
theorem q1301 : (Jvm.Cond.methodLink "FigureKnee" (303 : Nat) ({ cls := "FigureKnee", name := "whyBreath", desc := "(I)I" } : Jvm.MethodName)) ∈ lw_all := lw_g (lw_at lw_m5 220 rfl) rfl
theorem q1302 : (Jvm.Cond.privateMethod ({ cls := "FigureKnee", name := "whyBreath", desc := "(I)I" } : Jvm.MethodName)) ∈ lw_tbl := lw_at lw_m5 221 rfl
theorem q1303 : (Jvm.Cond.instanceMethod ({ cls := "FigureKnee", name := "whyBreath", desc := "(I)I" } : Jvm.MethodName)) ∈ lw_all := lw_g (lw_at lw_m5 222 rfl) rfl
theorem q1304 : (Jvm.Cond.code ({ cls := "FigureKnee", name := "whyBreath", desc := "(I)I" } : Jvm.MethodName) prog_1_method_78_code (2 : Nat) (Option.some Jvm.ClassFile.FieldType.int)) ∈ lw_all := lw_g (lw_at lw_m5 223 rfl) rfl
theorem q1305 : (Jvm.Cond.methodLink "FigureKnee" (306 : Nat) ({ cls := "FigureKnee", name := "gets", desc := "(IZZ)I" } : Jvm.MethodName)) ∈ lw_all := lw_g (lw_at lw_m5 224 rfl) rfl
theorem q1306 : (Jvm.Cond.static ({ cls := "FigureKnee", name := "gets", desc := "(IZZ)I" } : Jvm.MethodName)) ∈ lw_all := lw_g (lw_at lw_m5 225 rfl) rfl
theorem q1307 : (Jvm.Cond.code ({ cls := "FigureKnee", name := "gets", desc := "(IZZ)I" } : Jvm.MethodName) prog_1_method_77_code (3 : Nat) (Option.some Jvm.ClassFile.FieldType.int)) ∈ lw_all := lw_g (lw_at lw_m5 226 rfl) rfl
theorem q1309 : (Jvm.Cond.instanceMethod ({ cls := "FigureKnee", name := "rests", desc := "(I)I" } : Jvm.MethodName)) ∈ lw_all := lw_g (lw_at lw_m5 228 rfl) rfl
theorem q1310 : (Jvm.Cond.selects "FigureKnee" ({ cls := "FigureKnee", name := "rests", desc := "(I)I" } : Jvm.MethodName) ({ cls := "FigureKnee", name := "rests", desc := "(I)I" } : Jvm.MethodName)) ∈ lw_all := lw_g (lw_at lw_m5 229 rfl) rfl
theorem q1311 : (Jvm.Cond.code ({ cls := "FigureKnee", name := "rests", desc := "(I)I" } : Jvm.MethodName) prog_1_method_81_code (5 : Nat) (Option.some Jvm.ClassFile.FieldType.int)) ∈ lw_all := lw_g (lw_at lw_m5 230 rfl) rfl
theorem q1312 : (Jvm.Cond.methodLink "FigureKnee" (310 : Nat) ({ cls := "FigureKnee", name := "isRest", desc := "(II)Z" } : Jvm.MethodName)) ∈ lw_all := lw_g (lw_at lw_m5 231 rfl) rfl
theorem q1313 : (Jvm.Cond.static ({ cls := "FigureKnee", name := "isRest", desc := "(II)Z" } : Jvm.MethodName)) ∈ lw_all := lw_g (lw_at lw_m5 232 rfl) rfl
theorem q1314 : (Jvm.Cond.code ({ cls := "FigureKnee", name := "isRest", desc := "(II)Z" } : Jvm.MethodName) prog_1_method_80_code (4 : Nat) (Option.some Jvm.ClassFile.FieldType.boolean)) ∈ lw_all := lw_g (lw_at lw_m5 233 rfl) rfl
theorem q1316 : (Jvm.Cond.instanceMethod ({ cls := "FigureKnee", name := "rest", desc := "(I)I" } : Jvm.MethodName)) ∈ lw_all := lw_g (lw_at lw_m5 235 rfl) rfl
theorem q1317 : (Jvm.Cond.selects "FigureKnee" ({ cls := "FigureKnee", name := "rest", desc := "(I)I" } : Jvm.MethodName) ({ cls := "FigureKnee", name := "rest", desc := "(I)I" } : Jvm.MethodName)) ∈ lw_all := lw_g (lw_at lw_m5 236 rfl) rfl
theorem q1318 : (Jvm.Cond.code ({ cls := "FigureKnee", name := "rest", desc := "(I)I" } : Jvm.MethodName) prog_1_method_82_code (4 : Nat) (Option.some Jvm.ClassFile.FieldType.int)) ∈ lw_all := lw_g (lw_at lw_m5 237 rfl) rfl
theorem q1320 : (Jvm.Cond.instanceMethod ({ cls := "FigureKnee", name := "verdictOdds", desc := "(IIZ)J" } : Jvm.MethodName)) ∈ lw_all := lw_g (lw_at lw_m5 239 rfl) rfl
theorem q1321 : (Jvm.Cond.selects "FigureKnee" ({ cls := "FigureKnee", name := "verdictOdds", desc := "(IIZ)J" } : Jvm.MethodName) ({ cls := "FigureKnee", name := "verdictOdds", desc := "(IIZ)J" } : Jvm.MethodName)) ∈ lw_all := lw_g (lw_at lw_m6 0 rfl) rfl
theorem q1322 : (Jvm.Cond.code ({ cls := "FigureKnee", name := "verdictOdds", desc := "(IIZ)J" } : Jvm.MethodName) prog_1_method_85_code (10 : Nat) (Option.some Jvm.ClassFile.FieldType.long)) ∈ lw_all := lw_g (lw_at lw_m6 1 rfl) rfl
theorem q1323 : (Jvm.Cond.methodLink "FigureKnee" (313 : Nat) ({ cls := "FigureKnee", name := "looksAway", desc := "()V" } : Jvm.MethodName)) ∈ lw_all := lw_g (lw_at lw_m6 2 rfl) rfl
theorem q1324 : (Jvm.Cond.privateMethod ({ cls := "FigureKnee", name := "looksAway", desc := "()V" } : Jvm.MethodName)) ∈ lw_tbl := lw_at lw_m6 3 rfl
theorem q1325 : (Jvm.Cond.instanceMethod ({ cls := "FigureKnee", name := "looksAway", desc := "()V" } : Jvm.MethodName)) ∈ lw_all := lw_g (lw_at lw_m6 4 rfl) rfl
theorem q1326 : (Jvm.Cond.code ({ cls := "FigureKnee", name := "looksAway", desc := "()V" } : Jvm.MethodName) prog_1_method_83_code (2 : Nat) (Option.none : Option Jvm.ClassFile.FieldType)) ∈ lw_all := lw_g (lw_at lw_m6 5 rfl) rfl
theorem q1327 : (Jvm.Cond.methodLink "FigureKnee" (316 : Nat) ({ cls := "FigureKnee", name := "mostLooked", desc := "()I" } : Jvm.MethodName)) ∈ lw_all := lw_g (lw_at lw_m6 6 rfl) rfl
theorem q1328 : (Jvm.Cond.privateMethod ({ cls := "FigureKnee", name := "mostLooked", desc := "()I" } : Jvm.MethodName)) ∈ lw_tbl := lw_at lw_m6 7 rfl
theorem q1329 : (Jvm.Cond.instanceMethod ({ cls := "FigureKnee", name := "mostLooked", desc := "()I" } : Jvm.MethodName)) ∈ lw_all := lw_g (lw_at lw_m6 8 rfl) rfl
theorem q1330 : (Jvm.Cond.code ({ cls := "FigureKnee", name := "mostLooked", desc := "()I" } : Jvm.MethodName) prog_1_method_84_code (3 : Nat) (Option.some Jvm.ClassFile.FieldType.int)) ∈ lw_all := lw_g (lw_at lw_m6 9 rfl) rfl
theorem q1331 : (Jvm.Cond.methodLink "FigureKnee" (319 : Nat) ({ cls := "FigureKnee", name := "fraction", desc := "(JJZ)J" } : Jvm.MethodName)) ∈ lw_all := lw_g (lw_at lw_m6 10 rfl) rfl
theorem q1332 : (Jvm.Cond.privateMethod ({ cls := "FigureKnee", name := "fraction", desc := "(JJZ)J" } : Jvm.MethodName)) ∈ lw_tbl := lw_at lw_m6 11 rfl
theorem q1333 : (Jvm.Cond.instanceMethod ({ cls := "FigureKnee", name := "fraction", desc := "(JJZ)J" } : Jvm.MethodName)) ∈ lw_all := lw_g (lw_at lw_m6 12 rfl) rfl
theorem q1334 : (Jvm.Cond.code ({ cls := "FigureKnee", name := "fraction", desc := "(JJZ)J" } : Jvm.MethodName) prog_1_method_12_code (6 : Nat) (Option.some Jvm.ClassFile.FieldType.long)) ∈ lw_all := lw_g (lw_at lw_m6 13 rfl) rfl
theorem q1335 : (Jvm.Cond.methodLink "FigureKnee" (57 : Nat) ({ cls := "FigureKnee", name := "common", desc := "(JJ)J" } : Jvm.MethodName)) ∈ lw_all := lw_g (lw_at lw_m6 14 rfl) rfl
theorem q1336 : (Jvm.Cond.static ({ cls := "FigureKnee", name := "common", desc := "(JJ)J" } : Jvm.MethodName)) ∈ lw_all := lw_g (lw_at lw_m6 15 rfl) rfl
theorem q1337 : (Jvm.Cond.code ({ cls := "FigureKnee", name := "common", desc := "(JJ)J" } : Jvm.MethodName) prog_1_method_5_code (10 : Nat) (Option.some Jvm.ClassFile.FieldType.long)) ∈ lw_all := lw_g (lw_at lw_m6 16 rfl) rfl
theorem q1339 : (Jvm.Cond.instanceMethod ({ cls := "FigureKnee", name := "looks", desc := "(III)I" } : Jvm.MethodName)) ∈ lw_all := lw_g (lw_at lw_m6 18 rfl) rfl
theorem q1340 : (Jvm.Cond.selects "FigureKnee" ({ cls := "FigureKnee", name := "looks", desc := "(III)I" } : Jvm.MethodName) ({ cls := "FigureKnee", name := "looks", desc := "(III)I" } : Jvm.MethodName)) ∈ lw_all := lw_g (lw_at lw_m6 19 rfl) rfl
theorem q1341 : (Jvm.Cond.code ({ cls := "FigureKnee", name := "looks", desc := "(III)I" } : Jvm.MethodName) prog_1_method_88_code (5 : Nat) (Option.some Jvm.ClassFile.FieldType.int)) ∈ lw_all := lw_g (lw_at lw_m6 20 rfl) rfl
theorem q1342 : (Jvm.Cond.methodLink "FigureKnee" (327 : Nat) ({ cls := "FigureKnee", name := "whyLooks", desc := "(ZII)I" } : Jvm.MethodName)) ∈ lw_all := lw_g (lw_at lw_m6 21 rfl) rfl
theorem q1343 : (Jvm.Cond.privateMethod ({ cls := "FigureKnee", name := "whyLooks", desc := "(ZII)I" } : Jvm.MethodName)) ∈ lw_tbl := lw_at lw_m6 22 rfl
theorem q1344 : (Jvm.Cond.instanceMethod ({ cls := "FigureKnee", name := "whyLooks", desc := "(ZII)I" } : Jvm.MethodName)) ∈ lw_all := lw_g (lw_at lw_m6 23 rfl) rfl
theorem q1345 : (Jvm.Cond.code ({ cls := "FigureKnee", name := "whyLooks", desc := "(ZII)I" } : Jvm.MethodName) prog_1_method_86_code (5 : Nat) (Option.some Jvm.ClassFile.FieldType.int)) ∈ lw_all := lw_g (lw_at lw_m6 24 rfl) rfl
theorem q1346 : (Jvm.Cond.constant "FigureKnee" (323 : Nat) (65536 : Int32)) ∈ lw_all := lw_g (lw_at lw_m6 25 rfl) rfl
theorem q1347 : (Jvm.Cond.methodLink "FigureKnee" (331 : Nat) ({ cls := "FigureKnee", name := "looksBy", desc := "(II)V" } : Jvm.MethodName)) ∈ lw_all := lw_g (lw_at lw_m6 26 rfl) rfl
theorem q1348 : (Jvm.Cond.privateMethod ({ cls := "FigureKnee", name := "looksBy", desc := "(II)V" } : Jvm.MethodName)) ∈ lw_tbl := lw_at lw_m6 27 rfl
theorem q1349 : (Jvm.Cond.instanceMethod ({ cls := "FigureKnee", name := "looksBy", desc := "(II)V" } : Jvm.MethodName)) ∈ lw_all := lw_g (lw_at lw_m6 28 rfl) rfl
theorem q1350 : (Jvm.Cond.code ({ cls := "FigureKnee", name := "looksBy", desc := "(II)V" } : Jvm.MethodName) prog_1_method_87_code (5 : Nat) (Option.none : Option Jvm.ClassFile.FieldType)) ∈ lw_all := lw_g (lw_at lw_m6 29 rfl) rfl
theorem q1351 : (Jvm.Cond.methodLink "FigureKnee" (324 : Nat) ({ cls := "FigureKnee", name := "drawOf", desc := "(I)I" } : Jvm.MethodName)) ∈ lw_all := lw_g (lw_at lw_m6 30 rfl) rfl
theorem q1352 : (Jvm.Cond.static ({ cls := "FigureKnee", name := "drawOf", desc := "(I)I" } : Jvm.MethodName)) ∈ lw_all := lw_g (lw_at lw_m6 31 rfl) rfl
theorem q1353 : (Jvm.Cond.code ({ cls := "FigureKnee", name := "drawOf", desc := "(I)I" } : Jvm.MethodName) prog_1_method_6_code (1 : Nat) (Option.some Jvm.ClassFile.FieldType.int)) ∈ lw_all := lw_g (lw_at lw_m6 32 rfl) rfl
theorem q1354 : (Jvm.Cond.constantLong "FigureKnee" (41 : Nat) (75 : Int64)) ∈ lw_all := lw_g (lw_at lw_m6 33 rfl) rfl
theorem q1355 : (Jvm.Cond.constantLong "FigureKnee" (43 : Nat) (74 : Int64)) ∈ lw_all := lw_g (lw_at lw_m6 34 rfl) rfl
theorem q1356 : (Jvm.Cond.constantLong "FigureKnee" (45 : Nat) (65537 : Int64)) ∈ lw_all := lw_g (lw_at lw_m6 35 rfl) rfl
theorem q1358 : (Jvm.Cond.instanceMethod ({ cls := "FigureKnee", name := "verdict", desc := "(II)I" } : Jvm.MethodName)) ∈ lw_all := lw_g (lw_at lw_m6 37 rfl) rfl
theorem q1359 : (Jvm.Cond.selects "FigureKnee" ({ cls := "FigureKnee", name := "verdict", desc := "(II)I" } : Jvm.MethodName) ({ cls := "FigureKnee", name := "verdict", desc := "(II)I" } : Jvm.MethodName)) ∈ lw_all := lw_g (lw_at lw_m6 38 rfl) rfl
theorem q1360 : (Jvm.Cond.code ({ cls := "FigureKnee", name := "verdict", desc := "(II)I" } : Jvm.MethodName) prog_1_method_89_code (4 : Nat) (Option.some Jvm.ClassFile.FieldType.int)) ∈ lw_all := lw_g (lw_at lw_m6 39 rfl) rfl
theorem q1362 : (Jvm.Cond.instanceMethod ({ cls := "FigureKnee", name := "odds", desc := "(IIIZ)J" } : Jvm.MethodName)) ∈ lw_all := lw_g (lw_at lw_m6 41 rfl) rfl
theorem q1363 : (Jvm.Cond.selects "FigureKnee" ({ cls := "FigureKnee", name := "odds", desc := "(IIIZ)J" } : Jvm.MethodName) ({ cls := "FigureKnee", name := "odds", desc := "(IIIZ)J" } : Jvm.MethodName)) ∈ lw_all := lw_g (lw_at lw_m6 42 rfl) rfl
theorem q1364 : (Jvm.Cond.code ({ cls := "FigureKnee", name := "odds", desc := "(IIIZ)J" } : Jvm.MethodName) prog_1_method_93_code (9 : Nat) (Option.some Jvm.ClassFile.FieldType.long)) ∈ lw_all := lw_g (lw_at lw_m6 43 rfl) rfl
theorem q1365 : (Jvm.Cond.methodLink "FigureKnee" (339 : Nat) ({ cls := "FigureKnee", name := "saysBy", desc := "(III)I" } : Jvm.MethodName)) ∈ lw_all := lw_g (lw_at lw_m6 44 rfl) rfl
theorem q1366 : (Jvm.Cond.privateMethod ({ cls := "FigureKnee", name := "saysBy", desc := "(III)I" } : Jvm.MethodName)) ∈ lw_tbl := lw_at lw_m6 45 rfl
theorem q1367 : (Jvm.Cond.instanceMethod ({ cls := "FigureKnee", name := "saysBy", desc := "(III)I" } : Jvm.MethodName)) ∈ lw_all := lw_g (lw_at lw_m6 46 rfl) rfl
theorem q1368 : (Jvm.Cond.code ({ cls := "FigureKnee", name := "saysBy", desc := "(III)I" } : Jvm.MethodName) prog_1_method_90_code (6 : Nat) (Option.some Jvm.ClassFile.FieldType.int)) ∈ lw_all := lw_g (lw_at lw_m6 47 rfl) rfl
theorem q1369 : (Jvm.Cond.methodLink "FigureKnee" (342 : Nat) ({ cls := "FigureKnee", name := "partOf", desc := "(II)J" } : Jvm.MethodName)) ∈ lw_all := lw_g (lw_at lw_m6 48 rfl) rfl
theorem q1370 : (Jvm.Cond.privateMethod ({ cls := "FigureKnee", name := "partOf", desc := "(II)J" } : Jvm.MethodName)) ∈ lw_tbl := lw_at lw_m6 49 rfl
theorem q1371 : (Jvm.Cond.instanceMethod ({ cls := "FigureKnee", name := "partOf", desc := "(II)J" } : Jvm.MethodName)) ∈ lw_all := lw_g (lw_at lw_m6 50 rfl) rfl
theorem q1372 : (Jvm.Cond.code ({ cls := "FigureKnee", name := "partOf", desc := "(II)J" } : Jvm.MethodName) prog_1_method_91_code (6 : Nat) (Option.some Jvm.ClassFile.FieldType.long)) ∈ lw_all := lw_g (lw_at lw_m6 51 rfl) rfl
theorem q1373 : (Jvm.Cond.methodLink "FigureKnee" (346 : Nat) ({ cls := "FigureKnee", name := "whole", desc := "(I)J" } : Jvm.MethodName)) ∈ lw_all := lw_g (lw_at lw_m6 52 rfl) rfl
theorem q1374 : (Jvm.Cond.static ({ cls := "FigureKnee", name := "whole", desc := "(I)J" } : Jvm.MethodName)) ∈ lw_all := lw_g (lw_at lw_m6 53 rfl) rfl
theorem q1375 : (Jvm.Cond.code ({ cls := "FigureKnee", name := "whole", desc := "(I)J" } : Jvm.MethodName) prog_1_method_92_code (4 : Nat) (Option.some Jvm.ClassFile.FieldType.long)) ∈ lw_all := lw_g (lw_at lw_m6 54 rfl) rfl
theorem q1376 : (Jvm.Cond.constantLong "FigureKnee" (337 : Nat) (100 : Int64)) ∈ lw_all := lw_g (lw_at lw_m6 55 rfl) rfl
theorem q1378 : (Jvm.Cond.instanceMethod ({ cls := "FigureKnee", name := "mean", desc := "(IIZ)J" } : Jvm.MethodName)) ∈ lw_all := lw_g (lw_at lw_m6 57 rfl) rfl
theorem q1379 : (Jvm.Cond.selects "FigureKnee" ({ cls := "FigureKnee", name := "mean", desc := "(IIZ)J" } : Jvm.MethodName) ({ cls := "FigureKnee", name := "mean", desc := "(IIZ)J" } : Jvm.MethodName)) ∈ lw_all := lw_g (lw_at lw_m6 58 rfl) rfl
theorem q1380 : (Jvm.Cond.code ({ cls := "FigureKnee", name := "mean", desc := "(IIZ)J" } : Jvm.MethodName) prog_1_method_94_code (8 : Nat) (Option.some Jvm.ClassFile.FieldType.long)) ∈ lw_all := lw_g (lw_at lw_m6 59 rfl) rfl
theorem q1382 : (Jvm.Cond.instanceMethod ({ cls := "FigureKnee", name := "drawn", desc := "(III)I" } : Jvm.MethodName)) ∈ lw_all := lw_g (lw_at lw_m6 61 rfl) rfl
theorem q1383 : (Jvm.Cond.selects "FigureKnee" ({ cls := "FigureKnee", name := "drawn", desc := "(III)I" } : Jvm.MethodName) ({ cls := "FigureKnee", name := "drawn", desc := "(III)I" } : Jvm.MethodName)) ∈ lw_all := lw_g (lw_at lw_m6 62 rfl) rfl
theorem q1384 : (Jvm.Cond.code ({ cls := "FigureKnee", name := "drawn", desc := "(III)I" } : Jvm.MethodName) prog_1_method_95_code (8 : Nat) (Option.some Jvm.ClassFile.FieldType.int)) ∈ lw_all := lw_g (lw_at lw_m6 63 rfl) rfl
theorem q1386 : (Jvm.Cond.instanceMethod ({ cls := "FigureKnee", name := "season", desc := "()I" } : Jvm.MethodName)) ∈ lw_all := lw_g (lw_at lw_m6 65 rfl) rfl
theorem q1387 : (Jvm.Cond.selects "FigureKnee" ({ cls := "FigureKnee", name := "season", desc := "()I" } : Jvm.MethodName) ({ cls := "FigureKnee", name := "season", desc := "()I" } : Jvm.MethodName)) ∈ lw_all := lw_g (lw_at lw_m6 66 rfl) rfl
theorem q1388 : (Jvm.Cond.code ({ cls := "FigureKnee", name := "season", desc := "()I" } : Jvm.MethodName) prog_1_method_97_code (2 : Nat) (Option.some Jvm.ClassFile.FieldType.int)) ∈ lw_all := lw_g (lw_at lw_m6 67 rfl) rfl
theorem q1389 : (Jvm.Cond.methodLink "FigureKnee" (361 : Nat) ({ cls := "FigureKnee", name := "remembers", desc := "()V" } : Jvm.MethodName)) ∈ lw_all := lw_g (lw_at lw_m6 68 rfl) rfl
theorem q1390 : (Jvm.Cond.privateMethod ({ cls := "FigureKnee", name := "remembers", desc := "()V" } : Jvm.MethodName)) ∈ lw_tbl := lw_at lw_m6 69 rfl
theorem q1391 : (Jvm.Cond.instanceMethod ({ cls := "FigureKnee", name := "remembers", desc := "()V" } : Jvm.MethodName)) ∈ lw_all := lw_g (lw_at lw_m6 70 rfl) rfl
theorem q1392 : (Jvm.Cond.code ({ cls := "FigureKnee", name := "remembers", desc := "()V" } : Jvm.MethodName) prog_1_method_96_code (1 : Nat) (Option.none : Option Jvm.ClassFile.FieldType)) ∈ lw_all := lw_g (lw_at lw_m6 71 rfl) rfl
theorem q1393 : (Jvm.Cond.methodLink "FigureKnee" (350 : Nat) ({ cls := "java/util/ArrayList", name := "remove", desc := "(I)Ljava/lang/Object;" } : Jvm.MethodName)) ∈ lw_all := lw_g (lw_at lw_m6 72 rfl) rfl
theorem q1402 : (Jvm.Cond.methodLink "FigureKnee" (353 : Nat) ({ cls := "java/util/ArrayList", name := "add", desc := "(Ljava/lang/Object;)Z" } : Jvm.MethodName)) ∈ lw_all := lw_g (lw_at lw_m6 81 rfl) rfl
theorem q1403 : (Jvm.Cond.methodLink "FigureKnee" (357 : Nat) ({ cls := "FigureKnee$Stage", name := "copy", desc := "()LFigureKnee$Stage;" } : Jvm.MethodName)) ∈ lw_all := lw_g (lw_at lw_m6 82 rfl) rfl
theorem q1411 : (Jvm.Cond.instanceMethod ({ cls := "FigureKnee", name := "change", desc := "(I)I" } : Jvm.MethodName)) ∈ lw_all := lw_g (lw_at lw_m6 90 rfl) rfl
theorem q1412 : (Jvm.Cond.selects "FigureKnee" ({ cls := "FigureKnee", name := "change", desc := "(I)I" } : Jvm.MethodName) ({ cls := "FigureKnee", name := "change", desc := "(I)I" } : Jvm.MethodName)) ∈ lw_all := lw_g (lw_at lw_m6 91 rfl) rfl
theorem q1413 : (Jvm.Cond.code ({ cls := "FigureKnee", name := "change", desc := "(I)I" } : Jvm.MethodName) prog_1_method_98_code (2 : Nat) (Option.some Jvm.ClassFile.FieldType.int)) ∈ lw_all := lw_g (lw_at lw_m6 92 rfl) rfl
theorem q1415 : (Jvm.Cond.instanceMethod ({ cls := "FigureKnee", name := "step", desc := "(II)Z" } : Jvm.MethodName)) ∈ lw_all := lw_g (lw_at lw_m6 94 rfl) rfl
theorem q1416 : (Jvm.Cond.selects "FigureKnee" ({ cls := "FigureKnee", name := "step", desc := "(II)Z" } : Jvm.MethodName) ({ cls := "FigureKnee", name := "step", desc := "(II)Z" } : Jvm.MethodName)) ∈ lw_all := lw_g (lw_at lw_m6 95 rfl) rfl
theorem q1417 : (Jvm.Cond.code ({ cls := "FigureKnee", name := "step", desc := "(II)Z" } : Jvm.MethodName) prog_1_method_99_code (4 : Nat) (Option.some Jvm.ClassFile.FieldType.boolean)) ∈ lw_all := lw_g (lw_at lw_m6 96 rfl) rfl
theorem q1418 : (Jvm.Cond.methodLink "FigureKnee" (364 : Nat) ({ cls := "FigureKnee", name := "denied", desc := "(I)Z" } : Jvm.MethodName)) ∈ lw_all := lw_g (lw_at lw_m6 97 rfl) rfl
theorem q1419 : (Jvm.Cond.privateMethod ({ cls := "FigureKnee", name := "denied", desc := "(I)Z" } : Jvm.MethodName)) ∈ lw_tbl := lw_at lw_m6 98 rfl
theorem q1420 : (Jvm.Cond.instanceMethod ({ cls := "FigureKnee", name := "denied", desc := "(I)Z" } : Jvm.MethodName)) ∈ lw_all := lw_g (lw_at lw_m6 99 rfl) rfl
theorem q1421 : (Jvm.Cond.code ({ cls := "FigureKnee", name := "denied", desc := "(I)Z" } : Jvm.MethodName) prog_1_method_9_code (2 : Nat) (Option.some Jvm.ClassFile.FieldType.boolean)) ∈ lw_all := lw_g (lw_at lw_m6 100 rfl) rfl
theorem q1422 : (Jvm.Cond.methodLink "FigureKnee" (367 : Nat) ({ cls := "FigureKnee", name := "granted", desc := "()Z" } : Jvm.MethodName)) ∈ lw_all := lw_g (lw_at lw_m6 101 rfl) rfl
theorem q1423 : (Jvm.Cond.privateMethod ({ cls := "FigureKnee", name := "granted", desc := "()Z" } : Jvm.MethodName)) ∈ lw_tbl := lw_at lw_m6 102 rfl
theorem q1424 : (Jvm.Cond.instanceMethod ({ cls := "FigureKnee", name := "granted", desc := "()Z" } : Jvm.MethodName)) ∈ lw_all := lw_g (lw_at lw_m6 103 rfl) rfl
theorem q1425 : (Jvm.Cond.code ({ cls := "FigureKnee", name := "granted", desc := "()Z" } : Jvm.MethodName) prog_1_method_11_code (1 : Nat) (Option.some Jvm.ClassFile.FieldType.boolean)) ∈ lw_all := lw_g (lw_at lw_m6 104 rfl) rfl
theorem q1427 : (Jvm.Cond.instanceMethod ({ cls := "FigureKnee", name := "pay", desc := "(III)I" } : Jvm.MethodName)) ∈ lw_all := lw_g (lw_at lw_m6 106 rfl) rfl
theorem q1428 : (Jvm.Cond.selects "FigureKnee" ({ cls := "FigureKnee", name := "pay", desc := "(III)I" } : Jvm.MethodName) ({ cls := "FigureKnee", name := "pay", desc := "(III)I" } : Jvm.MethodName)) ∈ lw_all := lw_g (lw_at lw_m6 107 rfl) rfl
theorem q1429 : (Jvm.Cond.code ({ cls := "FigureKnee", name := "pay", desc := "(III)I" } : Jvm.MethodName) prog_1_method_100_code (5 : Nat) (Option.some Jvm.ClassFile.FieldType.int)) ∈ lw_all := lw_g (lw_at lw_m6 108 rfl) rfl
theorem q1431 : (Jvm.Cond.instanceMethod ({ cls := "FigureKnee", name := "undo", desc := "()Z" } : Jvm.MethodName)) ∈ lw_all := lw_g (lw_at lw_m6 110 rfl) rfl
theorem q1432 : (Jvm.Cond.selects "FigureKnee" ({ cls := "FigureKnee", name := "undo", desc := "()Z" } : Jvm.MethodName) ({ cls := "FigureKnee", name := "undo", desc := "()Z" } : Jvm.MethodName)) ∈ lw_all := lw_g (lw_at lw_m6 111 rfl) rfl
theorem q1433 : (Jvm.Cond.code ({ cls := "FigureKnee", name := "undo", desc := "()Z" } : Jvm.MethodName) prog_1_method_101_code (1 : Nat) (Option.some Jvm.ClassFile.FieldType.boolean)) ∈ lw_all := lw_g (lw_at lw_m6 112 rfl) rfl
theorem q1434 : (Jvm.Cond.methodLink "FigureKnee" (371 : Nat) ({ cls := "java/util/ArrayList", name := "isEmpty", desc := "()Z" } : Jvm.MethodName)) ∈ lw_all := lw_g (lw_at lw_m6 113 rfl) rfl
theorem q1436 : (Jvm.Cond.instanceMethod ({ cls := "FigureKnee", name := "image", desc := "()I" } : Jvm.MethodName)) ∈ lw_all := lw_g (lw_at lw_m6 115 rfl) rfl
theorem q1437 : (Jvm.Cond.selects "FigureKnee" ({ cls := "FigureKnee", name := "image", desc := "()I" } : Jvm.MethodName) ({ cls := "FigureKnee", name := "image", desc := "()I" } : Jvm.MethodName)) ∈ lw_all := lw_g (lw_at lw_m6 116 rfl) rfl
theorem q1438 : (Jvm.Cond.code ({ cls := "FigureKnee", name := "image", desc := "()I" } : Jvm.MethodName) prog_1_method_102_code (1 : Nat) (Option.some Jvm.ClassFile.FieldType.int)) ∈ lw_all := lw_g (lw_at lw_m6 117 rfl) rfl
theorem q1440 : (Jvm.Cond.instanceMethod ({ cls := "FigureKnee", name := "back", desc := "(I)Z" } : Jvm.MethodName)) ∈ lw_all := lw_g (lw_at lw_m6 119 rfl) rfl
theorem q1441 : (Jvm.Cond.selects "FigureKnee" ({ cls := "FigureKnee", name := "back", desc := "(I)Z" } : Jvm.MethodName) ({ cls := "FigureKnee", name := "back", desc := "(I)Z" } : Jvm.MethodName)) ∈ lw_all := lw_g (lw_at lw_m6 120 rfl) rfl
theorem q1442 : (Jvm.Cond.code ({ cls := "FigureKnee", name := "back", desc := "(I)Z" } : Jvm.MethodName) prog_1_method_103_code (2 : Nat) (Option.some Jvm.ClassFile.FieldType.boolean)) ∈ lw_all := lw_g (lw_at lw_m6 121 rfl) rfl
theorem q1444 : (Jvm.Cond.instanceMethod ({ cls := "FigureKnee", name := "size", desc := "(I)I" } : Jvm.MethodName)) ∈ lw_all := lw_g (lw_at lw_m6 123 rfl) rfl
theorem q1445 : (Jvm.Cond.selects "FigureKnee" ({ cls := "FigureKnee", name := "size", desc := "(I)I" } : Jvm.MethodName) ({ cls := "FigureKnee", name := "size", desc := "(I)I" } : Jvm.MethodName)) ∈ lw_all := lw_g (lw_at lw_m6 124 rfl) rfl
theorem q1446 : (Jvm.Cond.code ({ cls := "FigureKnee", name := "size", desc := "(I)I" } : Jvm.MethodName) prog_1_method_105_code (2 : Nat) (Option.some Jvm.ClassFile.FieldType.int)) ∈ lw_all := lw_g (lw_at lw_m6 125 rfl) rfl
theorem q1448 : (Jvm.Cond.instanceMethod ({ cls := "FigureKnee", name := "trouble", desc := "()I" } : Jvm.MethodName)) ∈ lw_all := lw_g (lw_at lw_m6 127 rfl) rfl
theorem q1449 : (Jvm.Cond.selects "FigureKnee" ({ cls := "FigureKnee", name := "trouble", desc := "()I" } : Jvm.MethodName) ({ cls := "FigureKnee", name := "trouble", desc := "()I" } : Jvm.MethodName)) ∈ lw_all := lw_g (lw_at lw_m6 128 rfl) rfl
theorem q1450 : (Jvm.Cond.code ({ cls := "FigureKnee", name := "trouble", desc := "()I" } : Jvm.MethodName) prog_1_method_106_code (1 : Nat) (Option.some Jvm.ClassFile.FieldType.int)) ∈ lw_all := lw_g (lw_at lw_m6 129 rfl) rfl
theorem q1456 : (Jvm.Cond.instanceMethod ({ cls := "FigureKnee", name := "led", desc := "(I)I" } : Jvm.MethodName)) ∈ lw_all := lw_g (lw_at lw_m6 135 rfl) rfl
theorem q1457 : (Jvm.Cond.selects "FigureKnee" ({ cls := "FigureKnee", name := "led", desc := "(I)I" } : Jvm.MethodName) ({ cls := "FigureKnee", name := "led", desc := "(I)I" } : Jvm.MethodName)) ∈ lw_all := lw_g (lw_at lw_m6 136 rfl) rfl
theorem q1458 : (Jvm.Cond.code ({ cls := "FigureKnee", name := "led", desc := "(I)I" } : Jvm.MethodName) prog_1_method_104_code (4 : Nat) (Option.some Jvm.ClassFile.FieldType.int)) ∈ lw_all := lw_g (lw_at lw_m6 137 rfl) rfl
theorem q1459 : (Jvm.Cond.classLink "FigureKnee" (374 : Nat) "java/util/NoSuchElementException") ∈ lw_all := lw_g (lw_at lw_m6 138 rfl) rfl
theorem q1498 : (Jvm.Cond.methodLink "FigureKnee" (376 : Nat) ({ cls := "java/util/NoSuchElementException", name := "<init>", desc := "()V" } : Jvm.MethodName)) ∈ lw_all := lw_g (lw_at lw_m6 177 rfl) rfl
theorem q2197 : (Jvm.Cond.castable "FigureKnee" "java/lang/Object") ∈ lw_tbl := lw_at lw_m9 156 rfl
theorem in_X1 : ∀ w ∈ wsX10, w ∈ lw_all := lw_in wsX10 [210, 212, 214, 216, 218, 220, 222, 224, 226, 228, 230, 232, 234, 236, 238, 240, 242, 244, 246, 248] (by decide +kernel) (by decide +kernel)

