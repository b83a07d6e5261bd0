/-! WhalePostModel -/
set_option maxRecDepth 100000
def RX2 : String := "WhalePostModel"
def TX2 : u_T := fun k => match k with
  | 0 => ("WhalePostModel", "thrown", "I", false)
  | 1 => ("WhalePostModel", "tape", "[I", true)
  | 2 => ("WhalePostModel", "taped", "I", false)
  | 3 => ("WhalePostModel", "size", "I", false)
  | 4 => ("WhalePostModel", "at", "I", false)
  | 5 => ("WhalePostModel", "end", "I", false)
  | 6 => ("WhalePostModel", "token", "I", false)
  | 7 => ("WhalePostModel", "whole", "I", false)
  | 8 => ("WhalePostModel", "nameSize", "I", false)
  | 9 => ("WhalePostModel", "fault", "I", false)
  | 10 => ("WhalePostModel", "place", "I", false)
  | 11 => ("WhalePostModel", "trouble", "I", false)
  | 12 => ("WhalePostModel", "letters", "[I", true)
  | 13 => ("WhalePostModel", "failed", "Z", false)
  | 14 => ("WhalePostModel", "hasPost", "Z", false)
  | 15 => ("WhalePostModel", "\x72", "[I", true)
  | 16 => ("WhalePostModel", "fresh", "[I", true)
  | 17 => ("WhalePostModel", "st", "[I", true)
  | 18 => ("WhalePostModel", "undone", "[I", true)
  | 19 => ("WhalePostModel", "kept", "[I", true)
  | 20 => ("WhalePostModel", "undos", "I", false)
  | 21 => ("WhalePostModel", "images", "I", false)
  | 22 => ("WhalePostModel", "taken", "[I", true)
  | 23 => ("WhalePostModel", "takenMany", "I", false)
  | 24 => ("WhalePostModel", "days", "[I", true)
  | 25 => ("WhalePostModel", "done", "[I", true)
  | 26 => ("WhalePostModel", "takes", "I", false)
  | 27 => ("WhalePostModel", "arrives", "I", false)
  | 28 => ("WhalePostModel", "tried", "[I", true)
  | 29 => ("WhalePostModel", "bestFo\x72", "[I", true)
  | 30 => ("WhalePostModel", "bringDays", "[I", true)
  | 31 => ("WhalePostModel", "bestMany", "I", false)
  | 32 => ("WhalePostModel", "bestSum", "I", false)
  | 33 => ("WhalePostModel", "seenAt", "I", false)
  | 34 => ("WhalePostModel", "seenDay", "I", false)
  | 35 => ("WhalePostModel", "fa\x72", "[I", true)
  | 36 => ("WhalePostModel", "orde\x72", "[I", true)
  | 37 => ("WhalePostModel", "bestOrde\x72", "[I", true)
  | _ => ("WhalePostModel", "bestRound", "I", false)
def tyX2 : Nat → FieldType := fun k => match k with
  | 0 => .int
  | 1 => .array .int
  | 2 => .int
  | 3 => .int
  | 4 => .int
  | 5 => .int
  | 6 => .int
  | 7 => .int
  | 8 => .int
  | 9 => .int
  | 10 => .int
  | 11 => .int
  | 12 => .array .int
  | 13 => .boolean
  | 14 => .boolean
  | 15 => .array .int
  | 16 => .array .int
  | 17 => .array .int
  | 18 => .array .int
  | 19 => .array .int
  | 20 => .int
  | 21 => .int
  | 22 => .array .int
  | 23 => .int
  | 24 => .array .int
  | 25 => .array .int
  | 26 => .int
  | 27 => .int
  | 28 => .array .int
  | 29 => .array .int
  | 30 => .array .int
  | 31 => .int
  | 32 => .int
  | 33 => .int
  | 34 => .int
  | 35 => .array .int
  | 36 => .array .int
  | 37 => .array .int
  | _ => .int
abbrev wsX20 : List Cond := u_ws RX2 TX2 39
set_option maxRecDepth 100000 in
theorem nmX2 : ∀ a, a < 39 → ∀ b, b < 39 → a ≠ b → (TX2 a).2.1 ≠ (TX2 b).2.1 := by decide +kernel
set_option maxRecDepth 100000 in
theorem tyX2_ok : ∀ k, k < 39 → parseFieldDescriptor (TX2 k).2.2.1 = some (tyX2 k) := by decide +kernel
abbrev cX2_init : ByteArray := prog_16_method_1_code
def yX2_init : MethodName := ⟨RX2, "<init>", "()V"⟩
def dkwX2_init_6 : List UInt8 := [177]
abbrev dktX2_init_6 : List UInt8 := dkwX2_init_6 ++ []
def dkwX2_init_5 : List UInt8 := [42, 16, 49, 188, 10, 181, 0, 53, 42, 16, 7, 188, 10, 181, 0, 56, 42, 16, 7, 188, 10, 181, 0, 59]
abbrev dktX2_init_5 : List UInt8 := dkwX2_init_5 ++ dktX2_init_6
def dkwX2_init_4 : List UInt8 := [42, 16, 8, 188, 10, 181, 0, 44, 42, 16, 8, 188, 10, 181, 0, 47, 42, 16, 40, 188, 10, 181, 0, 50]
abbrev dktX2_init_4 : List UInt8 := dkwX2_init_4 ++ dktX2_init_5
def dkwX2_init_3 : List UInt8 := [17, 12, 128, 188, 10, 181, 0, 35, 42, 16, 7, 188, 10, 181, 0, 38, 42, 16, 7, 188, 10, 181, 0, 41]
abbrev dktX2_init_3 : List UInt8 := dkwX2_init_3 ++ dktX2_init_4
def dkwX2_init_2 : List UInt8 := [188, 10, 181, 0, 26, 42, 17, 3, 144, 188, 10, 181, 0, 29, 42, 17, 0, 228, 188, 10, 181, 0, 32, 42]
abbrev dktX2_init_2 : List UInt8 := dkwX2_init_2 ++ dktX2_init_3
def dkwX2_init_1 : List UInt8 := [181, 0, 17, 42, 17, 1, 107, 188, 10, 181, 0, 20, 42, 17, 1, 107, 188, 10, 181, 0, 23, 42, 16, 76]
abbrev dktX2_init_1 : List UInt8 := dkwX2_init_1 ++ dktX2_init_2
def dkwX2_init_0 : List UInt8 := [42, 183, 0, 1, 42, 17, 3, 232, 188, 10, 181, 0, 7, 42, 2, 181, 0, 13, 42, 16, 8, 188, 10]
abbrev dktX2_init_0 : List UInt8 := dkwX2_init_0 ++ dktX2_init_1
theorem dksX2_init_0 : cX2_init.data.toList.drop 0 = dktX2_init_0 := by decide +kernel
theorem dksX2_init_1 : cX2_init.data.toList.drop 23 = dktX2_init_1 := dk_seg dksX2_init_0 23 rfl rfl
theorem dksX2_init_2 : cX2_init.data.toList.drop 47 = dktX2_init_2 := dk_seg dksX2_init_1 24 rfl rfl
theorem dksX2_init_3 : cX2_init.data.toList.drop 71 = dktX2_init_3 := dk_seg dksX2_init_2 24 rfl rfl
theorem dksX2_init_4 : cX2_init.data.toList.drop 95 = dktX2_init_4 := dk_seg dksX2_init_3 24 rfl rfl
theorem dksX2_init_5 : cX2_init.data.toList.drop 119 = dktX2_init_5 := dk_seg dksX2_init_4 24 rfl rfl
theorem dksX2_init_6 : cX2_init.data.toList.drop 143 = dktX2_init_6 := dk_seg dksX2_init_5 24 rfl rfl
theorem dX2_init_0 : decode cX2_init 0 = .ok (.aload_n 0, 1) := dk_42 (dk_at dksX2_init_0 0 rfl rfl)
theorem dX2_init_1 : decode cX2_init 1 = .ok (.invokespecial 1, 3) := dk_183 0 1 (dk_at dksX2_init_0 1 rfl rfl)
theorem dX2_init_4 : decode cX2_init 4 = .ok (.aload_n 0, 1) := dk_42 (dk_at dksX2_init_0 4 rfl rfl)
theorem dX2_init_5 : decode cX2_init 5 = .ok (.sipush 1000, 3) := dk_17 3 232 (dk_at dksX2_init_0 5 rfl rfl)
theorem dX2_init_8 : decode cX2_init 8 = .ok (.newarray .int, 2) := dk_188_10 (dk_at dksX2_init_0 8 rfl rfl)
theorem dX2_init_10 : decode cX2_init 10 = .ok (.putfield 7, 3) := dk_181 0 7 (dk_at dksX2_init_0 10 rfl rfl)
theorem dX2_init_13 : decode cX2_init 13 = .ok (.aload_n 0, 1) := dk_42 (dk_at dksX2_init_0 13 rfl rfl)
theorem dX2_init_14 : decode cX2_init 14 = .ok (.iconst (-1), 1) := dk_2 (dk_at dksX2_init_0 14 rfl rfl)
theorem dX2_init_15 : decode cX2_init 15 = .ok (.putfield 13, 3) := dk_181 0 13 (dk_at dksX2_init_0 15 rfl rfl)
theorem dX2_init_18 : decode cX2_init 18 = .ok (.aload_n 0, 1) := dk_42 (dk_at dksX2_init_0 18 rfl rfl)
theorem dX2_init_19 : decode cX2_init 19 = .ok (.bipush 8, 2) := dk_16 8 (dk_at dksX2_init_0 19 rfl rfl)
theorem dX2_init_21 : decode cX2_init 21 = .ok (.newarray .int, 2) := dk_188_10 (dk_at dksX2_init_0 21 rfl rfl)
theorem dX2_init_23 : decode cX2_init 23 = .ok (.putfield 17, 3) := dk_181 0 17 (dk_at dksX2_init_1 0 rfl rfl)
theorem dX2_init_26 : decode cX2_init 26 = .ok (.aload_n 0, 1) := dk_42 (dk_at dksX2_init_1 3 rfl rfl)
theorem dX2_init_27 : decode cX2_init 27 = .ok (.sipush 363, 3) := dk_17 1 107 (dk_at dksX2_init_1 4 rfl rfl)
theorem dX2_init_30 : decode cX2_init 30 = .ok (.newarray .int, 2) := dk_188_10 (dk_at dksX2_init_1 7 rfl rfl)
theorem dX2_init_32 : decode cX2_init 32 = .ok (.putfield 20, 3) := dk_181 0 20 (dk_at dksX2_init_1 9 rfl rfl)
theorem dX2_init_35 : decode cX2_init 35 = .ok (.aload_n 0, 1) := dk_42 (dk_at dksX2_init_1 12 rfl rfl)
theorem dX2_init_36 : decode cX2_init 36 = .ok (.sipush 363, 3) := dk_17 1 107 (dk_at dksX2_init_1 13 rfl rfl)
theorem dX2_init_39 : decode cX2_init 39 = .ok (.newarray .int, 2) := dk_188_10 (dk_at dksX2_init_1 16 rfl rfl)
theorem dX2_init_41 : decode cX2_init 41 = .ok (.putfield 23, 3) := dk_181 0 23 (dk_at dksX2_init_1 18 rfl rfl)
theorem dX2_init_44 : decode cX2_init 44 = .ok (.aload_n 0, 1) := dk_42 (dk_at dksX2_init_1 21 rfl rfl)
theorem dX2_init_45 : decode cX2_init 45 = .ok (.bipush 76, 2) := dk_16 76 (dk_at dksX2_init_1 22 rfl rfl)
theorem dX2_init_47 : decode cX2_init 47 = .ok (.newarray .int, 2) := dk_188_10 (dk_at dksX2_init_2 0 rfl rfl)
theorem dX2_init_49 : decode cX2_init 49 = .ok (.putfield 26, 3) := dk_181 0 26 (dk_at dksX2_init_2 2 rfl rfl)
theorem dX2_init_52 : decode cX2_init 52 = .ok (.aload_n 0, 1) := dk_42 (dk_at dksX2_init_2 5 rfl rfl)
theorem dX2_init_53 : decode cX2_init 53 = .ok (.sipush 912, 3) := dk_17 3 144 (dk_at dksX2_init_2 6 rfl rfl)
theorem dX2_init_56 : decode cX2_init 56 = .ok (.newarray .int, 2) := dk_188_10 (dk_at dksX2_init_2 9 rfl rfl)
theorem dX2_init_58 : decode cX2_init 58 = .ok (.putfield 29, 3) := dk_181 0 29 (dk_at dksX2_init_2 11 rfl rfl)
theorem dX2_init_61 : decode cX2_init 61 = .ok (.aload_n 0, 1) := dk_42 (dk_at dksX2_init_2 14 rfl rfl)
theorem dX2_init_62 : decode cX2_init 62 = .ok (.sipush 228, 3) := dk_17 0 228 (dk_at dksX2_init_2 15 rfl rfl)
theorem dX2_init_65 : decode cX2_init 65 = .ok (.newarray .int, 2) := dk_188_10 (dk_at dksX2_init_2 18 rfl rfl)
theorem dX2_init_67 : decode cX2_init 67 = .ok (.putfield 32, 3) := dk_181 0 32 (dk_at dksX2_init_2 20 rfl rfl)
theorem dX2_init_70 : decode cX2_init 70 = .ok (.aload_n 0, 1) := dk_42 (dk_at dksX2_init_2 23 rfl rfl)
theorem dX2_init_71 : decode cX2_init 71 = .ok (.sipush 3200, 3) := dk_17 12 128 (dk_at dksX2_init_3 0 rfl rfl)
theorem dX2_init_74 : decode cX2_init 74 = .ok (.newarray .int, 2) := dk_188_10 (dk_at dksX2_init_3 3 rfl rfl)
theorem dX2_init_76 : decode cX2_init 76 = .ok (.putfield 35, 3) := dk_181 0 35 (dk_at dksX2_init_3 5 rfl rfl)
theorem dX2_init_79 : decode cX2_init 79 = .ok (.aload_n 0, 1) := dk_42 (dk_at dksX2_init_3 8 rfl rfl)
theorem dX2_init_80 : decode cX2_init 80 = .ok (.bipush 7, 2) := dk_16 7 (dk_at dksX2_init_3 9 rfl rfl)
theorem dX2_init_82 : decode cX2_init 82 = .ok (.newarray .int, 2) := dk_188_10 (dk_at dksX2_init_3 11 rfl rfl)
theorem dX2_init_84 : decode cX2_init 84 = .ok (.putfield 38, 3) := dk_181 0 38 (dk_at dksX2_init_3 13 rfl rfl)
theorem dX2_init_87 : decode cX2_init 87 = .ok (.aload_n 0, 1) := dk_42 (dk_at dksX2_init_3 16 rfl rfl)
theorem dX2_init_88 : decode cX2_init 88 = .ok (.bipush 7, 2) := dk_16 7 (dk_at dksX2_init_3 17 rfl rfl)
theorem dX2_init_90 : decode cX2_init 90 = .ok (.newarray .int, 2) := dk_188_10 (dk_at dksX2_init_3 19 rfl rfl)
theorem dX2_init_92 : decode cX2_init 92 = .ok (.putfield 41, 3) := dk_181 0 41 (dk_at dksX2_init_3 21 rfl rfl)
theorem dX2_init_95 : decode cX2_init 95 = .ok (.aload_n 0, 1) := dk_42 (dk_at dksX2_init_4 0 rfl rfl)
theorem dX2_init_96 : decode cX2_init 96 = .ok (.bipush 8, 2) := dk_16 8 (dk_at dksX2_init_4 1 rfl rfl)
theorem dX2_init_98 : decode cX2_init 98 = .ok (.newarray .int, 2) := dk_188_10 (dk_at dksX2_init_4 3 rfl rfl)
theorem dX2_init_100 : decode cX2_init 100 = .ok (.putfield 44, 3) := dk_181 0 44 (dk_at dksX2_init_4 5 rfl rfl)
theorem dX2_init_103 : decode cX2_init 103 = .ok (.aload_n 0, 1) := dk_42 (dk_at dksX2_init_4 8 rfl rfl)
theorem dX2_init_104 : decode cX2_init 104 = .ok (.bipush 8, 2) := dk_16 8 (dk_at dksX2_init_4 9 rfl rfl)
theorem dX2_init_106 : decode cX2_init 106 = .ok (.newarray .int, 2) := dk_188_10 (dk_at dksX2_init_4 11 rfl rfl)
theorem dX2_init_108 : decode cX2_init 108 = .ok (.putfield 47, 3) := dk_181 0 47 (dk_at dksX2_init_4 13 rfl rfl)
theorem dX2_init_111 : decode cX2_init 111 = .ok (.aload_n 0, 1) := dk_42 (dk_at dksX2_init_4 16 rfl rfl)
theorem dX2_init_112 : decode cX2_init 112 = .ok (.bipush 40, 2) := dk_16 40 (dk_at dksX2_init_4 17 rfl rfl)
theorem dX2_init_114 : decode cX2_init 114 = .ok (.newarray .int, 2) := dk_188_10 (dk_at dksX2_init_4 19 rfl rfl)
theorem dX2_init_116 : decode cX2_init 116 = .ok (.putfield 50, 3) := dk_181 0 50 (dk_at dksX2_init_4 21 rfl rfl)
theorem dX2_init_119 : decode cX2_init 119 = .ok (.aload_n 0, 1) := dk_42 (dk_at dksX2_init_5 0 rfl rfl)
theorem dX2_init_120 : decode cX2_init 120 = .ok (.bipush 49, 2) := dk_16 49 (dk_at dksX2_init_5 1 rfl rfl)
theorem dX2_init_122 : decode cX2_init 122 = .ok (.newarray .int, 2) := dk_188_10 (dk_at dksX2_init_5 3 rfl rfl)
theorem dX2_init_124 : decode cX2_init 124 = .ok (.putfield 53, 3) := dk_181 0 53 (dk_at dksX2_init_5 5 rfl rfl)
theorem dX2_init_127 : decode cX2_init 127 = .ok (.aload_n 0, 1) := dk_42 (dk_at dksX2_init_5 8 rfl rfl)
theorem dX2_init_128 : decode cX2_init 128 = .ok (.bipush 7, 2) := dk_16 7 (dk_at dksX2_init_5 9 rfl rfl)
theorem dX2_init_130 : decode cX2_init 130 = .ok (.newarray .int, 2) := dk_188_10 (dk_at dksX2_init_5 11 rfl rfl)
theorem dX2_init_132 : decode cX2_init 132 = .ok (.putfield 56, 3) := dk_181 0 56 (dk_at dksX2_init_5 13 rfl rfl)
theorem dX2_init_135 : decode cX2_init 135 = .ok (.aload_n 0, 1) := dk_42 (dk_at dksX2_init_5 16 rfl rfl)
theorem dX2_init_136 : decode cX2_init 136 = .ok (.bipush 7, 2) := dk_16 7 (dk_at dksX2_init_5 17 rfl rfl)
theorem dX2_init_138 : decode cX2_init 138 = .ok (.newarray .int, 2) := dk_188_10 (dk_at dksX2_init_5 19 rfl rfl)
theorem dX2_init_140 : decode cX2_init 140 = .ok (.putfield 59, 3) := dk_181 0 59 (dk_at dksX2_init_5 21 rfl rfl)
theorem dX2_init_143 : decode cX2_init 143 = .ok (.return_, 1) := dk_177 (dk_at dksX2_init_6 0 rfl rfl)
abbrev cX2_thrown : ByteArray := prog_16_method_2_code
def yX2_thrown : MethodName := ⟨RX2, "thrown", "()I"⟩
theorem dX2_thrown_0 : decode cX2_thrown 0 = .ok (.aload_n 0, 1) := by decide +kernel
theorem dX2_thrown_1 : decode cX2_thrown 1 = .ok (.getfield 62, 3) := by decide +kernel
theorem dX2_thrown_4 : decode cX2_thrown 4 = .ok (.ireturn, 1) := by decide +kernel
abbrev cX2_feed : ByteArray := prog_16_method_11_code
def yX2_feed : MethodName := ⟨RX2, "feed", "(IIIII)I"⟩
def dkwX2_feed_5 : List UInt8 := [167, 255, 162, 42, 180, 0, 68, 172]
abbrev dktX2_feed_5 : List UInt8 := dkwX2_feed_5 ++ []
def dkwX2_feed_4 : List UInt8 := [112, 104, 100, 122, 17, 0, 255, 126, 79, 42, 89, 180, 0, 68, 4, 96, 181, 0, 68, 132, 6, 1]
abbrev dktX2_feed_4 : List UInt8 := dkwX2_feed_4 ++ dktX2_feed_5
def dkwX2_feed_3 : List UInt8 := [167, 0, 5, 21, 5, 54, 7, 42, 180, 0, 7, 42, 180, 0, 68, 21, 7, 16, 24, 16, 8, 21, 6, 7]
abbrev dktX2_feed_3 : List UInt8 := dkwX2_feed_3 ++ dktX2_feed_4
def dkwX2_feed_2 : List UInt8 := [28, 167, 0, 28, 21, 6, 16, 12, 162, 0, 7, 29, 167, 0, 17, 21, 6, 16, 16, 162, 0, 8, 21, 4]
abbrev dktX2_feed_2 : List UInt8 := dkwX2_feed_2 ++ dktX2_feed_3
def dkwX2_feed_1 : List UInt8 := [21, 6, 16, 20, 162, 0, 93, 21, 6, 7, 162, 0, 7, 27, 167, 0, 39, 21, 6, 16, 8, 162, 0, 7]
abbrev dktX2_feed_1 : List UInt8 := dkwX2_feed_1 ++ dktX2_feed_2
def dkwX2_feed_0 : List UInt8 := [42, 3, 181, 0, 62, 42, 180, 0, 68, 16, 20, 96, 17, 3, 232, 164, 0, 5, 2, 172, 3, 54, 6]
abbrev dktX2_feed_0 : List UInt8 := dkwX2_feed_0 ++ dktX2_feed_1
theorem dksX2_feed_0 : cX2_feed.data.toList.drop 0 = dktX2_feed_0 := by decide +kernel
theorem dksX2_feed_1 : cX2_feed.data.toList.drop 23 = dktX2_feed_1 := dk_seg dksX2_feed_0 23 rfl rfl
theorem dksX2_feed_2 : cX2_feed.data.toList.drop 47 = dktX2_feed_2 := dk_seg dksX2_feed_1 24 rfl rfl
theorem dksX2_feed_3 : cX2_feed.data.toList.drop 71 = dktX2_feed_3 := dk_seg dksX2_feed_2 24 rfl rfl
theorem dksX2_feed_4 : cX2_feed.data.toList.drop 95 = dktX2_feed_4 := dk_seg dksX2_feed_3 24 rfl rfl
theorem dksX2_feed_5 : cX2_feed.data.toList.drop 117 = dktX2_feed_5 := dk_seg dksX2_feed_4 22 rfl rfl
theorem dX2_feed_0 : decode cX2_feed 0 = .ok (.aload_n 0, 1) := dk_42 (dk_at dksX2_feed_0 0 rfl rfl)
theorem dX2_feed_1 : decode cX2_feed 1 = .ok (.iconst 0, 1) := dk_3 (dk_at dksX2_feed_0 1 rfl rfl)
theorem dX2_feed_2 : decode cX2_feed 2 = .ok (.putfield 62, 3) := dk_181 0 62 (dk_at dksX2_feed_0 2 rfl rfl)
theorem dX2_feed_5 : decode cX2_feed 5 = .ok (.aload_n 0, 1) := dk_42 (dk_at dksX2_feed_0 5 rfl rfl)
theorem dX2_feed_6 : decode cX2_feed 6 = .ok (.getfield 68, 3) := dk_180 0 68 (dk_at dksX2_feed_0 6 rfl rfl)
theorem dX2_feed_9 : decode cX2_feed 9 = .ok (.bipush 20, 2) := dk_16 20 (dk_at dksX2_feed_0 9 rfl rfl)
theorem dX2_feed_11 : decode cX2_feed 11 = .ok (.iadd, 1) := dk_96 (dk_at dksX2_feed_0 11 rfl rfl)
theorem dX2_feed_12 : decode cX2_feed 12 = .ok (.sipush 1000, 3) := dk_17 3 232 (dk_at dksX2_feed_0 12 rfl rfl)
theorem dX2_feed_15 : decode cX2_feed 15 = .ok (.if_icmp .le 5, 3) := dk_164 0 5 (dk_at dksX2_feed_0 15 rfl rfl)
theorem dX2_feed_18 : decode cX2_feed 18 = .ok (.iconst (-1), 1) := dk_2 (dk_at dksX2_feed_0 18 rfl rfl)
theorem dX2_feed_19 : decode cX2_feed 19 = .ok (.ireturn, 1) := dk_172 (dk_at dksX2_feed_0 19 rfl rfl)
theorem dX2_feed_20 : decode cX2_feed 20 = .ok (.iconst 0, 1) := dk_3 (dk_at dksX2_feed_0 20 rfl rfl)
theorem dX2_feed_21 : decode cX2_feed 21 = .ok (.istore 6, 2) := dk_54 6 (dk_at dksX2_feed_0 21 rfl rfl)
theorem dX2_feed_23 : decode cX2_feed 23 = .ok (.iload 6, 2) := dk_21 6 (dk_at dksX2_feed_1 0 rfl rfl)
theorem dX2_feed_25 : decode cX2_feed 25 = .ok (.bipush 20, 2) := dk_16 20 (dk_at dksX2_feed_1 2 rfl rfl)
theorem dX2_feed_27 : decode cX2_feed 27 = .ok (.if_icmp .ge 93, 3) := dk_162 0 93 (dk_at dksX2_feed_1 4 rfl rfl)
theorem dX2_feed_30 : decode cX2_feed 30 = .ok (.iload 6, 2) := dk_21 6 (dk_at dksX2_feed_1 7 rfl rfl)
theorem dX2_feed_32 : decode cX2_feed 32 = .ok (.iconst 4, 1) := dk_7 (dk_at dksX2_feed_1 9 rfl rfl)
theorem dX2_feed_33 : decode cX2_feed 33 = .ok (.if_icmp .ge 7, 3) := dk_162 0 7 (dk_at dksX2_feed_1 10 rfl rfl)
theorem dX2_feed_36 : decode cX2_feed 36 = .ok (.iload_n 1, 1) := dk_27 (dk_at dksX2_feed_1 13 rfl rfl)
theorem dX2_feed_37 : decode cX2_feed 37 = .ok (.goto 39, 3) := dk_167 0 39 (dk_at dksX2_feed_1 14 rfl rfl)
theorem dX2_feed_40 : decode cX2_feed 40 = .ok (.iload 6, 2) := dk_21 6 (dk_at dksX2_feed_1 17 rfl rfl)
theorem dX2_feed_42 : decode cX2_feed 42 = .ok (.bipush 8, 2) := dk_16 8 (dk_at dksX2_feed_1 19 rfl rfl)
theorem dX2_feed_44 : decode cX2_feed 44 = .ok (.if_icmp .ge 7, 3) := dk_162 0 7 (dk_at dksX2_feed_1 21 rfl rfl)
theorem dX2_feed_47 : decode cX2_feed 47 = .ok (.iload_n 2, 1) := dk_28 (dk_at dksX2_feed_2 0 rfl rfl)
theorem dX2_feed_48 : decode cX2_feed 48 = .ok (.goto 28, 3) := dk_167 0 28 (dk_at dksX2_feed_2 1 rfl rfl)
theorem dX2_feed_51 : decode cX2_feed 51 = .ok (.iload 6, 2) := dk_21 6 (dk_at dksX2_feed_2 4 rfl rfl)
theorem dX2_feed_53 : decode cX2_feed 53 = .ok (.bipush 12, 2) := dk_16 12 (dk_at dksX2_feed_2 6 rfl rfl)
theorem dX2_feed_55 : decode cX2_feed 55 = .ok (.if_icmp .ge 7, 3) := dk_162 0 7 (dk_at dksX2_feed_2 8 rfl rfl)
theorem dX2_feed_58 : decode cX2_feed 58 = .ok (.iload_n 3, 1) := dk_29 (dk_at dksX2_feed_2 11 rfl rfl)
theorem dX2_feed_59 : decode cX2_feed 59 = .ok (.goto 17, 3) := dk_167 0 17 (dk_at dksX2_feed_2 12 rfl rfl)
theorem dX2_feed_62 : decode cX2_feed 62 = .ok (.iload 6, 2) := dk_21 6 (dk_at dksX2_feed_2 15 rfl rfl)
theorem dX2_feed_64 : decode cX2_feed 64 = .ok (.bipush 16, 2) := dk_16 16 (dk_at dksX2_feed_2 17 rfl rfl)
theorem dX2_feed_66 : decode cX2_feed 66 = .ok (.if_icmp .ge 8, 3) := dk_162 0 8 (dk_at dksX2_feed_2 19 rfl rfl)
theorem dX2_feed_69 : decode cX2_feed 69 = .ok (.iload 4, 2) := dk_21 4 (dk_at dksX2_feed_2 22 rfl rfl)
theorem dX2_feed_71 : decode cX2_feed 71 = .ok (.goto 5, 3) := dk_167 0 5 (dk_at dksX2_feed_3 0 rfl rfl)
theorem dX2_feed_74 : decode cX2_feed 74 = .ok (.iload 5, 2) := dk_21 5 (dk_at dksX2_feed_3 3 rfl rfl)
theorem dX2_feed_76 : decode cX2_feed 76 = .ok (.istore 7, 2) := dk_54 7 (dk_at dksX2_feed_3 5 rfl rfl)
theorem dX2_feed_78 : decode cX2_feed 78 = .ok (.aload_n 0, 1) := dk_42 (dk_at dksX2_feed_3 7 rfl rfl)
theorem dX2_feed_79 : decode cX2_feed 79 = .ok (.getfield 7, 3) := dk_180 0 7 (dk_at dksX2_feed_3 8 rfl rfl)
theorem dX2_feed_82 : decode cX2_feed 82 = .ok (.aload_n 0, 1) := dk_42 (dk_at dksX2_feed_3 11 rfl rfl)
theorem dX2_feed_83 : decode cX2_feed 83 = .ok (.getfield 68, 3) := dk_180 0 68 (dk_at dksX2_feed_3 12 rfl rfl)
theorem dX2_feed_86 : decode cX2_feed 86 = .ok (.iload 7, 2) := dk_21 7 (dk_at dksX2_feed_3 15 rfl rfl)
theorem dX2_feed_88 : decode cX2_feed 88 = .ok (.bipush 24, 2) := dk_16 24 (dk_at dksX2_feed_3 17 rfl rfl)
theorem dX2_feed_90 : decode cX2_feed 90 = .ok (.bipush 8, 2) := dk_16 8 (dk_at dksX2_feed_3 19 rfl rfl)
theorem dX2_feed_92 : decode cX2_feed 92 = .ok (.iload 6, 2) := dk_21 6 (dk_at dksX2_feed_3 21 rfl rfl)
theorem dX2_feed_94 : decode cX2_feed 94 = .ok (.iconst 4, 1) := dk_7 (dk_at dksX2_feed_3 23 rfl rfl)
theorem dX2_feed_95 : decode cX2_feed 95 = .ok (.irem, 1) := dk_112 (dk_at dksX2_feed_4 0 rfl rfl)
theorem dX2_feed_96 : decode cX2_feed 96 = .ok (.imul, 1) := dk_104 (dk_at dksX2_feed_4 1 rfl rfl)
theorem dX2_feed_97 : decode cX2_feed 97 = .ok (.isub, 1) := dk_100 (dk_at dksX2_feed_4 2 rfl rfl)
theorem dX2_feed_98 : decode cX2_feed 98 = .ok (.ishr, 1) := dk_122 (dk_at dksX2_feed_4 3 rfl rfl)
theorem dX2_feed_99 : decode cX2_feed 99 = .ok (.sipush 255, 3) := dk_17 0 255 (dk_at dksX2_feed_4 4 rfl rfl)
theorem dX2_feed_102 : decode cX2_feed 102 = .ok (.iand, 1) := dk_126 (dk_at dksX2_feed_4 7 rfl rfl)
theorem dX2_feed_103 : decode cX2_feed 103 = .ok (.iastore, 1) := dk_79 (dk_at dksX2_feed_4 8 rfl rfl)
theorem dX2_feed_104 : decode cX2_feed 104 = .ok (.aload_n 0, 1) := dk_42 (dk_at dksX2_feed_4 9 rfl rfl)
theorem dX2_feed_105 : decode cX2_feed 105 = .ok (.dup, 1) := dk_89 (dk_at dksX2_feed_4 10 rfl rfl)
theorem dX2_feed_106 : decode cX2_feed 106 = .ok (.getfield 68, 3) := dk_180 0 68 (dk_at dksX2_feed_4 11 rfl rfl)
theorem dX2_feed_109 : decode cX2_feed 109 = .ok (.iconst 1, 1) := dk_4 (dk_at dksX2_feed_4 14 rfl rfl)
theorem dX2_feed_110 : decode cX2_feed 110 = .ok (.iadd, 1) := dk_96 (dk_at dksX2_feed_4 15 rfl rfl)
theorem dX2_feed_111 : decode cX2_feed 111 = .ok (.putfield 68, 3) := dk_181 0 68 (dk_at dksX2_feed_4 16 rfl rfl)
theorem dX2_feed_114 : decode cX2_feed 114 = .ok (.iinc 6 1, 3) := dk_132 6 1 (dk_at dksX2_feed_4 19 rfl rfl)
theorem dX2_feed_117 : decode cX2_feed 117 = .ok (.goto (-94), 3) := dk_167 255 162 (dk_at dksX2_feed_5 0 rfl rfl)
theorem dX2_feed_120 : decode cX2_feed 120 = .ok (.aload_n 0, 1) := dk_42 (dk_at dksX2_feed_5 3 rfl rfl)
theorem dX2_feed_121 : decode cX2_feed 121 = .ok (.getfield 68, 3) := dk_180 0 68 (dk_at dksX2_feed_5 4 rfl rfl)
theorem dX2_feed_124 : decode cX2_feed 124 = .ok (.ireturn, 1) := dk_172 (dk_at dksX2_feed_5 7 rfl rfl)
abbrev cX2_post : ByteArray := prog_16_method_28_code
def yX2_post : MethodName := ⟨RX2, "post", "(I)I"⟩
def dkwX2_post_14 : List UInt8 := [42, 180, 0, 20, 7, 46, 172]
abbrev dktX2_post_14 : List UInt8 := dkwX2_post_14 ++ []
def dkwX2_post_13 : List UInt8 := [184, 0, 176, 132, 2, 1, 167, 255, 201, 42, 4, 181, 0, 180, 42, 3, 181, 0, 183, 42, 3, 181, 0, 186]
abbrev dktX2_post_13 : List UInt8 := dkwX2_post_13 ++ dktX2_post_14
def dkwX2_post_12 : List UInt8 := [28, 104, 96, 4, 96, 46, 104, 96, 4, 96, 42, 180, 0, 26, 16, 28, 16, 6, 28, 104, 96, 16, 6]
abbrev dktX2_post_12 : List UInt8 := dkwX2_post_12 ++ dktX2_post_13
def dkwX2_post_11 : List UInt8 := [180, 0, 20, 16, 7, 46, 162, 0, 50, 42, 180, 0, 20, 16, 10, 16, 7, 42, 180, 0, 20, 16, 127, 7]
abbrev dktX2_post_11 : List UInt8 := dkwX2_post_11 ++ dktX2_post_12
def dkwX2_post_10 : List UInt8 := [180, 0, 20, 16, 107, 7, 28, 104, 96, 4, 96, 46, 79, 132, 2, 1, 167, 255, 221, 3, 61, 28, 42]
abbrev dktX2_post_10 : List UInt8 := dkwX2_post_10 ++ dktX2_post_11
def dkwX2_post_9 : List UInt8 := [167, 255, 240, 3, 61, 28, 42, 180, 0, 20, 16, 6, 46, 162, 0, 30, 42, 180, 0, 26, 5, 28, 96, 42]
abbrev dktX2_post_9 : List UInt8 := dkwX2_post_9 ++ dktX2_post_10
def dkwX2_post_8 : List UInt8 := [17, 1, 107, 184, 0, 176, 3, 61, 28, 16, 76, 162, 0, 16, 42, 180, 0, 26, 28, 3, 79, 132, 2, 1]
abbrev dktX2_post_8 : List UInt8 := dkwX2_post_8 ++ dktX2_post_9
def dkwX2_post_7 : List UInt8 := [180, 0, 100, 153, 0, 9, 42, 7, 182, 0, 170, 172, 42, 180, 0, 23, 3, 42, 180, 0, 20, 3]
abbrev dktX2_post_7 : List UInt8 := dkwX2_post_7 ++ dktX2_post_8
def dkwX2_post_6 : List UInt8 := [153, 0, 12, 42, 180, 0, 23, 7, 46, 154, 0, 13, 42, 16, 6, 42, 180, 0, 81, 182, 0, 127, 42]
abbrev dktX2_post_6 : List UInt8 := dkwX2_post_6 ++ dktX2_post_7
def dkwX2_post_5 : List UInt8 := [42, 4, 42, 180, 0, 81, 182, 0, 127, 42, 180, 0, 100, 154, 0, 32, 42, 180, 0, 23, 16, 9, 46]
abbrev dktX2_post_5 : List UInt8 := dkwX2_post_5 ++ dktX2_post_6
def dkwX2_post_4 : List UInt8 := [182, 0, 121, 42, 182, 0, 173, 167, 255, 232, 42, 180, 0, 100, 154, 0, 19, 42, 180, 0, 90, 153, 0, 12]
abbrev dktX2_post_4 : List UInt8 := dkwX2_post_4 ++ dktX2_post_5
def dkwX2_post_3 : List UInt8 := [182, 0, 121, 42, 182, 0, 173, 42, 180, 0, 100, 154, 0, 23, 42, 180, 0, 90, 16, 59, 160, 0, 14, 42]
abbrev dktX2_post_3 : List UInt8 := dkwX2_post_3 ++ dktX2_post_4
def dkwX2_post_2 : List UInt8 := [180, 0, 23, 28, 3, 79, 132, 2, 1, 167, 255, 239, 42, 27, 181, 0, 71, 42, 3, 181, 0, 74, 42]
abbrev dktX2_post_2 : List UInt8 := dkwX2_post_2 ++ dktX2_post_3
def dkwX2_post_1 : List UInt8 := [181, 0, 68, 42, 3, 181, 0, 104, 42, 3, 181, 0, 100, 3, 61, 28, 17, 1, 107, 162, 0, 16, 42]
abbrev dktX2_post_1 : List UInt8 := dkwX2_post_1 ++ dktX2_post_2
def dkwX2_post_0 : List UInt8 := [42, 182, 0, 167, 27, 3, 42, 180, 0, 68, 184, 0, 149, 154, 0, 9, 42, 5, 182, 0, 170, 172, 42, 3]
abbrev dktX2_post_0 : List UInt8 := dkwX2_post_0 ++ dktX2_post_1
theorem dksX2_post_0 : cX2_post.data.toList.drop 0 = dktX2_post_0 := by decide +kernel
theorem dksX2_post_1 : cX2_post.data.toList.drop 24 = dktX2_post_1 := dk_seg dksX2_post_0 24 rfl rfl
theorem dksX2_post_2 : cX2_post.data.toList.drop 47 = dktX2_post_2 := dk_seg dksX2_post_1 23 rfl rfl
theorem dksX2_post_3 : cX2_post.data.toList.drop 70 = dktX2_post_3 := dk_seg dksX2_post_2 23 rfl rfl
theorem dksX2_post_4 : cX2_post.data.toList.drop 94 = dktX2_post_4 := dk_seg dksX2_post_3 24 rfl rfl
theorem dksX2_post_5 : cX2_post.data.toList.drop 118 = dktX2_post_5 := dk_seg dksX2_post_4 24 rfl rfl
theorem dksX2_post_6 : cX2_post.data.toList.drop 141 = dktX2_post_6 := dk_seg dksX2_post_5 23 rfl rfl
theorem dksX2_post_7 : cX2_post.data.toList.drop 164 = dktX2_post_7 := dk_seg dksX2_post_6 23 rfl rfl
theorem dksX2_post_8 : cX2_post.data.toList.drop 186 = dktX2_post_8 := dk_seg dksX2_post_7 22 rfl rfl
theorem dksX2_post_9 : cX2_post.data.toList.drop 210 = dktX2_post_9 := dk_seg dksX2_post_8 24 rfl rfl
theorem dksX2_post_10 : cX2_post.data.toList.drop 234 = dktX2_post_10 := dk_seg dksX2_post_9 24 rfl rfl
theorem dksX2_post_11 : cX2_post.data.toList.drop 257 = dktX2_post_11 := dk_seg dksX2_post_10 23 rfl rfl
theorem dksX2_post_12 : cX2_post.data.toList.drop 281 = dktX2_post_12 := dk_seg dksX2_post_11 24 rfl rfl
theorem dksX2_post_13 : cX2_post.data.toList.drop 304 = dktX2_post_13 := dk_seg dksX2_post_12 23 rfl rfl
theorem dksX2_post_14 : cX2_post.data.toList.drop 328 = dktX2_post_14 := dk_seg dksX2_post_13 24 rfl rfl
theorem dX2_post_0 : decode cX2_post 0 = .ok (.aload_n 0, 1) := dk_42 (dk_at dksX2_post_0 0 rfl rfl)
theorem dX2_post_1 : decode cX2_post 1 = .ok (.invokevirtual 167, 3) := dk_182 0 167 (dk_at dksX2_post_0 1 rfl rfl)
theorem dX2_post_4 : decode cX2_post 4 = .ok (.iload_n 1, 1) := dk_27 (dk_at dksX2_post_0 4 rfl rfl)
theorem dX2_post_5 : decode cX2_post 5 = .ok (.iconst 0, 1) := dk_3 (dk_at dksX2_post_0 5 rfl rfl)
theorem dX2_post_6 : decode cX2_post 6 = .ok (.aload_n 0, 1) := dk_42 (dk_at dksX2_post_0 6 rfl rfl)
theorem dX2_post_7 : decode cX2_post 7 = .ok (.getfield 68, 3) := dk_180 0 68 (dk_at dksX2_post_0 7 rfl rfl)
theorem dX2_post_10 : decode cX2_post 10 = .ok (.invokestatic 149, 3) := dk_184 0 149 (dk_at dksX2_post_0 10 rfl rfl)
theorem dX2_post_13 : decode cX2_post 13 = .ok (.ifCond .ne 9, 3) := dk_154 0 9 (dk_at dksX2_post_0 13 rfl rfl)
theorem dX2_post_16 : decode cX2_post 16 = .ok (.aload_n 0, 1) := dk_42 (dk_at dksX2_post_0 16 rfl rfl)
theorem dX2_post_17 : decode cX2_post 17 = .ok (.iconst 2, 1) := dk_5 (dk_at dksX2_post_0 17 rfl rfl)
theorem dX2_post_18 : decode cX2_post 18 = .ok (.invokevirtual 170, 3) := dk_182 0 170 (dk_at dksX2_post_0 18 rfl rfl)
theorem dX2_post_21 : decode cX2_post 21 = .ok (.ireturn, 1) := dk_172 (dk_at dksX2_post_0 21 rfl rfl)
theorem dX2_post_22 : decode cX2_post 22 = .ok (.aload_n 0, 1) := dk_42 (dk_at dksX2_post_0 22 rfl rfl)
theorem dX2_post_23 : decode cX2_post 23 = .ok (.iconst 0, 1) := dk_3 (dk_at dksX2_post_0 23 rfl rfl)
theorem dX2_post_24 : decode cX2_post 24 = .ok (.putfield 68, 3) := dk_181 0 68 (dk_at dksX2_post_1 0 rfl rfl)
theorem dX2_post_27 : decode cX2_post 27 = .ok (.aload_n 0, 1) := dk_42 (dk_at dksX2_post_1 3 rfl rfl)
theorem dX2_post_28 : decode cX2_post 28 = .ok (.iconst 0, 1) := dk_3 (dk_at dksX2_post_1 4 rfl rfl)
theorem dX2_post_29 : decode cX2_post 29 = .ok (.putfield 104, 3) := dk_181 0 104 (dk_at dksX2_post_1 5 rfl rfl)
theorem dX2_post_32 : decode cX2_post 32 = .ok (.aload_n 0, 1) := dk_42 (dk_at dksX2_post_1 8 rfl rfl)
theorem dX2_post_33 : decode cX2_post 33 = .ok (.iconst 0, 1) := dk_3 (dk_at dksX2_post_1 9 rfl rfl)
theorem dX2_post_34 : decode cX2_post 34 = .ok (.putfield 100, 3) := dk_181 0 100 (dk_at dksX2_post_1 10 rfl rfl)
theorem dX2_post_37 : decode cX2_post 37 = .ok (.iconst 0, 1) := dk_3 (dk_at dksX2_post_1 13 rfl rfl)
theorem dX2_post_38 : decode cX2_post 38 = .ok (.istore_n 2, 1) := dk_61 (dk_at dksX2_post_1 14 rfl rfl)
theorem dX2_post_39 : decode cX2_post 39 = .ok (.iload_n 2, 1) := dk_28 (dk_at dksX2_post_1 15 rfl rfl)
theorem dX2_post_40 : decode cX2_post 40 = .ok (.sipush 363, 3) := dk_17 1 107 (dk_at dksX2_post_1 16 rfl rfl)
theorem dX2_post_43 : decode cX2_post 43 = .ok (.if_icmp .ge 16, 3) := dk_162 0 16 (dk_at dksX2_post_1 19 rfl rfl)
theorem dX2_post_46 : decode cX2_post 46 = .ok (.aload_n 0, 1) := dk_42 (dk_at dksX2_post_1 22 rfl rfl)
theorem dX2_post_47 : decode cX2_post 47 = .ok (.getfield 23, 3) := dk_180 0 23 (dk_at dksX2_post_2 0 rfl rfl)
theorem dX2_post_50 : decode cX2_post 50 = .ok (.iload_n 2, 1) := dk_28 (dk_at dksX2_post_2 3 rfl rfl)
theorem dX2_post_51 : decode cX2_post 51 = .ok (.iconst 0, 1) := dk_3 (dk_at dksX2_post_2 4 rfl rfl)
theorem dX2_post_52 : decode cX2_post 52 = .ok (.iastore, 1) := dk_79 (dk_at dksX2_post_2 5 rfl rfl)
theorem dX2_post_53 : decode cX2_post 53 = .ok (.iinc 2 1, 3) := dk_132 2 1 (dk_at dksX2_post_2 6 rfl rfl)
theorem dX2_post_56 : decode cX2_post 56 = .ok (.goto (-17), 3) := dk_167 255 239 (dk_at dksX2_post_2 9 rfl rfl)
theorem dX2_post_59 : decode cX2_post 59 = .ok (.aload_n 0, 1) := dk_42 (dk_at dksX2_post_2 12 rfl rfl)
theorem dX2_post_60 : decode cX2_post 60 = .ok (.iload_n 1, 1) := dk_27 (dk_at dksX2_post_2 13 rfl rfl)
theorem dX2_post_61 : decode cX2_post 61 = .ok (.putfield 71, 3) := dk_181 0 71 (dk_at dksX2_post_2 14 rfl rfl)
theorem dX2_post_64 : decode cX2_post 64 = .ok (.aload_n 0, 1) := dk_42 (dk_at dksX2_post_2 17 rfl rfl)
theorem dX2_post_65 : decode cX2_post 65 = .ok (.iconst 0, 1) := dk_3 (dk_at dksX2_post_2 18 rfl rfl)
theorem dX2_post_66 : decode cX2_post 66 = .ok (.putfield 74, 3) := dk_181 0 74 (dk_at dksX2_post_2 19 rfl rfl)
theorem dX2_post_69 : decode cX2_post 69 = .ok (.aload_n 0, 1) := dk_42 (dk_at dksX2_post_2 22 rfl rfl)
theorem dX2_post_70 : decode cX2_post 70 = .ok (.invokevirtual 121, 3) := dk_182 0 121 (dk_at dksX2_post_3 0 rfl rfl)
theorem dX2_post_73 : decode cX2_post 73 = .ok (.aload_n 0, 1) := dk_42 (dk_at dksX2_post_3 3 rfl rfl)
theorem dX2_post_74 : decode cX2_post 74 = .ok (.invokevirtual 173, 3) := dk_182 0 173 (dk_at dksX2_post_3 4 rfl rfl)
theorem dX2_post_77 : decode cX2_post 77 = .ok (.aload_n 0, 1) := dk_42 (dk_at dksX2_post_3 7 rfl rfl)
theorem dX2_post_78 : decode cX2_post 78 = .ok (.getfield 100, 3) := dk_180 0 100 (dk_at dksX2_post_3 8 rfl rfl)
theorem dX2_post_81 : decode cX2_post 81 = .ok (.ifCond .ne 23, 3) := dk_154 0 23 (dk_at dksX2_post_3 11 rfl rfl)
theorem dX2_post_84 : decode cX2_post 84 = .ok (.aload_n 0, 1) := dk_42 (dk_at dksX2_post_3 14 rfl rfl)
theorem dX2_post_85 : decode cX2_post 85 = .ok (.getfield 90, 3) := dk_180 0 90 (dk_at dksX2_post_3 15 rfl rfl)
theorem dX2_post_88 : decode cX2_post 88 = .ok (.bipush 59, 2) := dk_16 59 (dk_at dksX2_post_3 18 rfl rfl)
theorem dX2_post_90 : decode cX2_post 90 = .ok (.if_icmp .ne 14, 3) := dk_160 0 14 (dk_at dksX2_post_3 20 rfl rfl)
theorem dX2_post_93 : decode cX2_post 93 = .ok (.aload_n 0, 1) := dk_42 (dk_at dksX2_post_3 23 rfl rfl)
theorem dX2_post_94 : decode cX2_post 94 = .ok (.invokevirtual 121, 3) := dk_182 0 121 (dk_at dksX2_post_4 0 rfl rfl)
theorem dX2_post_97 : decode cX2_post 97 = .ok (.aload_n 0, 1) := dk_42 (dk_at dksX2_post_4 3 rfl rfl)
theorem dX2_post_98 : decode cX2_post 98 = .ok (.invokevirtual 173, 3) := dk_182 0 173 (dk_at dksX2_post_4 4 rfl rfl)
theorem dX2_post_101 : decode cX2_post 101 = .ok (.goto (-24), 3) := dk_167 255 232 (dk_at dksX2_post_4 7 rfl rfl)
theorem dX2_post_104 : decode cX2_post 104 = .ok (.aload_n 0, 1) := dk_42 (dk_at dksX2_post_4 10 rfl rfl)
theorem dX2_post_105 : decode cX2_post 105 = .ok (.getfield 100, 3) := dk_180 0 100 (dk_at dksX2_post_4 11 rfl rfl)
theorem dX2_post_108 : decode cX2_post 108 = .ok (.ifCond .ne 19, 3) := dk_154 0 19 (dk_at dksX2_post_4 14 rfl rfl)
theorem dX2_post_111 : decode cX2_post 111 = .ok (.aload_n 0, 1) := dk_42 (dk_at dksX2_post_4 17 rfl rfl)
theorem dX2_post_112 : decode cX2_post 112 = .ok (.getfield 90, 3) := dk_180 0 90 (dk_at dksX2_post_4 18 rfl rfl)
theorem dX2_post_115 : decode cX2_post 115 = .ok (.ifCond .eq 12, 3) := dk_153 0 12 (dk_at dksX2_post_4 21 rfl rfl)
theorem dX2_post_118 : decode cX2_post 118 = .ok (.aload_n 0, 1) := dk_42 (dk_at dksX2_post_5 0 rfl rfl)
theorem dX2_post_119 : decode cX2_post 119 = .ok (.iconst 1, 1) := dk_4 (dk_at dksX2_post_5 1 rfl rfl)
theorem dX2_post_120 : decode cX2_post 120 = .ok (.aload_n 0, 1) := dk_42 (dk_at dksX2_post_5 2 rfl rfl)
theorem dX2_post_121 : decode cX2_post 121 = .ok (.getfield 81, 3) := dk_180 0 81 (dk_at dksX2_post_5 3 rfl rfl)
theorem dX2_post_124 : decode cX2_post 124 = .ok (.invokevirtual 127, 3) := dk_182 0 127 (dk_at dksX2_post_5 6 rfl rfl)
theorem dX2_post_127 : decode cX2_post 127 = .ok (.aload_n 0, 1) := dk_42 (dk_at dksX2_post_5 9 rfl rfl)
theorem dX2_post_128 : decode cX2_post 128 = .ok (.getfield 100, 3) := dk_180 0 100 (dk_at dksX2_post_5 10 rfl rfl)
theorem dX2_post_131 : decode cX2_post 131 = .ok (.ifCond .ne 32, 3) := dk_154 0 32 (dk_at dksX2_post_5 13 rfl rfl)
theorem dX2_post_134 : decode cX2_post 134 = .ok (.aload_n 0, 1) := dk_42 (dk_at dksX2_post_5 16 rfl rfl)
theorem dX2_post_135 : decode cX2_post 135 = .ok (.getfield 23, 3) := dk_180 0 23 (dk_at dksX2_post_5 17 rfl rfl)
theorem dX2_post_138 : decode cX2_post 138 = .ok (.bipush 9, 2) := dk_16 9 (dk_at dksX2_post_5 20 rfl rfl)
theorem dX2_post_140 : decode cX2_post 140 = .ok (.iaload, 1) := dk_46 (dk_at dksX2_post_5 22 rfl rfl)
theorem dX2_post_141 : decode cX2_post 141 = .ok (.ifCond .eq 12, 3) := dk_153 0 12 (dk_at dksX2_post_6 0 rfl rfl)
theorem dX2_post_144 : decode cX2_post 144 = .ok (.aload_n 0, 1) := dk_42 (dk_at dksX2_post_6 3 rfl rfl)
theorem dX2_post_145 : decode cX2_post 145 = .ok (.getfield 23, 3) := dk_180 0 23 (dk_at dksX2_post_6 4 rfl rfl)
theorem dX2_post_148 : decode cX2_post 148 = .ok (.iconst 4, 1) := dk_7 (dk_at dksX2_post_6 7 rfl rfl)
theorem dX2_post_149 : decode cX2_post 149 = .ok (.iaload, 1) := dk_46 (dk_at dksX2_post_6 8 rfl rfl)
theorem dX2_post_150 : decode cX2_post 150 = .ok (.ifCond .ne 13, 3) := dk_154 0 13 (dk_at dksX2_post_6 9 rfl rfl)
theorem dX2_post_153 : decode cX2_post 153 = .ok (.aload_n 0, 1) := dk_42 (dk_at dksX2_post_6 12 rfl rfl)
theorem dX2_post_154 : decode cX2_post 154 = .ok (.bipush 6, 2) := dk_16 6 (dk_at dksX2_post_6 13 rfl rfl)
theorem dX2_post_156 : decode cX2_post 156 = .ok (.aload_n 0, 1) := dk_42 (dk_at dksX2_post_6 15 rfl rfl)
theorem dX2_post_157 : decode cX2_post 157 = .ok (.getfield 81, 3) := dk_180 0 81 (dk_at dksX2_post_6 16 rfl rfl)
theorem dX2_post_160 : decode cX2_post 160 = .ok (.invokevirtual 127, 3) := dk_182 0 127 (dk_at dksX2_post_6 19 rfl rfl)
theorem dX2_post_163 : decode cX2_post 163 = .ok (.aload_n 0, 1) := dk_42 (dk_at dksX2_post_6 22 rfl rfl)
theorem dX2_post_164 : decode cX2_post 164 = .ok (.getfield 100, 3) := dk_180 0 100 (dk_at dksX2_post_7 0 rfl rfl)
theorem dX2_post_167 : decode cX2_post 167 = .ok (.ifCond .eq 9, 3) := dk_153 0 9 (dk_at dksX2_post_7 3 rfl rfl)
theorem dX2_post_170 : decode cX2_post 170 = .ok (.aload_n 0, 1) := dk_42 (dk_at dksX2_post_7 6 rfl rfl)
theorem dX2_post_171 : decode cX2_post 171 = .ok (.iconst 4, 1) := dk_7 (dk_at dksX2_post_7 7 rfl rfl)
theorem dX2_post_172 : decode cX2_post 172 = .ok (.invokevirtual 170, 3) := dk_182 0 170 (dk_at dksX2_post_7 8 rfl rfl)
theorem dX2_post_175 : decode cX2_post 175 = .ok (.ireturn, 1) := dk_172 (dk_at dksX2_post_7 11 rfl rfl)
theorem dX2_post_176 : decode cX2_post 176 = .ok (.aload_n 0, 1) := dk_42 (dk_at dksX2_post_7 12 rfl rfl)
theorem dX2_post_177 : decode cX2_post 177 = .ok (.getfield 23, 3) := dk_180 0 23 (dk_at dksX2_post_7 13 rfl rfl)
theorem dX2_post_180 : decode cX2_post 180 = .ok (.iconst 0, 1) := dk_3 (dk_at dksX2_post_7 16 rfl rfl)
theorem dX2_post_181 : decode cX2_post 181 = .ok (.aload_n 0, 1) := dk_42 (dk_at dksX2_post_7 17 rfl rfl)
theorem dX2_post_182 : decode cX2_post 182 = .ok (.getfield 20, 3) := dk_180 0 20 (dk_at dksX2_post_7 18 rfl rfl)
theorem dX2_post_185 : decode cX2_post 185 = .ok (.iconst 0, 1) := dk_3 (dk_at dksX2_post_7 21 rfl rfl)
theorem dX2_post_186 : decode cX2_post 186 = .ok (.sipush 363, 3) := dk_17 1 107 (dk_at dksX2_post_8 0 rfl rfl)
theorem dX2_post_189 : decode cX2_post 189 = .ok (.invokestatic 176, 3) := dk_184 0 176 (dk_at dksX2_post_8 3 rfl rfl)
theorem dX2_post_192 : decode cX2_post 192 = .ok (.iconst 0, 1) := dk_3 (dk_at dksX2_post_8 6 rfl rfl)
theorem dX2_post_193 : decode cX2_post 193 = .ok (.istore_n 2, 1) := dk_61 (dk_at dksX2_post_8 7 rfl rfl)
theorem dX2_post_194 : decode cX2_post 194 = .ok (.iload_n 2, 1) := dk_28 (dk_at dksX2_post_8 8 rfl rfl)
theorem dX2_post_195 : decode cX2_post 195 = .ok (.bipush 76, 2) := dk_16 76 (dk_at dksX2_post_8 9 rfl rfl)
theorem dX2_post_197 : decode cX2_post 197 = .ok (.if_icmp .ge 16, 3) := dk_162 0 16 (dk_at dksX2_post_8 11 rfl rfl)
theorem dX2_post_200 : decode cX2_post 200 = .ok (.aload_n 0, 1) := dk_42 (dk_at dksX2_post_8 14 rfl rfl)
theorem dX2_post_201 : decode cX2_post 201 = .ok (.getfield 26, 3) := dk_180 0 26 (dk_at dksX2_post_8 15 rfl rfl)
theorem dX2_post_204 : decode cX2_post 204 = .ok (.iload_n 2, 1) := dk_28 (dk_at dksX2_post_8 18 rfl rfl)
theorem dX2_post_205 : decode cX2_post 205 = .ok (.iconst 0, 1) := dk_3 (dk_at dksX2_post_8 19 rfl rfl)
theorem dX2_post_206 : decode cX2_post 206 = .ok (.iastore, 1) := dk_79 (dk_at dksX2_post_8 20 rfl rfl)
theorem dX2_post_207 : decode cX2_post 207 = .ok (.iinc 2 1, 3) := dk_132 2 1 (dk_at dksX2_post_8 21 rfl rfl)
theorem dX2_post_210 : decode cX2_post 210 = .ok (.goto (-16), 3) := dk_167 255 240 (dk_at dksX2_post_9 0 rfl rfl)
theorem dX2_post_213 : decode cX2_post 213 = .ok (.iconst 0, 1) := dk_3 (dk_at dksX2_post_9 3 rfl rfl)
theorem dX2_post_214 : decode cX2_post 214 = .ok (.istore_n 2, 1) := dk_61 (dk_at dksX2_post_9 4 rfl rfl)
theorem dX2_post_215 : decode cX2_post 215 = .ok (.iload_n 2, 1) := dk_28 (dk_at dksX2_post_9 5 rfl rfl)
theorem dX2_post_216 : decode cX2_post 216 = .ok (.aload_n 0, 1) := dk_42 (dk_at dksX2_post_9 6 rfl rfl)
theorem dX2_post_217 : decode cX2_post 217 = .ok (.getfield 20, 3) := dk_180 0 20 (dk_at dksX2_post_9 7 rfl rfl)
theorem dX2_post_220 : decode cX2_post 220 = .ok (.bipush 6, 2) := dk_16 6 (dk_at dksX2_post_9 10 rfl rfl)
theorem dX2_post_222 : decode cX2_post 222 = .ok (.iaload, 1) := dk_46 (dk_at dksX2_post_9 12 rfl rfl)
theorem dX2_post_223 : decode cX2_post 223 = .ok (.if_icmp .ge 30, 3) := dk_162 0 30 (dk_at dksX2_post_9 13 rfl rfl)
theorem dX2_post_226 : decode cX2_post 226 = .ok (.aload_n 0, 1) := dk_42 (dk_at dksX2_post_9 16 rfl rfl)
theorem dX2_post_227 : decode cX2_post 227 = .ok (.getfield 26, 3) := dk_180 0 26 (dk_at dksX2_post_9 17 rfl rfl)
theorem dX2_post_230 : decode cX2_post 230 = .ok (.iconst 2, 1) := dk_5 (dk_at dksX2_post_9 20 rfl rfl)
theorem dX2_post_231 : decode cX2_post 231 = .ok (.iload_n 2, 1) := dk_28 (dk_at dksX2_post_9 21 rfl rfl)
theorem dX2_post_232 : decode cX2_post 232 = .ok (.iadd, 1) := dk_96 (dk_at dksX2_post_9 22 rfl rfl)
theorem dX2_post_233 : decode cX2_post 233 = .ok (.aload_n 0, 1) := dk_42 (dk_at dksX2_post_9 23 rfl rfl)
theorem dX2_post_234 : decode cX2_post 234 = .ok (.getfield 20, 3) := dk_180 0 20 (dk_at dksX2_post_10 0 rfl rfl)
theorem dX2_post_237 : decode cX2_post 237 = .ok (.bipush 107, 2) := dk_16 107 (dk_at dksX2_post_10 3 rfl rfl)
theorem dX2_post_239 : decode cX2_post 239 = .ok (.iconst 4, 1) := dk_7 (dk_at dksX2_post_10 5 rfl rfl)
theorem dX2_post_240 : decode cX2_post 240 = .ok (.iload_n 2, 1) := dk_28 (dk_at dksX2_post_10 6 rfl rfl)
theorem dX2_post_241 : decode cX2_post 241 = .ok (.imul, 1) := dk_104 (dk_at dksX2_post_10 7 rfl rfl)
theorem dX2_post_242 : decode cX2_post 242 = .ok (.iadd, 1) := dk_96 (dk_at dksX2_post_10 8 rfl rfl)
theorem dX2_post_243 : decode cX2_post 243 = .ok (.iconst 1, 1) := dk_4 (dk_at dksX2_post_10 9 rfl rfl)
theorem dX2_post_244 : decode cX2_post 244 = .ok (.iadd, 1) := dk_96 (dk_at dksX2_post_10 10 rfl rfl)
theorem dX2_post_245 : decode cX2_post 245 = .ok (.iaload, 1) := dk_46 (dk_at dksX2_post_10 11 rfl rfl)
theorem dX2_post_246 : decode cX2_post 246 = .ok (.iastore, 1) := dk_79 (dk_at dksX2_post_10 12 rfl rfl)
theorem dX2_post_247 : decode cX2_post 247 = .ok (.iinc 2 1, 3) := dk_132 2 1 (dk_at dksX2_post_10 13 rfl rfl)
theorem dX2_post_250 : decode cX2_post 250 = .ok (.goto (-35), 3) := dk_167 255 221 (dk_at dksX2_post_10 16 rfl rfl)
theorem dX2_post_253 : decode cX2_post 253 = .ok (.iconst 0, 1) := dk_3 (dk_at dksX2_post_10 19 rfl rfl)
theorem dX2_post_254 : decode cX2_post 254 = .ok (.istore_n 2, 1) := dk_61 (dk_at dksX2_post_10 20 rfl rfl)
theorem dX2_post_255 : decode cX2_post 255 = .ok (.iload_n 2, 1) := dk_28 (dk_at dksX2_post_10 21 rfl rfl)
theorem dX2_post_256 : decode cX2_post 256 = .ok (.aload_n 0, 1) := dk_42 (dk_at dksX2_post_10 22 rfl rfl)
theorem dX2_post_257 : decode cX2_post 257 = .ok (.getfield 20, 3) := dk_180 0 20 (dk_at dksX2_post_11 0 rfl rfl)
theorem dX2_post_260 : decode cX2_post 260 = .ok (.bipush 7, 2) := dk_16 7 (dk_at dksX2_post_11 3 rfl rfl)
theorem dX2_post_262 : decode cX2_post 262 = .ok (.iaload, 1) := dk_46 (dk_at dksX2_post_11 5 rfl rfl)
theorem dX2_post_263 : decode cX2_post 263 = .ok (.if_icmp .ge 50, 3) := dk_162 0 50 (dk_at dksX2_post_11 6 rfl rfl)
theorem dX2_post_266 : decode cX2_post 266 = .ok (.aload_n 0, 1) := dk_42 (dk_at dksX2_post_11 9 rfl rfl)
theorem dX2_post_267 : decode cX2_post 267 = .ok (.getfield 20, 3) := dk_180 0 20 (dk_at dksX2_post_11 10 rfl rfl)
theorem dX2_post_270 : decode cX2_post 270 = .ok (.bipush 10, 2) := dk_16 10 (dk_at dksX2_post_11 13 rfl rfl)
theorem dX2_post_272 : decode cX2_post 272 = .ok (.bipush 7, 2) := dk_16 7 (dk_at dksX2_post_11 15 rfl rfl)
theorem dX2_post_274 : decode cX2_post 274 = .ok (.aload_n 0, 1) := dk_42 (dk_at dksX2_post_11 17 rfl rfl)
theorem dX2_post_275 : decode cX2_post 275 = .ok (.getfield 20, 3) := dk_180 0 20 (dk_at dksX2_post_11 18 rfl rfl)
theorem dX2_post_278 : decode cX2_post 278 = .ok (.bipush 127, 2) := dk_16 127 (dk_at dksX2_post_11 21 rfl rfl)
theorem dX2_post_280 : decode cX2_post 280 = .ok (.iconst 4, 1) := dk_7 (dk_at dksX2_post_11 23 rfl rfl)
theorem dX2_post_281 : decode cX2_post 281 = .ok (.iload_n 2, 1) := dk_28 (dk_at dksX2_post_12 0 rfl rfl)
theorem dX2_post_282 : decode cX2_post 282 = .ok (.imul, 1) := dk_104 (dk_at dksX2_post_12 1 rfl rfl)
theorem dX2_post_283 : decode cX2_post 283 = .ok (.iadd, 1) := dk_96 (dk_at dksX2_post_12 2 rfl rfl)
theorem dX2_post_284 : decode cX2_post 284 = .ok (.iconst 1, 1) := dk_4 (dk_at dksX2_post_12 3 rfl rfl)
theorem dX2_post_285 : decode cX2_post 285 = .ok (.iadd, 1) := dk_96 (dk_at dksX2_post_12 4 rfl rfl)
theorem dX2_post_286 : decode cX2_post 286 = .ok (.iaload, 1) := dk_46 (dk_at dksX2_post_12 5 rfl rfl)
theorem dX2_post_287 : decode cX2_post 287 = .ok (.imul, 1) := dk_104 (dk_at dksX2_post_12 6 rfl rfl)
theorem dX2_post_288 : decode cX2_post 288 = .ok (.iadd, 1) := dk_96 (dk_at dksX2_post_12 7 rfl rfl)
theorem dX2_post_289 : decode cX2_post 289 = .ok (.iconst 1, 1) := dk_4 (dk_at dksX2_post_12 8 rfl rfl)
theorem dX2_post_290 : decode cX2_post 290 = .ok (.iadd, 1) := dk_96 (dk_at dksX2_post_12 9 rfl rfl)
theorem dX2_post_291 : decode cX2_post 291 = .ok (.aload_n 0, 1) := dk_42 (dk_at dksX2_post_12 10 rfl rfl)
theorem dX2_post_292 : decode cX2_post 292 = .ok (.getfield 26, 3) := dk_180 0 26 (dk_at dksX2_post_12 11 rfl rfl)
theorem dX2_post_295 : decode cX2_post 295 = .ok (.bipush 28, 2) := dk_16 28 (dk_at dksX2_post_12 14 rfl rfl)
theorem dX2_post_297 : decode cX2_post 297 = .ok (.bipush 6, 2) := dk_16 6 (dk_at dksX2_post_12 16 rfl rfl)
theorem dX2_post_299 : decode cX2_post 299 = .ok (.iload_n 2, 1) := dk_28 (dk_at dksX2_post_12 18 rfl rfl)
theorem dX2_post_300 : decode cX2_post 300 = .ok (.imul, 1) := dk_104 (dk_at dksX2_post_12 19 rfl rfl)
theorem dX2_post_301 : decode cX2_post 301 = .ok (.iadd, 1) := dk_96 (dk_at dksX2_post_12 20 rfl rfl)
theorem dX2_post_302 : decode cX2_post 302 = .ok (.bipush 6, 2) := dk_16 6 (dk_at dksX2_post_12 21 rfl rfl)
theorem dX2_post_304 : decode cX2_post 304 = .ok (.invokestatic 176, 3) := dk_184 0 176 (dk_at dksX2_post_13 0 rfl rfl)
theorem dX2_post_307 : decode cX2_post 307 = .ok (.iinc 2 1, 3) := dk_132 2 1 (dk_at dksX2_post_13 3 rfl rfl)
theorem dX2_post_310 : decode cX2_post 310 = .ok (.goto (-55), 3) := dk_167 255 201 (dk_at dksX2_post_13 6 rfl rfl)
theorem dX2_post_313 : decode cX2_post 313 = .ok (.aload_n 0, 1) := dk_42 (dk_at dksX2_post_13 9 rfl rfl)
theorem dX2_post_314 : decode cX2_post 314 = .ok (.iconst 1, 1) := dk_4 (dk_at dksX2_post_13 10 rfl rfl)
theorem dX2_post_315 : decode cX2_post 315 = .ok (.putfield 180, 3) := dk_181 0 180 (dk_at dksX2_post_13 11 rfl rfl)
theorem dX2_post_318 : decode cX2_post 318 = .ok (.aload_n 0, 1) := dk_42 (dk_at dksX2_post_13 14 rfl rfl)
theorem dX2_post_319 : decode cX2_post 319 = .ok (.iconst 0, 1) := dk_3 (dk_at dksX2_post_13 15 rfl rfl)
theorem dX2_post_320 : decode cX2_post 320 = .ok (.putfield 183, 3) := dk_181 0 183 (dk_at dksX2_post_13 16 rfl rfl)
theorem dX2_post_323 : decode cX2_post 323 = .ok (.aload_n 0, 1) := dk_42 (dk_at dksX2_post_13 19 rfl rfl)
theorem dX2_post_324 : decode cX2_post 324 = .ok (.iconst 0, 1) := dk_3 (dk_at dksX2_post_13 20 rfl rfl)
theorem dX2_post_325 : decode cX2_post 325 = .ok (.putfield 186, 3) := dk_181 0 186 (dk_at dksX2_post_13 21 rfl rfl)
theorem dX2_post_328 : decode cX2_post 328 = .ok (.aload_n 0, 1) := dk_42 (dk_at dksX2_post_14 0 rfl rfl)
theorem dX2_post_329 : decode cX2_post 329 = .ok (.getfield 20, 3) := dk_180 0 20 (dk_at dksX2_post_14 1 rfl rfl)
theorem dX2_post_332 : decode cX2_post 332 = .ok (.iconst 4, 1) := dk_7 (dk_at dksX2_post_14 4 rfl rfl)
theorem dX2_post_333 : decode cX2_post 333 = .ok (.iaload, 1) := dk_46 (dk_at dksX2_post_14 5 rfl rfl)
theorem dX2_post_334 : decode cX2_post 334 = .ok (.ireturn, 1) := dk_172 (dk_at dksX2_post_14 6 rfl rfl)
abbrev cX2_good : ByteArray := prog_16_method_3_code
def yX2_good : MethodName := ⟨RX2, "good", "()V"⟩
def dkwX2_good_0 : List UInt8 := [42, 3, 181, 0, 62, 42, 3, 181, 0, 65, 177]
abbrev dktX2_good_0 : List UInt8 := dkwX2_good_0 ++ []
theorem dksX2_good_0 : cX2_good.data.toList.drop 0 = dktX2_good_0 := by decide +kernel
theorem dX2_good_0 : decode cX2_good 0 = .ok (.aload_n 0, 1) := dk_42 (dk_at dksX2_good_0 0 rfl rfl)
theorem dX2_good_1 : decode cX2_good 1 = .ok (.iconst 0, 1) := dk_3 (dk_at dksX2_good_0 1 rfl rfl)
theorem dX2_good_2 : decode cX2_good 2 = .ok (.putfield 62, 3) := dk_181 0 62 (dk_at dksX2_good_0 2 rfl rfl)
theorem dX2_good_5 : decode cX2_good 5 = .ok (.aload_n 0, 1) := dk_42 (dk_at dksX2_good_0 5 rfl rfl)
theorem dX2_good_6 : decode cX2_good 6 = .ok (.iconst 0, 1) := dk_3 (dk_at dksX2_good_0 6 rfl rfl)
theorem dX2_good_7 : decode cX2_good 7 = .ok (.putfield 65, 3) := dk_181 0 65 (dk_at dksX2_good_0 7 rfl rfl)
theorem dX2_good_10 : decode cX2_good 10 = .ok (.return_, 1) := dk_177 (dk_at dksX2_good_0 10 rfl rfl)
abbrev cX2_in : ByteArray := prog_16_method_6_code
def yX2_in : MethodName := ⟨RX2, "in", "(III)Z"⟩
def dkwX2_in_0 : List UInt8 := [26, 27, 161, 0, 12, 26, 28, 163, 0, 7, 4, 167, 0, 4, 3, 172]
abbrev dktX2_in_0 : List UInt8 := dkwX2_in_0 ++ []
theorem dksX2_in_0 : cX2_in.data.toList.drop 0 = dktX2_in_0 := by decide +kernel
theorem dX2_in_0 : decode cX2_in 0 = .ok (.iload_n 0, 1) := dk_26 (dk_at dksX2_in_0 0 rfl rfl)
theorem dX2_in_1 : decode cX2_in 1 = .ok (.iload_n 1, 1) := dk_27 (dk_at dksX2_in_0 1 rfl rfl)
theorem dX2_in_2 : decode cX2_in 2 = .ok (.if_icmp .lt 12, 3) := dk_161 0 12 (dk_at dksX2_in_0 2 rfl rfl)
theorem dX2_in_5 : decode cX2_in 5 = .ok (.iload_n 0, 1) := dk_26 (dk_at dksX2_in_0 5 rfl rfl)
theorem dX2_in_6 : decode cX2_in 6 = .ok (.iload_n 2, 1) := dk_28 (dk_at dksX2_in_0 6 rfl rfl)
theorem dX2_in_7 : decode cX2_in 7 = .ok (.if_icmp .gt 7, 3) := dk_163 0 7 (dk_at dksX2_in_0 7 rfl rfl)
theorem dX2_in_10 : decode cX2_in 10 = .ok (.iconst 1, 1) := dk_4 (dk_at dksX2_in_0 10 rfl rfl)
theorem dX2_in_11 : decode cX2_in 11 = .ok (.goto 4, 3) := dk_167 0 4 (dk_at dksX2_in_0 11 rfl rfl)
theorem dX2_in_14 : decode cX2_in 14 = .ok (.iconst 0, 1) := dk_3 (dk_at dksX2_in_0 14 rfl rfl)
theorem dX2_in_15 : decode cX2_in 15 = .ok (.ireturn, 1) := dk_172 (dk_at dksX2_in_0 15 rfl rfl)
abbrev cX2_no : ByteArray := prog_16_method_4_code
def yX2_no : MethodName := ⟨RX2, "no", "(I)I"⟩
def dkwX2_no_0 : List UInt8 := [42, 27, 181, 0, 65, 2, 172]
abbrev dktX2_no_0 : List UInt8 := dkwX2_no_0 ++ []
theorem dksX2_no_0 : cX2_no.data.toList.drop 0 = dktX2_no_0 := by decide +kernel
theorem dX2_no_0 : decode cX2_no 0 = .ok (.aload_n 0, 1) := dk_42 (dk_at dksX2_no_0 0 rfl rfl)
theorem dX2_no_1 : decode cX2_no 1 = .ok (.iload_n 1, 1) := dk_27 (dk_at dksX2_no_0 1 rfl rfl)
theorem dX2_no_2 : decode cX2_no 2 = .ok (.putfield 65, 3) := dk_181 0 65 (dk_at dksX2_no_0 2 rfl rfl)
theorem dX2_no_5 : decode cX2_no 5 = .ok (.iconst (-1), 1) := dk_2 (dk_at dksX2_no_0 5 rfl rfl)
theorem dX2_no_6 : decode cX2_no 6 = .ok (.ireturn, 1) := dk_172 (dk_at dksX2_no_0 6 rfl rfl)
abbrev cX2_next : ByteArray := prog_16_method_15_code
def yX2_next : MethodName := ⟨RX2, "next", "()V"⟩
def dkwX2_next_10 : List UInt8 := [160, 0, 7, 28, 167, 0, 4, 4, 181, 0, 90, 177]
abbrev dktX2_next_10 : List UInt8 := dkwX2_next_10 ++ []
def dkwX2_next_9 : List UInt8 := [4, 167, 0, 4, 6, 181, 0, 90, 167, 0, 25, 42, 27, 4, 96, 181, 0, 74, 42, 28, 16, 59]
abbrev dktX2_next_9 : List UInt8 := dkwX2_next_9 ++ dktX2_next_10
def dkwX2_next_8 : List UInt8 := [100, 181, 0, 87, 132, 3, 1, 132, 1, 1, 167, 255, 214, 42, 27, 181, 0, 74, 42, 29, 7, 164, 0, 7]
abbrev dktX2_next_8 : List UInt8 := dkwX2_next_8 ++ dktX2_next_9
def dkwX2_next_7 : List UInt8 := [153, 0, 37, 29, 7, 162, 0, 23, 42, 16, 10, 42, 180, 0, 87, 104, 42, 27, 182, 0, 77, 96, 16, 48]
abbrev dktX2_next_7 : List UInt8 := dkwX2_next_7 ++ dktX2_next_8
def dkwX2_next_6 : List UInt8 := [181, 0, 90, 167, 0, 101, 28, 184, 0, 97, 153, 0, 72, 3, 62, 42, 27, 182, 0, 77, 184, 0, 97]
abbrev dktX2_next_6 : List UInt8 := dkwX2_next_6 ++ dktX2_next_7
def dkwX2_next_5 : List UInt8 := [167, 255, 209, 42, 27, 181, 0, 74, 42, 42, 180, 0, 84, 16, 8, 164, 0, 7, 4, 167, 0, 4, 5]
abbrev dktX2_next_5 : List UInt8 := dkwX2_next_5 ++ dktX2_next_6
def dkwX2_next_4 : List UInt8 := [180, 0, 84, 42, 27, 182, 0, 77, 79, 42, 89, 180, 0, 84, 4, 96, 181, 0, 84, 132, 1, 1]
abbrev dktX2_next_4 : List UInt8 := dkwX2_next_4 ++ dktX2_next_5
def dkwX2_next_3 : List UInt8 := [182, 0, 77, 184, 0, 93, 153, 0, 42, 42, 180, 0, 84, 16, 8, 162, 0, 17, 42, 180, 0, 17, 42]
abbrev dktX2_next_3 : List UInt8 := dkwX2_next_3 ++ dktX2_next_4
def dkwX2_next_2 : List UInt8 := [42, 3, 181, 0, 90, 42, 27, 181, 0, 74, 167, 0, 184, 28, 184, 0, 93, 153, 0, 79, 42, 27]
abbrev dktX2_next_2 : List UInt8 := dkwX2_next_2 ++ dktX2_next_3
def dkwX2_next_1 : List UInt8 := [181, 0, 81, 42, 27, 182, 0, 77, 61, 42, 3, 181, 0, 84, 42, 3, 181, 0, 87, 28, 2, 160, 0, 16]
abbrev dktX2_next_1 : List UInt8 := dkwX2_next_1 ++ dktX2_next_2
def dkwX2_next_0 : List UInt8 := [42, 180, 0, 74, 60, 42, 27, 182, 0, 77, 16, 32, 160, 0, 9, 132, 1, 1, 167, 255, 243, 42, 27]
abbrev dktX2_next_0 : List UInt8 := dkwX2_next_0 ++ dktX2_next_1
theorem dksX2_next_0 : cX2_next.data.toList.drop 0 = dktX2_next_0 := by decide +kernel
theorem dksX2_next_1 : cX2_next.data.toList.drop 23 = dktX2_next_1 := dk_seg dksX2_next_0 23 rfl rfl
theorem dksX2_next_2 : cX2_next.data.toList.drop 47 = dktX2_next_2 := dk_seg dksX2_next_1 24 rfl rfl
theorem dksX2_next_3 : cX2_next.data.toList.drop 69 = dktX2_next_3 := dk_seg dksX2_next_2 22 rfl rfl
theorem dksX2_next_4 : cX2_next.data.toList.drop 92 = dktX2_next_4 := dk_seg dksX2_next_3 23 rfl rfl
theorem dksX2_next_5 : cX2_next.data.toList.drop 114 = dktX2_next_5 := dk_seg dksX2_next_4 22 rfl rfl
theorem dksX2_next_6 : cX2_next.data.toList.drop 137 = dktX2_next_6 := dk_seg dksX2_next_5 23 rfl rfl
theorem dksX2_next_7 : cX2_next.data.toList.drop 160 = dktX2_next_7 := dk_seg dksX2_next_6 23 rfl rfl
theorem dksX2_next_8 : cX2_next.data.toList.drop 184 = dktX2_next_8 := dk_seg dksX2_next_7 24 rfl rfl
theorem dksX2_next_9 : cX2_next.data.toList.drop 208 = dktX2_next_9 := dk_seg dksX2_next_8 24 rfl rfl
theorem dksX2_next_10 : cX2_next.data.toList.drop 230 = dktX2_next_10 := dk_seg dksX2_next_9 22 rfl rfl
theorem dX2_next_0 : decode cX2_next 0 = .ok (.aload_n 0, 1) := dk_42 (dk_at dksX2_next_0 0 rfl rfl)
theorem dX2_next_1 : decode cX2_next 1 = .ok (.getfield 74, 3) := dk_180 0 74 (dk_at dksX2_next_0 1 rfl rfl)
theorem dX2_next_4 : decode cX2_next 4 = .ok (.istore_n 1, 1) := dk_60 (dk_at dksX2_next_0 4 rfl rfl)
theorem dX2_next_5 : decode cX2_next 5 = .ok (.aload_n 0, 1) := dk_42 (dk_at dksX2_next_0 5 rfl rfl)
theorem dX2_next_6 : decode cX2_next 6 = .ok (.iload_n 1, 1) := dk_27 (dk_at dksX2_next_0 6 rfl rfl)
theorem dX2_next_7 : decode cX2_next 7 = .ok (.invokevirtual 77, 3) := dk_182 0 77 (dk_at dksX2_next_0 7 rfl rfl)
theorem dX2_next_10 : decode cX2_next 10 = .ok (.bipush 32, 2) := dk_16 32 (dk_at dksX2_next_0 10 rfl rfl)
theorem dX2_next_12 : decode cX2_next 12 = .ok (.if_icmp .ne 9, 3) := dk_160 0 9 (dk_at dksX2_next_0 12 rfl rfl)
theorem dX2_next_15 : decode cX2_next 15 = .ok (.iinc 1 1, 3) := dk_132 1 1 (dk_at dksX2_next_0 15 rfl rfl)
theorem dX2_next_18 : decode cX2_next 18 = .ok (.goto (-13), 3) := dk_167 255 243 (dk_at dksX2_next_0 18 rfl rfl)
theorem dX2_next_21 : decode cX2_next 21 = .ok (.aload_n 0, 1) := dk_42 (dk_at dksX2_next_0 21 rfl rfl)
theorem dX2_next_22 : decode cX2_next 22 = .ok (.iload_n 1, 1) := dk_27 (dk_at dksX2_next_0 22 rfl rfl)
theorem dX2_next_23 : decode cX2_next 23 = .ok (.putfield 81, 3) := dk_181 0 81 (dk_at dksX2_next_1 0 rfl rfl)
theorem dX2_next_26 : decode cX2_next 26 = .ok (.aload_n 0, 1) := dk_42 (dk_at dksX2_next_1 3 rfl rfl)
theorem dX2_next_27 : decode cX2_next 27 = .ok (.iload_n 1, 1) := dk_27 (dk_at dksX2_next_1 4 rfl rfl)
theorem dX2_next_28 : decode cX2_next 28 = .ok (.invokevirtual 77, 3) := dk_182 0 77 (dk_at dksX2_next_1 5 rfl rfl)
theorem dX2_next_31 : decode cX2_next 31 = .ok (.istore_n 2, 1) := dk_61 (dk_at dksX2_next_1 8 rfl rfl)
theorem dX2_next_32 : decode cX2_next 32 = .ok (.aload_n 0, 1) := dk_42 (dk_at dksX2_next_1 9 rfl rfl)
theorem dX2_next_33 : decode cX2_next 33 = .ok (.iconst 0, 1) := dk_3 (dk_at dksX2_next_1 10 rfl rfl)
theorem dX2_next_34 : decode cX2_next 34 = .ok (.putfield 84, 3) := dk_181 0 84 (dk_at dksX2_next_1 11 rfl rfl)
theorem dX2_next_37 : decode cX2_next 37 = .ok (.aload_n 0, 1) := dk_42 (dk_at dksX2_next_1 14 rfl rfl)
theorem dX2_next_38 : decode cX2_next 38 = .ok (.iconst 0, 1) := dk_3 (dk_at dksX2_next_1 15 rfl rfl)
theorem dX2_next_39 : decode cX2_next 39 = .ok (.putfield 87, 3) := dk_181 0 87 (dk_at dksX2_next_1 16 rfl rfl)
theorem dX2_next_42 : decode cX2_next 42 = .ok (.iload_n 2, 1) := dk_28 (dk_at dksX2_next_1 19 rfl rfl)
theorem dX2_next_43 : decode cX2_next 43 = .ok (.iconst (-1), 1) := dk_2 (dk_at dksX2_next_1 20 rfl rfl)
theorem dX2_next_44 : decode cX2_next 44 = .ok (.if_icmp .ne 16, 3) := dk_160 0 16 (dk_at dksX2_next_1 21 rfl rfl)
theorem dX2_next_47 : decode cX2_next 47 = .ok (.aload_n 0, 1) := dk_42 (dk_at dksX2_next_2 0 rfl rfl)
theorem dX2_next_48 : decode cX2_next 48 = .ok (.iconst 0, 1) := dk_3 (dk_at dksX2_next_2 1 rfl rfl)
theorem dX2_next_49 : decode cX2_next 49 = .ok (.putfield 90, 3) := dk_181 0 90 (dk_at dksX2_next_2 2 rfl rfl)
theorem dX2_next_52 : decode cX2_next 52 = .ok (.aload_n 0, 1) := dk_42 (dk_at dksX2_next_2 5 rfl rfl)
theorem dX2_next_53 : decode cX2_next 53 = .ok (.iload_n 1, 1) := dk_27 (dk_at dksX2_next_2 6 rfl rfl)
theorem dX2_next_54 : decode cX2_next 54 = .ok (.putfield 74, 3) := dk_181 0 74 (dk_at dksX2_next_2 7 rfl rfl)
theorem dX2_next_57 : decode cX2_next 57 = .ok (.goto 184, 3) := dk_167 0 184 (dk_at dksX2_next_2 10 rfl rfl)
theorem dX2_next_60 : decode cX2_next 60 = .ok (.iload_n 2, 1) := dk_28 (dk_at dksX2_next_2 13 rfl rfl)
theorem dX2_next_61 : decode cX2_next 61 = .ok (.invokestatic 93, 3) := dk_184 0 93 (dk_at dksX2_next_2 14 rfl rfl)
theorem dX2_next_64 : decode cX2_next 64 = .ok (.ifCond .eq 79, 3) := dk_153 0 79 (dk_at dksX2_next_2 17 rfl rfl)
theorem dX2_next_67 : decode cX2_next 67 = .ok (.aload_n 0, 1) := dk_42 (dk_at dksX2_next_2 20 rfl rfl)
theorem dX2_next_68 : decode cX2_next 68 = .ok (.iload_n 1, 1) := dk_27 (dk_at dksX2_next_2 21 rfl rfl)
theorem dX2_next_69 : decode cX2_next 69 = .ok (.invokevirtual 77, 3) := dk_182 0 77 (dk_at dksX2_next_3 0 rfl rfl)
theorem dX2_next_72 : decode cX2_next 72 = .ok (.invokestatic 93, 3) := dk_184 0 93 (dk_at dksX2_next_3 3 rfl rfl)
theorem dX2_next_75 : decode cX2_next 75 = .ok (.ifCond .eq 42, 3) := dk_153 0 42 (dk_at dksX2_next_3 6 rfl rfl)
theorem dX2_next_78 : decode cX2_next 78 = .ok (.aload_n 0, 1) := dk_42 (dk_at dksX2_next_3 9 rfl rfl)
theorem dX2_next_79 : decode cX2_next 79 = .ok (.getfield 84, 3) := dk_180 0 84 (dk_at dksX2_next_3 10 rfl rfl)
theorem dX2_next_82 : decode cX2_next 82 = .ok (.bipush 8, 2) := dk_16 8 (dk_at dksX2_next_3 13 rfl rfl)
theorem dX2_next_84 : decode cX2_next 84 = .ok (.if_icmp .ge 17, 3) := dk_162 0 17 (dk_at dksX2_next_3 15 rfl rfl)
theorem dX2_next_87 : decode cX2_next 87 = .ok (.aload_n 0, 1) := dk_42 (dk_at dksX2_next_3 18 rfl rfl)
theorem dX2_next_88 : decode cX2_next 88 = .ok (.getfield 17, 3) := dk_180 0 17 (dk_at dksX2_next_3 19 rfl rfl)
theorem dX2_next_91 : decode cX2_next 91 = .ok (.aload_n 0, 1) := dk_42 (dk_at dksX2_next_3 22 rfl rfl)
theorem dX2_next_92 : decode cX2_next 92 = .ok (.getfield 84, 3) := dk_180 0 84 (dk_at dksX2_next_4 0 rfl rfl)
theorem dX2_next_95 : decode cX2_next 95 = .ok (.aload_n 0, 1) := dk_42 (dk_at dksX2_next_4 3 rfl rfl)
theorem dX2_next_96 : decode cX2_next 96 = .ok (.iload_n 1, 1) := dk_27 (dk_at dksX2_next_4 4 rfl rfl)
theorem dX2_next_97 : decode cX2_next 97 = .ok (.invokevirtual 77, 3) := dk_182 0 77 (dk_at dksX2_next_4 5 rfl rfl)
theorem dX2_next_100 : decode cX2_next 100 = .ok (.iastore, 1) := dk_79 (dk_at dksX2_next_4 8 rfl rfl)
theorem dX2_next_101 : decode cX2_next 101 = .ok (.aload_n 0, 1) := dk_42 (dk_at dksX2_next_4 9 rfl rfl)
theorem dX2_next_102 : decode cX2_next 102 = .ok (.dup, 1) := dk_89 (dk_at dksX2_next_4 10 rfl rfl)
theorem dX2_next_103 : decode cX2_next 103 = .ok (.getfield 84, 3) := dk_180 0 84 (dk_at dksX2_next_4 11 rfl rfl)
theorem dX2_next_106 : decode cX2_next 106 = .ok (.iconst 1, 1) := dk_4 (dk_at dksX2_next_4 14 rfl rfl)
theorem dX2_next_107 : decode cX2_next 107 = .ok (.iadd, 1) := dk_96 (dk_at dksX2_next_4 15 rfl rfl)
theorem dX2_next_108 : decode cX2_next 108 = .ok (.putfield 84, 3) := dk_181 0 84 (dk_at dksX2_next_4 16 rfl rfl)
theorem dX2_next_111 : decode cX2_next 111 = .ok (.iinc 1 1, 3) := dk_132 1 1 (dk_at dksX2_next_4 19 rfl rfl)
theorem dX2_next_114 : decode cX2_next 114 = .ok (.goto (-47), 3) := dk_167 255 209 (dk_at dksX2_next_5 0 rfl rfl)
theorem dX2_next_117 : decode cX2_next 117 = .ok (.aload_n 0, 1) := dk_42 (dk_at dksX2_next_5 3 rfl rfl)
theorem dX2_next_118 : decode cX2_next 118 = .ok (.iload_n 1, 1) := dk_27 (dk_at dksX2_next_5 4 rfl rfl)
theorem dX2_next_119 : decode cX2_next 119 = .ok (.putfield 74, 3) := dk_181 0 74 (dk_at dksX2_next_5 5 rfl rfl)
theorem dX2_next_122 : decode cX2_next 122 = .ok (.aload_n 0, 1) := dk_42 (dk_at dksX2_next_5 8 rfl rfl)
theorem dX2_next_123 : decode cX2_next 123 = .ok (.aload_n 0, 1) := dk_42 (dk_at dksX2_next_5 9 rfl rfl)
theorem dX2_next_124 : decode cX2_next 124 = .ok (.getfield 84, 3) := dk_180 0 84 (dk_at dksX2_next_5 10 rfl rfl)
theorem dX2_next_127 : decode cX2_next 127 = .ok (.bipush 8, 2) := dk_16 8 (dk_at dksX2_next_5 13 rfl rfl)
theorem dX2_next_129 : decode cX2_next 129 = .ok (.if_icmp .le 7, 3) := dk_164 0 7 (dk_at dksX2_next_5 15 rfl rfl)
theorem dX2_next_132 : decode cX2_next 132 = .ok (.iconst 1, 1) := dk_4 (dk_at dksX2_next_5 18 rfl rfl)
theorem dX2_next_133 : decode cX2_next 133 = .ok (.goto 4, 3) := dk_167 0 4 (dk_at dksX2_next_5 19 rfl rfl)
theorem dX2_next_136 : decode cX2_next 136 = .ok (.iconst 2, 1) := dk_5 (dk_at dksX2_next_5 22 rfl rfl)
theorem dX2_next_137 : decode cX2_next 137 = .ok (.putfield 90, 3) := dk_181 0 90 (dk_at dksX2_next_6 0 rfl rfl)
theorem dX2_next_140 : decode cX2_next 140 = .ok (.goto 101, 3) := dk_167 0 101 (dk_at dksX2_next_6 3 rfl rfl)
theorem dX2_next_143 : decode cX2_next 143 = .ok (.iload_n 2, 1) := dk_28 (dk_at dksX2_next_6 6 rfl rfl)
theorem dX2_next_144 : decode cX2_next 144 = .ok (.invokestatic 97, 3) := dk_184 0 97 (dk_at dksX2_next_6 7 rfl rfl)
theorem dX2_next_147 : decode cX2_next 147 = .ok (.ifCond .eq 72, 3) := dk_153 0 72 (dk_at dksX2_next_6 10 rfl rfl)
theorem dX2_next_150 : decode cX2_next 150 = .ok (.iconst 0, 1) := dk_3 (dk_at dksX2_next_6 13 rfl rfl)
theorem dX2_next_151 : decode cX2_next 151 = .ok (.istore_n 3, 1) := dk_62 (dk_at dksX2_next_6 14 rfl rfl)
theorem dX2_next_152 : decode cX2_next 152 = .ok (.aload_n 0, 1) := dk_42 (dk_at dksX2_next_6 15 rfl rfl)
theorem dX2_next_153 : decode cX2_next 153 = .ok (.iload_n 1, 1) := dk_27 (dk_at dksX2_next_6 16 rfl rfl)
theorem dX2_next_154 : decode cX2_next 154 = .ok (.invokevirtual 77, 3) := dk_182 0 77 (dk_at dksX2_next_6 17 rfl rfl)
theorem dX2_next_157 : decode cX2_next 157 = .ok (.invokestatic 97, 3) := dk_184 0 97 (dk_at dksX2_next_6 20 rfl rfl)
theorem dX2_next_160 : decode cX2_next 160 = .ok (.ifCond .eq 37, 3) := dk_153 0 37 (dk_at dksX2_next_7 0 rfl rfl)
theorem dX2_next_163 : decode cX2_next 163 = .ok (.iload_n 3, 1) := dk_29 (dk_at dksX2_next_7 3 rfl rfl)
theorem dX2_next_164 : decode cX2_next 164 = .ok (.iconst 4, 1) := dk_7 (dk_at dksX2_next_7 4 rfl rfl)
theorem dX2_next_165 : decode cX2_next 165 = .ok (.if_icmp .ge 23, 3) := dk_162 0 23 (dk_at dksX2_next_7 5 rfl rfl)
theorem dX2_next_168 : decode cX2_next 168 = .ok (.aload_n 0, 1) := dk_42 (dk_at dksX2_next_7 8 rfl rfl)
theorem dX2_next_169 : decode cX2_next 169 = .ok (.bipush 10, 2) := dk_16 10 (dk_at dksX2_next_7 9 rfl rfl)
theorem dX2_next_171 : decode cX2_next 171 = .ok (.aload_n 0, 1) := dk_42 (dk_at dksX2_next_7 11 rfl rfl)
theorem dX2_next_172 : decode cX2_next 172 = .ok (.getfield 87, 3) := dk_180 0 87 (dk_at dksX2_next_7 12 rfl rfl)
theorem dX2_next_175 : decode cX2_next 175 = .ok (.imul, 1) := dk_104 (dk_at dksX2_next_7 15 rfl rfl)
theorem dX2_next_176 : decode cX2_next 176 = .ok (.aload_n 0, 1) := dk_42 (dk_at dksX2_next_7 16 rfl rfl)
theorem dX2_next_177 : decode cX2_next 177 = .ok (.iload_n 1, 1) := dk_27 (dk_at dksX2_next_7 17 rfl rfl)
theorem dX2_next_178 : decode cX2_next 178 = .ok (.invokevirtual 77, 3) := dk_182 0 77 (dk_at dksX2_next_7 18 rfl rfl)
theorem dX2_next_181 : decode cX2_next 181 = .ok (.iadd, 1) := dk_96 (dk_at dksX2_next_7 21 rfl rfl)
theorem dX2_next_182 : decode cX2_next 182 = .ok (.bipush 48, 2) := dk_16 48 (dk_at dksX2_next_7 22 rfl rfl)
theorem dX2_next_184 : decode cX2_next 184 = .ok (.isub, 1) := dk_100 (dk_at dksX2_next_8 0 rfl rfl)
theorem dX2_next_185 : decode cX2_next 185 = .ok (.putfield 87, 3) := dk_181 0 87 (dk_at dksX2_next_8 1 rfl rfl)
theorem dX2_next_188 : decode cX2_next 188 = .ok (.iinc 3 1, 3) := dk_132 3 1 (dk_at dksX2_next_8 4 rfl rfl)
theorem dX2_next_191 : decode cX2_next 191 = .ok (.iinc 1 1, 3) := dk_132 1 1 (dk_at dksX2_next_8 7 rfl rfl)
theorem dX2_next_194 : decode cX2_next 194 = .ok (.goto (-42), 3) := dk_167 255 214 (dk_at dksX2_next_8 10 rfl rfl)
theorem dX2_next_197 : decode cX2_next 197 = .ok (.aload_n 0, 1) := dk_42 (dk_at dksX2_next_8 13 rfl rfl)
theorem dX2_next_198 : decode cX2_next 198 = .ok (.iload_n 1, 1) := dk_27 (dk_at dksX2_next_8 14 rfl rfl)
theorem dX2_next_199 : decode cX2_next 199 = .ok (.putfield 74, 3) := dk_181 0 74 (dk_at dksX2_next_8 15 rfl rfl)
theorem dX2_next_202 : decode cX2_next 202 = .ok (.aload_n 0, 1) := dk_42 (dk_at dksX2_next_8 18 rfl rfl)
theorem dX2_next_203 : decode cX2_next 203 = .ok (.iload_n 3, 1) := dk_29 (dk_at dksX2_next_8 19 rfl rfl)
theorem dX2_next_204 : decode cX2_next 204 = .ok (.iconst 4, 1) := dk_7 (dk_at dksX2_next_8 20 rfl rfl)
theorem dX2_next_205 : decode cX2_next 205 = .ok (.if_icmp .le 7, 3) := dk_164 0 7 (dk_at dksX2_next_8 21 rfl rfl)
theorem dX2_next_208 : decode cX2_next 208 = .ok (.iconst 1, 1) := dk_4 (dk_at dksX2_next_9 0 rfl rfl)
theorem dX2_next_209 : decode cX2_next 209 = .ok (.goto 4, 3) := dk_167 0 4 (dk_at dksX2_next_9 1 rfl rfl)
theorem dX2_next_212 : decode cX2_next 212 = .ok (.iconst 3, 1) := dk_6 (dk_at dksX2_next_9 4 rfl rfl)
theorem dX2_next_213 : decode cX2_next 213 = .ok (.putfield 90, 3) := dk_181 0 90 (dk_at dksX2_next_9 5 rfl rfl)
theorem dX2_next_216 : decode cX2_next 216 = .ok (.goto 25, 3) := dk_167 0 25 (dk_at dksX2_next_9 8 rfl rfl)
theorem dX2_next_219 : decode cX2_next 219 = .ok (.aload_n 0, 1) := dk_42 (dk_at dksX2_next_9 11 rfl rfl)
theorem dX2_next_220 : decode cX2_next 220 = .ok (.iload_n 1, 1) := dk_27 (dk_at dksX2_next_9 12 rfl rfl)
theorem dX2_next_221 : decode cX2_next 221 = .ok (.iconst 1, 1) := dk_4 (dk_at dksX2_next_9 13 rfl rfl)
theorem dX2_next_222 : decode cX2_next 222 = .ok (.iadd, 1) := dk_96 (dk_at dksX2_next_9 14 rfl rfl)
theorem dX2_next_223 : decode cX2_next 223 = .ok (.putfield 74, 3) := dk_181 0 74 (dk_at dksX2_next_9 15 rfl rfl)
theorem dX2_next_226 : decode cX2_next 226 = .ok (.aload_n 0, 1) := dk_42 (dk_at dksX2_next_9 18 rfl rfl)
theorem dX2_next_227 : decode cX2_next 227 = .ok (.iload_n 2, 1) := dk_28 (dk_at dksX2_next_9 19 rfl rfl)
theorem dX2_next_228 : decode cX2_next 228 = .ok (.bipush 59, 2) := dk_16 59 (dk_at dksX2_next_9 20 rfl rfl)
theorem dX2_next_230 : decode cX2_next 230 = .ok (.if_icmp .ne 7, 3) := dk_160 0 7 (dk_at dksX2_next_10 0 rfl rfl)
theorem dX2_next_233 : decode cX2_next 233 = .ok (.iload_n 2, 1) := dk_28 (dk_at dksX2_next_10 3 rfl rfl)
theorem dX2_next_234 : decode cX2_next 234 = .ok (.goto 4, 3) := dk_167 0 4 (dk_at dksX2_next_10 4 rfl rfl)
theorem dX2_next_237 : decode cX2_next 237 = .ok (.iconst 1, 1) := dk_4 (dk_at dksX2_next_10 7 rfl rfl)
theorem dX2_next_238 : decode cX2_next 238 = .ok (.putfield 90, 3) := dk_181 0 90 (dk_at dksX2_next_10 8 rfl rfl)
theorem dX2_next_241 : decode cX2_next 241 = .ok (.return_, 1) := dk_177 (dk_at dksX2_next_10 11 rfl rfl)
abbrev cX2_look : ByteArray := prog_16_method_12_code
def yX2_look : MethodName := ⟨RX2, "look", "(I)I"⟩
def dkwX2_look_0 : List UInt8 := [27, 42, 180, 0, 71, 162, 0, 12, 42, 180, 0, 7, 27, 46, 167, 0, 4, 2, 172]
abbrev dktX2_look_0 : List UInt8 := dkwX2_look_0 ++ []
theorem dksX2_look_0 : cX2_look.data.toList.drop 0 = dktX2_look_0 := by decide +kernel
theorem dX2_look_0 : decode cX2_look 0 = .ok (.iload_n 1, 1) := dk_27 (dk_at dksX2_look_0 0 rfl rfl)
theorem dX2_look_1 : decode cX2_look 1 = .ok (.aload_n 0, 1) := dk_42 (dk_at dksX2_look_0 1 rfl rfl)
theorem dX2_look_2 : decode cX2_look 2 = .ok (.getfield 71, 3) := dk_180 0 71 (dk_at dksX2_look_0 2 rfl rfl)
theorem dX2_look_5 : decode cX2_look 5 = .ok (.if_icmp .ge 12, 3) := dk_162 0 12 (dk_at dksX2_look_0 5 rfl rfl)
theorem dX2_look_8 : decode cX2_look 8 = .ok (.aload_n 0, 1) := dk_42 (dk_at dksX2_look_0 8 rfl rfl)
theorem dX2_look_9 : decode cX2_look 9 = .ok (.getfield 7, 3) := dk_180 0 7 (dk_at dksX2_look_0 9 rfl rfl)
theorem dX2_look_12 : decode cX2_look 12 = .ok (.iload_n 1, 1) := dk_27 (dk_at dksX2_look_0 12 rfl rfl)
theorem dX2_look_13 : decode cX2_look 13 = .ok (.iaload, 1) := dk_46 (dk_at dksX2_look_0 13 rfl rfl)
theorem dX2_look_14 : decode cX2_look 14 = .ok (.goto 4, 3) := dk_167 0 4 (dk_at dksX2_look_0 14 rfl rfl)
theorem dX2_look_17 : decode cX2_look 17 = .ok (.iconst (-1), 1) := dk_2 (dk_at dksX2_look_0 17 rfl rfl)
theorem dX2_look_18 : decode cX2_look 18 = .ok (.ireturn, 1) := dk_172 (dk_at dksX2_look_0 18 rfl rfl)
abbrev cX2_isSmall : ByteArray := prog_16_method_13_code
def yX2_isSmall : MethodName := ⟨RX2, "isSmall", "(I)Z"⟩
def dkwX2_isSmall_0 : List UInt8 := [26, 16, 97, 161, 0, 13, 26, 16, 122, 163, 0, 7, 4, 167, 0, 4, 3, 172]
abbrev dktX2_isSmall_0 : List UInt8 := dkwX2_isSmall_0 ++ []
theorem dksX2_isSmall_0 : cX2_isSmall.data.toList.drop 0 = dktX2_isSmall_0 := by decide +kernel
theorem dX2_isSmall_0 : decode cX2_isSmall 0 = .ok (.iload_n 0, 1) := dk_26 (dk_at dksX2_isSmall_0 0 rfl rfl)
theorem dX2_isSmall_1 : decode cX2_isSmall 1 = .ok (.bipush 97, 2) := dk_16 97 (dk_at dksX2_isSmall_0 1 rfl rfl)
theorem dX2_isSmall_3 : decode cX2_isSmall 3 = .ok (.if_icmp .lt 13, 3) := dk_161 0 13 (dk_at dksX2_isSmall_0 3 rfl rfl)
theorem dX2_isSmall_6 : decode cX2_isSmall 6 = .ok (.iload_n 0, 1) := dk_26 (dk_at dksX2_isSmall_0 6 rfl rfl)
theorem dX2_isSmall_7 : decode cX2_isSmall 7 = .ok (.bipush 122, 2) := dk_16 122 (dk_at dksX2_isSmall_0 7 rfl rfl)
theorem dX2_isSmall_9 : decode cX2_isSmall 9 = .ok (.if_icmp .gt 7, 3) := dk_163 0 7 (dk_at dksX2_isSmall_0 9 rfl rfl)
theorem dX2_isSmall_12 : decode cX2_isSmall 12 = .ok (.iconst 1, 1) := dk_4 (dk_at dksX2_isSmall_0 12 rfl rfl)
theorem dX2_isSmall_13 : decode cX2_isSmall 13 = .ok (.goto 4, 3) := dk_167 0 4 (dk_at dksX2_isSmall_0 13 rfl rfl)
theorem dX2_isSmall_16 : decode cX2_isSmall 16 = .ok (.iconst 0, 1) := dk_3 (dk_at dksX2_isSmall_0 16 rfl rfl)
theorem dX2_isSmall_17 : decode cX2_isSmall 17 = .ok (.ireturn, 1) := dk_172 (dk_at dksX2_isSmall_0 17 rfl rfl)
abbrev cX2_isDigit : ByteArray := prog_16_method_14_code
def yX2_isDigit : MethodName := ⟨RX2, "isDigit", "(I)Z"⟩
def dkwX2_isDigit_0 : List UInt8 := [26, 16, 48, 161, 0, 13, 26, 16, 57, 163, 0, 7, 4, 167, 0, 4, 3, 172]
abbrev dktX2_isDigit_0 : List UInt8 := dkwX2_isDigit_0 ++ []
theorem dksX2_isDigit_0 : cX2_isDigit.data.toList.drop 0 = dktX2_isDigit_0 := by decide +kernel
theorem dX2_isDigit_0 : decode cX2_isDigit 0 = .ok (.iload_n 0, 1) := dk_26 (dk_at dksX2_isDigit_0 0 rfl rfl)
theorem dX2_isDigit_1 : decode cX2_isDigit 1 = .ok (.bipush 48, 2) := dk_16 48 (dk_at dksX2_isDigit_0 1 rfl rfl)
theorem dX2_isDigit_3 : decode cX2_isDigit 3 = .ok (.if_icmp .lt 13, 3) := dk_161 0 13 (dk_at dksX2_isDigit_0 3 rfl rfl)
theorem dX2_isDigit_6 : decode cX2_isDigit 6 = .ok (.iload_n 0, 1) := dk_26 (dk_at dksX2_isDigit_0 6 rfl rfl)
theorem dX2_isDigit_7 : decode cX2_isDigit 7 = .ok (.bipush 57, 2) := dk_16 57 (dk_at dksX2_isDigit_0 7 rfl rfl)
theorem dX2_isDigit_9 : decode cX2_isDigit 9 = .ok (.if_icmp .gt 7, 3) := dk_163 0 7 (dk_at dksX2_isDigit_0 9 rfl rfl)
theorem dX2_isDigit_12 : decode cX2_isDigit 12 = .ok (.iconst 1, 1) := dk_4 (dk_at dksX2_isDigit_0 12 rfl rfl)
theorem dX2_isDigit_13 : decode cX2_isDigit 13 = .ok (.goto 4, 3) := dk_167 0 4 (dk_at dksX2_isDigit_0 13 rfl rfl)
theorem dX2_isDigit_16 : decode cX2_isDigit 16 = .ok (.iconst 0, 1) := dk_3 (dk_at dksX2_isDigit_0 16 rfl rfl)
theorem dX2_isDigit_17 : decode cX2_isDigit 17 = .ok (.ireturn, 1) := dk_172 (dk_at dksX2_isDigit_0 17 rfl rfl)
abbrev cX2_readLine : ByteArray := prog_16_method_30_code
def yX2_readLine : MethodName := ⟨RX2, "readLine", "()V"⟩
def dkwX2_readLine_8 : List UInt8 := [182, 0, 127, 177]
abbrev dktX2_readLine_8 : List UInt8 := dkwX2_readLine_8 ++ []
def dkwX2_readLine_7 : List UInt8 := [167, 0, 4, 3, 182, 0, 192, 153, 0, 10, 42, 182, 0, 208, 167, 0, 12, 42, 4, 42, 180, 0, 81]
abbrev dktX2_readLine_7 : List UInt8 := dkwX2_readLine_7 ++ dktX2_readLine_8
def dkwX2_readLine_6 : List UInt8 := [182, 0, 205, 167, 0, 45, 42, 18, 141, 42, 180, 0, 23, 16, 8, 46, 16, 8, 162, 0, 7, 4]
abbrev dktX2_readLine_6 : List UInt8 := dkwX2_readLine_6 ++ dktX2_readLine_7
def dkwX2_readLine_5 : List UInt8 := [180, 0, 23, 16, 7, 46, 16, 8, 162, 0, 7, 4, 167, 0, 4, 3, 182, 0, 192, 153, 0, 10, 42]
abbrev dktX2_readLine_5 : List UInt8 := dkwX2_readLine_5 ++ dktX2_readLine_6
def dkwX2_readLine_4 : List UInt8 := [4, 167, 0, 4, 3, 182, 0, 192, 153, 0, 10, 42, 182, 0, 202, 167, 0, 78, 42, 18, 139, 42]
abbrev dktX2_readLine_4 : List UInt8 := dkwX2_readLine_4 ++ dktX2_readLine_5
def dkwX2_readLine_3 : List UInt8 := [153, 0, 10, 42, 182, 0, 199, 167, 0, 110, 42, 18, 137, 42, 180, 0, 23, 16, 6, 46, 8, 162, 0, 7]
abbrev dktX2_readLine_3 : List UInt8 := dkwX2_readLine_3 ++ dktX2_readLine_4
def dkwX2_readLine_2 : List UInt8 := [42, 18, 135, 42, 180, 0, 23, 8, 46, 16, 12, 162, 0, 7, 4, 167, 0, 4, 3, 182, 0, 192]
abbrev dktX2_readLine_2 : List UInt8 := dkwX2_readLine_2 ++ dktX2_readLine_3
def dkwX2_readLine_1 : List UInt8 := [46, 16, 7, 162, 0, 7, 4, 167, 0, 4, 3, 182, 0, 192, 153, 0, 10, 42, 182, 0, 196, 167, 0, 142]
abbrev dktX2_readLine_1 : List UInt8 := dkwX2_readLine_1 ++ dktX2_readLine_2
def dkwX2_readLine_0 : List UInt8 := [42, 18, 131, 182, 0, 117, 153, 0, 10, 42, 182, 0, 189, 167, 0, 174, 42, 18, 133, 42, 180, 0, 23, 7]
abbrev dktX2_readLine_0 : List UInt8 := dkwX2_readLine_0 ++ dktX2_readLine_1
theorem dksX2_readLine_0 : cX2_readLine.data.toList.drop 0 = dktX2_readLine_0 := by decide +kernel
theorem dksX2_readLine_1 : cX2_readLine.data.toList.drop 24 = dktX2_readLine_1 := dk_seg dksX2_readLine_0 24 rfl rfl
theorem dksX2_readLine_2 : cX2_readLine.data.toList.drop 48 = dktX2_readLine_2 := dk_seg dksX2_readLine_1 24 rfl rfl
theorem dksX2_readLine_3 : cX2_readLine.data.toList.drop 70 = dktX2_readLine_3 := dk_seg dksX2_readLine_2 22 rfl rfl
theorem dksX2_readLine_4 : cX2_readLine.data.toList.drop 94 = dktX2_readLine_4 := dk_seg dksX2_readLine_3 24 rfl rfl
theorem dksX2_readLine_5 : cX2_readLine.data.toList.drop 116 = dktX2_readLine_5 := dk_seg dksX2_readLine_4 22 rfl rfl
theorem dksX2_readLine_6 : cX2_readLine.data.toList.drop 139 = dktX2_readLine_6 := dk_seg dksX2_readLine_5 23 rfl rfl
theorem dksX2_readLine_7 : cX2_readLine.data.toList.drop 161 = dktX2_readLine_7 := dk_seg dksX2_readLine_6 22 rfl rfl
theorem dksX2_readLine_8 : cX2_readLine.data.toList.drop 184 = dktX2_readLine_8 := dk_seg dksX2_readLine_7 23 rfl rfl
theorem dX2_readLine_0 : decode cX2_readLine 0 = .ok (.aload_n 0, 1) := dk_42 (dk_at dksX2_readLine_0 0 rfl rfl)
theorem dX2_readLine_1 : decode cX2_readLine 1 = .ok (.ldc 131, 2) := dk_18 131 (dk_at dksX2_readLine_0 1 rfl rfl)
theorem dX2_readLine_3 : decode cX2_readLine 3 = .ok (.invokevirtual 117, 3) := dk_182 0 117 (dk_at dksX2_readLine_0 3 rfl rfl)
theorem dX2_readLine_6 : decode cX2_readLine 6 = .ok (.ifCond .eq 10, 3) := dk_153 0 10 (dk_at dksX2_readLine_0 6 rfl rfl)
theorem dX2_readLine_9 : decode cX2_readLine 9 = .ok (.aload_n 0, 1) := dk_42 (dk_at dksX2_readLine_0 9 rfl rfl)
theorem dX2_readLine_10 : decode cX2_readLine 10 = .ok (.invokevirtual 189, 3) := dk_182 0 189 (dk_at dksX2_readLine_0 10 rfl rfl)
theorem dX2_readLine_13 : decode cX2_readLine 13 = .ok (.goto 174, 3) := dk_167 0 174 (dk_at dksX2_readLine_0 13 rfl rfl)
theorem dX2_readLine_16 : decode cX2_readLine 16 = .ok (.aload_n 0, 1) := dk_42 (dk_at dksX2_readLine_0 16 rfl rfl)
theorem dX2_readLine_17 : decode cX2_readLine 17 = .ok (.ldc 133, 2) := dk_18 133 (dk_at dksX2_readLine_0 17 rfl rfl)
theorem dX2_readLine_19 : decode cX2_readLine 19 = .ok (.aload_n 0, 1) := dk_42 (dk_at dksX2_readLine_0 19 rfl rfl)
theorem dX2_readLine_20 : decode cX2_readLine 20 = .ok (.getfield 23, 3) := dk_180 0 23 (dk_at dksX2_readLine_0 20 rfl rfl)
theorem dX2_readLine_23 : decode cX2_readLine 23 = .ok (.iconst 4, 1) := dk_7 (dk_at dksX2_readLine_0 23 rfl rfl)
theorem dX2_readLine_24 : decode cX2_readLine 24 = .ok (.iaload, 1) := dk_46 (dk_at dksX2_readLine_1 0 rfl rfl)
theorem dX2_readLine_25 : decode cX2_readLine 25 = .ok (.bipush 7, 2) := dk_16 7 (dk_at dksX2_readLine_1 1 rfl rfl)
theorem dX2_readLine_27 : decode cX2_readLine 27 = .ok (.if_icmp .ge 7, 3) := dk_162 0 7 (dk_at dksX2_readLine_1 3 rfl rfl)
theorem dX2_readLine_30 : decode cX2_readLine 30 = .ok (.iconst 1, 1) := dk_4 (dk_at dksX2_readLine_1 6 rfl rfl)
theorem dX2_readLine_31 : decode cX2_readLine 31 = .ok (.goto 4, 3) := dk_167 0 4 (dk_at dksX2_readLine_1 7 rfl rfl)
theorem dX2_readLine_34 : decode cX2_readLine 34 = .ok (.iconst 0, 1) := dk_3 (dk_at dksX2_readLine_1 10 rfl rfl)
theorem dX2_readLine_35 : decode cX2_readLine 35 = .ok (.invokevirtual 192, 3) := dk_182 0 192 (dk_at dksX2_readLine_1 11 rfl rfl)
theorem dX2_readLine_38 : decode cX2_readLine 38 = .ok (.ifCond .eq 10, 3) := dk_153 0 10 (dk_at dksX2_readLine_1 14 rfl rfl)
theorem dX2_readLine_41 : decode cX2_readLine 41 = .ok (.aload_n 0, 1) := dk_42 (dk_at dksX2_readLine_1 17 rfl rfl)
theorem dX2_readLine_42 : decode cX2_readLine 42 = .ok (.invokevirtual 196, 3) := dk_182 0 196 (dk_at dksX2_readLine_1 18 rfl rfl)
theorem dX2_readLine_45 : decode cX2_readLine 45 = .ok (.goto 142, 3) := dk_167 0 142 (dk_at dksX2_readLine_1 21 rfl rfl)
theorem dX2_readLine_48 : decode cX2_readLine 48 = .ok (.aload_n 0, 1) := dk_42 (dk_at dksX2_readLine_2 0 rfl rfl)
theorem dX2_readLine_49 : decode cX2_readLine 49 = .ok (.ldc 135, 2) := dk_18 135 (dk_at dksX2_readLine_2 1 rfl rfl)
theorem dX2_readLine_51 : decode cX2_readLine 51 = .ok (.aload_n 0, 1) := dk_42 (dk_at dksX2_readLine_2 3 rfl rfl)
theorem dX2_readLine_52 : decode cX2_readLine 52 = .ok (.getfield 23, 3) := dk_180 0 23 (dk_at dksX2_readLine_2 4 rfl rfl)
theorem dX2_readLine_55 : decode cX2_readLine 55 = .ok (.iconst 5, 1) := dk_8 (dk_at dksX2_readLine_2 7 rfl rfl)
theorem dX2_readLine_56 : decode cX2_readLine 56 = .ok (.iaload, 1) := dk_46 (dk_at dksX2_readLine_2 8 rfl rfl)
theorem dX2_readLine_57 : decode cX2_readLine 57 = .ok (.bipush 12, 2) := dk_16 12 (dk_at dksX2_readLine_2 9 rfl rfl)
theorem dX2_readLine_59 : decode cX2_readLine 59 = .ok (.if_icmp .ge 7, 3) := dk_162 0 7 (dk_at dksX2_readLine_2 11 rfl rfl)
theorem dX2_readLine_62 : decode cX2_readLine 62 = .ok (.iconst 1, 1) := dk_4 (dk_at dksX2_readLine_2 14 rfl rfl)
theorem dX2_readLine_63 : decode cX2_readLine 63 = .ok (.goto 4, 3) := dk_167 0 4 (dk_at dksX2_readLine_2 15 rfl rfl)
theorem dX2_readLine_66 : decode cX2_readLine 66 = .ok (.iconst 0, 1) := dk_3 (dk_at dksX2_readLine_2 18 rfl rfl)
theorem dX2_readLine_67 : decode cX2_readLine 67 = .ok (.invokevirtual 192, 3) := dk_182 0 192 (dk_at dksX2_readLine_2 19 rfl rfl)
theorem dX2_readLine_70 : decode cX2_readLine 70 = .ok (.ifCond .eq 10, 3) := dk_153 0 10 (dk_at dksX2_readLine_3 0 rfl rfl)
theorem dX2_readLine_73 : decode cX2_readLine 73 = .ok (.aload_n 0, 1) := dk_42 (dk_at dksX2_readLine_3 3 rfl rfl)
theorem dX2_readLine_74 : decode cX2_readLine 74 = .ok (.invokevirtual 199, 3) := dk_182 0 199 (dk_at dksX2_readLine_3 4 rfl rfl)
theorem dX2_readLine_77 : decode cX2_readLine 77 = .ok (.goto 110, 3) := dk_167 0 110 (dk_at dksX2_readLine_3 7 rfl rfl)
theorem dX2_readLine_80 : decode cX2_readLine 80 = .ok (.aload_n 0, 1) := dk_42 (dk_at dksX2_readLine_3 10 rfl rfl)
theorem dX2_readLine_81 : decode cX2_readLine 81 = .ok (.ldc 137, 2) := dk_18 137 (dk_at dksX2_readLine_3 11 rfl rfl)
theorem dX2_readLine_83 : decode cX2_readLine 83 = .ok (.aload_n 0, 1) := dk_42 (dk_at dksX2_readLine_3 13 rfl rfl)
theorem dX2_readLine_84 : decode cX2_readLine 84 = .ok (.getfield 23, 3) := dk_180 0 23 (dk_at dksX2_readLine_3 14 rfl rfl)
theorem dX2_readLine_87 : decode cX2_readLine 87 = .ok (.bipush 6, 2) := dk_16 6 (dk_at dksX2_readLine_3 17 rfl rfl)
theorem dX2_readLine_89 : decode cX2_readLine 89 = .ok (.iaload, 1) := dk_46 (dk_at dksX2_readLine_3 19 rfl rfl)
theorem dX2_readLine_90 : decode cX2_readLine 90 = .ok (.iconst 5, 1) := dk_8 (dk_at dksX2_readLine_3 20 rfl rfl)
theorem dX2_readLine_91 : decode cX2_readLine 91 = .ok (.if_icmp .ge 7, 3) := dk_162 0 7 (dk_at dksX2_readLine_3 21 rfl rfl)
theorem dX2_readLine_94 : decode cX2_readLine 94 = .ok (.iconst 1, 1) := dk_4 (dk_at dksX2_readLine_4 0 rfl rfl)
theorem dX2_readLine_95 : decode cX2_readLine 95 = .ok (.goto 4, 3) := dk_167 0 4 (dk_at dksX2_readLine_4 1 rfl rfl)
theorem dX2_readLine_98 : decode cX2_readLine 98 = .ok (.iconst 0, 1) := dk_3 (dk_at dksX2_readLine_4 4 rfl rfl)
theorem dX2_readLine_99 : decode cX2_readLine 99 = .ok (.invokevirtual 192, 3) := dk_182 0 192 (dk_at dksX2_readLine_4 5 rfl rfl)
theorem dX2_readLine_102 : decode cX2_readLine 102 = .ok (.ifCond .eq 10, 3) := dk_153 0 10 (dk_at dksX2_readLine_4 8 rfl rfl)
theorem dX2_readLine_105 : decode cX2_readLine 105 = .ok (.aload_n 0, 1) := dk_42 (dk_at dksX2_readLine_4 11 rfl rfl)
theorem dX2_readLine_106 : decode cX2_readLine 106 = .ok (.invokevirtual 202, 3) := dk_182 0 202 (dk_at dksX2_readLine_4 12 rfl rfl)
theorem dX2_readLine_109 : decode cX2_readLine 109 = .ok (.goto 78, 3) := dk_167 0 78 (dk_at dksX2_readLine_4 15 rfl rfl)
theorem dX2_readLine_112 : decode cX2_readLine 112 = .ok (.aload_n 0, 1) := dk_42 (dk_at dksX2_readLine_4 18 rfl rfl)
theorem dX2_readLine_113 : decode cX2_readLine 113 = .ok (.ldc 139, 2) := dk_18 139 (dk_at dksX2_readLine_4 19 rfl rfl)
theorem dX2_readLine_115 : decode cX2_readLine 115 = .ok (.aload_n 0, 1) := dk_42 (dk_at dksX2_readLine_4 21 rfl rfl)
theorem dX2_readLine_116 : decode cX2_readLine 116 = .ok (.getfield 23, 3) := dk_180 0 23 (dk_at dksX2_readLine_5 0 rfl rfl)
theorem dX2_readLine_119 : decode cX2_readLine 119 = .ok (.bipush 7, 2) := dk_16 7 (dk_at dksX2_readLine_5 3 rfl rfl)
theorem dX2_readLine_121 : decode cX2_readLine 121 = .ok (.iaload, 1) := dk_46 (dk_at dksX2_readLine_5 5 rfl rfl)
theorem dX2_readLine_122 : decode cX2_readLine 122 = .ok (.bipush 8, 2) := dk_16 8 (dk_at dksX2_readLine_5 6 rfl rfl)
theorem dX2_readLine_124 : decode cX2_readLine 124 = .ok (.if_icmp .ge 7, 3) := dk_162 0 7 (dk_at dksX2_readLine_5 8 rfl rfl)
theorem dX2_readLine_127 : decode cX2_readLine 127 = .ok (.iconst 1, 1) := dk_4 (dk_at dksX2_readLine_5 11 rfl rfl)
theorem dX2_readLine_128 : decode cX2_readLine 128 = .ok (.goto 4, 3) := dk_167 0 4 (dk_at dksX2_readLine_5 12 rfl rfl)
theorem dX2_readLine_131 : decode cX2_readLine 131 = .ok (.iconst 0, 1) := dk_3 (dk_at dksX2_readLine_5 15 rfl rfl)
theorem dX2_readLine_132 : decode cX2_readLine 132 = .ok (.invokevirtual 192, 3) := dk_182 0 192 (dk_at dksX2_readLine_5 16 rfl rfl)
theorem dX2_readLine_135 : decode cX2_readLine 135 = .ok (.ifCond .eq 10, 3) := dk_153 0 10 (dk_at dksX2_readLine_5 19 rfl rfl)
theorem dX2_readLine_138 : decode cX2_readLine 138 = .ok (.aload_n 0, 1) := dk_42 (dk_at dksX2_readLine_5 22 rfl rfl)
theorem dX2_readLine_139 : decode cX2_readLine 139 = .ok (.invokevirtual 205, 3) := dk_182 0 205 (dk_at dksX2_readLine_6 0 rfl rfl)
theorem dX2_readLine_142 : decode cX2_readLine 142 = .ok (.goto 45, 3) := dk_167 0 45 (dk_at dksX2_readLine_6 3 rfl rfl)
theorem dX2_readLine_145 : decode cX2_readLine 145 = .ok (.aload_n 0, 1) := dk_42 (dk_at dksX2_readLine_6 6 rfl rfl)
theorem dX2_readLine_146 : decode cX2_readLine 146 = .ok (.ldc 141, 2) := dk_18 141 (dk_at dksX2_readLine_6 7 rfl rfl)
theorem dX2_readLine_148 : decode cX2_readLine 148 = .ok (.aload_n 0, 1) := dk_42 (dk_at dksX2_readLine_6 9 rfl rfl)
theorem dX2_readLine_149 : decode cX2_readLine 149 = .ok (.getfield 23, 3) := dk_180 0 23 (dk_at dksX2_readLine_6 10 rfl rfl)
theorem dX2_readLine_152 : decode cX2_readLine 152 = .ok (.bipush 8, 2) := dk_16 8 (dk_at dksX2_readLine_6 13 rfl rfl)
theorem dX2_readLine_154 : decode cX2_readLine 154 = .ok (.iaload, 1) := dk_46 (dk_at dksX2_readLine_6 15 rfl rfl)
theorem dX2_readLine_155 : decode cX2_readLine 155 = .ok (.bipush 8, 2) := dk_16 8 (dk_at dksX2_readLine_6 16 rfl rfl)
theorem dX2_readLine_157 : decode cX2_readLine 157 = .ok (.if_icmp .ge 7, 3) := dk_162 0 7 (dk_at dksX2_readLine_6 18 rfl rfl)
theorem dX2_readLine_160 : decode cX2_readLine 160 = .ok (.iconst 1, 1) := dk_4 (dk_at dksX2_readLine_6 21 rfl rfl)
theorem dX2_readLine_161 : decode cX2_readLine 161 = .ok (.goto 4, 3) := dk_167 0 4 (dk_at dksX2_readLine_7 0 rfl rfl)
theorem dX2_readLine_164 : decode cX2_readLine 164 = .ok (.iconst 0, 1) := dk_3 (dk_at dksX2_readLine_7 3 rfl rfl)
theorem dX2_readLine_165 : decode cX2_readLine 165 = .ok (.invokevirtual 192, 3) := dk_182 0 192 (dk_at dksX2_readLine_7 4 rfl rfl)
theorem dX2_readLine_168 : decode cX2_readLine 168 = .ok (.ifCond .eq 10, 3) := dk_153 0 10 (dk_at dksX2_readLine_7 7 rfl rfl)
theorem dX2_readLine_171 : decode cX2_readLine 171 = .ok (.aload_n 0, 1) := dk_42 (dk_at dksX2_readLine_7 10 rfl rfl)
theorem dX2_readLine_172 : decode cX2_readLine 172 = .ok (.invokevirtual 208, 3) := dk_182 0 208 (dk_at dksX2_readLine_7 11 rfl rfl)
theorem dX2_readLine_175 : decode cX2_readLine 175 = .ok (.goto 12, 3) := dk_167 0 12 (dk_at dksX2_readLine_7 14 rfl rfl)
theorem dX2_readLine_178 : decode cX2_readLine 178 = .ok (.aload_n 0, 1) := dk_42 (dk_at dksX2_readLine_7 17 rfl rfl)
theorem dX2_readLine_179 : decode cX2_readLine 179 = .ok (.iconst 1, 1) := dk_4 (dk_at dksX2_readLine_7 18 rfl rfl)
theorem dX2_readLine_180 : decode cX2_readLine 180 = .ok (.aload_n 0, 1) := dk_42 (dk_at dksX2_readLine_7 19 rfl rfl)
theorem dX2_readLine_181 : decode cX2_readLine 181 = .ok (.getfield 81, 3) := dk_180 0 81 (dk_at dksX2_readLine_7 20 rfl rfl)
theorem dX2_readLine_184 : decode cX2_readLine 184 = .ok (.invokevirtual 127, 3) := dk_182 0 127 (dk_at dksX2_readLine_8 0 rfl rfl)
theorem dX2_readLine_187 : decode cX2_readLine 187 = .ok (.return_, 1) := dk_177 (dk_at dksX2_readLine_8 3 rfl rfl)
abbrev cX2_isWord : ByteArray := prog_16_method_17_code
def yX2_isWord : MethodName := ⟨RX2, "isWord", "(Ljava/lang/String;)Z"⟩
def dkwX2_isWord_3 : List UInt8 := [167, 255, 221, 28, 172]
abbrev dktX2_isWord_3 : List UInt8 := dkwX2_isWord_3 ++ []
def dkwX2_isWord_2 : List UInt8 := [180, 0, 17, 29, 46, 43, 29, 182, 0, 113, 160, 0, 7, 4, 167, 0, 4, 3, 61, 132, 3, 1]
abbrev dktX2_isWord_2 : List UInt8 := dkwX2_isWord_2 ++ dktX2_isWord_3
def dkwX2_isWord_1 : List UInt8 := [159, 0, 5, 3, 172, 4, 61, 3, 62, 29, 42, 180, 0, 84, 162, 0, 33, 28, 153, 0, 21, 42]
abbrev dktX2_isWord_1 : List UInt8 := dkwX2_isWord_1 ++ dktX2_isWord_2
def dkwX2_isWord_0 : List UInt8 := [42, 180, 0, 100, 154, 0, 22, 42, 180, 0, 90, 5, 160, 0, 14, 42, 180, 0, 84, 43, 182, 0, 107]
abbrev dktX2_isWord_0 : List UInt8 := dkwX2_isWord_0 ++ dktX2_isWord_1
theorem dksX2_isWord_0 : cX2_isWord.data.toList.drop 0 = dktX2_isWord_0 := by decide +kernel
theorem dksX2_isWord_1 : cX2_isWord.data.toList.drop 23 = dktX2_isWord_1 := dk_seg dksX2_isWord_0 23 rfl rfl
theorem dksX2_isWord_2 : cX2_isWord.data.toList.drop 45 = dktX2_isWord_2 := dk_seg dksX2_isWord_1 22 rfl rfl
theorem dksX2_isWord_3 : cX2_isWord.data.toList.drop 67 = dktX2_isWord_3 := dk_seg dksX2_isWord_2 22 rfl rfl
theorem dX2_isWord_0 : decode cX2_isWord 0 = .ok (.aload_n 0, 1) := dk_42 (dk_at dksX2_isWord_0 0 rfl rfl)
theorem dX2_isWord_1 : decode cX2_isWord 1 = .ok (.getfield 100, 3) := dk_180 0 100 (dk_at dksX2_isWord_0 1 rfl rfl)
theorem dX2_isWord_4 : decode cX2_isWord 4 = .ok (.ifCond .ne 22, 3) := dk_154 0 22 (dk_at dksX2_isWord_0 4 rfl rfl)
theorem dX2_isWord_7 : decode cX2_isWord 7 = .ok (.aload_n 0, 1) := dk_42 (dk_at dksX2_isWord_0 7 rfl rfl)
theorem dX2_isWord_8 : decode cX2_isWord 8 = .ok (.getfield 90, 3) := dk_180 0 90 (dk_at dksX2_isWord_0 8 rfl rfl)
theorem dX2_isWord_11 : decode cX2_isWord 11 = .ok (.iconst 2, 1) := dk_5 (dk_at dksX2_isWord_0 11 rfl rfl)
theorem dX2_isWord_12 : decode cX2_isWord 12 = .ok (.if_icmp .ne 14, 3) := dk_160 0 14 (dk_at dksX2_isWord_0 12 rfl rfl)
theorem dX2_isWord_15 : decode cX2_isWord 15 = .ok (.aload_n 0, 1) := dk_42 (dk_at dksX2_isWord_0 15 rfl rfl)
theorem dX2_isWord_16 : decode cX2_isWord 16 = .ok (.getfield 84, 3) := dk_180 0 84 (dk_at dksX2_isWord_0 16 rfl rfl)
theorem dX2_isWord_19 : decode cX2_isWord 19 = .ok (.aload_n 1, 1) := dk_43 (dk_at dksX2_isWord_0 19 rfl rfl)
theorem dX2_isWord_20 : decode cX2_isWord 20 = .ok (.invokevirtual 107, 3) := dk_182 0 107 (dk_at dksX2_isWord_0 20 rfl rfl)
theorem dX2_isWord_23 : decode cX2_isWord 23 = .ok (.if_icmp .eq 5, 3) := dk_159 0 5 (dk_at dksX2_isWord_1 0 rfl rfl)
theorem dX2_isWord_26 : decode cX2_isWord 26 = .ok (.iconst 0, 1) := dk_3 (dk_at dksX2_isWord_1 3 rfl rfl)
theorem dX2_isWord_27 : decode cX2_isWord 27 = .ok (.ireturn, 1) := dk_172 (dk_at dksX2_isWord_1 4 rfl rfl)
theorem dX2_isWord_28 : decode cX2_isWord 28 = .ok (.iconst 1, 1) := dk_4 (dk_at dksX2_isWord_1 5 rfl rfl)
theorem dX2_isWord_29 : decode cX2_isWord 29 = .ok (.istore_n 2, 1) := dk_61 (dk_at dksX2_isWord_1 6 rfl rfl)
theorem dX2_isWord_30 : decode cX2_isWord 30 = .ok (.iconst 0, 1) := dk_3 (dk_at dksX2_isWord_1 7 rfl rfl)
theorem dX2_isWord_31 : decode cX2_isWord 31 = .ok (.istore_n 3, 1) := dk_62 (dk_at dksX2_isWord_1 8 rfl rfl)
theorem dX2_isWord_32 : decode cX2_isWord 32 = .ok (.iload_n 3, 1) := dk_29 (dk_at dksX2_isWord_1 9 rfl rfl)
theorem dX2_isWord_33 : decode cX2_isWord 33 = .ok (.aload_n 0, 1) := dk_42 (dk_at dksX2_isWord_1 10 rfl rfl)
theorem dX2_isWord_34 : decode cX2_isWord 34 = .ok (.getfield 84, 3) := dk_180 0 84 (dk_at dksX2_isWord_1 11 rfl rfl)
theorem dX2_isWord_37 : decode cX2_isWord 37 = .ok (.if_icmp .ge 33, 3) := dk_162 0 33 (dk_at dksX2_isWord_1 14 rfl rfl)
theorem dX2_isWord_40 : decode cX2_isWord 40 = .ok (.iload_n 2, 1) := dk_28 (dk_at dksX2_isWord_1 17 rfl rfl)
theorem dX2_isWord_41 : decode cX2_isWord 41 = .ok (.ifCond .eq 21, 3) := dk_153 0 21 (dk_at dksX2_isWord_1 18 rfl rfl)
theorem dX2_isWord_44 : decode cX2_isWord 44 = .ok (.aload_n 0, 1) := dk_42 (dk_at dksX2_isWord_1 21 rfl rfl)
theorem dX2_isWord_45 : decode cX2_isWord 45 = .ok (.getfield 17, 3) := dk_180 0 17 (dk_at dksX2_isWord_2 0 rfl rfl)
theorem dX2_isWord_48 : decode cX2_isWord 48 = .ok (.iload_n 3, 1) := dk_29 (dk_at dksX2_isWord_2 3 rfl rfl)
theorem dX2_isWord_49 : decode cX2_isWord 49 = .ok (.iaload, 1) := dk_46 (dk_at dksX2_isWord_2 4 rfl rfl)
theorem dX2_isWord_50 : decode cX2_isWord 50 = .ok (.aload_n 1, 1) := dk_43 (dk_at dksX2_isWord_2 5 rfl rfl)
theorem dX2_isWord_51 : decode cX2_isWord 51 = .ok (.iload_n 3, 1) := dk_29 (dk_at dksX2_isWord_2 6 rfl rfl)
theorem dX2_isWord_52 : decode cX2_isWord 52 = .ok (.invokevirtual 113, 3) := dk_182 0 113 (dk_at dksX2_isWord_2 7 rfl rfl)
theorem dX2_isWord_55 : decode cX2_isWord 55 = .ok (.if_icmp .ne 7, 3) := dk_160 0 7 (dk_at dksX2_isWord_2 10 rfl rfl)
theorem dX2_isWord_58 : decode cX2_isWord 58 = .ok (.iconst 1, 1) := dk_4 (dk_at dksX2_isWord_2 13 rfl rfl)
theorem dX2_isWord_59 : decode cX2_isWord 59 = .ok (.goto 4, 3) := dk_167 0 4 (dk_at dksX2_isWord_2 14 rfl rfl)
theorem dX2_isWord_62 : decode cX2_isWord 62 = .ok (.iconst 0, 1) := dk_3 (dk_at dksX2_isWord_2 17 rfl rfl)
theorem dX2_isWord_63 : decode cX2_isWord 63 = .ok (.istore_n 2, 1) := dk_61 (dk_at dksX2_isWord_2 18 rfl rfl)
theorem dX2_isWord_64 : decode cX2_isWord 64 = .ok (.iinc 3 1, 3) := dk_132 3 1 (dk_at dksX2_isWord_2 19 rfl rfl)
theorem dX2_isWord_67 : decode cX2_isWord 67 = .ok (.goto (-35), 3) := dk_167 255 221 (dk_at dksX2_isWord_3 0 rfl rfl)
theorem dX2_isWord_70 : decode cX2_isWord 70 = .ok (.iload_n 2, 1) := dk_28 (dk_at dksX2_isWord_3 3 rfl rfl)
theorem dX2_isWord_71 : decode cX2_isWord 71 = .ok (.ireturn, 1) := dk_172 (dk_at dksX2_isWord_3 4 rfl rfl)
abbrev cX2_postLine : ByteArray := prog_16_method_31_code
def yX2_postLine : MethodName := ⟨RX2, "postLine", "()V"⟩
def dkwX2_postLine_4 : List UInt8 := [154, 0, 11, 42, 180, 0, 23, 16, 9, 4, 79, 177]
abbrev dktX2_postLine_4 : List UInt8 := dkwX2_postLine_4 ++ []
def dkwX2_postLine_3 : List UInt8 := [182, 0, 213, 79, 42, 180, 0, 23, 6, 42, 18, 221, 3, 16, 100, 182, 0, 213, 79, 42, 180, 0, 100]
abbrev dktX2_postLine_3 : List UInt8 := dkwX2_postLine_3 ++ dktX2_postLine_4
def dkwX2_postLine_2 : List UInt8 := [180, 0, 23, 4, 42, 18, 217, 3, 6, 182, 0, 213, 79, 42, 180, 0, 23, 5, 42, 18, 219, 3, 16, 50]
abbrev dktX2_postLine_2 : List UInt8 := dkwX2_postLine_2 ++ dktX2_postLine_3
def dkwX2_postLine_1 : List UInt8 := [153, 0, 4, 177, 42, 182, 0, 121, 42, 180, 0, 23, 3, 42, 18, 211, 5, 7, 182, 0, 213, 79, 42]
abbrev dktX2_postLine_1 : List UInt8 := dkwX2_postLine_1 ++ dktX2_postLine_2
def dkwX2_postLine_0 : List UInt8 := [42, 180, 0, 23, 16, 9, 46, 4, 160, 0, 12, 42, 6, 42, 180, 0, 81, 182, 0, 127, 42, 180, 0, 100]
abbrev dktX2_postLine_0 : List UInt8 := dkwX2_postLine_0 ++ dktX2_postLine_1
theorem dksX2_postLine_0 : cX2_postLine.data.toList.drop 0 = dktX2_postLine_0 := by decide +kernel
theorem dksX2_postLine_1 : cX2_postLine.data.toList.drop 24 = dktX2_postLine_1 := dk_seg dksX2_postLine_0 24 rfl rfl
theorem dksX2_postLine_2 : cX2_postLine.data.toList.drop 47 = dktX2_postLine_2 := dk_seg dksX2_postLine_1 23 rfl rfl
theorem dksX2_postLine_3 : cX2_postLine.data.toList.drop 71 = dktX2_postLine_3 := dk_seg dksX2_postLine_2 24 rfl rfl
theorem dksX2_postLine_4 : cX2_postLine.data.toList.drop 94 = dktX2_postLine_4 := dk_seg dksX2_postLine_3 23 rfl rfl
theorem dX2_postLine_0 : decode cX2_postLine 0 = .ok (.aload_n 0, 1) := dk_42 (dk_at dksX2_postLine_0 0 rfl rfl)
theorem dX2_postLine_1 : decode cX2_postLine 1 = .ok (.getfield 23, 3) := dk_180 0 23 (dk_at dksX2_postLine_0 1 rfl rfl)
theorem dX2_postLine_4 : decode cX2_postLine 4 = .ok (.bipush 9, 2) := dk_16 9 (dk_at dksX2_postLine_0 4 rfl rfl)
theorem dX2_postLine_6 : decode cX2_postLine 6 = .ok (.iaload, 1) := dk_46 (dk_at dksX2_postLine_0 6 rfl rfl)
theorem dX2_postLine_7 : decode cX2_postLine 7 = .ok (.iconst 1, 1) := dk_4 (dk_at dksX2_postLine_0 7 rfl rfl)
theorem dX2_postLine_8 : decode cX2_postLine 8 = .ok (.if_icmp .ne 12, 3) := dk_160 0 12 (dk_at dksX2_postLine_0 8 rfl rfl)
theorem dX2_postLine_11 : decode cX2_postLine 11 = .ok (.aload_n 0, 1) := dk_42 (dk_at dksX2_postLine_0 11 rfl rfl)
theorem dX2_postLine_12 : decode cX2_postLine 12 = .ok (.iconst 3, 1) := dk_6 (dk_at dksX2_postLine_0 12 rfl rfl)
theorem dX2_postLine_13 : decode cX2_postLine 13 = .ok (.aload_n 0, 1) := dk_42 (dk_at dksX2_postLine_0 13 rfl rfl)
theorem dX2_postLine_14 : decode cX2_postLine 14 = .ok (.getfield 81, 3) := dk_180 0 81 (dk_at dksX2_postLine_0 14 rfl rfl)
theorem dX2_postLine_17 : decode cX2_postLine 17 = .ok (.invokevirtual 127, 3) := dk_182 0 127 (dk_at dksX2_postLine_0 17 rfl rfl)
theorem dX2_postLine_20 : decode cX2_postLine 20 = .ok (.aload_n 0, 1) := dk_42 (dk_at dksX2_postLine_0 20 rfl rfl)
theorem dX2_postLine_21 : decode cX2_postLine 21 = .ok (.getfield 100, 3) := dk_180 0 100 (dk_at dksX2_postLine_0 21 rfl rfl)
theorem dX2_postLine_24 : decode cX2_postLine 24 = .ok (.ifCond .eq 4, 3) := dk_153 0 4 (dk_at dksX2_postLine_1 0 rfl rfl)
theorem dX2_postLine_27 : decode cX2_postLine 27 = .ok (.return_, 1) := dk_177 (dk_at dksX2_postLine_1 3 rfl rfl)
theorem dX2_postLine_28 : decode cX2_postLine 28 = .ok (.aload_n 0, 1) := dk_42 (dk_at dksX2_postLine_1 4 rfl rfl)
theorem dX2_postLine_29 : decode cX2_postLine 29 = .ok (.invokevirtual 121, 3) := dk_182 0 121 (dk_at dksX2_postLine_1 5 rfl rfl)
theorem dX2_postLine_32 : decode cX2_postLine 32 = .ok (.aload_n 0, 1) := dk_42 (dk_at dksX2_postLine_1 8 rfl rfl)
theorem dX2_postLine_33 : decode cX2_postLine 33 = .ok (.getfield 23, 3) := dk_180 0 23 (dk_at dksX2_postLine_1 9 rfl rfl)
theorem dX2_postLine_36 : decode cX2_postLine 36 = .ok (.iconst 0, 1) := dk_3 (dk_at dksX2_postLine_1 12 rfl rfl)
theorem dX2_postLine_37 : decode cX2_postLine 37 = .ok (.aload_n 0, 1) := dk_42 (dk_at dksX2_postLine_1 13 rfl rfl)
theorem dX2_postLine_38 : decode cX2_postLine 38 = .ok (.ldc 211, 2) := dk_18 211 (dk_at dksX2_postLine_1 14 rfl rfl)
theorem dX2_postLine_40 : decode cX2_postLine 40 = .ok (.iconst 2, 1) := dk_5 (dk_at dksX2_postLine_1 16 rfl rfl)
theorem dX2_postLine_41 : decode cX2_postLine 41 = .ok (.iconst 4, 1) := dk_7 (dk_at dksX2_postLine_1 17 rfl rfl)
theorem dX2_postLine_42 : decode cX2_postLine 42 = .ok (.invokevirtual 213, 3) := dk_182 0 213 (dk_at dksX2_postLine_1 18 rfl rfl)
theorem dX2_postLine_45 : decode cX2_postLine 45 = .ok (.iastore, 1) := dk_79 (dk_at dksX2_postLine_1 21 rfl rfl)
theorem dX2_postLine_46 : decode cX2_postLine 46 = .ok (.aload_n 0, 1) := dk_42 (dk_at dksX2_postLine_1 22 rfl rfl)
theorem dX2_postLine_47 : decode cX2_postLine 47 = .ok (.getfield 23, 3) := dk_180 0 23 (dk_at dksX2_postLine_2 0 rfl rfl)
theorem dX2_postLine_50 : decode cX2_postLine 50 = .ok (.iconst 1, 1) := dk_4 (dk_at dksX2_postLine_2 3 rfl rfl)
theorem dX2_postLine_51 : decode cX2_postLine 51 = .ok (.aload_n 0, 1) := dk_42 (dk_at dksX2_postLine_2 4 rfl rfl)
theorem dX2_postLine_52 : decode cX2_postLine 52 = .ok (.ldc 217, 2) := dk_18 217 (dk_at dksX2_postLine_2 5 rfl rfl)
theorem dX2_postLine_54 : decode cX2_postLine 54 = .ok (.iconst 0, 1) := dk_3 (dk_at dksX2_postLine_2 7 rfl rfl)
theorem dX2_postLine_55 : decode cX2_postLine 55 = .ok (.iconst 3, 1) := dk_6 (dk_at dksX2_postLine_2 8 rfl rfl)
theorem dX2_postLine_56 : decode cX2_postLine 56 = .ok (.invokevirtual 213, 3) := dk_182 0 213 (dk_at dksX2_postLine_2 9 rfl rfl)
theorem dX2_postLine_59 : decode cX2_postLine 59 = .ok (.iastore, 1) := dk_79 (dk_at dksX2_postLine_2 12 rfl rfl)
theorem dX2_postLine_60 : decode cX2_postLine 60 = .ok (.aload_n 0, 1) := dk_42 (dk_at dksX2_postLine_2 13 rfl rfl)
theorem dX2_postLine_61 : decode cX2_postLine 61 = .ok (.getfield 23, 3) := dk_180 0 23 (dk_at dksX2_postLine_2 14 rfl rfl)
theorem dX2_postLine_64 : decode cX2_postLine 64 = .ok (.iconst 2, 1) := dk_5 (dk_at dksX2_postLine_2 17 rfl rfl)
theorem dX2_postLine_65 : decode cX2_postLine 65 = .ok (.aload_n 0, 1) := dk_42 (dk_at dksX2_postLine_2 18 rfl rfl)
theorem dX2_postLine_66 : decode cX2_postLine 66 = .ok (.ldc 219, 2) := dk_18 219 (dk_at dksX2_postLine_2 19 rfl rfl)
theorem dX2_postLine_68 : decode cX2_postLine 68 = .ok (.iconst 0, 1) := dk_3 (dk_at dksX2_postLine_2 21 rfl rfl)
theorem dX2_postLine_69 : decode cX2_postLine 69 = .ok (.bipush 50, 2) := dk_16 50 (dk_at dksX2_postLine_2 22 rfl rfl)
theorem dX2_postLine_71 : decode cX2_postLine 71 = .ok (.invokevirtual 213, 3) := dk_182 0 213 (dk_at dksX2_postLine_3 0 rfl rfl)
theorem dX2_postLine_74 : decode cX2_postLine 74 = .ok (.iastore, 1) := dk_79 (dk_at dksX2_postLine_3 3 rfl rfl)
theorem dX2_postLine_75 : decode cX2_postLine 75 = .ok (.aload_n 0, 1) := dk_42 (dk_at dksX2_postLine_3 4 rfl rfl)
theorem dX2_postLine_76 : decode cX2_postLine 76 = .ok (.getfield 23, 3) := dk_180 0 23 (dk_at dksX2_postLine_3 5 rfl rfl)
theorem dX2_postLine_79 : decode cX2_postLine 79 = .ok (.iconst 3, 1) := dk_6 (dk_at dksX2_postLine_3 8 rfl rfl)
theorem dX2_postLine_80 : decode cX2_postLine 80 = .ok (.aload_n 0, 1) := dk_42 (dk_at dksX2_postLine_3 9 rfl rfl)
theorem dX2_postLine_81 : decode cX2_postLine 81 = .ok (.ldc 221, 2) := dk_18 221 (dk_at dksX2_postLine_3 10 rfl rfl)
theorem dX2_postLine_83 : decode cX2_postLine 83 = .ok (.iconst 0, 1) := dk_3 (dk_at dksX2_postLine_3 12 rfl rfl)
theorem dX2_postLine_84 : decode cX2_postLine 84 = .ok (.bipush 100, 2) := dk_16 100 (dk_at dksX2_postLine_3 13 rfl rfl)
theorem dX2_postLine_86 : decode cX2_postLine 86 = .ok (.invokevirtual 213, 3) := dk_182 0 213 (dk_at dksX2_postLine_3 15 rfl rfl)
theorem dX2_postLine_89 : decode cX2_postLine 89 = .ok (.iastore, 1) := dk_79 (dk_at dksX2_postLine_3 18 rfl rfl)
theorem dX2_postLine_90 : decode cX2_postLine 90 = .ok (.aload_n 0, 1) := dk_42 (dk_at dksX2_postLine_3 19 rfl rfl)
theorem dX2_postLine_91 : decode cX2_postLine 91 = .ok (.getfield 100, 3) := dk_180 0 100 (dk_at dksX2_postLine_3 20 rfl rfl)
theorem dX2_postLine_94 : decode cX2_postLine 94 = .ok (.ifCond .ne 11, 3) := dk_154 0 11 (dk_at dksX2_postLine_4 0 rfl rfl)
theorem dX2_postLine_97 : decode cX2_postLine 97 = .ok (.aload_n 0, 1) := dk_42 (dk_at dksX2_postLine_4 3 rfl rfl)
theorem dX2_postLine_98 : decode cX2_postLine 98 = .ok (.getfield 23, 3) := dk_180 0 23 (dk_at dksX2_postLine_4 4 rfl rfl)
theorem dX2_postLine_101 : decode cX2_postLine 101 = .ok (.bipush 9, 2) := dk_16 9 (dk_at dksX2_postLine_4 7 rfl rfl)
theorem dX2_postLine_103 : decode cX2_postLine 103 = .ok (.iconst 1, 1) := dk_4 (dk_at dksX2_postLine_4 9 rfl rfl)
theorem dX2_postLine_104 : decode cX2_postLine 104 = .ok (.iastore, 1) := dk_79 (dk_at dksX2_postLine_4 10 rfl rfl)
theorem dX2_postLine_105 : decode cX2_postLine 105 = .ok (.return_, 1) := dk_177 (dk_at dksX2_postLine_4 11 rfl rfl)
abbrev cX2_wrong : ByteArray := prog_16_method_16_code
def yX2_wrong : MethodName := ⟨RX2, "wrong", "(II)V"⟩
def dkwX2_wrong_0 : List UInt8 := [42, 180, 0, 100, 153, 0, 4, 177, 42, 4, 181, 0, 100, 42, 27, 181, 0, 104, 42, 28, 181, 0, 13, 177]
abbrev dktX2_wrong_0 : List UInt8 := dkwX2_wrong_0 ++ []
theorem dksX2_wrong_0 : cX2_wrong.data.toList.drop 0 = dktX2_wrong_0 := by decide +kernel
theorem dX2_wrong_0 : decode cX2_wrong 0 = .ok (.aload_n 0, 1) := dk_42 (dk_at dksX2_wrong_0 0 rfl rfl)
theorem dX2_wrong_1 : decode cX2_wrong 1 = .ok (.getfield 100, 3) := dk_180 0 100 (dk_at dksX2_wrong_0 1 rfl rfl)
theorem dX2_wrong_4 : decode cX2_wrong 4 = .ok (.ifCond .eq 4, 3) := dk_153 0 4 (dk_at dksX2_wrong_0 4 rfl rfl)
theorem dX2_wrong_7 : decode cX2_wrong 7 = .ok (.return_, 1) := dk_177 (dk_at dksX2_wrong_0 7 rfl rfl)
theorem dX2_wrong_8 : decode cX2_wrong 8 = .ok (.aload_n 0, 1) := dk_42 (dk_at dksX2_wrong_0 8 rfl rfl)
theorem dX2_wrong_9 : decode cX2_wrong 9 = .ok (.iconst 1, 1) := dk_4 (dk_at dksX2_wrong_0 9 rfl rfl)
theorem dX2_wrong_10 : decode cX2_wrong 10 = .ok (.putfield 100, 3) := dk_181 0 100 (dk_at dksX2_wrong_0 10 rfl rfl)
theorem dX2_wrong_13 : decode cX2_wrong 13 = .ok (.aload_n 0, 1) := dk_42 (dk_at dksX2_wrong_0 13 rfl rfl)
theorem dX2_wrong_14 : decode cX2_wrong 14 = .ok (.iload_n 1, 1) := dk_27 (dk_at dksX2_wrong_0 14 rfl rfl)
theorem dX2_wrong_15 : decode cX2_wrong 15 = .ok (.putfield 104, 3) := dk_181 0 104 (dk_at dksX2_wrong_0 15 rfl rfl)
theorem dX2_wrong_18 : decode cX2_wrong 18 = .ok (.aload_n 0, 1) := dk_42 (dk_at dksX2_wrong_0 18 rfl rfl)
theorem dX2_wrong_19 : decode cX2_wrong 19 = .ok (.iload_n 2, 1) := dk_28 (dk_at dksX2_wrong_0 19 rfl rfl)
theorem dX2_wrong_20 : decode cX2_wrong 20 = .ok (.putfield 13, 3) := dk_181 0 13 (dk_at dksX2_wrong_0 20 rfl rfl)
theorem dX2_wrong_23 : decode cX2_wrong 23 = .ok (.return_, 1) := dk_177 (dk_at dksX2_wrong_0 23 rfl rfl)
abbrev cX2_after : ByteArray := prog_16_method_27_code
def yX2_after : MethodName := ⟨RX2, "afte\x72", "(Ljava/lang/String;II)I"⟩
def dkwX2_after_0 : List UInt8 := [42, 43, 182, 0, 157, 42, 28, 29, 182, 0, 164, 172]
abbrev dktX2_after_0 : List UInt8 := dkwX2_after_0 ++ []
theorem dksX2_after_0 : cX2_after.data.toList.drop 0 = dktX2_after_0 := by decide +kernel
theorem dX2_after_0 : decode cX2_after 0 = .ok (.aload_n 0, 1) := dk_42 (dk_at dksX2_after_0 0 rfl rfl)
theorem dX2_after_1 : decode cX2_after 1 = .ok (.aload_n 1, 1) := dk_43 (dk_at dksX2_after_0 1 rfl rfl)
theorem dX2_after_2 : decode cX2_after 2 = .ok (.invokevirtual 157, 3) := dk_182 0 157 (dk_at dksX2_after_0 2 rfl rfl)
theorem dX2_after_5 : decode cX2_after 5 = .ok (.aload_n 0, 1) := dk_42 (dk_at dksX2_after_0 5 rfl rfl)
theorem dX2_after_6 : decode cX2_after 6 = .ok (.iload_n 2, 1) := dk_28 (dk_at dksX2_after_0 6 rfl rfl)
theorem dX2_after_7 : decode cX2_after 7 = .ok (.iload_n 3, 1) := dk_29 (dk_at dksX2_after_0 7 rfl rfl)
theorem dX2_after_8 : decode cX2_after 8 = .ok (.invokevirtual 164, 3) := dk_182 0 164 (dk_at dksX2_after_0 8 rfl rfl)
theorem dX2_after_11 : decode cX2_after 11 = .ok (.ireturn, 1) := dk_172 (dk_at dksX2_after_0 11 rfl rfl)
abbrev cX2_must : ByteArray := prog_16_method_19_code
def yX2_must : MethodName := ⟨RX2, "must", "(Ljava/lang/String;)V"⟩
def dkwX2_must_1 : List UInt8 := [177]
abbrev dktX2_must_1 : List UInt8 := dkwX2_must_1 ++ []
def dkwX2_must_0 : List UInt8 := [42, 180, 0, 100, 154, 0, 20, 42, 43, 182, 0, 124, 154, 0, 12, 42, 4, 42, 180, 0, 81, 182, 0, 127]
abbrev dktX2_must_0 : List UInt8 := dkwX2_must_0 ++ dktX2_must_1
theorem dksX2_must_0 : cX2_must.data.toList.drop 0 = dktX2_must_0 := by decide +kernel
theorem dksX2_must_1 : cX2_must.data.toList.drop 24 = dktX2_must_1 := dk_seg dksX2_must_0 24 rfl rfl
theorem dX2_must_0 : decode cX2_must 0 = .ok (.aload_n 0, 1) := dk_42 (dk_at dksX2_must_0 0 rfl rfl)
theorem dX2_must_1 : decode cX2_must 1 = .ok (.getfield 100, 3) := dk_180 0 100 (dk_at dksX2_must_0 1 rfl rfl)
theorem dX2_must_4 : decode cX2_must 4 = .ok (.ifCond .ne 20, 3) := dk_154 0 20 (dk_at dksX2_must_0 4 rfl rfl)
theorem dX2_must_7 : decode cX2_must 7 = .ok (.aload_n 0, 1) := dk_42 (dk_at dksX2_must_0 7 rfl rfl)
theorem dX2_must_8 : decode cX2_must 8 = .ok (.aload_n 1, 1) := dk_43 (dk_at dksX2_must_0 8 rfl rfl)
theorem dX2_must_9 : decode cX2_must 9 = .ok (.invokevirtual 124, 3) := dk_182 0 124 (dk_at dksX2_must_0 9 rfl rfl)
theorem dX2_must_12 : decode cX2_must 12 = .ok (.ifCond .ne 12, 3) := dk_154 0 12 (dk_at dksX2_must_0 12 rfl rfl)
theorem dX2_must_15 : decode cX2_must 15 = .ok (.aload_n 0, 1) := dk_42 (dk_at dksX2_must_0 15 rfl rfl)
theorem dX2_must_16 : decode cX2_must 16 = .ok (.iconst 1, 1) := dk_4 (dk_at dksX2_must_0 16 rfl rfl)
theorem dX2_must_17 : decode cX2_must 17 = .ok (.aload_n 0, 1) := dk_42 (dk_at dksX2_must_0 17 rfl rfl)
theorem dX2_must_18 : decode cX2_must 18 = .ok (.getfield 81, 3) := dk_180 0 81 (dk_at dksX2_must_0 18 rfl rfl)
theorem dX2_must_21 : decode cX2_must 21 = .ok (.invokevirtual 127, 3) := dk_182 0 127 (dk_at dksX2_must_0 21 rfl rfl)
theorem dX2_must_24 : decode cX2_must 24 = .ok (.return_, 1) := dk_177 (dk_at dksX2_must_1 0 rfl rfl)
abbrev cX2_takesWord : ByteArray := prog_16_method_18_code
def yX2_takesWord : MethodName := ⟨RX2, "takesWord", "(Ljava/lang/String;)Z"⟩
def dkwX2_takesWord_0 : List UInt8 := [42, 43, 182, 0, 117, 154, 0, 5, 3, 172, 42, 182, 0, 121, 4, 172]
abbrev dktX2_takesWord_0 : List UInt8 := dkwX2_takesWord_0 ++ []
theorem dksX2_takesWord_0 : cX2_takesWord.data.toList.drop 0 = dktX2_takesWord_0 := by decide +kernel
theorem dX2_takesWord_0 : decode cX2_takesWord 0 = .ok (.aload_n 0, 1) := dk_42 (dk_at dksX2_takesWord_0 0 rfl rfl)
theorem dX2_takesWord_1 : decode cX2_takesWord 1 = .ok (.aload_n 1, 1) := dk_43 (dk_at dksX2_takesWord_0 1 rfl rfl)
theorem dX2_takesWord_2 : decode cX2_takesWord 2 = .ok (.invokevirtual 117, 3) := dk_182 0 117 (dk_at dksX2_takesWord_0 2 rfl rfl)
theorem dX2_takesWord_5 : decode cX2_takesWord 5 = .ok (.ifCond .ne 5, 3) := dk_154 0 5 (dk_at dksX2_takesWord_0 5 rfl rfl)
theorem dX2_takesWord_8 : decode cX2_takesWord 8 = .ok (.iconst 0, 1) := dk_3 (dk_at dksX2_takesWord_0 8 rfl rfl)
theorem dX2_takesWord_9 : decode cX2_takesWord 9 = .ok (.ireturn, 1) := dk_172 (dk_at dksX2_takesWord_0 9 rfl rfl)
theorem dX2_takesWord_10 : decode cX2_takesWord 10 = .ok (.aload_n 0, 1) := dk_42 (dk_at dksX2_takesWord_0 10 rfl rfl)
theorem dX2_takesWord_11 : decode cX2_takesWord 11 = .ok (.invokevirtual 121, 3) := dk_182 0 121 (dk_at dksX2_takesWord_0 11 rfl rfl)
theorem dX2_takesWord_14 : decode cX2_takesWord 14 = .ok (.iconst 1, 1) := dk_4 (dk_at dksX2_takesWord_0 14 rfl rfl)
theorem dX2_takesWord_15 : decode cX2_takesWord 15 = .ok (.ireturn, 1) := dk_172 (dk_at dksX2_takesWord_0 15 rfl rfl)
abbrev cX2_number : ByteArray := prog_16_method_26_code
def yX2_number : MethodName := ⟨RX2, "numbe\x72", "(II)I"⟩
def dkwX2_number_2 : List UInt8 := [182, 0, 127, 42, 180, 0, 100, 153, 0, 5, 27, 172, 42, 180, 0, 87, 62, 42, 182, 0, 121, 29, 172]
abbrev dktX2_number_2 : List UInt8 := dkwX2_number_2 ++ []
def dkwX2_number_1 : List UInt8 := [182, 0, 127, 167, 0, 24, 42, 180, 0, 87, 27, 28, 184, 0, 149, 154, 0, 12, 42, 7, 42, 180, 0, 81]
abbrev dktX2_number_1 : List UInt8 := dkwX2_number_1 ++ dktX2_number_2
def dkwX2_number_0 : List UInt8 := [42, 180, 0, 100, 153, 0, 5, 27, 172, 42, 180, 0, 90, 6, 159, 0, 15, 42, 4, 42, 180, 0, 81]
abbrev dktX2_number_0 : List UInt8 := dkwX2_number_0 ++ dktX2_number_1
theorem dksX2_number_0 : cX2_number.data.toList.drop 0 = dktX2_number_0 := by decide +kernel
theorem dksX2_number_1 : cX2_number.data.toList.drop 23 = dktX2_number_1 := dk_seg dksX2_number_0 23 rfl rfl
theorem dksX2_number_2 : cX2_number.data.toList.drop 47 = dktX2_number_2 := dk_seg dksX2_number_1 24 rfl rfl
theorem dX2_number_0 : decode cX2_number 0 = .ok (.aload_n 0, 1) := dk_42 (dk_at dksX2_number_0 0 rfl rfl)
theorem dX2_number_1 : decode cX2_number 1 = .ok (.getfield 100, 3) := dk_180 0 100 (dk_at dksX2_number_0 1 rfl rfl)
theorem dX2_number_4 : decode cX2_number 4 = .ok (.ifCond .eq 5, 3) := dk_153 0 5 (dk_at dksX2_number_0 4 rfl rfl)
theorem dX2_number_7 : decode cX2_number 7 = .ok (.iload_n 1, 1) := dk_27 (dk_at dksX2_number_0 7 rfl rfl)
theorem dX2_number_8 : decode cX2_number 8 = .ok (.ireturn, 1) := dk_172 (dk_at dksX2_number_0 8 rfl rfl)
theorem dX2_number_9 : decode cX2_number 9 = .ok (.aload_n 0, 1) := dk_42 (dk_at dksX2_number_0 9 rfl rfl)
theorem dX2_number_10 : decode cX2_number 10 = .ok (.getfield 90, 3) := dk_180 0 90 (dk_at dksX2_number_0 10 rfl rfl)
theorem dX2_number_13 : decode cX2_number 13 = .ok (.iconst 3, 1) := dk_6 (dk_at dksX2_number_0 13 rfl rfl)
theorem dX2_number_14 : decode cX2_number 14 = .ok (.if_icmp .eq 15, 3) := dk_159 0 15 (dk_at dksX2_number_0 14 rfl rfl)
theorem dX2_number_17 : decode cX2_number 17 = .ok (.aload_n 0, 1) := dk_42 (dk_at dksX2_number_0 17 rfl rfl)
theorem dX2_number_18 : decode cX2_number 18 = .ok (.iconst 1, 1) := dk_4 (dk_at dksX2_number_0 18 rfl rfl)
theorem dX2_number_19 : decode cX2_number 19 = .ok (.aload_n 0, 1) := dk_42 (dk_at dksX2_number_0 19 rfl rfl)
theorem dX2_number_20 : decode cX2_number 20 = .ok (.getfield 81, 3) := dk_180 0 81 (dk_at dksX2_number_0 20 rfl rfl)
theorem dX2_number_23 : decode cX2_number 23 = .ok (.invokevirtual 127, 3) := dk_182 0 127 (dk_at dksX2_number_1 0 rfl rfl)
theorem dX2_number_26 : decode cX2_number 26 = .ok (.goto 24, 3) := dk_167 0 24 (dk_at dksX2_number_1 3 rfl rfl)
theorem dX2_number_29 : decode cX2_number 29 = .ok (.aload_n 0, 1) := dk_42 (dk_at dksX2_number_1 6 rfl rfl)
theorem dX2_number_30 : decode cX2_number 30 = .ok (.getfield 87, 3) := dk_180 0 87 (dk_at dksX2_number_1 7 rfl rfl)
theorem dX2_number_33 : decode cX2_number 33 = .ok (.iload_n 1, 1) := dk_27 (dk_at dksX2_number_1 10 rfl rfl)
theorem dX2_number_34 : decode cX2_number 34 = .ok (.iload_n 2, 1) := dk_28 (dk_at dksX2_number_1 11 rfl rfl)
theorem dX2_number_35 : decode cX2_number 35 = .ok (.invokestatic 149, 3) := dk_184 0 149 (dk_at dksX2_number_1 12 rfl rfl)
theorem dX2_number_38 : decode cX2_number 38 = .ok (.ifCond .ne 12, 3) := dk_154 0 12 (dk_at dksX2_number_1 15 rfl rfl)
theorem dX2_number_41 : decode cX2_number 41 = .ok (.aload_n 0, 1) := dk_42 (dk_at dksX2_number_1 18 rfl rfl)
theorem dX2_number_42 : decode cX2_number 42 = .ok (.iconst 4, 1) := dk_7 (dk_at dksX2_number_1 19 rfl rfl)
theorem dX2_number_43 : decode cX2_number 43 = .ok (.aload_n 0, 1) := dk_42 (dk_at dksX2_number_1 20 rfl rfl)
theorem dX2_number_44 : decode cX2_number 44 = .ok (.getfield 81, 3) := dk_180 0 81 (dk_at dksX2_number_1 21 rfl rfl)
theorem dX2_number_47 : decode cX2_number 47 = .ok (.invokevirtual 127, 3) := dk_182 0 127 (dk_at dksX2_number_2 0 rfl rfl)
theorem dX2_number_50 : decode cX2_number 50 = .ok (.aload_n 0, 1) := dk_42 (dk_at dksX2_number_2 3 rfl rfl)
theorem dX2_number_51 : decode cX2_number 51 = .ok (.getfield 100, 3) := dk_180 0 100 (dk_at dksX2_number_2 4 rfl rfl)
theorem dX2_number_54 : decode cX2_number 54 = .ok (.ifCond .eq 5, 3) := dk_153 0 5 (dk_at dksX2_number_2 7 rfl rfl)
theorem dX2_number_57 : decode cX2_number 57 = .ok (.iload_n 1, 1) := dk_27 (dk_at dksX2_number_2 10 rfl rfl)
theorem dX2_number_58 : decode cX2_number 58 = .ok (.ireturn, 1) := dk_172 (dk_at dksX2_number_2 11 rfl rfl)
theorem dX2_number_59 : decode cX2_number 59 = .ok (.aload_n 0, 1) := dk_42 (dk_at dksX2_number_2 12 rfl rfl)
theorem dX2_number_60 : decode cX2_number 60 = .ok (.getfield 87, 3) := dk_180 0 87 (dk_at dksX2_number_2 13 rfl rfl)
theorem dX2_number_63 : decode cX2_number 63 = .ok (.istore_n 3, 1) := dk_62 (dk_at dksX2_number_2 16 rfl rfl)
theorem dX2_number_64 : decode cX2_number 64 = .ok (.aload_n 0, 1) := dk_42 (dk_at dksX2_number_2 17 rfl rfl)
theorem dX2_number_65 : decode cX2_number 65 = .ok (.invokevirtual 121, 3) := dk_182 0 121 (dk_at dksX2_number_2 18 rfl rfl)
theorem dX2_number_68 : decode cX2_number 68 = .ok (.iload_n 3, 1) := dk_29 (dk_at dksX2_number_2 21 rfl rfl)
theorem dX2_number_69 : decode cX2_number 69 = .ok (.ireturn, 1) := dk_172 (dk_at dksX2_number_2 22 rfl rfl)
abbrev cX2_begins : ByteArray := prog_16_method_29_code
def yX2_begins : MethodName := ⟨RX2, "begins", "(Ljava/lang/String;Z)Z"⟩
def dkwX2_begins_2 : List UInt8 := [154, 0, 7, 42, 182, 0, 121, 4, 172]
abbrev dktX2_begins_2 : List UInt8 := dkwX2_begins_2 ++ []
def dkwX2_begins_1 : List UInt8 := [180, 0, 23, 16, 9, 46, 154, 0, 13, 42, 16, 6, 42, 180, 0, 81, 182, 0, 127, 42, 180, 0, 100]
abbrev dktX2_begins_1 : List UInt8 := dkwX2_begins_1 ++ dktX2_begins_2
def dkwX2_begins_0 : List UInt8 := [42, 43, 182, 0, 117, 154, 0, 5, 3, 172, 28, 154, 0, 12, 42, 8, 42, 180, 0, 81, 182, 0, 127, 42]
abbrev dktX2_begins_0 : List UInt8 := dkwX2_begins_0 ++ dktX2_begins_1
theorem dksX2_begins_0 : cX2_begins.data.toList.drop 0 = dktX2_begins_0 := by decide +kernel
theorem dksX2_begins_1 : cX2_begins.data.toList.drop 24 = dktX2_begins_1 := dk_seg dksX2_begins_0 24 rfl rfl
theorem dksX2_begins_2 : cX2_begins.data.toList.drop 47 = dktX2_begins_2 := dk_seg dksX2_begins_1 23 rfl rfl
theorem dX2_begins_0 : decode cX2_begins 0 = .ok (.aload_n 0, 1) := dk_42 (dk_at dksX2_begins_0 0 rfl rfl)
theorem dX2_begins_1 : decode cX2_begins 1 = .ok (.aload_n 1, 1) := dk_43 (dk_at dksX2_begins_0 1 rfl rfl)
theorem dX2_begins_2 : decode cX2_begins 2 = .ok (.invokevirtual 117, 3) := dk_182 0 117 (dk_at dksX2_begins_0 2 rfl rfl)
theorem dX2_begins_5 : decode cX2_begins 5 = .ok (.ifCond .ne 5, 3) := dk_154 0 5 (dk_at dksX2_begins_0 5 rfl rfl)
theorem dX2_begins_8 : decode cX2_begins 8 = .ok (.iconst 0, 1) := dk_3 (dk_at dksX2_begins_0 8 rfl rfl)
theorem dX2_begins_9 : decode cX2_begins 9 = .ok (.ireturn, 1) := dk_172 (dk_at dksX2_begins_0 9 rfl rfl)
theorem dX2_begins_10 : decode cX2_begins 10 = .ok (.iload_n 2, 1) := dk_28 (dk_at dksX2_begins_0 10 rfl rfl)
theorem dX2_begins_11 : decode cX2_begins 11 = .ok (.ifCond .ne 12, 3) := dk_154 0 12 (dk_at dksX2_begins_0 11 rfl rfl)
theorem dX2_begins_14 : decode cX2_begins 14 = .ok (.aload_n 0, 1) := dk_42 (dk_at dksX2_begins_0 14 rfl rfl)
theorem dX2_begins_15 : decode cX2_begins 15 = .ok (.iconst 5, 1) := dk_8 (dk_at dksX2_begins_0 15 rfl rfl)
theorem dX2_begins_16 : decode cX2_begins 16 = .ok (.aload_n 0, 1) := dk_42 (dk_at dksX2_begins_0 16 rfl rfl)
theorem dX2_begins_17 : decode cX2_begins 17 = .ok (.getfield 81, 3) := dk_180 0 81 (dk_at dksX2_begins_0 17 rfl rfl)
theorem dX2_begins_20 : decode cX2_begins 20 = .ok (.invokevirtual 127, 3) := dk_182 0 127 (dk_at dksX2_begins_0 20 rfl rfl)
theorem dX2_begins_23 : decode cX2_begins 23 = .ok (.aload_n 0, 1) := dk_42 (dk_at dksX2_begins_0 23 rfl rfl)
theorem dX2_begins_24 : decode cX2_begins 24 = .ok (.getfield 23, 3) := dk_180 0 23 (dk_at dksX2_begins_1 0 rfl rfl)
theorem dX2_begins_27 : decode cX2_begins 27 = .ok (.bipush 9, 2) := dk_16 9 (dk_at dksX2_begins_1 3 rfl rfl)
theorem dX2_begins_29 : decode cX2_begins 29 = .ok (.iaload, 1) := dk_46 (dk_at dksX2_begins_1 5 rfl rfl)
theorem dX2_begins_30 : decode cX2_begins 30 = .ok (.ifCond .ne 13, 3) := dk_154 0 13 (dk_at dksX2_begins_1 6 rfl rfl)
theorem dX2_begins_33 : decode cX2_begins 33 = .ok (.aload_n 0, 1) := dk_42 (dk_at dksX2_begins_1 9 rfl rfl)
theorem dX2_begins_34 : decode cX2_begins 34 = .ok (.bipush 6, 2) := dk_16 6 (dk_at dksX2_begins_1 10 rfl rfl)
theorem dX2_begins_36 : decode cX2_begins 36 = .ok (.aload_n 0, 1) := dk_42 (dk_at dksX2_begins_1 12 rfl rfl)
theorem dX2_begins_37 : decode cX2_begins 37 = .ok (.getfield 81, 3) := dk_180 0 81 (dk_at dksX2_begins_1 13 rfl rfl)
theorem dX2_begins_40 : decode cX2_begins 40 = .ok (.invokevirtual 127, 3) := dk_182 0 127 (dk_at dksX2_begins_1 16 rfl rfl)
theorem dX2_begins_43 : decode cX2_begins 43 = .ok (.aload_n 0, 1) := dk_42 (dk_at dksX2_begins_1 19 rfl rfl)
theorem dX2_begins_44 : decode cX2_begins 44 = .ok (.getfield 100, 3) := dk_180 0 100 (dk_at dksX2_begins_1 20 rfl rfl)
theorem dX2_begins_47 : decode cX2_begins 47 = .ok (.ifCond .ne 7, 3) := dk_154 0 7 (dk_at dksX2_begins_2 0 rfl rfl)
theorem dX2_begins_50 : decode cX2_begins 50 = .ok (.aload_n 0, 1) := dk_42 (dk_at dksX2_begins_2 3 rfl rfl)
theorem dX2_begins_51 : decode cX2_begins 51 = .ok (.invokevirtual 121, 3) := dk_182 0 121 (dk_at dksX2_begins_2 4 rfl rfl)
theorem dX2_begins_54 : decode cX2_begins 54 = .ok (.iconst 1, 1) := dk_4 (dk_at dksX2_begins_2 7 rfl rfl)
theorem dX2_begins_55 : decode cX2_begins 55 = .ok (.ireturn, 1) := dk_172 (dk_at dksX2_begins_2 8 rfl rfl)
abbrev cX2_islandLine : ByteArray := prog_16_method_32_code
def yX2_islandLine : MethodName := ⟨RX2, "islandLine", "()V"⟩
def dkwX2_islandLine_11 : List UInt8 := [177]
abbrev dktX2_islandLine_11 : List UInt8 := dkwX2_islandLine_11 ++ []
def dkwX2_islandLine_10 : List UInt8 := [16, 97, 100, 79, 132, 5, 1, 167, 255, 222, 42, 182, 0, 121, 42, 180, 0, 23, 7, 92, 46, 4, 96, 79]
abbrev dktX2_islandLine_10 : List UInt8 := dkwX2_islandLine_10 ++ dktX2_islandLine_11
def dkwX2_islandLine_9 : List UInt8 := [180, 0, 84, 162, 0, 31, 42, 180, 0, 23, 21, 4, 4, 96, 21, 5, 96, 42, 180, 0, 17, 21, 5, 46]
abbrev dktX2_islandLine_9 : List UInt8 := dkwX2_islandLine_9 ++ dktX2_islandLine_10
def dkwX2_islandLine_8 : List UInt8 := [16, 7, 27, 104, 96, 54, 4, 42, 180, 0, 23, 21, 4, 42, 180, 0, 84, 79, 3, 54, 5, 21, 5, 42]
abbrev dktX2_islandLine_8 : List UInt8 := dkwX2_islandLine_8 ++ dktX2_islandLine_9
def dkwX2_islandLine_7 : List UInt8 := [154, 0, 13, 42, 16, 7, 42, 180, 0, 81, 182, 0, 127, 42, 180, 0, 100, 153, 0, 4, 177, 16, 10]
abbrev dktX2_islandLine_7 : List UInt8 := dkwX2_islandLine_7 ++ dktX2_islandLine_8
def dkwX2_islandLine_6 : List UInt8 := [132, 4, 1, 167, 255, 228, 29, 153, 0, 15, 42, 6, 42, 180, 0, 81, 182, 0, 127, 167, 0, 17, 28]
abbrev dktX2_islandLine_6 : List UInt8 := dkwX2_islandLine_6 ++ dktX2_islandLine_7
def dkwX2_islandLine_5 : List UInt8 := [162, 0, 28, 29, 154, 0, 12, 42, 21, 4, 182, 0, 227, 153, 0, 7, 4, 167, 0, 4, 3, 62]
abbrev dktX2_islandLine_5 : List UInt8 := dkwX2_islandLine_5 ++ dktX2_islandLine_6
def dkwX2_islandLine_4 : List UInt8 := [162, 0, 7, 4, 167, 0, 4, 3, 61, 132, 3, 1, 167, 255, 217, 3, 62, 3, 54, 4, 21, 4, 27]
abbrev dktX2_islandLine_4 : List UInt8 := dkwX2_islandLine_4 ++ dktX2_islandLine_5
def dkwX2_islandLine_3 : List UInt8 := [162, 0, 37, 28, 153, 0, 25, 42, 180, 0, 17, 29, 46, 16, 97, 100, 42, 180, 0, 23, 3, 46]
abbrev dktX2_islandLine_3 : List UInt8 := dkwX2_islandLine_3 ++ dktX2_islandLine_4
def dkwX2_islandLine_2 : List UInt8 := [153, 0, 4, 177, 42, 180, 0, 84, 5, 16, 6, 184, 0, 149, 61, 3, 62, 29, 42, 180, 0, 84]
abbrev dktX2_islandLine_2 : List UInt8 := dkwX2_islandLine_2 ++ dktX2_islandLine_3
def dkwX2_islandLine_1 : List UInt8 := [154, 0, 20, 42, 180, 0, 90, 5, 159, 0, 12, 42, 4, 42, 180, 0, 81, 182, 0, 127, 42, 180, 0, 100]
abbrev dktX2_islandLine_1 : List UInt8 := dkwX2_islandLine_1 ++ dktX2_islandLine_2
def dkwX2_islandLine_0 : List UInt8 := [42, 180, 0, 100, 153, 0, 4, 177, 42, 180, 0, 23, 7, 46, 60, 42, 27, 182, 0, 223, 42, 180, 0, 100]
abbrev dktX2_islandLine_0 : List UInt8 := dkwX2_islandLine_0 ++ dktX2_islandLine_1
theorem dksX2_islandLine_0 : cX2_islandLine.data.toList.drop 0 = dktX2_islandLine_0 := by decide +kernel
theorem dksX2_islandLine_1 : cX2_islandLine.data.toList.drop 24 = dktX2_islandLine_1 := dk_seg dksX2_islandLine_0 24 rfl rfl
theorem dksX2_islandLine_2 : cX2_islandLine.data.toList.drop 48 = dktX2_islandLine_2 := dk_seg dksX2_islandLine_1 24 rfl rfl
theorem dksX2_islandLine_3 : cX2_islandLine.data.toList.drop 70 = dktX2_islandLine_3 := dk_seg dksX2_islandLine_2 22 rfl rfl
theorem dksX2_islandLine_4 : cX2_islandLine.data.toList.drop 92 = dktX2_islandLine_4 := dk_seg dksX2_islandLine_3 22 rfl rfl
theorem dksX2_islandLine_5 : cX2_islandLine.data.toList.drop 115 = dktX2_islandLine_5 := dk_seg dksX2_islandLine_4 23 rfl rfl
theorem dksX2_islandLine_6 : cX2_islandLine.data.toList.drop 137 = dktX2_islandLine_6 := dk_seg dksX2_islandLine_5 22 rfl rfl
theorem dksX2_islandLine_7 : cX2_islandLine.data.toList.drop 160 = dktX2_islandLine_7 := dk_seg dksX2_islandLine_6 23 rfl rfl
theorem dksX2_islandLine_8 : cX2_islandLine.data.toList.drop 183 = dktX2_islandLine_8 := dk_seg dksX2_islandLine_7 23 rfl rfl
theorem dksX2_islandLine_9 : cX2_islandLine.data.toList.drop 207 = dktX2_islandLine_9 := dk_seg dksX2_islandLine_8 24 rfl rfl
theorem dksX2_islandLine_10 : cX2_islandLine.data.toList.drop 231 = dktX2_islandLine_10 := dk_seg dksX2_islandLine_9 24 rfl rfl
theorem dksX2_islandLine_11 : cX2_islandLine.data.toList.drop 255 = dktX2_islandLine_11 := dk_seg dksX2_islandLine_10 24 rfl rfl
theorem dX2_islandLine_0 : decode cX2_islandLine 0 = .ok (.aload_n 0, 1) := dk_42 (dk_at dksX2_islandLine_0 0 rfl rfl)
theorem dX2_islandLine_1 : decode cX2_islandLine 1 = .ok (.getfield 100, 3) := dk_180 0 100 (dk_at dksX2_islandLine_0 1 rfl rfl)
theorem dX2_islandLine_4 : decode cX2_islandLine 4 = .ok (.ifCond .eq 4, 3) := dk_153 0 4 (dk_at dksX2_islandLine_0 4 rfl rfl)
theorem dX2_islandLine_7 : decode cX2_islandLine 7 = .ok (.return_, 1) := dk_177 (dk_at dksX2_islandLine_0 7 rfl rfl)
theorem dX2_islandLine_8 : decode cX2_islandLine 8 = .ok (.aload_n 0, 1) := dk_42 (dk_at dksX2_islandLine_0 8 rfl rfl)
theorem dX2_islandLine_9 : decode cX2_islandLine 9 = .ok (.getfield 23, 3) := dk_180 0 23 (dk_at dksX2_islandLine_0 9 rfl rfl)
theorem dX2_islandLine_12 : decode cX2_islandLine 12 = .ok (.iconst 4, 1) := dk_7 (dk_at dksX2_islandLine_0 12 rfl rfl)
theorem dX2_islandLine_13 : decode cX2_islandLine 13 = .ok (.iaload, 1) := dk_46 (dk_at dksX2_islandLine_0 13 rfl rfl)
theorem dX2_islandLine_14 : decode cX2_islandLine 14 = .ok (.istore_n 1, 1) := dk_60 (dk_at dksX2_islandLine_0 14 rfl rfl)
theorem dX2_islandLine_15 : decode cX2_islandLine 15 = .ok (.aload_n 0, 1) := dk_42 (dk_at dksX2_islandLine_0 15 rfl rfl)
theorem dX2_islandLine_16 : decode cX2_islandLine 16 = .ok (.iload_n 1, 1) := dk_27 (dk_at dksX2_islandLine_0 16 rfl rfl)
theorem dX2_islandLine_17 : decode cX2_islandLine 17 = .ok (.invokevirtual 223, 3) := dk_182 0 223 (dk_at dksX2_islandLine_0 17 rfl rfl)
theorem dX2_islandLine_20 : decode cX2_islandLine 20 = .ok (.aload_n 0, 1) := dk_42 (dk_at dksX2_islandLine_0 20 rfl rfl)
theorem dX2_islandLine_21 : decode cX2_islandLine 21 = .ok (.getfield 100, 3) := dk_180 0 100 (dk_at dksX2_islandLine_0 21 rfl rfl)
theorem dX2_islandLine_24 : decode cX2_islandLine 24 = .ok (.ifCond .ne 20, 3) := dk_154 0 20 (dk_at dksX2_islandLine_1 0 rfl rfl)
theorem dX2_islandLine_27 : decode cX2_islandLine 27 = .ok (.aload_n 0, 1) := dk_42 (dk_at dksX2_islandLine_1 3 rfl rfl)
theorem dX2_islandLine_28 : decode cX2_islandLine 28 = .ok (.getfield 90, 3) := dk_180 0 90 (dk_at dksX2_islandLine_1 4 rfl rfl)
theorem dX2_islandLine_31 : decode cX2_islandLine 31 = .ok (.iconst 2, 1) := dk_5 (dk_at dksX2_islandLine_1 7 rfl rfl)
theorem dX2_islandLine_32 : decode cX2_islandLine 32 = .ok (.if_icmp .eq 12, 3) := dk_159 0 12 (dk_at dksX2_islandLine_1 8 rfl rfl)
theorem dX2_islandLine_35 : decode cX2_islandLine 35 = .ok (.aload_n 0, 1) := dk_42 (dk_at dksX2_islandLine_1 11 rfl rfl)
theorem dX2_islandLine_36 : decode cX2_islandLine 36 = .ok (.iconst 1, 1) := dk_4 (dk_at dksX2_islandLine_1 12 rfl rfl)
theorem dX2_islandLine_37 : decode cX2_islandLine 37 = .ok (.aload_n 0, 1) := dk_42 (dk_at dksX2_islandLine_1 13 rfl rfl)
theorem dX2_islandLine_38 : decode cX2_islandLine 38 = .ok (.getfield 81, 3) := dk_180 0 81 (dk_at dksX2_islandLine_1 14 rfl rfl)
theorem dX2_islandLine_41 : decode cX2_islandLine 41 = .ok (.invokevirtual 127, 3) := dk_182 0 127 (dk_at dksX2_islandLine_1 17 rfl rfl)
theorem dX2_islandLine_44 : decode cX2_islandLine 44 = .ok (.aload_n 0, 1) := dk_42 (dk_at dksX2_islandLine_1 20 rfl rfl)
theorem dX2_islandLine_45 : decode cX2_islandLine 45 = .ok (.getfield 100, 3) := dk_180 0 100 (dk_at dksX2_islandLine_1 21 rfl rfl)
theorem dX2_islandLine_48 : decode cX2_islandLine 48 = .ok (.ifCond .eq 4, 3) := dk_153 0 4 (dk_at dksX2_islandLine_2 0 rfl rfl)
theorem dX2_islandLine_51 : decode cX2_islandLine 51 = .ok (.return_, 1) := dk_177 (dk_at dksX2_islandLine_2 3 rfl rfl)
theorem dX2_islandLine_52 : decode cX2_islandLine 52 = .ok (.aload_n 0, 1) := dk_42 (dk_at dksX2_islandLine_2 4 rfl rfl)
theorem dX2_islandLine_53 : decode cX2_islandLine 53 = .ok (.getfield 84, 3) := dk_180 0 84 (dk_at dksX2_islandLine_2 5 rfl rfl)
theorem dX2_islandLine_56 : decode cX2_islandLine 56 = .ok (.iconst 2, 1) := dk_5 (dk_at dksX2_islandLine_2 8 rfl rfl)
theorem dX2_islandLine_57 : decode cX2_islandLine 57 = .ok (.bipush 6, 2) := dk_16 6 (dk_at dksX2_islandLine_2 9 rfl rfl)
theorem dX2_islandLine_59 : decode cX2_islandLine 59 = .ok (.invokestatic 149, 3) := dk_184 0 149 (dk_at dksX2_islandLine_2 11 rfl rfl)
theorem dX2_islandLine_62 : decode cX2_islandLine 62 = .ok (.istore_n 2, 1) := dk_61 (dk_at dksX2_islandLine_2 14 rfl rfl)
theorem dX2_islandLine_63 : decode cX2_islandLine 63 = .ok (.iconst 0, 1) := dk_3 (dk_at dksX2_islandLine_2 15 rfl rfl)
theorem dX2_islandLine_64 : decode cX2_islandLine 64 = .ok (.istore_n 3, 1) := dk_62 (dk_at dksX2_islandLine_2 16 rfl rfl)
theorem dX2_islandLine_65 : decode cX2_islandLine 65 = .ok (.iload_n 3, 1) := dk_29 (dk_at dksX2_islandLine_2 17 rfl rfl)
theorem dX2_islandLine_66 : decode cX2_islandLine 66 = .ok (.aload_n 0, 1) := dk_42 (dk_at dksX2_islandLine_2 18 rfl rfl)
theorem dX2_islandLine_67 : decode cX2_islandLine 67 = .ok (.getfield 84, 3) := dk_180 0 84 (dk_at dksX2_islandLine_2 19 rfl rfl)
theorem dX2_islandLine_70 : decode cX2_islandLine 70 = .ok (.if_icmp .ge 37, 3) := dk_162 0 37 (dk_at dksX2_islandLine_3 0 rfl rfl)
theorem dX2_islandLine_73 : decode cX2_islandLine 73 = .ok (.iload_n 2, 1) := dk_28 (dk_at dksX2_islandLine_3 3 rfl rfl)
theorem dX2_islandLine_74 : decode cX2_islandLine 74 = .ok (.ifCond .eq 25, 3) := dk_153 0 25 (dk_at dksX2_islandLine_3 4 rfl rfl)
theorem dX2_islandLine_77 : decode cX2_islandLine 77 = .ok (.aload_n 0, 1) := dk_42 (dk_at dksX2_islandLine_3 7 rfl rfl)
theorem dX2_islandLine_78 : decode cX2_islandLine 78 = .ok (.getfield 17, 3) := dk_180 0 17 (dk_at dksX2_islandLine_3 8 rfl rfl)
theorem dX2_islandLine_81 : decode cX2_islandLine 81 = .ok (.iload_n 3, 1) := dk_29 (dk_at dksX2_islandLine_3 11 rfl rfl)
theorem dX2_islandLine_82 : decode cX2_islandLine 82 = .ok (.iaload, 1) := dk_46 (dk_at dksX2_islandLine_3 12 rfl rfl)
theorem dX2_islandLine_83 : decode cX2_islandLine 83 = .ok (.bipush 97, 2) := dk_16 97 (dk_at dksX2_islandLine_3 13 rfl rfl)
theorem dX2_islandLine_85 : decode cX2_islandLine 85 = .ok (.isub, 1) := dk_100 (dk_at dksX2_islandLine_3 15 rfl rfl)
theorem dX2_islandLine_86 : decode cX2_islandLine 86 = .ok (.aload_n 0, 1) := dk_42 (dk_at dksX2_islandLine_3 16 rfl rfl)
theorem dX2_islandLine_87 : decode cX2_islandLine 87 = .ok (.getfield 23, 3) := dk_180 0 23 (dk_at dksX2_islandLine_3 17 rfl rfl)
theorem dX2_islandLine_90 : decode cX2_islandLine 90 = .ok (.iconst 0, 1) := dk_3 (dk_at dksX2_islandLine_3 20 rfl rfl)
theorem dX2_islandLine_91 : decode cX2_islandLine 91 = .ok (.iaload, 1) := dk_46 (dk_at dksX2_islandLine_3 21 rfl rfl)
theorem dX2_islandLine_92 : decode cX2_islandLine 92 = .ok (.if_icmp .ge 7, 3) := dk_162 0 7 (dk_at dksX2_islandLine_4 0 rfl rfl)
theorem dX2_islandLine_95 : decode cX2_islandLine 95 = .ok (.iconst 1, 1) := dk_4 (dk_at dksX2_islandLine_4 3 rfl rfl)
theorem dX2_islandLine_96 : decode cX2_islandLine 96 = .ok (.goto 4, 3) := dk_167 0 4 (dk_at dksX2_islandLine_4 4 rfl rfl)
theorem dX2_islandLine_99 : decode cX2_islandLine 99 = .ok (.iconst 0, 1) := dk_3 (dk_at dksX2_islandLine_4 7 rfl rfl)
theorem dX2_islandLine_100 : decode cX2_islandLine 100 = .ok (.istore_n 2, 1) := dk_61 (dk_at dksX2_islandLine_4 8 rfl rfl)
theorem dX2_islandLine_101 : decode cX2_islandLine 101 = .ok (.iinc 3 1, 3) := dk_132 3 1 (dk_at dksX2_islandLine_4 9 rfl rfl)
theorem dX2_islandLine_104 : decode cX2_islandLine 104 = .ok (.goto (-39), 3) := dk_167 255 217 (dk_at dksX2_islandLine_4 12 rfl rfl)
theorem dX2_islandLine_107 : decode cX2_islandLine 107 = .ok (.iconst 0, 1) := dk_3 (dk_at dksX2_islandLine_4 15 rfl rfl)
theorem dX2_islandLine_108 : decode cX2_islandLine 108 = .ok (.istore_n 3, 1) := dk_62 (dk_at dksX2_islandLine_4 16 rfl rfl)
theorem dX2_islandLine_109 : decode cX2_islandLine 109 = .ok (.iconst 0, 1) := dk_3 (dk_at dksX2_islandLine_4 17 rfl rfl)
theorem dX2_islandLine_110 : decode cX2_islandLine 110 = .ok (.istore 4, 2) := dk_54 4 (dk_at dksX2_islandLine_4 18 rfl rfl)
theorem dX2_islandLine_112 : decode cX2_islandLine 112 = .ok (.iload 4, 2) := dk_21 4 (dk_at dksX2_islandLine_4 20 rfl rfl)
theorem dX2_islandLine_114 : decode cX2_islandLine 114 = .ok (.iload_n 1, 1) := dk_27 (dk_at dksX2_islandLine_4 22 rfl rfl)
theorem dX2_islandLine_115 : decode cX2_islandLine 115 = .ok (.if_icmp .ge 28, 3) := dk_162 0 28 (dk_at dksX2_islandLine_5 0 rfl rfl)
theorem dX2_islandLine_118 : decode cX2_islandLine 118 = .ok (.iload_n 3, 1) := dk_29 (dk_at dksX2_islandLine_5 3 rfl rfl)
theorem dX2_islandLine_119 : decode cX2_islandLine 119 = .ok (.ifCond .ne 12, 3) := dk_154 0 12 (dk_at dksX2_islandLine_5 4 rfl rfl)
theorem dX2_islandLine_122 : decode cX2_islandLine 122 = .ok (.aload_n 0, 1) := dk_42 (dk_at dksX2_islandLine_5 7 rfl rfl)
theorem dX2_islandLine_123 : decode cX2_islandLine 123 = .ok (.iload 4, 2) := dk_21 4 (dk_at dksX2_islandLine_5 8 rfl rfl)
theorem dX2_islandLine_125 : decode cX2_islandLine 125 = .ok (.invokevirtual 227, 3) := dk_182 0 227 (dk_at dksX2_islandLine_5 10 rfl rfl)
theorem dX2_islandLine_128 : decode cX2_islandLine 128 = .ok (.ifCond .eq 7, 3) := dk_153 0 7 (dk_at dksX2_islandLine_5 13 rfl rfl)
theorem dX2_islandLine_131 : decode cX2_islandLine 131 = .ok (.iconst 1, 1) := dk_4 (dk_at dksX2_islandLine_5 16 rfl rfl)
theorem dX2_islandLine_132 : decode cX2_islandLine 132 = .ok (.goto 4, 3) := dk_167 0 4 (dk_at dksX2_islandLine_5 17 rfl rfl)
theorem dX2_islandLine_135 : decode cX2_islandLine 135 = .ok (.iconst 0, 1) := dk_3 (dk_at dksX2_islandLine_5 20 rfl rfl)
theorem dX2_islandLine_136 : decode cX2_islandLine 136 = .ok (.istore_n 3, 1) := dk_62 (dk_at dksX2_islandLine_5 21 rfl rfl)
theorem dX2_islandLine_137 : decode cX2_islandLine 137 = .ok (.iinc 4 1, 3) := dk_132 4 1 (dk_at dksX2_islandLine_6 0 rfl rfl)
theorem dX2_islandLine_140 : decode cX2_islandLine 140 = .ok (.goto (-28), 3) := dk_167 255 228 (dk_at dksX2_islandLine_6 3 rfl rfl)
theorem dX2_islandLine_143 : decode cX2_islandLine 143 = .ok (.iload_n 3, 1) := dk_29 (dk_at dksX2_islandLine_6 6 rfl rfl)
theorem dX2_islandLine_144 : decode cX2_islandLine 144 = .ok (.ifCond .eq 15, 3) := dk_153 0 15 (dk_at dksX2_islandLine_6 7 rfl rfl)
theorem dX2_islandLine_147 : decode cX2_islandLine 147 = .ok (.aload_n 0, 1) := dk_42 (dk_at dksX2_islandLine_6 10 rfl rfl)
theorem dX2_islandLine_148 : decode cX2_islandLine 148 = .ok (.iconst 3, 1) := dk_6 (dk_at dksX2_islandLine_6 11 rfl rfl)
theorem dX2_islandLine_149 : decode cX2_islandLine 149 = .ok (.aload_n 0, 1) := dk_42 (dk_at dksX2_islandLine_6 12 rfl rfl)
theorem dX2_islandLine_150 : decode cX2_islandLine 150 = .ok (.getfield 81, 3) := dk_180 0 81 (dk_at dksX2_islandLine_6 13 rfl rfl)
theorem dX2_islandLine_153 : decode cX2_islandLine 153 = .ok (.invokevirtual 127, 3) := dk_182 0 127 (dk_at dksX2_islandLine_6 16 rfl rfl)
theorem dX2_islandLine_156 : decode cX2_islandLine 156 = .ok (.goto 17, 3) := dk_167 0 17 (dk_at dksX2_islandLine_6 19 rfl rfl)
theorem dX2_islandLine_159 : decode cX2_islandLine 159 = .ok (.iload_n 2, 1) := dk_28 (dk_at dksX2_islandLine_6 22 rfl rfl)
theorem dX2_islandLine_160 : decode cX2_islandLine 160 = .ok (.ifCond .ne 13, 3) := dk_154 0 13 (dk_at dksX2_islandLine_7 0 rfl rfl)
theorem dX2_islandLine_163 : decode cX2_islandLine 163 = .ok (.aload_n 0, 1) := dk_42 (dk_at dksX2_islandLine_7 3 rfl rfl)
theorem dX2_islandLine_164 : decode cX2_islandLine 164 = .ok (.bipush 7, 2) := dk_16 7 (dk_at dksX2_islandLine_7 4 rfl rfl)
theorem dX2_islandLine_166 : decode cX2_islandLine 166 = .ok (.aload_n 0, 1) := dk_42 (dk_at dksX2_islandLine_7 6 rfl rfl)
theorem dX2_islandLine_167 : decode cX2_islandLine 167 = .ok (.getfield 81, 3) := dk_180 0 81 (dk_at dksX2_islandLine_7 7 rfl rfl)
theorem dX2_islandLine_170 : decode cX2_islandLine 170 = .ok (.invokevirtual 127, 3) := dk_182 0 127 (dk_at dksX2_islandLine_7 10 rfl rfl)
theorem dX2_islandLine_173 : decode cX2_islandLine 173 = .ok (.aload_n 0, 1) := dk_42 (dk_at dksX2_islandLine_7 13 rfl rfl)
theorem dX2_islandLine_174 : decode cX2_islandLine 174 = .ok (.getfield 100, 3) := dk_180 0 100 (dk_at dksX2_islandLine_7 14 rfl rfl)
theorem dX2_islandLine_177 : decode cX2_islandLine 177 = .ok (.ifCond .eq 4, 3) := dk_153 0 4 (dk_at dksX2_islandLine_7 17 rfl rfl)
theorem dX2_islandLine_180 : decode cX2_islandLine 180 = .ok (.return_, 1) := dk_177 (dk_at dksX2_islandLine_7 20 rfl rfl)
theorem dX2_islandLine_181 : decode cX2_islandLine 181 = .ok (.bipush 10, 2) := dk_16 10 (dk_at dksX2_islandLine_7 21 rfl rfl)
theorem dX2_islandLine_183 : decode cX2_islandLine 183 = .ok (.bipush 7, 2) := dk_16 7 (dk_at dksX2_islandLine_8 0 rfl rfl)
theorem dX2_islandLine_185 : decode cX2_islandLine 185 = .ok (.iload_n 1, 1) := dk_27 (dk_at dksX2_islandLine_8 2 rfl rfl)
theorem dX2_islandLine_186 : decode cX2_islandLine 186 = .ok (.imul, 1) := dk_104 (dk_at dksX2_islandLine_8 3 rfl rfl)
theorem dX2_islandLine_187 : decode cX2_islandLine 187 = .ok (.iadd, 1) := dk_96 (dk_at dksX2_islandLine_8 4 rfl rfl)
theorem dX2_islandLine_188 : decode cX2_islandLine 188 = .ok (.istore 4, 2) := dk_54 4 (dk_at dksX2_islandLine_8 5 rfl rfl)
theorem dX2_islandLine_190 : decode cX2_islandLine 190 = .ok (.aload_n 0, 1) := dk_42 (dk_at dksX2_islandLine_8 7 rfl rfl)
theorem dX2_islandLine_191 : decode cX2_islandLine 191 = .ok (.getfield 23, 3) := dk_180 0 23 (dk_at dksX2_islandLine_8 8 rfl rfl)
theorem dX2_islandLine_194 : decode cX2_islandLine 194 = .ok (.iload 4, 2) := dk_21 4 (dk_at dksX2_islandLine_8 11 rfl rfl)
theorem dX2_islandLine_196 : decode cX2_islandLine 196 = .ok (.aload_n 0, 1) := dk_42 (dk_at dksX2_islandLine_8 13 rfl rfl)
theorem dX2_islandLine_197 : decode cX2_islandLine 197 = .ok (.getfield 84, 3) := dk_180 0 84 (dk_at dksX2_islandLine_8 14 rfl rfl)
theorem dX2_islandLine_200 : decode cX2_islandLine 200 = .ok (.iastore, 1) := dk_79 (dk_at dksX2_islandLine_8 17 rfl rfl)
theorem dX2_islandLine_201 : decode cX2_islandLine 201 = .ok (.iconst 0, 1) := dk_3 (dk_at dksX2_islandLine_8 18 rfl rfl)
theorem dX2_islandLine_202 : decode cX2_islandLine 202 = .ok (.istore 5, 2) := dk_54 5 (dk_at dksX2_islandLine_8 19 rfl rfl)
theorem dX2_islandLine_204 : decode cX2_islandLine 204 = .ok (.iload 5, 2) := dk_21 5 (dk_at dksX2_islandLine_8 21 rfl rfl)
theorem dX2_islandLine_206 : decode cX2_islandLine 206 = .ok (.aload_n 0, 1) := dk_42 (dk_at dksX2_islandLine_8 23 rfl rfl)
theorem dX2_islandLine_207 : decode cX2_islandLine 207 = .ok (.getfield 84, 3) := dk_180 0 84 (dk_at dksX2_islandLine_9 0 rfl rfl)
theorem dX2_islandLine_210 : decode cX2_islandLine 210 = .ok (.if_icmp .ge 31, 3) := dk_162 0 31 (dk_at dksX2_islandLine_9 3 rfl rfl)
theorem dX2_islandLine_213 : decode cX2_islandLine 213 = .ok (.aload_n 0, 1) := dk_42 (dk_at dksX2_islandLine_9 6 rfl rfl)
theorem dX2_islandLine_214 : decode cX2_islandLine 214 = .ok (.getfield 23, 3) := dk_180 0 23 (dk_at dksX2_islandLine_9 7 rfl rfl)
theorem dX2_islandLine_217 : decode cX2_islandLine 217 = .ok (.iload 4, 2) := dk_21 4 (dk_at dksX2_islandLine_9 10 rfl rfl)
theorem dX2_islandLine_219 : decode cX2_islandLine 219 = .ok (.iconst 1, 1) := dk_4 (dk_at dksX2_islandLine_9 12 rfl rfl)
theorem dX2_islandLine_220 : decode cX2_islandLine 220 = .ok (.iadd, 1) := dk_96 (dk_at dksX2_islandLine_9 13 rfl rfl)
theorem dX2_islandLine_221 : decode cX2_islandLine 221 = .ok (.iload 5, 2) := dk_21 5 (dk_at dksX2_islandLine_9 14 rfl rfl)
theorem dX2_islandLine_223 : decode cX2_islandLine 223 = .ok (.iadd, 1) := dk_96 (dk_at dksX2_islandLine_9 16 rfl rfl)
theorem dX2_islandLine_224 : decode cX2_islandLine 224 = .ok (.aload_n 0, 1) := dk_42 (dk_at dksX2_islandLine_9 17 rfl rfl)
theorem dX2_islandLine_225 : decode cX2_islandLine 225 = .ok (.getfield 17, 3) := dk_180 0 17 (dk_at dksX2_islandLine_9 18 rfl rfl)
theorem dX2_islandLine_228 : decode cX2_islandLine 228 = .ok (.iload 5, 2) := dk_21 5 (dk_at dksX2_islandLine_9 21 rfl rfl)
theorem dX2_islandLine_230 : decode cX2_islandLine 230 = .ok (.iaload, 1) := dk_46 (dk_at dksX2_islandLine_9 23 rfl rfl)
theorem dX2_islandLine_231 : decode cX2_islandLine 231 = .ok (.bipush 97, 2) := dk_16 97 (dk_at dksX2_islandLine_10 0 rfl rfl)
theorem dX2_islandLine_233 : decode cX2_islandLine 233 = .ok (.isub, 1) := dk_100 (dk_at dksX2_islandLine_10 2 rfl rfl)
theorem dX2_islandLine_234 : decode cX2_islandLine 234 = .ok (.iastore, 1) := dk_79 (dk_at dksX2_islandLine_10 3 rfl rfl)
theorem dX2_islandLine_235 : decode cX2_islandLine 235 = .ok (.iinc 5 1, 3) := dk_132 5 1 (dk_at dksX2_islandLine_10 4 rfl rfl)
theorem dX2_islandLine_238 : decode cX2_islandLine 238 = .ok (.goto (-34), 3) := dk_167 255 222 (dk_at dksX2_islandLine_10 7 rfl rfl)
theorem dX2_islandLine_241 : decode cX2_islandLine 241 = .ok (.aload_n 0, 1) := dk_42 (dk_at dksX2_islandLine_10 10 rfl rfl)
theorem dX2_islandLine_242 : decode cX2_islandLine 242 = .ok (.invokevirtual 121, 3) := dk_182 0 121 (dk_at dksX2_islandLine_10 11 rfl rfl)
theorem dX2_islandLine_245 : decode cX2_islandLine 245 = .ok (.aload_n 0, 1) := dk_42 (dk_at dksX2_islandLine_10 14 rfl rfl)
theorem dX2_islandLine_246 : decode cX2_islandLine 246 = .ok (.getfield 23, 3) := dk_180 0 23 (dk_at dksX2_islandLine_10 15 rfl rfl)
theorem dX2_islandLine_249 : decode cX2_islandLine 249 = .ok (.iconst 4, 1) := dk_7 (dk_at dksX2_islandLine_10 18 rfl rfl)
theorem dX2_islandLine_250 : decode cX2_islandLine 250 = .ok (.dup2, 1) := dk_92 (dk_at dksX2_islandLine_10 19 rfl rfl)
theorem dX2_islandLine_251 : decode cX2_islandLine 251 = .ok (.iaload, 1) := dk_46 (dk_at dksX2_islandLine_10 20 rfl rfl)
theorem dX2_islandLine_252 : decode cX2_islandLine 252 = .ok (.iconst 1, 1) := dk_4 (dk_at dksX2_islandLine_10 21 rfl rfl)
theorem dX2_islandLine_253 : decode cX2_islandLine 253 = .ok (.iadd, 1) := dk_96 (dk_at dksX2_islandLine_10 22 rfl rfl)
theorem dX2_islandLine_254 : decode cX2_islandLine 254 = .ok (.iastore, 1) := dk_79 (dk_at dksX2_islandLine_10 23 rfl rfl)
theorem dX2_islandLine_255 : decode cX2_islandLine 255 = .ok (.return_, 1) := dk_177 (dk_at dksX2_islandLine_11 0 rfl rfl)
abbrev cX2_newName : ByteArray := prog_16_method_22_code
def yX2_newName : MethodName := ⟨RX2, "newName", "(I)V"⟩
def dkwX2_newName_4 : List UInt8 := [182, 0, 121, 177]
abbrev dktX2_newName_4 : List UInt8 := dkwX2_newName_4 ++ []
def dkwX2_newName_3 : List UInt8 := [28, 46, 79, 132, 2, 1, 167, 255, 224, 42, 180, 0, 23, 17, 0, 183, 27, 96, 42, 180, 0, 84, 79, 42]
abbrev dktX2_newName_3 : List UInt8 := dkwX2_newName_3 ++ dktX2_newName_4
def dkwX2_newName_2 : List UInt8 := [180, 0, 84, 162, 0, 30, 42, 180, 0, 23, 17, 0, 203, 16, 8, 27, 104, 96, 28, 96, 42, 180, 0, 17]
abbrev dktX2_newName_2 : List UInt8 := dkwX2_newName_2 ++ dktX2_newName_3
def dkwX2_newName_1 : List UInt8 := [155, 0, 12, 42, 6, 42, 180, 0, 81, 182, 0, 127, 42, 180, 0, 100, 153, 0, 4, 177, 3, 61, 28, 42]
abbrev dktX2_newName_1 : List UInt8 := dkwX2_newName_1 ++ dktX2_newName_2
def dkwX2_newName_0 : List UInt8 := [42, 180, 0, 100, 153, 0, 4, 177, 42, 182, 0, 143, 42, 180, 0, 100, 154, 0, 19, 42, 182, 0, 146]
abbrev dktX2_newName_0 : List UInt8 := dkwX2_newName_0 ++ dktX2_newName_1
theorem dksX2_newName_0 : cX2_newName.data.toList.drop 0 = dktX2_newName_0 := by decide +kernel
theorem dksX2_newName_1 : cX2_newName.data.toList.drop 23 = dktX2_newName_1 := dk_seg dksX2_newName_0 23 rfl rfl
theorem dksX2_newName_2 : cX2_newName.data.toList.drop 47 = dktX2_newName_2 := dk_seg dksX2_newName_1 24 rfl rfl
theorem dksX2_newName_3 : cX2_newName.data.toList.drop 71 = dktX2_newName_3 := dk_seg dksX2_newName_2 24 rfl rfl
theorem dksX2_newName_4 : cX2_newName.data.toList.drop 95 = dktX2_newName_4 := dk_seg dksX2_newName_3 24 rfl rfl
theorem dX2_newName_0 : decode cX2_newName 0 = .ok (.aload_n 0, 1) := dk_42 (dk_at dksX2_newName_0 0 rfl rfl)
theorem dX2_newName_1 : decode cX2_newName 1 = .ok (.getfield 100, 3) := dk_180 0 100 (dk_at dksX2_newName_0 1 rfl rfl)
theorem dX2_newName_4 : decode cX2_newName 4 = .ok (.ifCond .eq 4, 3) := dk_153 0 4 (dk_at dksX2_newName_0 4 rfl rfl)
theorem dX2_newName_7 : decode cX2_newName 7 = .ok (.return_, 1) := dk_177 (dk_at dksX2_newName_0 7 rfl rfl)
theorem dX2_newName_8 : decode cX2_newName 8 = .ok (.aload_n 0, 1) := dk_42 (dk_at dksX2_newName_0 8 rfl rfl)
theorem dX2_newName_9 : decode cX2_newName 9 = .ok (.invokevirtual 143, 3) := dk_182 0 143 (dk_at dksX2_newName_0 9 rfl rfl)
theorem dX2_newName_12 : decode cX2_newName 12 = .ok (.aload_n 0, 1) := dk_42 (dk_at dksX2_newName_0 12 rfl rfl)
theorem dX2_newName_13 : decode cX2_newName 13 = .ok (.getfield 100, 3) := dk_180 0 100 (dk_at dksX2_newName_0 13 rfl rfl)
theorem dX2_newName_16 : decode cX2_newName 16 = .ok (.ifCond .ne 19, 3) := dk_154 0 19 (dk_at dksX2_newName_0 16 rfl rfl)
theorem dX2_newName_19 : decode cX2_newName 19 = .ok (.aload_n 0, 1) := dk_42 (dk_at dksX2_newName_0 19 rfl rfl)
theorem dX2_newName_20 : decode cX2_newName 20 = .ok (.invokevirtual 146, 3) := dk_182 0 146 (dk_at dksX2_newName_0 20 rfl rfl)
theorem dX2_newName_23 : decode cX2_newName 23 = .ok (.ifCond .lt 12, 3) := dk_155 0 12 (dk_at dksX2_newName_1 0 rfl rfl)
theorem dX2_newName_26 : decode cX2_newName 26 = .ok (.aload_n 0, 1) := dk_42 (dk_at dksX2_newName_1 3 rfl rfl)
theorem dX2_newName_27 : decode cX2_newName 27 = .ok (.iconst 3, 1) := dk_6 (dk_at dksX2_newName_1 4 rfl rfl)
theorem dX2_newName_28 : decode cX2_newName 28 = .ok (.aload_n 0, 1) := dk_42 (dk_at dksX2_newName_1 5 rfl rfl)
theorem dX2_newName_29 : decode cX2_newName 29 = .ok (.getfield 81, 3) := dk_180 0 81 (dk_at dksX2_newName_1 6 rfl rfl)
theorem dX2_newName_32 : decode cX2_newName 32 = .ok (.invokevirtual 127, 3) := dk_182 0 127 (dk_at dksX2_newName_1 9 rfl rfl)
theorem dX2_newName_35 : decode cX2_newName 35 = .ok (.aload_n 0, 1) := dk_42 (dk_at dksX2_newName_1 12 rfl rfl)
theorem dX2_newName_36 : decode cX2_newName 36 = .ok (.getfield 100, 3) := dk_180 0 100 (dk_at dksX2_newName_1 13 rfl rfl)
theorem dX2_newName_39 : decode cX2_newName 39 = .ok (.ifCond .eq 4, 3) := dk_153 0 4 (dk_at dksX2_newName_1 16 rfl rfl)
theorem dX2_newName_42 : decode cX2_newName 42 = .ok (.return_, 1) := dk_177 (dk_at dksX2_newName_1 19 rfl rfl)
theorem dX2_newName_43 : decode cX2_newName 43 = .ok (.iconst 0, 1) := dk_3 (dk_at dksX2_newName_1 20 rfl rfl)
theorem dX2_newName_44 : decode cX2_newName 44 = .ok (.istore_n 2, 1) := dk_61 (dk_at dksX2_newName_1 21 rfl rfl)
theorem dX2_newName_45 : decode cX2_newName 45 = .ok (.iload_n 2, 1) := dk_28 (dk_at dksX2_newName_1 22 rfl rfl)
theorem dX2_newName_46 : decode cX2_newName 46 = .ok (.aload_n 0, 1) := dk_42 (dk_at dksX2_newName_1 23 rfl rfl)
theorem dX2_newName_47 : decode cX2_newName 47 = .ok (.getfield 84, 3) := dk_180 0 84 (dk_at dksX2_newName_2 0 rfl rfl)
theorem dX2_newName_50 : decode cX2_newName 50 = .ok (.if_icmp .ge 30, 3) := dk_162 0 30 (dk_at dksX2_newName_2 3 rfl rfl)
theorem dX2_newName_53 : decode cX2_newName 53 = .ok (.aload_n 0, 1) := dk_42 (dk_at dksX2_newName_2 6 rfl rfl)
theorem dX2_newName_54 : decode cX2_newName 54 = .ok (.getfield 23, 3) := dk_180 0 23 (dk_at dksX2_newName_2 7 rfl rfl)
theorem dX2_newName_57 : decode cX2_newName 57 = .ok (.sipush 203, 3) := dk_17 0 203 (dk_at dksX2_newName_2 10 rfl rfl)
theorem dX2_newName_60 : decode cX2_newName 60 = .ok (.bipush 8, 2) := dk_16 8 (dk_at dksX2_newName_2 13 rfl rfl)
theorem dX2_newName_62 : decode cX2_newName 62 = .ok (.iload_n 1, 1) := dk_27 (dk_at dksX2_newName_2 15 rfl rfl)
theorem dX2_newName_63 : decode cX2_newName 63 = .ok (.imul, 1) := dk_104 (dk_at dksX2_newName_2 16 rfl rfl)
theorem dX2_newName_64 : decode cX2_newName 64 = .ok (.iadd, 1) := dk_96 (dk_at dksX2_newName_2 17 rfl rfl)
theorem dX2_newName_65 : decode cX2_newName 65 = .ok (.iload_n 2, 1) := dk_28 (dk_at dksX2_newName_2 18 rfl rfl)
theorem dX2_newName_66 : decode cX2_newName 66 = .ok (.iadd, 1) := dk_96 (dk_at dksX2_newName_2 19 rfl rfl)
theorem dX2_newName_67 : decode cX2_newName 67 = .ok (.aload_n 0, 1) := dk_42 (dk_at dksX2_newName_2 20 rfl rfl)
theorem dX2_newName_68 : decode cX2_newName 68 = .ok (.getfield 17, 3) := dk_180 0 17 (dk_at dksX2_newName_2 21 rfl rfl)
theorem dX2_newName_71 : decode cX2_newName 71 = .ok (.iload_n 2, 1) := dk_28 (dk_at dksX2_newName_3 0 rfl rfl)
theorem dX2_newName_72 : decode cX2_newName 72 = .ok (.iaload, 1) := dk_46 (dk_at dksX2_newName_3 1 rfl rfl)
theorem dX2_newName_73 : decode cX2_newName 73 = .ok (.iastore, 1) := dk_79 (dk_at dksX2_newName_3 2 rfl rfl)
theorem dX2_newName_74 : decode cX2_newName 74 = .ok (.iinc 2 1, 3) := dk_132 2 1 (dk_at dksX2_newName_3 3 rfl rfl)
theorem dX2_newName_77 : decode cX2_newName 77 = .ok (.goto (-32), 3) := dk_167 255 224 (dk_at dksX2_newName_3 6 rfl rfl)
theorem dX2_newName_80 : decode cX2_newName 80 = .ok (.aload_n 0, 1) := dk_42 (dk_at dksX2_newName_3 9 rfl rfl)
theorem dX2_newName_81 : decode cX2_newName 81 = .ok (.getfield 23, 3) := dk_180 0 23 (dk_at dksX2_newName_3 10 rfl rfl)
theorem dX2_newName_84 : decode cX2_newName 84 = .ok (.sipush 183, 3) := dk_17 0 183 (dk_at dksX2_newName_3 13 rfl rfl)
theorem dX2_newName_87 : decode cX2_newName 87 = .ok (.iload_n 1, 1) := dk_27 (dk_at dksX2_newName_3 16 rfl rfl)
theorem dX2_newName_88 : decode cX2_newName 88 = .ok (.iadd, 1) := dk_96 (dk_at dksX2_newName_3 17 rfl rfl)
theorem dX2_newName_89 : decode cX2_newName 89 = .ok (.aload_n 0, 1) := dk_42 (dk_at dksX2_newName_3 18 rfl rfl)
theorem dX2_newName_90 : decode cX2_newName 90 = .ok (.getfield 84, 3) := dk_180 0 84 (dk_at dksX2_newName_3 19 rfl rfl)
theorem dX2_newName_93 : decode cX2_newName 93 = .ok (.iastore, 1) := dk_79 (dk_at dksX2_newName_3 22 rfl rfl)
theorem dX2_newName_94 : decode cX2_newName 94 = .ok (.aload_n 0, 1) := dk_42 (dk_at dksX2_newName_3 23 rfl rfl)
theorem dX2_newName_95 : decode cX2_newName 95 = .ok (.invokevirtual 121, 3) := dk_182 0 121 (dk_at dksX2_newName_4 0 rfl rfl)
theorem dX2_newName_98 : decode cX2_newName 98 = .ok (.return_, 1) := dk_177 (dk_at dksX2_newName_4 3 rfl rfl)
abbrev cX2_mustName : ByteArray := prog_16_method_20_code
def yX2_mustName : MethodName := ⟨RX2, "mustName", "()V"⟩
def dkwX2_mustName_3 : List UInt8 := [177]
abbrev dktX2_mustName_3 : List UInt8 := dkwX2_mustName_3 ++ []
def dkwX2_mustName_2 : List UInt8 := [182, 0, 117, 154, 0, 12, 42, 18, 141, 182, 0, 117, 153, 0, 12, 42, 4, 42, 180, 0, 81, 182, 0, 127]
abbrev dktX2_mustName_2 : List UInt8 := dkwX2_mustName_2 ++ dktX2_mustName_3
def dkwX2_mustName_1 : List UInt8 := [154, 0, 39, 42, 18, 135, 182, 0, 117, 154, 0, 30, 42, 18, 137, 182, 0, 117, 154, 0, 21, 42, 18, 139]
abbrev dktX2_mustName_1 : List UInt8 := dkwX2_mustName_1 ++ dktX2_mustName_2
def dkwX2_mustName_0 : List UInt8 := [42, 180, 0, 90, 5, 160, 0, 57, 42, 18, 131, 182, 0, 117, 154, 0, 48, 42, 18, 133, 182, 0, 117]
abbrev dktX2_mustName_0 : List UInt8 := dkwX2_mustName_0 ++ dktX2_mustName_1
theorem dksX2_mustName_0 : cX2_mustName.data.toList.drop 0 = dktX2_mustName_0 := by decide +kernel
theorem dksX2_mustName_1 : cX2_mustName.data.toList.drop 23 = dktX2_mustName_1 := dk_seg dksX2_mustName_0 23 rfl rfl
theorem dksX2_mustName_2 : cX2_mustName.data.toList.drop 47 = dktX2_mustName_2 := dk_seg dksX2_mustName_1 24 rfl rfl
theorem dksX2_mustName_3 : cX2_mustName.data.toList.drop 71 = dktX2_mustName_3 := dk_seg dksX2_mustName_2 24 rfl rfl
theorem dX2_mustName_0 : decode cX2_mustName 0 = .ok (.aload_n 0, 1) := dk_42 (dk_at dksX2_mustName_0 0 rfl rfl)
theorem dX2_mustName_1 : decode cX2_mustName 1 = .ok (.getfield 90, 3) := dk_180 0 90 (dk_at dksX2_mustName_0 1 rfl rfl)
theorem dX2_mustName_4 : decode cX2_mustName 4 = .ok (.iconst 2, 1) := dk_5 (dk_at dksX2_mustName_0 4 rfl rfl)
theorem dX2_mustName_5 : decode cX2_mustName 5 = .ok (.if_icmp .ne 57, 3) := dk_160 0 57 (dk_at dksX2_mustName_0 5 rfl rfl)
theorem dX2_mustName_8 : decode cX2_mustName 8 = .ok (.aload_n 0, 1) := dk_42 (dk_at dksX2_mustName_0 8 rfl rfl)
theorem dX2_mustName_9 : decode cX2_mustName 9 = .ok (.ldc 131, 2) := dk_18 131 (dk_at dksX2_mustName_0 9 rfl rfl)
theorem dX2_mustName_11 : decode cX2_mustName 11 = .ok (.invokevirtual 117, 3) := dk_182 0 117 (dk_at dksX2_mustName_0 11 rfl rfl)
theorem dX2_mustName_14 : decode cX2_mustName 14 = .ok (.ifCond .ne 48, 3) := dk_154 0 48 (dk_at dksX2_mustName_0 14 rfl rfl)
theorem dX2_mustName_17 : decode cX2_mustName 17 = .ok (.aload_n 0, 1) := dk_42 (dk_at dksX2_mustName_0 17 rfl rfl)
theorem dX2_mustName_18 : decode cX2_mustName 18 = .ok (.ldc 133, 2) := dk_18 133 (dk_at dksX2_mustName_0 18 rfl rfl)
theorem dX2_mustName_20 : decode cX2_mustName 20 = .ok (.invokevirtual 117, 3) := dk_182 0 117 (dk_at dksX2_mustName_0 20 rfl rfl)
theorem dX2_mustName_23 : decode cX2_mustName 23 = .ok (.ifCond .ne 39, 3) := dk_154 0 39 (dk_at dksX2_mustName_1 0 rfl rfl)
theorem dX2_mustName_26 : decode cX2_mustName 26 = .ok (.aload_n 0, 1) := dk_42 (dk_at dksX2_mustName_1 3 rfl rfl)
theorem dX2_mustName_27 : decode cX2_mustName 27 = .ok (.ldc 135, 2) := dk_18 135 (dk_at dksX2_mustName_1 4 rfl rfl)
theorem dX2_mustName_29 : decode cX2_mustName 29 = .ok (.invokevirtual 117, 3) := dk_182 0 117 (dk_at dksX2_mustName_1 6 rfl rfl)
theorem dX2_mustName_32 : decode cX2_mustName 32 = .ok (.ifCond .ne 30, 3) := dk_154 0 30 (dk_at dksX2_mustName_1 9 rfl rfl)
theorem dX2_mustName_35 : decode cX2_mustName 35 = .ok (.aload_n 0, 1) := dk_42 (dk_at dksX2_mustName_1 12 rfl rfl)
theorem dX2_mustName_36 : decode cX2_mustName 36 = .ok (.ldc 137, 2) := dk_18 137 (dk_at dksX2_mustName_1 13 rfl rfl)
theorem dX2_mustName_38 : decode cX2_mustName 38 = .ok (.invokevirtual 117, 3) := dk_182 0 117 (dk_at dksX2_mustName_1 15 rfl rfl)
theorem dX2_mustName_41 : decode cX2_mustName 41 = .ok (.ifCond .ne 21, 3) := dk_154 0 21 (dk_at dksX2_mustName_1 18 rfl rfl)
theorem dX2_mustName_44 : decode cX2_mustName 44 = .ok (.aload_n 0, 1) := dk_42 (dk_at dksX2_mustName_1 21 rfl rfl)
theorem dX2_mustName_45 : decode cX2_mustName 45 = .ok (.ldc 139, 2) := dk_18 139 (dk_at dksX2_mustName_1 22 rfl rfl)
theorem dX2_mustName_47 : decode cX2_mustName 47 = .ok (.invokevirtual 117, 3) := dk_182 0 117 (dk_at dksX2_mustName_2 0 rfl rfl)
theorem dX2_mustName_50 : decode cX2_mustName 50 = .ok (.ifCond .ne 12, 3) := dk_154 0 12 (dk_at dksX2_mustName_2 3 rfl rfl)
theorem dX2_mustName_53 : decode cX2_mustName 53 = .ok (.aload_n 0, 1) := dk_42 (dk_at dksX2_mustName_2 6 rfl rfl)
theorem dX2_mustName_54 : decode cX2_mustName 54 = .ok (.ldc 141, 2) := dk_18 141 (dk_at dksX2_mustName_2 7 rfl rfl)
theorem dX2_mustName_56 : decode cX2_mustName 56 = .ok (.invokevirtual 117, 3) := dk_182 0 117 (dk_at dksX2_mustName_2 9 rfl rfl)
theorem dX2_mustName_59 : decode cX2_mustName 59 = .ok (.ifCond .eq 12, 3) := dk_153 0 12 (dk_at dksX2_mustName_2 12 rfl rfl)
theorem dX2_mustName_62 : decode cX2_mustName 62 = .ok (.aload_n 0, 1) := dk_42 (dk_at dksX2_mustName_2 15 rfl rfl)
theorem dX2_mustName_63 : decode cX2_mustName 63 = .ok (.iconst 1, 1) := dk_4 (dk_at dksX2_mustName_2 16 rfl rfl)
theorem dX2_mustName_64 : decode cX2_mustName 64 = .ok (.aload_n 0, 1) := dk_42 (dk_at dksX2_mustName_2 17 rfl rfl)
theorem dX2_mustName_65 : decode cX2_mustName 65 = .ok (.getfield 81, 3) := dk_180 0 81 (dk_at dksX2_mustName_2 18 rfl rfl)
theorem dX2_mustName_68 : decode cX2_mustName 68 = .ok (.invokevirtual 127, 3) := dk_182 0 127 (dk_at dksX2_mustName_2 21 rfl rfl)
theorem dX2_mustName_71 : decode cX2_mustName 71 = .ok (.return_, 1) := dk_177 (dk_at dksX2_mustName_3 0 rfl rfl)
abbrev cX2_find : ByteArray := prog_16_method_21_code
def yX2_find : MethodName := ⟨RX2, "find", "()I"⟩
def dkwX2_find_4 : List UInt8 := [28, 153, 0, 5, 27, 172, 132, 1, 1, 167, 255, 155, 2, 172]
abbrev dktX2_find_4 : List UInt8 := dkwX2_find_4 ++ []
def dkwX2_find_3 : List UInt8 := [29, 96, 46, 42, 180, 0, 17, 29, 46, 160, 0, 7, 4, 167, 0, 4, 3, 61, 132, 3, 1, 167, 255, 211]
abbrev dktX2_find_3 : List UInt8 := dkwX2_find_3 ++ dktX2_find_4
def dkwX2_find_2 : List UInt8 := [29, 42, 180, 0, 84, 162, 0, 43, 28, 153, 0, 39, 42, 180, 0, 23, 17, 0, 203, 16, 8, 27, 104, 96]
abbrev dktX2_find_2 : List UInt8 := dkwX2_find_2 ++ dktX2_find_3
def dkwX2_find_1 : List UInt8 := [180, 0, 23, 17, 0, 183, 27, 96, 46, 42, 180, 0, 84, 160, 0, 7, 4, 167, 0, 4, 3, 61, 3, 62]
abbrev dktX2_find_1 : List UInt8 := dkwX2_find_1 ++ dktX2_find_2
def dkwX2_find_0 : List UInt8 := [3, 60, 27, 16, 20, 162, 0, 101, 42, 180, 0, 23, 17, 0, 183, 27, 96, 46, 158, 0, 24, 42]
abbrev dktX2_find_0 : List UInt8 := dkwX2_find_0 ++ dktX2_find_1
theorem dksX2_find_0 : cX2_find.data.toList.drop 0 = dktX2_find_0 := by decide +kernel
theorem dksX2_find_1 : cX2_find.data.toList.drop 22 = dktX2_find_1 := dk_seg dksX2_find_0 22 rfl rfl
theorem dksX2_find_2 : cX2_find.data.toList.drop 46 = dktX2_find_2 := dk_seg dksX2_find_1 24 rfl rfl
theorem dksX2_find_3 : cX2_find.data.toList.drop 70 = dktX2_find_3 := dk_seg dksX2_find_2 24 rfl rfl
theorem dksX2_find_4 : cX2_find.data.toList.drop 94 = dktX2_find_4 := dk_seg dksX2_find_3 24 rfl rfl
theorem dX2_find_0 : decode cX2_find 0 = .ok (.iconst 0, 1) := dk_3 (dk_at dksX2_find_0 0 rfl rfl)
theorem dX2_find_1 : decode cX2_find 1 = .ok (.istore_n 1, 1) := dk_60 (dk_at dksX2_find_0 1 rfl rfl)
theorem dX2_find_2 : decode cX2_find 2 = .ok (.iload_n 1, 1) := dk_27 (dk_at dksX2_find_0 2 rfl rfl)
theorem dX2_find_3 : decode cX2_find 3 = .ok (.bipush 20, 2) := dk_16 20 (dk_at dksX2_find_0 3 rfl rfl)
theorem dX2_find_5 : decode cX2_find 5 = .ok (.if_icmp .ge 101, 3) := dk_162 0 101 (dk_at dksX2_find_0 5 rfl rfl)
theorem dX2_find_8 : decode cX2_find 8 = .ok (.aload_n 0, 1) := dk_42 (dk_at dksX2_find_0 8 rfl rfl)
theorem dX2_find_9 : decode cX2_find 9 = .ok (.getfield 23, 3) := dk_180 0 23 (dk_at dksX2_find_0 9 rfl rfl)
theorem dX2_find_12 : decode cX2_find 12 = .ok (.sipush 183, 3) := dk_17 0 183 (dk_at dksX2_find_0 12 rfl rfl)
theorem dX2_find_15 : decode cX2_find 15 = .ok (.iload_n 1, 1) := dk_27 (dk_at dksX2_find_0 15 rfl rfl)
theorem dX2_find_16 : decode cX2_find 16 = .ok (.iadd, 1) := dk_96 (dk_at dksX2_find_0 16 rfl rfl)
theorem dX2_find_17 : decode cX2_find 17 = .ok (.iaload, 1) := dk_46 (dk_at dksX2_find_0 17 rfl rfl)
theorem dX2_find_18 : decode cX2_find 18 = .ok (.ifCond .le 24, 3) := dk_158 0 24 (dk_at dksX2_find_0 18 rfl rfl)
theorem dX2_find_21 : decode cX2_find 21 = .ok (.aload_n 0, 1) := dk_42 (dk_at dksX2_find_0 21 rfl rfl)
theorem dX2_find_22 : decode cX2_find 22 = .ok (.getfield 23, 3) := dk_180 0 23 (dk_at dksX2_find_1 0 rfl rfl)
theorem dX2_find_25 : decode cX2_find 25 = .ok (.sipush 183, 3) := dk_17 0 183 (dk_at dksX2_find_1 3 rfl rfl)
theorem dX2_find_28 : decode cX2_find 28 = .ok (.iload_n 1, 1) := dk_27 (dk_at dksX2_find_1 6 rfl rfl)
theorem dX2_find_29 : decode cX2_find 29 = .ok (.iadd, 1) := dk_96 (dk_at dksX2_find_1 7 rfl rfl)
theorem dX2_find_30 : decode cX2_find 30 = .ok (.iaload, 1) := dk_46 (dk_at dksX2_find_1 8 rfl rfl)
theorem dX2_find_31 : decode cX2_find 31 = .ok (.aload_n 0, 1) := dk_42 (dk_at dksX2_find_1 9 rfl rfl)
theorem dX2_find_32 : decode cX2_find 32 = .ok (.getfield 84, 3) := dk_180 0 84 (dk_at dksX2_find_1 10 rfl rfl)
theorem dX2_find_35 : decode cX2_find 35 = .ok (.if_icmp .ne 7, 3) := dk_160 0 7 (dk_at dksX2_find_1 13 rfl rfl)
theorem dX2_find_38 : decode cX2_find 38 = .ok (.iconst 1, 1) := dk_4 (dk_at dksX2_find_1 16 rfl rfl)
theorem dX2_find_39 : decode cX2_find 39 = .ok (.goto 4, 3) := dk_167 0 4 (dk_at dksX2_find_1 17 rfl rfl)
theorem dX2_find_42 : decode cX2_find 42 = .ok (.iconst 0, 1) := dk_3 (dk_at dksX2_find_1 20 rfl rfl)
theorem dX2_find_43 : decode cX2_find 43 = .ok (.istore_n 2, 1) := dk_61 (dk_at dksX2_find_1 21 rfl rfl)
theorem dX2_find_44 : decode cX2_find 44 = .ok (.iconst 0, 1) := dk_3 (dk_at dksX2_find_1 22 rfl rfl)
theorem dX2_find_45 : decode cX2_find 45 = .ok (.istore_n 3, 1) := dk_62 (dk_at dksX2_find_1 23 rfl rfl)
theorem dX2_find_46 : decode cX2_find 46 = .ok (.iload_n 3, 1) := dk_29 (dk_at dksX2_find_2 0 rfl rfl)
theorem dX2_find_47 : decode cX2_find 47 = .ok (.aload_n 0, 1) := dk_42 (dk_at dksX2_find_2 1 rfl rfl)
theorem dX2_find_48 : decode cX2_find 48 = .ok (.getfield 84, 3) := dk_180 0 84 (dk_at dksX2_find_2 2 rfl rfl)
theorem dX2_find_51 : decode cX2_find 51 = .ok (.if_icmp .ge 43, 3) := dk_162 0 43 (dk_at dksX2_find_2 5 rfl rfl)
theorem dX2_find_54 : decode cX2_find 54 = .ok (.iload_n 2, 1) := dk_28 (dk_at dksX2_find_2 8 rfl rfl)
theorem dX2_find_55 : decode cX2_find 55 = .ok (.ifCond .eq 39, 3) := dk_153 0 39 (dk_at dksX2_find_2 9 rfl rfl)
theorem dX2_find_58 : decode cX2_find 58 = .ok (.aload_n 0, 1) := dk_42 (dk_at dksX2_find_2 12 rfl rfl)
theorem dX2_find_59 : decode cX2_find 59 = .ok (.getfield 23, 3) := dk_180 0 23 (dk_at dksX2_find_2 13 rfl rfl)
theorem dX2_find_62 : decode cX2_find 62 = .ok (.sipush 203, 3) := dk_17 0 203 (dk_at dksX2_find_2 16 rfl rfl)
theorem dX2_find_65 : decode cX2_find 65 = .ok (.bipush 8, 2) := dk_16 8 (dk_at dksX2_find_2 19 rfl rfl)
theorem dX2_find_67 : decode cX2_find 67 = .ok (.iload_n 1, 1) := dk_27 (dk_at dksX2_find_2 21 rfl rfl)
theorem dX2_find_68 : decode cX2_find 68 = .ok (.imul, 1) := dk_104 (dk_at dksX2_find_2 22 rfl rfl)
theorem dX2_find_69 : decode cX2_find 69 = .ok (.iadd, 1) := dk_96 (dk_at dksX2_find_2 23 rfl rfl)
theorem dX2_find_70 : decode cX2_find 70 = .ok (.iload_n 3, 1) := dk_29 (dk_at dksX2_find_3 0 rfl rfl)
theorem dX2_find_71 : decode cX2_find 71 = .ok (.iadd, 1) := dk_96 (dk_at dksX2_find_3 1 rfl rfl)
theorem dX2_find_72 : decode cX2_find 72 = .ok (.iaload, 1) := dk_46 (dk_at dksX2_find_3 2 rfl rfl)
theorem dX2_find_73 : decode cX2_find 73 = .ok (.aload_n 0, 1) := dk_42 (dk_at dksX2_find_3 3 rfl rfl)
theorem dX2_find_74 : decode cX2_find 74 = .ok (.getfield 17, 3) := dk_180 0 17 (dk_at dksX2_find_3 4 rfl rfl)
theorem dX2_find_77 : decode cX2_find 77 = .ok (.iload_n 3, 1) := dk_29 (dk_at dksX2_find_3 7 rfl rfl)
theorem dX2_find_78 : decode cX2_find 78 = .ok (.iaload, 1) := dk_46 (dk_at dksX2_find_3 8 rfl rfl)
theorem dX2_find_79 : decode cX2_find 79 = .ok (.if_icmp .ne 7, 3) := dk_160 0 7 (dk_at dksX2_find_3 9 rfl rfl)
theorem dX2_find_82 : decode cX2_find 82 = .ok (.iconst 1, 1) := dk_4 (dk_at dksX2_find_3 12 rfl rfl)
theorem dX2_find_83 : decode cX2_find 83 = .ok (.goto 4, 3) := dk_167 0 4 (dk_at dksX2_find_3 13 rfl rfl)
theorem dX2_find_86 : decode cX2_find 86 = .ok (.iconst 0, 1) := dk_3 (dk_at dksX2_find_3 16 rfl rfl)
theorem dX2_find_87 : decode cX2_find 87 = .ok (.istore_n 2, 1) := dk_61 (dk_at dksX2_find_3 17 rfl rfl)
theorem dX2_find_88 : decode cX2_find 88 = .ok (.iinc 3 1, 3) := dk_132 3 1 (dk_at dksX2_find_3 18 rfl rfl)
theorem dX2_find_91 : decode cX2_find 91 = .ok (.goto (-45), 3) := dk_167 255 211 (dk_at dksX2_find_3 21 rfl rfl)
theorem dX2_find_94 : decode cX2_find 94 = .ok (.iload_n 2, 1) := dk_28 (dk_at dksX2_find_4 0 rfl rfl)
theorem dX2_find_95 : decode cX2_find 95 = .ok (.ifCond .eq 5, 3) := dk_153 0 5 (dk_at dksX2_find_4 1 rfl rfl)
theorem dX2_find_98 : decode cX2_find 98 = .ok (.iload_n 1, 1) := dk_27 (dk_at dksX2_find_4 4 rfl rfl)
theorem dX2_find_99 : decode cX2_find 99 = .ok (.ireturn, 1) := dk_172 (dk_at dksX2_find_4 5 rfl rfl)
theorem dX2_find_100 : decode cX2_find 100 = .ok (.iinc 1 1, 3) := dk_132 1 1 (dk_at dksX2_find_4 6 rfl rfl)
theorem dX2_find_103 : decode cX2_find 103 = .ok (.goto (-101), 3) := dk_167 255 155 (dk_at dksX2_find_4 9 rfl rfl)
theorem dX2_find_106 : decode cX2_find 106 = .ok (.iconst (-1), 1) := dk_2 (dk_at dksX2_find_4 12 rfl rfl)
theorem dX2_find_107 : decode cX2_find 107 = .ok (.ireturn, 1) := dk_172 (dk_at dksX2_find_4 13 rfl rfl)
abbrev cX2_isSong : ByteArray := prog_16_method_33_code
def yX2_isSong : MethodName := ⟨RX2, "isSong", "(I)Z"⟩
def dkwX2_isSong_3 : List UInt8 := [167, 0, 4, 3, 62, 132, 4, 1, 167, 255, 210, 29, 172]
abbrev dktX2_isSong_3 : List UInt8 := dkwX2_isSong_3 ++ []
def dkwX2_isSong_2 : List UInt8 := [180, 0, 23, 28, 4, 96, 21, 4, 96, 46, 42, 180, 0, 17, 21, 4, 46, 16, 97, 100, 160, 0, 7, 4]
abbrev dktX2_isSong_2 : List UInt8 := dkwX2_isSong_2 ++ dktX2_isSong_3
def dkwX2_isSong_1 : List UInt8 := [167, 0, 4, 3, 62, 3, 54, 4, 21, 4, 42, 180, 0, 84, 162, 0, 43, 29, 153, 0, 39, 42]
abbrev dktX2_isSong_1 : List UInt8 := dkwX2_isSong_1 ++ dktX2_isSong_2
def dkwX2_isSong_0 : List UInt8 := [16, 10, 16, 7, 27, 104, 96, 61, 42, 180, 0, 23, 28, 46, 42, 180, 0, 84, 160, 0, 7, 4]
abbrev dktX2_isSong_0 : List UInt8 := dkwX2_isSong_0 ++ dktX2_isSong_1
theorem dksX2_isSong_0 : cX2_isSong.data.toList.drop 0 = dktX2_isSong_0 := by decide +kernel
theorem dksX2_isSong_1 : cX2_isSong.data.toList.drop 22 = dktX2_isSong_1 := dk_seg dksX2_isSong_0 22 rfl rfl
theorem dksX2_isSong_2 : cX2_isSong.data.toList.drop 44 = dktX2_isSong_2 := dk_seg dksX2_isSong_1 22 rfl rfl
theorem dksX2_isSong_3 : cX2_isSong.data.toList.drop 68 = dktX2_isSong_3 := dk_seg dksX2_isSong_2 24 rfl rfl
theorem dX2_isSong_0 : decode cX2_isSong 0 = .ok (.bipush 10, 2) := dk_16 10 (dk_at dksX2_isSong_0 0 rfl rfl)
theorem dX2_isSong_2 : decode cX2_isSong 2 = .ok (.bipush 7, 2) := dk_16 7 (dk_at dksX2_isSong_0 2 rfl rfl)
theorem dX2_isSong_4 : decode cX2_isSong 4 = .ok (.iload_n 1, 1) := dk_27 (dk_at dksX2_isSong_0 4 rfl rfl)
theorem dX2_isSong_5 : decode cX2_isSong 5 = .ok (.imul, 1) := dk_104 (dk_at dksX2_isSong_0 5 rfl rfl)
theorem dX2_isSong_6 : decode cX2_isSong 6 = .ok (.iadd, 1) := dk_96 (dk_at dksX2_isSong_0 6 rfl rfl)
theorem dX2_isSong_7 : decode cX2_isSong 7 = .ok (.istore_n 2, 1) := dk_61 (dk_at dksX2_isSong_0 7 rfl rfl)
theorem dX2_isSong_8 : decode cX2_isSong 8 = .ok (.aload_n 0, 1) := dk_42 (dk_at dksX2_isSong_0 8 rfl rfl)
theorem dX2_isSong_9 : decode cX2_isSong 9 = .ok (.getfield 23, 3) := dk_180 0 23 (dk_at dksX2_isSong_0 9 rfl rfl)
theorem dX2_isSong_12 : decode cX2_isSong 12 = .ok (.iload_n 2, 1) := dk_28 (dk_at dksX2_isSong_0 12 rfl rfl)
theorem dX2_isSong_13 : decode cX2_isSong 13 = .ok (.iaload, 1) := dk_46 (dk_at dksX2_isSong_0 13 rfl rfl)
theorem dX2_isSong_14 : decode cX2_isSong 14 = .ok (.aload_n 0, 1) := dk_42 (dk_at dksX2_isSong_0 14 rfl rfl)
theorem dX2_isSong_15 : decode cX2_isSong 15 = .ok (.getfield 84, 3) := dk_180 0 84 (dk_at dksX2_isSong_0 15 rfl rfl)
theorem dX2_isSong_18 : decode cX2_isSong 18 = .ok (.if_icmp .ne 7, 3) := dk_160 0 7 (dk_at dksX2_isSong_0 18 rfl rfl)
theorem dX2_isSong_21 : decode cX2_isSong 21 = .ok (.iconst 1, 1) := dk_4 (dk_at dksX2_isSong_0 21 rfl rfl)
theorem dX2_isSong_22 : decode cX2_isSong 22 = .ok (.goto 4, 3) := dk_167 0 4 (dk_at dksX2_isSong_1 0 rfl rfl)
theorem dX2_isSong_25 : decode cX2_isSong 25 = .ok (.iconst 0, 1) := dk_3 (dk_at dksX2_isSong_1 3 rfl rfl)
theorem dX2_isSong_26 : decode cX2_isSong 26 = .ok (.istore_n 3, 1) := dk_62 (dk_at dksX2_isSong_1 4 rfl rfl)
theorem dX2_isSong_27 : decode cX2_isSong 27 = .ok (.iconst 0, 1) := dk_3 (dk_at dksX2_isSong_1 5 rfl rfl)
theorem dX2_isSong_28 : decode cX2_isSong 28 = .ok (.istore 4, 2) := dk_54 4 (dk_at dksX2_isSong_1 6 rfl rfl)
theorem dX2_isSong_30 : decode cX2_isSong 30 = .ok (.iload 4, 2) := dk_21 4 (dk_at dksX2_isSong_1 8 rfl rfl)
theorem dX2_isSong_32 : decode cX2_isSong 32 = .ok (.aload_n 0, 1) := dk_42 (dk_at dksX2_isSong_1 10 rfl rfl)
theorem dX2_isSong_33 : decode cX2_isSong 33 = .ok (.getfield 84, 3) := dk_180 0 84 (dk_at dksX2_isSong_1 11 rfl rfl)
theorem dX2_isSong_36 : decode cX2_isSong 36 = .ok (.if_icmp .ge 43, 3) := dk_162 0 43 (dk_at dksX2_isSong_1 14 rfl rfl)
theorem dX2_isSong_39 : decode cX2_isSong 39 = .ok (.iload_n 3, 1) := dk_29 (dk_at dksX2_isSong_1 17 rfl rfl)
theorem dX2_isSong_40 : decode cX2_isSong 40 = .ok (.ifCond .eq 39, 3) := dk_153 0 39 (dk_at dksX2_isSong_1 18 rfl rfl)
theorem dX2_isSong_43 : decode cX2_isSong 43 = .ok (.aload_n 0, 1) := dk_42 (dk_at dksX2_isSong_1 21 rfl rfl)
theorem dX2_isSong_44 : decode cX2_isSong 44 = .ok (.getfield 23, 3) := dk_180 0 23 (dk_at dksX2_isSong_2 0 rfl rfl)
theorem dX2_isSong_47 : decode cX2_isSong 47 = .ok (.iload_n 2, 1) := dk_28 (dk_at dksX2_isSong_2 3 rfl rfl)
theorem dX2_isSong_48 : decode cX2_isSong 48 = .ok (.iconst 1, 1) := dk_4 (dk_at dksX2_isSong_2 4 rfl rfl)
theorem dX2_isSong_49 : decode cX2_isSong 49 = .ok (.iadd, 1) := dk_96 (dk_at dksX2_isSong_2 5 rfl rfl)
theorem dX2_isSong_50 : decode cX2_isSong 50 = .ok (.iload 4, 2) := dk_21 4 (dk_at dksX2_isSong_2 6 rfl rfl)
theorem dX2_isSong_52 : decode cX2_isSong 52 = .ok (.iadd, 1) := dk_96 (dk_at dksX2_isSong_2 8 rfl rfl)
theorem dX2_isSong_53 : decode cX2_isSong 53 = .ok (.iaload, 1) := dk_46 (dk_at dksX2_isSong_2 9 rfl rfl)
theorem dX2_isSong_54 : decode cX2_isSong 54 = .ok (.aload_n 0, 1) := dk_42 (dk_at dksX2_isSong_2 10 rfl rfl)
theorem dX2_isSong_55 : decode cX2_isSong 55 = .ok (.getfield 17, 3) := dk_180 0 17 (dk_at dksX2_isSong_2 11 rfl rfl)
theorem dX2_isSong_58 : decode cX2_isSong 58 = .ok (.iload 4, 2) := dk_21 4 (dk_at dksX2_isSong_2 14 rfl rfl)
theorem dX2_isSong_60 : decode cX2_isSong 60 = .ok (.iaload, 1) := dk_46 (dk_at dksX2_isSong_2 16 rfl rfl)
theorem dX2_isSong_61 : decode cX2_isSong 61 = .ok (.bipush 97, 2) := dk_16 97 (dk_at dksX2_isSong_2 17 rfl rfl)
theorem dX2_isSong_63 : decode cX2_isSong 63 = .ok (.isub, 1) := dk_100 (dk_at dksX2_isSong_2 19 rfl rfl)
theorem dX2_isSong_64 : decode cX2_isSong 64 = .ok (.if_icmp .ne 7, 3) := dk_160 0 7 (dk_at dksX2_isSong_2 20 rfl rfl)
theorem dX2_isSong_67 : decode cX2_isSong 67 = .ok (.iconst 1, 1) := dk_4 (dk_at dksX2_isSong_2 23 rfl rfl)
theorem dX2_isSong_68 : decode cX2_isSong 68 = .ok (.goto 4, 3) := dk_167 0 4 (dk_at dksX2_isSong_3 0 rfl rfl)
theorem dX2_isSong_71 : decode cX2_isSong 71 = .ok (.iconst 0, 1) := dk_3 (dk_at dksX2_isSong_3 3 rfl rfl)
theorem dX2_isSong_72 : decode cX2_isSong 72 = .ok (.istore_n 3, 1) := dk_62 (dk_at dksX2_isSong_3 4 rfl rfl)
theorem dX2_isSong_73 : decode cX2_isSong 73 = .ok (.iinc 4 1, 3) := dk_132 4 1 (dk_at dksX2_isSong_3 5 rfl rfl)
theorem dX2_isSong_76 : decode cX2_isSong 76 = .ok (.goto (-46), 3) := dk_167 255 210 (dk_at dksX2_isSong_3 8 rfl rfl)
theorem dX2_isSong_79 : decode cX2_isSong 79 = .ok (.iload_n 3, 1) := dk_29 (dk_at dksX2_isSong_3 11 rfl rfl)
theorem dX2_isSong_80 : decode cX2_isSong 80 = .ok (.ireturn, 1) := dk_172 (dk_at dksX2_isSong_3 12 rfl rfl)
abbrev cX2_wayLine : ByteArray := prog_16_method_34_code
def yX2_wayLine : MethodName := ⟨RX2, "wayLine", "()V"⟩
def dkwX2_wayLine_8 : List UInt8 := [96, 79, 177]
abbrev dktX2_wayLine_8 : List UInt8 := dkwX2_wayLine_8 ++ []
def dkwX2_wayLine_7 : List UInt8 := [18, 235, 4, 16, 15, 182, 0, 213, 79, 42, 180, 0, 100, 154, 0, 13, 42, 180, 0, 23, 8, 92, 46, 4]
abbrev dktX2_wayLine_7 : List UInt8 := dkwX2_wayLine_7 ++ dktX2_wayLine_8
def dkwX2_wayLine_6 : List UInt8 := [180, 0, 23, 27, 5, 96, 42, 18, 234, 4, 16, 99, 182, 0, 213, 79, 42, 180, 0, 23, 27, 6, 96, 42]
abbrev dktX2_wayLine_6 : List UInt8 := dkwX2_wayLine_6 ++ dktX2_wayLine_7
def dkwX2_wayLine_5 : List UInt8 := [177, 42, 182, 0, 121, 42, 180, 0, 23, 27, 28, 79, 42, 180, 0, 23, 27, 4, 96, 29, 79, 42]
abbrev dktX2_wayLine_5 : List UInt8 := dkwX2_wayLine_5 ++ dktX2_wayLine_6
def dkwX2_wayLine_4 : List UInt8 := [154, 0, 17, 21, 4, 153, 0, 12, 42, 6, 42, 180, 0, 81, 182, 0, 127, 42, 180, 0, 100, 153, 0, 4]
abbrev dktX2_wayLine_4 : List UInt8 := dkwX2_wayLine_4 ++ dktX2_wayLine_5
def dkwX2_wayLine_3 : List UInt8 := [184, 0, 230, 153, 0, 7, 4, 167, 0, 4, 3, 54, 4, 132, 5, 1, 167, 255, 216, 42, 180, 0, 100]
abbrev dktX2_wayLine_3 : List UInt8 := dkwX2_wayLine_3 ++ dktX2_wayLine_4
def dkwX2_wayLine_2 : List UInt8 := [21, 5, 42, 180, 0, 23, 8, 46, 162, 0, 35, 21, 4, 154, 0, 17, 42, 180, 0, 23, 21, 5, 28, 29]
abbrev dktX2_wayLine_2 : List UInt8 := dkwX2_wayLine_2 ++ dktX2_wayLine_3
def dkwX2_wayLine_1 : List UInt8 := [61, 42, 3, 16, 6, 182, 0, 153, 62, 28, 29, 160, 0, 7, 4, 167, 0, 4, 3, 54, 4, 3, 54, 5]
abbrev dktX2_wayLine_1 : List UInt8 := dkwX2_wayLine_1 ++ dktX2_wayLine_2
def dkwX2_wayLine_0 : List UInt8 := [42, 180, 0, 100, 153, 0, 4, 177, 16, 59, 7, 42, 180, 0, 23, 8, 46, 104, 96, 60, 42, 182, 0, 161]
abbrev dktX2_wayLine_0 : List UInt8 := dkwX2_wayLine_0 ++ dktX2_wayLine_1
theorem dksX2_wayLine_0 : cX2_wayLine.data.toList.drop 0 = dktX2_wayLine_0 := by decide +kernel
theorem dksX2_wayLine_1 : cX2_wayLine.data.toList.drop 24 = dktX2_wayLine_1 := dk_seg dksX2_wayLine_0 24 rfl rfl
theorem dksX2_wayLine_2 : cX2_wayLine.data.toList.drop 48 = dktX2_wayLine_2 := dk_seg dksX2_wayLine_1 24 rfl rfl
theorem dksX2_wayLine_3 : cX2_wayLine.data.toList.drop 72 = dktX2_wayLine_3 := dk_seg dksX2_wayLine_2 24 rfl rfl
theorem dksX2_wayLine_4 : cX2_wayLine.data.toList.drop 95 = dktX2_wayLine_4 := dk_seg dksX2_wayLine_3 23 rfl rfl
theorem dksX2_wayLine_5 : cX2_wayLine.data.toList.drop 119 = dktX2_wayLine_5 := dk_seg dksX2_wayLine_4 24 rfl rfl
theorem dksX2_wayLine_6 : cX2_wayLine.data.toList.drop 141 = dktX2_wayLine_6 := dk_seg dksX2_wayLine_5 22 rfl rfl
theorem dksX2_wayLine_7 : cX2_wayLine.data.toList.drop 165 = dktX2_wayLine_7 := dk_seg dksX2_wayLine_6 24 rfl rfl
theorem dksX2_wayLine_8 : cX2_wayLine.data.toList.drop 189 = dktX2_wayLine_8 := dk_seg dksX2_wayLine_7 24 rfl rfl
theorem dX2_wayLine_0 : decode cX2_wayLine 0 = .ok (.aload_n 0, 1) := dk_42 (dk_at dksX2_wayLine_0 0 rfl rfl)
theorem dX2_wayLine_1 : decode cX2_wayLine 1 = .ok (.getfield 100, 3) := dk_180 0 100 (dk_at dksX2_wayLine_0 1 rfl rfl)
theorem dX2_wayLine_4 : decode cX2_wayLine 4 = .ok (.ifCond .eq 4, 3) := dk_153 0 4 (dk_at dksX2_wayLine_0 4 rfl rfl)
theorem dX2_wayLine_7 : decode cX2_wayLine 7 = .ok (.return_, 1) := dk_177 (dk_at dksX2_wayLine_0 7 rfl rfl)
theorem dX2_wayLine_8 : decode cX2_wayLine 8 = .ok (.bipush 59, 2) := dk_16 59 (dk_at dksX2_wayLine_0 8 rfl rfl)
theorem dX2_wayLine_10 : decode cX2_wayLine 10 = .ok (.iconst 4, 1) := dk_7 (dk_at dksX2_wayLine_0 10 rfl rfl)
theorem dX2_wayLine_11 : decode cX2_wayLine 11 = .ok (.aload_n 0, 1) := dk_42 (dk_at dksX2_wayLine_0 11 rfl rfl)
theorem dX2_wayLine_12 : decode cX2_wayLine 12 = .ok (.getfield 23, 3) := dk_180 0 23 (dk_at dksX2_wayLine_0 12 rfl rfl)
theorem dX2_wayLine_15 : decode cX2_wayLine 15 = .ok (.iconst 5, 1) := dk_8 (dk_at dksX2_wayLine_0 15 rfl rfl)
theorem dX2_wayLine_16 : decode cX2_wayLine 16 = .ok (.iaload, 1) := dk_46 (dk_at dksX2_wayLine_0 16 rfl rfl)
theorem dX2_wayLine_17 : decode cX2_wayLine 17 = .ok (.imul, 1) := dk_104 (dk_at dksX2_wayLine_0 17 rfl rfl)
theorem dX2_wayLine_18 : decode cX2_wayLine 18 = .ok (.iadd, 1) := dk_96 (dk_at dksX2_wayLine_0 18 rfl rfl)
theorem dX2_wayLine_19 : decode cX2_wayLine 19 = .ok (.istore_n 1, 1) := dk_60 (dk_at dksX2_wayLine_0 19 rfl rfl)
theorem dX2_wayLine_20 : decode cX2_wayLine 20 = .ok (.aload_n 0, 1) := dk_42 (dk_at dksX2_wayLine_0 20 rfl rfl)
theorem dX2_wayLine_21 : decode cX2_wayLine 21 = .ok (.invokevirtual 161, 3) := dk_182 0 161 (dk_at dksX2_wayLine_0 21 rfl rfl)
theorem dX2_wayLine_24 : decode cX2_wayLine 24 = .ok (.istore_n 2, 1) := dk_61 (dk_at dksX2_wayLine_1 0 rfl rfl)
theorem dX2_wayLine_25 : decode cX2_wayLine 25 = .ok (.aload_n 0, 1) := dk_42 (dk_at dksX2_wayLine_1 1 rfl rfl)
theorem dX2_wayLine_26 : decode cX2_wayLine 26 = .ok (.iconst 0, 1) := dk_3 (dk_at dksX2_wayLine_1 2 rfl rfl)
theorem dX2_wayLine_27 : decode cX2_wayLine 27 = .ok (.bipush 6, 2) := dk_16 6 (dk_at dksX2_wayLine_1 3 rfl rfl)
theorem dX2_wayLine_29 : decode cX2_wayLine 29 = .ok (.invokevirtual 153, 3) := dk_182 0 153 (dk_at dksX2_wayLine_1 5 rfl rfl)
theorem dX2_wayLine_32 : decode cX2_wayLine 32 = .ok (.istore_n 3, 1) := dk_62 (dk_at dksX2_wayLine_1 8 rfl rfl)
theorem dX2_wayLine_33 : decode cX2_wayLine 33 = .ok (.iload_n 2, 1) := dk_28 (dk_at dksX2_wayLine_1 9 rfl rfl)
theorem dX2_wayLine_34 : decode cX2_wayLine 34 = .ok (.iload_n 3, 1) := dk_29 (dk_at dksX2_wayLine_1 10 rfl rfl)
theorem dX2_wayLine_35 : decode cX2_wayLine 35 = .ok (.if_icmp .ne 7, 3) := dk_160 0 7 (dk_at dksX2_wayLine_1 11 rfl rfl)
theorem dX2_wayLine_38 : decode cX2_wayLine 38 = .ok (.iconst 1, 1) := dk_4 (dk_at dksX2_wayLine_1 14 rfl rfl)
theorem dX2_wayLine_39 : decode cX2_wayLine 39 = .ok (.goto 4, 3) := dk_167 0 4 (dk_at dksX2_wayLine_1 15 rfl rfl)
theorem dX2_wayLine_42 : decode cX2_wayLine 42 = .ok (.iconst 0, 1) := dk_3 (dk_at dksX2_wayLine_1 18 rfl rfl)
theorem dX2_wayLine_43 : decode cX2_wayLine 43 = .ok (.istore 4, 2) := dk_54 4 (dk_at dksX2_wayLine_1 19 rfl rfl)
theorem dX2_wayLine_45 : decode cX2_wayLine 45 = .ok (.iconst 0, 1) := dk_3 (dk_at dksX2_wayLine_1 21 rfl rfl)
theorem dX2_wayLine_46 : decode cX2_wayLine 46 = .ok (.istore 5, 2) := dk_54 5 (dk_at dksX2_wayLine_1 22 rfl rfl)
theorem dX2_wayLine_48 : decode cX2_wayLine 48 = .ok (.iload 5, 2) := dk_21 5 (dk_at dksX2_wayLine_2 0 rfl rfl)
theorem dX2_wayLine_50 : decode cX2_wayLine 50 = .ok (.aload_n 0, 1) := dk_42 (dk_at dksX2_wayLine_2 2 rfl rfl)
theorem dX2_wayLine_51 : decode cX2_wayLine 51 = .ok (.getfield 23, 3) := dk_180 0 23 (dk_at dksX2_wayLine_2 3 rfl rfl)
theorem dX2_wayLine_54 : decode cX2_wayLine 54 = .ok (.iconst 5, 1) := dk_8 (dk_at dksX2_wayLine_2 6 rfl rfl)
theorem dX2_wayLine_55 : decode cX2_wayLine 55 = .ok (.iaload, 1) := dk_46 (dk_at dksX2_wayLine_2 7 rfl rfl)
theorem dX2_wayLine_56 : decode cX2_wayLine 56 = .ok (.if_icmp .ge 35, 3) := dk_162 0 35 (dk_at dksX2_wayLine_2 8 rfl rfl)
theorem dX2_wayLine_59 : decode cX2_wayLine 59 = .ok (.iload 4, 2) := dk_21 4 (dk_at dksX2_wayLine_2 11 rfl rfl)
theorem dX2_wayLine_61 : decode cX2_wayLine 61 = .ok (.ifCond .ne 17, 3) := dk_154 0 17 (dk_at dksX2_wayLine_2 13 rfl rfl)
theorem dX2_wayLine_64 : decode cX2_wayLine 64 = .ok (.aload_n 0, 1) := dk_42 (dk_at dksX2_wayLine_2 16 rfl rfl)
theorem dX2_wayLine_65 : decode cX2_wayLine 65 = .ok (.getfield 23, 3) := dk_180 0 23 (dk_at dksX2_wayLine_2 17 rfl rfl)
theorem dX2_wayLine_68 : decode cX2_wayLine 68 = .ok (.iload 5, 2) := dk_21 5 (dk_at dksX2_wayLine_2 20 rfl rfl)
theorem dX2_wayLine_70 : decode cX2_wayLine 70 = .ok (.iload_n 2, 1) := dk_28 (dk_at dksX2_wayLine_2 22 rfl rfl)
theorem dX2_wayLine_71 : decode cX2_wayLine 71 = .ok (.iload_n 3, 1) := dk_29 (dk_at dksX2_wayLine_2 23 rfl rfl)
theorem dX2_wayLine_72 : decode cX2_wayLine 72 = .ok (.invokestatic 230, 3) := dk_184 0 230 (dk_at dksX2_wayLine_3 0 rfl rfl)
theorem dX2_wayLine_75 : decode cX2_wayLine 75 = .ok (.ifCond .eq 7, 3) := dk_153 0 7 (dk_at dksX2_wayLine_3 3 rfl rfl)
theorem dX2_wayLine_78 : decode cX2_wayLine 78 = .ok (.iconst 1, 1) := dk_4 (dk_at dksX2_wayLine_3 6 rfl rfl)
theorem dX2_wayLine_79 : decode cX2_wayLine 79 = .ok (.goto 4, 3) := dk_167 0 4 (dk_at dksX2_wayLine_3 7 rfl rfl)
theorem dX2_wayLine_82 : decode cX2_wayLine 82 = .ok (.iconst 0, 1) := dk_3 (dk_at dksX2_wayLine_3 10 rfl rfl)
theorem dX2_wayLine_83 : decode cX2_wayLine 83 = .ok (.istore 4, 2) := dk_54 4 (dk_at dksX2_wayLine_3 11 rfl rfl)
theorem dX2_wayLine_85 : decode cX2_wayLine 85 = .ok (.iinc 5 1, 3) := dk_132 5 1 (dk_at dksX2_wayLine_3 13 rfl rfl)
theorem dX2_wayLine_88 : decode cX2_wayLine 88 = .ok (.goto (-40), 3) := dk_167 255 216 (dk_at dksX2_wayLine_3 16 rfl rfl)
theorem dX2_wayLine_91 : decode cX2_wayLine 91 = .ok (.aload_n 0, 1) := dk_42 (dk_at dksX2_wayLine_3 19 rfl rfl)
theorem dX2_wayLine_92 : decode cX2_wayLine 92 = .ok (.getfield 100, 3) := dk_180 0 100 (dk_at dksX2_wayLine_3 20 rfl rfl)
theorem dX2_wayLine_95 : decode cX2_wayLine 95 = .ok (.ifCond .ne 17, 3) := dk_154 0 17 (dk_at dksX2_wayLine_4 0 rfl rfl)
theorem dX2_wayLine_98 : decode cX2_wayLine 98 = .ok (.iload 4, 2) := dk_21 4 (dk_at dksX2_wayLine_4 3 rfl rfl)
theorem dX2_wayLine_100 : decode cX2_wayLine 100 = .ok (.ifCond .eq 12, 3) := dk_153 0 12 (dk_at dksX2_wayLine_4 5 rfl rfl)
theorem dX2_wayLine_103 : decode cX2_wayLine 103 = .ok (.aload_n 0, 1) := dk_42 (dk_at dksX2_wayLine_4 8 rfl rfl)
theorem dX2_wayLine_104 : decode cX2_wayLine 104 = .ok (.iconst 3, 1) := dk_6 (dk_at dksX2_wayLine_4 9 rfl rfl)
theorem dX2_wayLine_105 : decode cX2_wayLine 105 = .ok (.aload_n 0, 1) := dk_42 (dk_at dksX2_wayLine_4 10 rfl rfl)
theorem dX2_wayLine_106 : decode cX2_wayLine 106 = .ok (.getfield 81, 3) := dk_180 0 81 (dk_at dksX2_wayLine_4 11 rfl rfl)
theorem dX2_wayLine_109 : decode cX2_wayLine 109 = .ok (.invokevirtual 127, 3) := dk_182 0 127 (dk_at dksX2_wayLine_4 14 rfl rfl)
theorem dX2_wayLine_112 : decode cX2_wayLine 112 = .ok (.aload_n 0, 1) := dk_42 (dk_at dksX2_wayLine_4 17 rfl rfl)
theorem dX2_wayLine_113 : decode cX2_wayLine 113 = .ok (.getfield 100, 3) := dk_180 0 100 (dk_at dksX2_wayLine_4 18 rfl rfl)
theorem dX2_wayLine_116 : decode cX2_wayLine 116 = .ok (.ifCond .eq 4, 3) := dk_153 0 4 (dk_at dksX2_wayLine_4 21 rfl rfl)
theorem dX2_wayLine_119 : decode cX2_wayLine 119 = .ok (.return_, 1) := dk_177 (dk_at dksX2_wayLine_5 0 rfl rfl)
theorem dX2_wayLine_120 : decode cX2_wayLine 120 = .ok (.aload_n 0, 1) := dk_42 (dk_at dksX2_wayLine_5 1 rfl rfl)
theorem dX2_wayLine_121 : decode cX2_wayLine 121 = .ok (.invokevirtual 121, 3) := dk_182 0 121 (dk_at dksX2_wayLine_5 2 rfl rfl)
theorem dX2_wayLine_124 : decode cX2_wayLine 124 = .ok (.aload_n 0, 1) := dk_42 (dk_at dksX2_wayLine_5 5 rfl rfl)
theorem dX2_wayLine_125 : decode cX2_wayLine 125 = .ok (.getfield 23, 3) := dk_180 0 23 (dk_at dksX2_wayLine_5 6 rfl rfl)
theorem dX2_wayLine_128 : decode cX2_wayLine 128 = .ok (.iload_n 1, 1) := dk_27 (dk_at dksX2_wayLine_5 9 rfl rfl)
theorem dX2_wayLine_129 : decode cX2_wayLine 129 = .ok (.iload_n 2, 1) := dk_28 (dk_at dksX2_wayLine_5 10 rfl rfl)
theorem dX2_wayLine_130 : decode cX2_wayLine 130 = .ok (.iastore, 1) := dk_79 (dk_at dksX2_wayLine_5 11 rfl rfl)
theorem dX2_wayLine_131 : decode cX2_wayLine 131 = .ok (.aload_n 0, 1) := dk_42 (dk_at dksX2_wayLine_5 12 rfl rfl)
theorem dX2_wayLine_132 : decode cX2_wayLine 132 = .ok (.getfield 23, 3) := dk_180 0 23 (dk_at dksX2_wayLine_5 13 rfl rfl)
theorem dX2_wayLine_135 : decode cX2_wayLine 135 = .ok (.iload_n 1, 1) := dk_27 (dk_at dksX2_wayLine_5 16 rfl rfl)
theorem dX2_wayLine_136 : decode cX2_wayLine 136 = .ok (.iconst 1, 1) := dk_4 (dk_at dksX2_wayLine_5 17 rfl rfl)
theorem dX2_wayLine_137 : decode cX2_wayLine 137 = .ok (.iadd, 1) := dk_96 (dk_at dksX2_wayLine_5 18 rfl rfl)
theorem dX2_wayLine_138 : decode cX2_wayLine 138 = .ok (.iload_n 3, 1) := dk_29 (dk_at dksX2_wayLine_5 19 rfl rfl)
theorem dX2_wayLine_139 : decode cX2_wayLine 139 = .ok (.iastore, 1) := dk_79 (dk_at dksX2_wayLine_5 20 rfl rfl)
theorem dX2_wayLine_140 : decode cX2_wayLine 140 = .ok (.aload_n 0, 1) := dk_42 (dk_at dksX2_wayLine_5 21 rfl rfl)
theorem dX2_wayLine_141 : decode cX2_wayLine 141 = .ok (.getfield 23, 3) := dk_180 0 23 (dk_at dksX2_wayLine_6 0 rfl rfl)
theorem dX2_wayLine_144 : decode cX2_wayLine 144 = .ok (.iload_n 1, 1) := dk_27 (dk_at dksX2_wayLine_6 3 rfl rfl)
theorem dX2_wayLine_145 : decode cX2_wayLine 145 = .ok (.iconst 2, 1) := dk_5 (dk_at dksX2_wayLine_6 4 rfl rfl)
theorem dX2_wayLine_146 : decode cX2_wayLine 146 = .ok (.iadd, 1) := dk_96 (dk_at dksX2_wayLine_6 5 rfl rfl)
theorem dX2_wayLine_147 : decode cX2_wayLine 147 = .ok (.aload_n 0, 1) := dk_42 (dk_at dksX2_wayLine_6 6 rfl rfl)
theorem dX2_wayLine_148 : decode cX2_wayLine 148 = .ok (.ldc 234, 2) := dk_18 234 (dk_at dksX2_wayLine_6 7 rfl rfl)
theorem dX2_wayLine_150 : decode cX2_wayLine 150 = .ok (.iconst 1, 1) := dk_4 (dk_at dksX2_wayLine_6 9 rfl rfl)
theorem dX2_wayLine_151 : decode cX2_wayLine 151 = .ok (.bipush 99, 2) := dk_16 99 (dk_at dksX2_wayLine_6 10 rfl rfl)
theorem dX2_wayLine_153 : decode cX2_wayLine 153 = .ok (.invokevirtual 213, 3) := dk_182 0 213 (dk_at dksX2_wayLine_6 12 rfl rfl)
theorem dX2_wayLine_156 : decode cX2_wayLine 156 = .ok (.iastore, 1) := dk_79 (dk_at dksX2_wayLine_6 15 rfl rfl)
theorem dX2_wayLine_157 : decode cX2_wayLine 157 = .ok (.aload_n 0, 1) := dk_42 (dk_at dksX2_wayLine_6 16 rfl rfl)
theorem dX2_wayLine_158 : decode cX2_wayLine 158 = .ok (.getfield 23, 3) := dk_180 0 23 (dk_at dksX2_wayLine_6 17 rfl rfl)
theorem dX2_wayLine_161 : decode cX2_wayLine 161 = .ok (.iload_n 1, 1) := dk_27 (dk_at dksX2_wayLine_6 20 rfl rfl)
theorem dX2_wayLine_162 : decode cX2_wayLine 162 = .ok (.iconst 3, 1) := dk_6 (dk_at dksX2_wayLine_6 21 rfl rfl)
theorem dX2_wayLine_163 : decode cX2_wayLine 163 = .ok (.iadd, 1) := dk_96 (dk_at dksX2_wayLine_6 22 rfl rfl)
theorem dX2_wayLine_164 : decode cX2_wayLine 164 = .ok (.aload_n 0, 1) := dk_42 (dk_at dksX2_wayLine_6 23 rfl rfl)
theorem dX2_wayLine_165 : decode cX2_wayLine 165 = .ok (.ldc 235, 2) := dk_18 235 (dk_at dksX2_wayLine_7 0 rfl rfl)
theorem dX2_wayLine_167 : decode cX2_wayLine 167 = .ok (.iconst 1, 1) := dk_4 (dk_at dksX2_wayLine_7 2 rfl rfl)
theorem dX2_wayLine_168 : decode cX2_wayLine 168 = .ok (.bipush 15, 2) := dk_16 15 (dk_at dksX2_wayLine_7 3 rfl rfl)
theorem dX2_wayLine_170 : decode cX2_wayLine 170 = .ok (.invokevirtual 213, 3) := dk_182 0 213 (dk_at dksX2_wayLine_7 5 rfl rfl)
theorem dX2_wayLine_173 : decode cX2_wayLine 173 = .ok (.iastore, 1) := dk_79 (dk_at dksX2_wayLine_7 8 rfl rfl)
theorem dX2_wayLine_174 : decode cX2_wayLine 174 = .ok (.aload_n 0, 1) := dk_42 (dk_at dksX2_wayLine_7 9 rfl rfl)
theorem dX2_wayLine_175 : decode cX2_wayLine 175 = .ok (.getfield 100, 3) := dk_180 0 100 (dk_at dksX2_wayLine_7 10 rfl rfl)
theorem dX2_wayLine_178 : decode cX2_wayLine 178 = .ok (.ifCond .ne 13, 3) := dk_154 0 13 (dk_at dksX2_wayLine_7 13 rfl rfl)
theorem dX2_wayLine_181 : decode cX2_wayLine 181 = .ok (.aload_n 0, 1) := dk_42 (dk_at dksX2_wayLine_7 16 rfl rfl)
theorem dX2_wayLine_182 : decode cX2_wayLine 182 = .ok (.getfield 23, 3) := dk_180 0 23 (dk_at dksX2_wayLine_7 17 rfl rfl)
theorem dX2_wayLine_185 : decode cX2_wayLine 185 = .ok (.iconst 5, 1) := dk_8 (dk_at dksX2_wayLine_7 20 rfl rfl)
theorem dX2_wayLine_186 : decode cX2_wayLine 186 = .ok (.dup2, 1) := dk_92 (dk_at dksX2_wayLine_7 21 rfl rfl)
theorem dX2_wayLine_187 : decode cX2_wayLine 187 = .ok (.iaload, 1) := dk_46 (dk_at dksX2_wayLine_7 22 rfl rfl)
theorem dX2_wayLine_188 : decode cX2_wayLine 188 = .ok (.iconst 1, 1) := dk_4 (dk_at dksX2_wayLine_7 23 rfl rfl)
theorem dX2_wayLine_189 : decode cX2_wayLine 189 = .ok (.iadd, 1) := dk_96 (dk_at dksX2_wayLine_8 0 rfl rfl)
theorem dX2_wayLine_190 : decode cX2_wayLine 190 = .ok (.iastore, 1) := dk_79 (dk_at dksX2_wayLine_8 1 rfl rfl)
theorem dX2_wayLine_191 : decode cX2_wayLine 191 = .ok (.return_, 1) := dk_177 (dk_at dksX2_wayLine_8 2 rfl rfl)
abbrev cX2_islandPassed : ByteArray := prog_16_method_24_code
def yX2_islandPassed : MethodName := ⟨RX2, "islandPassed", "()I"⟩
def dkwX2_islandPassed_0 : List UInt8 := [42, 3, 16, 6, 182, 0, 153, 60, 42, 180, 0, 100, 154, 0, 7, 42, 182, 0, 121, 27, 172]
abbrev dktX2_islandPassed_0 : List UInt8 := dkwX2_islandPassed_0 ++ []
theorem dksX2_islandPassed_0 : cX2_islandPassed.data.toList.drop 0 = dktX2_islandPassed_0 := by decide +kernel
theorem dX2_islandPassed_0 : decode cX2_islandPassed 0 = .ok (.aload_n 0, 1) := dk_42 (dk_at dksX2_islandPassed_0 0 rfl rfl)
theorem dX2_islandPassed_1 : decode cX2_islandPassed 1 = .ok (.iconst 0, 1) := dk_3 (dk_at dksX2_islandPassed_0 1 rfl rfl)
theorem dX2_islandPassed_2 : decode cX2_islandPassed 2 = .ok (.bipush 6, 2) := dk_16 6 (dk_at dksX2_islandPassed_0 2 rfl rfl)
theorem dX2_islandPassed_4 : decode cX2_islandPassed 4 = .ok (.invokevirtual 153, 3) := dk_182 0 153 (dk_at dksX2_islandPassed_0 4 rfl rfl)
theorem dX2_islandPassed_7 : decode cX2_islandPassed 7 = .ok (.istore_n 1, 1) := dk_60 (dk_at dksX2_islandPassed_0 7 rfl rfl)
theorem dX2_islandPassed_8 : decode cX2_islandPassed 8 = .ok (.aload_n 0, 1) := dk_42 (dk_at dksX2_islandPassed_0 8 rfl rfl)
theorem dX2_islandPassed_9 : decode cX2_islandPassed 9 = .ok (.getfield 100, 3) := dk_180 0 100 (dk_at dksX2_islandPassed_0 9 rfl rfl)
theorem dX2_islandPassed_12 : decode cX2_islandPassed 12 = .ok (.ifCond .ne 7, 3) := dk_154 0 7 (dk_at dksX2_islandPassed_0 12 rfl rfl)
theorem dX2_islandPassed_15 : decode cX2_islandPassed 15 = .ok (.aload_n 0, 1) := dk_42 (dk_at dksX2_islandPassed_0 15 rfl rfl)
theorem dX2_islandPassed_16 : decode cX2_islandPassed 16 = .ok (.invokevirtual 121, 3) := dk_182 0 121 (dk_at dksX2_islandPassed_0 16 rfl rfl)
theorem dX2_islandPassed_19 : decode cX2_islandPassed 19 = .ok (.iload_n 1, 1) := dk_27 (dk_at dksX2_islandPassed_0 19 rfl rfl)
theorem dX2_islandPassed_20 : decode cX2_islandPassed 20 = .ok (.ireturn, 1) := dk_172 (dk_at dksX2_islandPassed_0 20 rfl rfl)
abbrev cX2_named : ByteArray := prog_16_method_23_code
def yX2_named : MethodName := ⟨RX2, "named", "(II)I"⟩
def dkwX2_named_2 : List UInt8 := [180, 0, 100, 153, 0, 7, 3, 167, 0, 6, 29, 27, 100, 172]
abbrev dktX2_named_2 : List UInt8 := dkwX2_named_2 ++ []
def dkwX2_named_1 : List UInt8 := [182, 0, 146, 62, 29, 27, 28, 184, 0, 149, 154, 0, 12, 42, 5, 42, 180, 0, 81, 182, 0, 127, 42]
abbrev dktX2_named_1 : List UInt8 := dkwX2_named_1 ++ dktX2_named_2
def dkwX2_named_0 : List UInt8 := [42, 180, 0, 100, 153, 0, 5, 3, 172, 42, 182, 0, 143, 42, 180, 0, 100, 153, 0, 5, 3, 172, 42]
abbrev dktX2_named_0 : List UInt8 := dkwX2_named_0 ++ dktX2_named_1
theorem dksX2_named_0 : cX2_named.data.toList.drop 0 = dktX2_named_0 := by decide +kernel
theorem dksX2_named_1 : cX2_named.data.toList.drop 23 = dktX2_named_1 := dk_seg dksX2_named_0 23 rfl rfl
theorem dksX2_named_2 : cX2_named.data.toList.drop 46 = dktX2_named_2 := dk_seg dksX2_named_1 23 rfl rfl
theorem dX2_named_0 : decode cX2_named 0 = .ok (.aload_n 0, 1) := dk_42 (dk_at dksX2_named_0 0 rfl rfl)
theorem dX2_named_1 : decode cX2_named 1 = .ok (.getfield 100, 3) := dk_180 0 100 (dk_at dksX2_named_0 1 rfl rfl)
theorem dX2_named_4 : decode cX2_named 4 = .ok (.ifCond .eq 5, 3) := dk_153 0 5 (dk_at dksX2_named_0 4 rfl rfl)
theorem dX2_named_7 : decode cX2_named 7 = .ok (.iconst 0, 1) := dk_3 (dk_at dksX2_named_0 7 rfl rfl)
theorem dX2_named_8 : decode cX2_named 8 = .ok (.ireturn, 1) := dk_172 (dk_at dksX2_named_0 8 rfl rfl)
theorem dX2_named_9 : decode cX2_named 9 = .ok (.aload_n 0, 1) := dk_42 (dk_at dksX2_named_0 9 rfl rfl)
theorem dX2_named_10 : decode cX2_named 10 = .ok (.invokevirtual 143, 3) := dk_182 0 143 (dk_at dksX2_named_0 10 rfl rfl)
theorem dX2_named_13 : decode cX2_named 13 = .ok (.aload_n 0, 1) := dk_42 (dk_at dksX2_named_0 13 rfl rfl)
theorem dX2_named_14 : decode cX2_named 14 = .ok (.getfield 100, 3) := dk_180 0 100 (dk_at dksX2_named_0 14 rfl rfl)
theorem dX2_named_17 : decode cX2_named 17 = .ok (.ifCond .eq 5, 3) := dk_153 0 5 (dk_at dksX2_named_0 17 rfl rfl)
theorem dX2_named_20 : decode cX2_named 20 = .ok (.iconst 0, 1) := dk_3 (dk_at dksX2_named_0 20 rfl rfl)
theorem dX2_named_21 : decode cX2_named 21 = .ok (.ireturn, 1) := dk_172 (dk_at dksX2_named_0 21 rfl rfl)
theorem dX2_named_22 : decode cX2_named 22 = .ok (.aload_n 0, 1) := dk_42 (dk_at dksX2_named_0 22 rfl rfl)
theorem dX2_named_23 : decode cX2_named 23 = .ok (.invokevirtual 146, 3) := dk_182 0 146 (dk_at dksX2_named_1 0 rfl rfl)
theorem dX2_named_26 : decode cX2_named 26 = .ok (.istore_n 3, 1) := dk_62 (dk_at dksX2_named_1 3 rfl rfl)
theorem dX2_named_27 : decode cX2_named 27 = .ok (.iload_n 3, 1) := dk_29 (dk_at dksX2_named_1 4 rfl rfl)
theorem dX2_named_28 : decode cX2_named 28 = .ok (.iload_n 1, 1) := dk_27 (dk_at dksX2_named_1 5 rfl rfl)
theorem dX2_named_29 : decode cX2_named 29 = .ok (.iload_n 2, 1) := dk_28 (dk_at dksX2_named_1 6 rfl rfl)
theorem dX2_named_30 : decode cX2_named 30 = .ok (.invokestatic 149, 3) := dk_184 0 149 (dk_at dksX2_named_1 7 rfl rfl)
theorem dX2_named_33 : decode cX2_named 33 = .ok (.ifCond .ne 12, 3) := dk_154 0 12 (dk_at dksX2_named_1 10 rfl rfl)
theorem dX2_named_36 : decode cX2_named 36 = .ok (.aload_n 0, 1) := dk_42 (dk_at dksX2_named_1 13 rfl rfl)
theorem dX2_named_37 : decode cX2_named 37 = .ok (.iconst 2, 1) := dk_5 (dk_at dksX2_named_1 14 rfl rfl)
theorem dX2_named_38 : decode cX2_named 38 = .ok (.aload_n 0, 1) := dk_42 (dk_at dksX2_named_1 15 rfl rfl)
theorem dX2_named_39 : decode cX2_named 39 = .ok (.getfield 81, 3) := dk_180 0 81 (dk_at dksX2_named_1 16 rfl rfl)
theorem dX2_named_42 : decode cX2_named 42 = .ok (.invokevirtual 127, 3) := dk_182 0 127 (dk_at dksX2_named_1 19 rfl rfl)
theorem dX2_named_45 : decode cX2_named 45 = .ok (.aload_n 0, 1) := dk_42 (dk_at dksX2_named_1 22 rfl rfl)
theorem dX2_named_46 : decode cX2_named 46 = .ok (.getfield 100, 3) := dk_180 0 100 (dk_at dksX2_named_2 0 rfl rfl)
theorem dX2_named_49 : decode cX2_named 49 = .ok (.ifCond .eq 7, 3) := dk_153 0 7 (dk_at dksX2_named_2 3 rfl rfl)
theorem dX2_named_52 : decode cX2_named 52 = .ok (.iconst 0, 1) := dk_3 (dk_at dksX2_named_2 6 rfl rfl)
theorem dX2_named_53 : decode cX2_named 53 = .ok (.goto 6, 3) := dk_167 0 6 (dk_at dksX2_named_2 7 rfl rfl)
theorem dX2_named_56 : decode cX2_named 56 = .ok (.iload_n 3, 1) := dk_29 (dk_at dksX2_named_2 10 rfl rfl)
theorem dX2_named_57 : decode cX2_named 57 = .ok (.iload_n 1, 1) := dk_27 (dk_at dksX2_named_2 11 rfl rfl)
theorem dX2_named_58 : decode cX2_named 58 = .ok (.isub, 1) := dk_100 (dk_at dksX2_named_2 12 rfl rfl)
theorem dX2_named_59 : decode cX2_named 59 = .ok (.ireturn, 1) := dk_172 (dk_at dksX2_named_2 13 rfl rfl)
abbrev cX2_joins : ByteArray := prog_16_method_35_code
def yX2_joins : MethodName := ⟨RX2, "joins", "([IIII)Z"⟩
def dkwX2_joins_2 : List UInt8 := [167, 0, 4, 3, 172]
abbrev dktX2_joins_2 : List UInt8 := dkwX2_joins_2 ++ []
def dkwX2_joins_1 : List UInt8 := [28, 160, 0, 9, 21, 5, 29, 159, 0, 15, 21, 4, 29, 160, 0, 13, 21, 5, 28, 160, 0, 7, 4]
abbrev dktX2_joins_1 : List UInt8 := dkwX2_joins_1 ++ dktX2_joins_2
def dkwX2_joins_0 : List UInt8 := [42, 16, 59, 7, 27, 104, 96, 46, 54, 4, 42, 16, 59, 7, 27, 104, 96, 4, 96, 46, 54, 5, 21, 4]
abbrev dktX2_joins_0 : List UInt8 := dkwX2_joins_0 ++ dktX2_joins_1
theorem dksX2_joins_0 : cX2_joins.data.toList.drop 0 = dktX2_joins_0 := by decide +kernel
theorem dksX2_joins_1 : cX2_joins.data.toList.drop 24 = dktX2_joins_1 := dk_seg dksX2_joins_0 24 rfl rfl
theorem dksX2_joins_2 : cX2_joins.data.toList.drop 47 = dktX2_joins_2 := dk_seg dksX2_joins_1 23 rfl rfl
theorem dX2_joins_0 : decode cX2_joins 0 = .ok (.aload_n 0, 1) := dk_42 (dk_at dksX2_joins_0 0 rfl rfl)
theorem dX2_joins_1 : decode cX2_joins 1 = .ok (.bipush 59, 2) := dk_16 59 (dk_at dksX2_joins_0 1 rfl rfl)
theorem dX2_joins_3 : decode cX2_joins 3 = .ok (.iconst 4, 1) := dk_7 (dk_at dksX2_joins_0 3 rfl rfl)
theorem dX2_joins_4 : decode cX2_joins 4 = .ok (.iload_n 1, 1) := dk_27 (dk_at dksX2_joins_0 4 rfl rfl)
theorem dX2_joins_5 : decode cX2_joins 5 = .ok (.imul, 1) := dk_104 (dk_at dksX2_joins_0 5 rfl rfl)
theorem dX2_joins_6 : decode cX2_joins 6 = .ok (.iadd, 1) := dk_96 (dk_at dksX2_joins_0 6 rfl rfl)
theorem dX2_joins_7 : decode cX2_joins 7 = .ok (.iaload, 1) := dk_46 (dk_at dksX2_joins_0 7 rfl rfl)
theorem dX2_joins_8 : decode cX2_joins 8 = .ok (.istore 4, 2) := dk_54 4 (dk_at dksX2_joins_0 8 rfl rfl)
theorem dX2_joins_10 : decode cX2_joins 10 = .ok (.aload_n 0, 1) := dk_42 (dk_at dksX2_joins_0 10 rfl rfl)
theorem dX2_joins_11 : decode cX2_joins 11 = .ok (.bipush 59, 2) := dk_16 59 (dk_at dksX2_joins_0 11 rfl rfl)
theorem dX2_joins_13 : decode cX2_joins 13 = .ok (.iconst 4, 1) := dk_7 (dk_at dksX2_joins_0 13 rfl rfl)
theorem dX2_joins_14 : decode cX2_joins 14 = .ok (.iload_n 1, 1) := dk_27 (dk_at dksX2_joins_0 14 rfl rfl)
theorem dX2_joins_15 : decode cX2_joins 15 = .ok (.imul, 1) := dk_104 (dk_at dksX2_joins_0 15 rfl rfl)
theorem dX2_joins_16 : decode cX2_joins 16 = .ok (.iadd, 1) := dk_96 (dk_at dksX2_joins_0 16 rfl rfl)
theorem dX2_joins_17 : decode cX2_joins 17 = .ok (.iconst 1, 1) := dk_4 (dk_at dksX2_joins_0 17 rfl rfl)
theorem dX2_joins_18 : decode cX2_joins 18 = .ok (.iadd, 1) := dk_96 (dk_at dksX2_joins_0 18 rfl rfl)
theorem dX2_joins_19 : decode cX2_joins 19 = .ok (.iaload, 1) := dk_46 (dk_at dksX2_joins_0 19 rfl rfl)
theorem dX2_joins_20 : decode cX2_joins 20 = .ok (.istore 5, 2) := dk_54 5 (dk_at dksX2_joins_0 20 rfl rfl)
theorem dX2_joins_22 : decode cX2_joins 22 = .ok (.iload 4, 2) := dk_21 4 (dk_at dksX2_joins_0 22 rfl rfl)
theorem dX2_joins_24 : decode cX2_joins 24 = .ok (.iload_n 2, 1) := dk_28 (dk_at dksX2_joins_1 0 rfl rfl)
theorem dX2_joins_25 : decode cX2_joins 25 = .ok (.if_icmp .ne 9, 3) := dk_160 0 9 (dk_at dksX2_joins_1 1 rfl rfl)
theorem dX2_joins_28 : decode cX2_joins 28 = .ok (.iload 5, 2) := dk_21 5 (dk_at dksX2_joins_1 4 rfl rfl)
theorem dX2_joins_30 : decode cX2_joins 30 = .ok (.iload_n 3, 1) := dk_29 (dk_at dksX2_joins_1 6 rfl rfl)
theorem dX2_joins_31 : decode cX2_joins 31 = .ok (.if_icmp .eq 15, 3) := dk_159 0 15 (dk_at dksX2_joins_1 7 rfl rfl)
theorem dX2_joins_34 : decode cX2_joins 34 = .ok (.iload 4, 2) := dk_21 4 (dk_at dksX2_joins_1 10 rfl rfl)
theorem dX2_joins_36 : decode cX2_joins 36 = .ok (.iload_n 3, 1) := dk_29 (dk_at dksX2_joins_1 12 rfl rfl)
theorem dX2_joins_37 : decode cX2_joins 37 = .ok (.if_icmp .ne 13, 3) := dk_160 0 13 (dk_at dksX2_joins_1 13 rfl rfl)
theorem dX2_joins_40 : decode cX2_joins 40 = .ok (.iload 5, 2) := dk_21 5 (dk_at dksX2_joins_1 16 rfl rfl)
theorem dX2_joins_42 : decode cX2_joins 42 = .ok (.iload_n 2, 1) := dk_28 (dk_at dksX2_joins_1 18 rfl rfl)
theorem dX2_joins_43 : decode cX2_joins 43 = .ok (.if_icmp .ne 7, 3) := dk_160 0 7 (dk_at dksX2_joins_1 19 rfl rfl)
theorem dX2_joins_46 : decode cX2_joins 46 = .ok (.iconst 1, 1) := dk_4 (dk_at dksX2_joins_1 22 rfl rfl)
theorem dX2_joins_47 : decode cX2_joins 47 = .ok (.goto 4, 3) := dk_167 0 4 (dk_at dksX2_joins_2 0 rfl rfl)
theorem dX2_joins_50 : decode cX2_joins 50 = .ok (.iconst 0, 1) := dk_3 (dk_at dksX2_joins_2 3 rfl rfl)
theorem dX2_joins_51 : decode cX2_joins 51 = .ok (.ireturn, 1) := dk_172 (dk_at dksX2_joins_2 4 rfl rfl)
abbrev cX2_whaleLine : ByteArray := prog_16_method_36_code
def yX2_whaleLine : MethodName := ⟨RX2, "whaleLine", "()V"⟩
def dkwX2_whaleLine_7 : List UInt8 := [182, 0, 213, 79, 42, 180, 0, 100, 154, 0, 14, 42, 180, 0, 23, 16, 6, 92, 46, 4, 96, 79, 177]
abbrev dktX2_whaleLine_7 : List UInt8 := dkwX2_whaleLine_7 ++ []
def dkwX2_whaleLine_6 : List UInt8 := [18, 250, 3, 16, 99, 182, 0, 213, 79, 42, 180, 0, 23, 27, 6, 96, 42, 18, 252, 3, 16, 99]
abbrev dktX2_whaleLine_6 : List UInt8 := dkwX2_whaleLine_6 ++ dktX2_whaleLine_7
def dkwX2_whaleLine_5 : List UInt8 := [28, 79, 42, 180, 0, 23, 27, 4, 96, 42, 18, 245, 182, 0, 246, 79, 42, 180, 0, 23, 27, 5, 96, 42]
abbrev dktX2_whaleLine_5 : List UInt8 := dkwX2_whaleLine_5 ++ dktX2_whaleLine_6
def dkwX2_whaleLine_4 : List UInt8 := [42, 180, 0, 81, 182, 0, 127, 42, 180, 0, 100, 153, 0, 4, 177, 42, 182, 0, 121, 42, 180, 0, 23, 27]
abbrev dktX2_whaleLine_4 : List UInt8 := dkwX2_whaleLine_4 ++ dktX2_whaleLine_5
def dkwX2_whaleLine_3 : List UInt8 := [167, 0, 17, 42, 18, 243, 182, 0, 117, 153, 0, 7, 6, 167, 0, 4, 2, 61, 28, 156, 0, 12, 42, 4]
abbrev dktX2_whaleLine_3 : List UInt8 := dkwX2_whaleLine_3 ++ dktX2_whaleLine_4
def dkwX2_whaleLine_2 : List UInt8 := [42, 18, 239, 182, 0, 117, 153, 0, 7, 4, 167, 0, 30, 42, 18, 241, 182, 0, 117, 153, 0, 7, 5]
abbrev dktX2_whaleLine_2 : List UInt8 := dkwX2_whaleLine_2 ++ dktX2_whaleLine_3
def dkwX2_whaleLine_1 : List UInt8 := [42, 180, 0, 23, 16, 6, 46, 96, 182, 0, 223, 42, 18, 237, 182, 0, 117, 153, 0, 7, 3, 167, 0, 43]
abbrev dktX2_whaleLine_1 : List UInt8 := dkwX2_whaleLine_1 ++ dktX2_whaleLine_2
def dkwX2_whaleLine_0 : List UInt8 := [42, 180, 0, 100, 153, 0, 4, 177, 16, 107, 7, 42, 180, 0, 23, 16, 6, 46, 104, 96, 60, 42, 16, 7]
abbrev dktX2_whaleLine_0 : List UInt8 := dkwX2_whaleLine_0 ++ dktX2_whaleLine_1
theorem dksX2_whaleLine_0 : cX2_whaleLine.data.toList.drop 0 = dktX2_whaleLine_0 := by decide +kernel
theorem dksX2_whaleLine_1 : cX2_whaleLine.data.toList.drop 24 = dktX2_whaleLine_1 := dk_seg dksX2_whaleLine_0 24 rfl rfl
theorem dksX2_whaleLine_2 : cX2_whaleLine.data.toList.drop 48 = dktX2_whaleLine_2 := dk_seg dksX2_whaleLine_1 24 rfl rfl
theorem dksX2_whaleLine_3 : cX2_whaleLine.data.toList.drop 71 = dktX2_whaleLine_3 := dk_seg dksX2_whaleLine_2 23 rfl rfl
theorem dksX2_whaleLine_4 : cX2_whaleLine.data.toList.drop 95 = dktX2_whaleLine_4 := dk_seg dksX2_whaleLine_3 24 rfl rfl
theorem dksX2_whaleLine_5 : cX2_whaleLine.data.toList.drop 119 = dktX2_whaleLine_5 := dk_seg dksX2_whaleLine_4 24 rfl rfl
theorem dksX2_whaleLine_6 : cX2_whaleLine.data.toList.drop 143 = dktX2_whaleLine_6 := dk_seg dksX2_whaleLine_5 24 rfl rfl
theorem dksX2_whaleLine_7 : cX2_whaleLine.data.toList.drop 165 = dktX2_whaleLine_7 := dk_seg dksX2_whaleLine_6 22 rfl rfl
theorem dX2_whaleLine_0 : decode cX2_whaleLine 0 = .ok (.aload_n 0, 1) := dk_42 (dk_at dksX2_whaleLine_0 0 rfl rfl)
theorem dX2_whaleLine_1 : decode cX2_whaleLine 1 = .ok (.getfield 100, 3) := dk_180 0 100 (dk_at dksX2_whaleLine_0 1 rfl rfl)
theorem dX2_whaleLine_4 : decode cX2_whaleLine 4 = .ok (.ifCond .eq 4, 3) := dk_153 0 4 (dk_at dksX2_whaleLine_0 4 rfl rfl)
theorem dX2_whaleLine_7 : decode cX2_whaleLine 7 = .ok (.return_, 1) := dk_177 (dk_at dksX2_whaleLine_0 7 rfl rfl)
theorem dX2_whaleLine_8 : decode cX2_whaleLine 8 = .ok (.bipush 107, 2) := dk_16 107 (dk_at dksX2_whaleLine_0 8 rfl rfl)
theorem dX2_whaleLine_10 : decode cX2_whaleLine 10 = .ok (.iconst 4, 1) := dk_7 (dk_at dksX2_whaleLine_0 10 rfl rfl)
theorem dX2_whaleLine_11 : decode cX2_whaleLine 11 = .ok (.aload_n 0, 1) := dk_42 (dk_at dksX2_whaleLine_0 11 rfl rfl)
theorem dX2_whaleLine_12 : decode cX2_whaleLine 12 = .ok (.getfield 23, 3) := dk_180 0 23 (dk_at dksX2_whaleLine_0 12 rfl rfl)
theorem dX2_whaleLine_15 : decode cX2_whaleLine 15 = .ok (.bipush 6, 2) := dk_16 6 (dk_at dksX2_whaleLine_0 15 rfl rfl)
theorem dX2_whaleLine_17 : decode cX2_whaleLine 17 = .ok (.iaload, 1) := dk_46 (dk_at dksX2_whaleLine_0 17 rfl rfl)
theorem dX2_whaleLine_18 : decode cX2_whaleLine 18 = .ok (.imul, 1) := dk_104 (dk_at dksX2_whaleLine_0 18 rfl rfl)
theorem dX2_whaleLine_19 : decode cX2_whaleLine 19 = .ok (.iadd, 1) := dk_96 (dk_at dksX2_whaleLine_0 19 rfl rfl)
theorem dX2_whaleLine_20 : decode cX2_whaleLine 20 = .ok (.istore_n 1, 1) := dk_60 (dk_at dksX2_whaleLine_0 20 rfl rfl)
theorem dX2_whaleLine_21 : decode cX2_whaleLine 21 = .ok (.aload_n 0, 1) := dk_42 (dk_at dksX2_whaleLine_0 21 rfl rfl)
theorem dX2_whaleLine_22 : decode cX2_whaleLine 22 = .ok (.bipush 7, 2) := dk_16 7 (dk_at dksX2_whaleLine_0 22 rfl rfl)
theorem dX2_whaleLine_24 : decode cX2_whaleLine 24 = .ok (.aload_n 0, 1) := dk_42 (dk_at dksX2_whaleLine_1 0 rfl rfl)
theorem dX2_whaleLine_25 : decode cX2_whaleLine 25 = .ok (.getfield 23, 3) := dk_180 0 23 (dk_at dksX2_whaleLine_1 1 rfl rfl)
theorem dX2_whaleLine_28 : decode cX2_whaleLine 28 = .ok (.bipush 6, 2) := dk_16 6 (dk_at dksX2_whaleLine_1 4 rfl rfl)
theorem dX2_whaleLine_30 : decode cX2_whaleLine 30 = .ok (.iaload, 1) := dk_46 (dk_at dksX2_whaleLine_1 6 rfl rfl)
theorem dX2_whaleLine_31 : decode cX2_whaleLine 31 = .ok (.iadd, 1) := dk_96 (dk_at dksX2_whaleLine_1 7 rfl rfl)
theorem dX2_whaleLine_32 : decode cX2_whaleLine 32 = .ok (.invokevirtual 223, 3) := dk_182 0 223 (dk_at dksX2_whaleLine_1 8 rfl rfl)
theorem dX2_whaleLine_35 : decode cX2_whaleLine 35 = .ok (.aload_n 0, 1) := dk_42 (dk_at dksX2_whaleLine_1 11 rfl rfl)
theorem dX2_whaleLine_36 : decode cX2_whaleLine 36 = .ok (.ldc 237, 2) := dk_18 237 (dk_at dksX2_whaleLine_1 12 rfl rfl)
theorem dX2_whaleLine_38 : decode cX2_whaleLine 38 = .ok (.invokevirtual 117, 3) := dk_182 0 117 (dk_at dksX2_whaleLine_1 14 rfl rfl)
theorem dX2_whaleLine_41 : decode cX2_whaleLine 41 = .ok (.ifCond .eq 7, 3) := dk_153 0 7 (dk_at dksX2_whaleLine_1 17 rfl rfl)
theorem dX2_whaleLine_44 : decode cX2_whaleLine 44 = .ok (.iconst 0, 1) := dk_3 (dk_at dksX2_whaleLine_1 20 rfl rfl)
theorem dX2_whaleLine_45 : decode cX2_whaleLine 45 = .ok (.goto 43, 3) := dk_167 0 43 (dk_at dksX2_whaleLine_1 21 rfl rfl)
theorem dX2_whaleLine_48 : decode cX2_whaleLine 48 = .ok (.aload_n 0, 1) := dk_42 (dk_at dksX2_whaleLine_2 0 rfl rfl)
theorem dX2_whaleLine_49 : decode cX2_whaleLine 49 = .ok (.ldc 239, 2) := dk_18 239 (dk_at dksX2_whaleLine_2 1 rfl rfl)
theorem dX2_whaleLine_51 : decode cX2_whaleLine 51 = .ok (.invokevirtual 117, 3) := dk_182 0 117 (dk_at dksX2_whaleLine_2 3 rfl rfl)
theorem dX2_whaleLine_54 : decode cX2_whaleLine 54 = .ok (.ifCond .eq 7, 3) := dk_153 0 7 (dk_at dksX2_whaleLine_2 6 rfl rfl)
theorem dX2_whaleLine_57 : decode cX2_whaleLine 57 = .ok (.iconst 1, 1) := dk_4 (dk_at dksX2_whaleLine_2 9 rfl rfl)
theorem dX2_whaleLine_58 : decode cX2_whaleLine 58 = .ok (.goto 30, 3) := dk_167 0 30 (dk_at dksX2_whaleLine_2 10 rfl rfl)
theorem dX2_whaleLine_61 : decode cX2_whaleLine 61 = .ok (.aload_n 0, 1) := dk_42 (dk_at dksX2_whaleLine_2 13 rfl rfl)
theorem dX2_whaleLine_62 : decode cX2_whaleLine 62 = .ok (.ldc 241, 2) := dk_18 241 (dk_at dksX2_whaleLine_2 14 rfl rfl)
theorem dX2_whaleLine_64 : decode cX2_whaleLine 64 = .ok (.invokevirtual 117, 3) := dk_182 0 117 (dk_at dksX2_whaleLine_2 16 rfl rfl)
theorem dX2_whaleLine_67 : decode cX2_whaleLine 67 = .ok (.ifCond .eq 7, 3) := dk_153 0 7 (dk_at dksX2_whaleLine_2 19 rfl rfl)
theorem dX2_whaleLine_70 : decode cX2_whaleLine 70 = .ok (.iconst 2, 1) := dk_5 (dk_at dksX2_whaleLine_2 22 rfl rfl)
theorem dX2_whaleLine_71 : decode cX2_whaleLine 71 = .ok (.goto 17, 3) := dk_167 0 17 (dk_at dksX2_whaleLine_3 0 rfl rfl)
theorem dX2_whaleLine_74 : decode cX2_whaleLine 74 = .ok (.aload_n 0, 1) := dk_42 (dk_at dksX2_whaleLine_3 3 rfl rfl)
theorem dX2_whaleLine_75 : decode cX2_whaleLine 75 = .ok (.ldc 243, 2) := dk_18 243 (dk_at dksX2_whaleLine_3 4 rfl rfl)
theorem dX2_whaleLine_77 : decode cX2_whaleLine 77 = .ok (.invokevirtual 117, 3) := dk_182 0 117 (dk_at dksX2_whaleLine_3 6 rfl rfl)
theorem dX2_whaleLine_80 : decode cX2_whaleLine 80 = .ok (.ifCond .eq 7, 3) := dk_153 0 7 (dk_at dksX2_whaleLine_3 9 rfl rfl)
theorem dX2_whaleLine_83 : decode cX2_whaleLine 83 = .ok (.iconst 3, 1) := dk_6 (dk_at dksX2_whaleLine_3 12 rfl rfl)
theorem dX2_whaleLine_84 : decode cX2_whaleLine 84 = .ok (.goto 4, 3) := dk_167 0 4 (dk_at dksX2_whaleLine_3 13 rfl rfl)
theorem dX2_whaleLine_87 : decode cX2_whaleLine 87 = .ok (.iconst (-1), 1) := dk_2 (dk_at dksX2_whaleLine_3 16 rfl rfl)
theorem dX2_whaleLine_88 : decode cX2_whaleLine 88 = .ok (.istore_n 2, 1) := dk_61 (dk_at dksX2_whaleLine_3 17 rfl rfl)
theorem dX2_whaleLine_89 : decode cX2_whaleLine 89 = .ok (.iload_n 2, 1) := dk_28 (dk_at dksX2_whaleLine_3 18 rfl rfl)
theorem dX2_whaleLine_90 : decode cX2_whaleLine 90 = .ok (.ifCond .ge 12, 3) := dk_156 0 12 (dk_at dksX2_whaleLine_3 19 rfl rfl)
theorem dX2_whaleLine_93 : decode cX2_whaleLine 93 = .ok (.aload_n 0, 1) := dk_42 (dk_at dksX2_whaleLine_3 22 rfl rfl)
theorem dX2_whaleLine_94 : decode cX2_whaleLine 94 = .ok (.iconst 1, 1) := dk_4 (dk_at dksX2_whaleLine_3 23 rfl rfl)
theorem dX2_whaleLine_95 : decode cX2_whaleLine 95 = .ok (.aload_n 0, 1) := dk_42 (dk_at dksX2_whaleLine_4 0 rfl rfl)
theorem dX2_whaleLine_96 : decode cX2_whaleLine 96 = .ok (.getfield 81, 3) := dk_180 0 81 (dk_at dksX2_whaleLine_4 1 rfl rfl)
theorem dX2_whaleLine_99 : decode cX2_whaleLine 99 = .ok (.invokevirtual 127, 3) := dk_182 0 127 (dk_at dksX2_whaleLine_4 4 rfl rfl)
theorem dX2_whaleLine_102 : decode cX2_whaleLine 102 = .ok (.aload_n 0, 1) := dk_42 (dk_at dksX2_whaleLine_4 7 rfl rfl)
theorem dX2_whaleLine_103 : decode cX2_whaleLine 103 = .ok (.getfield 100, 3) := dk_180 0 100 (dk_at dksX2_whaleLine_4 8 rfl rfl)
theorem dX2_whaleLine_106 : decode cX2_whaleLine 106 = .ok (.ifCond .eq 4, 3) := dk_153 0 4 (dk_at dksX2_whaleLine_4 11 rfl rfl)
theorem dX2_whaleLine_109 : decode cX2_whaleLine 109 = .ok (.return_, 1) := dk_177 (dk_at dksX2_whaleLine_4 14 rfl rfl)
theorem dX2_whaleLine_110 : decode cX2_whaleLine 110 = .ok (.aload_n 0, 1) := dk_42 (dk_at dksX2_whaleLine_4 15 rfl rfl)
theorem dX2_whaleLine_111 : decode cX2_whaleLine 111 = .ok (.invokevirtual 121, 3) := dk_182 0 121 (dk_at dksX2_whaleLine_4 16 rfl rfl)
theorem dX2_whaleLine_114 : decode cX2_whaleLine 114 = .ok (.aload_n 0, 1) := dk_42 (dk_at dksX2_whaleLine_4 19 rfl rfl)
theorem dX2_whaleLine_115 : decode cX2_whaleLine 115 = .ok (.getfield 23, 3) := dk_180 0 23 (dk_at dksX2_whaleLine_4 20 rfl rfl)
theorem dX2_whaleLine_118 : decode cX2_whaleLine 118 = .ok (.iload_n 1, 1) := dk_27 (dk_at dksX2_whaleLine_4 23 rfl rfl)
theorem dX2_whaleLine_119 : decode cX2_whaleLine 119 = .ok (.iload_n 2, 1) := dk_28 (dk_at dksX2_whaleLine_5 0 rfl rfl)
theorem dX2_whaleLine_120 : decode cX2_whaleLine 120 = .ok (.iastore, 1) := dk_79 (dk_at dksX2_whaleLine_5 1 rfl rfl)
theorem dX2_whaleLine_121 : decode cX2_whaleLine 121 = .ok (.aload_n 0, 1) := dk_42 (dk_at dksX2_whaleLine_5 2 rfl rfl)
theorem dX2_whaleLine_122 : decode cX2_whaleLine 122 = .ok (.getfield 23, 3) := dk_180 0 23 (dk_at dksX2_whaleLine_5 3 rfl rfl)
theorem dX2_whaleLine_125 : decode cX2_whaleLine 125 = .ok (.iload_n 1, 1) := dk_27 (dk_at dksX2_whaleLine_5 6 rfl rfl)
theorem dX2_whaleLine_126 : decode cX2_whaleLine 126 = .ok (.iconst 1, 1) := dk_4 (dk_at dksX2_whaleLine_5 7 rfl rfl)
theorem dX2_whaleLine_127 : decode cX2_whaleLine 127 = .ok (.iadd, 1) := dk_96 (dk_at dksX2_whaleLine_5 8 rfl rfl)
theorem dX2_whaleLine_128 : decode cX2_whaleLine 128 = .ok (.aload_n 0, 1) := dk_42 (dk_at dksX2_whaleLine_5 9 rfl rfl)
theorem dX2_whaleLine_129 : decode cX2_whaleLine 129 = .ok (.ldc 245, 2) := dk_18 245 (dk_at dksX2_whaleLine_5 10 rfl rfl)
theorem dX2_whaleLine_131 : decode cX2_whaleLine 131 = .ok (.invokevirtual 246, 3) := dk_182 0 246 (dk_at dksX2_whaleLine_5 12 rfl rfl)
theorem dX2_whaleLine_134 : decode cX2_whaleLine 134 = .ok (.iastore, 1) := dk_79 (dk_at dksX2_whaleLine_5 15 rfl rfl)
theorem dX2_whaleLine_135 : decode cX2_whaleLine 135 = .ok (.aload_n 0, 1) := dk_42 (dk_at dksX2_whaleLine_5 16 rfl rfl)
theorem dX2_whaleLine_136 : decode cX2_whaleLine 136 = .ok (.getfield 23, 3) := dk_180 0 23 (dk_at dksX2_whaleLine_5 17 rfl rfl)
theorem dX2_whaleLine_139 : decode cX2_whaleLine 139 = .ok (.iload_n 1, 1) := dk_27 (dk_at dksX2_whaleLine_5 20 rfl rfl)
theorem dX2_whaleLine_140 : decode cX2_whaleLine 140 = .ok (.iconst 2, 1) := dk_5 (dk_at dksX2_whaleLine_5 21 rfl rfl)
theorem dX2_whaleLine_141 : decode cX2_whaleLine 141 = .ok (.iadd, 1) := dk_96 (dk_at dksX2_whaleLine_5 22 rfl rfl)
theorem dX2_whaleLine_142 : decode cX2_whaleLine 142 = .ok (.aload_n 0, 1) := dk_42 (dk_at dksX2_whaleLine_5 23 rfl rfl)
theorem dX2_whaleLine_143 : decode cX2_whaleLine 143 = .ok (.ldc 250, 2) := dk_18 250 (dk_at dksX2_whaleLine_6 0 rfl rfl)
theorem dX2_whaleLine_145 : decode cX2_whaleLine 145 = .ok (.iconst 0, 1) := dk_3 (dk_at dksX2_whaleLine_6 2 rfl rfl)
theorem dX2_whaleLine_146 : decode cX2_whaleLine 146 = .ok (.bipush 99, 2) := dk_16 99 (dk_at dksX2_whaleLine_6 3 rfl rfl)
theorem dX2_whaleLine_148 : decode cX2_whaleLine 148 = .ok (.invokevirtual 213, 3) := dk_182 0 213 (dk_at dksX2_whaleLine_6 5 rfl rfl)
theorem dX2_whaleLine_151 : decode cX2_whaleLine 151 = .ok (.iastore, 1) := dk_79 (dk_at dksX2_whaleLine_6 8 rfl rfl)
theorem dX2_whaleLine_152 : decode cX2_whaleLine 152 = .ok (.aload_n 0, 1) := dk_42 (dk_at dksX2_whaleLine_6 9 rfl rfl)
theorem dX2_whaleLine_153 : decode cX2_whaleLine 153 = .ok (.getfield 23, 3) := dk_180 0 23 (dk_at dksX2_whaleLine_6 10 rfl rfl)
theorem dX2_whaleLine_156 : decode cX2_whaleLine 156 = .ok (.iload_n 1, 1) := dk_27 (dk_at dksX2_whaleLine_6 13 rfl rfl)
theorem dX2_whaleLine_157 : decode cX2_whaleLine 157 = .ok (.iconst 3, 1) := dk_6 (dk_at dksX2_whaleLine_6 14 rfl rfl)
theorem dX2_whaleLine_158 : decode cX2_whaleLine 158 = .ok (.iadd, 1) := dk_96 (dk_at dksX2_whaleLine_6 15 rfl rfl)
theorem dX2_whaleLine_159 : decode cX2_whaleLine 159 = .ok (.aload_n 0, 1) := dk_42 (dk_at dksX2_whaleLine_6 16 rfl rfl)
theorem dX2_whaleLine_160 : decode cX2_whaleLine 160 = .ok (.ldc 252, 2) := dk_18 252 (dk_at dksX2_whaleLine_6 17 rfl rfl)
theorem dX2_whaleLine_162 : decode cX2_whaleLine 162 = .ok (.iconst 0, 1) := dk_3 (dk_at dksX2_whaleLine_6 19 rfl rfl)
theorem dX2_whaleLine_163 : decode cX2_whaleLine 163 = .ok (.bipush 99, 2) := dk_16 99 (dk_at dksX2_whaleLine_6 20 rfl rfl)
theorem dX2_whaleLine_165 : decode cX2_whaleLine 165 = .ok (.invokevirtual 213, 3) := dk_182 0 213 (dk_at dksX2_whaleLine_7 0 rfl rfl)
theorem dX2_whaleLine_168 : decode cX2_whaleLine 168 = .ok (.iastore, 1) := dk_79 (dk_at dksX2_whaleLine_7 3 rfl rfl)
theorem dX2_whaleLine_169 : decode cX2_whaleLine 169 = .ok (.aload_n 0, 1) := dk_42 (dk_at dksX2_whaleLine_7 4 rfl rfl)
theorem dX2_whaleLine_170 : decode cX2_whaleLine 170 = .ok (.getfield 100, 3) := dk_180 0 100 (dk_at dksX2_whaleLine_7 5 rfl rfl)
theorem dX2_whaleLine_173 : decode cX2_whaleLine 173 = .ok (.ifCond .ne 14, 3) := dk_154 0 14 (dk_at dksX2_whaleLine_7 8 rfl rfl)
theorem dX2_whaleLine_176 : decode cX2_whaleLine 176 = .ok (.aload_n 0, 1) := dk_42 (dk_at dksX2_whaleLine_7 11 rfl rfl)
theorem dX2_whaleLine_177 : decode cX2_whaleLine 177 = .ok (.getfield 23, 3) := dk_180 0 23 (dk_at dksX2_whaleLine_7 12 rfl rfl)
theorem dX2_whaleLine_180 : decode cX2_whaleLine 180 = .ok (.bipush 6, 2) := dk_16 6 (dk_at dksX2_whaleLine_7 15 rfl rfl)
theorem dX2_whaleLine_182 : decode cX2_whaleLine 182 = .ok (.dup2, 1) := dk_92 (dk_at dksX2_whaleLine_7 17 rfl rfl)
theorem dX2_whaleLine_183 : decode cX2_whaleLine 183 = .ok (.iaload, 1) := dk_46 (dk_at dksX2_whaleLine_7 18 rfl rfl)
theorem dX2_whaleLine_184 : decode cX2_whaleLine 184 = .ok (.iconst 1, 1) := dk_4 (dk_at dksX2_whaleLine_7 19 rfl rfl)
theorem dX2_whaleLine_185 : decode cX2_whaleLine 185 = .ok (.iadd, 1) := dk_96 (dk_at dksX2_whaleLine_7 20 rfl rfl)
theorem dX2_whaleLine_186 : decode cX2_whaleLine 186 = .ok (.iastore, 1) := dk_79 (dk_at dksX2_whaleLine_7 21 rfl rfl)
theorem dX2_whaleLine_187 : decode cX2_whaleLine 187 = .ok (.return_, 1) := dk_177 (dk_at dksX2_whaleLine_7 22 rfl rfl)
abbrev cX2_islandBehind : ByteArray := prog_16_method_25_code
def yX2_islandBehind : MethodName := ⟨RX2, "islandBehind", "(Ljava/lang/String;)I"⟩
def dkwX2_islandBehind_0 : List UInt8 := [42, 43, 182, 0, 157, 42, 182, 0, 161, 172]
abbrev dktX2_islandBehind_0 : List UInt8 := dkwX2_islandBehind_0 ++ []
theorem dksX2_islandBehind_0 : cX2_islandBehind.data.toList.drop 0 = dktX2_islandBehind_0 := by decide +kernel
theorem dX2_islandBehind_0 : decode cX2_islandBehind 0 = .ok (.aload_n 0, 1) := dk_42 (dk_at dksX2_islandBehind_0 0 rfl rfl)
theorem dX2_islandBehind_1 : decode cX2_islandBehind 1 = .ok (.aload_n 1, 1) := dk_43 (dk_at dksX2_islandBehind_0 1 rfl rfl)
theorem dX2_islandBehind_2 : decode cX2_islandBehind 2 = .ok (.invokevirtual 157, 3) := dk_182 0 157 (dk_at dksX2_islandBehind_0 2 rfl rfl)
theorem dX2_islandBehind_5 : decode cX2_islandBehind 5 = .ok (.aload_n 0, 1) := dk_42 (dk_at dksX2_islandBehind_0 5 rfl rfl)
theorem dX2_islandBehind_6 : decode cX2_islandBehind 6 = .ok (.invokevirtual 161, 3) := dk_182 0 161 (dk_at dksX2_islandBehind_0 6 rfl rfl)
theorem dX2_islandBehind_9 : decode cX2_islandBehind 9 = .ok (.ireturn, 1) := dk_172 (dk_at dksX2_islandBehind_0 9 rfl rfl)
abbrev cX2_boxLine : ByteArray := prog_16_method_37_code
def yX2_boxLine : MethodName := ⟨RX2, "boxLine", "()V"⟩
def dkwX2_boxLine_5 : List UInt8 := [79, 177]
abbrev dktX2_boxLine_5 : List UInt8 := dkwX2_boxLine_5 ++ []
def dkwX2_boxLine_4 : List UInt8 := [17, 39, 15, 182, 0, 213, 79, 42, 180, 0, 100, 154, 0, 14, 42, 180, 0, 23, 16, 7, 92, 46, 4, 96]
abbrev dktX2_boxLine_4 : List UInt8 := dkwX2_boxLine_4 ++ dktX2_boxLine_5
def dkwX2_boxLine_3 : List UInt8 := [19, 1, 2, 4, 16, 99, 182, 0, 213, 79, 42, 180, 0, 23, 27, 6, 96, 42, 19, 1, 4, 3]
abbrev dktX2_boxLine_3 : List UInt8 := dkwX2_boxLine_3 ++ dktX2_boxLine_4
def dkwX2_boxLine_2 : List UInt8 := [180, 0, 23, 27, 4, 96, 42, 19, 1, 0, 182, 0, 246, 79, 42, 180, 0, 23, 27, 5, 96, 42]
abbrev dktX2_boxLine_2 : List UInt8 := dkwX2_boxLine_2 ++ dktX2_boxLine_3
def dkwX2_boxLine_1 : List UInt8 := [42, 180, 0, 23, 16, 7, 46, 96, 182, 0, 223, 42, 180, 0, 23, 27, 42, 18, 254, 182, 0, 246, 79, 42]
abbrev dktX2_boxLine_1 : List UInt8 := dkwX2_boxLine_1 ++ dktX2_boxLine_2
def dkwX2_boxLine_0 : List UInt8 := [42, 180, 0, 100, 153, 0, 4, 177, 16, 127, 7, 42, 180, 0, 23, 16, 7, 46, 104, 96, 60, 42, 16, 12]
abbrev dktX2_boxLine_0 : List UInt8 := dkwX2_boxLine_0 ++ dktX2_boxLine_1
theorem dksX2_boxLine_0 : cX2_boxLine.data.toList.drop 0 = dktX2_boxLine_0 := by decide +kernel
theorem dksX2_boxLine_1 : cX2_boxLine.data.toList.drop 24 = dktX2_boxLine_1 := dk_seg dksX2_boxLine_0 24 rfl rfl
theorem dksX2_boxLine_2 : cX2_boxLine.data.toList.drop 48 = dktX2_boxLine_2 := dk_seg dksX2_boxLine_1 24 rfl rfl
theorem dksX2_boxLine_3 : cX2_boxLine.data.toList.drop 70 = dktX2_boxLine_3 := dk_seg dksX2_boxLine_2 22 rfl rfl
theorem dksX2_boxLine_4 : cX2_boxLine.data.toList.drop 92 = dktX2_boxLine_4 := dk_seg dksX2_boxLine_3 22 rfl rfl
theorem dksX2_boxLine_5 : cX2_boxLine.data.toList.drop 116 = dktX2_boxLine_5 := dk_seg dksX2_boxLine_4 24 rfl rfl
theorem dX2_boxLine_0 : decode cX2_boxLine 0 = .ok (.aload_n 0, 1) := dk_42 (dk_at dksX2_boxLine_0 0 rfl rfl)
theorem dX2_boxLine_1 : decode cX2_boxLine 1 = .ok (.getfield 100, 3) := dk_180 0 100 (dk_at dksX2_boxLine_0 1 rfl rfl)
theorem dX2_boxLine_4 : decode cX2_boxLine 4 = .ok (.ifCond .eq 4, 3) := dk_153 0 4 (dk_at dksX2_boxLine_0 4 rfl rfl)
theorem dX2_boxLine_7 : decode cX2_boxLine 7 = .ok (.return_, 1) := dk_177 (dk_at dksX2_boxLine_0 7 rfl rfl)
theorem dX2_boxLine_8 : decode cX2_boxLine 8 = .ok (.bipush 127, 2) := dk_16 127 (dk_at dksX2_boxLine_0 8 rfl rfl)
theorem dX2_boxLine_10 : decode cX2_boxLine 10 = .ok (.iconst 4, 1) := dk_7 (dk_at dksX2_boxLine_0 10 rfl rfl)
theorem dX2_boxLine_11 : decode cX2_boxLine 11 = .ok (.aload_n 0, 1) := dk_42 (dk_at dksX2_boxLine_0 11 rfl rfl)
theorem dX2_boxLine_12 : decode cX2_boxLine 12 = .ok (.getfield 23, 3) := dk_180 0 23 (dk_at dksX2_boxLine_0 12 rfl rfl)
theorem dX2_boxLine_15 : decode cX2_boxLine 15 = .ok (.bipush 7, 2) := dk_16 7 (dk_at dksX2_boxLine_0 15 rfl rfl)
theorem dX2_boxLine_17 : decode cX2_boxLine 17 = .ok (.iaload, 1) := dk_46 (dk_at dksX2_boxLine_0 17 rfl rfl)
theorem dX2_boxLine_18 : decode cX2_boxLine 18 = .ok (.imul, 1) := dk_104 (dk_at dksX2_boxLine_0 18 rfl rfl)
theorem dX2_boxLine_19 : decode cX2_boxLine 19 = .ok (.iadd, 1) := dk_96 (dk_at dksX2_boxLine_0 19 rfl rfl)
theorem dX2_boxLine_20 : decode cX2_boxLine 20 = .ok (.istore_n 1, 1) := dk_60 (dk_at dksX2_boxLine_0 20 rfl rfl)
theorem dX2_boxLine_21 : decode cX2_boxLine 21 = .ok (.aload_n 0, 1) := dk_42 (dk_at dksX2_boxLine_0 21 rfl rfl)
theorem dX2_boxLine_22 : decode cX2_boxLine 22 = .ok (.bipush 12, 2) := dk_16 12 (dk_at dksX2_boxLine_0 22 rfl rfl)
theorem dX2_boxLine_24 : decode cX2_boxLine 24 = .ok (.aload_n 0, 1) := dk_42 (dk_at dksX2_boxLine_1 0 rfl rfl)
theorem dX2_boxLine_25 : decode cX2_boxLine 25 = .ok (.getfield 23, 3) := dk_180 0 23 (dk_at dksX2_boxLine_1 1 rfl rfl)
theorem dX2_boxLine_28 : decode cX2_boxLine 28 = .ok (.bipush 7, 2) := dk_16 7 (dk_at dksX2_boxLine_1 4 rfl rfl)
theorem dX2_boxLine_30 : decode cX2_boxLine 30 = .ok (.iaload, 1) := dk_46 (dk_at dksX2_boxLine_1 6 rfl rfl)
theorem dX2_boxLine_31 : decode cX2_boxLine 31 = .ok (.iadd, 1) := dk_96 (dk_at dksX2_boxLine_1 7 rfl rfl)
theorem dX2_boxLine_32 : decode cX2_boxLine 32 = .ok (.invokevirtual 223, 3) := dk_182 0 223 (dk_at dksX2_boxLine_1 8 rfl rfl)
theorem dX2_boxLine_35 : decode cX2_boxLine 35 = .ok (.aload_n 0, 1) := dk_42 (dk_at dksX2_boxLine_1 11 rfl rfl)
theorem dX2_boxLine_36 : decode cX2_boxLine 36 = .ok (.getfield 23, 3) := dk_180 0 23 (dk_at dksX2_boxLine_1 12 rfl rfl)
theorem dX2_boxLine_39 : decode cX2_boxLine 39 = .ok (.iload_n 1, 1) := dk_27 (dk_at dksX2_boxLine_1 15 rfl rfl)
theorem dX2_boxLine_40 : decode cX2_boxLine 40 = .ok (.aload_n 0, 1) := dk_42 (dk_at dksX2_boxLine_1 16 rfl rfl)
theorem dX2_boxLine_41 : decode cX2_boxLine 41 = .ok (.ldc 254, 2) := dk_18 254 (dk_at dksX2_boxLine_1 17 rfl rfl)
theorem dX2_boxLine_43 : decode cX2_boxLine 43 = .ok (.invokevirtual 246, 3) := dk_182 0 246 (dk_at dksX2_boxLine_1 19 rfl rfl)
theorem dX2_boxLine_46 : decode cX2_boxLine 46 = .ok (.iastore, 1) := dk_79 (dk_at dksX2_boxLine_1 22 rfl rfl)
theorem dX2_boxLine_47 : decode cX2_boxLine 47 = .ok (.aload_n 0, 1) := dk_42 (dk_at dksX2_boxLine_1 23 rfl rfl)
theorem dX2_boxLine_48 : decode cX2_boxLine 48 = .ok (.getfield 23, 3) := dk_180 0 23 (dk_at dksX2_boxLine_2 0 rfl rfl)
theorem dX2_boxLine_51 : decode cX2_boxLine 51 = .ok (.iload_n 1, 1) := dk_27 (dk_at dksX2_boxLine_2 3 rfl rfl)
theorem dX2_boxLine_52 : decode cX2_boxLine 52 = .ok (.iconst 1, 1) := dk_4 (dk_at dksX2_boxLine_2 4 rfl rfl)
theorem dX2_boxLine_53 : decode cX2_boxLine 53 = .ok (.iadd, 1) := dk_96 (dk_at dksX2_boxLine_2 5 rfl rfl)
theorem dX2_boxLine_54 : decode cX2_boxLine 54 = .ok (.aload_n 0, 1) := dk_42 (dk_at dksX2_boxLine_2 6 rfl rfl)
theorem dX2_boxLine_55 : decode cX2_boxLine 55 = .ok (.ldc_w 256, 3) := dk_19 1 0 (dk_at dksX2_boxLine_2 7 rfl rfl)
theorem dX2_boxLine_58 : decode cX2_boxLine 58 = .ok (.invokevirtual 246, 3) := dk_182 0 246 (dk_at dksX2_boxLine_2 10 rfl rfl)
theorem dX2_boxLine_61 : decode cX2_boxLine 61 = .ok (.iastore, 1) := dk_79 (dk_at dksX2_boxLine_2 13 rfl rfl)
theorem dX2_boxLine_62 : decode cX2_boxLine 62 = .ok (.aload_n 0, 1) := dk_42 (dk_at dksX2_boxLine_2 14 rfl rfl)
theorem dX2_boxLine_63 : decode cX2_boxLine 63 = .ok (.getfield 23, 3) := dk_180 0 23 (dk_at dksX2_boxLine_2 15 rfl rfl)
theorem dX2_boxLine_66 : decode cX2_boxLine 66 = .ok (.iload_n 1, 1) := dk_27 (dk_at dksX2_boxLine_2 18 rfl rfl)
theorem dX2_boxLine_67 : decode cX2_boxLine 67 = .ok (.iconst 2, 1) := dk_5 (dk_at dksX2_boxLine_2 19 rfl rfl)
theorem dX2_boxLine_68 : decode cX2_boxLine 68 = .ok (.iadd, 1) := dk_96 (dk_at dksX2_boxLine_2 20 rfl rfl)
theorem dX2_boxLine_69 : decode cX2_boxLine 69 = .ok (.aload_n 0, 1) := dk_42 (dk_at dksX2_boxLine_2 21 rfl rfl)
theorem dX2_boxLine_70 : decode cX2_boxLine 70 = .ok (.ldc_w 258, 3) := dk_19 1 2 (dk_at dksX2_boxLine_3 0 rfl rfl)
theorem dX2_boxLine_73 : decode cX2_boxLine 73 = .ok (.iconst 1, 1) := dk_4 (dk_at dksX2_boxLine_3 3 rfl rfl)
theorem dX2_boxLine_74 : decode cX2_boxLine 74 = .ok (.bipush 99, 2) := dk_16 99 (dk_at dksX2_boxLine_3 4 rfl rfl)
theorem dX2_boxLine_76 : decode cX2_boxLine 76 = .ok (.invokevirtual 213, 3) := dk_182 0 213 (dk_at dksX2_boxLine_3 6 rfl rfl)
theorem dX2_boxLine_79 : decode cX2_boxLine 79 = .ok (.iastore, 1) := dk_79 (dk_at dksX2_boxLine_3 9 rfl rfl)
theorem dX2_boxLine_80 : decode cX2_boxLine 80 = .ok (.aload_n 0, 1) := dk_42 (dk_at dksX2_boxLine_3 10 rfl rfl)
theorem dX2_boxLine_81 : decode cX2_boxLine 81 = .ok (.getfield 23, 3) := dk_180 0 23 (dk_at dksX2_boxLine_3 11 rfl rfl)
theorem dX2_boxLine_84 : decode cX2_boxLine 84 = .ok (.iload_n 1, 1) := dk_27 (dk_at dksX2_boxLine_3 14 rfl rfl)
theorem dX2_boxLine_85 : decode cX2_boxLine 85 = .ok (.iconst 3, 1) := dk_6 (dk_at dksX2_boxLine_3 15 rfl rfl)
theorem dX2_boxLine_86 : decode cX2_boxLine 86 = .ok (.iadd, 1) := dk_96 (dk_at dksX2_boxLine_3 16 rfl rfl)
theorem dX2_boxLine_87 : decode cX2_boxLine 87 = .ok (.aload_n 0, 1) := dk_42 (dk_at dksX2_boxLine_3 17 rfl rfl)
theorem dX2_boxLine_88 : decode cX2_boxLine 88 = .ok (.ldc_w 260, 3) := dk_19 1 4 (dk_at dksX2_boxLine_3 18 rfl rfl)
theorem dX2_boxLine_91 : decode cX2_boxLine 91 = .ok (.iconst 0, 1) := dk_3 (dk_at dksX2_boxLine_3 21 rfl rfl)
theorem dX2_boxLine_92 : decode cX2_boxLine 92 = .ok (.sipush 9999, 3) := dk_17 39 15 (dk_at dksX2_boxLine_4 0 rfl rfl)
theorem dX2_boxLine_95 : decode cX2_boxLine 95 = .ok (.invokevirtual 213, 3) := dk_182 0 213 (dk_at dksX2_boxLine_4 3 rfl rfl)
theorem dX2_boxLine_98 : decode cX2_boxLine 98 = .ok (.iastore, 1) := dk_79 (dk_at dksX2_boxLine_4 6 rfl rfl)
theorem dX2_boxLine_99 : decode cX2_boxLine 99 = .ok (.aload_n 0, 1) := dk_42 (dk_at dksX2_boxLine_4 7 rfl rfl)
theorem dX2_boxLine_100 : decode cX2_boxLine 100 = .ok (.getfield 100, 3) := dk_180 0 100 (dk_at dksX2_boxLine_4 8 rfl rfl)
theorem dX2_boxLine_103 : decode cX2_boxLine 103 = .ok (.ifCond .ne 14, 3) := dk_154 0 14 (dk_at dksX2_boxLine_4 11 rfl rfl)
theorem dX2_boxLine_106 : decode cX2_boxLine 106 = .ok (.aload_n 0, 1) := dk_42 (dk_at dksX2_boxLine_4 14 rfl rfl)
theorem dX2_boxLine_107 : decode cX2_boxLine 107 = .ok (.getfield 23, 3) := dk_180 0 23 (dk_at dksX2_boxLine_4 15 rfl rfl)
theorem dX2_boxLine_110 : decode cX2_boxLine 110 = .ok (.bipush 7, 2) := dk_16 7 (dk_at dksX2_boxLine_4 18 rfl rfl)
theorem dX2_boxLine_112 : decode cX2_boxLine 112 = .ok (.dup2, 1) := dk_92 (dk_at dksX2_boxLine_4 20 rfl rfl)
theorem dX2_boxLine_113 : decode cX2_boxLine 113 = .ok (.iaload, 1) := dk_46 (dk_at dksX2_boxLine_4 21 rfl rfl)
theorem dX2_boxLine_114 : decode cX2_boxLine 114 = .ok (.iconst 1, 1) := dk_4 (dk_at dksX2_boxLine_4 22 rfl rfl)
theorem dX2_boxLine_115 : decode cX2_boxLine 115 = .ok (.iadd, 1) := dk_96 (dk_at dksX2_boxLine_4 23 rfl rfl)
theorem dX2_boxLine_116 : decode cX2_boxLine 116 = .ok (.iastore, 1) := dk_79 (dk_at dksX2_boxLine_5 0 rfl rfl)
theorem dX2_boxLine_117 : decode cX2_boxLine 117 = .ok (.return_, 1) := dk_177 (dk_at dksX2_boxLine_5 1 rfl rfl)
abbrev cX2_spoutLine : ByteArray := prog_16_method_38_code
def yX2_spoutLine : MethodName := ⟨RX2, "spoutLine", "()V"⟩
def dkwX2_spoutLine_7 : List UInt8 := [96, 79, 177]
abbrev dktX2_spoutLine_7 : List UInt8 := dkwX2_spoutLine_7 ++ []
def dkwX2_spoutLine_6 : List UInt8 := [27, 4, 96, 29, 79, 42, 180, 0, 23, 27, 5, 96, 21, 5, 79, 42, 180, 0, 23, 16, 8, 92, 46, 4]
abbrev dktX2_spoutLine_6 : List UInt8 := dkwX2_spoutLine_6 ++ dktX2_spoutLine_7
def dkwX2_spoutLine_5 : List UInt8 := [182, 0, 213, 54, 5, 42, 180, 0, 100, 153, 0, 4, 177, 42, 180, 0, 23, 27, 28, 79, 42, 180, 0, 23]
abbrev dktX2_spoutLine_5 : List UInt8 := dkwX2_spoutLine_5 ++ dktX2_spoutLine_6
def dkwX2_spoutLine_4 : List UInt8 := [96, 5, 96, 46, 4, 96, 54, 4, 132, 5, 1, 167, 255, 205, 42, 19, 1, 4, 21, 4, 17, 39, 15]
abbrev dktX2_spoutLine_4 : List UInt8 := dkwX2_spoutLine_4 ++ dktX2_spoutLine_5
def dkwX2_spoutLine_3 : List UInt8 := [17, 0, 159, 6, 21, 5, 104, 96, 46, 28, 160, 0, 22, 42, 180, 0, 23, 17, 0, 159, 6, 21, 5, 104]
abbrev dktX2_spoutLine_3 : List UInt8 := dkwX2_spoutLine_3 ++ dktX2_spoutLine_4
def dkwX2_spoutLine_2 : List UInt8 := [3, 54, 4, 3, 54, 5, 21, 5, 42, 180, 0, 23, 16, 8, 46, 162, 0, 45, 42, 180, 0, 23]
abbrev dktX2_spoutLine_2 : List UInt8 := dkwX2_spoutLine_2 ++ dktX2_spoutLine_3
def dkwX2_spoutLine_1 : List UInt8 := [16, 7, 16, 11, 182, 0, 153, 61, 42, 180, 0, 100, 154, 0, 7, 42, 182, 0, 121, 42, 182, 0, 161, 62]
abbrev dktX2_spoutLine_1 : List UInt8 := dkwX2_spoutLine_1 ++ dktX2_spoutLine_2
def dkwX2_spoutLine_0 : List UInt8 := [42, 180, 0, 100, 153, 0, 4, 177, 17, 0, 159, 6, 42, 180, 0, 23, 16, 8, 46, 104, 96, 60, 42]
abbrev dktX2_spoutLine_0 : List UInt8 := dkwX2_spoutLine_0 ++ dktX2_spoutLine_1
theorem dksX2_spoutLine_0 : cX2_spoutLine.data.toList.drop 0 = dktX2_spoutLine_0 := by decide +kernel
theorem dksX2_spoutLine_1 : cX2_spoutLine.data.toList.drop 23 = dktX2_spoutLine_1 := dk_seg dksX2_spoutLine_0 23 rfl rfl
theorem dksX2_spoutLine_2 : cX2_spoutLine.data.toList.drop 47 = dktX2_spoutLine_2 := dk_seg dksX2_spoutLine_1 24 rfl rfl
theorem dksX2_spoutLine_3 : cX2_spoutLine.data.toList.drop 69 = dktX2_spoutLine_3 := dk_seg dksX2_spoutLine_2 22 rfl rfl
theorem dksX2_spoutLine_4 : cX2_spoutLine.data.toList.drop 93 = dktX2_spoutLine_4 := dk_seg dksX2_spoutLine_3 24 rfl rfl
theorem dksX2_spoutLine_5 : cX2_spoutLine.data.toList.drop 116 = dktX2_spoutLine_5 := dk_seg dksX2_spoutLine_4 23 rfl rfl
theorem dksX2_spoutLine_6 : cX2_spoutLine.data.toList.drop 140 = dktX2_spoutLine_6 := dk_seg dksX2_spoutLine_5 24 rfl rfl
theorem dksX2_spoutLine_7 : cX2_spoutLine.data.toList.drop 164 = dktX2_spoutLine_7 := dk_seg dksX2_spoutLine_6 24 rfl rfl
theorem dX2_spoutLine_0 : decode cX2_spoutLine 0 = .ok (.aload_n 0, 1) := dk_42 (dk_at dksX2_spoutLine_0 0 rfl rfl)
theorem dX2_spoutLine_1 : decode cX2_spoutLine 1 = .ok (.getfield 100, 3) := dk_180 0 100 (dk_at dksX2_spoutLine_0 1 rfl rfl)
theorem dX2_spoutLine_4 : decode cX2_spoutLine 4 = .ok (.ifCond .eq 4, 3) := dk_153 0 4 (dk_at dksX2_spoutLine_0 4 rfl rfl)
theorem dX2_spoutLine_7 : decode cX2_spoutLine 7 = .ok (.return_, 1) := dk_177 (dk_at dksX2_spoutLine_0 7 rfl rfl)
theorem dX2_spoutLine_8 : decode cX2_spoutLine 8 = .ok (.sipush 159, 3) := dk_17 0 159 (dk_at dksX2_spoutLine_0 8 rfl rfl)
theorem dX2_spoutLine_11 : decode cX2_spoutLine 11 = .ok (.iconst 3, 1) := dk_6 (dk_at dksX2_spoutLine_0 11 rfl rfl)
theorem dX2_spoutLine_12 : decode cX2_spoutLine 12 = .ok (.aload_n 0, 1) := dk_42 (dk_at dksX2_spoutLine_0 12 rfl rfl)
theorem dX2_spoutLine_13 : decode cX2_spoutLine 13 = .ok (.getfield 23, 3) := dk_180 0 23 (dk_at dksX2_spoutLine_0 13 rfl rfl)
theorem dX2_spoutLine_16 : decode cX2_spoutLine 16 = .ok (.bipush 8, 2) := dk_16 8 (dk_at dksX2_spoutLine_0 16 rfl rfl)
theorem dX2_spoutLine_18 : decode cX2_spoutLine 18 = .ok (.iaload, 1) := dk_46 (dk_at dksX2_spoutLine_0 18 rfl rfl)
theorem dX2_spoutLine_19 : decode cX2_spoutLine 19 = .ok (.imul, 1) := dk_104 (dk_at dksX2_spoutLine_0 19 rfl rfl)
theorem dX2_spoutLine_20 : decode cX2_spoutLine 20 = .ok (.iadd, 1) := dk_96 (dk_at dksX2_spoutLine_0 20 rfl rfl)
theorem dX2_spoutLine_21 : decode cX2_spoutLine 21 = .ok (.istore_n 1, 1) := dk_60 (dk_at dksX2_spoutLine_0 21 rfl rfl)
theorem dX2_spoutLine_22 : decode cX2_spoutLine 22 = .ok (.aload_n 0, 1) := dk_42 (dk_at dksX2_spoutLine_0 22 rfl rfl)
theorem dX2_spoutLine_23 : decode cX2_spoutLine 23 = .ok (.bipush 7, 2) := dk_16 7 (dk_at dksX2_spoutLine_1 0 rfl rfl)
theorem dX2_spoutLine_25 : decode cX2_spoutLine 25 = .ok (.bipush 11, 2) := dk_16 11 (dk_at dksX2_spoutLine_1 2 rfl rfl)
theorem dX2_spoutLine_27 : decode cX2_spoutLine 27 = .ok (.invokevirtual 153, 3) := dk_182 0 153 (dk_at dksX2_spoutLine_1 4 rfl rfl)
theorem dX2_spoutLine_30 : decode cX2_spoutLine 30 = .ok (.istore_n 2, 1) := dk_61 (dk_at dksX2_spoutLine_1 7 rfl rfl)
theorem dX2_spoutLine_31 : decode cX2_spoutLine 31 = .ok (.aload_n 0, 1) := dk_42 (dk_at dksX2_spoutLine_1 8 rfl rfl)
theorem dX2_spoutLine_32 : decode cX2_spoutLine 32 = .ok (.getfield 100, 3) := dk_180 0 100 (dk_at dksX2_spoutLine_1 9 rfl rfl)
theorem dX2_spoutLine_35 : decode cX2_spoutLine 35 = .ok (.ifCond .ne 7, 3) := dk_154 0 7 (dk_at dksX2_spoutLine_1 12 rfl rfl)
theorem dX2_spoutLine_38 : decode cX2_spoutLine 38 = .ok (.aload_n 0, 1) := dk_42 (dk_at dksX2_spoutLine_1 15 rfl rfl)
theorem dX2_spoutLine_39 : decode cX2_spoutLine 39 = .ok (.invokevirtual 121, 3) := dk_182 0 121 (dk_at dksX2_spoutLine_1 16 rfl rfl)
theorem dX2_spoutLine_42 : decode cX2_spoutLine 42 = .ok (.aload_n 0, 1) := dk_42 (dk_at dksX2_spoutLine_1 19 rfl rfl)
theorem dX2_spoutLine_43 : decode cX2_spoutLine 43 = .ok (.invokevirtual 161, 3) := dk_182 0 161 (dk_at dksX2_spoutLine_1 20 rfl rfl)
theorem dX2_spoutLine_46 : decode cX2_spoutLine 46 = .ok (.istore_n 3, 1) := dk_62 (dk_at dksX2_spoutLine_1 23 rfl rfl)
theorem dX2_spoutLine_47 : decode cX2_spoutLine 47 = .ok (.iconst 0, 1) := dk_3 (dk_at dksX2_spoutLine_2 0 rfl rfl)
theorem dX2_spoutLine_48 : decode cX2_spoutLine 48 = .ok (.istore 4, 2) := dk_54 4 (dk_at dksX2_spoutLine_2 1 rfl rfl)
theorem dX2_spoutLine_50 : decode cX2_spoutLine 50 = .ok (.iconst 0, 1) := dk_3 (dk_at dksX2_spoutLine_2 3 rfl rfl)
theorem dX2_spoutLine_51 : decode cX2_spoutLine 51 = .ok (.istore 5, 2) := dk_54 5 (dk_at dksX2_spoutLine_2 4 rfl rfl)
theorem dX2_spoutLine_53 : decode cX2_spoutLine 53 = .ok (.iload 5, 2) := dk_21 5 (dk_at dksX2_spoutLine_2 6 rfl rfl)
theorem dX2_spoutLine_55 : decode cX2_spoutLine 55 = .ok (.aload_n 0, 1) := dk_42 (dk_at dksX2_spoutLine_2 8 rfl rfl)
theorem dX2_spoutLine_56 : decode cX2_spoutLine 56 = .ok (.getfield 23, 3) := dk_180 0 23 (dk_at dksX2_spoutLine_2 9 rfl rfl)
theorem dX2_spoutLine_59 : decode cX2_spoutLine 59 = .ok (.bipush 8, 2) := dk_16 8 (dk_at dksX2_spoutLine_2 12 rfl rfl)
theorem dX2_spoutLine_61 : decode cX2_spoutLine 61 = .ok (.iaload, 1) := dk_46 (dk_at dksX2_spoutLine_2 14 rfl rfl)
theorem dX2_spoutLine_62 : decode cX2_spoutLine 62 = .ok (.if_icmp .ge 45, 3) := dk_162 0 45 (dk_at dksX2_spoutLine_2 15 rfl rfl)
theorem dX2_spoutLine_65 : decode cX2_spoutLine 65 = .ok (.aload_n 0, 1) := dk_42 (dk_at dksX2_spoutLine_2 18 rfl rfl)
theorem dX2_spoutLine_66 : decode cX2_spoutLine 66 = .ok (.getfield 23, 3) := dk_180 0 23 (dk_at dksX2_spoutLine_2 19 rfl rfl)
theorem dX2_spoutLine_69 : decode cX2_spoutLine 69 = .ok (.sipush 159, 3) := dk_17 0 159 (dk_at dksX2_spoutLine_3 0 rfl rfl)
theorem dX2_spoutLine_72 : decode cX2_spoutLine 72 = .ok (.iconst 3, 1) := dk_6 (dk_at dksX2_spoutLine_3 3 rfl rfl)
theorem dX2_spoutLine_73 : decode cX2_spoutLine 73 = .ok (.iload 5, 2) := dk_21 5 (dk_at dksX2_spoutLine_3 4 rfl rfl)
theorem dX2_spoutLine_75 : decode cX2_spoutLine 75 = .ok (.imul, 1) := dk_104 (dk_at dksX2_spoutLine_3 6 rfl rfl)
theorem dX2_spoutLine_76 : decode cX2_spoutLine 76 = .ok (.iadd, 1) := dk_96 (dk_at dksX2_spoutLine_3 7 rfl rfl)
theorem dX2_spoutLine_77 : decode cX2_spoutLine 77 = .ok (.iaload, 1) := dk_46 (dk_at dksX2_spoutLine_3 8 rfl rfl)
theorem dX2_spoutLine_78 : decode cX2_spoutLine 78 = .ok (.iload_n 2, 1) := dk_28 (dk_at dksX2_spoutLine_3 9 rfl rfl)
theorem dX2_spoutLine_79 : decode cX2_spoutLine 79 = .ok (.if_icmp .ne 22, 3) := dk_160 0 22 (dk_at dksX2_spoutLine_3 10 rfl rfl)
theorem dX2_spoutLine_82 : decode cX2_spoutLine 82 = .ok (.aload_n 0, 1) := dk_42 (dk_at dksX2_spoutLine_3 13 rfl rfl)
theorem dX2_spoutLine_83 : decode cX2_spoutLine 83 = .ok (.getfield 23, 3) := dk_180 0 23 (dk_at dksX2_spoutLine_3 14 rfl rfl)
theorem dX2_spoutLine_86 : decode cX2_spoutLine 86 = .ok (.sipush 159, 3) := dk_17 0 159 (dk_at dksX2_spoutLine_3 17 rfl rfl)
theorem dX2_spoutLine_89 : decode cX2_spoutLine 89 = .ok (.iconst 3, 1) := dk_6 (dk_at dksX2_spoutLine_3 20 rfl rfl)
theorem dX2_spoutLine_90 : decode cX2_spoutLine 90 = .ok (.iload 5, 2) := dk_21 5 (dk_at dksX2_spoutLine_3 21 rfl rfl)
theorem dX2_spoutLine_92 : decode cX2_spoutLine 92 = .ok (.imul, 1) := dk_104 (dk_at dksX2_spoutLine_3 23 rfl rfl)
theorem dX2_spoutLine_93 : decode cX2_spoutLine 93 = .ok (.iadd, 1) := dk_96 (dk_at dksX2_spoutLine_4 0 rfl rfl)
theorem dX2_spoutLine_94 : decode cX2_spoutLine 94 = .ok (.iconst 2, 1) := dk_5 (dk_at dksX2_spoutLine_4 1 rfl rfl)
theorem dX2_spoutLine_95 : decode cX2_spoutLine 95 = .ok (.iadd, 1) := dk_96 (dk_at dksX2_spoutLine_4 2 rfl rfl)
theorem dX2_spoutLine_96 : decode cX2_spoutLine 96 = .ok (.iaload, 1) := dk_46 (dk_at dksX2_spoutLine_4 3 rfl rfl)
theorem dX2_spoutLine_97 : decode cX2_spoutLine 97 = .ok (.iconst 1, 1) := dk_4 (dk_at dksX2_spoutLine_4 4 rfl rfl)
theorem dX2_spoutLine_98 : decode cX2_spoutLine 98 = .ok (.iadd, 1) := dk_96 (dk_at dksX2_spoutLine_4 5 rfl rfl)
theorem dX2_spoutLine_99 : decode cX2_spoutLine 99 = .ok (.istore 4, 2) := dk_54 4 (dk_at dksX2_spoutLine_4 6 rfl rfl)
theorem dX2_spoutLine_101 : decode cX2_spoutLine 101 = .ok (.iinc 5 1, 3) := dk_132 5 1 (dk_at dksX2_spoutLine_4 8 rfl rfl)
theorem dX2_spoutLine_104 : decode cX2_spoutLine 104 = .ok (.goto (-51), 3) := dk_167 255 205 (dk_at dksX2_spoutLine_4 11 rfl rfl)
theorem dX2_spoutLine_107 : decode cX2_spoutLine 107 = .ok (.aload_n 0, 1) := dk_42 (dk_at dksX2_spoutLine_4 14 rfl rfl)
theorem dX2_spoutLine_108 : decode cX2_spoutLine 108 = .ok (.ldc_w 260, 3) := dk_19 1 4 (dk_at dksX2_spoutLine_4 15 rfl rfl)
theorem dX2_spoutLine_111 : decode cX2_spoutLine 111 = .ok (.iload 4, 2) := dk_21 4 (dk_at dksX2_spoutLine_4 18 rfl rfl)
theorem dX2_spoutLine_113 : decode cX2_spoutLine 113 = .ok (.sipush 9999, 3) := dk_17 39 15 (dk_at dksX2_spoutLine_4 20 rfl rfl)
theorem dX2_spoutLine_116 : decode cX2_spoutLine 116 = .ok (.invokevirtual 213, 3) := dk_182 0 213 (dk_at dksX2_spoutLine_5 0 rfl rfl)
theorem dX2_spoutLine_119 : decode cX2_spoutLine 119 = .ok (.istore 5, 2) := dk_54 5 (dk_at dksX2_spoutLine_5 3 rfl rfl)
theorem dX2_spoutLine_121 : decode cX2_spoutLine 121 = .ok (.aload_n 0, 1) := dk_42 (dk_at dksX2_spoutLine_5 5 rfl rfl)
theorem dX2_spoutLine_122 : decode cX2_spoutLine 122 = .ok (.getfield 100, 3) := dk_180 0 100 (dk_at dksX2_spoutLine_5 6 rfl rfl)
theorem dX2_spoutLine_125 : decode cX2_spoutLine 125 = .ok (.ifCond .eq 4, 3) := dk_153 0 4 (dk_at dksX2_spoutLine_5 9 rfl rfl)
theorem dX2_spoutLine_128 : decode cX2_spoutLine 128 = .ok (.return_, 1) := dk_177 (dk_at dksX2_spoutLine_5 12 rfl rfl)
theorem dX2_spoutLine_129 : decode cX2_spoutLine 129 = .ok (.aload_n 0, 1) := dk_42 (dk_at dksX2_spoutLine_5 13 rfl rfl)
theorem dX2_spoutLine_130 : decode cX2_spoutLine 130 = .ok (.getfield 23, 3) := dk_180 0 23 (dk_at dksX2_spoutLine_5 14 rfl rfl)
theorem dX2_spoutLine_133 : decode cX2_spoutLine 133 = .ok (.iload_n 1, 1) := dk_27 (dk_at dksX2_spoutLine_5 17 rfl rfl)
theorem dX2_spoutLine_134 : decode cX2_spoutLine 134 = .ok (.iload_n 2, 1) := dk_28 (dk_at dksX2_spoutLine_5 18 rfl rfl)
theorem dX2_spoutLine_135 : decode cX2_spoutLine 135 = .ok (.iastore, 1) := dk_79 (dk_at dksX2_spoutLine_5 19 rfl rfl)
theorem dX2_spoutLine_136 : decode cX2_spoutLine 136 = .ok (.aload_n 0, 1) := dk_42 (dk_at dksX2_spoutLine_5 20 rfl rfl)
theorem dX2_spoutLine_137 : decode cX2_spoutLine 137 = .ok (.getfield 23, 3) := dk_180 0 23 (dk_at dksX2_spoutLine_5 21 rfl rfl)
theorem dX2_spoutLine_140 : decode cX2_spoutLine 140 = .ok (.iload_n 1, 1) := dk_27 (dk_at dksX2_spoutLine_6 0 rfl rfl)
theorem dX2_spoutLine_141 : decode cX2_spoutLine 141 = .ok (.iconst 1, 1) := dk_4 (dk_at dksX2_spoutLine_6 1 rfl rfl)
theorem dX2_spoutLine_142 : decode cX2_spoutLine 142 = .ok (.iadd, 1) := dk_96 (dk_at dksX2_spoutLine_6 2 rfl rfl)
theorem dX2_spoutLine_143 : decode cX2_spoutLine 143 = .ok (.iload_n 3, 1) := dk_29 (dk_at dksX2_spoutLine_6 3 rfl rfl)
theorem dX2_spoutLine_144 : decode cX2_spoutLine 144 = .ok (.iastore, 1) := dk_79 (dk_at dksX2_spoutLine_6 4 rfl rfl)
theorem dX2_spoutLine_145 : decode cX2_spoutLine 145 = .ok (.aload_n 0, 1) := dk_42 (dk_at dksX2_spoutLine_6 5 rfl rfl)
theorem dX2_spoutLine_146 : decode cX2_spoutLine 146 = .ok (.getfield 23, 3) := dk_180 0 23 (dk_at dksX2_spoutLine_6 6 rfl rfl)
theorem dX2_spoutLine_149 : decode cX2_spoutLine 149 = .ok (.iload_n 1, 1) := dk_27 (dk_at dksX2_spoutLine_6 9 rfl rfl)
theorem dX2_spoutLine_150 : decode cX2_spoutLine 150 = .ok (.iconst 2, 1) := dk_5 (dk_at dksX2_spoutLine_6 10 rfl rfl)
theorem dX2_spoutLine_151 : decode cX2_spoutLine 151 = .ok (.iadd, 1) := dk_96 (dk_at dksX2_spoutLine_6 11 rfl rfl)
theorem dX2_spoutLine_152 : decode cX2_spoutLine 152 = .ok (.iload 5, 2) := dk_21 5 (dk_at dksX2_spoutLine_6 12 rfl rfl)
theorem dX2_spoutLine_154 : decode cX2_spoutLine 154 = .ok (.iastore, 1) := dk_79 (dk_at dksX2_spoutLine_6 14 rfl rfl)
theorem dX2_spoutLine_155 : decode cX2_spoutLine 155 = .ok (.aload_n 0, 1) := dk_42 (dk_at dksX2_spoutLine_6 15 rfl rfl)
theorem dX2_spoutLine_156 : decode cX2_spoutLine 156 = .ok (.getfield 23, 3) := dk_180 0 23 (dk_at dksX2_spoutLine_6 16 rfl rfl)
theorem dX2_spoutLine_159 : decode cX2_spoutLine 159 = .ok (.bipush 8, 2) := dk_16 8 (dk_at dksX2_spoutLine_6 19 rfl rfl)
theorem dX2_spoutLine_161 : decode cX2_spoutLine 161 = .ok (.dup2, 1) := dk_92 (dk_at dksX2_spoutLine_6 21 rfl rfl)
theorem dX2_spoutLine_162 : decode cX2_spoutLine 162 = .ok (.iaload, 1) := dk_46 (dk_at dksX2_spoutLine_6 22 rfl rfl)
theorem dX2_spoutLine_163 : decode cX2_spoutLine 163 = .ok (.iconst 1, 1) := dk_4 (dk_at dksX2_spoutLine_6 23 rfl rfl)
theorem dX2_spoutLine_164 : decode cX2_spoutLine 164 = .ok (.iadd, 1) := dk_96 (dk_at dksX2_spoutLine_7 0 rfl rfl)
theorem dX2_spoutLine_165 : decode cX2_spoutLine 165 = .ok (.iastore, 1) := dk_79 (dk_at dksX2_spoutLine_7 1 rfl rfl)
theorem dX2_spoutLine_166 : decode cX2_spoutLine 166 = .ok (.return_, 1) := dk_177 (dk_at dksX2_spoutLine_7 2 rfl rfl)
abbrev cX2_copy : ByteArray := prog_16_method_9_code
def yX2_copy : MethodName := ⟨RX2, "copy", "([II[III)V"⟩
def dkwX2_copy_1 : List UInt8 := [132, 5, 1, 167, 255, 234, 177]
abbrev dktX2_copy_1 : List UInt8 := dkwX2_copy_1 ++ []
def dkwX2_copy_0 : List UInt8 := [3, 54, 5, 21, 5, 21, 4, 162, 0, 21, 44, 29, 21, 5, 96, 42, 27, 21, 5, 96, 46, 79]
abbrev dktX2_copy_0 : List UInt8 := dkwX2_copy_0 ++ dktX2_copy_1
theorem dksX2_copy_0 : cX2_copy.data.toList.drop 0 = dktX2_copy_0 := by decide +kernel
theorem dksX2_copy_1 : cX2_copy.data.toList.drop 22 = dktX2_copy_1 := dk_seg dksX2_copy_0 22 rfl rfl
theorem dX2_copy_0 : decode cX2_copy 0 = .ok (.iconst 0, 1) := dk_3 (dk_at dksX2_copy_0 0 rfl rfl)
theorem dX2_copy_1 : decode cX2_copy 1 = .ok (.istore 5, 2) := dk_54 5 (dk_at dksX2_copy_0 1 rfl rfl)
theorem dX2_copy_3 : decode cX2_copy 3 = .ok (.iload 5, 2) := dk_21 5 (dk_at dksX2_copy_0 3 rfl rfl)
theorem dX2_copy_5 : decode cX2_copy 5 = .ok (.iload 4, 2) := dk_21 4 (dk_at dksX2_copy_0 5 rfl rfl)
theorem dX2_copy_7 : decode cX2_copy 7 = .ok (.if_icmp .ge 21, 3) := dk_162 0 21 (dk_at dksX2_copy_0 7 rfl rfl)
theorem dX2_copy_10 : decode cX2_copy 10 = .ok (.aload_n 2, 1) := dk_44 (dk_at dksX2_copy_0 10 rfl rfl)
theorem dX2_copy_11 : decode cX2_copy 11 = .ok (.iload_n 3, 1) := dk_29 (dk_at dksX2_copy_0 11 rfl rfl)
theorem dX2_copy_12 : decode cX2_copy 12 = .ok (.iload 5, 2) := dk_21 5 (dk_at dksX2_copy_0 12 rfl rfl)
theorem dX2_copy_14 : decode cX2_copy 14 = .ok (.iadd, 1) := dk_96 (dk_at dksX2_copy_0 14 rfl rfl)
theorem dX2_copy_15 : decode cX2_copy 15 = .ok (.aload_n 0, 1) := dk_42 (dk_at dksX2_copy_0 15 rfl rfl)
theorem dX2_copy_16 : decode cX2_copy 16 = .ok (.iload_n 1, 1) := dk_27 (dk_at dksX2_copy_0 16 rfl rfl)
theorem dX2_copy_17 : decode cX2_copy 17 = .ok (.iload 5, 2) := dk_21 5 (dk_at dksX2_copy_0 17 rfl rfl)
theorem dX2_copy_19 : decode cX2_copy 19 = .ok (.iadd, 1) := dk_96 (dk_at dksX2_copy_0 19 rfl rfl)
theorem dX2_copy_20 : decode cX2_copy 20 = .ok (.iaload, 1) := dk_46 (dk_at dksX2_copy_0 20 rfl rfl)
theorem dX2_copy_21 : decode cX2_copy 21 = .ok (.iastore, 1) := dk_79 (dk_at dksX2_copy_0 21 rfl rfl)
theorem dX2_copy_22 : decode cX2_copy 22 = .ok (.iinc 5 1, 3) := dk_132 5 1 (dk_at dksX2_copy_1 0 rfl rfl)
theorem dX2_copy_25 : decode cX2_copy 25 = .ok (.goto (-22), 3) := dk_167 255 234 (dk_at dksX2_copy_1 3 rfl rfl)
theorem dX2_copy_28 : decode cX2_copy 28 = .ok (.return_, 1) := dk_177 (dk_at dksX2_copy_1 6 rfl rfl)
abbrev cX2_fault : ByteArray := prog_16_method_39_code
def yX2_fault : MethodName := ⟨RX2, "fault", "()I"⟩
def dkwX2_fault_0 : List UInt8 := [42, 3, 181, 0, 62, 42, 180, 0, 104, 172]
abbrev dktX2_fault_0 : List UInt8 := dkwX2_fault_0 ++ []
theorem dksX2_fault_0 : cX2_fault.data.toList.drop 0 = dktX2_fault_0 := by decide +kernel
theorem dX2_fault_0 : decode cX2_fault 0 = .ok (.aload_n 0, 1) := dk_42 (dk_at dksX2_fault_0 0 rfl rfl)
theorem dX2_fault_1 : decode cX2_fault 1 = .ok (.iconst 0, 1) := dk_3 (dk_at dksX2_fault_0 1 rfl rfl)
theorem dX2_fault_2 : decode cX2_fault 2 = .ok (.putfield 62, 3) := dk_181 0 62 (dk_at dksX2_fault_0 2 rfl rfl)
theorem dX2_fault_5 : decode cX2_fault 5 = .ok (.aload_n 0, 1) := dk_42 (dk_at dksX2_fault_0 5 rfl rfl)
theorem dX2_fault_6 : decode cX2_fault 6 = .ok (.getfield 104, 3) := dk_180 0 104 (dk_at dksX2_fault_0 6 rfl rfl)
theorem dX2_fault_9 : decode cX2_fault 9 = .ok (.ireturn, 1) := dk_172 (dk_at dksX2_fault_0 9 rfl rfl)
abbrev cX2_where : ByteArray := prog_16_method_40_code
def yX2_where : MethodName := ⟨RX2, "where", "()I"⟩
def dkwX2_where_0 : List UInt8 := [42, 3, 181, 0, 62, 42, 180, 0, 65, 7, 160, 0, 10, 42, 180, 0, 13, 167, 0, 4, 2, 172]
abbrev dktX2_where_0 : List UInt8 := dkwX2_where_0 ++ []
theorem dksX2_where_0 : cX2_where.data.toList.drop 0 = dktX2_where_0 := by decide +kernel
theorem dX2_where_0 : decode cX2_where 0 = .ok (.aload_n 0, 1) := dk_42 (dk_at dksX2_where_0 0 rfl rfl)
theorem dX2_where_1 : decode cX2_where 1 = .ok (.iconst 0, 1) := dk_3 (dk_at dksX2_where_0 1 rfl rfl)
theorem dX2_where_2 : decode cX2_where 2 = .ok (.putfield 62, 3) := dk_181 0 62 (dk_at dksX2_where_0 2 rfl rfl)
theorem dX2_where_5 : decode cX2_where 5 = .ok (.aload_n 0, 1) := dk_42 (dk_at dksX2_where_0 5 rfl rfl)
theorem dX2_where_6 : decode cX2_where 6 = .ok (.getfield 65, 3) := dk_180 0 65 (dk_at dksX2_where_0 6 rfl rfl)
theorem dX2_where_9 : decode cX2_where 9 = .ok (.iconst 4, 1) := dk_7 (dk_at dksX2_where_0 9 rfl rfl)
theorem dX2_where_10 : decode cX2_where 10 = .ok (.if_icmp .ne 10, 3) := dk_160 0 10 (dk_at dksX2_where_0 10 rfl rfl)
theorem dX2_where_13 : decode cX2_where 13 = .ok (.aload_n 0, 1) := dk_42 (dk_at dksX2_where_0 13 rfl rfl)
theorem dX2_where_14 : decode cX2_where 14 = .ok (.getfield 13, 3) := dk_180 0 13 (dk_at dksX2_where_0 14 rfl rfl)
theorem dX2_where_17 : decode cX2_where 17 = .ok (.goto 4, 3) := dk_167 0 4 (dk_at dksX2_where_0 17 rfl rfl)
theorem dX2_where_20 : decode cX2_where 20 = .ok (.iconst (-1), 1) := dk_2 (dk_at dksX2_where_0 20 rfl rfl)
theorem dX2_where_21 : decode cX2_where 21 = .ok (.ireturn, 1) := dk_172 (dk_at dksX2_where_0 21 rfl rfl)
abbrev cX2_whale : ByteArray := prog_16_method_49_code
def yX2_whale : MethodName := ⟨RX2, "whale", "(II)I"⟩
def dkwX2_whale_4 : List UInt8 := [46, 172, 42, 27, 28, 4, 100, 182, 1, 15, 172]
abbrev dktX2_whale_4 : List UInt8 := dkwX2_whale_4 ++ []
def dkwX2_whale_3 : List UInt8 := [42, 27, 3, 182, 1, 15, 172, 42, 180, 0, 26, 5, 27, 96, 46, 172, 42, 180, 0, 26, 16, 7, 27, 96]
abbrev dktX2_whale_3 : List UInt8 := dkwX2_whale_3 ++ dktX2_whale_4
def dkwX2_whale_2 : List UInt8 := [170, 0, 0, 0, 0, 0, 0, 54, 0, 0, 0, 0, 0, 0, 0, 2, 0, 0, 0, 28, 0, 0, 0, 35, 0, 0, 0, 44]
abbrev dktX2_whale_2 : List UInt8 := dkwX2_whale_2 ++ dktX2_whale_3
def dkwX2_whale_1 : List UInt8 := [182, 0, 170, 172, 28]
abbrev dktX2_whale_1 : List UInt8 := dkwX2_whale_1 ++ dktX2_whale_2
def dkwX2_whale_0 : List UInt8 := [42, 182, 0, 167, 42, 27, 182, 1, 12, 153, 0, 12, 28, 3, 7, 184, 0, 149, 154, 0, 9, 42, 4]
abbrev dktX2_whale_0 : List UInt8 := dkwX2_whale_0 ++ dktX2_whale_1
theorem dksX2_whale_0 : cX2_whale.data.toList.drop 0 = dktX2_whale_0 := by decide +kernel
theorem dksX2_whale_1 : cX2_whale.data.toList.drop 23 = dktX2_whale_1 := dk_seg dksX2_whale_0 23 rfl rfl
theorem dksX2_whale_2 : cX2_whale.data.toList.drop 28 = dktX2_whale_2 := dk_seg dksX2_whale_1 5 rfl rfl
theorem dksX2_whale_3 : cX2_whale.data.toList.drop 56 = dktX2_whale_3 := dk_seg dksX2_whale_2 28 rfl rfl
theorem dksX2_whale_4 : cX2_whale.data.toList.drop 80 = dktX2_whale_4 := dk_seg dksX2_whale_3 24 rfl rfl
theorem dX2_whale_0 : decode cX2_whale 0 = .ok (.aload_n 0, 1) := dk_42 (dk_at dksX2_whale_0 0 rfl rfl)
theorem dX2_whale_1 : decode cX2_whale 1 = .ok (.invokevirtual 167, 3) := dk_182 0 167 (dk_at dksX2_whale_0 1 rfl rfl)
theorem dX2_whale_4 : decode cX2_whale 4 = .ok (.aload_n 0, 1) := dk_42 (dk_at dksX2_whale_0 4 rfl rfl)
theorem dX2_whale_5 : decode cX2_whale 5 = .ok (.iload_n 1, 1) := dk_27 (dk_at dksX2_whale_0 5 rfl rfl)
theorem dX2_whale_6 : decode cX2_whale 6 = .ok (.invokevirtual 268, 3) := dk_182 1 12 (dk_at dksX2_whale_0 6 rfl rfl)
theorem dX2_whale_9 : decode cX2_whale 9 = .ok (.ifCond .eq 12, 3) := dk_153 0 12 (dk_at dksX2_whale_0 9 rfl rfl)
theorem dX2_whale_12 : decode cX2_whale 12 = .ok (.iload_n 2, 1) := dk_28 (dk_at dksX2_whale_0 12 rfl rfl)
theorem dX2_whale_13 : decode cX2_whale 13 = .ok (.iconst 0, 1) := dk_3 (dk_at dksX2_whale_0 13 rfl rfl)
theorem dX2_whale_14 : decode cX2_whale 14 = .ok (.iconst 4, 1) := dk_7 (dk_at dksX2_whale_0 14 rfl rfl)
theorem dX2_whale_15 : decode cX2_whale 15 = .ok (.invokestatic 149, 3) := dk_184 0 149 (dk_at dksX2_whale_0 15 rfl rfl)
theorem dX2_whale_18 : decode cX2_whale 18 = .ok (.ifCond .ne 9, 3) := dk_154 0 9 (dk_at dksX2_whale_0 18 rfl rfl)
theorem dX2_whale_21 : decode cX2_whale 21 = .ok (.aload_n 0, 1) := dk_42 (dk_at dksX2_whale_0 21 rfl rfl)
theorem dX2_whale_22 : decode cX2_whale 22 = .ok (.iconst 1, 1) := dk_4 (dk_at dksX2_whale_0 22 rfl rfl)
theorem dX2_whale_23 : decode cX2_whale 23 = .ok (.invokevirtual 170, 3) := dk_182 0 170 (dk_at dksX2_whale_1 0 rfl rfl)
theorem dX2_whale_26 : decode cX2_whale 26 = .ok (.ireturn, 1) := dk_172 (dk_at dksX2_whale_1 3 rfl rfl)
theorem dX2_whale_27 : decode cX2_whale 27 = .ok (.iload_n 2, 1) := dk_28 (dk_at dksX2_whale_1 4 rfl rfl)
theorem dX2_whale_28 : decode cX2_whale 28 = .ok (.tableswitch 54 0 2 #[28, 35, 44], 28) := by decide +kernel
theorem dX2_whale_56 : decode cX2_whale 56 = .ok (.aload_n 0, 1) := dk_42 (dk_at dksX2_whale_3 0 rfl rfl)
theorem dX2_whale_57 : decode cX2_whale 57 = .ok (.iload_n 1, 1) := dk_27 (dk_at dksX2_whale_3 1 rfl rfl)
theorem dX2_whale_58 : decode cX2_whale 58 = .ok (.iconst 0, 1) := dk_3 (dk_at dksX2_whale_3 2 rfl rfl)
theorem dX2_whale_59 : decode cX2_whale 59 = .ok (.invokevirtual 271, 3) := dk_182 1 15 (dk_at dksX2_whale_3 3 rfl rfl)
theorem dX2_whale_62 : decode cX2_whale 62 = .ok (.ireturn, 1) := dk_172 (dk_at dksX2_whale_3 6 rfl rfl)
theorem dX2_whale_63 : decode cX2_whale 63 = .ok (.aload_n 0, 1) := dk_42 (dk_at dksX2_whale_3 7 rfl rfl)
theorem dX2_whale_64 : decode cX2_whale 64 = .ok (.getfield 26, 3) := dk_180 0 26 (dk_at dksX2_whale_3 8 rfl rfl)
theorem dX2_whale_67 : decode cX2_whale 67 = .ok (.iconst 2, 1) := dk_5 (dk_at dksX2_whale_3 11 rfl rfl)
theorem dX2_whale_68 : decode cX2_whale 68 = .ok (.iload_n 1, 1) := dk_27 (dk_at dksX2_whale_3 12 rfl rfl)
theorem dX2_whale_69 : decode cX2_whale 69 = .ok (.iadd, 1) := dk_96 (dk_at dksX2_whale_3 13 rfl rfl)
theorem dX2_whale_70 : decode cX2_whale 70 = .ok (.iaload, 1) := dk_46 (dk_at dksX2_whale_3 14 rfl rfl)
theorem dX2_whale_71 : decode cX2_whale 71 = .ok (.ireturn, 1) := dk_172 (dk_at dksX2_whale_3 15 rfl rfl)
theorem dX2_whale_72 : decode cX2_whale 72 = .ok (.aload_n 0, 1) := dk_42 (dk_at dksX2_whale_3 16 rfl rfl)
theorem dX2_whale_73 : decode cX2_whale 73 = .ok (.getfield 26, 3) := dk_180 0 26 (dk_at dksX2_whale_3 17 rfl rfl)
theorem dX2_whale_76 : decode cX2_whale 76 = .ok (.bipush 7, 2) := dk_16 7 (dk_at dksX2_whale_3 20 rfl rfl)
theorem dX2_whale_78 : decode cX2_whale 78 = .ok (.iload_n 1, 1) := dk_27 (dk_at dksX2_whale_3 22 rfl rfl)
theorem dX2_whale_79 : decode cX2_whale 79 = .ok (.iadd, 1) := dk_96 (dk_at dksX2_whale_3 23 rfl rfl)
theorem dX2_whale_80 : decode cX2_whale 80 = .ok (.iaload, 1) := dk_46 (dk_at dksX2_whale_4 0 rfl rfl)
theorem dX2_whale_81 : decode cX2_whale 81 = .ok (.ireturn, 1) := dk_172 (dk_at dksX2_whale_4 1 rfl rfl)
theorem dX2_whale_82 : decode cX2_whale 82 = .ok (.aload_n 0, 1) := dk_42 (dk_at dksX2_whale_4 2 rfl rfl)
theorem dX2_whale_83 : decode cX2_whale 83 = .ok (.iload_n 1, 1) := dk_27 (dk_at dksX2_whale_4 3 rfl rfl)
theorem dX2_whale_84 : decode cX2_whale 84 = .ok (.iload_n 2, 1) := dk_28 (dk_at dksX2_whale_4 4 rfl rfl)
theorem dX2_whale_85 : decode cX2_whale 85 = .ok (.iconst 1, 1) := dk_4 (dk_at dksX2_whale_4 5 rfl rfl)
theorem dX2_whale_86 : decode cX2_whale 86 = .ok (.isub, 1) := dk_100 (dk_at dksX2_whale_4 6 rfl rfl)
theorem dX2_whale_87 : decode cX2_whale 87 = .ok (.invokevirtual 271, 3) := dk_182 1 15 (dk_at dksX2_whale_4 7 rfl rfl)
theorem dX2_whale_90 : decode cX2_whale 90 = .ok (.ireturn, 1) := dk_172 (dk_at dksX2_whale_4 10 rfl rfl)
abbrev cX2_isWhale : ByteArray := prog_16_method_42_code
def yX2_isWhale : MethodName := ⟨RX2, "isWhale", "(I)Z"⟩
def dkwX2_isWhale_1 : List UInt8 := [4, 167, 0, 4, 3, 172]
abbrev dktX2_isWhale_1 : List UInt8 := dkwX2_isWhale_1 ++ []
def dkwX2_isWhale_0 : List UInt8 := [42, 180, 0, 180, 153, 0, 24, 27, 3, 42, 180, 0, 20, 16, 6, 46, 4, 100, 184, 0, 149, 153, 0, 7]
abbrev dktX2_isWhale_0 : List UInt8 := dkwX2_isWhale_0 ++ dktX2_isWhale_1
theorem dksX2_isWhale_0 : cX2_isWhale.data.toList.drop 0 = dktX2_isWhale_0 := by decide +kernel
theorem dksX2_isWhale_1 : cX2_isWhale.data.toList.drop 24 = dktX2_isWhale_1 := dk_seg dksX2_isWhale_0 24 rfl rfl
theorem dX2_isWhale_0 : decode cX2_isWhale 0 = .ok (.aload_n 0, 1) := dk_42 (dk_at dksX2_isWhale_0 0 rfl rfl)
theorem dX2_isWhale_1 : decode cX2_isWhale 1 = .ok (.getfield 180, 3) := dk_180 0 180 (dk_at dksX2_isWhale_0 1 rfl rfl)
theorem dX2_isWhale_4 : decode cX2_isWhale 4 = .ok (.ifCond .eq 24, 3) := dk_153 0 24 (dk_at dksX2_isWhale_0 4 rfl rfl)
theorem dX2_isWhale_7 : decode cX2_isWhale 7 = .ok (.iload_n 1, 1) := dk_27 (dk_at dksX2_isWhale_0 7 rfl rfl)
theorem dX2_isWhale_8 : decode cX2_isWhale 8 = .ok (.iconst 0, 1) := dk_3 (dk_at dksX2_isWhale_0 8 rfl rfl)
theorem dX2_isWhale_9 : decode cX2_isWhale 9 = .ok (.aload_n 0, 1) := dk_42 (dk_at dksX2_isWhale_0 9 rfl rfl)
theorem dX2_isWhale_10 : decode cX2_isWhale 10 = .ok (.getfield 20, 3) := dk_180 0 20 (dk_at dksX2_isWhale_0 10 rfl rfl)
theorem dX2_isWhale_13 : decode cX2_isWhale 13 = .ok (.bipush 6, 2) := dk_16 6 (dk_at dksX2_isWhale_0 13 rfl rfl)
theorem dX2_isWhale_15 : decode cX2_isWhale 15 = .ok (.iaload, 1) := dk_46 (dk_at dksX2_isWhale_0 15 rfl rfl)
theorem dX2_isWhale_16 : decode cX2_isWhale 16 = .ok (.iconst 1, 1) := dk_4 (dk_at dksX2_isWhale_0 16 rfl rfl)
theorem dX2_isWhale_17 : decode cX2_isWhale 17 = .ok (.isub, 1) := dk_100 (dk_at dksX2_isWhale_0 17 rfl rfl)
theorem dX2_isWhale_18 : decode cX2_isWhale 18 = .ok (.invokestatic 149, 3) := dk_184 0 149 (dk_at dksX2_isWhale_0 18 rfl rfl)
theorem dX2_isWhale_21 : decode cX2_isWhale 21 = .ok (.ifCond .eq 7, 3) := dk_153 0 7 (dk_at dksX2_isWhale_0 21 rfl rfl)
theorem dX2_isWhale_24 : decode cX2_isWhale 24 = .ok (.iconst 1, 1) := dk_4 (dk_at dksX2_isWhale_1 0 rfl rfl)
theorem dX2_isWhale_25 : decode cX2_isWhale 25 = .ok (.goto 4, 3) := dk_167 0 4 (dk_at dksX2_isWhale_1 1 rfl rfl)
theorem dX2_isWhale_28 : decode cX2_isWhale 28 = .ok (.iconst 0, 1) := dk_3 (dk_at dksX2_isWhale_1 4 rfl rfl)
theorem dX2_isWhale_29 : decode cX2_isWhale 29 = .ok (.ireturn, 1) := dk_172 (dk_at dksX2_isWhale_1 5 rfl rfl)
abbrev cX2_ofWhale : ByteArray := prog_16_method_44_code
def yX2_ofWhale : MethodName := ⟨RX2, "ofWhale", "(II)I"⟩
def dkwX2_ofWhale_0 : List UInt8 := [42, 180, 0, 20, 16, 107, 7, 27, 104, 96, 28, 96, 46, 172]
abbrev dktX2_ofWhale_0 : List UInt8 := dkwX2_ofWhale_0 ++ []
theorem dksX2_ofWhale_0 : cX2_ofWhale.data.toList.drop 0 = dktX2_ofWhale_0 := by decide +kernel
theorem dX2_ofWhale_0 : decode cX2_ofWhale 0 = .ok (.aload_n 0, 1) := dk_42 (dk_at dksX2_ofWhale_0 0 rfl rfl)
theorem dX2_ofWhale_1 : decode cX2_ofWhale 1 = .ok (.getfield 20, 3) := dk_180 0 20 (dk_at dksX2_ofWhale_0 1 rfl rfl)
theorem dX2_ofWhale_4 : decode cX2_ofWhale 4 = .ok (.bipush 107, 2) := dk_16 107 (dk_at dksX2_ofWhale_0 4 rfl rfl)
theorem dX2_ofWhale_6 : decode cX2_ofWhale 6 = .ok (.iconst 4, 1) := dk_7 (dk_at dksX2_ofWhale_0 6 rfl rfl)
theorem dX2_ofWhale_7 : decode cX2_ofWhale 7 = .ok (.iload_n 1, 1) := dk_27 (dk_at dksX2_ofWhale_0 7 rfl rfl)
theorem dX2_ofWhale_8 : decode cX2_ofWhale 8 = .ok (.imul, 1) := dk_104 (dk_at dksX2_ofWhale_0 8 rfl rfl)
theorem dX2_ofWhale_9 : decode cX2_ofWhale 9 = .ok (.iadd, 1) := dk_96 (dk_at dksX2_ofWhale_0 9 rfl rfl)
theorem dX2_ofWhale_10 : decode cX2_ofWhale 10 = .ok (.iload_n 2, 1) := dk_28 (dk_at dksX2_ofWhale_0 10 rfl rfl)
theorem dX2_ofWhale_11 : decode cX2_ofWhale 11 = .ok (.iadd, 1) := dk_96 (dk_at dksX2_ofWhale_0 11 rfl rfl)
theorem dX2_ofWhale_12 : decode cX2_ofWhale 12 = .ok (.iaload, 1) := dk_46 (dk_at dksX2_ofWhale_0 12 rfl rfl)
theorem dX2_ofWhale_13 : decode cX2_ofWhale 13 = .ok (.ireturn, 1) := dk_172 (dk_at dksX2_ofWhale_0 13 rfl rfl)
abbrev cX2_box : ByteArray := prog_16_method_50_code
def yX2_box : MethodName := ⟨RX2, "box", "(II)I"⟩
def dkwX2_box_3 : List UInt8 := [154, 0, 8, 16, 254, 167, 0, 6, 29, 4, 100, 172]
abbrev dktX2_box_3 : List UInt8 := dkwX2_box_3 ++ []
def dkwX2_box_2 : List UInt8 := [180, 0, 26, 16, 12, 27, 96, 46, 167, 0, 12, 42, 180, 0, 26, 16, 20, 27, 96, 46, 62, 29]
abbrev dktX2_box_2 : List UInt8 := dkwX2_box_2 ++ dktX2_box_3
def dkwX2_box_1 : List UInt8 := [182, 0, 170, 172, 28, 7, 162, 0, 10, 42, 27, 28, 182, 1, 6, 172, 28, 7, 160, 0, 15, 42]
abbrev dktX2_box_1 : List UInt8 := dkwX2_box_1 ++ dktX2_box_2
def dkwX2_box_0 : List UInt8 := [42, 182, 0, 167, 42, 27, 182, 1, 18, 153, 0, 12, 28, 3, 8, 184, 0, 149, 154, 0, 9, 42, 4]
abbrev dktX2_box_0 : List UInt8 := dkwX2_box_0 ++ dktX2_box_1
theorem dksX2_box_0 : cX2_box.data.toList.drop 0 = dktX2_box_0 := by decide +kernel
theorem dksX2_box_1 : cX2_box.data.toList.drop 23 = dktX2_box_1 := dk_seg dksX2_box_0 23 rfl rfl
theorem dksX2_box_2 : cX2_box.data.toList.drop 45 = dktX2_box_2 := dk_seg dksX2_box_1 22 rfl rfl
theorem dksX2_box_3 : cX2_box.data.toList.drop 67 = dktX2_box_3 := dk_seg dksX2_box_2 22 rfl rfl
theorem dX2_box_0 : decode cX2_box 0 = .ok (.aload_n 0, 1) := dk_42 (dk_at dksX2_box_0 0 rfl rfl)
theorem dX2_box_1 : decode cX2_box 1 = .ok (.invokevirtual 167, 3) := dk_182 0 167 (dk_at dksX2_box_0 1 rfl rfl)
theorem dX2_box_4 : decode cX2_box 4 = .ok (.aload_n 0, 1) := dk_42 (dk_at dksX2_box_0 4 rfl rfl)
theorem dX2_box_5 : decode cX2_box 5 = .ok (.iload_n 1, 1) := dk_27 (dk_at dksX2_box_0 5 rfl rfl)
theorem dX2_box_6 : decode cX2_box 6 = .ok (.invokevirtual 274, 3) := dk_182 1 18 (dk_at dksX2_box_0 6 rfl rfl)
theorem dX2_box_9 : decode cX2_box 9 = .ok (.ifCond .eq 12, 3) := dk_153 0 12 (dk_at dksX2_box_0 9 rfl rfl)
theorem dX2_box_12 : decode cX2_box 12 = .ok (.iload_n 2, 1) := dk_28 (dk_at dksX2_box_0 12 rfl rfl)
theorem dX2_box_13 : decode cX2_box 13 = .ok (.iconst 0, 1) := dk_3 (dk_at dksX2_box_0 13 rfl rfl)
theorem dX2_box_14 : decode cX2_box 14 = .ok (.iconst 5, 1) := dk_8 (dk_at dksX2_box_0 14 rfl rfl)
theorem dX2_box_15 : decode cX2_box 15 = .ok (.invokestatic 149, 3) := dk_184 0 149 (dk_at dksX2_box_0 15 rfl rfl)
theorem dX2_box_18 : decode cX2_box 18 = .ok (.ifCond .ne 9, 3) := dk_154 0 9 (dk_at dksX2_box_0 18 rfl rfl)
theorem dX2_box_21 : decode cX2_box 21 = .ok (.aload_n 0, 1) := dk_42 (dk_at dksX2_box_0 21 rfl rfl)
theorem dX2_box_22 : decode cX2_box 22 = .ok (.iconst 1, 1) := dk_4 (dk_at dksX2_box_0 22 rfl rfl)
theorem dX2_box_23 : decode cX2_box 23 = .ok (.invokevirtual 170, 3) := dk_182 0 170 (dk_at dksX2_box_1 0 rfl rfl)
theorem dX2_box_26 : decode cX2_box 26 = .ok (.ireturn, 1) := dk_172 (dk_at dksX2_box_1 3 rfl rfl)
theorem dX2_box_27 : decode cX2_box 27 = .ok (.iload_n 2, 1) := dk_28 (dk_at dksX2_box_1 4 rfl rfl)
theorem dX2_box_28 : decode cX2_box 28 = .ok (.iconst 4, 1) := dk_7 (dk_at dksX2_box_1 5 rfl rfl)
theorem dX2_box_29 : decode cX2_box 29 = .ok (.if_icmp .ge 10, 3) := dk_162 0 10 (dk_at dksX2_box_1 6 rfl rfl)
theorem dX2_box_32 : decode cX2_box 32 = .ok (.aload_n 0, 1) := dk_42 (dk_at dksX2_box_1 9 rfl rfl)
theorem dX2_box_33 : decode cX2_box 33 = .ok (.iload_n 1, 1) := dk_27 (dk_at dksX2_box_1 10 rfl rfl)
theorem dX2_box_34 : decode cX2_box 34 = .ok (.iload_n 2, 1) := dk_28 (dk_at dksX2_box_1 11 rfl rfl)
theorem dX2_box_35 : decode cX2_box 35 = .ok (.invokevirtual 262, 3) := dk_182 1 6 (dk_at dksX2_box_1 12 rfl rfl)
theorem dX2_box_38 : decode cX2_box 38 = .ok (.ireturn, 1) := dk_172 (dk_at dksX2_box_1 15 rfl rfl)
theorem dX2_box_39 : decode cX2_box 39 = .ok (.iload_n 2, 1) := dk_28 (dk_at dksX2_box_1 16 rfl rfl)
theorem dX2_box_40 : decode cX2_box 40 = .ok (.iconst 4, 1) := dk_7 (dk_at dksX2_box_1 17 rfl rfl)
theorem dX2_box_41 : decode cX2_box 41 = .ok (.if_icmp .ne 15, 3) := dk_160 0 15 (dk_at dksX2_box_1 18 rfl rfl)
theorem dX2_box_44 : decode cX2_box 44 = .ok (.aload_n 0, 1) := dk_42 (dk_at dksX2_box_1 21 rfl rfl)
theorem dX2_box_45 : decode cX2_box 45 = .ok (.getfield 26, 3) := dk_180 0 26 (dk_at dksX2_box_2 0 rfl rfl)
theorem dX2_box_48 : decode cX2_box 48 = .ok (.bipush 12, 2) := dk_16 12 (dk_at dksX2_box_2 3 rfl rfl)
theorem dX2_box_50 : decode cX2_box 50 = .ok (.iload_n 1, 1) := dk_27 (dk_at dksX2_box_2 5 rfl rfl)
theorem dX2_box_51 : decode cX2_box 51 = .ok (.iadd, 1) := dk_96 (dk_at dksX2_box_2 6 rfl rfl)
theorem dX2_box_52 : decode cX2_box 52 = .ok (.iaload, 1) := dk_46 (dk_at dksX2_box_2 7 rfl rfl)
theorem dX2_box_53 : decode cX2_box 53 = .ok (.goto 12, 3) := dk_167 0 12 (dk_at dksX2_box_2 8 rfl rfl)
theorem dX2_box_56 : decode cX2_box 56 = .ok (.aload_n 0, 1) := dk_42 (dk_at dksX2_box_2 11 rfl rfl)
theorem dX2_box_57 : decode cX2_box 57 = .ok (.getfield 26, 3) := dk_180 0 26 (dk_at dksX2_box_2 12 rfl rfl)
theorem dX2_box_60 : decode cX2_box 60 = .ok (.bipush 20, 2) := dk_16 20 (dk_at dksX2_box_2 15 rfl rfl)
theorem dX2_box_62 : decode cX2_box 62 = .ok (.iload_n 1, 1) := dk_27 (dk_at dksX2_box_2 17 rfl rfl)
theorem dX2_box_63 : decode cX2_box 63 = .ok (.iadd, 1) := dk_96 (dk_at dksX2_box_2 18 rfl rfl)
theorem dX2_box_64 : decode cX2_box 64 = .ok (.iaload, 1) := dk_46 (dk_at dksX2_box_2 19 rfl rfl)
theorem dX2_box_65 : decode cX2_box 65 = .ok (.istore_n 3, 1) := dk_62 (dk_at dksX2_box_2 20 rfl rfl)
theorem dX2_box_66 : decode cX2_box 66 = .ok (.iload_n 3, 1) := dk_29 (dk_at dksX2_box_2 21 rfl rfl)
theorem dX2_box_67 : decode cX2_box 67 = .ok (.ifCond .ne 8, 3) := dk_154 0 8 (dk_at dksX2_box_3 0 rfl rfl)
theorem dX2_box_70 : decode cX2_box 70 = .ok (.bipush (-2), 2) := dk_16 254 (dk_at dksX2_box_3 3 rfl rfl)
theorem dX2_box_72 : decode cX2_box 72 = .ok (.goto 6, 3) := dk_167 0 6 (dk_at dksX2_box_3 5 rfl rfl)
theorem dX2_box_75 : decode cX2_box 75 = .ok (.iload_n 3, 1) := dk_29 (dk_at dksX2_box_3 8 rfl rfl)
theorem dX2_box_76 : decode cX2_box 76 = .ok (.iconst 1, 1) := dk_4 (dk_at dksX2_box_3 9 rfl rfl)
theorem dX2_box_77 : decode cX2_box 77 = .ok (.isub, 1) := dk_100 (dk_at dksX2_box_3 10 rfl rfl)
theorem dX2_box_78 : decode cX2_box 78 = .ok (.ireturn, 1) := dk_172 (dk_at dksX2_box_3 11 rfl rfl)
abbrev cX2_isBox : ByteArray := prog_16_method_43_code
def yX2_isBox : MethodName := ⟨RX2, "isBox", "(I)Z"⟩
def dkwX2_isBox_1 : List UInt8 := [4, 167, 0, 4, 3, 172]
abbrev dktX2_isBox_1 : List UInt8 := dkwX2_isBox_1 ++ []
def dkwX2_isBox_0 : List UInt8 := [42, 180, 0, 180, 153, 0, 24, 27, 3, 42, 180, 0, 20, 16, 7, 46, 4, 100, 184, 0, 149, 153, 0, 7]
abbrev dktX2_isBox_0 : List UInt8 := dkwX2_isBox_0 ++ dktX2_isBox_1
theorem dksX2_isBox_0 : cX2_isBox.data.toList.drop 0 = dktX2_isBox_0 := by decide +kernel
theorem dksX2_isBox_1 : cX2_isBox.data.toList.drop 24 = dktX2_isBox_1 := dk_seg dksX2_isBox_0 24 rfl rfl
theorem dX2_isBox_0 : decode cX2_isBox 0 = .ok (.aload_n 0, 1) := dk_42 (dk_at dksX2_isBox_0 0 rfl rfl)
theorem dX2_isBox_1 : decode cX2_isBox 1 = .ok (.getfield 180, 3) := dk_180 0 180 (dk_at dksX2_isBox_0 1 rfl rfl)
theorem dX2_isBox_4 : decode cX2_isBox 4 = .ok (.ifCond .eq 24, 3) := dk_153 0 24 (dk_at dksX2_isBox_0 4 rfl rfl)
theorem dX2_isBox_7 : decode cX2_isBox 7 = .ok (.iload_n 1, 1) := dk_27 (dk_at dksX2_isBox_0 7 rfl rfl)
theorem dX2_isBox_8 : decode cX2_isBox 8 = .ok (.iconst 0, 1) := dk_3 (dk_at dksX2_isBox_0 8 rfl rfl)
theorem dX2_isBox_9 : decode cX2_isBox 9 = .ok (.aload_n 0, 1) := dk_42 (dk_at dksX2_isBox_0 9 rfl rfl)
theorem dX2_isBox_10 : decode cX2_isBox 10 = .ok (.getfield 20, 3) := dk_180 0 20 (dk_at dksX2_isBox_0 10 rfl rfl)
theorem dX2_isBox_13 : decode cX2_isBox 13 = .ok (.bipush 7, 2) := dk_16 7 (dk_at dksX2_isBox_0 13 rfl rfl)
theorem dX2_isBox_15 : decode cX2_isBox 15 = .ok (.iaload, 1) := dk_46 (dk_at dksX2_isBox_0 15 rfl rfl)
theorem dX2_isBox_16 : decode cX2_isBox 16 = .ok (.iconst 1, 1) := dk_4 (dk_at dksX2_isBox_0 16 rfl rfl)
theorem dX2_isBox_17 : decode cX2_isBox 17 = .ok (.isub, 1) := dk_100 (dk_at dksX2_isBox_0 17 rfl rfl)
theorem dX2_isBox_18 : decode cX2_isBox 18 = .ok (.invokestatic 149, 3) := dk_184 0 149 (dk_at dksX2_isBox_0 18 rfl rfl)
theorem dX2_isBox_21 : decode cX2_isBox 21 = .ok (.ifCond .eq 7, 3) := dk_153 0 7 (dk_at dksX2_isBox_0 21 rfl rfl)
theorem dX2_isBox_24 : decode cX2_isBox 24 = .ok (.iconst 1, 1) := dk_4 (dk_at dksX2_isBox_1 0 rfl rfl)
theorem dX2_isBox_25 : decode cX2_isBox 25 = .ok (.goto 4, 3) := dk_167 0 4 (dk_at dksX2_isBox_1 1 rfl rfl)
theorem dX2_isBox_28 : decode cX2_isBox 28 = .ok (.iconst 0, 1) := dk_3 (dk_at dksX2_isBox_1 4 rfl rfl)
theorem dX2_isBox_29 : decode cX2_isBox 29 = .ok (.ireturn, 1) := dk_172 (dk_at dksX2_isBox_1 5 rfl rfl)
abbrev cX2_ofBox : ByteArray := prog_16_method_45_code
def yX2_ofBox : MethodName := ⟨RX2, "ofBox", "(II)I"⟩
def dkwX2_ofBox_0 : List UInt8 := [42, 180, 0, 20, 16, 127, 7, 27, 104, 96, 28, 96, 46, 172]
abbrev dktX2_ofBox_0 : List UInt8 := dkwX2_ofBox_0 ++ []
theorem dksX2_ofBox_0 : cX2_ofBox.data.toList.drop 0 = dktX2_ofBox_0 := by decide +kernel
theorem dX2_ofBox_0 : decode cX2_ofBox 0 = .ok (.aload_n 0, 1) := dk_42 (dk_at dksX2_ofBox_0 0 rfl rfl)
theorem dX2_ofBox_1 : decode cX2_ofBox 1 = .ok (.getfield 20, 3) := dk_180 0 20 (dk_at dksX2_ofBox_0 1 rfl rfl)
theorem dX2_ofBox_4 : decode cX2_ofBox 4 = .ok (.bipush 127, 2) := dk_16 127 (dk_at dksX2_ofBox_0 4 rfl rfl)
theorem dX2_ofBox_6 : decode cX2_ofBox 6 = .ok (.iconst 4, 1) := dk_7 (dk_at dksX2_ofBox_0 6 rfl rfl)
theorem dX2_ofBox_7 : decode cX2_ofBox 7 = .ok (.iload_n 1, 1) := dk_27 (dk_at dksX2_ofBox_0 7 rfl rfl)
theorem dX2_ofBox_8 : decode cX2_ofBox 8 = .ok (.imul, 1) := dk_104 (dk_at dksX2_ofBox_0 8 rfl rfl)
theorem dX2_ofBox_9 : decode cX2_ofBox 9 = .ok (.iadd, 1) := dk_96 (dk_at dksX2_ofBox_0 9 rfl rfl)
theorem dX2_ofBox_10 : decode cX2_ofBox 10 = .ok (.iload_n 2, 1) := dk_28 (dk_at dksX2_ofBox_0 10 rfl rfl)
theorem dX2_ofBox_11 : decode cX2_ofBox 11 = .ok (.iadd, 1) := dk_96 (dk_at dksX2_ofBox_0 11 rfl rfl)
theorem dX2_ofBox_12 : decode cX2_ofBox 12 = .ok (.iaload, 1) := dk_46 (dk_at dksX2_ofBox_0 12 rfl rfl)
theorem dX2_ofBox_13 : decode cX2_ofBox 13 = .ok (.ireturn, 1) := dk_172 (dk_at dksX2_ofBox_0 13 rfl rfl)
abbrev cX2_length : ByteArray := prog_16_method_51_code
def yX2_length : MethodName := ⟨RX2, "length", "(I)I"⟩
def dkwX2_length_1 : List UInt8 := [182, 0, 170, 172]
abbrev dktX2_length_1 : List UInt8 := dkwX2_length_1 ++ []
def dkwX2_length_0 : List UInt8 := [42, 182, 0, 167, 42, 27, 182, 1, 21, 153, 0, 11, 42, 27, 182, 1, 9, 167, 0, 8, 42, 4]
abbrev dktX2_length_0 : List UInt8 := dkwX2_length_0 ++ dktX2_length_1
theorem dksX2_length_0 : cX2_length.data.toList.drop 0 = dktX2_length_0 := by decide +kernel
theorem dksX2_length_1 : cX2_length.data.toList.drop 22 = dktX2_length_1 := dk_seg dksX2_length_0 22 rfl rfl
theorem dX2_length_0 : decode cX2_length 0 = .ok (.aload_n 0, 1) := dk_42 (dk_at dksX2_length_0 0 rfl rfl)
theorem dX2_length_1 : decode cX2_length 1 = .ok (.invokevirtual 167, 3) := dk_182 0 167 (dk_at dksX2_length_0 1 rfl rfl)
theorem dX2_length_4 : decode cX2_length 4 = .ok (.aload_n 0, 1) := dk_42 (dk_at dksX2_length_0 4 rfl rfl)
theorem dX2_length_5 : decode cX2_length 5 = .ok (.iload_n 1, 1) := dk_27 (dk_at dksX2_length_0 5 rfl rfl)
theorem dX2_length_6 : decode cX2_length 6 = .ok (.invokevirtual 277, 3) := dk_182 1 21 (dk_at dksX2_length_0 6 rfl rfl)
theorem dX2_length_9 : decode cX2_length 9 = .ok (.ifCond .eq 11, 3) := dk_153 0 11 (dk_at dksX2_length_0 9 rfl rfl)
theorem dX2_length_12 : decode cX2_length 12 = .ok (.aload_n 0, 1) := dk_42 (dk_at dksX2_length_0 12 rfl rfl)
theorem dX2_length_13 : decode cX2_length 13 = .ok (.iload_n 1, 1) := dk_27 (dk_at dksX2_length_0 13 rfl rfl)
theorem dX2_length_14 : decode cX2_length 14 = .ok (.invokevirtual 265, 3) := dk_182 1 9 (dk_at dksX2_length_0 14 rfl rfl)
theorem dX2_length_17 : decode cX2_length 17 = .ok (.goto 8, 3) := dk_167 0 8 (dk_at dksX2_length_0 17 rfl rfl)
theorem dX2_length_20 : decode cX2_length 20 = .ok (.aload_n 0, 1) := dk_42 (dk_at dksX2_length_0 20 rfl rfl)
theorem dX2_length_21 : decode cX2_length 21 = .ok (.iconst 1, 1) := dk_4 (dk_at dksX2_length_0 21 rfl rfl)
theorem dX2_length_22 : decode cX2_length 22 = .ok (.invokevirtual 170, 3) := dk_182 0 170 (dk_at dksX2_length_1 0 rfl rfl)
theorem dX2_length_25 : decode cX2_length 25 = .ok (.ireturn, 1) := dk_172 (dk_at dksX2_length_1 3 rfl rfl)
abbrev cX2_isIsland : ByteArray := prog_16_method_41_code
def yX2_isIsland : MethodName := ⟨RX2, "isIsland", "(I)Z"⟩
def dkwX2_isIsland_1 : List UInt8 := [167, 0, 4, 3, 172]
abbrev dktX2_isIsland_1 : List UInt8 := dkwX2_isIsland_1 ++ []
def dkwX2_isIsland_0 : List UInt8 := [42, 180, 0, 180, 153, 0, 23, 27, 3, 42, 180, 0, 20, 7, 46, 4, 100, 184, 0, 149, 153, 0, 7, 4]
abbrev dktX2_isIsland_0 : List UInt8 := dkwX2_isIsland_0 ++ dktX2_isIsland_1
theorem dksX2_isIsland_0 : cX2_isIsland.data.toList.drop 0 = dktX2_isIsland_0 := by decide +kernel
theorem dksX2_isIsland_1 : cX2_isIsland.data.toList.drop 24 = dktX2_isIsland_1 := dk_seg dksX2_isIsland_0 24 rfl rfl
theorem dX2_isIsland_0 : decode cX2_isIsland 0 = .ok (.aload_n 0, 1) := dk_42 (dk_at dksX2_isIsland_0 0 rfl rfl)
theorem dX2_isIsland_1 : decode cX2_isIsland 1 = .ok (.getfield 180, 3) := dk_180 0 180 (dk_at dksX2_isIsland_0 1 rfl rfl)
theorem dX2_isIsland_4 : decode cX2_isIsland 4 = .ok (.ifCond .eq 23, 3) := dk_153 0 23 (dk_at dksX2_isIsland_0 4 rfl rfl)
theorem dX2_isIsland_7 : decode cX2_isIsland 7 = .ok (.iload_n 1, 1) := dk_27 (dk_at dksX2_isIsland_0 7 rfl rfl)
theorem dX2_isIsland_8 : decode cX2_isIsland 8 = .ok (.iconst 0, 1) := dk_3 (dk_at dksX2_isIsland_0 8 rfl rfl)
theorem dX2_isIsland_9 : decode cX2_isIsland 9 = .ok (.aload_n 0, 1) := dk_42 (dk_at dksX2_isIsland_0 9 rfl rfl)
theorem dX2_isIsland_10 : decode cX2_isIsland 10 = .ok (.getfield 20, 3) := dk_180 0 20 (dk_at dksX2_isIsland_0 10 rfl rfl)
theorem dX2_isIsland_13 : decode cX2_isIsland 13 = .ok (.iconst 4, 1) := dk_7 (dk_at dksX2_isIsland_0 13 rfl rfl)
theorem dX2_isIsland_14 : decode cX2_isIsland 14 = .ok (.iaload, 1) := dk_46 (dk_at dksX2_isIsland_0 14 rfl rfl)
theorem dX2_isIsland_15 : decode cX2_isIsland 15 = .ok (.iconst 1, 1) := dk_4 (dk_at dksX2_isIsland_0 15 rfl rfl)
theorem dX2_isIsland_16 : decode cX2_isIsland 16 = .ok (.isub, 1) := dk_100 (dk_at dksX2_isIsland_0 16 rfl rfl)
theorem dX2_isIsland_17 : decode cX2_isIsland 17 = .ok (.invokestatic 149, 3) := dk_184 0 149 (dk_at dksX2_isIsland_0 17 rfl rfl)
theorem dX2_isIsland_20 : decode cX2_isIsland 20 = .ok (.ifCond .eq 7, 3) := dk_153 0 7 (dk_at dksX2_isIsland_0 20 rfl rfl)
theorem dX2_isIsland_23 : decode cX2_isIsland 23 = .ok (.iconst 1, 1) := dk_4 (dk_at dksX2_isIsland_0 23 rfl rfl)
theorem dX2_isIsland_24 : decode cX2_isIsland 24 = .ok (.goto 4, 3) := dk_167 0 4 (dk_at dksX2_isIsland_1 0 rfl rfl)
theorem dX2_isIsland_27 : decode cX2_isIsland 27 = .ok (.iconst 0, 1) := dk_3 (dk_at dksX2_isIsland_1 3 rfl rfl)
theorem dX2_isIsland_28 : decode cX2_isIsland 28 = .ok (.ireturn, 1) := dk_172 (dk_at dksX2_isIsland_1 4 rfl rfl)
abbrev cX2_songLong : ByteArray := prog_16_method_46_code
def yX2_songLong : MethodName := ⟨RX2, "songLong", "(I)I"⟩
def dkwX2_songLong_0 : List UInt8 := [42, 180, 0, 20, 16, 10, 16, 7, 27, 104, 96, 46, 172]
abbrev dktX2_songLong_0 : List UInt8 := dkwX2_songLong_0 ++ []
theorem dksX2_songLong_0 : cX2_songLong.data.toList.drop 0 = dktX2_songLong_0 := by decide +kernel
theorem dX2_songLong_0 : decode cX2_songLong 0 = .ok (.aload_n 0, 1) := dk_42 (dk_at dksX2_songLong_0 0 rfl rfl)
theorem dX2_songLong_1 : decode cX2_songLong 1 = .ok (.getfield 20, 3) := dk_180 0 20 (dk_at dksX2_songLong_0 1 rfl rfl)
theorem dX2_songLong_4 : decode cX2_songLong 4 = .ok (.bipush 10, 2) := dk_16 10 (dk_at dksX2_songLong_0 4 rfl rfl)
theorem dX2_songLong_6 : decode cX2_songLong 6 = .ok (.bipush 7, 2) := dk_16 7 (dk_at dksX2_songLong_0 6 rfl rfl)
theorem dX2_songLong_8 : decode cX2_songLong 8 = .ok (.iload_n 1, 1) := dk_27 (dk_at dksX2_songLong_0 8 rfl rfl)
theorem dX2_songLong_9 : decode cX2_songLong 9 = .ok (.imul, 1) := dk_104 (dk_at dksX2_songLong_0 9 rfl rfl)
theorem dX2_songLong_10 : decode cX2_songLong 10 = .ok (.iadd, 1) := dk_96 (dk_at dksX2_songLong_0 10 rfl rfl)
theorem dX2_songLong_11 : decode cX2_songLong 11 = .ok (.iaload, 1) := dk_46 (dk_at dksX2_songLong_0 11 rfl rfl)
theorem dX2_songLong_12 : decode cX2_songLong 12 = .ok (.ireturn, 1) := dk_172 (dk_at dksX2_songLong_0 12 rfl rfl)
abbrev cX2_note : ByteArray := prog_16_method_52_code
def yX2_note : MethodName := ⟨RX2, "note", "(II)I"⟩
def dkwX2_note_1 : List UInt8 := [153, 0, 18, 42, 27, 28, 42, 180, 0, 26, 3, 46, 182, 1, 24, 167, 0, 8, 42, 4, 182, 0, 170, 172]
abbrev dktX2_note_1 : List UInt8 := dkwX2_note_1 ++ []
def dkwX2_note_0 : List UInt8 := [42, 182, 0, 167, 42, 27, 182, 1, 21, 153, 0, 33, 28, 3, 42, 27, 182, 1, 9, 4, 100, 184, 0, 149]
abbrev dktX2_note_0 : List UInt8 := dkwX2_note_0 ++ dktX2_note_1
theorem dksX2_note_0 : cX2_note.data.toList.drop 0 = dktX2_note_0 := by decide +kernel
theorem dksX2_note_1 : cX2_note.data.toList.drop 24 = dktX2_note_1 := dk_seg dksX2_note_0 24 rfl rfl
theorem dX2_note_0 : decode cX2_note 0 = .ok (.aload_n 0, 1) := dk_42 (dk_at dksX2_note_0 0 rfl rfl)
theorem dX2_note_1 : decode cX2_note 1 = .ok (.invokevirtual 167, 3) := dk_182 0 167 (dk_at dksX2_note_0 1 rfl rfl)
theorem dX2_note_4 : decode cX2_note 4 = .ok (.aload_n 0, 1) := dk_42 (dk_at dksX2_note_0 4 rfl rfl)
theorem dX2_note_5 : decode cX2_note 5 = .ok (.iload_n 1, 1) := dk_27 (dk_at dksX2_note_0 5 rfl rfl)
theorem dX2_note_6 : decode cX2_note 6 = .ok (.invokevirtual 277, 3) := dk_182 1 21 (dk_at dksX2_note_0 6 rfl rfl)
theorem dX2_note_9 : decode cX2_note 9 = .ok (.ifCond .eq 33, 3) := dk_153 0 33 (dk_at dksX2_note_0 9 rfl rfl)
theorem dX2_note_12 : decode cX2_note 12 = .ok (.iload_n 2, 1) := dk_28 (dk_at dksX2_note_0 12 rfl rfl)
theorem dX2_note_13 : decode cX2_note 13 = .ok (.iconst 0, 1) := dk_3 (dk_at dksX2_note_0 13 rfl rfl)
theorem dX2_note_14 : decode cX2_note 14 = .ok (.aload_n 0, 1) := dk_42 (dk_at dksX2_note_0 14 rfl rfl)
theorem dX2_note_15 : decode cX2_note 15 = .ok (.iload_n 1, 1) := dk_27 (dk_at dksX2_note_0 15 rfl rfl)
theorem dX2_note_16 : decode cX2_note 16 = .ok (.invokevirtual 265, 3) := dk_182 1 9 (dk_at dksX2_note_0 16 rfl rfl)
theorem dX2_note_19 : decode cX2_note 19 = .ok (.iconst 1, 1) := dk_4 (dk_at dksX2_note_0 19 rfl rfl)
theorem dX2_note_20 : decode cX2_note 20 = .ok (.isub, 1) := dk_100 (dk_at dksX2_note_0 20 rfl rfl)
theorem dX2_note_21 : decode cX2_note 21 = .ok (.invokestatic 149, 3) := dk_184 0 149 (dk_at dksX2_note_0 21 rfl rfl)
theorem dX2_note_24 : decode cX2_note 24 = .ok (.ifCond .eq 18, 3) := dk_153 0 18 (dk_at dksX2_note_1 0 rfl rfl)
theorem dX2_note_27 : decode cX2_note 27 = .ok (.aload_n 0, 1) := dk_42 (dk_at dksX2_note_1 3 rfl rfl)
theorem dX2_note_28 : decode cX2_note 28 = .ok (.iload_n 1, 1) := dk_27 (dk_at dksX2_note_1 4 rfl rfl)
theorem dX2_note_29 : decode cX2_note 29 = .ok (.iload_n 2, 1) := dk_28 (dk_at dksX2_note_1 5 rfl rfl)
theorem dX2_note_30 : decode cX2_note 30 = .ok (.aload_n 0, 1) := dk_42 (dk_at dksX2_note_1 6 rfl rfl)
theorem dX2_note_31 : decode cX2_note 31 = .ok (.getfield 26, 3) := dk_180 0 26 (dk_at dksX2_note_1 7 rfl rfl)
theorem dX2_note_34 : decode cX2_note 34 = .ok (.iconst 0, 1) := dk_3 (dk_at dksX2_note_1 10 rfl rfl)
theorem dX2_note_35 : decode cX2_note 35 = .ok (.iaload, 1) := dk_46 (dk_at dksX2_note_1 11 rfl rfl)
theorem dX2_note_36 : decode cX2_note 36 = .ok (.invokevirtual 280, 3) := dk_182 1 24 (dk_at dksX2_note_1 12 rfl rfl)
theorem dX2_note_39 : decode cX2_note 39 = .ok (.goto 8, 3) := dk_167 0 8 (dk_at dksX2_note_1 15 rfl rfl)
theorem dX2_note_42 : decode cX2_note 42 = .ok (.aload_n 0, 1) := dk_42 (dk_at dksX2_note_1 18 rfl rfl)
theorem dX2_note_43 : decode cX2_note 43 = .ok (.iconst 1, 1) := dk_4 (dk_at dksX2_note_1 19 rfl rfl)
theorem dX2_note_44 : decode cX2_note 44 = .ok (.invokevirtual 170, 3) := dk_182 0 170 (dk_at dksX2_note_1 20 rfl rfl)
theorem dX2_note_47 : decode cX2_note 47 = .ok (.ireturn, 1) := dk_172 (dk_at dksX2_note_1 23 rfl rfl)
abbrev cX2_noteIn : ByteArray := prog_16_method_48_code
def yX2_noteIn : MethodName := ⟨RX2, "noteIn", "(III)I"⟩
def dkwX2_noteIn_2 : List UInt8 := [42, 180, 0, 20, 3, 46, 96, 21, 4, 100, 42, 180, 0, 20, 3, 46, 112, 172]
abbrev dktX2_noteIn_2 : List UInt8 := dkwX2_noteIn_2 ++ []
def dkwX2_noteIn_1 : List UInt8 := [180, 0, 20, 3, 46, 112, 54, 4, 42, 180, 0, 20, 16, 10, 16, 7, 27, 104, 96, 4, 96, 28, 96, 46]
abbrev dktX2_noteIn_1 : List UInt8 := dkwX2_noteIn_1 ++ dktX2_noteIn_2
def dkwX2_noteIn_0 : List UInt8 := [42, 180, 0, 20, 5, 46, 154, 0, 7, 3, 167, 0, 18, 29, 42, 180, 0, 20, 5, 46, 108, 42]
abbrev dktX2_noteIn_0 : List UInt8 := dkwX2_noteIn_0 ++ dktX2_noteIn_1
theorem dksX2_noteIn_0 : cX2_noteIn.data.toList.drop 0 = dktX2_noteIn_0 := by decide +kernel
theorem dksX2_noteIn_1 : cX2_noteIn.data.toList.drop 22 = dktX2_noteIn_1 := dk_seg dksX2_noteIn_0 22 rfl rfl
theorem dksX2_noteIn_2 : cX2_noteIn.data.toList.drop 46 = dktX2_noteIn_2 := dk_seg dksX2_noteIn_1 24 rfl rfl
theorem dX2_noteIn_0 : decode cX2_noteIn 0 = .ok (.aload_n 0, 1) := dk_42 (dk_at dksX2_noteIn_0 0 rfl rfl)
theorem dX2_noteIn_1 : decode cX2_noteIn 1 = .ok (.getfield 20, 3) := dk_180 0 20 (dk_at dksX2_noteIn_0 1 rfl rfl)
theorem dX2_noteIn_4 : decode cX2_noteIn 4 = .ok (.iconst 2, 1) := dk_5 (dk_at dksX2_noteIn_0 4 rfl rfl)
theorem dX2_noteIn_5 : decode cX2_noteIn 5 = .ok (.iaload, 1) := dk_46 (dk_at dksX2_noteIn_0 5 rfl rfl)
theorem dX2_noteIn_6 : decode cX2_noteIn 6 = .ok (.ifCond .ne 7, 3) := dk_154 0 7 (dk_at dksX2_noteIn_0 6 rfl rfl)
theorem dX2_noteIn_9 : decode cX2_noteIn 9 = .ok (.iconst 0, 1) := dk_3 (dk_at dksX2_noteIn_0 9 rfl rfl)
theorem dX2_noteIn_10 : decode cX2_noteIn 10 = .ok (.goto 18, 3) := dk_167 0 18 (dk_at dksX2_noteIn_0 10 rfl rfl)
theorem dX2_noteIn_13 : decode cX2_noteIn 13 = .ok (.iload_n 3, 1) := dk_29 (dk_at dksX2_noteIn_0 13 rfl rfl)
theorem dX2_noteIn_14 : decode cX2_noteIn 14 = .ok (.aload_n 0, 1) := dk_42 (dk_at dksX2_noteIn_0 14 rfl rfl)
theorem dX2_noteIn_15 : decode cX2_noteIn 15 = .ok (.getfield 20, 3) := dk_180 0 20 (dk_at dksX2_noteIn_0 15 rfl rfl)
theorem dX2_noteIn_18 : decode cX2_noteIn 18 = .ok (.iconst 2, 1) := dk_5 (dk_at dksX2_noteIn_0 18 rfl rfl)
theorem dX2_noteIn_19 : decode cX2_noteIn 19 = .ok (.iaload, 1) := dk_46 (dk_at dksX2_noteIn_0 19 rfl rfl)
theorem dX2_noteIn_20 : decode cX2_noteIn 20 = .ok (.idiv, 1) := dk_108 (dk_at dksX2_noteIn_0 20 rfl rfl)
theorem dX2_noteIn_21 : decode cX2_noteIn 21 = .ok (.aload_n 0, 1) := dk_42 (dk_at dksX2_noteIn_0 21 rfl rfl)
theorem dX2_noteIn_22 : decode cX2_noteIn 22 = .ok (.getfield 20, 3) := dk_180 0 20 (dk_at dksX2_noteIn_1 0 rfl rfl)
theorem dX2_noteIn_25 : decode cX2_noteIn 25 = .ok (.iconst 0, 1) := dk_3 (dk_at dksX2_noteIn_1 3 rfl rfl)
theorem dX2_noteIn_26 : decode cX2_noteIn 26 = .ok (.iaload, 1) := dk_46 (dk_at dksX2_noteIn_1 4 rfl rfl)
theorem dX2_noteIn_27 : decode cX2_noteIn 27 = .ok (.irem, 1) := dk_112 (dk_at dksX2_noteIn_1 5 rfl rfl)
theorem dX2_noteIn_28 : decode cX2_noteIn 28 = .ok (.istore 4, 2) := dk_54 4 (dk_at dksX2_noteIn_1 6 rfl rfl)
theorem dX2_noteIn_30 : decode cX2_noteIn 30 = .ok (.aload_n 0, 1) := dk_42 (dk_at dksX2_noteIn_1 8 rfl rfl)
theorem dX2_noteIn_31 : decode cX2_noteIn 31 = .ok (.getfield 20, 3) := dk_180 0 20 (dk_at dksX2_noteIn_1 9 rfl rfl)
theorem dX2_noteIn_34 : decode cX2_noteIn 34 = .ok (.bipush 10, 2) := dk_16 10 (dk_at dksX2_noteIn_1 12 rfl rfl)
theorem dX2_noteIn_36 : decode cX2_noteIn 36 = .ok (.bipush 7, 2) := dk_16 7 (dk_at dksX2_noteIn_1 14 rfl rfl)
theorem dX2_noteIn_38 : decode cX2_noteIn 38 = .ok (.iload_n 1, 1) := dk_27 (dk_at dksX2_noteIn_1 16 rfl rfl)
theorem dX2_noteIn_39 : decode cX2_noteIn 39 = .ok (.imul, 1) := dk_104 (dk_at dksX2_noteIn_1 17 rfl rfl)
theorem dX2_noteIn_40 : decode cX2_noteIn 40 = .ok (.iadd, 1) := dk_96 (dk_at dksX2_noteIn_1 18 rfl rfl)
theorem dX2_noteIn_41 : decode cX2_noteIn 41 = .ok (.iconst 1, 1) := dk_4 (dk_at dksX2_noteIn_1 19 rfl rfl)
theorem dX2_noteIn_42 : decode cX2_noteIn 42 = .ok (.iadd, 1) := dk_96 (dk_at dksX2_noteIn_1 20 rfl rfl)
theorem dX2_noteIn_43 : decode cX2_noteIn 43 = .ok (.iload_n 2, 1) := dk_28 (dk_at dksX2_noteIn_1 21 rfl rfl)
theorem dX2_noteIn_44 : decode cX2_noteIn 44 = .ok (.iadd, 1) := dk_96 (dk_at dksX2_noteIn_1 22 rfl rfl)
theorem dX2_noteIn_45 : decode cX2_noteIn 45 = .ok (.iaload, 1) := dk_46 (dk_at dksX2_noteIn_1 23 rfl rfl)
theorem dX2_noteIn_46 : decode cX2_noteIn 46 = .ok (.aload_n 0, 1) := dk_42 (dk_at dksX2_noteIn_2 0 rfl rfl)
theorem dX2_noteIn_47 : decode cX2_noteIn 47 = .ok (.getfield 20, 3) := dk_180 0 20 (dk_at dksX2_noteIn_2 1 rfl rfl)
theorem dX2_noteIn_50 : decode cX2_noteIn 50 = .ok (.iconst 0, 1) := dk_3 (dk_at dksX2_noteIn_2 4 rfl rfl)
theorem dX2_noteIn_51 : decode cX2_noteIn 51 = .ok (.iaload, 1) := dk_46 (dk_at dksX2_noteIn_2 5 rfl rfl)
theorem dX2_noteIn_52 : decode cX2_noteIn 52 = .ok (.iadd, 1) := dk_96 (dk_at dksX2_noteIn_2 6 rfl rfl)
theorem dX2_noteIn_53 : decode cX2_noteIn 53 = .ok (.iload 4, 2) := dk_21 4 (dk_at dksX2_noteIn_2 7 rfl rfl)
theorem dX2_noteIn_55 : decode cX2_noteIn 55 = .ok (.isub, 1) := dk_100 (dk_at dksX2_noteIn_2 9 rfl rfl)
theorem dX2_noteIn_56 : decode cX2_noteIn 56 = .ok (.aload_n 0, 1) := dk_42 (dk_at dksX2_noteIn_2 10 rfl rfl)
theorem dX2_noteIn_57 : decode cX2_noteIn 57 = .ok (.getfield 20, 3) := dk_180 0 20 (dk_at dksX2_noteIn_2 11 rfl rfl)
theorem dX2_noteIn_60 : decode cX2_noteIn 60 = .ok (.iconst 0, 1) := dk_3 (dk_at dksX2_noteIn_2 14 rfl rfl)
theorem dX2_noteIn_61 : decode cX2_noteIn 61 = .ok (.iaload, 1) := dk_46 (dk_at dksX2_noteIn_2 15 rfl rfl)
theorem dX2_noteIn_62 : decode cX2_noteIn 62 = .ok (.irem, 1) := dk_112 (dk_at dksX2_noteIn_2 16 rfl rfl)
theorem dX2_noteIn_63 : decode cX2_noteIn 63 = .ok (.ireturn, 1) := dk_172 (dk_at dksX2_noteIn_2 17 rfl rfl)
abbrev cX2_sung : ByteArray := prog_16_method_53_code
def yX2_sung : MethodName := ⟨RX2, "sung", "(II)I"⟩
def dkwX2_sung_2 : List UInt8 := [182, 0, 170, 172]
abbrev dktX2_sung_2 : List UInt8 := dkwX2_sung_2 ++ []
def dkwX2_sung_1 : List UInt8 := [153, 0, 20, 42, 180, 0, 26, 16, 28, 16, 6, 27, 104, 96, 28, 96, 46, 167, 0, 8, 42, 4]
abbrev dktX2_sung_1 : List UInt8 := dkwX2_sung_1 ++ dktX2_sung_2
def dkwX2_sung_0 : List UInt8 := [42, 182, 0, 167, 42, 27, 182, 1, 18, 153, 0, 35, 28, 3, 42, 27, 182, 1, 28, 4, 100, 184, 0, 149]
abbrev dktX2_sung_0 : List UInt8 := dkwX2_sung_0 ++ dktX2_sung_1
theorem dksX2_sung_0 : cX2_sung.data.toList.drop 0 = dktX2_sung_0 := by decide +kernel
theorem dksX2_sung_1 : cX2_sung.data.toList.drop 24 = dktX2_sung_1 := dk_seg dksX2_sung_0 24 rfl rfl
theorem dksX2_sung_2 : cX2_sung.data.toList.drop 46 = dktX2_sung_2 := dk_seg dksX2_sung_1 22 rfl rfl
theorem dX2_sung_0 : decode cX2_sung 0 = .ok (.aload_n 0, 1) := dk_42 (dk_at dksX2_sung_0 0 rfl rfl)
theorem dX2_sung_1 : decode cX2_sung 1 = .ok (.invokevirtual 167, 3) := dk_182 0 167 (dk_at dksX2_sung_0 1 rfl rfl)
theorem dX2_sung_4 : decode cX2_sung 4 = .ok (.aload_n 0, 1) := dk_42 (dk_at dksX2_sung_0 4 rfl rfl)
theorem dX2_sung_5 : decode cX2_sung 5 = .ok (.iload_n 1, 1) := dk_27 (dk_at dksX2_sung_0 5 rfl rfl)
theorem dX2_sung_6 : decode cX2_sung 6 = .ok (.invokevirtual 274, 3) := dk_182 1 18 (dk_at dksX2_sung_0 6 rfl rfl)
theorem dX2_sung_9 : decode cX2_sung 9 = .ok (.ifCond .eq 35, 3) := dk_153 0 35 (dk_at dksX2_sung_0 9 rfl rfl)
theorem dX2_sung_12 : decode cX2_sung 12 = .ok (.iload_n 2, 1) := dk_28 (dk_at dksX2_sung_0 12 rfl rfl)
theorem dX2_sung_13 : decode cX2_sung 13 = .ok (.iconst 0, 1) := dk_3 (dk_at dksX2_sung_0 13 rfl rfl)
theorem dX2_sung_14 : decode cX2_sung 14 = .ok (.aload_n 0, 1) := dk_42 (dk_at dksX2_sung_0 14 rfl rfl)
theorem dX2_sung_15 : decode cX2_sung 15 = .ok (.iload_n 1, 1) := dk_27 (dk_at dksX2_sung_0 15 rfl rfl)
theorem dX2_sung_16 : decode cX2_sung 16 = .ok (.invokevirtual 284, 3) := dk_182 1 28 (dk_at dksX2_sung_0 16 rfl rfl)
theorem dX2_sung_19 : decode cX2_sung 19 = .ok (.iconst 1, 1) := dk_4 (dk_at dksX2_sung_0 19 rfl rfl)
theorem dX2_sung_20 : decode cX2_sung 20 = .ok (.isub, 1) := dk_100 (dk_at dksX2_sung_0 20 rfl rfl)
theorem dX2_sung_21 : decode cX2_sung 21 = .ok (.invokestatic 149, 3) := dk_184 0 149 (dk_at dksX2_sung_0 21 rfl rfl)
theorem dX2_sung_24 : decode cX2_sung 24 = .ok (.ifCond .eq 20, 3) := dk_153 0 20 (dk_at dksX2_sung_1 0 rfl rfl)
theorem dX2_sung_27 : decode cX2_sung 27 = .ok (.aload_n 0, 1) := dk_42 (dk_at dksX2_sung_1 3 rfl rfl)
theorem dX2_sung_28 : decode cX2_sung 28 = .ok (.getfield 26, 3) := dk_180 0 26 (dk_at dksX2_sung_1 4 rfl rfl)
theorem dX2_sung_31 : decode cX2_sung 31 = .ok (.bipush 28, 2) := dk_16 28 (dk_at dksX2_sung_1 7 rfl rfl)
theorem dX2_sung_33 : decode cX2_sung 33 = .ok (.bipush 6, 2) := dk_16 6 (dk_at dksX2_sung_1 9 rfl rfl)
theorem dX2_sung_35 : decode cX2_sung 35 = .ok (.iload_n 1, 1) := dk_27 (dk_at dksX2_sung_1 11 rfl rfl)
theorem dX2_sung_36 : decode cX2_sung 36 = .ok (.imul, 1) := dk_104 (dk_at dksX2_sung_1 12 rfl rfl)
theorem dX2_sung_37 : decode cX2_sung 37 = .ok (.iadd, 1) := dk_96 (dk_at dksX2_sung_1 13 rfl rfl)
theorem dX2_sung_38 : decode cX2_sung 38 = .ok (.iload_n 2, 1) := dk_28 (dk_at dksX2_sung_1 14 rfl rfl)
theorem dX2_sung_39 : decode cX2_sung 39 = .ok (.iadd, 1) := dk_96 (dk_at dksX2_sung_1 15 rfl rfl)
theorem dX2_sung_40 : decode cX2_sung 40 = .ok (.iaload, 1) := dk_46 (dk_at dksX2_sung_1 16 rfl rfl)
theorem dX2_sung_41 : decode cX2_sung 41 = .ok (.goto 8, 3) := dk_167 0 8 (dk_at dksX2_sung_1 17 rfl rfl)
theorem dX2_sung_44 : decode cX2_sung 44 = .ok (.aload_n 0, 1) := dk_42 (dk_at dksX2_sung_1 20 rfl rfl)
theorem dX2_sung_45 : decode cX2_sung 45 = .ok (.iconst 1, 1) := dk_4 (dk_at dksX2_sung_1 21 rfl rfl)
theorem dX2_sung_46 : decode cX2_sung 46 = .ok (.invokevirtual 170, 3) := dk_182 0 170 (dk_at dksX2_sung_2 0 rfl rfl)
theorem dX2_sung_49 : decode cX2_sung 49 = .ok (.ireturn, 1) := dk_172 (dk_at dksX2_sung_2 3 rfl rfl)
abbrev cX2_boxLong : ByteArray := prog_16_method_47_code
def yX2_boxLong : MethodName := ⟨RX2, "boxLong", "(I)I"⟩
def dkwX2_boxLong_0 : List UInt8 := [42, 42, 27, 4, 182, 1, 6, 182, 1, 9, 172]
abbrev dktX2_boxLong_0 : List UInt8 := dkwX2_boxLong_0 ++ []
theorem dksX2_boxLong_0 : cX2_boxLong.data.toList.drop 0 = dktX2_boxLong_0 := by decide +kernel
theorem dX2_boxLong_0 : decode cX2_boxLong 0 = .ok (.aload_n 0, 1) := dk_42 (dk_at dksX2_boxLong_0 0 rfl rfl)
theorem dX2_boxLong_1 : decode cX2_boxLong 1 = .ok (.aload_n 0, 1) := dk_42 (dk_at dksX2_boxLong_0 1 rfl rfl)
theorem dX2_boxLong_2 : decode cX2_boxLong 2 = .ok (.iload_n 1, 1) := dk_27 (dk_at dksX2_boxLong_0 2 rfl rfl)
theorem dX2_boxLong_3 : decode cX2_boxLong 3 = .ok (.iconst 1, 1) := dk_4 (dk_at dksX2_boxLong_0 3 rfl rfl)
theorem dX2_boxLong_4 : decode cX2_boxLong 4 = .ok (.invokevirtual 262, 3) := dk_182 1 6 (dk_at dksX2_boxLong_0 4 rfl rfl)
theorem dX2_boxLong_7 : decode cX2_boxLong 7 = .ok (.invokevirtual 265, 3) := dk_182 1 9 (dk_at dksX2_boxLong_0 7 rfl rfl)
theorem dX2_boxLong_10 : decode cX2_boxLong 10 = .ok (.ireturn, 1) := dk_172 (dk_at dksX2_boxLong_0 10 rfl rfl)
abbrev cX2_heard : ByteArray := prog_16_method_57_code
def yX2_heard : MethodName := ⟨RX2, "heard", "(I)I"⟩
def dkwX2_heard_1 : List UInt8 := [182, 0, 170, 172]
abbrev dktX2_heard_1 : List UInt8 := dkwX2_heard_1 ++ []
def dkwX2_heard_0 : List UInt8 := [42, 182, 0, 167, 42, 27, 182, 1, 18, 153, 0, 11, 42, 27, 182, 1, 39, 167, 0, 8, 42, 4]
abbrev dktX2_heard_0 : List UInt8 := dkwX2_heard_0 ++ dktX2_heard_1
theorem dksX2_heard_0 : cX2_heard.data.toList.drop 0 = dktX2_heard_0 := by decide +kernel
theorem dksX2_heard_1 : cX2_heard.data.toList.drop 22 = dktX2_heard_1 := dk_seg dksX2_heard_0 22 rfl rfl
theorem dX2_heard_0 : decode cX2_heard 0 = .ok (.aload_n 0, 1) := dk_42 (dk_at dksX2_heard_0 0 rfl rfl)
theorem dX2_heard_1 : decode cX2_heard 1 = .ok (.invokevirtual 167, 3) := dk_182 0 167 (dk_at dksX2_heard_0 1 rfl rfl)
theorem dX2_heard_4 : decode cX2_heard 4 = .ok (.aload_n 0, 1) := dk_42 (dk_at dksX2_heard_0 4 rfl rfl)
theorem dX2_heard_5 : decode cX2_heard 5 = .ok (.iload_n 1, 1) := dk_27 (dk_at dksX2_heard_0 5 rfl rfl)
theorem dX2_heard_6 : decode cX2_heard 6 = .ok (.invokevirtual 274, 3) := dk_182 1 18 (dk_at dksX2_heard_0 6 rfl rfl)
theorem dX2_heard_9 : decode cX2_heard 9 = .ok (.ifCond .eq 11, 3) := dk_153 0 11 (dk_at dksX2_heard_0 9 rfl rfl)
theorem dX2_heard_12 : decode cX2_heard 12 = .ok (.aload_n 0, 1) := dk_42 (dk_at dksX2_heard_0 12 rfl rfl)
theorem dX2_heard_13 : decode cX2_heard 13 = .ok (.iload_n 1, 1) := dk_27 (dk_at dksX2_heard_0 13 rfl rfl)
theorem dX2_heard_14 : decode cX2_heard 14 = .ok (.invokevirtual 295, 3) := dk_182 1 39 (dk_at dksX2_heard_0 14 rfl rfl)
theorem dX2_heard_17 : decode cX2_heard 17 = .ok (.goto 8, 3) := dk_167 0 8 (dk_at dksX2_heard_0 17 rfl rfl)
theorem dX2_heard_20 : decode cX2_heard 20 = .ok (.aload_n 0, 1) := dk_42 (dk_at dksX2_heard_0 20 rfl rfl)
theorem dX2_heard_21 : decode cX2_heard 21 = .ok (.iconst 1, 1) := dk_4 (dk_at dksX2_heard_0 21 rfl rfl)
theorem dX2_heard_22 : decode cX2_heard 22 = .ok (.invokevirtual 170, 3) := dk_182 0 170 (dk_at dksX2_heard_1 0 rfl rfl)
theorem dX2_heard_25 : decode cX2_heard 25 = .ok (.ireturn, 1) := dk_172 (dk_at dksX2_heard_1 3 rfl rfl)
abbrev cX2_heardNow : ByteArray := prog_16_method_56_code
def yX2_heardNow : MethodName := ⟨RX2, "heardNow", "(I)I"⟩
def dkwX2_heardNow_0 : List UInt8 := [42, 27, 42, 180, 0, 26, 3, 46, 2, 3, 182, 1, 35, 172]
abbrev dktX2_heardNow_0 : List UInt8 := dkwX2_heardNow_0 ++ []
theorem dksX2_heardNow_0 : cX2_heardNow.data.toList.drop 0 = dktX2_heardNow_0 := by decide +kernel
theorem dX2_heardNow_0 : decode cX2_heardNow 0 = .ok (.aload_n 0, 1) := dk_42 (dk_at dksX2_heardNow_0 0 rfl rfl)
theorem dX2_heardNow_1 : decode cX2_heardNow 1 = .ok (.iload_n 1, 1) := dk_27 (dk_at dksX2_heardNow_0 1 rfl rfl)
theorem dX2_heardNow_2 : decode cX2_heardNow 2 = .ok (.aload_n 0, 1) := dk_42 (dk_at dksX2_heardNow_0 2 rfl rfl)
theorem dX2_heardNow_3 : decode cX2_heardNow 3 = .ok (.getfield 26, 3) := dk_180 0 26 (dk_at dksX2_heardNow_0 3 rfl rfl)
theorem dX2_heardNow_6 : decode cX2_heardNow 6 = .ok (.iconst 0, 1) := dk_3 (dk_at dksX2_heardNow_0 6 rfl rfl)
theorem dX2_heardNow_7 : decode cX2_heardNow 7 = .ok (.iaload, 1) := dk_46 (dk_at dksX2_heardNow_0 7 rfl rfl)
theorem dX2_heardNow_8 : decode cX2_heardNow 8 = .ok (.iconst (-1), 1) := dk_2 (dk_at dksX2_heardNow_0 8 rfl rfl)
theorem dX2_heardNow_9 : decode cX2_heardNow 9 = .ok (.iconst 0, 1) := dk_3 (dk_at dksX2_heardNow_0 9 rfl rfl)
theorem dX2_heardNow_10 : decode cX2_heardNow 10 = .ok (.invokevirtual 291, 3) := dk_182 1 35 (dk_at dksX2_heardNow_0 10 rfl rfl)
theorem dX2_heardNow_13 : decode cX2_heardNow 13 = .ok (.ireturn, 1) := dk_172 (dk_at dksX2_heardNow_0 13 rfl rfl)
abbrev cX2_hearsIn : ByteArray := prog_16_method_55_code
def yX2_hearsIn : MethodName := ⟨RX2, "hearsIn", "(IIII)I"⟩
def dkwX2_hearsIn_4 : List UInt8 := [46, 163, 0, 8, 21, 5, 167, 0, 5, 16, 254, 172]
abbrev dktX2_hearsIn_4 : List UInt8 := dkwX2_hearsIn_4 ++ []
def dkwX2_hearsIn_3 : List UInt8 := [167, 0, 5, 16, 254, 54, 5, 21, 8, 54, 6, 132, 7, 1, 167, 255, 182, 21, 6, 42, 180, 0, 20, 4]
abbrev dktX2_hearsIn_3 : List UInt8 := dkwX2_hearsIn_3 ++ dktX2_hearsIn_4
def dkwX2_hearsIn_2 : List UInt8 := [182, 1, 31, 54, 8, 21, 8, 21, 6, 164, 0, 6, 167, 0, 23, 21, 8, 21, 6, 162, 0, 8, 21, 7]
abbrev dktX2_hearsIn_2 : List UInt8 := dkwX2_hearsIn_2 ++ dktX2_hearsIn_3
def dkwX2_hearsIn_1 : List UInt8 := [21, 7, 182, 1, 9, 42, 27, 182, 1, 28, 159, 0, 6, 167, 0, 46, 42, 27, 21, 7, 28, 29, 21, 4]
abbrev dktX2_hearsIn_1 : List UInt8 := dkwX2_hearsIn_1 ++ dktX2_hearsIn_2
def dkwX2_hearsIn_0 : List UInt8 := [16, 254, 54, 5, 16, 7, 54, 6, 3, 54, 7, 21, 7, 42, 180, 0, 20, 7, 46, 162, 0, 69, 42]
abbrev dktX2_hearsIn_0 : List UInt8 := dkwX2_hearsIn_0 ++ dktX2_hearsIn_1
theorem dksX2_hearsIn_0 : cX2_hearsIn.data.toList.drop 0 = dktX2_hearsIn_0 := by decide +kernel
theorem dksX2_hearsIn_1 : cX2_hearsIn.data.toList.drop 23 = dktX2_hearsIn_1 := dk_seg dksX2_hearsIn_0 23 rfl rfl
theorem dksX2_hearsIn_2 : cX2_hearsIn.data.toList.drop 47 = dktX2_hearsIn_2 := dk_seg dksX2_hearsIn_1 24 rfl rfl
theorem dksX2_hearsIn_3 : cX2_hearsIn.data.toList.drop 71 = dktX2_hearsIn_3 := dk_seg dksX2_hearsIn_2 24 rfl rfl
theorem dksX2_hearsIn_4 : cX2_hearsIn.data.toList.drop 95 = dktX2_hearsIn_4 := dk_seg dksX2_hearsIn_3 24 rfl rfl
theorem dX2_hearsIn_0 : decode cX2_hearsIn 0 = .ok (.bipush (-2), 2) := dk_16 254 (dk_at dksX2_hearsIn_0 0 rfl rfl)
theorem dX2_hearsIn_2 : decode cX2_hearsIn 2 = .ok (.istore 5, 2) := dk_54 5 (dk_at dksX2_hearsIn_0 2 rfl rfl)
theorem dX2_hearsIn_4 : decode cX2_hearsIn 4 = .ok (.bipush 7, 2) := dk_16 7 (dk_at dksX2_hearsIn_0 4 rfl rfl)
theorem dX2_hearsIn_6 : decode cX2_hearsIn 6 = .ok (.istore 6, 2) := dk_54 6 (dk_at dksX2_hearsIn_0 6 rfl rfl)
theorem dX2_hearsIn_8 : decode cX2_hearsIn 8 = .ok (.iconst 0, 1) := dk_3 (dk_at dksX2_hearsIn_0 8 rfl rfl)
theorem dX2_hearsIn_9 : decode cX2_hearsIn 9 = .ok (.istore 7, 2) := dk_54 7 (dk_at dksX2_hearsIn_0 9 rfl rfl)
theorem dX2_hearsIn_11 : decode cX2_hearsIn 11 = .ok (.iload 7, 2) := dk_21 7 (dk_at dksX2_hearsIn_0 11 rfl rfl)
theorem dX2_hearsIn_13 : decode cX2_hearsIn 13 = .ok (.aload_n 0, 1) := dk_42 (dk_at dksX2_hearsIn_0 13 rfl rfl)
theorem dX2_hearsIn_14 : decode cX2_hearsIn 14 = .ok (.getfield 20, 3) := dk_180 0 20 (dk_at dksX2_hearsIn_0 14 rfl rfl)
theorem dX2_hearsIn_17 : decode cX2_hearsIn 17 = .ok (.iconst 4, 1) := dk_7 (dk_at dksX2_hearsIn_0 17 rfl rfl)
theorem dX2_hearsIn_18 : decode cX2_hearsIn 18 = .ok (.iaload, 1) := dk_46 (dk_at dksX2_hearsIn_0 18 rfl rfl)
theorem dX2_hearsIn_19 : decode cX2_hearsIn 19 = .ok (.if_icmp .ge 69, 3) := dk_162 0 69 (dk_at dksX2_hearsIn_0 19 rfl rfl)
theorem dX2_hearsIn_22 : decode cX2_hearsIn 22 = .ok (.aload_n 0, 1) := dk_42 (dk_at dksX2_hearsIn_0 22 rfl rfl)
theorem dX2_hearsIn_23 : decode cX2_hearsIn 23 = .ok (.iload 7, 2) := dk_21 7 (dk_at dksX2_hearsIn_1 0 rfl rfl)
theorem dX2_hearsIn_25 : decode cX2_hearsIn 25 = .ok (.invokevirtual 265, 3) := dk_182 1 9 (dk_at dksX2_hearsIn_1 2 rfl rfl)
theorem dX2_hearsIn_28 : decode cX2_hearsIn 28 = .ok (.aload_n 0, 1) := dk_42 (dk_at dksX2_hearsIn_1 5 rfl rfl)
theorem dX2_hearsIn_29 : decode cX2_hearsIn 29 = .ok (.iload_n 1, 1) := dk_27 (dk_at dksX2_hearsIn_1 6 rfl rfl)
theorem dX2_hearsIn_30 : decode cX2_hearsIn 30 = .ok (.invokevirtual 284, 3) := dk_182 1 28 (dk_at dksX2_hearsIn_1 7 rfl rfl)
theorem dX2_hearsIn_33 : decode cX2_hearsIn 33 = .ok (.if_icmp .eq 6, 3) := dk_159 0 6 (dk_at dksX2_hearsIn_1 10 rfl rfl)
theorem dX2_hearsIn_36 : decode cX2_hearsIn 36 = .ok (.goto 46, 3) := dk_167 0 46 (dk_at dksX2_hearsIn_1 13 rfl rfl)
theorem dX2_hearsIn_39 : decode cX2_hearsIn 39 = .ok (.aload_n 0, 1) := dk_42 (dk_at dksX2_hearsIn_1 16 rfl rfl)
theorem dX2_hearsIn_40 : decode cX2_hearsIn 40 = .ok (.iload_n 1, 1) := dk_27 (dk_at dksX2_hearsIn_1 17 rfl rfl)
theorem dX2_hearsIn_41 : decode cX2_hearsIn 41 = .ok (.iload 7, 2) := dk_21 7 (dk_at dksX2_hearsIn_1 18 rfl rfl)
theorem dX2_hearsIn_43 : decode cX2_hearsIn 43 = .ok (.iload_n 2, 1) := dk_28 (dk_at dksX2_hearsIn_1 20 rfl rfl)
theorem dX2_hearsIn_44 : decode cX2_hearsIn 44 = .ok (.iload_n 3, 1) := dk_29 (dk_at dksX2_hearsIn_1 21 rfl rfl)
theorem dX2_hearsIn_45 : decode cX2_hearsIn 45 = .ok (.iload 4, 2) := dk_21 4 (dk_at dksX2_hearsIn_1 22 rfl rfl)
theorem dX2_hearsIn_47 : decode cX2_hearsIn 47 = .ok (.invokevirtual 287, 3) := dk_182 1 31 (dk_at dksX2_hearsIn_2 0 rfl rfl)
theorem dX2_hearsIn_50 : decode cX2_hearsIn 50 = .ok (.istore 8, 2) := dk_54 8 (dk_at dksX2_hearsIn_2 3 rfl rfl)
theorem dX2_hearsIn_52 : decode cX2_hearsIn 52 = .ok (.iload 8, 2) := dk_21 8 (dk_at dksX2_hearsIn_2 5 rfl rfl)
theorem dX2_hearsIn_54 : decode cX2_hearsIn 54 = .ok (.iload 6, 2) := dk_21 6 (dk_at dksX2_hearsIn_2 7 rfl rfl)
theorem dX2_hearsIn_56 : decode cX2_hearsIn 56 = .ok (.if_icmp .le 6, 3) := dk_164 0 6 (dk_at dksX2_hearsIn_2 9 rfl rfl)
theorem dX2_hearsIn_59 : decode cX2_hearsIn 59 = .ok (.goto 23, 3) := dk_167 0 23 (dk_at dksX2_hearsIn_2 12 rfl rfl)
theorem dX2_hearsIn_62 : decode cX2_hearsIn 62 = .ok (.iload 8, 2) := dk_21 8 (dk_at dksX2_hearsIn_2 15 rfl rfl)
theorem dX2_hearsIn_64 : decode cX2_hearsIn 64 = .ok (.iload 6, 2) := dk_21 6 (dk_at dksX2_hearsIn_2 17 rfl rfl)
theorem dX2_hearsIn_66 : decode cX2_hearsIn 66 = .ok (.if_icmp .ge 8, 3) := dk_162 0 8 (dk_at dksX2_hearsIn_2 19 rfl rfl)
theorem dX2_hearsIn_69 : decode cX2_hearsIn 69 = .ok (.iload 7, 2) := dk_21 7 (dk_at dksX2_hearsIn_2 22 rfl rfl)
theorem dX2_hearsIn_71 : decode cX2_hearsIn 71 = .ok (.goto 5, 3) := dk_167 0 5 (dk_at dksX2_hearsIn_3 0 rfl rfl)
theorem dX2_hearsIn_74 : decode cX2_hearsIn 74 = .ok (.bipush (-2), 2) := dk_16 254 (dk_at dksX2_hearsIn_3 3 rfl rfl)
theorem dX2_hearsIn_76 : decode cX2_hearsIn 76 = .ok (.istore 5, 2) := dk_54 5 (dk_at dksX2_hearsIn_3 5 rfl rfl)
theorem dX2_hearsIn_78 : decode cX2_hearsIn 78 = .ok (.iload 8, 2) := dk_21 8 (dk_at dksX2_hearsIn_3 7 rfl rfl)
theorem dX2_hearsIn_80 : decode cX2_hearsIn 80 = .ok (.istore 6, 2) := dk_54 6 (dk_at dksX2_hearsIn_3 9 rfl rfl)
theorem dX2_hearsIn_82 : decode cX2_hearsIn 82 = .ok (.iinc 7 1, 3) := dk_132 7 1 (dk_at dksX2_hearsIn_3 11 rfl rfl)
theorem dX2_hearsIn_85 : decode cX2_hearsIn 85 = .ok (.goto (-74), 3) := dk_167 255 182 (dk_at dksX2_hearsIn_3 14 rfl rfl)
theorem dX2_hearsIn_88 : decode cX2_hearsIn 88 = .ok (.iload 6, 2) := dk_21 6 (dk_at dksX2_hearsIn_3 17 rfl rfl)
theorem dX2_hearsIn_90 : decode cX2_hearsIn 90 = .ok (.aload_n 0, 1) := dk_42 (dk_at dksX2_hearsIn_3 19 rfl rfl)
theorem dX2_hearsIn_91 : decode cX2_hearsIn 91 = .ok (.getfield 20, 3) := dk_180 0 20 (dk_at dksX2_hearsIn_3 20 rfl rfl)
theorem dX2_hearsIn_94 : decode cX2_hearsIn 94 = .ok (.iconst 1, 1) := dk_4 (dk_at dksX2_hearsIn_3 23 rfl rfl)
theorem dX2_hearsIn_95 : decode cX2_hearsIn 95 = .ok (.iaload, 1) := dk_46 (dk_at dksX2_hearsIn_4 0 rfl rfl)
theorem dX2_hearsIn_96 : decode cX2_hearsIn 96 = .ok (.if_icmp .gt 8, 3) := dk_163 0 8 (dk_at dksX2_hearsIn_4 1 rfl rfl)
theorem dX2_hearsIn_99 : decode cX2_hearsIn 99 = .ok (.iload 5, 2) := dk_21 5 (dk_at dksX2_hearsIn_4 4 rfl rfl)
theorem dX2_hearsIn_101 : decode cX2_hearsIn 101 = .ok (.goto 5, 3) := dk_167 0 5 (dk_at dksX2_hearsIn_4 6 rfl rfl)
theorem dX2_hearsIn_104 : decode cX2_hearsIn 104 = .ok (.bipush (-2), 2) := dk_16 254 (dk_at dksX2_hearsIn_4 9 rfl rfl)
theorem dX2_hearsIn_106 : decode cX2_hearsIn 106 = .ok (.ireturn, 1) := dk_172 (dk_at dksX2_hearsIn_4 11 rfl rfl)
abbrev cX2_unlike : ByteArray := prog_16_method_54_code
def yX2_unlike : MethodName := ⟨RX2, "unlike", "(IIIII)I"⟩
def dkwX2_unlike_3 : List UInt8 := [21, 6, 172]
abbrev dktX2_unlike_3 : List UInt8 := dkwX2_unlike_3 ++ []
def dkwX2_unlike_2 : List UInt8 := [104, 96, 21, 7, 96, 46, 160, 0, 7, 3, 167, 0, 4, 4, 96, 54, 6, 132, 7, 1, 167, 255, 195]
abbrev dktX2_unlike_2 : List UInt8 := dkwX2_unlike_2 ++ dktX2_unlike_3
def dkwX2_unlike_1 : List UInt8 := [182, 1, 24, 21, 7, 21, 4, 160, 0, 8, 21, 5, 167, 0, 18, 42, 180, 0, 26, 16, 28, 16, 6, 27]
abbrev dktX2_unlike_1 : List UInt8 := dkwX2_unlike_1 ++ dktX2_unlike_2
def dkwX2_unlike_0 : List UInt8 := [3, 54, 6, 3, 54, 7, 21, 7, 42, 27, 182, 1, 28, 162, 0, 57, 21, 6, 42, 28, 21, 7, 29]
abbrev dktX2_unlike_0 : List UInt8 := dkwX2_unlike_0 ++ dktX2_unlike_1
theorem dksX2_unlike_0 : cX2_unlike.data.toList.drop 0 = dktX2_unlike_0 := by decide +kernel
theorem dksX2_unlike_1 : cX2_unlike.data.toList.drop 23 = dktX2_unlike_1 := dk_seg dksX2_unlike_0 23 rfl rfl
theorem dksX2_unlike_2 : cX2_unlike.data.toList.drop 47 = dktX2_unlike_2 := dk_seg dksX2_unlike_1 24 rfl rfl
theorem dksX2_unlike_3 : cX2_unlike.data.toList.drop 70 = dktX2_unlike_3 := dk_seg dksX2_unlike_2 23 rfl rfl
theorem dX2_unlike_0 : decode cX2_unlike 0 = .ok (.iconst 0, 1) := dk_3 (dk_at dksX2_unlike_0 0 rfl rfl)
theorem dX2_unlike_1 : decode cX2_unlike 1 = .ok (.istore 6, 2) := dk_54 6 (dk_at dksX2_unlike_0 1 rfl rfl)
theorem dX2_unlike_3 : decode cX2_unlike 3 = .ok (.iconst 0, 1) := dk_3 (dk_at dksX2_unlike_0 3 rfl rfl)
theorem dX2_unlike_4 : decode cX2_unlike 4 = .ok (.istore 7, 2) := dk_54 7 (dk_at dksX2_unlike_0 4 rfl rfl)
theorem dX2_unlike_6 : decode cX2_unlike 6 = .ok (.iload 7, 2) := dk_21 7 (dk_at dksX2_unlike_0 6 rfl rfl)
theorem dX2_unlike_8 : decode cX2_unlike 8 = .ok (.aload_n 0, 1) := dk_42 (dk_at dksX2_unlike_0 8 rfl rfl)
theorem dX2_unlike_9 : decode cX2_unlike 9 = .ok (.iload_n 1, 1) := dk_27 (dk_at dksX2_unlike_0 9 rfl rfl)
theorem dX2_unlike_10 : decode cX2_unlike 10 = .ok (.invokevirtual 284, 3) := dk_182 1 28 (dk_at dksX2_unlike_0 10 rfl rfl)
theorem dX2_unlike_13 : decode cX2_unlike 13 = .ok (.if_icmp .ge 57, 3) := dk_162 0 57 (dk_at dksX2_unlike_0 13 rfl rfl)
theorem dX2_unlike_16 : decode cX2_unlike 16 = .ok (.iload 6, 2) := dk_21 6 (dk_at dksX2_unlike_0 16 rfl rfl)
theorem dX2_unlike_18 : decode cX2_unlike 18 = .ok (.aload_n 0, 1) := dk_42 (dk_at dksX2_unlike_0 18 rfl rfl)
theorem dX2_unlike_19 : decode cX2_unlike 19 = .ok (.iload_n 2, 1) := dk_28 (dk_at dksX2_unlike_0 19 rfl rfl)
theorem dX2_unlike_20 : decode cX2_unlike 20 = .ok (.iload 7, 2) := dk_21 7 (dk_at dksX2_unlike_0 20 rfl rfl)
theorem dX2_unlike_22 : decode cX2_unlike 22 = .ok (.iload_n 3, 1) := dk_29 (dk_at dksX2_unlike_0 22 rfl rfl)
theorem dX2_unlike_23 : decode cX2_unlike 23 = .ok (.invokevirtual 280, 3) := dk_182 1 24 (dk_at dksX2_unlike_1 0 rfl rfl)
theorem dX2_unlike_26 : decode cX2_unlike 26 = .ok (.iload 7, 2) := dk_21 7 (dk_at dksX2_unlike_1 3 rfl rfl)
theorem dX2_unlike_28 : decode cX2_unlike 28 = .ok (.iload 4, 2) := dk_21 4 (dk_at dksX2_unlike_1 5 rfl rfl)
theorem dX2_unlike_30 : decode cX2_unlike 30 = .ok (.if_icmp .ne 8, 3) := dk_160 0 8 (dk_at dksX2_unlike_1 7 rfl rfl)
theorem dX2_unlike_33 : decode cX2_unlike 33 = .ok (.iload 5, 2) := dk_21 5 (dk_at dksX2_unlike_1 10 rfl rfl)
theorem dX2_unlike_35 : decode cX2_unlike 35 = .ok (.goto 18, 3) := dk_167 0 18 (dk_at dksX2_unlike_1 12 rfl rfl)
theorem dX2_unlike_38 : decode cX2_unlike 38 = .ok (.aload_n 0, 1) := dk_42 (dk_at dksX2_unlike_1 15 rfl rfl)
theorem dX2_unlike_39 : decode cX2_unlike 39 = .ok (.getfield 26, 3) := dk_180 0 26 (dk_at dksX2_unlike_1 16 rfl rfl)
theorem dX2_unlike_42 : decode cX2_unlike 42 = .ok (.bipush 28, 2) := dk_16 28 (dk_at dksX2_unlike_1 19 rfl rfl)
theorem dX2_unlike_44 : decode cX2_unlike 44 = .ok (.bipush 6, 2) := dk_16 6 (dk_at dksX2_unlike_1 21 rfl rfl)
theorem dX2_unlike_46 : decode cX2_unlike 46 = .ok (.iload_n 1, 1) := dk_27 (dk_at dksX2_unlike_1 23 rfl rfl)
theorem dX2_unlike_47 : decode cX2_unlike 47 = .ok (.imul, 1) := dk_104 (dk_at dksX2_unlike_2 0 rfl rfl)
theorem dX2_unlike_48 : decode cX2_unlike 48 = .ok (.iadd, 1) := dk_96 (dk_at dksX2_unlike_2 1 rfl rfl)
theorem dX2_unlike_49 : decode cX2_unlike 49 = .ok (.iload 7, 2) := dk_21 7 (dk_at dksX2_unlike_2 2 rfl rfl)
theorem dX2_unlike_51 : decode cX2_unlike 51 = .ok (.iadd, 1) := dk_96 (dk_at dksX2_unlike_2 4 rfl rfl)
theorem dX2_unlike_52 : decode cX2_unlike 52 = .ok (.iaload, 1) := dk_46 (dk_at dksX2_unlike_2 5 rfl rfl)
theorem dX2_unlike_53 : decode cX2_unlike 53 = .ok (.if_icmp .ne 7, 3) := dk_160 0 7 (dk_at dksX2_unlike_2 6 rfl rfl)
theorem dX2_unlike_56 : decode cX2_unlike 56 = .ok (.iconst 0, 1) := dk_3 (dk_at dksX2_unlike_2 9 rfl rfl)
theorem dX2_unlike_57 : decode cX2_unlike 57 = .ok (.goto 4, 3) := dk_167 0 4 (dk_at dksX2_unlike_2 10 rfl rfl)
theorem dX2_unlike_60 : decode cX2_unlike 60 = .ok (.iconst 1, 1) := dk_4 (dk_at dksX2_unlike_2 13 rfl rfl)
theorem dX2_unlike_61 : decode cX2_unlike 61 = .ok (.iadd, 1) := dk_96 (dk_at dksX2_unlike_2 14 rfl rfl)
theorem dX2_unlike_62 : decode cX2_unlike 62 = .ok (.istore 6, 2) := dk_54 6 (dk_at dksX2_unlike_2 15 rfl rfl)
theorem dX2_unlike_64 : decode cX2_unlike 64 = .ok (.iinc 7 1, 3) := dk_132 7 1 (dk_at dksX2_unlike_2 17 rfl rfl)
theorem dX2_unlike_67 : decode cX2_unlike 67 = .ok (.goto (-61), 3) := dk_167 255 195 (dk_at dksX2_unlike_2 20 rfl rfl)
theorem dX2_unlike_70 : decode cX2_unlike 70 = .ok (.iload 6, 2) := dk_21 6 (dk_at dksX2_unlike_3 0 rfl rfl)
theorem dX2_unlike_72 : decode cX2_unlike 72 = .ok (.ireturn, 1) := dk_172 (dk_at dksX2_unlike_3 2 rfl rfl)
abbrev cX2_way : ByteArray := prog_16_method_60_code
def yX2_way : MethodName := ⟨RX2, "way", "(II)I"⟩
def dkwX2_way_2 : List UInt8 := [167, 0, 16, 42, 180, 0, 20, 16, 59, 7, 29, 104, 96, 5, 96, 46, 172]
abbrev dktX2_way_2 : List UInt8 := dkwX2_way_2 ++ []
def dkwX2_way_1 : List UInt8 := [160, 0, 9, 42, 4, 182, 0, 170, 172, 42, 27, 28, 182, 1, 49, 62, 29, 156, 0, 8, 16, 254]
abbrev dktX2_way_1 : List UInt8 := dkwX2_way_1 ++ dktX2_way_2
def dkwX2_way_0 : List UInt8 := [42, 182, 0, 167, 42, 27, 182, 1, 21, 153, 0, 16, 42, 28, 182, 1, 21, 153, 0, 8, 27, 28]
abbrev dktX2_way_0 : List UInt8 := dkwX2_way_0 ++ dktX2_way_1
theorem dksX2_way_0 : cX2_way.data.toList.drop 0 = dktX2_way_0 := by decide +kernel
theorem dksX2_way_1 : cX2_way.data.toList.drop 22 = dktX2_way_1 := dk_seg dksX2_way_0 22 rfl rfl
theorem dksX2_way_2 : cX2_way.data.toList.drop 44 = dktX2_way_2 := dk_seg dksX2_way_1 22 rfl rfl
theorem dX2_way_0 : decode cX2_way 0 = .ok (.aload_n 0, 1) := dk_42 (dk_at dksX2_way_0 0 rfl rfl)
theorem dX2_way_1 : decode cX2_way 1 = .ok (.invokevirtual 167, 3) := dk_182 0 167 (dk_at dksX2_way_0 1 rfl rfl)
theorem dX2_way_4 : decode cX2_way 4 = .ok (.aload_n 0, 1) := dk_42 (dk_at dksX2_way_0 4 rfl rfl)
theorem dX2_way_5 : decode cX2_way 5 = .ok (.iload_n 1, 1) := dk_27 (dk_at dksX2_way_0 5 rfl rfl)
theorem dX2_way_6 : decode cX2_way 6 = .ok (.invokevirtual 277, 3) := dk_182 1 21 (dk_at dksX2_way_0 6 rfl rfl)
theorem dX2_way_9 : decode cX2_way 9 = .ok (.ifCond .eq 16, 3) := dk_153 0 16 (dk_at dksX2_way_0 9 rfl rfl)
theorem dX2_way_12 : decode cX2_way 12 = .ok (.aload_n 0, 1) := dk_42 (dk_at dksX2_way_0 12 rfl rfl)
theorem dX2_way_13 : decode cX2_way 13 = .ok (.iload_n 2, 1) := dk_28 (dk_at dksX2_way_0 13 rfl rfl)
theorem dX2_way_14 : decode cX2_way 14 = .ok (.invokevirtual 277, 3) := dk_182 1 21 (dk_at dksX2_way_0 14 rfl rfl)
theorem dX2_way_17 : decode cX2_way 17 = .ok (.ifCond .eq 8, 3) := dk_153 0 8 (dk_at dksX2_way_0 17 rfl rfl)
theorem dX2_way_20 : decode cX2_way 20 = .ok (.iload_n 1, 1) := dk_27 (dk_at dksX2_way_0 20 rfl rfl)
theorem dX2_way_21 : decode cX2_way 21 = .ok (.iload_n 2, 1) := dk_28 (dk_at dksX2_way_0 21 rfl rfl)
theorem dX2_way_22 : decode cX2_way 22 = .ok (.if_icmp .ne 9, 3) := dk_160 0 9 (dk_at dksX2_way_1 0 rfl rfl)
theorem dX2_way_25 : decode cX2_way 25 = .ok (.aload_n 0, 1) := dk_42 (dk_at dksX2_way_1 3 rfl rfl)
theorem dX2_way_26 : decode cX2_way 26 = .ok (.iconst 1, 1) := dk_4 (dk_at dksX2_way_1 4 rfl rfl)
theorem dX2_way_27 : decode cX2_way 27 = .ok (.invokevirtual 170, 3) := dk_182 0 170 (dk_at dksX2_way_1 5 rfl rfl)
theorem dX2_way_30 : decode cX2_way 30 = .ok (.ireturn, 1) := dk_172 (dk_at dksX2_way_1 8 rfl rfl)
theorem dX2_way_31 : decode cX2_way 31 = .ok (.aload_n 0, 1) := dk_42 (dk_at dksX2_way_1 9 rfl rfl)
theorem dX2_way_32 : decode cX2_way 32 = .ok (.iload_n 1, 1) := dk_27 (dk_at dksX2_way_1 10 rfl rfl)
theorem dX2_way_33 : decode cX2_way 33 = .ok (.iload_n 2, 1) := dk_28 (dk_at dksX2_way_1 11 rfl rfl)
theorem dX2_way_34 : decode cX2_way 34 = .ok (.invokevirtual 305, 3) := dk_182 1 49 (dk_at dksX2_way_1 12 rfl rfl)
theorem dX2_way_37 : decode cX2_way 37 = .ok (.istore_n 3, 1) := dk_62 (dk_at dksX2_way_1 15 rfl rfl)
theorem dX2_way_38 : decode cX2_way 38 = .ok (.iload_n 3, 1) := dk_29 (dk_at dksX2_way_1 16 rfl rfl)
theorem dX2_way_39 : decode cX2_way 39 = .ok (.ifCond .ge 8, 3) := dk_156 0 8 (dk_at dksX2_way_1 17 rfl rfl)
theorem dX2_way_42 : decode cX2_way 42 = .ok (.bipush (-2), 2) := dk_16 254 (dk_at dksX2_way_1 20 rfl rfl)
theorem dX2_way_44 : decode cX2_way 44 = .ok (.goto 16, 3) := dk_167 0 16 (dk_at dksX2_way_2 0 rfl rfl)
theorem dX2_way_47 : decode cX2_way 47 = .ok (.aload_n 0, 1) := dk_42 (dk_at dksX2_way_2 3 rfl rfl)
theorem dX2_way_48 : decode cX2_way 48 = .ok (.getfield 20, 3) := dk_180 0 20 (dk_at dksX2_way_2 4 rfl rfl)
theorem dX2_way_51 : decode cX2_way 51 = .ok (.bipush 59, 2) := dk_16 59 (dk_at dksX2_way_2 7 rfl rfl)
theorem dX2_way_53 : decode cX2_way 53 = .ok (.iconst 4, 1) := dk_7 (dk_at dksX2_way_2 9 rfl rfl)
theorem dX2_way_54 : decode cX2_way 54 = .ok (.iload_n 3, 1) := dk_29 (dk_at dksX2_way_2 10 rfl rfl)
theorem dX2_way_55 : decode cX2_way 55 = .ok (.imul, 1) := dk_104 (dk_at dksX2_way_2 11 rfl rfl)
theorem dX2_way_56 : decode cX2_way 56 = .ok (.iadd, 1) := dk_96 (dk_at dksX2_way_2 12 rfl rfl)
theorem dX2_way_57 : decode cX2_way 57 = .ok (.iconst 2, 1) := dk_5 (dk_at dksX2_way_2 13 rfl rfl)
theorem dX2_way_58 : decode cX2_way 58 = .ok (.iadd, 1) := dk_96 (dk_at dksX2_way_2 14 rfl rfl)
theorem dX2_way_59 : decode cX2_way 59 = .ok (.iaload, 1) := dk_46 (dk_at dksX2_way_2 15 rfl rfl)
theorem dX2_way_60 : decode cX2_way 60 = .ok (.ireturn, 1) := dk_172 (dk_at dksX2_way_2 16 rfl rfl)
abbrev cX2_wayOf : ByteArray := prog_16_method_59_code
def yX2_wayOf : MethodName := ⟨RX2, "wayOf", "(II)I"⟩
def dkwX2_wayOf_1 : List UInt8 := [153, 0, 13, 42, 29, 182, 1, 46, 154, 0, 5, 29, 172, 132, 3, 1, 167, 255, 220, 2, 172]
abbrev dktX2_wayOf_1 : List UInt8 := dkwX2_wayOf_1 ++ []
def dkwX2_wayOf_0 : List UInt8 := [3, 62, 29, 42, 180, 0, 20, 8, 46, 162, 0, 32, 42, 180, 0, 20, 29, 27, 28, 184, 0, 230]
abbrev dktX2_wayOf_0 : List UInt8 := dkwX2_wayOf_0 ++ dktX2_wayOf_1
theorem dksX2_wayOf_0 : cX2_wayOf.data.toList.drop 0 = dktX2_wayOf_0 := by decide +kernel
theorem dksX2_wayOf_1 : cX2_wayOf.data.toList.drop 22 = dktX2_wayOf_1 := dk_seg dksX2_wayOf_0 22 rfl rfl
theorem dX2_wayOf_0 : decode cX2_wayOf 0 = .ok (.iconst 0, 1) := dk_3 (dk_at dksX2_wayOf_0 0 rfl rfl)
theorem dX2_wayOf_1 : decode cX2_wayOf 1 = .ok (.istore_n 3, 1) := dk_62 (dk_at dksX2_wayOf_0 1 rfl rfl)
theorem dX2_wayOf_2 : decode cX2_wayOf 2 = .ok (.iload_n 3, 1) := dk_29 (dk_at dksX2_wayOf_0 2 rfl rfl)
theorem dX2_wayOf_3 : decode cX2_wayOf 3 = .ok (.aload_n 0, 1) := dk_42 (dk_at dksX2_wayOf_0 3 rfl rfl)
theorem dX2_wayOf_4 : decode cX2_wayOf 4 = .ok (.getfield 20, 3) := dk_180 0 20 (dk_at dksX2_wayOf_0 4 rfl rfl)
theorem dX2_wayOf_7 : decode cX2_wayOf 7 = .ok (.iconst 5, 1) := dk_8 (dk_at dksX2_wayOf_0 7 rfl rfl)
theorem dX2_wayOf_8 : decode cX2_wayOf 8 = .ok (.iaload, 1) := dk_46 (dk_at dksX2_wayOf_0 8 rfl rfl)
theorem dX2_wayOf_9 : decode cX2_wayOf 9 = .ok (.if_icmp .ge 32, 3) := dk_162 0 32 (dk_at dksX2_wayOf_0 9 rfl rfl)
theorem dX2_wayOf_12 : decode cX2_wayOf 12 = .ok (.aload_n 0, 1) := dk_42 (dk_at dksX2_wayOf_0 12 rfl rfl)
theorem dX2_wayOf_13 : decode cX2_wayOf 13 = .ok (.getfield 20, 3) := dk_180 0 20 (dk_at dksX2_wayOf_0 13 rfl rfl)
theorem dX2_wayOf_16 : decode cX2_wayOf 16 = .ok (.iload_n 3, 1) := dk_29 (dk_at dksX2_wayOf_0 16 rfl rfl)
theorem dX2_wayOf_17 : decode cX2_wayOf 17 = .ok (.iload_n 1, 1) := dk_27 (dk_at dksX2_wayOf_0 17 rfl rfl)
theorem dX2_wayOf_18 : decode cX2_wayOf 18 = .ok (.iload_n 2, 1) := dk_28 (dk_at dksX2_wayOf_0 18 rfl rfl)
theorem dX2_wayOf_19 : decode cX2_wayOf 19 = .ok (.invokestatic 230, 3) := dk_184 0 230 (dk_at dksX2_wayOf_0 19 rfl rfl)
theorem dX2_wayOf_22 : decode cX2_wayOf 22 = .ok (.ifCond .eq 13, 3) := dk_153 0 13 (dk_at dksX2_wayOf_1 0 rfl rfl)
theorem dX2_wayOf_25 : decode cX2_wayOf 25 = .ok (.aload_n 0, 1) := dk_42 (dk_at dksX2_wayOf_1 3 rfl rfl)
theorem dX2_wayOf_26 : decode cX2_wayOf 26 = .ok (.iload_n 3, 1) := dk_29 (dk_at dksX2_wayOf_1 4 rfl rfl)
theorem dX2_wayOf_27 : decode cX2_wayOf 27 = .ok (.invokevirtual 302, 3) := dk_182 1 46 (dk_at dksX2_wayOf_1 5 rfl rfl)
theorem dX2_wayOf_30 : decode cX2_wayOf 30 = .ok (.ifCond .ne 5, 3) := dk_154 0 5 (dk_at dksX2_wayOf_1 8 rfl rfl)
theorem dX2_wayOf_33 : decode cX2_wayOf 33 = .ok (.iload_n 3, 1) := dk_29 (dk_at dksX2_wayOf_1 11 rfl rfl)
theorem dX2_wayOf_34 : decode cX2_wayOf 34 = .ok (.ireturn, 1) := dk_172 (dk_at dksX2_wayOf_1 12 rfl rfl)
theorem dX2_wayOf_35 : decode cX2_wayOf 35 = .ok (.iinc 3 1, 3) := dk_132 3 1 (dk_at dksX2_wayOf_1 13 rfl rfl)
theorem dX2_wayOf_38 : decode cX2_wayOf 38 = .ok (.goto (-36), 3) := dk_167 255 220 (dk_at dksX2_wayOf_1 16 rfl rfl)
theorem dX2_wayOf_41 : decode cX2_wayOf 41 = .ok (.iconst (-1), 1) := dk_2 (dk_at dksX2_wayOf_1 19 rfl rfl)
theorem dX2_wayOf_42 : decode cX2_wayOf 42 = .ok (.ireturn, 1) := dk_172 (dk_at dksX2_wayOf_1 20 rfl rfl)
abbrev cX2_isClosed : ByteArray := prog_16_method_58_code
def yX2_isClosed : MethodName := ⟨RX2, "isClosed", "(I)Z"⟩
def dkwX2_isClosed_0 : List UInt8 := [42, 180, 0, 26, 4, 46, 27, 184, 1, 42, 172]
abbrev dktX2_isClosed_0 : List UInt8 := dkwX2_isClosed_0 ++ []
theorem dksX2_isClosed_0 : cX2_isClosed.data.toList.drop 0 = dktX2_isClosed_0 := by decide +kernel
theorem dX2_isClosed_0 : decode cX2_isClosed 0 = .ok (.aload_n 0, 1) := dk_42 (dk_at dksX2_isClosed_0 0 rfl rfl)
theorem dX2_isClosed_1 : decode cX2_isClosed 1 = .ok (.getfield 26, 3) := dk_180 0 26 (dk_at dksX2_isClosed_0 1 rfl rfl)
theorem dX2_isClosed_4 : decode cX2_isClosed 4 = .ok (.iconst 1, 1) := dk_4 (dk_at dksX2_isClosed_0 4 rfl rfl)
theorem dX2_isClosed_5 : decode cX2_isClosed 5 = .ok (.iaload, 1) := dk_46 (dk_at dksX2_isClosed_0 5 rfl rfl)
theorem dX2_isClosed_6 : decode cX2_isClosed 6 = .ok (.iload_n 1, 1) := dk_27 (dk_at dksX2_isClosed_0 6 rfl rfl)
theorem dX2_isClosed_7 : decode cX2_isClosed 7 = .ok (.invokestatic 298, 3) := dk_184 1 42 (dk_at dksX2_isClosed_0 7 rfl rfl)
theorem dX2_isClosed_10 : decode cX2_isClosed 10 = .ok (.ireturn, 1) := dk_172 (dk_at dksX2_isClosed_0 10 rfl rfl)
abbrev cX2_hasBit : ByteArray := prog_16_method_7_code
def yX2_hasBit : MethodName := ⟨RX2, "hasBit", "(II)Z"⟩
def dkwX2_hasBit_0 : List UInt8 := [26, 27, 122, 4, 126, 4, 160, 0, 7, 4, 167, 0, 4, 3, 172]
abbrev dktX2_hasBit_0 : List UInt8 := dkwX2_hasBit_0 ++ []
theorem dksX2_hasBit_0 : cX2_hasBit.data.toList.drop 0 = dktX2_hasBit_0 := by decide +kernel
theorem dX2_hasBit_0 : decode cX2_hasBit 0 = .ok (.iload_n 0, 1) := dk_26 (dk_at dksX2_hasBit_0 0 rfl rfl)
theorem dX2_hasBit_1 : decode cX2_hasBit 1 = .ok (.iload_n 1, 1) := dk_27 (dk_at dksX2_hasBit_0 1 rfl rfl)
theorem dX2_hasBit_2 : decode cX2_hasBit 2 = .ok (.ishr, 1) := dk_122 (dk_at dksX2_hasBit_0 2 rfl rfl)
theorem dX2_hasBit_3 : decode cX2_hasBit 3 = .ok (.iconst 1, 1) := dk_4 (dk_at dksX2_hasBit_0 3 rfl rfl)
theorem dX2_hasBit_4 : decode cX2_hasBit 4 = .ok (.iand, 1) := dk_126 (dk_at dksX2_hasBit_0 4 rfl rfl)
theorem dX2_hasBit_5 : decode cX2_hasBit 5 = .ok (.iconst 1, 1) := dk_4 (dk_at dksX2_hasBit_0 5 rfl rfl)
theorem dX2_hasBit_6 : decode cX2_hasBit 6 = .ok (.if_icmp .ne 7, 3) := dk_160 0 7 (dk_at dksX2_hasBit_0 6 rfl rfl)
theorem dX2_hasBit_9 : decode cX2_hasBit 9 = .ok (.iconst 1, 1) := dk_4 (dk_at dksX2_hasBit_0 9 rfl rfl)
theorem dX2_hasBit_10 : decode cX2_hasBit 10 = .ok (.goto 4, 3) := dk_167 0 4 (dk_at dksX2_hasBit_0 10 rfl rfl)
theorem dX2_hasBit_13 : decode cX2_hasBit 13 = .ok (.iconst 0, 1) := dk_3 (dk_at dksX2_hasBit_0 13 rfl rfl)
theorem dX2_hasBit_14 : decode cX2_hasBit 14 = .ok (.ireturn, 1) := dk_172 (dk_at dksX2_hasBit_0 14 rfl rfl)
abbrev cX2_near : ByteArray := prog_16_method_62_code
def yX2_near : MethodName := ⟨RX2, "nea\x72", "(I)I"⟩
def dkwX2_near_1 : List UInt8 := [182, 0, 170, 172]
abbrev dktX2_near_1 : List UInt8 := dkwX2_near_1 ++ []
def dkwX2_near_0 : List UInt8 := [42, 182, 0, 167, 42, 27, 182, 1, 18, 153, 0, 12, 42, 27, 3, 182, 1, 52, 167, 0, 8, 42, 4]
abbrev dktX2_near_0 : List UInt8 := dkwX2_near_0 ++ dktX2_near_1
theorem dksX2_near_0 : cX2_near.data.toList.drop 0 = dktX2_near_0 := by decide +kernel
theorem dksX2_near_1 : cX2_near.data.toList.drop 23 = dktX2_near_1 := dk_seg dksX2_near_0 23 rfl rfl
theorem dX2_near_0 : decode cX2_near 0 = .ok (.aload_n 0, 1) := dk_42 (dk_at dksX2_near_0 0 rfl rfl)
theorem dX2_near_1 : decode cX2_near 1 = .ok (.invokevirtual 167, 3) := dk_182 0 167 (dk_at dksX2_near_0 1 rfl rfl)
theorem dX2_near_4 : decode cX2_near 4 = .ok (.aload_n 0, 1) := dk_42 (dk_at dksX2_near_0 4 rfl rfl)
theorem dX2_near_5 : decode cX2_near 5 = .ok (.iload_n 1, 1) := dk_27 (dk_at dksX2_near_0 5 rfl rfl)
theorem dX2_near_6 : decode cX2_near 6 = .ok (.invokevirtual 274, 3) := dk_182 1 18 (dk_at dksX2_near_0 6 rfl rfl)
theorem dX2_near_9 : decode cX2_near 9 = .ok (.ifCond .eq 12, 3) := dk_153 0 12 (dk_at dksX2_near_0 9 rfl rfl)
theorem dX2_near_12 : decode cX2_near 12 = .ok (.aload_n 0, 1) := dk_42 (dk_at dksX2_near_0 12 rfl rfl)
theorem dX2_near_13 : decode cX2_near 13 = .ok (.iload_n 1, 1) := dk_27 (dk_at dksX2_near_0 13 rfl rfl)
theorem dX2_near_14 : decode cX2_near 14 = .ok (.iconst 0, 1) := dk_3 (dk_at dksX2_near_0 14 rfl rfl)
theorem dX2_near_15 : decode cX2_near 15 = .ok (.invokevirtual 308, 3) := dk_182 1 52 (dk_at dksX2_near_0 15 rfl rfl)
theorem dX2_near_18 : decode cX2_near 18 = .ok (.goto 8, 3) := dk_167 0 8 (dk_at dksX2_near_0 18 rfl rfl)
theorem dX2_near_21 : decode cX2_near 21 = .ok (.aload_n 0, 1) := dk_42 (dk_at dksX2_near_0 21 rfl rfl)
theorem dX2_near_22 : decode cX2_near 22 = .ok (.iconst 1, 1) := dk_4 (dk_at dksX2_near_0 22 rfl rfl)
theorem dX2_near_23 : decode cX2_near 23 = .ok (.invokevirtual 170, 3) := dk_182 0 170 (dk_at dksX2_near_1 0 rfl rfl)
theorem dX2_near_26 : decode cX2_near 26 = .ok (.ireturn, 1) := dk_172 (dk_at dksX2_near_1 3 rfl rfl)
abbrev cX2_nearOf : ByteArray := prog_16_method_61_code
def yX2_nearOf : MethodName := ⟨RX2, "nearOf", "(IZ)I"⟩
def dkwX2_nearOf_4 : List UInt8 := [132, 5, 1, 167, 255, 168, 28, 153, 0, 8, 21, 4, 167, 0, 4, 29, 172]
abbrev dktX2_nearOf_4 : List UInt8 := dkwX2_nearOf_4 ++ []
def dkwX2_nearOf_3 : List UInt8 := [21, 4, 4, 96, 167, 0, 5, 21, 4, 54, 4, 21, 6, 29, 162, 0, 8, 21, 6, 167, 0, 4, 29, 62]
abbrev dktX2_nearOf_3 : List UInt8 := dkwX2_nearOf_3 ++ dktX2_nearOf_4
def dkwX2_nearOf_2 : List UInt8 := [2, 3, 182, 1, 31, 54, 6, 21, 6, 29, 162, 0, 7, 4, 167, 0, 18, 21, 6, 29, 160, 0, 10]
abbrev dktX2_nearOf_2 : List UInt8 := dkwX2_nearOf_2 ++ dktX2_nearOf_3
def dkwX2_nearOf_1 : List UInt8 := [182, 1, 9, 42, 27, 182, 1, 28, 159, 0, 6, 167, 0, 60, 42, 27, 21, 5, 42, 180, 0, 26, 3, 46]
abbrev dktX2_nearOf_1 : List UInt8 := dkwX2_nearOf_1 ++ dktX2_nearOf_2
def dkwX2_nearOf_0 : List UInt8 := [16, 7, 62, 3, 54, 4, 3, 54, 5, 21, 5, 42, 180, 0, 20, 7, 46, 162, 0, 83, 42, 21, 5]
abbrev dktX2_nearOf_0 : List UInt8 := dkwX2_nearOf_0 ++ dktX2_nearOf_1
theorem dksX2_nearOf_0 : cX2_nearOf.data.toList.drop 0 = dktX2_nearOf_0 := by decide +kernel
theorem dksX2_nearOf_1 : cX2_nearOf.data.toList.drop 23 = dktX2_nearOf_1 := dk_seg dksX2_nearOf_0 23 rfl rfl
theorem dksX2_nearOf_2 : cX2_nearOf.data.toList.drop 47 = dktX2_nearOf_2 := dk_seg dksX2_nearOf_1 24 rfl rfl
theorem dksX2_nearOf_3 : cX2_nearOf.data.toList.drop 70 = dktX2_nearOf_3 := dk_seg dksX2_nearOf_2 23 rfl rfl
theorem dksX2_nearOf_4 : cX2_nearOf.data.toList.drop 94 = dktX2_nearOf_4 := dk_seg dksX2_nearOf_3 24 rfl rfl
theorem dX2_nearOf_0 : decode cX2_nearOf 0 = .ok (.bipush 7, 2) := dk_16 7 (dk_at dksX2_nearOf_0 0 rfl rfl)
theorem dX2_nearOf_2 : decode cX2_nearOf 2 = .ok (.istore_n 3, 1) := dk_62 (dk_at dksX2_nearOf_0 2 rfl rfl)
theorem dX2_nearOf_3 : decode cX2_nearOf 3 = .ok (.iconst 0, 1) := dk_3 (dk_at dksX2_nearOf_0 3 rfl rfl)
theorem dX2_nearOf_4 : decode cX2_nearOf 4 = .ok (.istore 4, 2) := dk_54 4 (dk_at dksX2_nearOf_0 4 rfl rfl)
theorem dX2_nearOf_6 : decode cX2_nearOf 6 = .ok (.iconst 0, 1) := dk_3 (dk_at dksX2_nearOf_0 6 rfl rfl)
theorem dX2_nearOf_7 : decode cX2_nearOf 7 = .ok (.istore 5, 2) := dk_54 5 (dk_at dksX2_nearOf_0 7 rfl rfl)
theorem dX2_nearOf_9 : decode cX2_nearOf 9 = .ok (.iload 5, 2) := dk_21 5 (dk_at dksX2_nearOf_0 9 rfl rfl)
theorem dX2_nearOf_11 : decode cX2_nearOf 11 = .ok (.aload_n 0, 1) := dk_42 (dk_at dksX2_nearOf_0 11 rfl rfl)
theorem dX2_nearOf_12 : decode cX2_nearOf 12 = .ok (.getfield 20, 3) := dk_180 0 20 (dk_at dksX2_nearOf_0 12 rfl rfl)
theorem dX2_nearOf_15 : decode cX2_nearOf 15 = .ok (.iconst 4, 1) := dk_7 (dk_at dksX2_nearOf_0 15 rfl rfl)
theorem dX2_nearOf_16 : decode cX2_nearOf 16 = .ok (.iaload, 1) := dk_46 (dk_at dksX2_nearOf_0 16 rfl rfl)
theorem dX2_nearOf_17 : decode cX2_nearOf 17 = .ok (.if_icmp .ge 83, 3) := dk_162 0 83 (dk_at dksX2_nearOf_0 17 rfl rfl)
theorem dX2_nearOf_20 : decode cX2_nearOf 20 = .ok (.aload_n 0, 1) := dk_42 (dk_at dksX2_nearOf_0 20 rfl rfl)
theorem dX2_nearOf_21 : decode cX2_nearOf 21 = .ok (.iload 5, 2) := dk_21 5 (dk_at dksX2_nearOf_0 21 rfl rfl)
theorem dX2_nearOf_23 : decode cX2_nearOf 23 = .ok (.invokevirtual 265, 3) := dk_182 1 9 (dk_at dksX2_nearOf_1 0 rfl rfl)
theorem dX2_nearOf_26 : decode cX2_nearOf 26 = .ok (.aload_n 0, 1) := dk_42 (dk_at dksX2_nearOf_1 3 rfl rfl)
theorem dX2_nearOf_27 : decode cX2_nearOf 27 = .ok (.iload_n 1, 1) := dk_27 (dk_at dksX2_nearOf_1 4 rfl rfl)
theorem dX2_nearOf_28 : decode cX2_nearOf 28 = .ok (.invokevirtual 284, 3) := dk_182 1 28 (dk_at dksX2_nearOf_1 5 rfl rfl)
theorem dX2_nearOf_31 : decode cX2_nearOf 31 = .ok (.if_icmp .eq 6, 3) := dk_159 0 6 (dk_at dksX2_nearOf_1 8 rfl rfl)
theorem dX2_nearOf_34 : decode cX2_nearOf 34 = .ok (.goto 60, 3) := dk_167 0 60 (dk_at dksX2_nearOf_1 11 rfl rfl)
theorem dX2_nearOf_37 : decode cX2_nearOf 37 = .ok (.aload_n 0, 1) := dk_42 (dk_at dksX2_nearOf_1 14 rfl rfl)
theorem dX2_nearOf_38 : decode cX2_nearOf 38 = .ok (.iload_n 1, 1) := dk_27 (dk_at dksX2_nearOf_1 15 rfl rfl)
theorem dX2_nearOf_39 : decode cX2_nearOf 39 = .ok (.iload 5, 2) := dk_21 5 (dk_at dksX2_nearOf_1 16 rfl rfl)
theorem dX2_nearOf_41 : decode cX2_nearOf 41 = .ok (.aload_n 0, 1) := dk_42 (dk_at dksX2_nearOf_1 18 rfl rfl)
theorem dX2_nearOf_42 : decode cX2_nearOf 42 = .ok (.getfield 26, 3) := dk_180 0 26 (dk_at dksX2_nearOf_1 19 rfl rfl)
theorem dX2_nearOf_45 : decode cX2_nearOf 45 = .ok (.iconst 0, 1) := dk_3 (dk_at dksX2_nearOf_1 22 rfl rfl)
theorem dX2_nearOf_46 : decode cX2_nearOf 46 = .ok (.iaload, 1) := dk_46 (dk_at dksX2_nearOf_1 23 rfl rfl)
theorem dX2_nearOf_47 : decode cX2_nearOf 47 = .ok (.iconst (-1), 1) := dk_2 (dk_at dksX2_nearOf_2 0 rfl rfl)
theorem dX2_nearOf_48 : decode cX2_nearOf 48 = .ok (.iconst 0, 1) := dk_3 (dk_at dksX2_nearOf_2 1 rfl rfl)
theorem dX2_nearOf_49 : decode cX2_nearOf 49 = .ok (.invokevirtual 287, 3) := dk_182 1 31 (dk_at dksX2_nearOf_2 2 rfl rfl)
theorem dX2_nearOf_52 : decode cX2_nearOf 52 = .ok (.istore 6, 2) := dk_54 6 (dk_at dksX2_nearOf_2 5 rfl rfl)
theorem dX2_nearOf_54 : decode cX2_nearOf 54 = .ok (.iload 6, 2) := dk_21 6 (dk_at dksX2_nearOf_2 7 rfl rfl)
theorem dX2_nearOf_56 : decode cX2_nearOf 56 = .ok (.iload_n 3, 1) := dk_29 (dk_at dksX2_nearOf_2 9 rfl rfl)
theorem dX2_nearOf_57 : decode cX2_nearOf 57 = .ok (.if_icmp .ge 7, 3) := dk_162 0 7 (dk_at dksX2_nearOf_2 10 rfl rfl)
theorem dX2_nearOf_60 : decode cX2_nearOf 60 = .ok (.iconst 1, 1) := dk_4 (dk_at dksX2_nearOf_2 13 rfl rfl)
theorem dX2_nearOf_61 : decode cX2_nearOf 61 = .ok (.goto 18, 3) := dk_167 0 18 (dk_at dksX2_nearOf_2 14 rfl rfl)
theorem dX2_nearOf_64 : decode cX2_nearOf 64 = .ok (.iload 6, 2) := dk_21 6 (dk_at dksX2_nearOf_2 17 rfl rfl)
theorem dX2_nearOf_66 : decode cX2_nearOf 66 = .ok (.iload_n 3, 1) := dk_29 (dk_at dksX2_nearOf_2 19 rfl rfl)
theorem dX2_nearOf_67 : decode cX2_nearOf 67 = .ok (.if_icmp .ne 10, 3) := dk_160 0 10 (dk_at dksX2_nearOf_2 20 rfl rfl)
theorem dX2_nearOf_70 : decode cX2_nearOf 70 = .ok (.iload 4, 2) := dk_21 4 (dk_at dksX2_nearOf_3 0 rfl rfl)
theorem dX2_nearOf_72 : decode cX2_nearOf 72 = .ok (.iconst 1, 1) := dk_4 (dk_at dksX2_nearOf_3 2 rfl rfl)
theorem dX2_nearOf_73 : decode cX2_nearOf 73 = .ok (.iadd, 1) := dk_96 (dk_at dksX2_nearOf_3 3 rfl rfl)
theorem dX2_nearOf_74 : decode cX2_nearOf 74 = .ok (.goto 5, 3) := dk_167 0 5 (dk_at dksX2_nearOf_3 4 rfl rfl)
theorem dX2_nearOf_77 : decode cX2_nearOf 77 = .ok (.iload 4, 2) := dk_21 4 (dk_at dksX2_nearOf_3 7 rfl rfl)
theorem dX2_nearOf_79 : decode cX2_nearOf 79 = .ok (.istore 4, 2) := dk_54 4 (dk_at dksX2_nearOf_3 9 rfl rfl)
theorem dX2_nearOf_81 : decode cX2_nearOf 81 = .ok (.iload 6, 2) := dk_21 6 (dk_at dksX2_nearOf_3 11 rfl rfl)
theorem dX2_nearOf_83 : decode cX2_nearOf 83 = .ok (.iload_n 3, 1) := dk_29 (dk_at dksX2_nearOf_3 13 rfl rfl)
theorem dX2_nearOf_84 : decode cX2_nearOf 84 = .ok (.if_icmp .ge 8, 3) := dk_162 0 8 (dk_at dksX2_nearOf_3 14 rfl rfl)
theorem dX2_nearOf_87 : decode cX2_nearOf 87 = .ok (.iload 6, 2) := dk_21 6 (dk_at dksX2_nearOf_3 17 rfl rfl)
theorem dX2_nearOf_89 : decode cX2_nearOf 89 = .ok (.goto 4, 3) := dk_167 0 4 (dk_at dksX2_nearOf_3 19 rfl rfl)
theorem dX2_nearOf_92 : decode cX2_nearOf 92 = .ok (.iload_n 3, 1) := dk_29 (dk_at dksX2_nearOf_3 22 rfl rfl)
theorem dX2_nearOf_93 : decode cX2_nearOf 93 = .ok (.istore_n 3, 1) := dk_62 (dk_at dksX2_nearOf_3 23 rfl rfl)
theorem dX2_nearOf_94 : decode cX2_nearOf 94 = .ok (.iinc 5 1, 3) := dk_132 5 1 (dk_at dksX2_nearOf_4 0 rfl rfl)
theorem dX2_nearOf_97 : decode cX2_nearOf 97 = .ok (.goto (-88), 3) := dk_167 255 168 (dk_at dksX2_nearOf_4 3 rfl rfl)
theorem dX2_nearOf_100 : decode cX2_nearOf 100 = .ok (.iload_n 2, 1) := dk_28 (dk_at dksX2_nearOf_4 6 rfl rfl)
theorem dX2_nearOf_101 : decode cX2_nearOf 101 = .ok (.ifCond .eq 8, 3) := dk_153 0 8 (dk_at dksX2_nearOf_4 7 rfl rfl)
theorem dX2_nearOf_104 : decode cX2_nearOf 104 = .ok (.iload 4, 2) := dk_21 4 (dk_at dksX2_nearOf_4 10 rfl rfl)
theorem dX2_nearOf_106 : decode cX2_nearOf 106 = .ok (.goto 4, 3) := dk_167 0 4 (dk_at dksX2_nearOf_4 12 rfl rfl)
theorem dX2_nearOf_109 : decode cX2_nearOf 109 = .ok (.iload_n 3, 1) := dk_29 (dk_at dksX2_nearOf_4 15 rfl rfl)
theorem dX2_nearOf_110 : decode cX2_nearOf 110 = .ok (.ireturn, 1) := dk_172 (dk_at dksX2_nearOf_4 16 rfl rfl)
abbrev cX2_asNear : ByteArray := prog_16_method_63_code
def yX2_asNear : MethodName := ⟨RX2, "asNea\x72", "(I)I"⟩
def dkwX2_asNear_1 : List UInt8 := [182, 0, 170, 172]
abbrev dktX2_asNear_1 : List UInt8 := dkwX2_asNear_1 ++ []
def dkwX2_asNear_0 : List UInt8 := [42, 182, 0, 167, 42, 27, 182, 1, 18, 153, 0, 12, 42, 27, 4, 182, 1, 52, 167, 0, 8, 42, 4]
abbrev dktX2_asNear_0 : List UInt8 := dkwX2_asNear_0 ++ dktX2_asNear_1
theorem dksX2_asNear_0 : cX2_asNear.data.toList.drop 0 = dktX2_asNear_0 := by decide +kernel
theorem dksX2_asNear_1 : cX2_asNear.data.toList.drop 23 = dktX2_asNear_1 := dk_seg dksX2_asNear_0 23 rfl rfl
theorem dX2_asNear_0 : decode cX2_asNear 0 = .ok (.aload_n 0, 1) := dk_42 (dk_at dksX2_asNear_0 0 rfl rfl)
theorem dX2_asNear_1 : decode cX2_asNear 1 = .ok (.invokevirtual 167, 3) := dk_182 0 167 (dk_at dksX2_asNear_0 1 rfl rfl)
theorem dX2_asNear_4 : decode cX2_asNear 4 = .ok (.aload_n 0, 1) := dk_42 (dk_at dksX2_asNear_0 4 rfl rfl)
theorem dX2_asNear_5 : decode cX2_asNear 5 = .ok (.iload_n 1, 1) := dk_27 (dk_at dksX2_asNear_0 5 rfl rfl)
theorem dX2_asNear_6 : decode cX2_asNear 6 = .ok (.invokevirtual 274, 3) := dk_182 1 18 (dk_at dksX2_asNear_0 6 rfl rfl)
theorem dX2_asNear_9 : decode cX2_asNear 9 = .ok (.ifCond .eq 12, 3) := dk_153 0 12 (dk_at dksX2_asNear_0 9 rfl rfl)
theorem dX2_asNear_12 : decode cX2_asNear 12 = .ok (.aload_n 0, 1) := dk_42 (dk_at dksX2_asNear_0 12 rfl rfl)
theorem dX2_asNear_13 : decode cX2_asNear 13 = .ok (.iload_n 1, 1) := dk_27 (dk_at dksX2_asNear_0 13 rfl rfl)
theorem dX2_asNear_14 : decode cX2_asNear 14 = .ok (.iconst 1, 1) := dk_4 (dk_at dksX2_asNear_0 14 rfl rfl)
theorem dX2_asNear_15 : decode cX2_asNear 15 = .ok (.invokevirtual 308, 3) := dk_182 1 52 (dk_at dksX2_asNear_0 15 rfl rfl)
theorem dX2_asNear_18 : decode cX2_asNear 18 = .ok (.goto 8, 3) := dk_167 0 8 (dk_at dksX2_asNear_0 18 rfl rfl)
theorem dX2_asNear_21 : decode cX2_asNear 21 = .ok (.aload_n 0, 1) := dk_42 (dk_at dksX2_asNear_0 21 rfl rfl)
theorem dX2_asNear_22 : decode cX2_asNear 22 = .ok (.iconst 1, 1) := dk_4 (dk_at dksX2_asNear_0 22 rfl rfl)
theorem dX2_asNear_23 : decode cX2_asNear 23 = .ok (.invokevirtual 170, 3) := dk_182 0 170 (dk_at dksX2_asNear_1 0 rfl rfl)
theorem dX2_asNear_26 : decode cX2_asNear 26 = .ok (.ireturn, 1) := dk_172 (dk_at dksX2_asNear_1 3 rfl rfl)
abbrev cX2_sent : ByteArray := prog_16_method_64_code
def yX2_sent : MethodName := ⟨RX2, "sent", "(I)I"⟩
def dkwX2_sent_5 : List UInt8 := [100, 96, 61, 132, 3, 1, 167, 255, 165, 28, 172]
abbrev dktX2_sent_5 : List UInt8 := dkwX2_sent_5 ++ []
def dkwX2_sent_4 : List UInt8 := [167, 0, 25, 3, 167, 0, 21, 42, 180, 0, 26, 16, 12, 29, 96, 46, 4, 100, 42, 29, 6, 182, 1, 6]
abbrev dktX2_sent_4 : List UInt8 := dkwX2_sent_4 ++ dktX2_sent_5
def dkwX2_sent_3 : List UInt8 := [160, 0, 31, 42, 180, 0, 26, 16, 20, 29, 96, 46, 4, 100, 42, 29, 4, 182, 1, 6, 160, 0, 7, 4]
abbrev dktX2_sent_3 : List UInt8 := dkwX2_sent_3 ++ dktX2_sent_4
def dkwX2_sent_2 : List UInt8 := [16, 12, 29, 96, 46, 154, 0, 6, 167, 0, 65, 28, 27, 154, 0, 7, 4, 167, 0, 54, 27, 4]
abbrev dktX2_sent_2 : List UInt8 := dkwX2_sent_2 ++ dktX2_sent_3
def dkwX2_sent_1 : List UInt8 := [182, 0, 170, 172, 3, 61, 3, 62, 29, 42, 180, 0, 20, 16, 7, 46, 162, 0, 86, 42, 180, 0, 26]
abbrev dktX2_sent_1 : List UInt8 := dkwX2_sent_1 ++ dktX2_sent_2
def dkwX2_sent_0 : List UInt8 := [42, 182, 0, 167, 42, 180, 0, 180, 153, 0, 12, 27, 3, 5, 184, 0, 149, 154, 0, 9, 42, 4]
abbrev dktX2_sent_0 : List UInt8 := dkwX2_sent_0 ++ dktX2_sent_1
theorem dksX2_sent_0 : cX2_sent.data.toList.drop 0 = dktX2_sent_0 := by decide +kernel
theorem dksX2_sent_1 : cX2_sent.data.toList.drop 22 = dktX2_sent_1 := dk_seg dksX2_sent_0 22 rfl rfl
theorem dksX2_sent_2 : cX2_sent.data.toList.drop 45 = dktX2_sent_2 := dk_seg dksX2_sent_1 23 rfl rfl
theorem dksX2_sent_3 : cX2_sent.data.toList.drop 67 = dktX2_sent_3 := dk_seg dksX2_sent_2 22 rfl rfl
theorem dksX2_sent_4 : cX2_sent.data.toList.drop 91 = dktX2_sent_4 := dk_seg dksX2_sent_3 24 rfl rfl
theorem dksX2_sent_5 : cX2_sent.data.toList.drop 115 = dktX2_sent_5 := dk_seg dksX2_sent_4 24 rfl rfl
theorem dX2_sent_0 : decode cX2_sent 0 = .ok (.aload_n 0, 1) := dk_42 (dk_at dksX2_sent_0 0 rfl rfl)
theorem dX2_sent_1 : decode cX2_sent 1 = .ok (.invokevirtual 167, 3) := dk_182 0 167 (dk_at dksX2_sent_0 1 rfl rfl)
theorem dX2_sent_4 : decode cX2_sent 4 = .ok (.aload_n 0, 1) := dk_42 (dk_at dksX2_sent_0 4 rfl rfl)
theorem dX2_sent_5 : decode cX2_sent 5 = .ok (.getfield 180, 3) := dk_180 0 180 (dk_at dksX2_sent_0 5 rfl rfl)
theorem dX2_sent_8 : decode cX2_sent 8 = .ok (.ifCond .eq 12, 3) := dk_153 0 12 (dk_at dksX2_sent_0 8 rfl rfl)
theorem dX2_sent_11 : decode cX2_sent 11 = .ok (.iload_n 1, 1) := dk_27 (dk_at dksX2_sent_0 11 rfl rfl)
theorem dX2_sent_12 : decode cX2_sent 12 = .ok (.iconst 0, 1) := dk_3 (dk_at dksX2_sent_0 12 rfl rfl)
theorem dX2_sent_13 : decode cX2_sent 13 = .ok (.iconst 2, 1) := dk_5 (dk_at dksX2_sent_0 13 rfl rfl)
theorem dX2_sent_14 : decode cX2_sent 14 = .ok (.invokestatic 149, 3) := dk_184 0 149 (dk_at dksX2_sent_0 14 rfl rfl)
theorem dX2_sent_17 : decode cX2_sent 17 = .ok (.ifCond .ne 9, 3) := dk_154 0 9 (dk_at dksX2_sent_0 17 rfl rfl)
theorem dX2_sent_20 : decode cX2_sent 20 = .ok (.aload_n 0, 1) := dk_42 (dk_at dksX2_sent_0 20 rfl rfl)
theorem dX2_sent_21 : decode cX2_sent 21 = .ok (.iconst 1, 1) := dk_4 (dk_at dksX2_sent_0 21 rfl rfl)
theorem dX2_sent_22 : decode cX2_sent 22 = .ok (.invokevirtual 170, 3) := dk_182 0 170 (dk_at dksX2_sent_1 0 rfl rfl)
theorem dX2_sent_25 : decode cX2_sent 25 = .ok (.ireturn, 1) := dk_172 (dk_at dksX2_sent_1 3 rfl rfl)
theorem dX2_sent_26 : decode cX2_sent 26 = .ok (.iconst 0, 1) := dk_3 (dk_at dksX2_sent_1 4 rfl rfl)
theorem dX2_sent_27 : decode cX2_sent 27 = .ok (.istore_n 2, 1) := dk_61 (dk_at dksX2_sent_1 5 rfl rfl)
theorem dX2_sent_28 : decode cX2_sent 28 = .ok (.iconst 0, 1) := dk_3 (dk_at dksX2_sent_1 6 rfl rfl)
theorem dX2_sent_29 : decode cX2_sent 29 = .ok (.istore_n 3, 1) := dk_62 (dk_at dksX2_sent_1 7 rfl rfl)
theorem dX2_sent_30 : decode cX2_sent 30 = .ok (.iload_n 3, 1) := dk_29 (dk_at dksX2_sent_1 8 rfl rfl)
theorem dX2_sent_31 : decode cX2_sent 31 = .ok (.aload_n 0, 1) := dk_42 (dk_at dksX2_sent_1 9 rfl rfl)
theorem dX2_sent_32 : decode cX2_sent 32 = .ok (.getfield 20, 3) := dk_180 0 20 (dk_at dksX2_sent_1 10 rfl rfl)
theorem dX2_sent_35 : decode cX2_sent 35 = .ok (.bipush 7, 2) := dk_16 7 (dk_at dksX2_sent_1 13 rfl rfl)
theorem dX2_sent_37 : decode cX2_sent 37 = .ok (.iaload, 1) := dk_46 (dk_at dksX2_sent_1 15 rfl rfl)
theorem dX2_sent_38 : decode cX2_sent 38 = .ok (.if_icmp .ge 86, 3) := dk_162 0 86 (dk_at dksX2_sent_1 16 rfl rfl)
theorem dX2_sent_41 : decode cX2_sent 41 = .ok (.aload_n 0, 1) := dk_42 (dk_at dksX2_sent_1 19 rfl rfl)
theorem dX2_sent_42 : decode cX2_sent 42 = .ok (.getfield 26, 3) := dk_180 0 26 (dk_at dksX2_sent_1 20 rfl rfl)
theorem dX2_sent_45 : decode cX2_sent 45 = .ok (.bipush 12, 2) := dk_16 12 (dk_at dksX2_sent_2 0 rfl rfl)
theorem dX2_sent_47 : decode cX2_sent 47 = .ok (.iload_n 3, 1) := dk_29 (dk_at dksX2_sent_2 2 rfl rfl)
theorem dX2_sent_48 : decode cX2_sent 48 = .ok (.iadd, 1) := dk_96 (dk_at dksX2_sent_2 3 rfl rfl)
theorem dX2_sent_49 : decode cX2_sent 49 = .ok (.iaload, 1) := dk_46 (dk_at dksX2_sent_2 4 rfl rfl)
theorem dX2_sent_50 : decode cX2_sent 50 = .ok (.ifCond .ne 6, 3) := dk_154 0 6 (dk_at dksX2_sent_2 5 rfl rfl)
theorem dX2_sent_53 : decode cX2_sent 53 = .ok (.goto 65, 3) := dk_167 0 65 (dk_at dksX2_sent_2 8 rfl rfl)
theorem dX2_sent_56 : decode cX2_sent 56 = .ok (.iload_n 2, 1) := dk_28 (dk_at dksX2_sent_2 11 rfl rfl)
theorem dX2_sent_57 : decode cX2_sent 57 = .ok (.iload_n 1, 1) := dk_27 (dk_at dksX2_sent_2 12 rfl rfl)
theorem dX2_sent_58 : decode cX2_sent 58 = .ok (.ifCond .ne 7, 3) := dk_154 0 7 (dk_at dksX2_sent_2 13 rfl rfl)
theorem dX2_sent_61 : decode cX2_sent 61 = .ok (.iconst 1, 1) := dk_4 (dk_at dksX2_sent_2 16 rfl rfl)
theorem dX2_sent_62 : decode cX2_sent 62 = .ok (.goto 54, 3) := dk_167 0 54 (dk_at dksX2_sent_2 17 rfl rfl)
theorem dX2_sent_65 : decode cX2_sent 65 = .ok (.iload_n 1, 1) := dk_27 (dk_at dksX2_sent_2 20 rfl rfl)
theorem dX2_sent_66 : decode cX2_sent 66 = .ok (.iconst 1, 1) := dk_4 (dk_at dksX2_sent_2 21 rfl rfl)
theorem dX2_sent_67 : decode cX2_sent 67 = .ok (.if_icmp .ne 31, 3) := dk_160 0 31 (dk_at dksX2_sent_3 0 rfl rfl)
theorem dX2_sent_70 : decode cX2_sent 70 = .ok (.aload_n 0, 1) := dk_42 (dk_at dksX2_sent_3 3 rfl rfl)
theorem dX2_sent_71 : decode cX2_sent 71 = .ok (.getfield 26, 3) := dk_180 0 26 (dk_at dksX2_sent_3 4 rfl rfl)
theorem dX2_sent_74 : decode cX2_sent 74 = .ok (.bipush 20, 2) := dk_16 20 (dk_at dksX2_sent_3 7 rfl rfl)
theorem dX2_sent_76 : decode cX2_sent 76 = .ok (.iload_n 3, 1) := dk_29 (dk_at dksX2_sent_3 9 rfl rfl)
theorem dX2_sent_77 : decode cX2_sent 77 = .ok (.iadd, 1) := dk_96 (dk_at dksX2_sent_3 10 rfl rfl)
theorem dX2_sent_78 : decode cX2_sent 78 = .ok (.iaload, 1) := dk_46 (dk_at dksX2_sent_3 11 rfl rfl)
theorem dX2_sent_79 : decode cX2_sent 79 = .ok (.iconst 1, 1) := dk_4 (dk_at dksX2_sent_3 12 rfl rfl)
theorem dX2_sent_80 : decode cX2_sent 80 = .ok (.isub, 1) := dk_100 (dk_at dksX2_sent_3 13 rfl rfl)
theorem dX2_sent_81 : decode cX2_sent 81 = .ok (.aload_n 0, 1) := dk_42 (dk_at dksX2_sent_3 14 rfl rfl)
theorem dX2_sent_82 : decode cX2_sent 82 = .ok (.iload_n 3, 1) := dk_29 (dk_at dksX2_sent_3 15 rfl rfl)
theorem dX2_sent_83 : decode cX2_sent 83 = .ok (.iconst 1, 1) := dk_4 (dk_at dksX2_sent_3 16 rfl rfl)
theorem dX2_sent_84 : decode cX2_sent 84 = .ok (.invokevirtual 262, 3) := dk_182 1 6 (dk_at dksX2_sent_3 17 rfl rfl)
theorem dX2_sent_87 : decode cX2_sent 87 = .ok (.if_icmp .ne 7, 3) := dk_160 0 7 (dk_at dksX2_sent_3 20 rfl rfl)
theorem dX2_sent_90 : decode cX2_sent 90 = .ok (.iconst 1, 1) := dk_4 (dk_at dksX2_sent_3 23 rfl rfl)
theorem dX2_sent_91 : decode cX2_sent 91 = .ok (.goto 25, 3) := dk_167 0 25 (dk_at dksX2_sent_4 0 rfl rfl)
theorem dX2_sent_94 : decode cX2_sent 94 = .ok (.iconst 0, 1) := dk_3 (dk_at dksX2_sent_4 3 rfl rfl)
theorem dX2_sent_95 : decode cX2_sent 95 = .ok (.goto 21, 3) := dk_167 0 21 (dk_at dksX2_sent_4 4 rfl rfl)
theorem dX2_sent_98 : decode cX2_sent 98 = .ok (.aload_n 0, 1) := dk_42 (dk_at dksX2_sent_4 7 rfl rfl)
theorem dX2_sent_99 : decode cX2_sent 99 = .ok (.getfield 26, 3) := dk_180 0 26 (dk_at dksX2_sent_4 8 rfl rfl)
theorem dX2_sent_102 : decode cX2_sent 102 = .ok (.bipush 12, 2) := dk_16 12 (dk_at dksX2_sent_4 11 rfl rfl)
theorem dX2_sent_104 : decode cX2_sent 104 = .ok (.iload_n 3, 1) := dk_29 (dk_at dksX2_sent_4 13 rfl rfl)
theorem dX2_sent_105 : decode cX2_sent 105 = .ok (.iadd, 1) := dk_96 (dk_at dksX2_sent_4 14 rfl rfl)
theorem dX2_sent_106 : decode cX2_sent 106 = .ok (.iaload, 1) := dk_46 (dk_at dksX2_sent_4 15 rfl rfl)
theorem dX2_sent_107 : decode cX2_sent 107 = .ok (.iconst 1, 1) := dk_4 (dk_at dksX2_sent_4 16 rfl rfl)
theorem dX2_sent_108 : decode cX2_sent 108 = .ok (.isub, 1) := dk_100 (dk_at dksX2_sent_4 17 rfl rfl)
theorem dX2_sent_109 : decode cX2_sent 109 = .ok (.aload_n 0, 1) := dk_42 (dk_at dksX2_sent_4 18 rfl rfl)
theorem dX2_sent_110 : decode cX2_sent 110 = .ok (.iload_n 3, 1) := dk_29 (dk_at dksX2_sent_4 19 rfl rfl)
theorem dX2_sent_111 : decode cX2_sent 111 = .ok (.iconst 3, 1) := dk_6 (dk_at dksX2_sent_4 20 rfl rfl)
theorem dX2_sent_112 : decode cX2_sent 112 = .ok (.invokevirtual 262, 3) := dk_182 1 6 (dk_at dksX2_sent_4 21 rfl rfl)
theorem dX2_sent_115 : decode cX2_sent 115 = .ok (.isub, 1) := dk_100 (dk_at dksX2_sent_5 0 rfl rfl)
theorem dX2_sent_116 : decode cX2_sent 116 = .ok (.iadd, 1) := dk_96 (dk_at dksX2_sent_5 1 rfl rfl)
theorem dX2_sent_117 : decode cX2_sent 117 = .ok (.istore_n 2, 1) := dk_61 (dk_at dksX2_sent_5 2 rfl rfl)
theorem dX2_sent_118 : decode cX2_sent 118 = .ok (.iinc 3 1, 3) := dk_132 3 1 (dk_at dksX2_sent_5 3 rfl rfl)
theorem dX2_sent_121 : decode cX2_sent 121 = .ok (.goto (-91), 3) := dk_167 255 165 (dk_at dksX2_sent_5 6 rfl rfl)
theorem dX2_sent_124 : decode cX2_sent 124 = .ok (.iload_n 2, 1) := dk_28 (dk_at dksX2_sent_5 9 rfl rfl)
theorem dX2_sent_125 : decode cX2_sent 125 = .ok (.ireturn, 1) := dk_172 (dk_at dksX2_sent_5 10 rfl rfl)
abbrev cX2_apart : ByteArray := prog_16_method_66_code
def yX2_apart : MethodName := ⟨RX2, "apart", "(II)I"⟩
def dkwX2_apart_1 : List UInt8 := [182, 1, 56, 167, 0, 8, 42, 4, 182, 0, 170, 172]
abbrev dktX2_apart_1 : List UInt8 := dkwX2_apart_1 ++ []
def dkwX2_apart_0 : List UInt8 := [42, 182, 0, 167, 42, 27, 182, 1, 21, 153, 0, 20, 42, 28, 182, 1, 21, 153, 0, 12, 42, 27, 28]
abbrev dktX2_apart_0 : List UInt8 := dkwX2_apart_0 ++ dktX2_apart_1
theorem dksX2_apart_0 : cX2_apart.data.toList.drop 0 = dktX2_apart_0 := by decide +kernel
theorem dksX2_apart_1 : cX2_apart.data.toList.drop 23 = dktX2_apart_1 := dk_seg dksX2_apart_0 23 rfl rfl
theorem dX2_apart_0 : decode cX2_apart 0 = .ok (.aload_n 0, 1) := dk_42 (dk_at dksX2_apart_0 0 rfl rfl)
theorem dX2_apart_1 : decode cX2_apart 1 = .ok (.invokevirtual 167, 3) := dk_182 0 167 (dk_at dksX2_apart_0 1 rfl rfl)
theorem dX2_apart_4 : decode cX2_apart 4 = .ok (.aload_n 0, 1) := dk_42 (dk_at dksX2_apart_0 4 rfl rfl)
theorem dX2_apart_5 : decode cX2_apart 5 = .ok (.iload_n 1, 1) := dk_27 (dk_at dksX2_apart_0 5 rfl rfl)
theorem dX2_apart_6 : decode cX2_apart 6 = .ok (.invokevirtual 277, 3) := dk_182 1 21 (dk_at dksX2_apart_0 6 rfl rfl)
theorem dX2_apart_9 : decode cX2_apart 9 = .ok (.ifCond .eq 20, 3) := dk_153 0 20 (dk_at dksX2_apart_0 9 rfl rfl)
theorem dX2_apart_12 : decode cX2_apart 12 = .ok (.aload_n 0, 1) := dk_42 (dk_at dksX2_apart_0 12 rfl rfl)
theorem dX2_apart_13 : decode cX2_apart 13 = .ok (.iload_n 2, 1) := dk_28 (dk_at dksX2_apart_0 13 rfl rfl)
theorem dX2_apart_14 : decode cX2_apart 14 = .ok (.invokevirtual 277, 3) := dk_182 1 21 (dk_at dksX2_apart_0 14 rfl rfl)
theorem dX2_apart_17 : decode cX2_apart 17 = .ok (.ifCond .eq 12, 3) := dk_153 0 12 (dk_at dksX2_apart_0 17 rfl rfl)
theorem dX2_apart_20 : decode cX2_apart 20 = .ok (.aload_n 0, 1) := dk_42 (dk_at dksX2_apart_0 20 rfl rfl)
theorem dX2_apart_21 : decode cX2_apart 21 = .ok (.iload_n 1, 1) := dk_27 (dk_at dksX2_apart_0 21 rfl rfl)
theorem dX2_apart_22 : decode cX2_apart 22 = .ok (.iload_n 2, 1) := dk_28 (dk_at dksX2_apart_0 22 rfl rfl)
theorem dX2_apart_23 : decode cX2_apart 23 = .ok (.invokevirtual 312, 3) := dk_182 1 56 (dk_at dksX2_apart_1 0 rfl rfl)
theorem dX2_apart_26 : decode cX2_apart 26 = .ok (.goto 8, 3) := dk_167 0 8 (dk_at dksX2_apart_1 3 rfl rfl)
theorem dX2_apart_29 : decode cX2_apart 29 = .ok (.aload_n 0, 1) := dk_42 (dk_at dksX2_apart_1 6 rfl rfl)
theorem dX2_apart_30 : decode cX2_apart 30 = .ok (.iconst 1, 1) := dk_4 (dk_at dksX2_apart_1 7 rfl rfl)
theorem dX2_apart_31 : decode cX2_apart 31 = .ok (.invokevirtual 170, 3) := dk_182 0 170 (dk_at dksX2_apart_1 8 rfl rfl)
theorem dX2_apart_34 : decode cX2_apart 34 = .ok (.ireturn, 1) := dk_172 (dk_at dksX2_apart_1 11 rfl rfl)
abbrev cX2_apartOf : ByteArray := prog_16_method_65_code
def yX2_apartOf : MethodName := ⟨RX2, "apartOf", "(II)I"⟩
def dkwX2_apartOf_3 : List UInt8 := [167, 0, 4, 4, 96, 62, 132, 4, 1, 167, 255, 198, 29, 172]
abbrev dktX2_apartOf_3 : List UInt8 := dkwX2_apartOf_3 ++ []
def dkwX2_apartOf_2 : List UInt8 := [46, 42, 180, 0, 20, 16, 10, 16, 7, 28, 104, 96, 4, 96, 21, 4, 96, 46, 160, 0, 7, 3]
abbrev dktX2_apartOf_2 : List UInt8 := dkwX2_apartOf_2 ++ dktX2_apartOf_3
def dkwX2_apartOf_1 : List UInt8 := [27, 182, 1, 9, 162, 0, 54, 29, 42, 180, 0, 20, 16, 10, 16, 7, 27, 104, 96, 4, 96, 21, 4, 96]
abbrev dktX2_apartOf_1 : List UInt8 := dkwX2_apartOf_1 ++ dktX2_apartOf_2
def dkwX2_apartOf_0 : List UInt8 := [42, 27, 182, 1, 9, 42, 28, 182, 1, 9, 159, 0, 6, 16, 254, 172, 3, 62, 3, 54, 4, 21, 4, 42]
abbrev dktX2_apartOf_0 : List UInt8 := dkwX2_apartOf_0 ++ dktX2_apartOf_1
theorem dksX2_apartOf_0 : cX2_apartOf.data.toList.drop 0 = dktX2_apartOf_0 := by decide +kernel
theorem dksX2_apartOf_1 : cX2_apartOf.data.toList.drop 24 = dktX2_apartOf_1 := dk_seg dksX2_apartOf_0 24 rfl rfl
theorem dksX2_apartOf_2 : cX2_apartOf.data.toList.drop 48 = dktX2_apartOf_2 := dk_seg dksX2_apartOf_1 24 rfl rfl
theorem dksX2_apartOf_3 : cX2_apartOf.data.toList.drop 70 = dktX2_apartOf_3 := dk_seg dksX2_apartOf_2 22 rfl rfl
theorem dX2_apartOf_0 : decode cX2_apartOf 0 = .ok (.aload_n 0, 1) := dk_42 (dk_at dksX2_apartOf_0 0 rfl rfl)
theorem dX2_apartOf_1 : decode cX2_apartOf 1 = .ok (.iload_n 1, 1) := dk_27 (dk_at dksX2_apartOf_0 1 rfl rfl)
theorem dX2_apartOf_2 : decode cX2_apartOf 2 = .ok (.invokevirtual 265, 3) := dk_182 1 9 (dk_at dksX2_apartOf_0 2 rfl rfl)
theorem dX2_apartOf_5 : decode cX2_apartOf 5 = .ok (.aload_n 0, 1) := dk_42 (dk_at dksX2_apartOf_0 5 rfl rfl)
theorem dX2_apartOf_6 : decode cX2_apartOf 6 = .ok (.iload_n 2, 1) := dk_28 (dk_at dksX2_apartOf_0 6 rfl rfl)
theorem dX2_apartOf_7 : decode cX2_apartOf 7 = .ok (.invokevirtual 265, 3) := dk_182 1 9 (dk_at dksX2_apartOf_0 7 rfl rfl)
theorem dX2_apartOf_10 : decode cX2_apartOf 10 = .ok (.if_icmp .eq 6, 3) := dk_159 0 6 (dk_at dksX2_apartOf_0 10 rfl rfl)
theorem dX2_apartOf_13 : decode cX2_apartOf 13 = .ok (.bipush (-2), 2) := dk_16 254 (dk_at dksX2_apartOf_0 13 rfl rfl)
theorem dX2_apartOf_15 : decode cX2_apartOf 15 = .ok (.ireturn, 1) := dk_172 (dk_at dksX2_apartOf_0 15 rfl rfl)
theorem dX2_apartOf_16 : decode cX2_apartOf 16 = .ok (.iconst 0, 1) := dk_3 (dk_at dksX2_apartOf_0 16 rfl rfl)
theorem dX2_apartOf_17 : decode cX2_apartOf 17 = .ok (.istore_n 3, 1) := dk_62 (dk_at dksX2_apartOf_0 17 rfl rfl)
theorem dX2_apartOf_18 : decode cX2_apartOf 18 = .ok (.iconst 0, 1) := dk_3 (dk_at dksX2_apartOf_0 18 rfl rfl)
theorem dX2_apartOf_19 : decode cX2_apartOf 19 = .ok (.istore 4, 2) := dk_54 4 (dk_at dksX2_apartOf_0 19 rfl rfl)
theorem dX2_apartOf_21 : decode cX2_apartOf 21 = .ok (.iload 4, 2) := dk_21 4 (dk_at dksX2_apartOf_0 21 rfl rfl)
theorem dX2_apartOf_23 : decode cX2_apartOf 23 = .ok (.aload_n 0, 1) := dk_42 (dk_at dksX2_apartOf_0 23 rfl rfl)
theorem dX2_apartOf_24 : decode cX2_apartOf 24 = .ok (.iload_n 1, 1) := dk_27 (dk_at dksX2_apartOf_1 0 rfl rfl)
theorem dX2_apartOf_25 : decode cX2_apartOf 25 = .ok (.invokevirtual 265, 3) := dk_182 1 9 (dk_at dksX2_apartOf_1 1 rfl rfl)
theorem dX2_apartOf_28 : decode cX2_apartOf 28 = .ok (.if_icmp .ge 54, 3) := dk_162 0 54 (dk_at dksX2_apartOf_1 4 rfl rfl)
theorem dX2_apartOf_31 : decode cX2_apartOf 31 = .ok (.iload_n 3, 1) := dk_29 (dk_at dksX2_apartOf_1 7 rfl rfl)
theorem dX2_apartOf_32 : decode cX2_apartOf 32 = .ok (.aload_n 0, 1) := dk_42 (dk_at dksX2_apartOf_1 8 rfl rfl)
theorem dX2_apartOf_33 : decode cX2_apartOf 33 = .ok (.getfield 20, 3) := dk_180 0 20 (dk_at dksX2_apartOf_1 9 rfl rfl)
theorem dX2_apartOf_36 : decode cX2_apartOf 36 = .ok (.bipush 10, 2) := dk_16 10 (dk_at dksX2_apartOf_1 12 rfl rfl)
theorem dX2_apartOf_38 : decode cX2_apartOf 38 = .ok (.bipush 7, 2) := dk_16 7 (dk_at dksX2_apartOf_1 14 rfl rfl)
theorem dX2_apartOf_40 : decode cX2_apartOf 40 = .ok (.iload_n 1, 1) := dk_27 (dk_at dksX2_apartOf_1 16 rfl rfl)
theorem dX2_apartOf_41 : decode cX2_apartOf 41 = .ok (.imul, 1) := dk_104 (dk_at dksX2_apartOf_1 17 rfl rfl)
theorem dX2_apartOf_42 : decode cX2_apartOf 42 = .ok (.iadd, 1) := dk_96 (dk_at dksX2_apartOf_1 18 rfl rfl)
theorem dX2_apartOf_43 : decode cX2_apartOf 43 = .ok (.iconst 1, 1) := dk_4 (dk_at dksX2_apartOf_1 19 rfl rfl)
theorem dX2_apartOf_44 : decode cX2_apartOf 44 = .ok (.iadd, 1) := dk_96 (dk_at dksX2_apartOf_1 20 rfl rfl)
theorem dX2_apartOf_45 : decode cX2_apartOf 45 = .ok (.iload 4, 2) := dk_21 4 (dk_at dksX2_apartOf_1 21 rfl rfl)
theorem dX2_apartOf_47 : decode cX2_apartOf 47 = .ok (.iadd, 1) := dk_96 (dk_at dksX2_apartOf_1 23 rfl rfl)
theorem dX2_apartOf_48 : decode cX2_apartOf 48 = .ok (.iaload, 1) := dk_46 (dk_at dksX2_apartOf_2 0 rfl rfl)
theorem dX2_apartOf_49 : decode cX2_apartOf 49 = .ok (.aload_n 0, 1) := dk_42 (dk_at dksX2_apartOf_2 1 rfl rfl)
theorem dX2_apartOf_50 : decode cX2_apartOf 50 = .ok (.getfield 20, 3) := dk_180 0 20 (dk_at dksX2_apartOf_2 2 rfl rfl)
theorem dX2_apartOf_53 : decode cX2_apartOf 53 = .ok (.bipush 10, 2) := dk_16 10 (dk_at dksX2_apartOf_2 5 rfl rfl)
theorem dX2_apartOf_55 : decode cX2_apartOf 55 = .ok (.bipush 7, 2) := dk_16 7 (dk_at dksX2_apartOf_2 7 rfl rfl)
theorem dX2_apartOf_57 : decode cX2_apartOf 57 = .ok (.iload_n 2, 1) := dk_28 (dk_at dksX2_apartOf_2 9 rfl rfl)
theorem dX2_apartOf_58 : decode cX2_apartOf 58 = .ok (.imul, 1) := dk_104 (dk_at dksX2_apartOf_2 10 rfl rfl)
theorem dX2_apartOf_59 : decode cX2_apartOf 59 = .ok (.iadd, 1) := dk_96 (dk_at dksX2_apartOf_2 11 rfl rfl)
theorem dX2_apartOf_60 : decode cX2_apartOf 60 = .ok (.iconst 1, 1) := dk_4 (dk_at dksX2_apartOf_2 12 rfl rfl)
theorem dX2_apartOf_61 : decode cX2_apartOf 61 = .ok (.iadd, 1) := dk_96 (dk_at dksX2_apartOf_2 13 rfl rfl)
theorem dX2_apartOf_62 : decode cX2_apartOf 62 = .ok (.iload 4, 2) := dk_21 4 (dk_at dksX2_apartOf_2 14 rfl rfl)
theorem dX2_apartOf_64 : decode cX2_apartOf 64 = .ok (.iadd, 1) := dk_96 (dk_at dksX2_apartOf_2 16 rfl rfl)
theorem dX2_apartOf_65 : decode cX2_apartOf 65 = .ok (.iaload, 1) := dk_46 (dk_at dksX2_apartOf_2 17 rfl rfl)
theorem dX2_apartOf_66 : decode cX2_apartOf 66 = .ok (.if_icmp .ne 7, 3) := dk_160 0 7 (dk_at dksX2_apartOf_2 18 rfl rfl)
theorem dX2_apartOf_69 : decode cX2_apartOf 69 = .ok (.iconst 0, 1) := dk_3 (dk_at dksX2_apartOf_2 21 rfl rfl)
theorem dX2_apartOf_70 : decode cX2_apartOf 70 = .ok (.goto 4, 3) := dk_167 0 4 (dk_at dksX2_apartOf_3 0 rfl rfl)
theorem dX2_apartOf_73 : decode cX2_apartOf 73 = .ok (.iconst 1, 1) := dk_4 (dk_at dksX2_apartOf_3 3 rfl rfl)
theorem dX2_apartOf_74 : decode cX2_apartOf 74 = .ok (.iadd, 1) := dk_96 (dk_at dksX2_apartOf_3 4 rfl rfl)
theorem dX2_apartOf_75 : decode cX2_apartOf 75 = .ok (.istore_n 3, 1) := dk_62 (dk_at dksX2_apartOf_3 5 rfl rfl)
theorem dX2_apartOf_76 : decode cX2_apartOf 76 = .ok (.iinc 4 1, 3) := dk_132 4 1 (dk_at dksX2_apartOf_3 6 rfl rfl)
theorem dX2_apartOf_79 : decode cX2_apartOf 79 = .ok (.goto (-58), 3) := dk_167 255 198 (dk_at dksX2_apartOf_3 9 rfl rfl)
theorem dX2_apartOf_82 : decode cX2_apartOf 82 = .ok (.iload_n 3, 1) := dk_29 (dk_at dksX2_apartOf_3 12 rfl rfl)
theorem dX2_apartOf_83 : decode cX2_apartOf 83 = .ok (.ireturn, 1) := dk_172 (dk_at dksX2_apartOf_3 13 rfl rfl)
abbrev cX2_bear : ByteArray := prog_16_method_67_code
def yX2_bear : MethodName := ⟨RX2, "bea\x72", "()I"⟩
def dkwX2_bear_3 : List UInt8 := [132, 2, 1, 167, 255, 204, 27, 16, 6, 164, 0, 8, 16, 254, 167, 0, 8, 27, 4, 100, 5, 108, 172]
abbrev dktX2_bear_3 : List UInt8 := dkwX2_bear_3 ++ []
def dkwX2_bear_2 : List UInt8 := [42, 28, 29, 182, 1, 56, 27, 162, 0, 10, 42, 28, 29, 182, 1, 56, 60, 132, 3, 1, 167, 255, 222]
abbrev dktX2_bear_2 : List UInt8 := dkwX2_bear_2 ++ dktX2_bear_3
def dkwX2_bear_1 : List UInt8 := [180, 0, 20, 7, 46, 162, 0, 48, 3, 62, 29, 28, 162, 0, 35, 42, 28, 29, 182, 1, 56, 155, 0, 20]
abbrev dktX2_bear_1 : List UInt8 := dkwX2_bear_1 ++ dktX2_bear_2
def dkwX2_bear_0 : List UInt8 := [42, 182, 0, 167, 42, 180, 0, 180, 154, 0, 9, 42, 4, 182, 0, 170, 172, 16, 7, 60, 3, 61, 28, 42]
abbrev dktX2_bear_0 : List UInt8 := dkwX2_bear_0 ++ dktX2_bear_1
theorem dksX2_bear_0 : cX2_bear.data.toList.drop 0 = dktX2_bear_0 := by decide +kernel
theorem dksX2_bear_1 : cX2_bear.data.toList.drop 24 = dktX2_bear_1 := dk_seg dksX2_bear_0 24 rfl rfl
theorem dksX2_bear_2 : cX2_bear.data.toList.drop 48 = dktX2_bear_2 := dk_seg dksX2_bear_1 24 rfl rfl
theorem dksX2_bear_3 : cX2_bear.data.toList.drop 71 = dktX2_bear_3 := dk_seg dksX2_bear_2 23 rfl rfl
theorem dX2_bear_0 : decode cX2_bear 0 = .ok (.aload_n 0, 1) := dk_42 (dk_at dksX2_bear_0 0 rfl rfl)
theorem dX2_bear_1 : decode cX2_bear 1 = .ok (.invokevirtual 167, 3) := dk_182 0 167 (dk_at dksX2_bear_0 1 rfl rfl)
theorem dX2_bear_4 : decode cX2_bear 4 = .ok (.aload_n 0, 1) := dk_42 (dk_at dksX2_bear_0 4 rfl rfl)
theorem dX2_bear_5 : decode cX2_bear 5 = .ok (.getfield 180, 3) := dk_180 0 180 (dk_at dksX2_bear_0 5 rfl rfl)
theorem dX2_bear_8 : decode cX2_bear 8 = .ok (.ifCond .ne 9, 3) := dk_154 0 9 (dk_at dksX2_bear_0 8 rfl rfl)
theorem dX2_bear_11 : decode cX2_bear 11 = .ok (.aload_n 0, 1) := dk_42 (dk_at dksX2_bear_0 11 rfl rfl)
theorem dX2_bear_12 : decode cX2_bear 12 = .ok (.iconst 1, 1) := dk_4 (dk_at dksX2_bear_0 12 rfl rfl)
theorem dX2_bear_13 : decode cX2_bear 13 = .ok (.invokevirtual 170, 3) := dk_182 0 170 (dk_at dksX2_bear_0 13 rfl rfl)
theorem dX2_bear_16 : decode cX2_bear 16 = .ok (.ireturn, 1) := dk_172 (dk_at dksX2_bear_0 16 rfl rfl)
theorem dX2_bear_17 : decode cX2_bear 17 = .ok (.bipush 7, 2) := dk_16 7 (dk_at dksX2_bear_0 17 rfl rfl)
theorem dX2_bear_19 : decode cX2_bear 19 = .ok (.istore_n 1, 1) := dk_60 (dk_at dksX2_bear_0 19 rfl rfl)
theorem dX2_bear_20 : decode cX2_bear 20 = .ok (.iconst 0, 1) := dk_3 (dk_at dksX2_bear_0 20 rfl rfl)
theorem dX2_bear_21 : decode cX2_bear 21 = .ok (.istore_n 2, 1) := dk_61 (dk_at dksX2_bear_0 21 rfl rfl)
theorem dX2_bear_22 : decode cX2_bear 22 = .ok (.iload_n 2, 1) := dk_28 (dk_at dksX2_bear_0 22 rfl rfl)
theorem dX2_bear_23 : decode cX2_bear 23 = .ok (.aload_n 0, 1) := dk_42 (dk_at dksX2_bear_0 23 rfl rfl)
theorem dX2_bear_24 : decode cX2_bear 24 = .ok (.getfield 20, 3) := dk_180 0 20 (dk_at dksX2_bear_1 0 rfl rfl)
theorem dX2_bear_27 : decode cX2_bear 27 = .ok (.iconst 4, 1) := dk_7 (dk_at dksX2_bear_1 3 rfl rfl)
theorem dX2_bear_28 : decode cX2_bear 28 = .ok (.iaload, 1) := dk_46 (dk_at dksX2_bear_1 4 rfl rfl)
theorem dX2_bear_29 : decode cX2_bear 29 = .ok (.if_icmp .ge 48, 3) := dk_162 0 48 (dk_at dksX2_bear_1 5 rfl rfl)
theorem dX2_bear_32 : decode cX2_bear 32 = .ok (.iconst 0, 1) := dk_3 (dk_at dksX2_bear_1 8 rfl rfl)
theorem dX2_bear_33 : decode cX2_bear 33 = .ok (.istore_n 3, 1) := dk_62 (dk_at dksX2_bear_1 9 rfl rfl)
theorem dX2_bear_34 : decode cX2_bear 34 = .ok (.iload_n 3, 1) := dk_29 (dk_at dksX2_bear_1 10 rfl rfl)
theorem dX2_bear_35 : decode cX2_bear 35 = .ok (.iload_n 2, 1) := dk_28 (dk_at dksX2_bear_1 11 rfl rfl)
theorem dX2_bear_36 : decode cX2_bear 36 = .ok (.if_icmp .ge 35, 3) := dk_162 0 35 (dk_at dksX2_bear_1 12 rfl rfl)
theorem dX2_bear_39 : decode cX2_bear 39 = .ok (.aload_n 0, 1) := dk_42 (dk_at dksX2_bear_1 15 rfl rfl)
theorem dX2_bear_40 : decode cX2_bear 40 = .ok (.iload_n 2, 1) := dk_28 (dk_at dksX2_bear_1 16 rfl rfl)
theorem dX2_bear_41 : decode cX2_bear 41 = .ok (.iload_n 3, 1) := dk_29 (dk_at dksX2_bear_1 17 rfl rfl)
theorem dX2_bear_42 : decode cX2_bear 42 = .ok (.invokevirtual 312, 3) := dk_182 1 56 (dk_at dksX2_bear_1 18 rfl rfl)
theorem dX2_bear_45 : decode cX2_bear 45 = .ok (.ifCond .lt 20, 3) := dk_155 0 20 (dk_at dksX2_bear_1 21 rfl rfl)
theorem dX2_bear_48 : decode cX2_bear 48 = .ok (.aload_n 0, 1) := dk_42 (dk_at dksX2_bear_2 0 rfl rfl)
theorem dX2_bear_49 : decode cX2_bear 49 = .ok (.iload_n 2, 1) := dk_28 (dk_at dksX2_bear_2 1 rfl rfl)
theorem dX2_bear_50 : decode cX2_bear 50 = .ok (.iload_n 3, 1) := dk_29 (dk_at dksX2_bear_2 2 rfl rfl)
theorem dX2_bear_51 : decode cX2_bear 51 = .ok (.invokevirtual 312, 3) := dk_182 1 56 (dk_at dksX2_bear_2 3 rfl rfl)
theorem dX2_bear_54 : decode cX2_bear 54 = .ok (.iload_n 1, 1) := dk_27 (dk_at dksX2_bear_2 6 rfl rfl)
theorem dX2_bear_55 : decode cX2_bear 55 = .ok (.if_icmp .ge 10, 3) := dk_162 0 10 (dk_at dksX2_bear_2 7 rfl rfl)
theorem dX2_bear_58 : decode cX2_bear 58 = .ok (.aload_n 0, 1) := dk_42 (dk_at dksX2_bear_2 10 rfl rfl)
theorem dX2_bear_59 : decode cX2_bear 59 = .ok (.iload_n 2, 1) := dk_28 (dk_at dksX2_bear_2 11 rfl rfl)
theorem dX2_bear_60 : decode cX2_bear 60 = .ok (.iload_n 3, 1) := dk_29 (dk_at dksX2_bear_2 12 rfl rfl)
theorem dX2_bear_61 : decode cX2_bear 61 = .ok (.invokevirtual 312, 3) := dk_182 1 56 (dk_at dksX2_bear_2 13 rfl rfl)
theorem dX2_bear_64 : decode cX2_bear 64 = .ok (.istore_n 1, 1) := dk_60 (dk_at dksX2_bear_2 16 rfl rfl)
theorem dX2_bear_65 : decode cX2_bear 65 = .ok (.iinc 3 1, 3) := dk_132 3 1 (dk_at dksX2_bear_2 17 rfl rfl)
theorem dX2_bear_68 : decode cX2_bear 68 = .ok (.goto (-34), 3) := dk_167 255 222 (dk_at dksX2_bear_2 20 rfl rfl)
theorem dX2_bear_71 : decode cX2_bear 71 = .ok (.iinc 2 1, 3) := dk_132 2 1 (dk_at dksX2_bear_3 0 rfl rfl)
theorem dX2_bear_74 : decode cX2_bear 74 = .ok (.goto (-52), 3) := dk_167 255 204 (dk_at dksX2_bear_3 3 rfl rfl)
theorem dX2_bear_77 : decode cX2_bear 77 = .ok (.iload_n 1, 1) := dk_27 (dk_at dksX2_bear_3 6 rfl rfl)
theorem dX2_bear_78 : decode cX2_bear 78 = .ok (.bipush 6, 2) := dk_16 6 (dk_at dksX2_bear_3 7 rfl rfl)
theorem dX2_bear_80 : decode cX2_bear 80 = .ok (.if_icmp .le 8, 3) := dk_164 0 8 (dk_at dksX2_bear_3 9 rfl rfl)
theorem dX2_bear_83 : decode cX2_bear 83 = .ok (.bipush (-2), 2) := dk_16 254 (dk_at dksX2_bear_3 12 rfl rfl)
theorem dX2_bear_85 : decode cX2_bear 85 = .ok (.goto 8, 3) := dk_167 0 8 (dk_at dksX2_bear_3 14 rfl rfl)
theorem dX2_bear_88 : decode cX2_bear 88 = .ok (.iload_n 1, 1) := dk_27 (dk_at dksX2_bear_3 17 rfl rfl)
theorem dX2_bear_89 : decode cX2_bear 89 = .ok (.iconst 1, 1) := dk_4 (dk_at dksX2_bear_3 18 rfl rfl)
theorem dX2_bear_90 : decode cX2_bear 90 = .ok (.isub, 1) := dk_100 (dk_at dksX2_bear_3 19 rfl rfl)
theorem dX2_bear_91 : decode cX2_bear 91 = .ok (.iconst 2, 1) := dk_5 (dk_at dksX2_bear_3 20 rfl rfl)
theorem dX2_bear_92 : decode cX2_bear 92 = .ok (.idiv, 1) := dk_108 (dk_at dksX2_bear_3 21 rfl rfl)
theorem dX2_bear_93 : decode cX2_bear 93 = .ok (.ireturn, 1) := dk_172 (dk_at dksX2_bear_3 22 rfl rfl)
abbrev cX2_mixed : ByteArray := prog_16_method_68_code
def yX2_mixed : MethodName := ⟨RX2, "mixed", "()I"⟩
def dkwX2_mixed_3 : List UInt8 := [3, 96, 60, 132, 3, 1, 167, 255, 214, 132, 2, 1, 167, 255, 196, 27, 172]
abbrev dktX2_mixed_3 : List UInt8 := dkwX2_mixed_3 ++ []
def dkwX2_mixed_2 : List UInt8 := [155, 0, 24, 42, 28, 29, 182, 1, 56, 5, 42, 180, 0, 20, 4, 46, 104, 163, 0, 7, 4, 167, 0, 4]
abbrev dktX2_mixed_2 : List UInt8 := dkwX2_mixed_2 ++ dktX2_mixed_3
def dkwX2_mixed_1 : List UInt8 := [180, 0, 20, 7, 46, 162, 0, 56, 3, 62, 29, 28, 162, 0, 43, 27, 42, 28, 29, 182, 1, 56]
abbrev dktX2_mixed_1 : List UInt8 := dkwX2_mixed_1 ++ dktX2_mixed_2
def dkwX2_mixed_0 : List UInt8 := [42, 182, 0, 167, 42, 180, 0, 180, 154, 0, 9, 42, 4, 182, 0, 170, 172, 3, 60, 3, 61, 28, 42]
abbrev dktX2_mixed_0 : List UInt8 := dkwX2_mixed_0 ++ dktX2_mixed_1
theorem dksX2_mixed_0 : cX2_mixed.data.toList.drop 0 = dktX2_mixed_0 := by decide +kernel
theorem dksX2_mixed_1 : cX2_mixed.data.toList.drop 23 = dktX2_mixed_1 := dk_seg dksX2_mixed_0 23 rfl rfl
theorem dksX2_mixed_2 : cX2_mixed.data.toList.drop 45 = dktX2_mixed_2 := dk_seg dksX2_mixed_1 22 rfl rfl
theorem dksX2_mixed_3 : cX2_mixed.data.toList.drop 69 = dktX2_mixed_3 := dk_seg dksX2_mixed_2 24 rfl rfl
theorem dX2_mixed_0 : decode cX2_mixed 0 = .ok (.aload_n 0, 1) := dk_42 (dk_at dksX2_mixed_0 0 rfl rfl)
theorem dX2_mixed_1 : decode cX2_mixed 1 = .ok (.invokevirtual 167, 3) := dk_182 0 167 (dk_at dksX2_mixed_0 1 rfl rfl)
theorem dX2_mixed_4 : decode cX2_mixed 4 = .ok (.aload_n 0, 1) := dk_42 (dk_at dksX2_mixed_0 4 rfl rfl)
theorem dX2_mixed_5 : decode cX2_mixed 5 = .ok (.getfield 180, 3) := dk_180 0 180 (dk_at dksX2_mixed_0 5 rfl rfl)
theorem dX2_mixed_8 : decode cX2_mixed 8 = .ok (.ifCond .ne 9, 3) := dk_154 0 9 (dk_at dksX2_mixed_0 8 rfl rfl)
theorem dX2_mixed_11 : decode cX2_mixed 11 = .ok (.aload_n 0, 1) := dk_42 (dk_at dksX2_mixed_0 11 rfl rfl)
theorem dX2_mixed_12 : decode cX2_mixed 12 = .ok (.iconst 1, 1) := dk_4 (dk_at dksX2_mixed_0 12 rfl rfl)
theorem dX2_mixed_13 : decode cX2_mixed 13 = .ok (.invokevirtual 170, 3) := dk_182 0 170 (dk_at dksX2_mixed_0 13 rfl rfl)
theorem dX2_mixed_16 : decode cX2_mixed 16 = .ok (.ireturn, 1) := dk_172 (dk_at dksX2_mixed_0 16 rfl rfl)
theorem dX2_mixed_17 : decode cX2_mixed 17 = .ok (.iconst 0, 1) := dk_3 (dk_at dksX2_mixed_0 17 rfl rfl)
theorem dX2_mixed_18 : decode cX2_mixed 18 = .ok (.istore_n 1, 1) := dk_60 (dk_at dksX2_mixed_0 18 rfl rfl)
theorem dX2_mixed_19 : decode cX2_mixed 19 = .ok (.iconst 0, 1) := dk_3 (dk_at dksX2_mixed_0 19 rfl rfl)
theorem dX2_mixed_20 : decode cX2_mixed 20 = .ok (.istore_n 2, 1) := dk_61 (dk_at dksX2_mixed_0 20 rfl rfl)
theorem dX2_mixed_21 : decode cX2_mixed 21 = .ok (.iload_n 2, 1) := dk_28 (dk_at dksX2_mixed_0 21 rfl rfl)
theorem dX2_mixed_22 : decode cX2_mixed 22 = .ok (.aload_n 0, 1) := dk_42 (dk_at dksX2_mixed_0 22 rfl rfl)
theorem dX2_mixed_23 : decode cX2_mixed 23 = .ok (.getfield 20, 3) := dk_180 0 20 (dk_at dksX2_mixed_1 0 rfl rfl)
theorem dX2_mixed_26 : decode cX2_mixed 26 = .ok (.iconst 4, 1) := dk_7 (dk_at dksX2_mixed_1 3 rfl rfl)
theorem dX2_mixed_27 : decode cX2_mixed 27 = .ok (.iaload, 1) := dk_46 (dk_at dksX2_mixed_1 4 rfl rfl)
theorem dX2_mixed_28 : decode cX2_mixed 28 = .ok (.if_icmp .ge 56, 3) := dk_162 0 56 (dk_at dksX2_mixed_1 5 rfl rfl)
theorem dX2_mixed_31 : decode cX2_mixed 31 = .ok (.iconst 0, 1) := dk_3 (dk_at dksX2_mixed_1 8 rfl rfl)
theorem dX2_mixed_32 : decode cX2_mixed 32 = .ok (.istore_n 3, 1) := dk_62 (dk_at dksX2_mixed_1 9 rfl rfl)
theorem dX2_mixed_33 : decode cX2_mixed 33 = .ok (.iload_n 3, 1) := dk_29 (dk_at dksX2_mixed_1 10 rfl rfl)
theorem dX2_mixed_34 : decode cX2_mixed 34 = .ok (.iload_n 2, 1) := dk_28 (dk_at dksX2_mixed_1 11 rfl rfl)
theorem dX2_mixed_35 : decode cX2_mixed 35 = .ok (.if_icmp .ge 43, 3) := dk_162 0 43 (dk_at dksX2_mixed_1 12 rfl rfl)
theorem dX2_mixed_38 : decode cX2_mixed 38 = .ok (.iload_n 1, 1) := dk_27 (dk_at dksX2_mixed_1 15 rfl rfl)
theorem dX2_mixed_39 : decode cX2_mixed 39 = .ok (.aload_n 0, 1) := dk_42 (dk_at dksX2_mixed_1 16 rfl rfl)
theorem dX2_mixed_40 : decode cX2_mixed 40 = .ok (.iload_n 2, 1) := dk_28 (dk_at dksX2_mixed_1 17 rfl rfl)
theorem dX2_mixed_41 : decode cX2_mixed 41 = .ok (.iload_n 3, 1) := dk_29 (dk_at dksX2_mixed_1 18 rfl rfl)
theorem dX2_mixed_42 : decode cX2_mixed 42 = .ok (.invokevirtual 312, 3) := dk_182 1 56 (dk_at dksX2_mixed_1 19 rfl rfl)
theorem dX2_mixed_45 : decode cX2_mixed 45 = .ok (.ifCond .lt 24, 3) := dk_155 0 24 (dk_at dksX2_mixed_2 0 rfl rfl)
theorem dX2_mixed_48 : decode cX2_mixed 48 = .ok (.aload_n 0, 1) := dk_42 (dk_at dksX2_mixed_2 3 rfl rfl)
theorem dX2_mixed_49 : decode cX2_mixed 49 = .ok (.iload_n 2, 1) := dk_28 (dk_at dksX2_mixed_2 4 rfl rfl)
theorem dX2_mixed_50 : decode cX2_mixed 50 = .ok (.iload_n 3, 1) := dk_29 (dk_at dksX2_mixed_2 5 rfl rfl)
theorem dX2_mixed_51 : decode cX2_mixed 51 = .ok (.invokevirtual 312, 3) := dk_182 1 56 (dk_at dksX2_mixed_2 6 rfl rfl)
theorem dX2_mixed_54 : decode cX2_mixed 54 = .ok (.iconst 2, 1) := dk_5 (dk_at dksX2_mixed_2 9 rfl rfl)
theorem dX2_mixed_55 : decode cX2_mixed 55 = .ok (.aload_n 0, 1) := dk_42 (dk_at dksX2_mixed_2 10 rfl rfl)
theorem dX2_mixed_56 : decode cX2_mixed 56 = .ok (.getfield 20, 3) := dk_180 0 20 (dk_at dksX2_mixed_2 11 rfl rfl)
theorem dX2_mixed_59 : decode cX2_mixed 59 = .ok (.iconst 1, 1) := dk_4 (dk_at dksX2_mixed_2 14 rfl rfl)
theorem dX2_mixed_60 : decode cX2_mixed 60 = .ok (.iaload, 1) := dk_46 (dk_at dksX2_mixed_2 15 rfl rfl)
theorem dX2_mixed_61 : decode cX2_mixed 61 = .ok (.imul, 1) := dk_104 (dk_at dksX2_mixed_2 16 rfl rfl)
theorem dX2_mixed_62 : decode cX2_mixed 62 = .ok (.if_icmp .gt 7, 3) := dk_163 0 7 (dk_at dksX2_mixed_2 17 rfl rfl)
theorem dX2_mixed_65 : decode cX2_mixed 65 = .ok (.iconst 1, 1) := dk_4 (dk_at dksX2_mixed_2 20 rfl rfl)
theorem dX2_mixed_66 : decode cX2_mixed 66 = .ok (.goto 4, 3) := dk_167 0 4 (dk_at dksX2_mixed_2 21 rfl rfl)
theorem dX2_mixed_69 : decode cX2_mixed 69 = .ok (.iconst 0, 1) := dk_3 (dk_at dksX2_mixed_3 0 rfl rfl)
theorem dX2_mixed_70 : decode cX2_mixed 70 = .ok (.iadd, 1) := dk_96 (dk_at dksX2_mixed_3 1 rfl rfl)
theorem dX2_mixed_71 : decode cX2_mixed 71 = .ok (.istore_n 1, 1) := dk_60 (dk_at dksX2_mixed_3 2 rfl rfl)
theorem dX2_mixed_72 : decode cX2_mixed 72 = .ok (.iinc 3 1, 3) := dk_132 3 1 (dk_at dksX2_mixed_3 3 rfl rfl)
theorem dX2_mixed_75 : decode cX2_mixed 75 = .ok (.goto (-42), 3) := dk_167 255 214 (dk_at dksX2_mixed_3 6 rfl rfl)
theorem dX2_mixed_78 : decode cX2_mixed 78 = .ok (.iinc 2 1, 3) := dk_132 2 1 (dk_at dksX2_mixed_3 9 rfl rfl)
theorem dX2_mixed_81 : decode cX2_mixed 81 = .ok (.goto (-60), 3) := dk_167 255 196 (dk_at dksX2_mixed_3 12 rfl rfl)
theorem dX2_mixed_84 : decode cX2_mixed 84 = .ok (.iload_n 1, 1) := dk_27 (dk_at dksX2_mixed_3 15 rfl rfl)
theorem dX2_mixed_85 : decode cX2_mixed 85 = .ok (.ireturn, 1) := dk_172 (dk_at dksX2_mixed_3 16 rfl rfl)
abbrev cX2_fresh : ByteArray := prog_16_method_73_code
def yX2_fresh : MethodName := ⟨RX2, "fresh", "(II)I"⟩
def dkwX2_fresh_1 : List UInt8 := [27, 28, 3, 182, 1, 71, 172]
abbrev dktX2_fresh_1 : List UInt8 := dkwX2_fresh_1 ++ []
def dkwX2_fresh_0 : List UInt8 := [42, 182, 0, 167, 42, 27, 28, 182, 1, 68, 62, 29, 153, 0, 11, 42, 29, 182, 0, 170, 167, 0, 10, 42]
abbrev dktX2_fresh_0 : List UInt8 := dkwX2_fresh_0 ++ dktX2_fresh_1
theorem dksX2_fresh_0 : cX2_fresh.data.toList.drop 0 = dktX2_fresh_0 := by decide +kernel
theorem dksX2_fresh_1 : cX2_fresh.data.toList.drop 24 = dktX2_fresh_1 := dk_seg dksX2_fresh_0 24 rfl rfl
theorem dX2_fresh_0 : decode cX2_fresh 0 = .ok (.aload_n 0, 1) := dk_42 (dk_at dksX2_fresh_0 0 rfl rfl)
theorem dX2_fresh_1 : decode cX2_fresh 1 = .ok (.invokevirtual 167, 3) := dk_182 0 167 (dk_at dksX2_fresh_0 1 rfl rfl)
theorem dX2_fresh_4 : decode cX2_fresh 4 = .ok (.aload_n 0, 1) := dk_42 (dk_at dksX2_fresh_0 4 rfl rfl)
theorem dX2_fresh_5 : decode cX2_fresh 5 = .ok (.iload_n 1, 1) := dk_27 (dk_at dksX2_fresh_0 5 rfl rfl)
theorem dX2_fresh_6 : decode cX2_fresh 6 = .ok (.iload_n 2, 1) := dk_28 (dk_at dksX2_fresh_0 6 rfl rfl)
theorem dX2_fresh_7 : decode cX2_fresh 7 = .ok (.invokevirtual 324, 3) := dk_182 1 68 (dk_at dksX2_fresh_0 7 rfl rfl)
theorem dX2_fresh_10 : decode cX2_fresh 10 = .ok (.istore_n 3, 1) := dk_62 (dk_at dksX2_fresh_0 10 rfl rfl)
theorem dX2_fresh_11 : decode cX2_fresh 11 = .ok (.iload_n 3, 1) := dk_29 (dk_at dksX2_fresh_0 11 rfl rfl)
theorem dX2_fresh_12 : decode cX2_fresh 12 = .ok (.ifCond .eq 11, 3) := dk_153 0 11 (dk_at dksX2_fresh_0 12 rfl rfl)
theorem dX2_fresh_15 : decode cX2_fresh 15 = .ok (.aload_n 0, 1) := dk_42 (dk_at dksX2_fresh_0 15 rfl rfl)
theorem dX2_fresh_16 : decode cX2_fresh 16 = .ok (.iload_n 3, 1) := dk_29 (dk_at dksX2_fresh_0 16 rfl rfl)
theorem dX2_fresh_17 : decode cX2_fresh 17 = .ok (.invokevirtual 170, 3) := dk_182 0 170 (dk_at dksX2_fresh_0 17 rfl rfl)
theorem dX2_fresh_20 : decode cX2_fresh 20 = .ok (.goto 10, 3) := dk_167 0 10 (dk_at dksX2_fresh_0 20 rfl rfl)
theorem dX2_fresh_23 : decode cX2_fresh 23 = .ok (.aload_n 0, 1) := dk_42 (dk_at dksX2_fresh_0 23 rfl rfl)
theorem dX2_fresh_24 : decode cX2_fresh 24 = .ok (.iload_n 1, 1) := dk_27 (dk_at dksX2_fresh_1 0 rfl rfl)
theorem dX2_fresh_25 : decode cX2_fresh 25 = .ok (.iload_n 2, 1) := dk_28 (dk_at dksX2_fresh_1 1 rfl rfl)
theorem dX2_fresh_26 : decode cX2_fresh 26 = .ok (.iconst 0, 1) := dk_3 (dk_at dksX2_fresh_1 2 rfl rfl)
theorem dX2_fresh_27 : decode cX2_fresh 27 = .ok (.invokevirtual 327, 3) := dk_182 1 71 (dk_at dksX2_fresh_1 3 rfl rfl)
theorem dX2_fresh_30 : decode cX2_fresh 30 = .ok (.ireturn, 1) := dk_172 (dk_at dksX2_fresh_1 6 rfl rfl)
abbrev cX2_songWhy : ByteArray := prog_16_method_72_code
def yX2_songWhy : MethodName := ⟨RX2, "songWhy", "(II)I"⟩
def dkwX2_songWhy_1 : List UInt8 := [184, 0, 149, 153, 0, 7, 3, 167, 0, 4, 5, 172]
abbrev dktX2_songWhy_1 : List UInt8 := dkwX2_songWhy_1 ++ []
def dkwX2_songWhy_0 : List UInt8 := [42, 180, 0, 180, 154, 0, 7, 4, 167, 0, 26, 27, 5, 8, 184, 0, 149, 153, 0, 16, 28, 4, 8]
abbrev dktX2_songWhy_0 : List UInt8 := dkwX2_songWhy_0 ++ dktX2_songWhy_1
theorem dksX2_songWhy_0 : cX2_songWhy.data.toList.drop 0 = dktX2_songWhy_0 := by decide +kernel
theorem dksX2_songWhy_1 : cX2_songWhy.data.toList.drop 23 = dktX2_songWhy_1 := dk_seg dksX2_songWhy_0 23 rfl rfl
theorem dX2_songWhy_0 : decode cX2_songWhy 0 = .ok (.aload_n 0, 1) := dk_42 (dk_at dksX2_songWhy_0 0 rfl rfl)
theorem dX2_songWhy_1 : decode cX2_songWhy 1 = .ok (.getfield 180, 3) := dk_180 0 180 (dk_at dksX2_songWhy_0 1 rfl rfl)
theorem dX2_songWhy_4 : decode cX2_songWhy 4 = .ok (.ifCond .ne 7, 3) := dk_154 0 7 (dk_at dksX2_songWhy_0 4 rfl rfl)
theorem dX2_songWhy_7 : decode cX2_songWhy 7 = .ok (.iconst 1, 1) := dk_4 (dk_at dksX2_songWhy_0 7 rfl rfl)
theorem dX2_songWhy_8 : decode cX2_songWhy 8 = .ok (.goto 26, 3) := dk_167 0 26 (dk_at dksX2_songWhy_0 8 rfl rfl)
theorem dX2_songWhy_11 : decode cX2_songWhy 11 = .ok (.iload_n 1, 1) := dk_27 (dk_at dksX2_songWhy_0 11 rfl rfl)
theorem dX2_songWhy_12 : decode cX2_songWhy 12 = .ok (.iconst 2, 1) := dk_5 (dk_at dksX2_songWhy_0 12 rfl rfl)
theorem dX2_songWhy_13 : decode cX2_songWhy 13 = .ok (.iconst 5, 1) := dk_8 (dk_at dksX2_songWhy_0 13 rfl rfl)
theorem dX2_songWhy_14 : decode cX2_songWhy 14 = .ok (.invokestatic 149, 3) := dk_184 0 149 (dk_at dksX2_songWhy_0 14 rfl rfl)
theorem dX2_songWhy_17 : decode cX2_songWhy 17 = .ok (.ifCond .eq 16, 3) := dk_153 0 16 (dk_at dksX2_songWhy_0 17 rfl rfl)
theorem dX2_songWhy_20 : decode cX2_songWhy 20 = .ok (.iload_n 2, 1) := dk_28 (dk_at dksX2_songWhy_0 20 rfl rfl)
theorem dX2_songWhy_21 : decode cX2_songWhy 21 = .ok (.iconst 1, 1) := dk_4 (dk_at dksX2_songWhy_0 21 rfl rfl)
theorem dX2_songWhy_22 : decode cX2_songWhy 22 = .ok (.iconst 5, 1) := dk_8 (dk_at dksX2_songWhy_0 22 rfl rfl)
theorem dX2_songWhy_23 : decode cX2_songWhy 23 = .ok (.invokestatic 149, 3) := dk_184 0 149 (dk_at dksX2_songWhy_1 0 rfl rfl)
theorem dX2_songWhy_26 : decode cX2_songWhy 26 = .ok (.ifCond .eq 7, 3) := dk_153 0 7 (dk_at dksX2_songWhy_1 3 rfl rfl)
theorem dX2_songWhy_29 : decode cX2_songWhy 29 = .ok (.iconst 0, 1) := dk_3 (dk_at dksX2_songWhy_1 6 rfl rfl)
theorem dX2_songWhy_30 : decode cX2_songWhy 30 = .ok (.goto 4, 3) := dk_167 0 4 (dk_at dksX2_songWhy_1 7 rfl rfl)
theorem dX2_songWhy_33 : decode cX2_songWhy 33 = .ok (.iconst 2, 1) := dk_5 (dk_at dksX2_songWhy_1 10 rfl rfl)
theorem dX2_songWhy_34 : decode cX2_songWhy 34 = .ok (.ireturn, 1) := dk_172 (dk_at dksX2_songWhy_1 11 rfl rfl)
abbrev cX2_newSongs : ByteArray := prog_16_method_71_code
def yX2_newSongs : MethodName := ⟨RX2, "newSongs", "(IIZ)I"⟩
def dkwX2_newSongs_9 : List UInt8 := [181, 1, 59, 132, 5, 1, 167, 255, 148, 29, 153, 0, 8, 21, 4, 167, 0, 5, 16, 254, 172]
abbrev dktX2_newSongs_9 : List UInt8 := dkwX2_newSongs_9 ++ []
def dkwX2_newSongs_8 : List UInt8 := [28, 4, 164, 0, 24, 42, 180, 0, 35, 42, 180, 1, 59, 21, 5, 79, 42, 89, 180, 1, 59, 4, 96]
abbrev dktX2_newSongs_8 : List UInt8 := dkwX2_newSongs_8 ++ dktX2_newSongs_9
def dkwX2_newSongs_7 : List UInt8 := [132, 7, 1, 167, 255, 214, 21, 6, 154, 0, 6, 167, 0, 39, 29, 154, 0, 6, 21, 5, 172, 132, 4, 1]
abbrev dktX2_newSongs_7 : List UInt8 := dkwX2_newSongs_7 ++ dktX2_newSongs_8
def dkwX2_newSongs_6 : List UInt8 := [21, 5, 42, 180, 0, 35, 21, 7, 46, 27, 182, 1, 65, 28, 161, 0, 7, 4, 167, 0, 4, 3, 54, 6]
abbrev dktX2_newSongs_6 : List UInt8 := dkwX2_newSongs_6 ++ dktX2_newSongs_7
def dkwX2_newSongs_5 : List UInt8 := [162, 0, 104, 4, 54, 6, 3, 54, 7, 21, 7, 42, 180, 1, 59, 162, 0, 39, 21, 6, 153, 0, 34, 42]
abbrev dktX2_newSongs_5 : List UInt8 := dkwX2_newSongs_5 ++ dktX2_newSongs_6
def dkwX2_newSongs_4 : List UInt8 := [181, 1, 59, 132, 4, 1, 167, 255, 164, 3, 54, 4, 3, 54, 5, 21, 5, 42, 27, 182, 1, 62]
abbrev dktX2_newSongs_4 : List UInt8 := dkwX2_newSongs_4 ++ dktX2_newSongs_5
def dkwX2_newSongs_3 : List UInt8 := [132, 6, 1, 167, 255, 221, 42, 180, 0, 35, 42, 180, 1, 59, 21, 5, 79, 42, 89, 180, 1, 59, 4, 96]
abbrev dktX2_newSongs_3 : List UInt8 := dkwX2_newSongs_3 ++ dktX2_newSongs_4
def dkwX2_newSongs_2 : List UInt8 := [42, 180, 0, 20, 3, 46, 104, 42, 21, 4, 21, 6, 42, 180, 0, 26, 3, 46, 182, 1, 24, 96, 54, 5]
abbrev dktX2_newSongs_2 : List UInt8 := dkwX2_newSongs_2 ++ dktX2_newSongs_3
def dkwX2_newSongs_1 : List UInt8 := [182, 1, 9, 27, 159, 0, 6, 167, 0, 68, 3, 54, 5, 3, 54, 6, 21, 6, 27, 162, 0, 35, 21, 5]
abbrev dktX2_newSongs_1 : List UInt8 := dkwX2_newSongs_1 ++ dktX2_newSongs_2
def dkwX2_newSongs_0 : List UInt8 := [42, 3, 181, 1, 59, 3, 54, 4, 21, 4, 42, 180, 0, 20, 7, 46, 162, 0, 87, 42, 21, 4]
abbrev dktX2_newSongs_0 : List UInt8 := dkwX2_newSongs_0 ++ dktX2_newSongs_1
theorem dksX2_newSongs_0 : cX2_newSongs.data.toList.drop 0 = dktX2_newSongs_0 := by decide +kernel
theorem dksX2_newSongs_1 : cX2_newSongs.data.toList.drop 22 = dktX2_newSongs_1 := dk_seg dksX2_newSongs_0 22 rfl rfl
theorem dksX2_newSongs_2 : cX2_newSongs.data.toList.drop 46 = dktX2_newSongs_2 := dk_seg dksX2_newSongs_1 24 rfl rfl
theorem dksX2_newSongs_3 : cX2_newSongs.data.toList.drop 70 = dktX2_newSongs_3 := dk_seg dksX2_newSongs_2 24 rfl rfl
theorem dksX2_newSongs_4 : cX2_newSongs.data.toList.drop 94 = dktX2_newSongs_4 := dk_seg dksX2_newSongs_3 24 rfl rfl
theorem dksX2_newSongs_5 : cX2_newSongs.data.toList.drop 116 = dktX2_newSongs_5 := dk_seg dksX2_newSongs_4 22 rfl rfl
theorem dksX2_newSongs_6 : cX2_newSongs.data.toList.drop 140 = dktX2_newSongs_6 := dk_seg dksX2_newSongs_5 24 rfl rfl
theorem dksX2_newSongs_7 : cX2_newSongs.data.toList.drop 164 = dktX2_newSongs_7 := dk_seg dksX2_newSongs_6 24 rfl rfl
theorem dksX2_newSongs_8 : cX2_newSongs.data.toList.drop 188 = dktX2_newSongs_8 := dk_seg dksX2_newSongs_7 24 rfl rfl
theorem dksX2_newSongs_9 : cX2_newSongs.data.toList.drop 211 = dktX2_newSongs_9 := dk_seg dksX2_newSongs_8 23 rfl rfl
theorem dX2_newSongs_0 : decode cX2_newSongs 0 = .ok (.aload_n 0, 1) := dk_42 (dk_at dksX2_newSongs_0 0 rfl rfl)
theorem dX2_newSongs_1 : decode cX2_newSongs 1 = .ok (.iconst 0, 1) := dk_3 (dk_at dksX2_newSongs_0 1 rfl rfl)
theorem dX2_newSongs_2 : decode cX2_newSongs 2 = .ok (.putfield 315, 3) := dk_181 1 59 (dk_at dksX2_newSongs_0 2 rfl rfl)
theorem dX2_newSongs_5 : decode cX2_newSongs 5 = .ok (.iconst 0, 1) := dk_3 (dk_at dksX2_newSongs_0 5 rfl rfl)
theorem dX2_newSongs_6 : decode cX2_newSongs 6 = .ok (.istore 4, 2) := dk_54 4 (dk_at dksX2_newSongs_0 6 rfl rfl)
theorem dX2_newSongs_8 : decode cX2_newSongs 8 = .ok (.iload 4, 2) := dk_21 4 (dk_at dksX2_newSongs_0 8 rfl rfl)
theorem dX2_newSongs_10 : decode cX2_newSongs 10 = .ok (.aload_n 0, 1) := dk_42 (dk_at dksX2_newSongs_0 10 rfl rfl)
theorem dX2_newSongs_11 : decode cX2_newSongs 11 = .ok (.getfield 20, 3) := dk_180 0 20 (dk_at dksX2_newSongs_0 11 rfl rfl)
theorem dX2_newSongs_14 : decode cX2_newSongs 14 = .ok (.iconst 4, 1) := dk_7 (dk_at dksX2_newSongs_0 14 rfl rfl)
theorem dX2_newSongs_15 : decode cX2_newSongs 15 = .ok (.iaload, 1) := dk_46 (dk_at dksX2_newSongs_0 15 rfl rfl)
theorem dX2_newSongs_16 : decode cX2_newSongs 16 = .ok (.if_icmp .ge 87, 3) := dk_162 0 87 (dk_at dksX2_newSongs_0 16 rfl rfl)
theorem dX2_newSongs_19 : decode cX2_newSongs 19 = .ok (.aload_n 0, 1) := dk_42 (dk_at dksX2_newSongs_0 19 rfl rfl)
theorem dX2_newSongs_20 : decode cX2_newSongs 20 = .ok (.iload 4, 2) := dk_21 4 (dk_at dksX2_newSongs_0 20 rfl rfl)
theorem dX2_newSongs_22 : decode cX2_newSongs 22 = .ok (.invokevirtual 265, 3) := dk_182 1 9 (dk_at dksX2_newSongs_1 0 rfl rfl)
theorem dX2_newSongs_25 : decode cX2_newSongs 25 = .ok (.iload_n 1, 1) := dk_27 (dk_at dksX2_newSongs_1 3 rfl rfl)
theorem dX2_newSongs_26 : decode cX2_newSongs 26 = .ok (.if_icmp .eq 6, 3) := dk_159 0 6 (dk_at dksX2_newSongs_1 4 rfl rfl)
theorem dX2_newSongs_29 : decode cX2_newSongs 29 = .ok (.goto 68, 3) := dk_167 0 68 (dk_at dksX2_newSongs_1 7 rfl rfl)
theorem dX2_newSongs_32 : decode cX2_newSongs 32 = .ok (.iconst 0, 1) := dk_3 (dk_at dksX2_newSongs_1 10 rfl rfl)
theorem dX2_newSongs_33 : decode cX2_newSongs 33 = .ok (.istore 5, 2) := dk_54 5 (dk_at dksX2_newSongs_1 11 rfl rfl)
theorem dX2_newSongs_35 : decode cX2_newSongs 35 = .ok (.iconst 0, 1) := dk_3 (dk_at dksX2_newSongs_1 13 rfl rfl)
theorem dX2_newSongs_36 : decode cX2_newSongs 36 = .ok (.istore 6, 2) := dk_54 6 (dk_at dksX2_newSongs_1 14 rfl rfl)
theorem dX2_newSongs_38 : decode cX2_newSongs 38 = .ok (.iload 6, 2) := dk_21 6 (dk_at dksX2_newSongs_1 16 rfl rfl)
theorem dX2_newSongs_40 : decode cX2_newSongs 40 = .ok (.iload_n 1, 1) := dk_27 (dk_at dksX2_newSongs_1 18 rfl rfl)
theorem dX2_newSongs_41 : decode cX2_newSongs 41 = .ok (.if_icmp .ge 35, 3) := dk_162 0 35 (dk_at dksX2_newSongs_1 19 rfl rfl)
theorem dX2_newSongs_44 : decode cX2_newSongs 44 = .ok (.iload 5, 2) := dk_21 5 (dk_at dksX2_newSongs_1 22 rfl rfl)
theorem dX2_newSongs_46 : decode cX2_newSongs 46 = .ok (.aload_n 0, 1) := dk_42 (dk_at dksX2_newSongs_2 0 rfl rfl)
theorem dX2_newSongs_47 : decode cX2_newSongs 47 = .ok (.getfield 20, 3) := dk_180 0 20 (dk_at dksX2_newSongs_2 1 rfl rfl)
theorem dX2_newSongs_50 : decode cX2_newSongs 50 = .ok (.iconst 0, 1) := dk_3 (dk_at dksX2_newSongs_2 4 rfl rfl)
theorem dX2_newSongs_51 : decode cX2_newSongs 51 = .ok (.iaload, 1) := dk_46 (dk_at dksX2_newSongs_2 5 rfl rfl)
theorem dX2_newSongs_52 : decode cX2_newSongs 52 = .ok (.imul, 1) := dk_104 (dk_at dksX2_newSongs_2 6 rfl rfl)
theorem dX2_newSongs_53 : decode cX2_newSongs 53 = .ok (.aload_n 0, 1) := dk_42 (dk_at dksX2_newSongs_2 7 rfl rfl)
theorem dX2_newSongs_54 : decode cX2_newSongs 54 = .ok (.iload 4, 2) := dk_21 4 (dk_at dksX2_newSongs_2 8 rfl rfl)
theorem dX2_newSongs_56 : decode cX2_newSongs 56 = .ok (.iload 6, 2) := dk_21 6 (dk_at dksX2_newSongs_2 10 rfl rfl)
theorem dX2_newSongs_58 : decode cX2_newSongs 58 = .ok (.aload_n 0, 1) := dk_42 (dk_at dksX2_newSongs_2 12 rfl rfl)
theorem dX2_newSongs_59 : decode cX2_newSongs 59 = .ok (.getfield 26, 3) := dk_180 0 26 (dk_at dksX2_newSongs_2 13 rfl rfl)
theorem dX2_newSongs_62 : decode cX2_newSongs 62 = .ok (.iconst 0, 1) := dk_3 (dk_at dksX2_newSongs_2 16 rfl rfl)
theorem dX2_newSongs_63 : decode cX2_newSongs 63 = .ok (.iaload, 1) := dk_46 (dk_at dksX2_newSongs_2 17 rfl rfl)
theorem dX2_newSongs_64 : decode cX2_newSongs 64 = .ok (.invokevirtual 280, 3) := dk_182 1 24 (dk_at dksX2_newSongs_2 18 rfl rfl)
theorem dX2_newSongs_67 : decode cX2_newSongs 67 = .ok (.iadd, 1) := dk_96 (dk_at dksX2_newSongs_2 21 rfl rfl)
theorem dX2_newSongs_68 : decode cX2_newSongs 68 = .ok (.istore 5, 2) := dk_54 5 (dk_at dksX2_newSongs_2 22 rfl rfl)
theorem dX2_newSongs_70 : decode cX2_newSongs 70 = .ok (.iinc 6 1, 3) := dk_132 6 1 (dk_at dksX2_newSongs_3 0 rfl rfl)
theorem dX2_newSongs_73 : decode cX2_newSongs 73 = .ok (.goto (-35), 3) := dk_167 255 221 (dk_at dksX2_newSongs_3 3 rfl rfl)
theorem dX2_newSongs_76 : decode cX2_newSongs 76 = .ok (.aload_n 0, 1) := dk_42 (dk_at dksX2_newSongs_3 6 rfl rfl)
theorem dX2_newSongs_77 : decode cX2_newSongs 77 = .ok (.getfield 35, 3) := dk_180 0 35 (dk_at dksX2_newSongs_3 7 rfl rfl)
theorem dX2_newSongs_80 : decode cX2_newSongs 80 = .ok (.aload_n 0, 1) := dk_42 (dk_at dksX2_newSongs_3 10 rfl rfl)
theorem dX2_newSongs_81 : decode cX2_newSongs 81 = .ok (.getfield 315, 3) := dk_180 1 59 (dk_at dksX2_newSongs_3 11 rfl rfl)
theorem dX2_newSongs_84 : decode cX2_newSongs 84 = .ok (.iload 5, 2) := dk_21 5 (dk_at dksX2_newSongs_3 14 rfl rfl)
theorem dX2_newSongs_86 : decode cX2_newSongs 86 = .ok (.iastore, 1) := dk_79 (dk_at dksX2_newSongs_3 16 rfl rfl)
theorem dX2_newSongs_87 : decode cX2_newSongs 87 = .ok (.aload_n 0, 1) := dk_42 (dk_at dksX2_newSongs_3 17 rfl rfl)
theorem dX2_newSongs_88 : decode cX2_newSongs 88 = .ok (.dup, 1) := dk_89 (dk_at dksX2_newSongs_3 18 rfl rfl)
theorem dX2_newSongs_89 : decode cX2_newSongs 89 = .ok (.getfield 315, 3) := dk_180 1 59 (dk_at dksX2_newSongs_3 19 rfl rfl)
theorem dX2_newSongs_92 : decode cX2_newSongs 92 = .ok (.iconst 1, 1) := dk_4 (dk_at dksX2_newSongs_3 22 rfl rfl)
theorem dX2_newSongs_93 : decode cX2_newSongs 93 = .ok (.iadd, 1) := dk_96 (dk_at dksX2_newSongs_3 23 rfl rfl)
theorem dX2_newSongs_94 : decode cX2_newSongs 94 = .ok (.putfield 315, 3) := dk_181 1 59 (dk_at dksX2_newSongs_4 0 rfl rfl)
theorem dX2_newSongs_97 : decode cX2_newSongs 97 = .ok (.iinc 4 1, 3) := dk_132 4 1 (dk_at dksX2_newSongs_4 3 rfl rfl)
theorem dX2_newSongs_100 : decode cX2_newSongs 100 = .ok (.goto (-92), 3) := dk_167 255 164 (dk_at dksX2_newSongs_4 6 rfl rfl)
theorem dX2_newSongs_103 : decode cX2_newSongs 103 = .ok (.iconst 0, 1) := dk_3 (dk_at dksX2_newSongs_4 9 rfl rfl)
theorem dX2_newSongs_104 : decode cX2_newSongs 104 = .ok (.istore 4, 2) := dk_54 4 (dk_at dksX2_newSongs_4 10 rfl rfl)
theorem dX2_newSongs_106 : decode cX2_newSongs 106 = .ok (.iconst 0, 1) := dk_3 (dk_at dksX2_newSongs_4 12 rfl rfl)
theorem dX2_newSongs_107 : decode cX2_newSongs 107 = .ok (.istore 5, 2) := dk_54 5 (dk_at dksX2_newSongs_4 13 rfl rfl)
theorem dX2_newSongs_109 : decode cX2_newSongs 109 = .ok (.iload 5, 2) := dk_21 5 (dk_at dksX2_newSongs_4 15 rfl rfl)
theorem dX2_newSongs_111 : decode cX2_newSongs 111 = .ok (.aload_n 0, 1) := dk_42 (dk_at dksX2_newSongs_4 17 rfl rfl)
theorem dX2_newSongs_112 : decode cX2_newSongs 112 = .ok (.iload_n 1, 1) := dk_27 (dk_at dksX2_newSongs_4 18 rfl rfl)
theorem dX2_newSongs_113 : decode cX2_newSongs 113 = .ok (.invokevirtual 318, 3) := dk_182 1 62 (dk_at dksX2_newSongs_4 19 rfl rfl)
theorem dX2_newSongs_116 : decode cX2_newSongs 116 = .ok (.if_icmp .ge 104, 3) := dk_162 0 104 (dk_at dksX2_newSongs_5 0 rfl rfl)
theorem dX2_newSongs_119 : decode cX2_newSongs 119 = .ok (.iconst 1, 1) := dk_4 (dk_at dksX2_newSongs_5 3 rfl rfl)
theorem dX2_newSongs_120 : decode cX2_newSongs 120 = .ok (.istore 6, 2) := dk_54 6 (dk_at dksX2_newSongs_5 4 rfl rfl)
theorem dX2_newSongs_122 : decode cX2_newSongs 122 = .ok (.iconst 0, 1) := dk_3 (dk_at dksX2_newSongs_5 6 rfl rfl)
theorem dX2_newSongs_123 : decode cX2_newSongs 123 = .ok (.istore 7, 2) := dk_54 7 (dk_at dksX2_newSongs_5 7 rfl rfl)
theorem dX2_newSongs_125 : decode cX2_newSongs 125 = .ok (.iload 7, 2) := dk_21 7 (dk_at dksX2_newSongs_5 9 rfl rfl)
theorem dX2_newSongs_127 : decode cX2_newSongs 127 = .ok (.aload_n 0, 1) := dk_42 (dk_at dksX2_newSongs_5 11 rfl rfl)
theorem dX2_newSongs_128 : decode cX2_newSongs 128 = .ok (.getfield 315, 3) := dk_180 1 59 (dk_at dksX2_newSongs_5 12 rfl rfl)
theorem dX2_newSongs_131 : decode cX2_newSongs 131 = .ok (.if_icmp .ge 39, 3) := dk_162 0 39 (dk_at dksX2_newSongs_5 15 rfl rfl)
theorem dX2_newSongs_134 : decode cX2_newSongs 134 = .ok (.iload 6, 2) := dk_21 6 (dk_at dksX2_newSongs_5 18 rfl rfl)
theorem dX2_newSongs_136 : decode cX2_newSongs 136 = .ok (.ifCond .eq 34, 3) := dk_153 0 34 (dk_at dksX2_newSongs_5 20 rfl rfl)
theorem dX2_newSongs_139 : decode cX2_newSongs 139 = .ok (.aload_n 0, 1) := dk_42 (dk_at dksX2_newSongs_5 23 rfl rfl)
theorem dX2_newSongs_140 : decode cX2_newSongs 140 = .ok (.iload 5, 2) := dk_21 5 (dk_at dksX2_newSongs_6 0 rfl rfl)
theorem dX2_newSongs_142 : decode cX2_newSongs 142 = .ok (.aload_n 0, 1) := dk_42 (dk_at dksX2_newSongs_6 2 rfl rfl)
theorem dX2_newSongs_143 : decode cX2_newSongs 143 = .ok (.getfield 35, 3) := dk_180 0 35 (dk_at dksX2_newSongs_6 3 rfl rfl)
theorem dX2_newSongs_146 : decode cX2_newSongs 146 = .ok (.iload 7, 2) := dk_21 7 (dk_at dksX2_newSongs_6 6 rfl rfl)
theorem dX2_newSongs_148 : decode cX2_newSongs 148 = .ok (.iaload, 1) := dk_46 (dk_at dksX2_newSongs_6 8 rfl rfl)
theorem dX2_newSongs_149 : decode cX2_newSongs 149 = .ok (.iload_n 1, 1) := dk_27 (dk_at dksX2_newSongs_6 9 rfl rfl)
theorem dX2_newSongs_150 : decode cX2_newSongs 150 = .ok (.invokevirtual 321, 3) := dk_182 1 65 (dk_at dksX2_newSongs_6 10 rfl rfl)
theorem dX2_newSongs_153 : decode cX2_newSongs 153 = .ok (.iload_n 2, 1) := dk_28 (dk_at dksX2_newSongs_6 13 rfl rfl)
theorem dX2_newSongs_154 : decode cX2_newSongs 154 = .ok (.if_icmp .lt 7, 3) := dk_161 0 7 (dk_at dksX2_newSongs_6 14 rfl rfl)
theorem dX2_newSongs_157 : decode cX2_newSongs 157 = .ok (.iconst 1, 1) := dk_4 (dk_at dksX2_newSongs_6 17 rfl rfl)
theorem dX2_newSongs_158 : decode cX2_newSongs 158 = .ok (.goto 4, 3) := dk_167 0 4 (dk_at dksX2_newSongs_6 18 rfl rfl)
theorem dX2_newSongs_161 : decode cX2_newSongs 161 = .ok (.iconst 0, 1) := dk_3 (dk_at dksX2_newSongs_6 21 rfl rfl)
theorem dX2_newSongs_162 : decode cX2_newSongs 162 = .ok (.istore 6, 2) := dk_54 6 (dk_at dksX2_newSongs_6 22 rfl rfl)
theorem dX2_newSongs_164 : decode cX2_newSongs 164 = .ok (.iinc 7 1, 3) := dk_132 7 1 (dk_at dksX2_newSongs_7 0 rfl rfl)
theorem dX2_newSongs_167 : decode cX2_newSongs 167 = .ok (.goto (-42), 3) := dk_167 255 214 (dk_at dksX2_newSongs_7 3 rfl rfl)
theorem dX2_newSongs_170 : decode cX2_newSongs 170 = .ok (.iload 6, 2) := dk_21 6 (dk_at dksX2_newSongs_7 6 rfl rfl)
theorem dX2_newSongs_172 : decode cX2_newSongs 172 = .ok (.ifCond .ne 6, 3) := dk_154 0 6 (dk_at dksX2_newSongs_7 8 rfl rfl)
theorem dX2_newSongs_175 : decode cX2_newSongs 175 = .ok (.goto 39, 3) := dk_167 0 39 (dk_at dksX2_newSongs_7 11 rfl rfl)
theorem dX2_newSongs_178 : decode cX2_newSongs 178 = .ok (.iload_n 3, 1) := dk_29 (dk_at dksX2_newSongs_7 14 rfl rfl)
theorem dX2_newSongs_179 : decode cX2_newSongs 179 = .ok (.ifCond .ne 6, 3) := dk_154 0 6 (dk_at dksX2_newSongs_7 15 rfl rfl)
theorem dX2_newSongs_182 : decode cX2_newSongs 182 = .ok (.iload 5, 2) := dk_21 5 (dk_at dksX2_newSongs_7 18 rfl rfl)
theorem dX2_newSongs_184 : decode cX2_newSongs 184 = .ok (.ireturn, 1) := dk_172 (dk_at dksX2_newSongs_7 20 rfl rfl)
theorem dX2_newSongs_185 : decode cX2_newSongs 185 = .ok (.iinc 4 1, 3) := dk_132 4 1 (dk_at dksX2_newSongs_7 21 rfl rfl)
theorem dX2_newSongs_188 : decode cX2_newSongs 188 = .ok (.iload_n 2, 1) := dk_28 (dk_at dksX2_newSongs_8 0 rfl rfl)
theorem dX2_newSongs_189 : decode cX2_newSongs 189 = .ok (.iconst 1, 1) := dk_4 (dk_at dksX2_newSongs_8 1 rfl rfl)
theorem dX2_newSongs_190 : decode cX2_newSongs 190 = .ok (.if_icmp .le 24, 3) := dk_164 0 24 (dk_at dksX2_newSongs_8 2 rfl rfl)
theorem dX2_newSongs_193 : decode cX2_newSongs 193 = .ok (.aload_n 0, 1) := dk_42 (dk_at dksX2_newSongs_8 5 rfl rfl)
theorem dX2_newSongs_194 : decode cX2_newSongs 194 = .ok (.getfield 35, 3) := dk_180 0 35 (dk_at dksX2_newSongs_8 6 rfl rfl)
theorem dX2_newSongs_197 : decode cX2_newSongs 197 = .ok (.aload_n 0, 1) := dk_42 (dk_at dksX2_newSongs_8 9 rfl rfl)
theorem dX2_newSongs_198 : decode cX2_newSongs 198 = .ok (.getfield 315, 3) := dk_180 1 59 (dk_at dksX2_newSongs_8 10 rfl rfl)
theorem dX2_newSongs_201 : decode cX2_newSongs 201 = .ok (.iload 5, 2) := dk_21 5 (dk_at dksX2_newSongs_8 13 rfl rfl)
theorem dX2_newSongs_203 : decode cX2_newSongs 203 = .ok (.iastore, 1) := dk_79 (dk_at dksX2_newSongs_8 15 rfl rfl)
theorem dX2_newSongs_204 : decode cX2_newSongs 204 = .ok (.aload_n 0, 1) := dk_42 (dk_at dksX2_newSongs_8 16 rfl rfl)
theorem dX2_newSongs_205 : decode cX2_newSongs 205 = .ok (.dup, 1) := dk_89 (dk_at dksX2_newSongs_8 17 rfl rfl)
theorem dX2_newSongs_206 : decode cX2_newSongs 206 = .ok (.getfield 315, 3) := dk_180 1 59 (dk_at dksX2_newSongs_8 18 rfl rfl)
theorem dX2_newSongs_209 : decode cX2_newSongs 209 = .ok (.iconst 1, 1) := dk_4 (dk_at dksX2_newSongs_8 21 rfl rfl)
theorem dX2_newSongs_210 : decode cX2_newSongs 210 = .ok (.iadd, 1) := dk_96 (dk_at dksX2_newSongs_8 22 rfl rfl)
theorem dX2_newSongs_211 : decode cX2_newSongs 211 = .ok (.putfield 315, 3) := dk_181 1 59 (dk_at dksX2_newSongs_9 0 rfl rfl)
theorem dX2_newSongs_214 : decode cX2_newSongs 214 = .ok (.iinc 5 1, 3) := dk_132 5 1 (dk_at dksX2_newSongs_9 3 rfl rfl)
theorem dX2_newSongs_217 : decode cX2_newSongs 217 = .ok (.goto (-108), 3) := dk_167 255 148 (dk_at dksX2_newSongs_9 6 rfl rfl)
theorem dX2_newSongs_220 : decode cX2_newSongs 220 = .ok (.iload_n 3, 1) := dk_29 (dk_at dksX2_newSongs_9 9 rfl rfl)
theorem dX2_newSongs_221 : decode cX2_newSongs 221 = .ok (.ifCond .eq 8, 3) := dk_153 0 8 (dk_at dksX2_newSongs_9 10 rfl rfl)
theorem dX2_newSongs_224 : decode cX2_newSongs 224 = .ok (.iload 4, 2) := dk_21 4 (dk_at dksX2_newSongs_9 13 rfl rfl)
theorem dX2_newSongs_226 : decode cX2_newSongs 226 = .ok (.goto 5, 3) := dk_167 0 5 (dk_at dksX2_newSongs_9 15 rfl rfl)
theorem dX2_newSongs_229 : decode cX2_newSongs 229 = .ok (.bipush (-2), 2) := dk_16 254 (dk_at dksX2_newSongs_9 18 rfl rfl)
theorem dX2_newSongs_231 : decode cX2_newSongs 231 = .ok (.ireturn, 1) := dk_172 (dk_at dksX2_newSongs_9 20 rfl rfl)
abbrev cX2_power : ByteArray := prog_16_method_69_code
def yX2_power : MethodName := ⟨RX2, "powe\x72", "(I)I"⟩
def dkwX2_power_1 : List UInt8 := [28, 172]
abbrev dktX2_power_1 : List UInt8 := dkwX2_power_1 ++ []
def dkwX2_power_0 : List UInt8 := [4, 61, 3, 62, 29, 27, 162, 0, 18, 28, 42, 180, 0, 20, 3, 46, 104, 61, 132, 3, 1, 167, 255, 239]
abbrev dktX2_power_0 : List UInt8 := dkwX2_power_0 ++ dktX2_power_1
theorem dksX2_power_0 : cX2_power.data.toList.drop 0 = dktX2_power_0 := by decide +kernel
theorem dksX2_power_1 : cX2_power.data.toList.drop 24 = dktX2_power_1 := dk_seg dksX2_power_0 24 rfl rfl
theorem dX2_power_0 : decode cX2_power 0 = .ok (.iconst 1, 1) := dk_4 (dk_at dksX2_power_0 0 rfl rfl)
theorem dX2_power_1 : decode cX2_power 1 = .ok (.istore_n 2, 1) := dk_61 (dk_at dksX2_power_0 1 rfl rfl)
theorem dX2_power_2 : decode cX2_power 2 = .ok (.iconst 0, 1) := dk_3 (dk_at dksX2_power_0 2 rfl rfl)
theorem dX2_power_3 : decode cX2_power 3 = .ok (.istore_n 3, 1) := dk_62 (dk_at dksX2_power_0 3 rfl rfl)
theorem dX2_power_4 : decode cX2_power 4 = .ok (.iload_n 3, 1) := dk_29 (dk_at dksX2_power_0 4 rfl rfl)
theorem dX2_power_5 : decode cX2_power 5 = .ok (.iload_n 1, 1) := dk_27 (dk_at dksX2_power_0 5 rfl rfl)
theorem dX2_power_6 : decode cX2_power 6 = .ok (.if_icmp .ge 18, 3) := dk_162 0 18 (dk_at dksX2_power_0 6 rfl rfl)
theorem dX2_power_9 : decode cX2_power 9 = .ok (.iload_n 2, 1) := dk_28 (dk_at dksX2_power_0 9 rfl rfl)
theorem dX2_power_10 : decode cX2_power 10 = .ok (.aload_n 0, 1) := dk_42 (dk_at dksX2_power_0 10 rfl rfl)
theorem dX2_power_11 : decode cX2_power 11 = .ok (.getfield 20, 3) := dk_180 0 20 (dk_at dksX2_power_0 11 rfl rfl)
theorem dX2_power_14 : decode cX2_power 14 = .ok (.iconst 0, 1) := dk_3 (dk_at dksX2_power_0 14 rfl rfl)
theorem dX2_power_15 : decode cX2_power 15 = .ok (.iaload, 1) := dk_46 (dk_at dksX2_power_0 15 rfl rfl)
theorem dX2_power_16 : decode cX2_power 16 = .ok (.imul, 1) := dk_104 (dk_at dksX2_power_0 16 rfl rfl)
theorem dX2_power_17 : decode cX2_power 17 = .ok (.istore_n 2, 1) := dk_61 (dk_at dksX2_power_0 17 rfl rfl)
theorem dX2_power_18 : decode cX2_power 18 = .ok (.iinc 3 1, 3) := dk_132 3 1 (dk_at dksX2_power_0 18 rfl rfl)
theorem dX2_power_21 : decode cX2_power 21 = .ok (.goto (-17), 3) := dk_167 255 239 (dk_at dksX2_power_0 21 rfl rfl)
theorem dX2_power_24 : decode cX2_power 24 = .ok (.iload_n 2, 1) := dk_28 (dk_at dksX2_power_1 0 rfl rfl)
theorem dX2_power_25 : decode cX2_power 25 = .ok (.ireturn, 1) := dk_172 (dk_at dksX2_power_1 1 rfl rfl)
abbrev cX2_digitsApart : ByteArray := prog_16_method_70_code
def yX2_digitsApart : MethodName := ⟨RX2, "digitsApart", "(III)I"⟩
def dkwX2_digitsApart_3 : List UInt8 := [132, 7, 1, 167, 255, 194, 21, 4, 172]
abbrev dktX2_digitsApart_3 : List UInt8 := dkwX2_digitsApart_3 ++ []
def dkwX2_digitsApart_2 : List UInt8 := [54, 4, 21, 5, 42, 180, 0, 20, 3, 46, 108, 54, 5, 21, 6, 42, 180, 0, 20, 3, 46, 108, 54, 6]
abbrev dktX2_digitsApart_2 : List UInt8 := dkwX2_digitsApart_2 ++ dktX2_digitsApart_3
def dkwX2_digitsApart_1 : List UInt8 := [180, 0, 20, 3, 46, 112, 21, 6, 42, 180, 0, 20, 3, 46, 112, 160, 0, 7, 3, 167, 0, 4, 4, 96]
abbrev dktX2_digitsApart_1 : List UInt8 := dkwX2_digitsApart_1 ++ dktX2_digitsApart_2
def dkwX2_digitsApart_0 : List UInt8 := [3, 54, 4, 27, 54, 5, 28, 54, 6, 3, 54, 7, 21, 7, 29, 162, 0, 62, 21, 4, 21, 5, 42]
abbrev dktX2_digitsApart_0 : List UInt8 := dkwX2_digitsApart_0 ++ dktX2_digitsApart_1
theorem dksX2_digitsApart_0 : cX2_digitsApart.data.toList.drop 0 = dktX2_digitsApart_0 := by decide +kernel
theorem dksX2_digitsApart_1 : cX2_digitsApart.data.toList.drop 23 = dktX2_digitsApart_1 := dk_seg dksX2_digitsApart_0 23 rfl rfl
theorem dksX2_digitsApart_2 : cX2_digitsApart.data.toList.drop 47 = dktX2_digitsApart_2 := dk_seg dksX2_digitsApart_1 24 rfl rfl
theorem dksX2_digitsApart_3 : cX2_digitsApart.data.toList.drop 71 = dktX2_digitsApart_3 := dk_seg dksX2_digitsApart_2 24 rfl rfl
theorem dX2_digitsApart_0 : decode cX2_digitsApart 0 = .ok (.iconst 0, 1) := dk_3 (dk_at dksX2_digitsApart_0 0 rfl rfl)
theorem dX2_digitsApart_1 : decode cX2_digitsApart 1 = .ok (.istore 4, 2) := dk_54 4 (dk_at dksX2_digitsApart_0 1 rfl rfl)
theorem dX2_digitsApart_3 : decode cX2_digitsApart 3 = .ok (.iload_n 1, 1) := dk_27 (dk_at dksX2_digitsApart_0 3 rfl rfl)
theorem dX2_digitsApart_4 : decode cX2_digitsApart 4 = .ok (.istore 5, 2) := dk_54 5 (dk_at dksX2_digitsApart_0 4 rfl rfl)
theorem dX2_digitsApart_6 : decode cX2_digitsApart 6 = .ok (.iload_n 2, 1) := dk_28 (dk_at dksX2_digitsApart_0 6 rfl rfl)
theorem dX2_digitsApart_7 : decode cX2_digitsApart 7 = .ok (.istore 6, 2) := dk_54 6 (dk_at dksX2_digitsApart_0 7 rfl rfl)
theorem dX2_digitsApart_9 : decode cX2_digitsApart 9 = .ok (.iconst 0, 1) := dk_3 (dk_at dksX2_digitsApart_0 9 rfl rfl)
theorem dX2_digitsApart_10 : decode cX2_digitsApart 10 = .ok (.istore 7, 2) := dk_54 7 (dk_at dksX2_digitsApart_0 10 rfl rfl)
theorem dX2_digitsApart_12 : decode cX2_digitsApart 12 = .ok (.iload 7, 2) := dk_21 7 (dk_at dksX2_digitsApart_0 12 rfl rfl)
theorem dX2_digitsApart_14 : decode cX2_digitsApart 14 = .ok (.iload_n 3, 1) := dk_29 (dk_at dksX2_digitsApart_0 14 rfl rfl)
theorem dX2_digitsApart_15 : decode cX2_digitsApart 15 = .ok (.if_icmp .ge 62, 3) := dk_162 0 62 (dk_at dksX2_digitsApart_0 15 rfl rfl)
theorem dX2_digitsApart_18 : decode cX2_digitsApart 18 = .ok (.iload 4, 2) := dk_21 4 (dk_at dksX2_digitsApart_0 18 rfl rfl)
theorem dX2_digitsApart_20 : decode cX2_digitsApart 20 = .ok (.iload 5, 2) := dk_21 5 (dk_at dksX2_digitsApart_0 20 rfl rfl)
theorem dX2_digitsApart_22 : decode cX2_digitsApart 22 = .ok (.aload_n 0, 1) := dk_42 (dk_at dksX2_digitsApart_0 22 rfl rfl)
theorem dX2_digitsApart_23 : decode cX2_digitsApart 23 = .ok (.getfield 20, 3) := dk_180 0 20 (dk_at dksX2_digitsApart_1 0 rfl rfl)
theorem dX2_digitsApart_26 : decode cX2_digitsApart 26 = .ok (.iconst 0, 1) := dk_3 (dk_at dksX2_digitsApart_1 3 rfl rfl)
theorem dX2_digitsApart_27 : decode cX2_digitsApart 27 = .ok (.iaload, 1) := dk_46 (dk_at dksX2_digitsApart_1 4 rfl rfl)
theorem dX2_digitsApart_28 : decode cX2_digitsApart 28 = .ok (.irem, 1) := dk_112 (dk_at dksX2_digitsApart_1 5 rfl rfl)
theorem dX2_digitsApart_29 : decode cX2_digitsApart 29 = .ok (.iload 6, 2) := dk_21 6 (dk_at dksX2_digitsApart_1 6 rfl rfl)
theorem dX2_digitsApart_31 : decode cX2_digitsApart 31 = .ok (.aload_n 0, 1) := dk_42 (dk_at dksX2_digitsApart_1 8 rfl rfl)
theorem dX2_digitsApart_32 : decode cX2_digitsApart 32 = .ok (.getfield 20, 3) := dk_180 0 20 (dk_at dksX2_digitsApart_1 9 rfl rfl)
theorem dX2_digitsApart_35 : decode cX2_digitsApart 35 = .ok (.iconst 0, 1) := dk_3 (dk_at dksX2_digitsApart_1 12 rfl rfl)
theorem dX2_digitsApart_36 : decode cX2_digitsApart 36 = .ok (.iaload, 1) := dk_46 (dk_at dksX2_digitsApart_1 13 rfl rfl)
theorem dX2_digitsApart_37 : decode cX2_digitsApart 37 = .ok (.irem, 1) := dk_112 (dk_at dksX2_digitsApart_1 14 rfl rfl)
theorem dX2_digitsApart_38 : decode cX2_digitsApart 38 = .ok (.if_icmp .ne 7, 3) := dk_160 0 7 (dk_at dksX2_digitsApart_1 15 rfl rfl)
theorem dX2_digitsApart_41 : decode cX2_digitsApart 41 = .ok (.iconst 0, 1) := dk_3 (dk_at dksX2_digitsApart_1 18 rfl rfl)
theorem dX2_digitsApart_42 : decode cX2_digitsApart 42 = .ok (.goto 4, 3) := dk_167 0 4 (dk_at dksX2_digitsApart_1 19 rfl rfl)
theorem dX2_digitsApart_45 : decode cX2_digitsApart 45 = .ok (.iconst 1, 1) := dk_4 (dk_at dksX2_digitsApart_1 22 rfl rfl)
theorem dX2_digitsApart_46 : decode cX2_digitsApart 46 = .ok (.iadd, 1) := dk_96 (dk_at dksX2_digitsApart_1 23 rfl rfl)
theorem dX2_digitsApart_47 : decode cX2_digitsApart 47 = .ok (.istore 4, 2) := dk_54 4 (dk_at dksX2_digitsApart_2 0 rfl rfl)
theorem dX2_digitsApart_49 : decode cX2_digitsApart 49 = .ok (.iload 5, 2) := dk_21 5 (dk_at dksX2_digitsApart_2 2 rfl rfl)
theorem dX2_digitsApart_51 : decode cX2_digitsApart 51 = .ok (.aload_n 0, 1) := dk_42 (dk_at dksX2_digitsApart_2 4 rfl rfl)
theorem dX2_digitsApart_52 : decode cX2_digitsApart 52 = .ok (.getfield 20, 3) := dk_180 0 20 (dk_at dksX2_digitsApart_2 5 rfl rfl)
theorem dX2_digitsApart_55 : decode cX2_digitsApart 55 = .ok (.iconst 0, 1) := dk_3 (dk_at dksX2_digitsApart_2 8 rfl rfl)
theorem dX2_digitsApart_56 : decode cX2_digitsApart 56 = .ok (.iaload, 1) := dk_46 (dk_at dksX2_digitsApart_2 9 rfl rfl)
theorem dX2_digitsApart_57 : decode cX2_digitsApart 57 = .ok (.idiv, 1) := dk_108 (dk_at dksX2_digitsApart_2 10 rfl rfl)
theorem dX2_digitsApart_58 : decode cX2_digitsApart 58 = .ok (.istore 5, 2) := dk_54 5 (dk_at dksX2_digitsApart_2 11 rfl rfl)
theorem dX2_digitsApart_60 : decode cX2_digitsApart 60 = .ok (.iload 6, 2) := dk_21 6 (dk_at dksX2_digitsApart_2 13 rfl rfl)
theorem dX2_digitsApart_62 : decode cX2_digitsApart 62 = .ok (.aload_n 0, 1) := dk_42 (dk_at dksX2_digitsApart_2 15 rfl rfl)
theorem dX2_digitsApart_63 : decode cX2_digitsApart 63 = .ok (.getfield 20, 3) := dk_180 0 20 (dk_at dksX2_digitsApart_2 16 rfl rfl)
theorem dX2_digitsApart_66 : decode cX2_digitsApart 66 = .ok (.iconst 0, 1) := dk_3 (dk_at dksX2_digitsApart_2 19 rfl rfl)
theorem dX2_digitsApart_67 : decode cX2_digitsApart 67 = .ok (.iaload, 1) := dk_46 (dk_at dksX2_digitsApart_2 20 rfl rfl)
theorem dX2_digitsApart_68 : decode cX2_digitsApart 68 = .ok (.idiv, 1) := dk_108 (dk_at dksX2_digitsApart_2 21 rfl rfl)
theorem dX2_digitsApart_69 : decode cX2_digitsApart 69 = .ok (.istore 6, 2) := dk_54 6 (dk_at dksX2_digitsApart_2 22 rfl rfl)
theorem dX2_digitsApart_71 : decode cX2_digitsApart 71 = .ok (.iinc 7 1, 3) := dk_132 7 1 (dk_at dksX2_digitsApart_3 0 rfl rfl)
theorem dX2_digitsApart_74 : decode cX2_digitsApart 74 = .ok (.goto (-62), 3) := dk_167 255 194 (dk_at dksX2_digitsApart_3 3 rfl rfl)
theorem dX2_digitsApart_77 : decode cX2_digitsApart 77 = .ok (.iload 4, 2) := dk_21 4 (dk_at dksX2_digitsApart_3 6 rfl rfl)
theorem dX2_digitsApart_79 : decode cX2_digitsApart 79 = .ok (.ireturn, 1) := dk_172 (dk_at dksX2_digitsApart_3 8 rfl rfl)
abbrev cX2_byTurns : ByteArray := prog_16_method_74_code
def yX2_byTurns : MethodName := ⟨RX2, "byTurns", "(II)I"⟩
def dkwX2_byTurns_1 : List UInt8 := [27, 28, 4, 182, 1, 71, 172]
abbrev dktX2_byTurns_1 : List UInt8 := dkwX2_byTurns_1 ++ []
def dkwX2_byTurns_0 : List UInt8 := [42, 182, 0, 167, 42, 27, 28, 182, 1, 68, 62, 29, 153, 0, 11, 42, 29, 182, 0, 170, 167, 0, 10, 42]
abbrev dktX2_byTurns_0 : List UInt8 := dkwX2_byTurns_0 ++ dktX2_byTurns_1
theorem dksX2_byTurns_0 : cX2_byTurns.data.toList.drop 0 = dktX2_byTurns_0 := by decide +kernel
theorem dksX2_byTurns_1 : cX2_byTurns.data.toList.drop 24 = dktX2_byTurns_1 := dk_seg dksX2_byTurns_0 24 rfl rfl
theorem dX2_byTurns_0 : decode cX2_byTurns 0 = .ok (.aload_n 0, 1) := dk_42 (dk_at dksX2_byTurns_0 0 rfl rfl)
theorem dX2_byTurns_1 : decode cX2_byTurns 1 = .ok (.invokevirtual 167, 3) := dk_182 0 167 (dk_at dksX2_byTurns_0 1 rfl rfl)
theorem dX2_byTurns_4 : decode cX2_byTurns 4 = .ok (.aload_n 0, 1) := dk_42 (dk_at dksX2_byTurns_0 4 rfl rfl)
theorem dX2_byTurns_5 : decode cX2_byTurns 5 = .ok (.iload_n 1, 1) := dk_27 (dk_at dksX2_byTurns_0 5 rfl rfl)
theorem dX2_byTurns_6 : decode cX2_byTurns 6 = .ok (.iload_n 2, 1) := dk_28 (dk_at dksX2_byTurns_0 6 rfl rfl)
theorem dX2_byTurns_7 : decode cX2_byTurns 7 = .ok (.invokevirtual 324, 3) := dk_182 1 68 (dk_at dksX2_byTurns_0 7 rfl rfl)
theorem dX2_byTurns_10 : decode cX2_byTurns 10 = .ok (.istore_n 3, 1) := dk_62 (dk_at dksX2_byTurns_0 10 rfl rfl)
theorem dX2_byTurns_11 : decode cX2_byTurns 11 = .ok (.iload_n 3, 1) := dk_29 (dk_at dksX2_byTurns_0 11 rfl rfl)
theorem dX2_byTurns_12 : decode cX2_byTurns 12 = .ok (.ifCond .eq 11, 3) := dk_153 0 11 (dk_at dksX2_byTurns_0 12 rfl rfl)
theorem dX2_byTurns_15 : decode cX2_byTurns 15 = .ok (.aload_n 0, 1) := dk_42 (dk_at dksX2_byTurns_0 15 rfl rfl)
theorem dX2_byTurns_16 : decode cX2_byTurns 16 = .ok (.iload_n 3, 1) := dk_29 (dk_at dksX2_byTurns_0 16 rfl rfl)
theorem dX2_byTurns_17 : decode cX2_byTurns 17 = .ok (.invokevirtual 170, 3) := dk_182 0 170 (dk_at dksX2_byTurns_0 17 rfl rfl)
theorem dX2_byTurns_20 : decode cX2_byTurns 20 = .ok (.goto 10, 3) := dk_167 0 10 (dk_at dksX2_byTurns_0 20 rfl rfl)
theorem dX2_byTurns_23 : decode cX2_byTurns 23 = .ok (.aload_n 0, 1) := dk_42 (dk_at dksX2_byTurns_0 23 rfl rfl)
theorem dX2_byTurns_24 : decode cX2_byTurns 24 = .ok (.iload_n 1, 1) := dk_27 (dk_at dksX2_byTurns_1 0 rfl rfl)
theorem dX2_byTurns_25 : decode cX2_byTurns 25 = .ok (.iload_n 2, 1) := dk_28 (dk_at dksX2_byTurns_1 1 rfl rfl)
theorem dX2_byTurns_26 : decode cX2_byTurns 26 = .ok (.iconst 1, 1) := dk_4 (dk_at dksX2_byTurns_1 2 rfl rfl)
theorem dX2_byTurns_27 : decode cX2_byTurns 27 = .ok (.invokevirtual 327, 3) := dk_182 1 71 (dk_at dksX2_byTurns_1 3 rfl rfl)
theorem dX2_byTurns_30 : decode cX2_byTurns 30 = .ok (.ireturn, 1) := dk_172 (dk_at dksX2_byTurns_1 6 rfl rfl)
abbrev cX2_heardIn : ByteArray := prog_16_method_75_code
def yX2_heardIn : MethodName := ⟨RX2, "heardIn", "(II)I"⟩
def dkwX2_heardIn_2 : List UInt8 := [42, 5, 182, 0, 170, 172]
abbrev dktX2_heardIn_2 : List UInt8 := dkwX2_heardIn_2 ++ []
def dkwX2_heardIn_1 : List UInt8 := [184, 0, 149, 153, 0, 21, 42, 27, 42, 180, 0, 26, 3, 46, 28, 96, 2, 3, 182, 1, 35, 167, 0, 8]
abbrev dktX2_heardIn_1 : List UInt8 := dkwX2_heardIn_1 ++ dktX2_heardIn_2
def dkwX2_heardIn_0 : List UInt8 := [42, 182, 0, 167, 42, 27, 182, 1, 18, 154, 0, 9, 42, 4, 182, 0, 170, 172, 28, 3, 16, 99]
abbrev dktX2_heardIn_0 : List UInt8 := dkwX2_heardIn_0 ++ dktX2_heardIn_1
theorem dksX2_heardIn_0 : cX2_heardIn.data.toList.drop 0 = dktX2_heardIn_0 := by decide +kernel
theorem dksX2_heardIn_1 : cX2_heardIn.data.toList.drop 22 = dktX2_heardIn_1 := dk_seg dksX2_heardIn_0 22 rfl rfl
theorem dksX2_heardIn_2 : cX2_heardIn.data.toList.drop 46 = dktX2_heardIn_2 := dk_seg dksX2_heardIn_1 24 rfl rfl
theorem dX2_heardIn_0 : decode cX2_heardIn 0 = .ok (.aload_n 0, 1) := dk_42 (dk_at dksX2_heardIn_0 0 rfl rfl)
theorem dX2_heardIn_1 : decode cX2_heardIn 1 = .ok (.invokevirtual 167, 3) := dk_182 0 167 (dk_at dksX2_heardIn_0 1 rfl rfl)
theorem dX2_heardIn_4 : decode cX2_heardIn 4 = .ok (.aload_n 0, 1) := dk_42 (dk_at dksX2_heardIn_0 4 rfl rfl)
theorem dX2_heardIn_5 : decode cX2_heardIn 5 = .ok (.iload_n 1, 1) := dk_27 (dk_at dksX2_heardIn_0 5 rfl rfl)
theorem dX2_heardIn_6 : decode cX2_heardIn 6 = .ok (.invokevirtual 274, 3) := dk_182 1 18 (dk_at dksX2_heardIn_0 6 rfl rfl)
theorem dX2_heardIn_9 : decode cX2_heardIn 9 = .ok (.ifCond .ne 9, 3) := dk_154 0 9 (dk_at dksX2_heardIn_0 9 rfl rfl)
theorem dX2_heardIn_12 : decode cX2_heardIn 12 = .ok (.aload_n 0, 1) := dk_42 (dk_at dksX2_heardIn_0 12 rfl rfl)
theorem dX2_heardIn_13 : decode cX2_heardIn 13 = .ok (.iconst 1, 1) := dk_4 (dk_at dksX2_heardIn_0 13 rfl rfl)
theorem dX2_heardIn_14 : decode cX2_heardIn 14 = .ok (.invokevirtual 170, 3) := dk_182 0 170 (dk_at dksX2_heardIn_0 14 rfl rfl)
theorem dX2_heardIn_17 : decode cX2_heardIn 17 = .ok (.ireturn, 1) := dk_172 (dk_at dksX2_heardIn_0 17 rfl rfl)
theorem dX2_heardIn_18 : decode cX2_heardIn 18 = .ok (.iload_n 2, 1) := dk_28 (dk_at dksX2_heardIn_0 18 rfl rfl)
theorem dX2_heardIn_19 : decode cX2_heardIn 19 = .ok (.iconst 0, 1) := dk_3 (dk_at dksX2_heardIn_0 19 rfl rfl)
theorem dX2_heardIn_20 : decode cX2_heardIn 20 = .ok (.bipush 99, 2) := dk_16 99 (dk_at dksX2_heardIn_0 20 rfl rfl)
theorem dX2_heardIn_22 : decode cX2_heardIn 22 = .ok (.invokestatic 149, 3) := dk_184 0 149 (dk_at dksX2_heardIn_1 0 rfl rfl)
theorem dX2_heardIn_25 : decode cX2_heardIn 25 = .ok (.ifCond .eq 21, 3) := dk_153 0 21 (dk_at dksX2_heardIn_1 3 rfl rfl)
theorem dX2_heardIn_28 : decode cX2_heardIn 28 = .ok (.aload_n 0, 1) := dk_42 (dk_at dksX2_heardIn_1 6 rfl rfl)
theorem dX2_heardIn_29 : decode cX2_heardIn 29 = .ok (.iload_n 1, 1) := dk_27 (dk_at dksX2_heardIn_1 7 rfl rfl)
theorem dX2_heardIn_30 : decode cX2_heardIn 30 = .ok (.aload_n 0, 1) := dk_42 (dk_at dksX2_heardIn_1 8 rfl rfl)
theorem dX2_heardIn_31 : decode cX2_heardIn 31 = .ok (.getfield 26, 3) := dk_180 0 26 (dk_at dksX2_heardIn_1 9 rfl rfl)
theorem dX2_heardIn_34 : decode cX2_heardIn 34 = .ok (.iconst 0, 1) := dk_3 (dk_at dksX2_heardIn_1 12 rfl rfl)
theorem dX2_heardIn_35 : decode cX2_heardIn 35 = .ok (.iaload, 1) := dk_46 (dk_at dksX2_heardIn_1 13 rfl rfl)
theorem dX2_heardIn_36 : decode cX2_heardIn 36 = .ok (.iload_n 2, 1) := dk_28 (dk_at dksX2_heardIn_1 14 rfl rfl)
theorem dX2_heardIn_37 : decode cX2_heardIn 37 = .ok (.iadd, 1) := dk_96 (dk_at dksX2_heardIn_1 15 rfl rfl)
theorem dX2_heardIn_38 : decode cX2_heardIn 38 = .ok (.iconst (-1), 1) := dk_2 (dk_at dksX2_heardIn_1 16 rfl rfl)
theorem dX2_heardIn_39 : decode cX2_heardIn 39 = .ok (.iconst 0, 1) := dk_3 (dk_at dksX2_heardIn_1 17 rfl rfl)
theorem dX2_heardIn_40 : decode cX2_heardIn 40 = .ok (.invokevirtual 291, 3) := dk_182 1 35 (dk_at dksX2_heardIn_1 18 rfl rfl)
theorem dX2_heardIn_43 : decode cX2_heardIn 43 = .ok (.goto 8, 3) := dk_167 0 8 (dk_at dksX2_heardIn_1 21 rfl rfl)
theorem dX2_heardIn_46 : decode cX2_heardIn 46 = .ok (.aload_n 0, 1) := dk_42 (dk_at dksX2_heardIn_2 0 rfl rfl)
theorem dX2_heardIn_47 : decode cX2_heardIn 47 = .ok (.iconst 2, 1) := dk_5 (dk_at dksX2_heardIn_2 1 rfl rfl)
theorem dX2_heardIn_48 : decode cX2_heardIn 48 = .ok (.invokevirtual 170, 3) := dk_182 0 170 (dk_at dksX2_heardIn_2 2 rfl rfl)
theorem dX2_heardIn_51 : decode cX2_heardIn 51 = .ok (.ireturn, 1) := dk_172 (dk_at dksX2_heardIn_2 5 rfl rfl)
abbrev cX2_strange : ByteArray := prog_16_method_77_code
def yX2_strange : MethodName := ⟨RX2, "strange", "(I)I"⟩
def dkwX2_strange_2 : List UInt8 := [167, 255, 229, 16, 254, 172]
abbrev dktX2_strange_2 : List UInt8 := dkwX2_strange_2 ++ []
def dkwX2_strange_1 : List UInt8 := [162, 0, 27, 42, 27, 42, 180, 0, 26, 3, 46, 28, 96, 182, 1, 75, 154, 0, 5, 28, 172, 132, 2, 1]
abbrev dktX2_strange_1 : List UInt8 := dkwX2_strange_1 ++ dktX2_strange_2
def dkwX2_strange_0 : List UInt8 := [42, 182, 0, 167, 42, 27, 182, 1, 21, 154, 0, 9, 42, 4, 182, 0, 170, 172, 3, 61, 28, 16, 100]
abbrev dktX2_strange_0 : List UInt8 := dkwX2_strange_0 ++ dktX2_strange_1
theorem dksX2_strange_0 : cX2_strange.data.toList.drop 0 = dktX2_strange_0 := by decide +kernel
theorem dksX2_strange_1 : cX2_strange.data.toList.drop 23 = dktX2_strange_1 := dk_seg dksX2_strange_0 23 rfl rfl
theorem dksX2_strange_2 : cX2_strange.data.toList.drop 47 = dktX2_strange_2 := dk_seg dksX2_strange_1 24 rfl rfl
theorem dX2_strange_0 : decode cX2_strange 0 = .ok (.aload_n 0, 1) := dk_42 (dk_at dksX2_strange_0 0 rfl rfl)
theorem dX2_strange_1 : decode cX2_strange 1 = .ok (.invokevirtual 167, 3) := dk_182 0 167 (dk_at dksX2_strange_0 1 rfl rfl)
theorem dX2_strange_4 : decode cX2_strange 4 = .ok (.aload_n 0, 1) := dk_42 (dk_at dksX2_strange_0 4 rfl rfl)
theorem dX2_strange_5 : decode cX2_strange 5 = .ok (.iload_n 1, 1) := dk_27 (dk_at dksX2_strange_0 5 rfl rfl)
theorem dX2_strange_6 : decode cX2_strange 6 = .ok (.invokevirtual 277, 3) := dk_182 1 21 (dk_at dksX2_strange_0 6 rfl rfl)
theorem dX2_strange_9 : decode cX2_strange 9 = .ok (.ifCond .ne 9, 3) := dk_154 0 9 (dk_at dksX2_strange_0 9 rfl rfl)
theorem dX2_strange_12 : decode cX2_strange 12 = .ok (.aload_n 0, 1) := dk_42 (dk_at dksX2_strange_0 12 rfl rfl)
theorem dX2_strange_13 : decode cX2_strange 13 = .ok (.iconst 1, 1) := dk_4 (dk_at dksX2_strange_0 13 rfl rfl)
theorem dX2_strange_14 : decode cX2_strange 14 = .ok (.invokevirtual 170, 3) := dk_182 0 170 (dk_at dksX2_strange_0 14 rfl rfl)
theorem dX2_strange_17 : decode cX2_strange 17 = .ok (.ireturn, 1) := dk_172 (dk_at dksX2_strange_0 17 rfl rfl)
theorem dX2_strange_18 : decode cX2_strange 18 = .ok (.iconst 0, 1) := dk_3 (dk_at dksX2_strange_0 18 rfl rfl)
theorem dX2_strange_19 : decode cX2_strange 19 = .ok (.istore_n 2, 1) := dk_61 (dk_at dksX2_strange_0 19 rfl rfl)
theorem dX2_strange_20 : decode cX2_strange 20 = .ok (.iload_n 2, 1) := dk_28 (dk_at dksX2_strange_0 20 rfl rfl)
theorem dX2_strange_21 : decode cX2_strange 21 = .ok (.bipush 100, 2) := dk_16 100 (dk_at dksX2_strange_0 21 rfl rfl)
theorem dX2_strange_23 : decode cX2_strange 23 = .ok (.if_icmp .ge 27, 3) := dk_162 0 27 (dk_at dksX2_strange_1 0 rfl rfl)
theorem dX2_strange_26 : decode cX2_strange 26 = .ok (.aload_n 0, 1) := dk_42 (dk_at dksX2_strange_1 3 rfl rfl)
theorem dX2_strange_27 : decode cX2_strange 27 = .ok (.iload_n 1, 1) := dk_27 (dk_at dksX2_strange_1 4 rfl rfl)
theorem dX2_strange_28 : decode cX2_strange 28 = .ok (.aload_n 0, 1) := dk_42 (dk_at dksX2_strange_1 5 rfl rfl)
theorem dX2_strange_29 : decode cX2_strange 29 = .ok (.getfield 26, 3) := dk_180 0 26 (dk_at dksX2_strange_1 6 rfl rfl)
theorem dX2_strange_32 : decode cX2_strange 32 = .ok (.iconst 0, 1) := dk_3 (dk_at dksX2_strange_1 9 rfl rfl)
theorem dX2_strange_33 : decode cX2_strange 33 = .ok (.iaload, 1) := dk_46 (dk_at dksX2_strange_1 10 rfl rfl)
theorem dX2_strange_34 : decode cX2_strange 34 = .ok (.iload_n 2, 1) := dk_28 (dk_at dksX2_strange_1 11 rfl rfl)
theorem dX2_strange_35 : decode cX2_strange 35 = .ok (.iadd, 1) := dk_96 (dk_at dksX2_strange_1 12 rfl rfl)
theorem dX2_strange_36 : decode cX2_strange 36 = .ok (.invokevirtual 331, 3) := dk_182 1 75 (dk_at dksX2_strange_1 13 rfl rfl)
theorem dX2_strange_39 : decode cX2_strange 39 = .ok (.ifCond .ne 5, 3) := dk_154 0 5 (dk_at dksX2_strange_1 16 rfl rfl)
theorem dX2_strange_42 : decode cX2_strange 42 = .ok (.iload_n 2, 1) := dk_28 (dk_at dksX2_strange_1 19 rfl rfl)
theorem dX2_strange_43 : decode cX2_strange 43 = .ok (.ireturn, 1) := dk_172 (dk_at dksX2_strange_1 20 rfl rfl)
theorem dX2_strange_44 : decode cX2_strange 44 = .ok (.iinc 2 1, 3) := dk_132 2 1 (dk_at dksX2_strange_1 21 rfl rfl)
theorem dX2_strange_47 : decode cX2_strange 47 = .ok (.goto (-27), 3) := dk_167 255 229 (dk_at dksX2_strange_2 0 rfl rfl)
theorem dX2_strange_50 : decode cX2_strange 50 = .ok (.bipush (-2), 2) := dk_16 254 (dk_at dksX2_strange_2 3 rfl rfl)
theorem dX2_strange_52 : decode cX2_strange 52 = .ok (.ireturn, 1) := dk_172 (dk_at dksX2_strange_2 5 rfl rfl)
abbrev cX2_hearsItself : ByteArray := prog_16_method_76_code
def yX2_hearsItself : MethodName := ⟨RX2, "hearsItself", "(II)Z"⟩
def dkwX2_hearsItself_8 : List UInt8 := [132, 5, 1, 167, 255, 140, 21, 4, 172]
abbrev dktX2_hearsItself_8 : List UInt8 := dkwX2_hearsItself_8 ++ []
def dkwX2_hearsItself_7 : List UInt8 := [132, 7, 1, 167, 255, 204, 21, 4, 153, 0, 13, 29, 21, 6, 162, 0, 7, 4, 167, 0, 4, 3, 54, 4]
abbrev dktX2_hearsItself_7 : List UInt8 := dkwX2_hearsItself_7 ++ dktX2_hearsItself_8
def dkwX2_hearsItself_6 : List UInt8 := [16, 10, 16, 7, 27, 104, 96, 4, 96, 21, 7, 96, 46, 160, 0, 7, 3, 167, 0, 4, 4, 96, 54, 6]
abbrev dktX2_hearsItself_6 : List UInt8 := dkwX2_hearsItself_6 ++ dktX2_hearsItself_7
def dkwX2_hearsItself_5 : List UInt8 := [42, 27, 182, 1, 9, 162, 0, 48, 21, 6, 42, 21, 5, 21, 7, 28, 182, 1, 24, 42, 180, 0, 20]
abbrev dktX2_hearsItself_5 : List UInt8 := dkwX2_hearsItself_5 ++ dktX2_hearsItself_6
def dkwX2_hearsItself_4 : List UInt8 := [21, 5, 182, 1, 9, 42, 27, 182, 1, 9, 159, 0, 6, 167, 0, 82, 3, 54, 6, 3, 54, 7, 21, 7]
abbrev dktX2_hearsItself_4 : List UInt8 := dkwX2_hearsItself_4 ++ dktX2_hearsItself_5
def dkwX2_hearsItself_3 : List UInt8 := [54, 4, 3, 54, 5, 21, 5, 42, 180, 0, 20, 7, 46, 162, 0, 111, 21, 5, 27, 159, 0, 99, 42]
abbrev dktX2_hearsItself_3 : List UInt8 := dkwX2_hearsItself_3 ++ dktX2_hearsItself_4
def dkwX2_hearsItself_2 : List UInt8 := [4, 96, 62, 132, 4, 1, 167, 255, 207, 29, 42, 180, 0, 20, 4, 46, 163, 0, 7, 4, 167, 0, 4, 3]
abbrev dktX2_hearsItself_2 : List UInt8 := dkwX2_hearsItself_2 ++ dktX2_hearsItself_3
def dkwX2_hearsItself_1 : List UInt8 := [42, 180, 0, 20, 16, 10, 16, 7, 27, 104, 96, 4, 96, 21, 4, 96, 46, 160, 0, 7, 3, 167, 0, 4]
abbrev dktX2_hearsItself_1 : List UInt8 := dkwX2_hearsItself_1 ++ dktX2_hearsItself_2
def dkwX2_hearsItself_0 : List UInt8 := [3, 62, 3, 54, 4, 21, 4, 42, 27, 182, 1, 9, 162, 0, 45, 29, 42, 27, 21, 4, 28, 182, 1, 24]
abbrev dktX2_hearsItself_0 : List UInt8 := dkwX2_hearsItself_0 ++ dktX2_hearsItself_1
theorem dksX2_hearsItself_0 : cX2_hearsItself.data.toList.drop 0 = dktX2_hearsItself_0 := by decide +kernel
theorem dksX2_hearsItself_1 : cX2_hearsItself.data.toList.drop 24 = dktX2_hearsItself_1 := dk_seg dksX2_hearsItself_0 24 rfl rfl
theorem dksX2_hearsItself_2 : cX2_hearsItself.data.toList.drop 48 = dktX2_hearsItself_2 := dk_seg dksX2_hearsItself_1 24 rfl rfl
theorem dksX2_hearsItself_3 : cX2_hearsItself.data.toList.drop 72 = dktX2_hearsItself_3 := dk_seg dksX2_hearsItself_2 24 rfl rfl
theorem dksX2_hearsItself_4 : cX2_hearsItself.data.toList.drop 95 = dktX2_hearsItself_4 := dk_seg dksX2_hearsItself_3 23 rfl rfl
theorem dksX2_hearsItself_5 : cX2_hearsItself.data.toList.drop 119 = dktX2_hearsItself_5 := dk_seg dksX2_hearsItself_4 24 rfl rfl
theorem dksX2_hearsItself_6 : cX2_hearsItself.data.toList.drop 142 = dktX2_hearsItself_6 := dk_seg dksX2_hearsItself_5 23 rfl rfl
theorem dksX2_hearsItself_7 : cX2_hearsItself.data.toList.drop 166 = dktX2_hearsItself_7 := dk_seg dksX2_hearsItself_6 24 rfl rfl
theorem dksX2_hearsItself_8 : cX2_hearsItself.data.toList.drop 190 = dktX2_hearsItself_8 := dk_seg dksX2_hearsItself_7 24 rfl rfl
theorem dX2_hearsItself_0 : decode cX2_hearsItself 0 = .ok (.iconst 0, 1) := dk_3 (dk_at dksX2_hearsItself_0 0 rfl rfl)
theorem dX2_hearsItself_1 : decode cX2_hearsItself 1 = .ok (.istore_n 3, 1) := dk_62 (dk_at dksX2_hearsItself_0 1 rfl rfl)
theorem dX2_hearsItself_2 : decode cX2_hearsItself 2 = .ok (.iconst 0, 1) := dk_3 (dk_at dksX2_hearsItself_0 2 rfl rfl)
theorem dX2_hearsItself_3 : decode cX2_hearsItself 3 = .ok (.istore 4, 2) := dk_54 4 (dk_at dksX2_hearsItself_0 3 rfl rfl)
theorem dX2_hearsItself_5 : decode cX2_hearsItself 5 = .ok (.iload 4, 2) := dk_21 4 (dk_at dksX2_hearsItself_0 5 rfl rfl)
theorem dX2_hearsItself_7 : decode cX2_hearsItself 7 = .ok (.aload_n 0, 1) := dk_42 (dk_at dksX2_hearsItself_0 7 rfl rfl)
theorem dX2_hearsItself_8 : decode cX2_hearsItself 8 = .ok (.iload_n 1, 1) := dk_27 (dk_at dksX2_hearsItself_0 8 rfl rfl)
theorem dX2_hearsItself_9 : decode cX2_hearsItself 9 = .ok (.invokevirtual 265, 3) := dk_182 1 9 (dk_at dksX2_hearsItself_0 9 rfl rfl)
theorem dX2_hearsItself_12 : decode cX2_hearsItself 12 = .ok (.if_icmp .ge 45, 3) := dk_162 0 45 (dk_at dksX2_hearsItself_0 12 rfl rfl)
theorem dX2_hearsItself_15 : decode cX2_hearsItself 15 = .ok (.iload_n 3, 1) := dk_29 (dk_at dksX2_hearsItself_0 15 rfl rfl)
theorem dX2_hearsItself_16 : decode cX2_hearsItself 16 = .ok (.aload_n 0, 1) := dk_42 (dk_at dksX2_hearsItself_0 16 rfl rfl)
theorem dX2_hearsItself_17 : decode cX2_hearsItself 17 = .ok (.iload_n 1, 1) := dk_27 (dk_at dksX2_hearsItself_0 17 rfl rfl)
theorem dX2_hearsItself_18 : decode cX2_hearsItself 18 = .ok (.iload 4, 2) := dk_21 4 (dk_at dksX2_hearsItself_0 18 rfl rfl)
theorem dX2_hearsItself_20 : decode cX2_hearsItself 20 = .ok (.iload_n 2, 1) := dk_28 (dk_at dksX2_hearsItself_0 20 rfl rfl)
theorem dX2_hearsItself_21 : decode cX2_hearsItself 21 = .ok (.invokevirtual 280, 3) := dk_182 1 24 (dk_at dksX2_hearsItself_0 21 rfl rfl)
theorem dX2_hearsItself_24 : decode cX2_hearsItself 24 = .ok (.aload_n 0, 1) := dk_42 (dk_at dksX2_hearsItself_1 0 rfl rfl)
theorem dX2_hearsItself_25 : decode cX2_hearsItself 25 = .ok (.getfield 20, 3) := dk_180 0 20 (dk_at dksX2_hearsItself_1 1 rfl rfl)
theorem dX2_hearsItself_28 : decode cX2_hearsItself 28 = .ok (.bipush 10, 2) := dk_16 10 (dk_at dksX2_hearsItself_1 4 rfl rfl)
theorem dX2_hearsItself_30 : decode cX2_hearsItself 30 = .ok (.bipush 7, 2) := dk_16 7 (dk_at dksX2_hearsItself_1 6 rfl rfl)
theorem dX2_hearsItself_32 : decode cX2_hearsItself 32 = .ok (.iload_n 1, 1) := dk_27 (dk_at dksX2_hearsItself_1 8 rfl rfl)
theorem dX2_hearsItself_33 : decode cX2_hearsItself 33 = .ok (.imul, 1) := dk_104 (dk_at dksX2_hearsItself_1 9 rfl rfl)
theorem dX2_hearsItself_34 : decode cX2_hearsItself 34 = .ok (.iadd, 1) := dk_96 (dk_at dksX2_hearsItself_1 10 rfl rfl)
theorem dX2_hearsItself_35 : decode cX2_hearsItself 35 = .ok (.iconst 1, 1) := dk_4 (dk_at dksX2_hearsItself_1 11 rfl rfl)
theorem dX2_hearsItself_36 : decode cX2_hearsItself 36 = .ok (.iadd, 1) := dk_96 (dk_at dksX2_hearsItself_1 12 rfl rfl)
theorem dX2_hearsItself_37 : decode cX2_hearsItself 37 = .ok (.iload 4, 2) := dk_21 4 (dk_at dksX2_hearsItself_1 13 rfl rfl)
theorem dX2_hearsItself_39 : decode cX2_hearsItself 39 = .ok (.iadd, 1) := dk_96 (dk_at dksX2_hearsItself_1 15 rfl rfl)
theorem dX2_hearsItself_40 : decode cX2_hearsItself 40 = .ok (.iaload, 1) := dk_46 (dk_at dksX2_hearsItself_1 16 rfl rfl)
theorem dX2_hearsItself_41 : decode cX2_hearsItself 41 = .ok (.if_icmp .ne 7, 3) := dk_160 0 7 (dk_at dksX2_hearsItself_1 17 rfl rfl)
theorem dX2_hearsItself_44 : decode cX2_hearsItself 44 = .ok (.iconst 0, 1) := dk_3 (dk_at dksX2_hearsItself_1 20 rfl rfl)
theorem dX2_hearsItself_45 : decode cX2_hearsItself 45 = .ok (.goto 4, 3) := dk_167 0 4 (dk_at dksX2_hearsItself_1 21 rfl rfl)
theorem dX2_hearsItself_48 : decode cX2_hearsItself 48 = .ok (.iconst 1, 1) := dk_4 (dk_at dksX2_hearsItself_2 0 rfl rfl)
theorem dX2_hearsItself_49 : decode cX2_hearsItself 49 = .ok (.iadd, 1) := dk_96 (dk_at dksX2_hearsItself_2 1 rfl rfl)
theorem dX2_hearsItself_50 : decode cX2_hearsItself 50 = .ok (.istore_n 3, 1) := dk_62 (dk_at dksX2_hearsItself_2 2 rfl rfl)
theorem dX2_hearsItself_51 : decode cX2_hearsItself 51 = .ok (.iinc 4 1, 3) := dk_132 4 1 (dk_at dksX2_hearsItself_2 3 rfl rfl)
theorem dX2_hearsItself_54 : decode cX2_hearsItself 54 = .ok (.goto (-49), 3) := dk_167 255 207 (dk_at dksX2_hearsItself_2 6 rfl rfl)
theorem dX2_hearsItself_57 : decode cX2_hearsItself 57 = .ok (.iload_n 3, 1) := dk_29 (dk_at dksX2_hearsItself_2 9 rfl rfl)
theorem dX2_hearsItself_58 : decode cX2_hearsItself 58 = .ok (.aload_n 0, 1) := dk_42 (dk_at dksX2_hearsItself_2 10 rfl rfl)
theorem dX2_hearsItself_59 : decode cX2_hearsItself 59 = .ok (.getfield 20, 3) := dk_180 0 20 (dk_at dksX2_hearsItself_2 11 rfl rfl)
theorem dX2_hearsItself_62 : decode cX2_hearsItself 62 = .ok (.iconst 1, 1) := dk_4 (dk_at dksX2_hearsItself_2 14 rfl rfl)
theorem dX2_hearsItself_63 : decode cX2_hearsItself 63 = .ok (.iaload, 1) := dk_46 (dk_at dksX2_hearsItself_2 15 rfl rfl)
theorem dX2_hearsItself_64 : decode cX2_hearsItself 64 = .ok (.if_icmp .gt 7, 3) := dk_163 0 7 (dk_at dksX2_hearsItself_2 16 rfl rfl)
theorem dX2_hearsItself_67 : decode cX2_hearsItself 67 = .ok (.iconst 1, 1) := dk_4 (dk_at dksX2_hearsItself_2 19 rfl rfl)
theorem dX2_hearsItself_68 : decode cX2_hearsItself 68 = .ok (.goto 4, 3) := dk_167 0 4 (dk_at dksX2_hearsItself_2 20 rfl rfl)
theorem dX2_hearsItself_71 : decode cX2_hearsItself 71 = .ok (.iconst 0, 1) := dk_3 (dk_at dksX2_hearsItself_2 23 rfl rfl)
theorem dX2_hearsItself_72 : decode cX2_hearsItself 72 = .ok (.istore 4, 2) := dk_54 4 (dk_at dksX2_hearsItself_3 0 rfl rfl)
theorem dX2_hearsItself_74 : decode cX2_hearsItself 74 = .ok (.iconst 0, 1) := dk_3 (dk_at dksX2_hearsItself_3 2 rfl rfl)
theorem dX2_hearsItself_75 : decode cX2_hearsItself 75 = .ok (.istore 5, 2) := dk_54 5 (dk_at dksX2_hearsItself_3 3 rfl rfl)
theorem dX2_hearsItself_77 : decode cX2_hearsItself 77 = .ok (.iload 5, 2) := dk_21 5 (dk_at dksX2_hearsItself_3 5 rfl rfl)
theorem dX2_hearsItself_79 : decode cX2_hearsItself 79 = .ok (.aload_n 0, 1) := dk_42 (dk_at dksX2_hearsItself_3 7 rfl rfl)
theorem dX2_hearsItself_80 : decode cX2_hearsItself 80 = .ok (.getfield 20, 3) := dk_180 0 20 (dk_at dksX2_hearsItself_3 8 rfl rfl)
theorem dX2_hearsItself_83 : decode cX2_hearsItself 83 = .ok (.iconst 4, 1) := dk_7 (dk_at dksX2_hearsItself_3 11 rfl rfl)
theorem dX2_hearsItself_84 : decode cX2_hearsItself 84 = .ok (.iaload, 1) := dk_46 (dk_at dksX2_hearsItself_3 12 rfl rfl)
theorem dX2_hearsItself_85 : decode cX2_hearsItself 85 = .ok (.if_icmp .ge 111, 3) := dk_162 0 111 (dk_at dksX2_hearsItself_3 13 rfl rfl)
theorem dX2_hearsItself_88 : decode cX2_hearsItself 88 = .ok (.iload 5, 2) := dk_21 5 (dk_at dksX2_hearsItself_3 16 rfl rfl)
theorem dX2_hearsItself_90 : decode cX2_hearsItself 90 = .ok (.iload_n 1, 1) := dk_27 (dk_at dksX2_hearsItself_3 18 rfl rfl)
theorem dX2_hearsItself_91 : decode cX2_hearsItself 91 = .ok (.if_icmp .eq 99, 3) := dk_159 0 99 (dk_at dksX2_hearsItself_3 19 rfl rfl)
theorem dX2_hearsItself_94 : decode cX2_hearsItself 94 = .ok (.aload_n 0, 1) := dk_42 (dk_at dksX2_hearsItself_3 22 rfl rfl)
theorem dX2_hearsItself_95 : decode cX2_hearsItself 95 = .ok (.iload 5, 2) := dk_21 5 (dk_at dksX2_hearsItself_4 0 rfl rfl)
theorem dX2_hearsItself_97 : decode cX2_hearsItself 97 = .ok (.invokevirtual 265, 3) := dk_182 1 9 (dk_at dksX2_hearsItself_4 2 rfl rfl)
theorem dX2_hearsItself_100 : decode cX2_hearsItself 100 = .ok (.aload_n 0, 1) := dk_42 (dk_at dksX2_hearsItself_4 5 rfl rfl)
theorem dX2_hearsItself_101 : decode cX2_hearsItself 101 = .ok (.iload_n 1, 1) := dk_27 (dk_at dksX2_hearsItself_4 6 rfl rfl)
theorem dX2_hearsItself_102 : decode cX2_hearsItself 102 = .ok (.invokevirtual 265, 3) := dk_182 1 9 (dk_at dksX2_hearsItself_4 7 rfl rfl)
theorem dX2_hearsItself_105 : decode cX2_hearsItself 105 = .ok (.if_icmp .eq 6, 3) := dk_159 0 6 (dk_at dksX2_hearsItself_4 10 rfl rfl)
theorem dX2_hearsItself_108 : decode cX2_hearsItself 108 = .ok (.goto 82, 3) := dk_167 0 82 (dk_at dksX2_hearsItself_4 13 rfl rfl)
theorem dX2_hearsItself_111 : decode cX2_hearsItself 111 = .ok (.iconst 0, 1) := dk_3 (dk_at dksX2_hearsItself_4 16 rfl rfl)
theorem dX2_hearsItself_112 : decode cX2_hearsItself 112 = .ok (.istore 6, 2) := dk_54 6 (dk_at dksX2_hearsItself_4 17 rfl rfl)
theorem dX2_hearsItself_114 : decode cX2_hearsItself 114 = .ok (.iconst 0, 1) := dk_3 (dk_at dksX2_hearsItself_4 19 rfl rfl)
theorem dX2_hearsItself_115 : decode cX2_hearsItself 115 = .ok (.istore 7, 2) := dk_54 7 (dk_at dksX2_hearsItself_4 20 rfl rfl)
theorem dX2_hearsItself_117 : decode cX2_hearsItself 117 = .ok (.iload 7, 2) := dk_21 7 (dk_at dksX2_hearsItself_4 22 rfl rfl)
theorem dX2_hearsItself_119 : decode cX2_hearsItself 119 = .ok (.aload_n 0, 1) := dk_42 (dk_at dksX2_hearsItself_5 0 rfl rfl)
theorem dX2_hearsItself_120 : decode cX2_hearsItself 120 = .ok (.iload_n 1, 1) := dk_27 (dk_at dksX2_hearsItself_5 1 rfl rfl)
theorem dX2_hearsItself_121 : decode cX2_hearsItself 121 = .ok (.invokevirtual 265, 3) := dk_182 1 9 (dk_at dksX2_hearsItself_5 2 rfl rfl)
theorem dX2_hearsItself_124 : decode cX2_hearsItself 124 = .ok (.if_icmp .ge 48, 3) := dk_162 0 48 (dk_at dksX2_hearsItself_5 5 rfl rfl)
theorem dX2_hearsItself_127 : decode cX2_hearsItself 127 = .ok (.iload 6, 2) := dk_21 6 (dk_at dksX2_hearsItself_5 8 rfl rfl)
theorem dX2_hearsItself_129 : decode cX2_hearsItself 129 = .ok (.aload_n 0, 1) := dk_42 (dk_at dksX2_hearsItself_5 10 rfl rfl)
theorem dX2_hearsItself_130 : decode cX2_hearsItself 130 = .ok (.iload 5, 2) := dk_21 5 (dk_at dksX2_hearsItself_5 11 rfl rfl)
theorem dX2_hearsItself_132 : decode cX2_hearsItself 132 = .ok (.iload 7, 2) := dk_21 7 (dk_at dksX2_hearsItself_5 13 rfl rfl)
theorem dX2_hearsItself_134 : decode cX2_hearsItself 134 = .ok (.iload_n 2, 1) := dk_28 (dk_at dksX2_hearsItself_5 15 rfl rfl)
theorem dX2_hearsItself_135 : decode cX2_hearsItself 135 = .ok (.invokevirtual 280, 3) := dk_182 1 24 (dk_at dksX2_hearsItself_5 16 rfl rfl)
theorem dX2_hearsItself_138 : decode cX2_hearsItself 138 = .ok (.aload_n 0, 1) := dk_42 (dk_at dksX2_hearsItself_5 19 rfl rfl)
theorem dX2_hearsItself_139 : decode cX2_hearsItself 139 = .ok (.getfield 20, 3) := dk_180 0 20 (dk_at dksX2_hearsItself_5 20 rfl rfl)
theorem dX2_hearsItself_142 : decode cX2_hearsItself 142 = .ok (.bipush 10, 2) := dk_16 10 (dk_at dksX2_hearsItself_6 0 rfl rfl)
theorem dX2_hearsItself_144 : decode cX2_hearsItself 144 = .ok (.bipush 7, 2) := dk_16 7 (dk_at dksX2_hearsItself_6 2 rfl rfl)
theorem dX2_hearsItself_146 : decode cX2_hearsItself 146 = .ok (.iload_n 1, 1) := dk_27 (dk_at dksX2_hearsItself_6 4 rfl rfl)
theorem dX2_hearsItself_147 : decode cX2_hearsItself 147 = .ok (.imul, 1) := dk_104 (dk_at dksX2_hearsItself_6 5 rfl rfl)
theorem dX2_hearsItself_148 : decode cX2_hearsItself 148 = .ok (.iadd, 1) := dk_96 (dk_at dksX2_hearsItself_6 6 rfl rfl)
theorem dX2_hearsItself_149 : decode cX2_hearsItself 149 = .ok (.iconst 1, 1) := dk_4 (dk_at dksX2_hearsItself_6 7 rfl rfl)
theorem dX2_hearsItself_150 : decode cX2_hearsItself 150 = .ok (.iadd, 1) := dk_96 (dk_at dksX2_hearsItself_6 8 rfl rfl)
theorem dX2_hearsItself_151 : decode cX2_hearsItself 151 = .ok (.iload 7, 2) := dk_21 7 (dk_at dksX2_hearsItself_6 9 rfl rfl)
theorem dX2_hearsItself_153 : decode cX2_hearsItself 153 = .ok (.iadd, 1) := dk_96 (dk_at dksX2_hearsItself_6 11 rfl rfl)
theorem dX2_hearsItself_154 : decode cX2_hearsItself 154 = .ok (.iaload, 1) := dk_46 (dk_at dksX2_hearsItself_6 12 rfl rfl)
theorem dX2_hearsItself_155 : decode cX2_hearsItself 155 = .ok (.if_icmp .ne 7, 3) := dk_160 0 7 (dk_at dksX2_hearsItself_6 13 rfl rfl)
theorem dX2_hearsItself_158 : decode cX2_hearsItself 158 = .ok (.iconst 0, 1) := dk_3 (dk_at dksX2_hearsItself_6 16 rfl rfl)
theorem dX2_hearsItself_159 : decode cX2_hearsItself 159 = .ok (.goto 4, 3) := dk_167 0 4 (dk_at dksX2_hearsItself_6 17 rfl rfl)
theorem dX2_hearsItself_162 : decode cX2_hearsItself 162 = .ok (.iconst 1, 1) := dk_4 (dk_at dksX2_hearsItself_6 20 rfl rfl)
theorem dX2_hearsItself_163 : decode cX2_hearsItself 163 = .ok (.iadd, 1) := dk_96 (dk_at dksX2_hearsItself_6 21 rfl rfl)
theorem dX2_hearsItself_164 : decode cX2_hearsItself 164 = .ok (.istore 6, 2) := dk_54 6 (dk_at dksX2_hearsItself_6 22 rfl rfl)
theorem dX2_hearsItself_166 : decode cX2_hearsItself 166 = .ok (.iinc 7 1, 3) := dk_132 7 1 (dk_at dksX2_hearsItself_7 0 rfl rfl)
theorem dX2_hearsItself_169 : decode cX2_hearsItself 169 = .ok (.goto (-52), 3) := dk_167 255 204 (dk_at dksX2_hearsItself_7 3 rfl rfl)
theorem dX2_hearsItself_172 : decode cX2_hearsItself 172 = .ok (.iload 4, 2) := dk_21 4 (dk_at dksX2_hearsItself_7 6 rfl rfl)
theorem dX2_hearsItself_174 : decode cX2_hearsItself 174 = .ok (.ifCond .eq 13, 3) := dk_153 0 13 (dk_at dksX2_hearsItself_7 8 rfl rfl)
theorem dX2_hearsItself_177 : decode cX2_hearsItself 177 = .ok (.iload_n 3, 1) := dk_29 (dk_at dksX2_hearsItself_7 11 rfl rfl)
theorem dX2_hearsItself_178 : decode cX2_hearsItself 178 = .ok (.iload 6, 2) := dk_21 6 (dk_at dksX2_hearsItself_7 12 rfl rfl)
theorem dX2_hearsItself_180 : decode cX2_hearsItself 180 = .ok (.if_icmp .ge 7, 3) := dk_162 0 7 (dk_at dksX2_hearsItself_7 14 rfl rfl)
theorem dX2_hearsItself_183 : decode cX2_hearsItself 183 = .ok (.iconst 1, 1) := dk_4 (dk_at dksX2_hearsItself_7 17 rfl rfl)
theorem dX2_hearsItself_184 : decode cX2_hearsItself 184 = .ok (.goto 4, 3) := dk_167 0 4 (dk_at dksX2_hearsItself_7 18 rfl rfl)
theorem dX2_hearsItself_187 : decode cX2_hearsItself 187 = .ok (.iconst 0, 1) := dk_3 (dk_at dksX2_hearsItself_7 21 rfl rfl)
theorem dX2_hearsItself_188 : decode cX2_hearsItself 188 = .ok (.istore 4, 2) := dk_54 4 (dk_at dksX2_hearsItself_7 22 rfl rfl)
theorem dX2_hearsItself_190 : decode cX2_hearsItself 190 = .ok (.iinc 5 1, 3) := dk_132 5 1 (dk_at dksX2_hearsItself_8 0 rfl rfl)
theorem dX2_hearsItself_193 : decode cX2_hearsItself 193 = .ok (.goto (-116), 3) := dk_167 255 140 (dk_at dksX2_hearsItself_8 3 rfl rfl)
theorem dX2_hearsItself_196 : decode cX2_hearsItself 196 = .ok (.iload 4, 2) := dk_21 4 (dk_at dksX2_hearsItself_8 6 rfl rfl)
theorem dX2_hearsItself_198 : decode cX2_hearsItself 198 = .ok (.ireturn, 1) := dk_172 (dk_at dksX2_hearsItself_8 8 rfl rfl)
abbrev cX2_season : ByteArray := prog_16_method_81_code
def yX2_season : MethodName := ⟨RX2, "season", "(I)I"⟩
def dkwX2_season_1 : List UInt8 := [184, 0, 149, 153, 0, 10, 27, 184, 1, 81, 167, 0, 8, 42, 5, 182, 0, 170, 172]
abbrev dktX2_season_1 : List UInt8 := dkwX2_season_1 ++ []
def dkwX2_season_0 : List UInt8 := [42, 182, 0, 167, 42, 180, 0, 180, 154, 0, 9, 42, 4, 182, 0, 170, 172, 27, 3, 19, 1, 84]
abbrev dktX2_season_0 : List UInt8 := dkwX2_season_0 ++ dktX2_season_1
theorem dksX2_season_0 : cX2_season.data.toList.drop 0 = dktX2_season_0 := by decide +kernel
theorem dksX2_season_1 : cX2_season.data.toList.drop 22 = dktX2_season_1 := dk_seg dksX2_season_0 22 rfl rfl
theorem dX2_season_0 : decode cX2_season 0 = .ok (.aload_n 0, 1) := dk_42 (dk_at dksX2_season_0 0 rfl rfl)
theorem dX2_season_1 : decode cX2_season 1 = .ok (.invokevirtual 167, 3) := dk_182 0 167 (dk_at dksX2_season_0 1 rfl rfl)
theorem dX2_season_4 : decode cX2_season 4 = .ok (.aload_n 0, 1) := dk_42 (dk_at dksX2_season_0 4 rfl rfl)
theorem dX2_season_5 : decode cX2_season 5 = .ok (.getfield 180, 3) := dk_180 0 180 (dk_at dksX2_season_0 5 rfl rfl)
theorem dX2_season_8 : decode cX2_season 8 = .ok (.ifCond .ne 9, 3) := dk_154 0 9 (dk_at dksX2_season_0 8 rfl rfl)
theorem dX2_season_11 : decode cX2_season 11 = .ok (.aload_n 0, 1) := dk_42 (dk_at dksX2_season_0 11 rfl rfl)
theorem dX2_season_12 : decode cX2_season 12 = .ok (.iconst 1, 1) := dk_4 (dk_at dksX2_season_0 12 rfl rfl)
theorem dX2_season_13 : decode cX2_season 13 = .ok (.invokevirtual 170, 3) := dk_182 0 170 (dk_at dksX2_season_0 13 rfl rfl)
theorem dX2_season_16 : decode cX2_season 16 = .ok (.ireturn, 1) := dk_172 (dk_at dksX2_season_0 16 rfl rfl)
theorem dX2_season_17 : decode cX2_season 17 = .ok (.iload_n 1, 1) := dk_27 (dk_at dksX2_season_0 17 rfl rfl)
theorem dX2_season_18 : decode cX2_season 18 = .ok (.iconst 0, 1) := dk_3 (dk_at dksX2_season_0 18 rfl rfl)
theorem dX2_season_19 : decode cX2_season 19 = .ok (.ldc_w 340, 3) := dk_19 1 84 (dk_at dksX2_season_0 19 rfl rfl)
theorem dX2_season_22 : decode cX2_season 22 = .ok (.invokestatic 149, 3) := dk_184 0 149 (dk_at dksX2_season_1 0 rfl rfl)
theorem dX2_season_25 : decode cX2_season 25 = .ok (.ifCond .eq 10, 3) := dk_153 0 10 (dk_at dksX2_season_1 3 rfl rfl)
theorem dX2_season_28 : decode cX2_season 28 = .ok (.iload_n 1, 1) := dk_27 (dk_at dksX2_season_1 6 rfl rfl)
theorem dX2_season_29 : decode cX2_season 29 = .ok (.invokestatic 337, 3) := dk_184 1 81 (dk_at dksX2_season_1 7 rfl rfl)
theorem dX2_season_32 : decode cX2_season 32 = .ok (.goto 8, 3) := dk_167 0 8 (dk_at dksX2_season_1 10 rfl rfl)
theorem dX2_season_35 : decode cX2_season 35 = .ok (.aload_n 0, 1) := dk_42 (dk_at dksX2_season_1 13 rfl rfl)
theorem dX2_season_36 : decode cX2_season 36 = .ok (.iconst 2, 1) := dk_5 (dk_at dksX2_season_1 14 rfl rfl)
theorem dX2_season_37 : decode cX2_season 37 = .ok (.invokevirtual 170, 3) := dk_182 0 170 (dk_at dksX2_season_1 15 rfl rfl)
theorem dX2_season_40 : decode cX2_season 40 = .ok (.ireturn, 1) := dk_172 (dk_at dksX2_season_1 18 rfl rfl)
abbrev cX2_seasonOf : ByteArray := prog_16_method_80_code
def yX2_seasonOf : MethodName := ⟨RX2, "seasonOf", "(I)I"⟩
def dkwX2_seasonOf_0 : List UInt8 := [26, 16, 90, 108, 7, 112, 172]
abbrev dktX2_seasonOf_0 : List UInt8 := dkwX2_seasonOf_0 ++ []
theorem dksX2_seasonOf_0 : cX2_seasonOf.data.toList.drop 0 = dktX2_seasonOf_0 := by decide +kernel
theorem dX2_seasonOf_0 : decode cX2_seasonOf 0 = .ok (.iload_n 0, 1) := dk_26 (dk_at dksX2_seasonOf_0 0 rfl rfl)
theorem dX2_seasonOf_1 : decode cX2_seasonOf 1 = .ok (.bipush 90, 2) := dk_16 90 (dk_at dksX2_seasonOf_0 1 rfl rfl)
theorem dX2_seasonOf_3 : decode cX2_seasonOf 3 = .ok (.idiv, 1) := dk_108 (dk_at dksX2_seasonOf_0 3 rfl rfl)
theorem dX2_seasonOf_4 : decode cX2_seasonOf 4 = .ok (.iconst 4, 1) := dk_7 (dk_at dksX2_seasonOf_0 4 rfl rfl)
theorem dX2_seasonOf_5 : decode cX2_seasonOf 5 = .ok (.irem, 1) := dk_112 (dk_at dksX2_seasonOf_0 5 rfl rfl)
theorem dX2_seasonOf_6 : decode cX2_seasonOf 6 = .ok (.ireturn, 1) := dk_172 (dk_at dksX2_seasonOf_0 6 rfl rfl)
abbrev cX2_sets : ByteArray := prog_16_method_82_code
def yX2_sets : MethodName := ⟨RX2, "sets", "(III)I"⟩
def dkwX2_sets_3 : List UInt8 := [182, 1, 15, 29, 182, 1, 78, 172]
abbrev dktX2_sets_3 : List UInt8 := dkwX2_sets_3 ++ []
def dkwX2_sets_2 : List UInt8 := [5, 182, 0, 170, 172, 42, 28, 182, 1, 46, 153, 0, 8, 16, 254, 167, 0, 15, 42, 28, 42, 27, 3]
abbrev dktX2_sets_2 : List UInt8 := dkwX2_sets_2 ++ dktX2_sets_3
def dkwX2_sets_1 : List UInt8 := [184, 0, 149, 154, 0, 9, 42, 4, 182, 0, 170, 172, 29, 3, 17, 39, 15, 184, 0, 149, 154, 0, 9, 42]
abbrev dktX2_sets_1 : List UInt8 := dkwX2_sets_1 ++ dktX2_sets_2
def dkwX2_sets_0 : List UInt8 := [42, 182, 0, 167, 42, 27, 182, 1, 12, 153, 0, 19, 28, 3, 42, 180, 0, 20, 8, 46, 4, 100]
abbrev dktX2_sets_0 : List UInt8 := dkwX2_sets_0 ++ dktX2_sets_1
theorem dksX2_sets_0 : cX2_sets.data.toList.drop 0 = dktX2_sets_0 := by decide +kernel
theorem dksX2_sets_1 : cX2_sets.data.toList.drop 22 = dktX2_sets_1 := dk_seg dksX2_sets_0 22 rfl rfl
theorem dksX2_sets_2 : cX2_sets.data.toList.drop 46 = dktX2_sets_2 := dk_seg dksX2_sets_1 24 rfl rfl
theorem dksX2_sets_3 : cX2_sets.data.toList.drop 69 = dktX2_sets_3 := dk_seg dksX2_sets_2 23 rfl rfl
theorem dX2_sets_0 : decode cX2_sets 0 = .ok (.aload_n 0, 1) := dk_42 (dk_at dksX2_sets_0 0 rfl rfl)
theorem dX2_sets_1 : decode cX2_sets 1 = .ok (.invokevirtual 167, 3) := dk_182 0 167 (dk_at dksX2_sets_0 1 rfl rfl)
theorem dX2_sets_4 : decode cX2_sets 4 = .ok (.aload_n 0, 1) := dk_42 (dk_at dksX2_sets_0 4 rfl rfl)
theorem dX2_sets_5 : decode cX2_sets 5 = .ok (.iload_n 1, 1) := dk_27 (dk_at dksX2_sets_0 5 rfl rfl)
theorem dX2_sets_6 : decode cX2_sets 6 = .ok (.invokevirtual 268, 3) := dk_182 1 12 (dk_at dksX2_sets_0 6 rfl rfl)
theorem dX2_sets_9 : decode cX2_sets 9 = .ok (.ifCond .eq 19, 3) := dk_153 0 19 (dk_at dksX2_sets_0 9 rfl rfl)
theorem dX2_sets_12 : decode cX2_sets 12 = .ok (.iload_n 2, 1) := dk_28 (dk_at dksX2_sets_0 12 rfl rfl)
theorem dX2_sets_13 : decode cX2_sets 13 = .ok (.iconst 0, 1) := dk_3 (dk_at dksX2_sets_0 13 rfl rfl)
theorem dX2_sets_14 : decode cX2_sets 14 = .ok (.aload_n 0, 1) := dk_42 (dk_at dksX2_sets_0 14 rfl rfl)
theorem dX2_sets_15 : decode cX2_sets 15 = .ok (.getfield 20, 3) := dk_180 0 20 (dk_at dksX2_sets_0 15 rfl rfl)
theorem dX2_sets_18 : decode cX2_sets 18 = .ok (.iconst 5, 1) := dk_8 (dk_at dksX2_sets_0 18 rfl rfl)
theorem dX2_sets_19 : decode cX2_sets 19 = .ok (.iaload, 1) := dk_46 (dk_at dksX2_sets_0 19 rfl rfl)
theorem dX2_sets_20 : decode cX2_sets 20 = .ok (.iconst 1, 1) := dk_4 (dk_at dksX2_sets_0 20 rfl rfl)
theorem dX2_sets_21 : decode cX2_sets 21 = .ok (.isub, 1) := dk_100 (dk_at dksX2_sets_0 21 rfl rfl)
theorem dX2_sets_22 : decode cX2_sets 22 = .ok (.invokestatic 149, 3) := dk_184 0 149 (dk_at dksX2_sets_1 0 rfl rfl)
theorem dX2_sets_25 : decode cX2_sets 25 = .ok (.ifCond .ne 9, 3) := dk_154 0 9 (dk_at dksX2_sets_1 3 rfl rfl)
theorem dX2_sets_28 : decode cX2_sets 28 = .ok (.aload_n 0, 1) := dk_42 (dk_at dksX2_sets_1 6 rfl rfl)
theorem dX2_sets_29 : decode cX2_sets 29 = .ok (.iconst 1, 1) := dk_4 (dk_at dksX2_sets_1 7 rfl rfl)
theorem dX2_sets_30 : decode cX2_sets 30 = .ok (.invokevirtual 170, 3) := dk_182 0 170 (dk_at dksX2_sets_1 8 rfl rfl)
theorem dX2_sets_33 : decode cX2_sets 33 = .ok (.ireturn, 1) := dk_172 (dk_at dksX2_sets_1 11 rfl rfl)
theorem dX2_sets_34 : decode cX2_sets 34 = .ok (.iload_n 3, 1) := dk_29 (dk_at dksX2_sets_1 12 rfl rfl)
theorem dX2_sets_35 : decode cX2_sets 35 = .ok (.iconst 0, 1) := dk_3 (dk_at dksX2_sets_1 13 rfl rfl)
theorem dX2_sets_36 : decode cX2_sets 36 = .ok (.sipush 9999, 3) := dk_17 39 15 (dk_at dksX2_sets_1 14 rfl rfl)
theorem dX2_sets_39 : decode cX2_sets 39 = .ok (.invokestatic 149, 3) := dk_184 0 149 (dk_at dksX2_sets_1 17 rfl rfl)
theorem dX2_sets_42 : decode cX2_sets 42 = .ok (.ifCond .ne 9, 3) := dk_154 0 9 (dk_at dksX2_sets_1 20 rfl rfl)
theorem dX2_sets_45 : decode cX2_sets 45 = .ok (.aload_n 0, 1) := dk_42 (dk_at dksX2_sets_1 23 rfl rfl)
theorem dX2_sets_46 : decode cX2_sets 46 = .ok (.iconst 2, 1) := dk_5 (dk_at dksX2_sets_2 0 rfl rfl)
theorem dX2_sets_47 : decode cX2_sets 47 = .ok (.invokevirtual 170, 3) := dk_182 0 170 (dk_at dksX2_sets_2 1 rfl rfl)
theorem dX2_sets_50 : decode cX2_sets 50 = .ok (.ireturn, 1) := dk_172 (dk_at dksX2_sets_2 4 rfl rfl)
theorem dX2_sets_51 : decode cX2_sets 51 = .ok (.aload_n 0, 1) := dk_42 (dk_at dksX2_sets_2 5 rfl rfl)
theorem dX2_sets_52 : decode cX2_sets 52 = .ok (.iload_n 2, 1) := dk_28 (dk_at dksX2_sets_2 6 rfl rfl)
theorem dX2_sets_53 : decode cX2_sets 53 = .ok (.invokevirtual 302, 3) := dk_182 1 46 (dk_at dksX2_sets_2 7 rfl rfl)
theorem dX2_sets_56 : decode cX2_sets 56 = .ok (.ifCond .eq 8, 3) := dk_153 0 8 (dk_at dksX2_sets_2 10 rfl rfl)
theorem dX2_sets_59 : decode cX2_sets 59 = .ok (.bipush (-2), 2) := dk_16 254 (dk_at dksX2_sets_2 13 rfl rfl)
theorem dX2_sets_61 : decode cX2_sets 61 = .ok (.goto 15, 3) := dk_167 0 15 (dk_at dksX2_sets_2 15 rfl rfl)
theorem dX2_sets_64 : decode cX2_sets 64 = .ok (.aload_n 0, 1) := dk_42 (dk_at dksX2_sets_2 18 rfl rfl)
theorem dX2_sets_65 : decode cX2_sets 65 = .ok (.iload_n 2, 1) := dk_28 (dk_at dksX2_sets_2 19 rfl rfl)
theorem dX2_sets_66 : decode cX2_sets 66 = .ok (.aload_n 0, 1) := dk_42 (dk_at dksX2_sets_2 20 rfl rfl)
theorem dX2_sets_67 : decode cX2_sets 67 = .ok (.iload_n 1, 1) := dk_27 (dk_at dksX2_sets_2 21 rfl rfl)
theorem dX2_sets_68 : decode cX2_sets 68 = .ok (.iconst 0, 1) := dk_3 (dk_at dksX2_sets_2 22 rfl rfl)
theorem dX2_sets_69 : decode cX2_sets 69 = .ok (.invokevirtual 271, 3) := dk_182 1 15 (dk_at dksX2_sets_3 0 rfl rfl)
theorem dX2_sets_72 : decode cX2_sets 72 = .ok (.iload_n 3, 1) := dk_29 (dk_at dksX2_sets_3 3 rfl rfl)
theorem dX2_sets_73 : decode cX2_sets 73 = .ok (.invokevirtual 334, 3) := dk_182 1 78 (dk_at dksX2_sets_3 4 rfl rfl)
theorem dX2_sets_76 : decode cX2_sets 76 = .ok (.ireturn, 1) := dk_172 (dk_at dksX2_sets_3 7 rfl rfl)
abbrev cX2_setsOut : ByteArray := prog_16_method_79_code
def yX2_setsOut : MethodName := ⟨RX2, "setsOut", "(III)I"⟩
def dkwX2_setsOut_2 : List UInt8 := [21, 4, 172]
abbrev dktX2_setsOut_2 : List UInt8 := dkwX2_setsOut_2 ++ []
def dkwX2_setsOut_1 : List UInt8 := [184, 1, 81, 184, 1, 42, 154, 0, 18, 16, 90, 21, 4, 16, 90, 108, 4, 96, 104, 54, 4, 167, 255, 220]
abbrev dktX2_setsOut_1 : List UInt8 := dkwX2_setsOut_1 ++ dktX2_setsOut_2
def dkwX2_setsOut_0 : List UInt8 := [29, 54, 4, 28, 6, 159, 0, 42, 42, 180, 0, 20, 16, 59, 7, 27, 104, 96, 6, 96, 46, 21, 4]
abbrev dktX2_setsOut_0 : List UInt8 := dkwX2_setsOut_0 ++ dktX2_setsOut_1
theorem dksX2_setsOut_0 : cX2_setsOut.data.toList.drop 0 = dktX2_setsOut_0 := by decide +kernel
theorem dksX2_setsOut_1 : cX2_setsOut.data.toList.drop 23 = dktX2_setsOut_1 := dk_seg dksX2_setsOut_0 23 rfl rfl
theorem dksX2_setsOut_2 : cX2_setsOut.data.toList.drop 47 = dktX2_setsOut_2 := dk_seg dksX2_setsOut_1 24 rfl rfl
theorem dX2_setsOut_0 : decode cX2_setsOut 0 = .ok (.iload_n 3, 1) := dk_29 (dk_at dksX2_setsOut_0 0 rfl rfl)
theorem dX2_setsOut_1 : decode cX2_setsOut 1 = .ok (.istore 4, 2) := dk_54 4 (dk_at dksX2_setsOut_0 1 rfl rfl)
theorem dX2_setsOut_3 : decode cX2_setsOut 3 = .ok (.iload_n 2, 1) := dk_28 (dk_at dksX2_setsOut_0 3 rfl rfl)
theorem dX2_setsOut_4 : decode cX2_setsOut 4 = .ok (.iconst 3, 1) := dk_6 (dk_at dksX2_setsOut_0 4 rfl rfl)
theorem dX2_setsOut_5 : decode cX2_setsOut 5 = .ok (.if_icmp .eq 42, 3) := dk_159 0 42 (dk_at dksX2_setsOut_0 5 rfl rfl)
theorem dX2_setsOut_8 : decode cX2_setsOut 8 = .ok (.aload_n 0, 1) := dk_42 (dk_at dksX2_setsOut_0 8 rfl rfl)
theorem dX2_setsOut_9 : decode cX2_setsOut 9 = .ok (.getfield 20, 3) := dk_180 0 20 (dk_at dksX2_setsOut_0 9 rfl rfl)
theorem dX2_setsOut_12 : decode cX2_setsOut 12 = .ok (.bipush 59, 2) := dk_16 59 (dk_at dksX2_setsOut_0 12 rfl rfl)
theorem dX2_setsOut_14 : decode cX2_setsOut 14 = .ok (.iconst 4, 1) := dk_7 (dk_at dksX2_setsOut_0 14 rfl rfl)
theorem dX2_setsOut_15 : decode cX2_setsOut 15 = .ok (.iload_n 1, 1) := dk_27 (dk_at dksX2_setsOut_0 15 rfl rfl)
theorem dX2_setsOut_16 : decode cX2_setsOut 16 = .ok (.imul, 1) := dk_104 (dk_at dksX2_setsOut_0 16 rfl rfl)
theorem dX2_setsOut_17 : decode cX2_setsOut 17 = .ok (.iadd, 1) := dk_96 (dk_at dksX2_setsOut_0 17 rfl rfl)
theorem dX2_setsOut_18 : decode cX2_setsOut 18 = .ok (.iconst 3, 1) := dk_6 (dk_at dksX2_setsOut_0 18 rfl rfl)
theorem dX2_setsOut_19 : decode cX2_setsOut 19 = .ok (.iadd, 1) := dk_96 (dk_at dksX2_setsOut_0 19 rfl rfl)
theorem dX2_setsOut_20 : decode cX2_setsOut 20 = .ok (.iaload, 1) := dk_46 (dk_at dksX2_setsOut_0 20 rfl rfl)
theorem dX2_setsOut_21 : decode cX2_setsOut 21 = .ok (.iload 4, 2) := dk_21 4 (dk_at dksX2_setsOut_0 21 rfl rfl)
theorem dX2_setsOut_23 : decode cX2_setsOut 23 = .ok (.invokestatic 337, 3) := dk_184 1 81 (dk_at dksX2_setsOut_1 0 rfl rfl)
theorem dX2_setsOut_26 : decode cX2_setsOut 26 = .ok (.invokestatic 298, 3) := dk_184 1 42 (dk_at dksX2_setsOut_1 3 rfl rfl)
theorem dX2_setsOut_29 : decode cX2_setsOut 29 = .ok (.ifCond .ne 18, 3) := dk_154 0 18 (dk_at dksX2_setsOut_1 6 rfl rfl)
theorem dX2_setsOut_32 : decode cX2_setsOut 32 = .ok (.bipush 90, 2) := dk_16 90 (dk_at dksX2_setsOut_1 9 rfl rfl)
theorem dX2_setsOut_34 : decode cX2_setsOut 34 = .ok (.iload 4, 2) := dk_21 4 (dk_at dksX2_setsOut_1 11 rfl rfl)
theorem dX2_setsOut_36 : decode cX2_setsOut 36 = .ok (.bipush 90, 2) := dk_16 90 (dk_at dksX2_setsOut_1 13 rfl rfl)
theorem dX2_setsOut_38 : decode cX2_setsOut 38 = .ok (.idiv, 1) := dk_108 (dk_at dksX2_setsOut_1 15 rfl rfl)
theorem dX2_setsOut_39 : decode cX2_setsOut 39 = .ok (.iconst 1, 1) := dk_4 (dk_at dksX2_setsOut_1 16 rfl rfl)
theorem dX2_setsOut_40 : decode cX2_setsOut 40 = .ok (.iadd, 1) := dk_96 (dk_at dksX2_setsOut_1 17 rfl rfl)
theorem dX2_setsOut_41 : decode cX2_setsOut 41 = .ok (.imul, 1) := dk_104 (dk_at dksX2_setsOut_1 18 rfl rfl)
theorem dX2_setsOut_42 : decode cX2_setsOut 42 = .ok (.istore 4, 2) := dk_54 4 (dk_at dksX2_setsOut_1 19 rfl rfl)
theorem dX2_setsOut_44 : decode cX2_setsOut 44 = .ok (.goto (-36), 3) := dk_167 255 220 (dk_at dksX2_setsOut_1 21 rfl rfl)
theorem dX2_setsOut_47 : decode cX2_setsOut 47 = .ok (.iload 4, 2) := dk_21 4 (dk_at dksX2_setsOut_2 0 rfl rfl)
theorem dX2_setsOut_49 : decode cX2_setsOut 49 = .ok (.ireturn, 1) := dk_172 (dk_at dksX2_setsOut_2 2 rfl rfl)
abbrev cX2_arrival : ByteArray := prog_16_method_86_code
def yX2_arrival : MethodName := ⟨RX2, "arrival", "(IIII)I"⟩
def dkwX2_arrival_2 : List UInt8 := [42, 42, 27, 3, 182, 1, 15, 28, 29, 21, 4, 182, 1, 96, 167, 0, 8, 42, 5, 182, 0, 170, 172]
abbrev dktX2_arrival_2 : List UInt8 := dkwX2_arrival_2 ++ []
def dkwX2_arrival_1 : List UInt8 := [182, 1, 21, 154, 0, 9, 42, 4, 182, 0, 170, 172, 21, 4, 3, 17, 39, 15, 184, 0, 149, 153, 0, 20]
abbrev dktX2_arrival_1 : List UInt8 := dkwX2_arrival_1 ++ dktX2_arrival_2
def dkwX2_arrival_0 : List UInt8 := [42, 182, 0, 167, 42, 27, 182, 1, 12, 153, 0, 19, 42, 28, 182, 1, 21, 153, 0, 11, 42, 29]
abbrev dktX2_arrival_0 : List UInt8 := dkwX2_arrival_0 ++ dktX2_arrival_1
theorem dksX2_arrival_0 : cX2_arrival.data.toList.drop 0 = dktX2_arrival_0 := by decide +kernel
theorem dksX2_arrival_1 : cX2_arrival.data.toList.drop 22 = dktX2_arrival_1 := dk_seg dksX2_arrival_0 22 rfl rfl
theorem dksX2_arrival_2 : cX2_arrival.data.toList.drop 46 = dktX2_arrival_2 := dk_seg dksX2_arrival_1 24 rfl rfl
theorem dX2_arrival_0 : decode cX2_arrival 0 = .ok (.aload_n 0, 1) := dk_42 (dk_at dksX2_arrival_0 0 rfl rfl)
theorem dX2_arrival_1 : decode cX2_arrival 1 = .ok (.invokevirtual 167, 3) := dk_182 0 167 (dk_at dksX2_arrival_0 1 rfl rfl)
theorem dX2_arrival_4 : decode cX2_arrival 4 = .ok (.aload_n 0, 1) := dk_42 (dk_at dksX2_arrival_0 4 rfl rfl)
theorem dX2_arrival_5 : decode cX2_arrival 5 = .ok (.iload_n 1, 1) := dk_27 (dk_at dksX2_arrival_0 5 rfl rfl)
theorem dX2_arrival_6 : decode cX2_arrival 6 = .ok (.invokevirtual 268, 3) := dk_182 1 12 (dk_at dksX2_arrival_0 6 rfl rfl)
theorem dX2_arrival_9 : decode cX2_arrival 9 = .ok (.ifCond .eq 19, 3) := dk_153 0 19 (dk_at dksX2_arrival_0 9 rfl rfl)
theorem dX2_arrival_12 : decode cX2_arrival 12 = .ok (.aload_n 0, 1) := dk_42 (dk_at dksX2_arrival_0 12 rfl rfl)
theorem dX2_arrival_13 : decode cX2_arrival 13 = .ok (.iload_n 2, 1) := dk_28 (dk_at dksX2_arrival_0 13 rfl rfl)
theorem dX2_arrival_14 : decode cX2_arrival 14 = .ok (.invokevirtual 277, 3) := dk_182 1 21 (dk_at dksX2_arrival_0 14 rfl rfl)
theorem dX2_arrival_17 : decode cX2_arrival 17 = .ok (.ifCond .eq 11, 3) := dk_153 0 11 (dk_at dksX2_arrival_0 17 rfl rfl)
theorem dX2_arrival_20 : decode cX2_arrival 20 = .ok (.aload_n 0, 1) := dk_42 (dk_at dksX2_arrival_0 20 rfl rfl)
theorem dX2_arrival_21 : decode cX2_arrival 21 = .ok (.iload_n 3, 1) := dk_29 (dk_at dksX2_arrival_0 21 rfl rfl)
theorem dX2_arrival_22 : decode cX2_arrival 22 = .ok (.invokevirtual 277, 3) := dk_182 1 21 (dk_at dksX2_arrival_1 0 rfl rfl)
theorem dX2_arrival_25 : decode cX2_arrival 25 = .ok (.ifCond .ne 9, 3) := dk_154 0 9 (dk_at dksX2_arrival_1 3 rfl rfl)
theorem dX2_arrival_28 : decode cX2_arrival 28 = .ok (.aload_n 0, 1) := dk_42 (dk_at dksX2_arrival_1 6 rfl rfl)
theorem dX2_arrival_29 : decode cX2_arrival 29 = .ok (.iconst 1, 1) := dk_4 (dk_at dksX2_arrival_1 7 rfl rfl)
theorem dX2_arrival_30 : decode cX2_arrival 30 = .ok (.invokevirtual 170, 3) := dk_182 0 170 (dk_at dksX2_arrival_1 8 rfl rfl)
theorem dX2_arrival_33 : decode cX2_arrival 33 = .ok (.ireturn, 1) := dk_172 (dk_at dksX2_arrival_1 11 rfl rfl)
theorem dX2_arrival_34 : decode cX2_arrival 34 = .ok (.iload 4, 2) := dk_21 4 (dk_at dksX2_arrival_1 12 rfl rfl)
theorem dX2_arrival_36 : decode cX2_arrival 36 = .ok (.iconst 0, 1) := dk_3 (dk_at dksX2_arrival_1 14 rfl rfl)
theorem dX2_arrival_37 : decode cX2_arrival 37 = .ok (.sipush 9999, 3) := dk_17 39 15 (dk_at dksX2_arrival_1 15 rfl rfl)
theorem dX2_arrival_40 : decode cX2_arrival 40 = .ok (.invokestatic 149, 3) := dk_184 0 149 (dk_at dksX2_arrival_1 18 rfl rfl)
theorem dX2_arrival_43 : decode cX2_arrival 43 = .ok (.ifCond .eq 20, 3) := dk_153 0 20 (dk_at dksX2_arrival_1 21 rfl rfl)
theorem dX2_arrival_46 : decode cX2_arrival 46 = .ok (.aload_n 0, 1) := dk_42 (dk_at dksX2_arrival_2 0 rfl rfl)
theorem dX2_arrival_47 : decode cX2_arrival 47 = .ok (.aload_n 0, 1) := dk_42 (dk_at dksX2_arrival_2 1 rfl rfl)
theorem dX2_arrival_48 : decode cX2_arrival 48 = .ok (.iload_n 1, 1) := dk_27 (dk_at dksX2_arrival_2 2 rfl rfl)
theorem dX2_arrival_49 : decode cX2_arrival 49 = .ok (.iconst 0, 1) := dk_3 (dk_at dksX2_arrival_2 3 rfl rfl)
theorem dX2_arrival_50 : decode cX2_arrival 50 = .ok (.invokevirtual 271, 3) := dk_182 1 15 (dk_at dksX2_arrival_2 4 rfl rfl)
theorem dX2_arrival_53 : decode cX2_arrival 53 = .ok (.iload_n 2, 1) := dk_28 (dk_at dksX2_arrival_2 7 rfl rfl)
theorem dX2_arrival_54 : decode cX2_arrival 54 = .ok (.iload_n 3, 1) := dk_29 (dk_at dksX2_arrival_2 8 rfl rfl)
theorem dX2_arrival_55 : decode cX2_arrival 55 = .ok (.iload 4, 2) := dk_21 4 (dk_at dksX2_arrival_2 9 rfl rfl)
theorem dX2_arrival_57 : decode cX2_arrival 57 = .ok (.invokevirtual 352, 3) := dk_182 1 96 (dk_at dksX2_arrival_2 11 rfl rfl)
theorem dX2_arrival_60 : decode cX2_arrival 60 = .ok (.goto 8, 3) := dk_167 0 8 (dk_at dksX2_arrival_2 14 rfl rfl)
theorem dX2_arrival_63 : decode cX2_arrival 63 = .ok (.aload_n 0, 1) := dk_42 (dk_at dksX2_arrival_2 17 rfl rfl)
theorem dX2_arrival_64 : decode cX2_arrival 64 = .ok (.iconst 2, 1) := dk_5 (dk_at dksX2_arrival_2 18 rfl rfl)
theorem dX2_arrival_65 : decode cX2_arrival 65 = .ok (.invokevirtual 170, 3) := dk_182 0 170 (dk_at dksX2_arrival_2 19 rfl rfl)
theorem dX2_arrival_68 : decode cX2_arrival 68 = .ok (.ireturn, 1) := dk_172 (dk_at dksX2_arrival_2 22 rfl rfl)
abbrev cX2_arrivalOf : ByteArray := prog_16_method_85_code
def yX2_arrivalOf : MethodName := ⟨RX2, "arrivalOf", "(IIII)I"⟩
def dkwX2_arrivalOf_1 : List UInt8 := [167, 0, 9, 42, 180, 0, 38, 29, 46, 172]
abbrev dktX2_arrivalOf_1 : List UInt8 := dkwX2_arrivalOf_1 ++ []
def dkwX2_arrivalOf_0 : List UInt8 := [42, 27, 28, 21, 4, 182, 1, 93, 42, 180, 0, 38, 29, 46, 19, 1, 85, 160, 0, 8, 16, 254]
abbrev dktX2_arrivalOf_0 : List UInt8 := dkwX2_arrivalOf_0 ++ dktX2_arrivalOf_1
theorem dksX2_arrivalOf_0 : cX2_arrivalOf.data.toList.drop 0 = dktX2_arrivalOf_0 := by decide +kernel
theorem dksX2_arrivalOf_1 : cX2_arrivalOf.data.toList.drop 22 = dktX2_arrivalOf_1 := dk_seg dksX2_arrivalOf_0 22 rfl rfl
theorem dX2_arrivalOf_0 : decode cX2_arrivalOf 0 = .ok (.aload_n 0, 1) := dk_42 (dk_at dksX2_arrivalOf_0 0 rfl rfl)
theorem dX2_arrivalOf_1 : decode cX2_arrivalOf 1 = .ok (.iload_n 1, 1) := dk_27 (dk_at dksX2_arrivalOf_0 1 rfl rfl)
theorem dX2_arrivalOf_2 : decode cX2_arrivalOf 2 = .ok (.iload_n 2, 1) := dk_28 (dk_at dksX2_arrivalOf_0 2 rfl rfl)
theorem dX2_arrivalOf_3 : decode cX2_arrivalOf 3 = .ok (.iload 4, 2) := dk_21 4 (dk_at dksX2_arrivalOf_0 3 rfl rfl)
theorem dX2_arrivalOf_5 : decode cX2_arrivalOf 5 = .ok (.invokevirtual 349, 3) := dk_182 1 93 (dk_at dksX2_arrivalOf_0 5 rfl rfl)
theorem dX2_arrivalOf_8 : decode cX2_arrivalOf 8 = .ok (.aload_n 0, 1) := dk_42 (dk_at dksX2_arrivalOf_0 8 rfl rfl)
theorem dX2_arrivalOf_9 : decode cX2_arrivalOf 9 = .ok (.getfield 38, 3) := dk_180 0 38 (dk_at dksX2_arrivalOf_0 9 rfl rfl)
theorem dX2_arrivalOf_12 : decode cX2_arrivalOf 12 = .ok (.iload_n 3, 1) := dk_29 (dk_at dksX2_arrivalOf_0 12 rfl rfl)
theorem dX2_arrivalOf_13 : decode cX2_arrivalOf 13 = .ok (.iaload, 1) := dk_46 (dk_at dksX2_arrivalOf_0 13 rfl rfl)
theorem dX2_arrivalOf_14 : decode cX2_arrivalOf 14 = .ok (.ldc_w 341, 3) := dk_19 1 85 (dk_at dksX2_arrivalOf_0 14 rfl rfl)
theorem dX2_arrivalOf_17 : decode cX2_arrivalOf 17 = .ok (.if_icmp .ne 8, 3) := dk_160 0 8 (dk_at dksX2_arrivalOf_0 17 rfl rfl)
theorem dX2_arrivalOf_20 : decode cX2_arrivalOf 20 = .ok (.bipush (-2), 2) := dk_16 254 (dk_at dksX2_arrivalOf_0 20 rfl rfl)
theorem dX2_arrivalOf_22 : decode cX2_arrivalOf 22 = .ok (.goto 9, 3) := dk_167 0 9 (dk_at dksX2_arrivalOf_1 0 rfl rfl)
theorem dX2_arrivalOf_25 : decode cX2_arrivalOf 25 = .ok (.aload_n 0, 1) := dk_42 (dk_at dksX2_arrivalOf_1 3 rfl rfl)
theorem dX2_arrivalOf_26 : decode cX2_arrivalOf 26 = .ok (.getfield 38, 3) := dk_180 0 38 (dk_at dksX2_arrivalOf_1 4 rfl rfl)
theorem dX2_arrivalOf_29 : decode cX2_arrivalOf 29 = .ok (.iload_n 3, 1) := dk_29 (dk_at dksX2_arrivalOf_1 7 rfl rfl)
theorem dX2_arrivalOf_30 : decode cX2_arrivalOf 30 = .ok (.iaload, 1) := dk_46 (dk_at dksX2_arrivalOf_1 8 rfl rfl)
theorem dX2_arrivalOf_31 : decode cX2_arrivalOf 31 = .ok (.ireturn, 1) := dk_172 (dk_at dksX2_arrivalOf_1 9 rfl rfl)
abbrev cX2_layDays : ByteArray := prog_16_method_83_code
def yX2_layDays : MethodName := ⟨RX2, "layDays", "(III)V"⟩
def dkwX2_layDays_8 : List UInt8 := [132, 6, 1, 167, 255, 214, 132, 4, 1, 167, 255, 108, 177]
abbrev dktX2_layDays_8 : List UInt8 := dkwX2_layDays_8 ++ []
def dkwX2_layDays_7 : List UInt8 := [28, 160, 0, 27, 42, 21, 6, 182, 1, 46, 154, 0, 12, 42, 21, 6, 27, 21, 5, 182, 1, 86]
abbrev dktX2_layDays_7 : List UInt8 := dkwX2_layDays_7 ++ dktX2_layDays_8
def dkwX2_layDays_6 : List UInt8 := [21, 5, 4, 79, 3, 54, 6, 21, 6, 42, 180, 0, 20, 8, 46, 162, 0, 37, 27, 154, 0, 9, 21, 5]
abbrev dktX2_layDays_6 : List UInt8 := dkwX2_layDays_6 ++ dktX2_layDays_7
def dkwX2_layDays_5 : List UInt8 := [162, 0, 7, 21, 6, 54, 5, 132, 6, 1, 167, 255, 193, 21, 5, 156, 0, 4, 177, 42, 180, 0, 41]
abbrev dktX2_layDays_5 : List UInt8 := dkwX2_layDays_5 ++ dktX2_layDays_6
def dkwX2_layDays_4 : List UInt8 := [162, 0, 29, 21, 5, 155, 0, 20, 42, 180, 0, 38, 21, 6, 46, 42, 180, 0, 38, 21, 5, 46]
abbrev dktX2_layDays_4 : List UInt8 := dkwX2_layDays_4 ++ dktX2_layDays_5
def dkwX2_layDays_3 : List UInt8 := [162, 0, 58, 42, 180, 0, 41, 21, 6, 46, 154, 0, 42, 42, 180, 0, 38, 21, 6, 46, 19, 1, 85]
abbrev dktX2_layDays_3 : List UInt8 := dkwX2_layDays_3 ++ dktX2_layDays_4
def dkwX2_layDays_2 : List UInt8 := [180, 0, 20, 7, 46, 162, 0, 143, 2, 54, 5, 3, 54, 6, 21, 6, 42, 180, 0, 20, 7, 46]
abbrev dktX2_layDays_2 : List UInt8 := dkwX2_layDays_2 ++ dktX2_layDays_3
def dkwX2_layDays_1 : List UInt8 := [21, 4, 3, 79, 132, 4, 1, 167, 255, 228, 42, 180, 0, 38, 28, 29, 79, 3, 54, 4, 21, 4, 42]
abbrev dktX2_layDays_1 : List UInt8 := dkwX2_layDays_1 ++ dktX2_layDays_2
def dkwX2_layDays_0 : List UInt8 := [3, 54, 4, 21, 4, 16, 7, 162, 0, 27, 42, 180, 0, 38, 21, 4, 19, 1, 85, 79, 42, 180, 0, 41]
abbrev dktX2_layDays_0 : List UInt8 := dkwX2_layDays_0 ++ dktX2_layDays_1
theorem dksX2_layDays_0 : cX2_layDays.data.toList.drop 0 = dktX2_layDays_0 := by decide +kernel
theorem dksX2_layDays_1 : cX2_layDays.data.toList.drop 24 = dktX2_layDays_1 := dk_seg dksX2_layDays_0 24 rfl rfl
theorem dksX2_layDays_2 : cX2_layDays.data.toList.drop 47 = dktX2_layDays_2 := dk_seg dksX2_layDays_1 23 rfl rfl
theorem dksX2_layDays_3 : cX2_layDays.data.toList.drop 69 = dktX2_layDays_3 := dk_seg dksX2_layDays_2 22 rfl rfl
theorem dksX2_layDays_4 : cX2_layDays.data.toList.drop 92 = dktX2_layDays_4 := dk_seg dksX2_layDays_3 23 rfl rfl
theorem dksX2_layDays_5 : cX2_layDays.data.toList.drop 114 = dktX2_layDays_5 := dk_seg dksX2_layDays_4 22 rfl rfl
theorem dksX2_layDays_6 : cX2_layDays.data.toList.drop 137 = dktX2_layDays_6 := dk_seg dksX2_layDays_5 23 rfl rfl
theorem dksX2_layDays_7 : cX2_layDays.data.toList.drop 161 = dktX2_layDays_7 := dk_seg dksX2_layDays_6 24 rfl rfl
theorem dksX2_layDays_8 : cX2_layDays.data.toList.drop 183 = dktX2_layDays_8 := dk_seg dksX2_layDays_7 22 rfl rfl
theorem dX2_layDays_0 : decode cX2_layDays 0 = .ok (.iconst 0, 1) := dk_3 (dk_at dksX2_layDays_0 0 rfl rfl)
theorem dX2_layDays_1 : decode cX2_layDays 1 = .ok (.istore 4, 2) := dk_54 4 (dk_at dksX2_layDays_0 1 rfl rfl)
theorem dX2_layDays_3 : decode cX2_layDays 3 = .ok (.iload 4, 2) := dk_21 4 (dk_at dksX2_layDays_0 3 rfl rfl)
theorem dX2_layDays_5 : decode cX2_layDays 5 = .ok (.bipush 7, 2) := dk_16 7 (dk_at dksX2_layDays_0 5 rfl rfl)
theorem dX2_layDays_7 : decode cX2_layDays 7 = .ok (.if_icmp .ge 27, 3) := dk_162 0 27 (dk_at dksX2_layDays_0 7 rfl rfl)
theorem dX2_layDays_10 : decode cX2_layDays 10 = .ok (.aload_n 0, 1) := dk_42 (dk_at dksX2_layDays_0 10 rfl rfl)
theorem dX2_layDays_11 : decode cX2_layDays 11 = .ok (.getfield 38, 3) := dk_180 0 38 (dk_at dksX2_layDays_0 11 rfl rfl)
theorem dX2_layDays_14 : decode cX2_layDays 14 = .ok (.iload 4, 2) := dk_21 4 (dk_at dksX2_layDays_0 14 rfl rfl)
theorem dX2_layDays_16 : decode cX2_layDays 16 = .ok (.ldc_w 341, 3) := dk_19 1 85 (dk_at dksX2_layDays_0 16 rfl rfl)
theorem dX2_layDays_19 : decode cX2_layDays 19 = .ok (.iastore, 1) := dk_79 (dk_at dksX2_layDays_0 19 rfl rfl)
theorem dX2_layDays_20 : decode cX2_layDays 20 = .ok (.aload_n 0, 1) := dk_42 (dk_at dksX2_layDays_0 20 rfl rfl)
theorem dX2_layDays_21 : decode cX2_layDays 21 = .ok (.getfield 41, 3) := dk_180 0 41 (dk_at dksX2_layDays_0 21 rfl rfl)
theorem dX2_layDays_24 : decode cX2_layDays 24 = .ok (.iload 4, 2) := dk_21 4 (dk_at dksX2_layDays_1 0 rfl rfl)
theorem dX2_layDays_26 : decode cX2_layDays 26 = .ok (.iconst 0, 1) := dk_3 (dk_at dksX2_layDays_1 2 rfl rfl)
theorem dX2_layDays_27 : decode cX2_layDays 27 = .ok (.iastore, 1) := dk_79 (dk_at dksX2_layDays_1 3 rfl rfl)
theorem dX2_layDays_28 : decode cX2_layDays 28 = .ok (.iinc 4 1, 3) := dk_132 4 1 (dk_at dksX2_layDays_1 4 rfl rfl)
theorem dX2_layDays_31 : decode cX2_layDays 31 = .ok (.goto (-28), 3) := dk_167 255 228 (dk_at dksX2_layDays_1 7 rfl rfl)
theorem dX2_layDays_34 : decode cX2_layDays 34 = .ok (.aload_n 0, 1) := dk_42 (dk_at dksX2_layDays_1 10 rfl rfl)
theorem dX2_layDays_35 : decode cX2_layDays 35 = .ok (.getfield 38, 3) := dk_180 0 38 (dk_at dksX2_layDays_1 11 rfl rfl)
theorem dX2_layDays_38 : decode cX2_layDays 38 = .ok (.iload_n 2, 1) := dk_28 (dk_at dksX2_layDays_1 14 rfl rfl)
theorem dX2_layDays_39 : decode cX2_layDays 39 = .ok (.iload_n 3, 1) := dk_29 (dk_at dksX2_layDays_1 15 rfl rfl)
theorem dX2_layDays_40 : decode cX2_layDays 40 = .ok (.iastore, 1) := dk_79 (dk_at dksX2_layDays_1 16 rfl rfl)
theorem dX2_layDays_41 : decode cX2_layDays 41 = .ok (.iconst 0, 1) := dk_3 (dk_at dksX2_layDays_1 17 rfl rfl)
theorem dX2_layDays_42 : decode cX2_layDays 42 = .ok (.istore 4, 2) := dk_54 4 (dk_at dksX2_layDays_1 18 rfl rfl)
theorem dX2_layDays_44 : decode cX2_layDays 44 = .ok (.iload 4, 2) := dk_21 4 (dk_at dksX2_layDays_1 20 rfl rfl)
theorem dX2_layDays_46 : decode cX2_layDays 46 = .ok (.aload_n 0, 1) := dk_42 (dk_at dksX2_layDays_1 22 rfl rfl)
theorem dX2_layDays_47 : decode cX2_layDays 47 = .ok (.getfield 20, 3) := dk_180 0 20 (dk_at dksX2_layDays_2 0 rfl rfl)
theorem dX2_layDays_50 : decode cX2_layDays 50 = .ok (.iconst 4, 1) := dk_7 (dk_at dksX2_layDays_2 3 rfl rfl)
theorem dX2_layDays_51 : decode cX2_layDays 51 = .ok (.iaload, 1) := dk_46 (dk_at dksX2_layDays_2 4 rfl rfl)
theorem dX2_layDays_52 : decode cX2_layDays 52 = .ok (.if_icmp .ge 143, 3) := dk_162 0 143 (dk_at dksX2_layDays_2 5 rfl rfl)
theorem dX2_layDays_55 : decode cX2_layDays 55 = .ok (.iconst (-1), 1) := dk_2 (dk_at dksX2_layDays_2 8 rfl rfl)
theorem dX2_layDays_56 : decode cX2_layDays 56 = .ok (.istore 5, 2) := dk_54 5 (dk_at dksX2_layDays_2 9 rfl rfl)
theorem dX2_layDays_58 : decode cX2_layDays 58 = .ok (.iconst 0, 1) := dk_3 (dk_at dksX2_layDays_2 11 rfl rfl)
theorem dX2_layDays_59 : decode cX2_layDays 59 = .ok (.istore 6, 2) := dk_54 6 (dk_at dksX2_layDays_2 12 rfl rfl)
theorem dX2_layDays_61 : decode cX2_layDays 61 = .ok (.iload 6, 2) := dk_21 6 (dk_at dksX2_layDays_2 14 rfl rfl)
theorem dX2_layDays_63 : decode cX2_layDays 63 = .ok (.aload_n 0, 1) := dk_42 (dk_at dksX2_layDays_2 16 rfl rfl)
theorem dX2_layDays_64 : decode cX2_layDays 64 = .ok (.getfield 20, 3) := dk_180 0 20 (dk_at dksX2_layDays_2 17 rfl rfl)
theorem dX2_layDays_67 : decode cX2_layDays 67 = .ok (.iconst 4, 1) := dk_7 (dk_at dksX2_layDays_2 20 rfl rfl)
theorem dX2_layDays_68 : decode cX2_layDays 68 = .ok (.iaload, 1) := dk_46 (dk_at dksX2_layDays_2 21 rfl rfl)
theorem dX2_layDays_69 : decode cX2_layDays 69 = .ok (.if_icmp .ge 58, 3) := dk_162 0 58 (dk_at dksX2_layDays_3 0 rfl rfl)
theorem dX2_layDays_72 : decode cX2_layDays 72 = .ok (.aload_n 0, 1) := dk_42 (dk_at dksX2_layDays_3 3 rfl rfl)
theorem dX2_layDays_73 : decode cX2_layDays 73 = .ok (.getfield 41, 3) := dk_180 0 41 (dk_at dksX2_layDays_3 4 rfl rfl)
theorem dX2_layDays_76 : decode cX2_layDays 76 = .ok (.iload 6, 2) := dk_21 6 (dk_at dksX2_layDays_3 7 rfl rfl)
theorem dX2_layDays_78 : decode cX2_layDays 78 = .ok (.iaload, 1) := dk_46 (dk_at dksX2_layDays_3 9 rfl rfl)
theorem dX2_layDays_79 : decode cX2_layDays 79 = .ok (.ifCond .ne 42, 3) := dk_154 0 42 (dk_at dksX2_layDays_3 10 rfl rfl)
theorem dX2_layDays_82 : decode cX2_layDays 82 = .ok (.aload_n 0, 1) := dk_42 (dk_at dksX2_layDays_3 13 rfl rfl)
theorem dX2_layDays_83 : decode cX2_layDays 83 = .ok (.getfield 38, 3) := dk_180 0 38 (dk_at dksX2_layDays_3 14 rfl rfl)
theorem dX2_layDays_86 : decode cX2_layDays 86 = .ok (.iload 6, 2) := dk_21 6 (dk_at dksX2_layDays_3 17 rfl rfl)
theorem dX2_layDays_88 : decode cX2_layDays 88 = .ok (.iaload, 1) := dk_46 (dk_at dksX2_layDays_3 19 rfl rfl)
theorem dX2_layDays_89 : decode cX2_layDays 89 = .ok (.ldc_w 341, 3) := dk_19 1 85 (dk_at dksX2_layDays_3 20 rfl rfl)
theorem dX2_layDays_92 : decode cX2_layDays 92 = .ok (.if_icmp .ge 29, 3) := dk_162 0 29 (dk_at dksX2_layDays_4 0 rfl rfl)
theorem dX2_layDays_95 : decode cX2_layDays 95 = .ok (.iload 5, 2) := dk_21 5 (dk_at dksX2_layDays_4 3 rfl rfl)
theorem dX2_layDays_97 : decode cX2_layDays 97 = .ok (.ifCond .lt 20, 3) := dk_155 0 20 (dk_at dksX2_layDays_4 5 rfl rfl)
theorem dX2_layDays_100 : decode cX2_layDays 100 = .ok (.aload_n 0, 1) := dk_42 (dk_at dksX2_layDays_4 8 rfl rfl)
theorem dX2_layDays_101 : decode cX2_layDays 101 = .ok (.getfield 38, 3) := dk_180 0 38 (dk_at dksX2_layDays_4 9 rfl rfl)
theorem dX2_layDays_104 : decode cX2_layDays 104 = .ok (.iload 6, 2) := dk_21 6 (dk_at dksX2_layDays_4 12 rfl rfl)
theorem dX2_layDays_106 : decode cX2_layDays 106 = .ok (.iaload, 1) := dk_46 (dk_at dksX2_layDays_4 14 rfl rfl)
theorem dX2_layDays_107 : decode cX2_layDays 107 = .ok (.aload_n 0, 1) := dk_42 (dk_at dksX2_layDays_4 15 rfl rfl)
theorem dX2_layDays_108 : decode cX2_layDays 108 = .ok (.getfield 38, 3) := dk_180 0 38 (dk_at dksX2_layDays_4 16 rfl rfl)
theorem dX2_layDays_111 : decode cX2_layDays 111 = .ok (.iload 5, 2) := dk_21 5 (dk_at dksX2_layDays_4 19 rfl rfl)
theorem dX2_layDays_113 : decode cX2_layDays 113 = .ok (.iaload, 1) := dk_46 (dk_at dksX2_layDays_4 21 rfl rfl)
theorem dX2_layDays_114 : decode cX2_layDays 114 = .ok (.if_icmp .ge 7, 3) := dk_162 0 7 (dk_at dksX2_layDays_5 0 rfl rfl)
theorem dX2_layDays_117 : decode cX2_layDays 117 = .ok (.iload 6, 2) := dk_21 6 (dk_at dksX2_layDays_5 3 rfl rfl)
theorem dX2_layDays_119 : decode cX2_layDays 119 = .ok (.istore 5, 2) := dk_54 5 (dk_at dksX2_layDays_5 5 rfl rfl)
theorem dX2_layDays_121 : decode cX2_layDays 121 = .ok (.iinc 6 1, 3) := dk_132 6 1 (dk_at dksX2_layDays_5 7 rfl rfl)
theorem dX2_layDays_124 : decode cX2_layDays 124 = .ok (.goto (-63), 3) := dk_167 255 193 (dk_at dksX2_layDays_5 10 rfl rfl)
theorem dX2_layDays_127 : decode cX2_layDays 127 = .ok (.iload 5, 2) := dk_21 5 (dk_at dksX2_layDays_5 13 rfl rfl)
theorem dX2_layDays_129 : decode cX2_layDays 129 = .ok (.ifCond .ge 4, 3) := dk_156 0 4 (dk_at dksX2_layDays_5 15 rfl rfl)
theorem dX2_layDays_132 : decode cX2_layDays 132 = .ok (.return_, 1) := dk_177 (dk_at dksX2_layDays_5 18 rfl rfl)
theorem dX2_layDays_133 : decode cX2_layDays 133 = .ok (.aload_n 0, 1) := dk_42 (dk_at dksX2_layDays_5 19 rfl rfl)
theorem dX2_layDays_134 : decode cX2_layDays 134 = .ok (.getfield 41, 3) := dk_180 0 41 (dk_at dksX2_layDays_5 20 rfl rfl)
theorem dX2_layDays_137 : decode cX2_layDays 137 = .ok (.iload 5, 2) := dk_21 5 (dk_at dksX2_layDays_6 0 rfl rfl)
theorem dX2_layDays_139 : decode cX2_layDays 139 = .ok (.iconst 1, 1) := dk_4 (dk_at dksX2_layDays_6 2 rfl rfl)
theorem dX2_layDays_140 : decode cX2_layDays 140 = .ok (.iastore, 1) := dk_79 (dk_at dksX2_layDays_6 3 rfl rfl)
theorem dX2_layDays_141 : decode cX2_layDays 141 = .ok (.iconst 0, 1) := dk_3 (dk_at dksX2_layDays_6 4 rfl rfl)
theorem dX2_layDays_142 : decode cX2_layDays 142 = .ok (.istore 6, 2) := dk_54 6 (dk_at dksX2_layDays_6 5 rfl rfl)
theorem dX2_layDays_144 : decode cX2_layDays 144 = .ok (.iload 6, 2) := dk_21 6 (dk_at dksX2_layDays_6 7 rfl rfl)
theorem dX2_layDays_146 : decode cX2_layDays 146 = .ok (.aload_n 0, 1) := dk_42 (dk_at dksX2_layDays_6 9 rfl rfl)
theorem dX2_layDays_147 : decode cX2_layDays 147 = .ok (.getfield 20, 3) := dk_180 0 20 (dk_at dksX2_layDays_6 10 rfl rfl)
theorem dX2_layDays_150 : decode cX2_layDays 150 = .ok (.iconst 5, 1) := dk_8 (dk_at dksX2_layDays_6 13 rfl rfl)
theorem dX2_layDays_151 : decode cX2_layDays 151 = .ok (.iaload, 1) := dk_46 (dk_at dksX2_layDays_6 14 rfl rfl)
theorem dX2_layDays_152 : decode cX2_layDays 152 = .ok (.if_icmp .ge 37, 3) := dk_162 0 37 (dk_at dksX2_layDays_6 15 rfl rfl)
theorem dX2_layDays_155 : decode cX2_layDays 155 = .ok (.iload_n 1, 1) := dk_27 (dk_at dksX2_layDays_6 18 rfl rfl)
theorem dX2_layDays_156 : decode cX2_layDays 156 = .ok (.ifCond .ne 9, 3) := dk_154 0 9 (dk_at dksX2_layDays_6 19 rfl rfl)
theorem dX2_layDays_159 : decode cX2_layDays 159 = .ok (.iload 5, 2) := dk_21 5 (dk_at dksX2_layDays_6 22 rfl rfl)
theorem dX2_layDays_161 : decode cX2_layDays 161 = .ok (.iload_n 2, 1) := dk_28 (dk_at dksX2_layDays_7 0 rfl rfl)
theorem dX2_layDays_162 : decode cX2_layDays 162 = .ok (.if_icmp .ne 27, 3) := dk_160 0 27 (dk_at dksX2_layDays_7 1 rfl rfl)
theorem dX2_layDays_165 : decode cX2_layDays 165 = .ok (.aload_n 0, 1) := dk_42 (dk_at dksX2_layDays_7 4 rfl rfl)
theorem dX2_layDays_166 : decode cX2_layDays 166 = .ok (.iload 6, 2) := dk_21 6 (dk_at dksX2_layDays_7 5 rfl rfl)
theorem dX2_layDays_168 : decode cX2_layDays 168 = .ok (.invokevirtual 302, 3) := dk_182 1 46 (dk_at dksX2_layDays_7 7 rfl rfl)
theorem dX2_layDays_171 : decode cX2_layDays 171 = .ok (.ifCond .ne 12, 3) := dk_154 0 12 (dk_at dksX2_layDays_7 10 rfl rfl)
theorem dX2_layDays_174 : decode cX2_layDays 174 = .ok (.aload_n 0, 1) := dk_42 (dk_at dksX2_layDays_7 13 rfl rfl)
theorem dX2_layDays_175 : decode cX2_layDays 175 = .ok (.iload 6, 2) := dk_21 6 (dk_at dksX2_layDays_7 14 rfl rfl)
theorem dX2_layDays_177 : decode cX2_layDays 177 = .ok (.iload_n 1, 1) := dk_27 (dk_at dksX2_layDays_7 16 rfl rfl)
theorem dX2_layDays_178 : decode cX2_layDays 178 = .ok (.iload 5, 2) := dk_21 5 (dk_at dksX2_layDays_7 17 rfl rfl)
theorem dX2_layDays_180 : decode cX2_layDays 180 = .ok (.invokevirtual 342, 3) := dk_182 1 86 (dk_at dksX2_layDays_7 19 rfl rfl)
theorem dX2_layDays_183 : decode cX2_layDays 183 = .ok (.iinc 6 1, 3) := dk_132 6 1 (dk_at dksX2_layDays_8 0 rfl rfl)
theorem dX2_layDays_186 : decode cX2_layDays 186 = .ok (.goto (-42), 3) := dk_167 255 214 (dk_at dksX2_layDays_8 3 rfl rfl)
theorem dX2_layDays_189 : decode cX2_layDays 189 = .ok (.iinc 4 1, 3) := dk_132 4 1 (dk_at dksX2_layDays_8 6 rfl rfl)
theorem dX2_layDays_192 : decode cX2_layDays 192 = .ok (.goto (-148), 3) := dk_167 255 108 (dk_at dksX2_layDays_8 9 rfl rfl)
theorem dX2_layDays_195 : decode cX2_layDays 195 = .ok (.return_, 1) := dk_177 (dk_at dksX2_layDays_8 12 rfl rfl)
abbrev cX2_goesBy : ByteArray := prog_16_method_84_code
def yX2_goesBy : MethodName := ⟨RX2, "goesBy", "(III)V"⟩
def dkwX2_goesBy_3 : List UInt8 := [21, 7, 42, 180, 0, 38, 21, 6, 46, 162, 0, 12, 42, 180, 0, 38, 21, 6, 21, 7, 79, 177]
abbrev dktX2_goesBy_3 : List UInt8 := dkwX2_goesBy_3 ++ []
def dkwX2_goesBy_2 : List UInt8 := [21, 5, 167, 0, 5, 21, 4, 54, 6, 42, 27, 28, 42, 180, 0, 38, 29, 46, 182, 1, 90, 54, 7]
abbrev dktX2_goesBy_2 : List UInt8 := dkwX2_goesBy_2 ++ dktX2_goesBy_3
def dkwX2_goesBy_1 : List UInt8 := [96, 46, 54, 5, 21, 4, 29, 159, 0, 10, 21, 5, 29, 159, 0, 4, 177, 21, 4, 29, 160, 0, 8]
abbrev dktX2_goesBy_1 : List UInt8 := dkwX2_goesBy_1 ++ dktX2_goesBy_2
def dkwX2_goesBy_0 : List UInt8 := [42, 180, 0, 20, 16, 59, 7, 27, 104, 96, 46, 54, 4, 42, 180, 0, 20, 16, 59, 7, 27, 104, 96, 4]
abbrev dktX2_goesBy_0 : List UInt8 := dkwX2_goesBy_0 ++ dktX2_goesBy_1
theorem dksX2_goesBy_0 : cX2_goesBy.data.toList.drop 0 = dktX2_goesBy_0 := by decide +kernel
theorem dksX2_goesBy_1 : cX2_goesBy.data.toList.drop 24 = dktX2_goesBy_1 := dk_seg dksX2_goesBy_0 24 rfl rfl
theorem dksX2_goesBy_2 : cX2_goesBy.data.toList.drop 47 = dktX2_goesBy_2 := dk_seg dksX2_goesBy_1 23 rfl rfl
theorem dksX2_goesBy_3 : cX2_goesBy.data.toList.drop 70 = dktX2_goesBy_3 := dk_seg dksX2_goesBy_2 23 rfl rfl
theorem dX2_goesBy_0 : decode cX2_goesBy 0 = .ok (.aload_n 0, 1) := dk_42 (dk_at dksX2_goesBy_0 0 rfl rfl)
theorem dX2_goesBy_1 : decode cX2_goesBy 1 = .ok (.getfield 20, 3) := dk_180 0 20 (dk_at dksX2_goesBy_0 1 rfl rfl)
theorem dX2_goesBy_4 : decode cX2_goesBy 4 = .ok (.bipush 59, 2) := dk_16 59 (dk_at dksX2_goesBy_0 4 rfl rfl)
theorem dX2_goesBy_6 : decode cX2_goesBy 6 = .ok (.iconst 4, 1) := dk_7 (dk_at dksX2_goesBy_0 6 rfl rfl)
theorem dX2_goesBy_7 : decode cX2_goesBy 7 = .ok (.iload_n 1, 1) := dk_27 (dk_at dksX2_goesBy_0 7 rfl rfl)
theorem dX2_goesBy_8 : decode cX2_goesBy 8 = .ok (.imul, 1) := dk_104 (dk_at dksX2_goesBy_0 8 rfl rfl)
theorem dX2_goesBy_9 : decode cX2_goesBy 9 = .ok (.iadd, 1) := dk_96 (dk_at dksX2_goesBy_0 9 rfl rfl)
theorem dX2_goesBy_10 : decode cX2_goesBy 10 = .ok (.iaload, 1) := dk_46 (dk_at dksX2_goesBy_0 10 rfl rfl)
theorem dX2_goesBy_11 : decode cX2_goesBy 11 = .ok (.istore 4, 2) := dk_54 4 (dk_at dksX2_goesBy_0 11 rfl rfl)
theorem dX2_goesBy_13 : decode cX2_goesBy 13 = .ok (.aload_n 0, 1) := dk_42 (dk_at dksX2_goesBy_0 13 rfl rfl)
theorem dX2_goesBy_14 : decode cX2_goesBy 14 = .ok (.getfield 20, 3) := dk_180 0 20 (dk_at dksX2_goesBy_0 14 rfl rfl)
theorem dX2_goesBy_17 : decode cX2_goesBy 17 = .ok (.bipush 59, 2) := dk_16 59 (dk_at dksX2_goesBy_0 17 rfl rfl)
theorem dX2_goesBy_19 : decode cX2_goesBy 19 = .ok (.iconst 4, 1) := dk_7 (dk_at dksX2_goesBy_0 19 rfl rfl)
theorem dX2_goesBy_20 : decode cX2_goesBy 20 = .ok (.iload_n 1, 1) := dk_27 (dk_at dksX2_goesBy_0 20 rfl rfl)
theorem dX2_goesBy_21 : decode cX2_goesBy 21 = .ok (.imul, 1) := dk_104 (dk_at dksX2_goesBy_0 21 rfl rfl)
theorem dX2_goesBy_22 : decode cX2_goesBy 22 = .ok (.iadd, 1) := dk_96 (dk_at dksX2_goesBy_0 22 rfl rfl)
theorem dX2_goesBy_23 : decode cX2_goesBy 23 = .ok (.iconst 1, 1) := dk_4 (dk_at dksX2_goesBy_0 23 rfl rfl)
theorem dX2_goesBy_24 : decode cX2_goesBy 24 = .ok (.iadd, 1) := dk_96 (dk_at dksX2_goesBy_1 0 rfl rfl)
theorem dX2_goesBy_25 : decode cX2_goesBy 25 = .ok (.iaload, 1) := dk_46 (dk_at dksX2_goesBy_1 1 rfl rfl)
theorem dX2_goesBy_26 : decode cX2_goesBy 26 = .ok (.istore 5, 2) := dk_54 5 (dk_at dksX2_goesBy_1 2 rfl rfl)
theorem dX2_goesBy_28 : decode cX2_goesBy 28 = .ok (.iload 4, 2) := dk_21 4 (dk_at dksX2_goesBy_1 4 rfl rfl)
theorem dX2_goesBy_30 : decode cX2_goesBy 30 = .ok (.iload_n 3, 1) := dk_29 (dk_at dksX2_goesBy_1 6 rfl rfl)
theorem dX2_goesBy_31 : decode cX2_goesBy 31 = .ok (.if_icmp .eq 10, 3) := dk_159 0 10 (dk_at dksX2_goesBy_1 7 rfl rfl)
theorem dX2_goesBy_34 : decode cX2_goesBy 34 = .ok (.iload 5, 2) := dk_21 5 (dk_at dksX2_goesBy_1 10 rfl rfl)
theorem dX2_goesBy_36 : decode cX2_goesBy 36 = .ok (.iload_n 3, 1) := dk_29 (dk_at dksX2_goesBy_1 12 rfl rfl)
theorem dX2_goesBy_37 : decode cX2_goesBy 37 = .ok (.if_icmp .eq 4, 3) := dk_159 0 4 (dk_at dksX2_goesBy_1 13 rfl rfl)
theorem dX2_goesBy_40 : decode cX2_goesBy 40 = .ok (.return_, 1) := dk_177 (dk_at dksX2_goesBy_1 16 rfl rfl)
theorem dX2_goesBy_41 : decode cX2_goesBy 41 = .ok (.iload 4, 2) := dk_21 4 (dk_at dksX2_goesBy_1 17 rfl rfl)
theorem dX2_goesBy_43 : decode cX2_goesBy 43 = .ok (.iload_n 3, 1) := dk_29 (dk_at dksX2_goesBy_1 19 rfl rfl)
theorem dX2_goesBy_44 : decode cX2_goesBy 44 = .ok (.if_icmp .ne 8, 3) := dk_160 0 8 (dk_at dksX2_goesBy_1 20 rfl rfl)
theorem dX2_goesBy_47 : decode cX2_goesBy 47 = .ok (.iload 5, 2) := dk_21 5 (dk_at dksX2_goesBy_2 0 rfl rfl)
theorem dX2_goesBy_49 : decode cX2_goesBy 49 = .ok (.goto 5, 3) := dk_167 0 5 (dk_at dksX2_goesBy_2 2 rfl rfl)
theorem dX2_goesBy_52 : decode cX2_goesBy 52 = .ok (.iload 4, 2) := dk_21 4 (dk_at dksX2_goesBy_2 5 rfl rfl)
theorem dX2_goesBy_54 : decode cX2_goesBy 54 = .ok (.istore 6, 2) := dk_54 6 (dk_at dksX2_goesBy_2 7 rfl rfl)
theorem dX2_goesBy_56 : decode cX2_goesBy 56 = .ok (.aload_n 0, 1) := dk_42 (dk_at dksX2_goesBy_2 9 rfl rfl)
theorem dX2_goesBy_57 : decode cX2_goesBy 57 = .ok (.iload_n 1, 1) := dk_27 (dk_at dksX2_goesBy_2 10 rfl rfl)
theorem dX2_goesBy_58 : decode cX2_goesBy 58 = .ok (.iload_n 2, 1) := dk_28 (dk_at dksX2_goesBy_2 11 rfl rfl)
theorem dX2_goesBy_59 : decode cX2_goesBy 59 = .ok (.aload_n 0, 1) := dk_42 (dk_at dksX2_goesBy_2 12 rfl rfl)
theorem dX2_goesBy_60 : decode cX2_goesBy 60 = .ok (.getfield 38, 3) := dk_180 0 38 (dk_at dksX2_goesBy_2 13 rfl rfl)
theorem dX2_goesBy_63 : decode cX2_goesBy 63 = .ok (.iload_n 3, 1) := dk_29 (dk_at dksX2_goesBy_2 16 rfl rfl)
theorem dX2_goesBy_64 : decode cX2_goesBy 64 = .ok (.iaload, 1) := dk_46 (dk_at dksX2_goesBy_2 17 rfl rfl)
theorem dX2_goesBy_65 : decode cX2_goesBy 65 = .ok (.invokevirtual 346, 3) := dk_182 1 90 (dk_at dksX2_goesBy_2 18 rfl rfl)
theorem dX2_goesBy_68 : decode cX2_goesBy 68 = .ok (.istore 7, 2) := dk_54 7 (dk_at dksX2_goesBy_2 21 rfl rfl)
theorem dX2_goesBy_70 : decode cX2_goesBy 70 = .ok (.iload 7, 2) := dk_21 7 (dk_at dksX2_goesBy_3 0 rfl rfl)
theorem dX2_goesBy_72 : decode cX2_goesBy 72 = .ok (.aload_n 0, 1) := dk_42 (dk_at dksX2_goesBy_3 2 rfl rfl)
theorem dX2_goesBy_73 : decode cX2_goesBy 73 = .ok (.getfield 38, 3) := dk_180 0 38 (dk_at dksX2_goesBy_3 3 rfl rfl)
theorem dX2_goesBy_76 : decode cX2_goesBy 76 = .ok (.iload 6, 2) := dk_21 6 (dk_at dksX2_goesBy_3 6 rfl rfl)
theorem dX2_goesBy_78 : decode cX2_goesBy 78 = .ok (.iaload, 1) := dk_46 (dk_at dksX2_goesBy_3 8 rfl rfl)
theorem dX2_goesBy_79 : decode cX2_goesBy 79 = .ok (.if_icmp .ge 12, 3) := dk_162 0 12 (dk_at dksX2_goesBy_3 9 rfl rfl)
theorem dX2_goesBy_82 : decode cX2_goesBy 82 = .ok (.aload_n 0, 1) := dk_42 (dk_at dksX2_goesBy_3 12 rfl rfl)
theorem dX2_goesBy_83 : decode cX2_goesBy 83 = .ok (.getfield 38, 3) := dk_180 0 38 (dk_at dksX2_goesBy_3 13 rfl rfl)
theorem dX2_goesBy_86 : decode cX2_goesBy 86 = .ok (.iload 6, 2) := dk_21 6 (dk_at dksX2_goesBy_3 16 rfl rfl)
theorem dX2_goesBy_88 : decode cX2_goesBy 88 = .ok (.iload 7, 2) := dk_21 7 (dk_at dksX2_goesBy_3 18 rfl rfl)
theorem dX2_goesBy_90 : decode cX2_goesBy 90 = .ok (.iastore, 1) := dk_79 (dk_at dksX2_goesBy_3 20 rfl rfl)
theorem dX2_goesBy_91 : decode cX2_goesBy 91 = .ok (.return_, 1) := dk_177 (dk_at dksX2_goesBy_3 21 rfl rfl)
abbrev cX2_dayBy : ByteArray := prog_16_method_78_code
def yX2_dayBy : MethodName := ⟨RX2, "dayBy", "(III)I"⟩
def dkwX2_dayBy_1 : List UInt8 := [27, 104, 96, 5, 96, 46, 104, 96, 172]
abbrev dktX2_dayBy_1 : List UInt8 := dkwX2_dayBy_1 ++ []
def dkwX2_dayBy_0 : List UInt8 := [42, 27, 28, 29, 182, 1, 78, 28, 5, 160, 0, 7, 5, 167, 0, 4, 4, 42, 180, 0, 20, 16, 59, 7]
abbrev dktX2_dayBy_0 : List UInt8 := dkwX2_dayBy_0 ++ dktX2_dayBy_1
theorem dksX2_dayBy_0 : cX2_dayBy.data.toList.drop 0 = dktX2_dayBy_0 := by decide +kernel
theorem dksX2_dayBy_1 : cX2_dayBy.data.toList.drop 24 = dktX2_dayBy_1 := dk_seg dksX2_dayBy_0 24 rfl rfl
theorem dX2_dayBy_0 : decode cX2_dayBy 0 = .ok (.aload_n 0, 1) := dk_42 (dk_at dksX2_dayBy_0 0 rfl rfl)
theorem dX2_dayBy_1 : decode cX2_dayBy 1 = .ok (.iload_n 1, 1) := dk_27 (dk_at dksX2_dayBy_0 1 rfl rfl)
theorem dX2_dayBy_2 : decode cX2_dayBy 2 = .ok (.iload_n 2, 1) := dk_28 (dk_at dksX2_dayBy_0 2 rfl rfl)
theorem dX2_dayBy_3 : decode cX2_dayBy 3 = .ok (.iload_n 3, 1) := dk_29 (dk_at dksX2_dayBy_0 3 rfl rfl)
theorem dX2_dayBy_4 : decode cX2_dayBy 4 = .ok (.invokevirtual 334, 3) := dk_182 1 78 (dk_at dksX2_dayBy_0 4 rfl rfl)
theorem dX2_dayBy_7 : decode cX2_dayBy 7 = .ok (.iload_n 2, 1) := dk_28 (dk_at dksX2_dayBy_0 7 rfl rfl)
theorem dX2_dayBy_8 : decode cX2_dayBy 8 = .ok (.iconst 2, 1) := dk_5 (dk_at dksX2_dayBy_0 8 rfl rfl)
theorem dX2_dayBy_9 : decode cX2_dayBy 9 = .ok (.if_icmp .ne 7, 3) := dk_160 0 7 (dk_at dksX2_dayBy_0 9 rfl rfl)
theorem dX2_dayBy_12 : decode cX2_dayBy 12 = .ok (.iconst 2, 1) := dk_5 (dk_at dksX2_dayBy_0 12 rfl rfl)
theorem dX2_dayBy_13 : decode cX2_dayBy 13 = .ok (.goto 4, 3) := dk_167 0 4 (dk_at dksX2_dayBy_0 13 rfl rfl)
theorem dX2_dayBy_16 : decode cX2_dayBy 16 = .ok (.iconst 1, 1) := dk_4 (dk_at dksX2_dayBy_0 16 rfl rfl)
theorem dX2_dayBy_17 : decode cX2_dayBy 17 = .ok (.aload_n 0, 1) := dk_42 (dk_at dksX2_dayBy_0 17 rfl rfl)
theorem dX2_dayBy_18 : decode cX2_dayBy 18 = .ok (.getfield 20, 3) := dk_180 0 20 (dk_at dksX2_dayBy_0 18 rfl rfl)
theorem dX2_dayBy_21 : decode cX2_dayBy 21 = .ok (.bipush 59, 2) := dk_16 59 (dk_at dksX2_dayBy_0 21 rfl rfl)
theorem dX2_dayBy_23 : decode cX2_dayBy 23 = .ok (.iconst 4, 1) := dk_7 (dk_at dksX2_dayBy_0 23 rfl rfl)
theorem dX2_dayBy_24 : decode cX2_dayBy 24 = .ok (.iload_n 1, 1) := dk_27 (dk_at dksX2_dayBy_1 0 rfl rfl)
theorem dX2_dayBy_25 : decode cX2_dayBy 25 = .ok (.imul, 1) := dk_104 (dk_at dksX2_dayBy_1 1 rfl rfl)
theorem dX2_dayBy_26 : decode cX2_dayBy 26 = .ok (.iadd, 1) := dk_96 (dk_at dksX2_dayBy_1 2 rfl rfl)
theorem dX2_dayBy_27 : decode cX2_dayBy 27 = .ok (.iconst 2, 1) := dk_5 (dk_at dksX2_dayBy_1 3 rfl rfl)
theorem dX2_dayBy_28 : decode cX2_dayBy 28 = .ok (.iadd, 1) := dk_96 (dk_at dksX2_dayBy_1 4 rfl rfl)
theorem dX2_dayBy_29 : decode cX2_dayBy 29 = .ok (.iaload, 1) := dk_46 (dk_at dksX2_dayBy_1 5 rfl rfl)
theorem dX2_dayBy_30 : decode cX2_dayBy 30 = .ok (.imul, 1) := dk_104 (dk_at dksX2_dayBy_1 6 rfl rfl)
theorem dX2_dayBy_31 : decode cX2_dayBy 31 = .ok (.iadd, 1) := dk_96 (dk_at dksX2_dayBy_1 7 rfl rfl)
theorem dX2_dayBy_32 : decode cX2_dayBy 32 = .ok (.ireturn, 1) := dk_172 (dk_at dksX2_dayBy_1 8 rfl rfl)
abbrev cX2_brings : ByteArray := prog_16_method_89_code
def yX2_brings : MethodName := ⟨RX2, "brings", "(II)I"⟩
def dkwX2_brings_1 : List UInt8 := [182, 1, 111, 167, 0, 8, 42, 4, 182, 0, 170, 172]
abbrev dktX2_brings_1 : List UInt8 := dkwX2_brings_1 ++ []
def dkwX2_brings_0 : List UInt8 := [42, 182, 0, 167, 42, 27, 182, 1, 12, 153, 0, 20, 42, 28, 182, 1, 18, 153, 0, 12, 42, 27, 28]
abbrev dktX2_brings_0 : List UInt8 := dkwX2_brings_0 ++ dktX2_brings_1
theorem dksX2_brings_0 : cX2_brings.data.toList.drop 0 = dktX2_brings_0 := by decide +kernel
theorem dksX2_brings_1 : cX2_brings.data.toList.drop 23 = dktX2_brings_1 := dk_seg dksX2_brings_0 23 rfl rfl
theorem dX2_brings_0 : decode cX2_brings 0 = .ok (.aload_n 0, 1) := dk_42 (dk_at dksX2_brings_0 0 rfl rfl)
theorem dX2_brings_1 : decode cX2_brings 1 = .ok (.invokevirtual 167, 3) := dk_182 0 167 (dk_at dksX2_brings_0 1 rfl rfl)
theorem dX2_brings_4 : decode cX2_brings 4 = .ok (.aload_n 0, 1) := dk_42 (dk_at dksX2_brings_0 4 rfl rfl)
theorem dX2_brings_5 : decode cX2_brings 5 = .ok (.iload_n 1, 1) := dk_27 (dk_at dksX2_brings_0 5 rfl rfl)
theorem dX2_brings_6 : decode cX2_brings 6 = .ok (.invokevirtual 268, 3) := dk_182 1 12 (dk_at dksX2_brings_0 6 rfl rfl)
theorem dX2_brings_9 : decode cX2_brings 9 = .ok (.ifCond .eq 20, 3) := dk_153 0 20 (dk_at dksX2_brings_0 9 rfl rfl)
theorem dX2_brings_12 : decode cX2_brings 12 = .ok (.aload_n 0, 1) := dk_42 (dk_at dksX2_brings_0 12 rfl rfl)
theorem dX2_brings_13 : decode cX2_brings 13 = .ok (.iload_n 2, 1) := dk_28 (dk_at dksX2_brings_0 13 rfl rfl)
theorem dX2_brings_14 : decode cX2_brings 14 = .ok (.invokevirtual 274, 3) := dk_182 1 18 (dk_at dksX2_brings_0 14 rfl rfl)
theorem dX2_brings_17 : decode cX2_brings 17 = .ok (.ifCond .eq 12, 3) := dk_153 0 12 (dk_at dksX2_brings_0 17 rfl rfl)
theorem dX2_brings_20 : decode cX2_brings 20 = .ok (.aload_n 0, 1) := dk_42 (dk_at dksX2_brings_0 20 rfl rfl)
theorem dX2_brings_21 : decode cX2_brings 21 = .ok (.iload_n 1, 1) := dk_27 (dk_at dksX2_brings_0 21 rfl rfl)
theorem dX2_brings_22 : decode cX2_brings 22 = .ok (.iload_n 2, 1) := dk_28 (dk_at dksX2_brings_0 22 rfl rfl)
theorem dX2_brings_23 : decode cX2_brings 23 = .ok (.invokevirtual 367, 3) := dk_182 1 111 (dk_at dksX2_brings_1 0 rfl rfl)
theorem dX2_brings_26 : decode cX2_brings 26 = .ok (.goto 8, 3) := dk_167 0 8 (dk_at dksX2_brings_1 3 rfl rfl)
theorem dX2_brings_29 : decode cX2_brings 29 = .ok (.aload_n 0, 1) := dk_42 (dk_at dksX2_brings_1 6 rfl rfl)
theorem dX2_brings_30 : decode cX2_brings 30 = .ok (.iconst 1, 1) := dk_4 (dk_at dksX2_brings_1 7 rfl rfl)
theorem dX2_brings_31 : decode cX2_brings 31 = .ok (.invokevirtual 170, 3) := dk_182 0 170 (dk_at dksX2_brings_1 8 rfl rfl)
theorem dX2_brings_34 : decode cX2_brings 34 = .ok (.ireturn, 1) := dk_172 (dk_at dksX2_brings_1 11 rfl rfl)
abbrev cX2_bringsOf : ByteArray := prog_16_method_88_code
def yX2_bringsOf : MethodName := ⟨RX2, "bringsOf", "(II)I"⟩
def dkwX2_bringsOf_1 : List UInt8 := [16, 254, 172]
abbrev dktX2_bringsOf_1 : List UInt8 := dkwX2_bringsOf_1 ++ []
def dkwX2_bringsOf_0 : List UInt8 := [42, 27, 28, 182, 1, 108, 153, 0, 17, 42, 180, 1, 105, 42, 27, 5, 182, 1, 15, 96, 167, 0, 5]
abbrev dktX2_bringsOf_0 : List UInt8 := dkwX2_bringsOf_0 ++ dktX2_bringsOf_1
theorem dksX2_bringsOf_0 : cX2_bringsOf.data.toList.drop 0 = dktX2_bringsOf_0 := by decide +kernel
theorem dksX2_bringsOf_1 : cX2_bringsOf.data.toList.drop 23 = dktX2_bringsOf_1 := dk_seg dksX2_bringsOf_0 23 rfl rfl
theorem dX2_bringsOf_0 : decode cX2_bringsOf 0 = .ok (.aload_n 0, 1) := dk_42 (dk_at dksX2_bringsOf_0 0 rfl rfl)
theorem dX2_bringsOf_1 : decode cX2_bringsOf 1 = .ok (.iload_n 1, 1) := dk_27 (dk_at dksX2_bringsOf_0 1 rfl rfl)
theorem dX2_bringsOf_2 : decode cX2_bringsOf 2 = .ok (.iload_n 2, 1) := dk_28 (dk_at dksX2_bringsOf_0 2 rfl rfl)
theorem dX2_bringsOf_3 : decode cX2_bringsOf 3 = .ok (.invokevirtual 364, 3) := dk_182 1 108 (dk_at dksX2_bringsOf_0 3 rfl rfl)
theorem dX2_bringsOf_6 : decode cX2_bringsOf 6 = .ok (.ifCond .eq 17, 3) := dk_153 0 17 (dk_at dksX2_bringsOf_0 6 rfl rfl)
theorem dX2_bringsOf_9 : decode cX2_bringsOf 9 = .ok (.aload_n 0, 1) := dk_42 (dk_at dksX2_bringsOf_0 9 rfl rfl)
theorem dX2_bringsOf_10 : decode cX2_bringsOf 10 = .ok (.getfield 361, 3) := dk_180 1 105 (dk_at dksX2_bringsOf_0 10 rfl rfl)
theorem dX2_bringsOf_13 : decode cX2_bringsOf 13 = .ok (.aload_n 0, 1) := dk_42 (dk_at dksX2_bringsOf_0 13 rfl rfl)
theorem dX2_bringsOf_14 : decode cX2_bringsOf 14 = .ok (.iload_n 1, 1) := dk_27 (dk_at dksX2_bringsOf_0 14 rfl rfl)
theorem dX2_bringsOf_15 : decode cX2_bringsOf 15 = .ok (.iconst 2, 1) := dk_5 (dk_at dksX2_bringsOf_0 15 rfl rfl)
theorem dX2_bringsOf_16 : decode cX2_bringsOf 16 = .ok (.invokevirtual 271, 3) := dk_182 1 15 (dk_at dksX2_bringsOf_0 16 rfl rfl)
theorem dX2_bringsOf_19 : decode cX2_bringsOf 19 = .ok (.iadd, 1) := dk_96 (dk_at dksX2_bringsOf_0 19 rfl rfl)
theorem dX2_bringsOf_20 : decode cX2_bringsOf 20 = .ok (.goto 5, 3) := dk_167 0 5 (dk_at dksX2_bringsOf_0 20 rfl rfl)
theorem dX2_bringsOf_23 : decode cX2_bringsOf 23 = .ok (.bipush (-2), 2) := dk_16 254 (dk_at dksX2_bringsOf_1 0 rfl rfl)
theorem dX2_bringsOf_25 : decode cX2_bringsOf 25 = .ok (.ireturn, 1) := dk_172 (dk_at dksX2_bringsOf_1 2 rfl rfl)
abbrev cX2_lays : ByteArray := prog_16_method_87_code
def yX2_lays : MethodName := ⟨RX2, "lays", "(II)Z"⟩
def dkwX2_lays_6 : List UInt8 := [42, 180, 1, 105, 155, 0, 7, 4, 167, 0, 4, 3, 172]
abbrev dktX2_lays_6 : List UInt8 := dkwX2_lays_6 ++ []
def dkwX2_lays_5 : List UInt8 := [181, 1, 102, 42, 42, 29, 42, 28, 3, 182, 1, 6, 21, 5, 42, 180, 1, 102, 182, 1, 96, 181, 1, 105]
abbrev dktX2_lays_5 : List UInt8 := dkwX2_lays_5 ++ dktX2_lays_6
def dkwX2_lays_4 : List UInt8 := [182, 1, 96, 54, 6, 21, 6, 156, 0, 5, 3, 172, 42, 21, 6, 42, 28, 6, 182, 1, 6, 184, 1, 99]
abbrev dktX2_lays_4 : List UInt8 := dkwX2_lays_4 ++ dktX2_lays_5
def dkwX2_lays_3 : List UInt8 := [42, 180, 0, 26, 5, 27, 96, 46, 42, 28, 3, 182, 1, 6, 42, 180, 0, 26, 16, 7, 27, 96, 46]
abbrev dktX2_lays_3 : List UInt8 := dkwX2_lays_3 ++ dktX2_lays_4
def dkwX2_lays_2 : List UInt8 := [163, 0, 20, 42, 180, 0, 26, 16, 12, 28, 96, 46, 157, 0, 8, 21, 5, 156, 0, 5, 3, 172, 42, 29]
abbrev dktX2_lays_2 : List UInt8 := dkwX2_lays_2 ++ dktX2_lays_3
def dkwX2_lays_1 : List UInt8 := [167, 0, 5, 16, 9, 54, 4, 42, 28, 182, 1, 39, 54, 5, 42, 28, 5, 182, 1, 6, 21, 4]
abbrev dktX2_lays_1 : List UInt8 := dkwX2_lays_1 ++ dktX2_lays_2
def dkwX2_lays_0 : List UInt8 := [42, 27, 3, 182, 1, 15, 62, 29, 154, 0, 7, 6, 167, 0, 15, 29, 5, 160, 0, 8, 16, 99]
abbrev dktX2_lays_0 : List UInt8 := dkwX2_lays_0 ++ dktX2_lays_1
theorem dksX2_lays_0 : cX2_lays.data.toList.drop 0 = dktX2_lays_0 := by decide +kernel
theorem dksX2_lays_1 : cX2_lays.data.toList.drop 22 = dktX2_lays_1 := dk_seg dksX2_lays_0 22 rfl rfl
theorem dksX2_lays_2 : cX2_lays.data.toList.drop 44 = dktX2_lays_2 := dk_seg dksX2_lays_1 22 rfl rfl
theorem dksX2_lays_3 : cX2_lays.data.toList.drop 68 = dktX2_lays_3 := dk_seg dksX2_lays_2 24 rfl rfl
theorem dksX2_lays_4 : cX2_lays.data.toList.drop 91 = dktX2_lays_4 := dk_seg dksX2_lays_3 23 rfl rfl
theorem dksX2_lays_5 : cX2_lays.data.toList.drop 115 = dktX2_lays_5 := dk_seg dksX2_lays_4 24 rfl rfl
theorem dksX2_lays_6 : cX2_lays.data.toList.drop 139 = dktX2_lays_6 := dk_seg dksX2_lays_5 24 rfl rfl
theorem dX2_lays_0 : decode cX2_lays 0 = .ok (.aload_n 0, 1) := dk_42 (dk_at dksX2_lays_0 0 rfl rfl)
theorem dX2_lays_1 : decode cX2_lays 1 = .ok (.iload_n 1, 1) := dk_27 (dk_at dksX2_lays_0 1 rfl rfl)
theorem dX2_lays_2 : decode cX2_lays 2 = .ok (.iconst 0, 1) := dk_3 (dk_at dksX2_lays_0 2 rfl rfl)
theorem dX2_lays_3 : decode cX2_lays 3 = .ok (.invokevirtual 271, 3) := dk_182 1 15 (dk_at dksX2_lays_0 3 rfl rfl)
theorem dX2_lays_6 : decode cX2_lays 6 = .ok (.istore_n 3, 1) := dk_62 (dk_at dksX2_lays_0 6 rfl rfl)
theorem dX2_lays_7 : decode cX2_lays 7 = .ok (.iload_n 3, 1) := dk_29 (dk_at dksX2_lays_0 7 rfl rfl)
theorem dX2_lays_8 : decode cX2_lays 8 = .ok (.ifCond .ne 7, 3) := dk_154 0 7 (dk_at dksX2_lays_0 8 rfl rfl)
theorem dX2_lays_11 : decode cX2_lays 11 = .ok (.iconst 3, 1) := dk_6 (dk_at dksX2_lays_0 11 rfl rfl)
theorem dX2_lays_12 : decode cX2_lays 12 = .ok (.goto 15, 3) := dk_167 0 15 (dk_at dksX2_lays_0 12 rfl rfl)
theorem dX2_lays_15 : decode cX2_lays 15 = .ok (.iload_n 3, 1) := dk_29 (dk_at dksX2_lays_0 15 rfl rfl)
theorem dX2_lays_16 : decode cX2_lays 16 = .ok (.iconst 2, 1) := dk_5 (dk_at dksX2_lays_0 16 rfl rfl)
theorem dX2_lays_17 : decode cX2_lays 17 = .ok (.if_icmp .ne 8, 3) := dk_160 0 8 (dk_at dksX2_lays_0 17 rfl rfl)
theorem dX2_lays_20 : decode cX2_lays 20 = .ok (.bipush 99, 2) := dk_16 99 (dk_at dksX2_lays_0 20 rfl rfl)
theorem dX2_lays_22 : decode cX2_lays 22 = .ok (.goto 5, 3) := dk_167 0 5 (dk_at dksX2_lays_1 0 rfl rfl)
theorem dX2_lays_25 : decode cX2_lays 25 = .ok (.bipush 9, 2) := dk_16 9 (dk_at dksX2_lays_1 3 rfl rfl)
theorem dX2_lays_27 : decode cX2_lays 27 = .ok (.istore 4, 2) := dk_54 4 (dk_at dksX2_lays_1 5 rfl rfl)
theorem dX2_lays_29 : decode cX2_lays 29 = .ok (.aload_n 0, 1) := dk_42 (dk_at dksX2_lays_1 7 rfl rfl)
theorem dX2_lays_30 : decode cX2_lays 30 = .ok (.iload_n 2, 1) := dk_28 (dk_at dksX2_lays_1 8 rfl rfl)
theorem dX2_lays_31 : decode cX2_lays 31 = .ok (.invokevirtual 295, 3) := dk_182 1 39 (dk_at dksX2_lays_1 9 rfl rfl)
theorem dX2_lays_34 : decode cX2_lays 34 = .ok (.istore 5, 2) := dk_54 5 (dk_at dksX2_lays_1 12 rfl rfl)
theorem dX2_lays_36 : decode cX2_lays 36 = .ok (.aload_n 0, 1) := dk_42 (dk_at dksX2_lays_1 14 rfl rfl)
theorem dX2_lays_37 : decode cX2_lays 37 = .ok (.iload_n 2, 1) := dk_28 (dk_at dksX2_lays_1 15 rfl rfl)
theorem dX2_lays_38 : decode cX2_lays 38 = .ok (.iconst 2, 1) := dk_5 (dk_at dksX2_lays_1 16 rfl rfl)
theorem dX2_lays_39 : decode cX2_lays 39 = .ok (.invokevirtual 262, 3) := dk_182 1 6 (dk_at dksX2_lays_1 17 rfl rfl)
theorem dX2_lays_42 : decode cX2_lays 42 = .ok (.iload 4, 2) := dk_21 4 (dk_at dksX2_lays_1 20 rfl rfl)
theorem dX2_lays_44 : decode cX2_lays 44 = .ok (.if_icmp .gt 20, 3) := dk_163 0 20 (dk_at dksX2_lays_2 0 rfl rfl)
theorem dX2_lays_47 : decode cX2_lays 47 = .ok (.aload_n 0, 1) := dk_42 (dk_at dksX2_lays_2 3 rfl rfl)
theorem dX2_lays_48 : decode cX2_lays 48 = .ok (.getfield 26, 3) := dk_180 0 26 (dk_at dksX2_lays_2 4 rfl rfl)
theorem dX2_lays_51 : decode cX2_lays 51 = .ok (.bipush 12, 2) := dk_16 12 (dk_at dksX2_lays_2 7 rfl rfl)
theorem dX2_lays_53 : decode cX2_lays 53 = .ok (.iload_n 2, 1) := dk_28 (dk_at dksX2_lays_2 9 rfl rfl)
theorem dX2_lays_54 : decode cX2_lays 54 = .ok (.iadd, 1) := dk_96 (dk_at dksX2_lays_2 10 rfl rfl)
theorem dX2_lays_55 : decode cX2_lays 55 = .ok (.iaload, 1) := dk_46 (dk_at dksX2_lays_2 11 rfl rfl)
theorem dX2_lays_56 : decode cX2_lays 56 = .ok (.ifCond .gt 8, 3) := dk_157 0 8 (dk_at dksX2_lays_2 12 rfl rfl)
theorem dX2_lays_59 : decode cX2_lays 59 = .ok (.iload 5, 2) := dk_21 5 (dk_at dksX2_lays_2 15 rfl rfl)
theorem dX2_lays_61 : decode cX2_lays 61 = .ok (.ifCond .ge 5, 3) := dk_156 0 5 (dk_at dksX2_lays_2 17 rfl rfl)
theorem dX2_lays_64 : decode cX2_lays 64 = .ok (.iconst 0, 1) := dk_3 (dk_at dksX2_lays_2 20 rfl rfl)
theorem dX2_lays_65 : decode cX2_lays 65 = .ok (.ireturn, 1) := dk_172 (dk_at dksX2_lays_2 21 rfl rfl)
theorem dX2_lays_66 : decode cX2_lays 66 = .ok (.aload_n 0, 1) := dk_42 (dk_at dksX2_lays_2 22 rfl rfl)
theorem dX2_lays_67 : decode cX2_lays 67 = .ok (.iload_n 3, 1) := dk_29 (dk_at dksX2_lays_2 23 rfl rfl)
theorem dX2_lays_68 : decode cX2_lays 68 = .ok (.aload_n 0, 1) := dk_42 (dk_at dksX2_lays_3 0 rfl rfl)
theorem dX2_lays_69 : decode cX2_lays 69 = .ok (.getfield 26, 3) := dk_180 0 26 (dk_at dksX2_lays_3 1 rfl rfl)
theorem dX2_lays_72 : decode cX2_lays 72 = .ok (.iconst 2, 1) := dk_5 (dk_at dksX2_lays_3 4 rfl rfl)
theorem dX2_lays_73 : decode cX2_lays 73 = .ok (.iload_n 1, 1) := dk_27 (dk_at dksX2_lays_3 5 rfl rfl)
theorem dX2_lays_74 : decode cX2_lays 74 = .ok (.iadd, 1) := dk_96 (dk_at dksX2_lays_3 6 rfl rfl)
theorem dX2_lays_75 : decode cX2_lays 75 = .ok (.iaload, 1) := dk_46 (dk_at dksX2_lays_3 7 rfl rfl)
theorem dX2_lays_76 : decode cX2_lays 76 = .ok (.aload_n 0, 1) := dk_42 (dk_at dksX2_lays_3 8 rfl rfl)
theorem dX2_lays_77 : decode cX2_lays 77 = .ok (.iload_n 2, 1) := dk_28 (dk_at dksX2_lays_3 9 rfl rfl)
theorem dX2_lays_78 : decode cX2_lays 78 = .ok (.iconst 0, 1) := dk_3 (dk_at dksX2_lays_3 10 rfl rfl)
theorem dX2_lays_79 : decode cX2_lays 79 = .ok (.invokevirtual 262, 3) := dk_182 1 6 (dk_at dksX2_lays_3 11 rfl rfl)
theorem dX2_lays_82 : decode cX2_lays 82 = .ok (.aload_n 0, 1) := dk_42 (dk_at dksX2_lays_3 14 rfl rfl)
theorem dX2_lays_83 : decode cX2_lays 83 = .ok (.getfield 26, 3) := dk_180 0 26 (dk_at dksX2_lays_3 15 rfl rfl)
theorem dX2_lays_86 : decode cX2_lays 86 = .ok (.bipush 7, 2) := dk_16 7 (dk_at dksX2_lays_3 18 rfl rfl)
theorem dX2_lays_88 : decode cX2_lays 88 = .ok (.iload_n 1, 1) := dk_27 (dk_at dksX2_lays_3 20 rfl rfl)
theorem dX2_lays_89 : decode cX2_lays 89 = .ok (.iadd, 1) := dk_96 (dk_at dksX2_lays_3 21 rfl rfl)
theorem dX2_lays_90 : decode cX2_lays 90 = .ok (.iaload, 1) := dk_46 (dk_at dksX2_lays_3 22 rfl rfl)
theorem dX2_lays_91 : decode cX2_lays 91 = .ok (.invokevirtual 352, 3) := dk_182 1 96 (dk_at dksX2_lays_4 0 rfl rfl)
theorem dX2_lays_94 : decode cX2_lays 94 = .ok (.istore 6, 2) := dk_54 6 (dk_at dksX2_lays_4 3 rfl rfl)
theorem dX2_lays_96 : decode cX2_lays 96 = .ok (.iload 6, 2) := dk_21 6 (dk_at dksX2_lays_4 5 rfl rfl)
theorem dX2_lays_98 : decode cX2_lays 98 = .ok (.ifCond .ge 5, 3) := dk_156 0 5 (dk_at dksX2_lays_4 7 rfl rfl)
theorem dX2_lays_101 : decode cX2_lays 101 = .ok (.iconst 0, 1) := dk_3 (dk_at dksX2_lays_4 10 rfl rfl)
theorem dX2_lays_102 : decode cX2_lays 102 = .ok (.ireturn, 1) := dk_172 (dk_at dksX2_lays_4 11 rfl rfl)
theorem dX2_lays_103 : decode cX2_lays 103 = .ok (.aload_n 0, 1) := dk_42 (dk_at dksX2_lays_4 12 rfl rfl)
theorem dX2_lays_104 : decode cX2_lays 104 = .ok (.iload 6, 2) := dk_21 6 (dk_at dksX2_lays_4 13 rfl rfl)
theorem dX2_lays_106 : decode cX2_lays 106 = .ok (.aload_n 0, 1) := dk_42 (dk_at dksX2_lays_4 15 rfl rfl)
theorem dX2_lays_107 : decode cX2_lays 107 = .ok (.iload_n 2, 1) := dk_28 (dk_at dksX2_lays_4 16 rfl rfl)
theorem dX2_lays_108 : decode cX2_lays 108 = .ok (.iconst 3, 1) := dk_6 (dk_at dksX2_lays_4 17 rfl rfl)
theorem dX2_lays_109 : decode cX2_lays 109 = .ok (.invokevirtual 262, 3) := dk_182 1 6 (dk_at dksX2_lays_4 18 rfl rfl)
theorem dX2_lays_112 : decode cX2_lays 112 = .ok (.invokestatic 355, 3) := dk_184 1 99 (dk_at dksX2_lays_4 21 rfl rfl)
theorem dX2_lays_115 : decode cX2_lays 115 = .ok (.putfield 358, 3) := dk_181 1 102 (dk_at dksX2_lays_5 0 rfl rfl)
theorem dX2_lays_118 : decode cX2_lays 118 = .ok (.aload_n 0, 1) := dk_42 (dk_at dksX2_lays_5 3 rfl rfl)
theorem dX2_lays_119 : decode cX2_lays 119 = .ok (.aload_n 0, 1) := dk_42 (dk_at dksX2_lays_5 4 rfl rfl)
theorem dX2_lays_120 : decode cX2_lays 120 = .ok (.iload_n 3, 1) := dk_29 (dk_at dksX2_lays_5 5 rfl rfl)
theorem dX2_lays_121 : decode cX2_lays 121 = .ok (.aload_n 0, 1) := dk_42 (dk_at dksX2_lays_5 6 rfl rfl)
theorem dX2_lays_122 : decode cX2_lays 122 = .ok (.iload_n 2, 1) := dk_28 (dk_at dksX2_lays_5 7 rfl rfl)
theorem dX2_lays_123 : decode cX2_lays 123 = .ok (.iconst 0, 1) := dk_3 (dk_at dksX2_lays_5 8 rfl rfl)
theorem dX2_lays_124 : decode cX2_lays 124 = .ok (.invokevirtual 262, 3) := dk_182 1 6 (dk_at dksX2_lays_5 9 rfl rfl)
theorem dX2_lays_127 : decode cX2_lays 127 = .ok (.iload 5, 2) := dk_21 5 (dk_at dksX2_lays_5 12 rfl rfl)
theorem dX2_lays_129 : decode cX2_lays 129 = .ok (.aload_n 0, 1) := dk_42 (dk_at dksX2_lays_5 14 rfl rfl)
theorem dX2_lays_130 : decode cX2_lays 130 = .ok (.getfield 358, 3) := dk_180 1 102 (dk_at dksX2_lays_5 15 rfl rfl)
theorem dX2_lays_133 : decode cX2_lays 133 = .ok (.invokevirtual 352, 3) := dk_182 1 96 (dk_at dksX2_lays_5 18 rfl rfl)
theorem dX2_lays_136 : decode cX2_lays 136 = .ok (.putfield 361, 3) := dk_181 1 105 (dk_at dksX2_lays_5 21 rfl rfl)
theorem dX2_lays_139 : decode cX2_lays 139 = .ok (.aload_n 0, 1) := dk_42 (dk_at dksX2_lays_6 0 rfl rfl)
theorem dX2_lays_140 : decode cX2_lays 140 = .ok (.getfield 361, 3) := dk_180 1 105 (dk_at dksX2_lays_6 1 rfl rfl)
theorem dX2_lays_143 : decode cX2_lays 143 = .ok (.ifCond .lt 7, 3) := dk_155 0 7 (dk_at dksX2_lays_6 4 rfl rfl)
theorem dX2_lays_146 : decode cX2_lays 146 = .ok (.iconst 1, 1) := dk_4 (dk_at dksX2_lays_6 7 rfl rfl)
theorem dX2_lays_147 : decode cX2_lays 147 = .ok (.goto 4, 3) := dk_167 0 4 (dk_at dksX2_lays_6 8 rfl rfl)
theorem dX2_lays_150 : decode cX2_lays 150 = .ok (.iconst 0, 1) := dk_3 (dk_at dksX2_lays_6 11 rfl rfl)
theorem dX2_lays_151 : decode cX2_lays 151 = .ok (.ireturn, 1) := dk_172 (dk_at dksX2_lays_6 12 rfl rfl)
abbrev cX2_later : ByteArray := prog_16_method_10_code
def yX2_later : MethodName := ⟨RX2, "late\x72", "(II)I"⟩
def dkwX2_later_0 : List UInt8 := [26, 27, 164, 0, 7, 26, 167, 0, 4, 27, 172]
abbrev dktX2_later_0 : List UInt8 := dkwX2_later_0 ++ []
theorem dksX2_later_0 : cX2_later.data.toList.drop 0 = dktX2_later_0 := by decide +kernel
theorem dX2_later_0 : decode cX2_later 0 = .ok (.iload_n 0, 1) := dk_26 (dk_at dksX2_later_0 0 rfl rfl)
theorem dX2_later_1 : decode cX2_later 1 = .ok (.iload_n 1, 1) := dk_27 (dk_at dksX2_later_0 1 rfl rfl)
theorem dX2_later_2 : decode cX2_later 2 = .ok (.if_icmp .le 7, 3) := dk_164 0 7 (dk_at dksX2_later_0 2 rfl rfl)
theorem dX2_later_5 : decode cX2_later 5 = .ok (.iload_n 0, 1) := dk_26 (dk_at dksX2_later_0 5 rfl rfl)
theorem dX2_later_6 : decode cX2_later 6 = .ok (.goto 4, 3) := dk_167 0 4 (dk_at dksX2_later_0 6 rfl rfl)
theorem dX2_later_9 : decode cX2_later 9 = .ok (.iload_n 1, 1) := dk_27 (dk_at dksX2_later_0 9 rfl rfl)
theorem dX2_later_10 : decode cX2_later 10 = .ok (.ireturn, 1) := dk_172 (dk_at dksX2_later_0 10 rfl rfl)
abbrev cX2_soonest : ByteArray := prog_16_method_90_code
def yX2_soonest : MethodName := ⟨RX2, "soonest", "(I)I"⟩
def dkwX2_soonest_2 : List UInt8 := [29, 27, 182, 1, 111, 42, 28, 27, 182, 1, 111, 162, 0, 5, 29, 61, 132, 3, 1, 167, 255, 212, 28, 172]
abbrev dktX2_soonest_2 : List UInt8 := dkwX2_soonest_2 ++ []
def dkwX2_soonest_1 : List UInt8 := [42, 180, 0, 20, 16, 6, 46, 162, 0, 39, 42, 29, 27, 182, 1, 111, 155, 0, 24, 28, 155, 0, 18, 42]
abbrev dktX2_soonest_1 : List UInt8 := dkwX2_soonest_1 ++ dktX2_soonest_2
def dkwX2_soonest_0 : List UInt8 := [42, 182, 0, 167, 42, 27, 182, 1, 18, 154, 0, 9, 42, 4, 182, 0, 170, 172, 16, 254, 61, 3, 62, 29]
abbrev dktX2_soonest_0 : List UInt8 := dkwX2_soonest_0 ++ dktX2_soonest_1
theorem dksX2_soonest_0 : cX2_soonest.data.toList.drop 0 = dktX2_soonest_0 := by decide +kernel
theorem dksX2_soonest_1 : cX2_soonest.data.toList.drop 24 = dktX2_soonest_1 := dk_seg dksX2_soonest_0 24 rfl rfl
theorem dksX2_soonest_2 : cX2_soonest.data.toList.drop 48 = dktX2_soonest_2 := dk_seg dksX2_soonest_1 24 rfl rfl
theorem dX2_soonest_0 : decode cX2_soonest 0 = .ok (.aload_n 0, 1) := dk_42 (dk_at dksX2_soonest_0 0 rfl rfl)
theorem dX2_soonest_1 : decode cX2_soonest 1 = .ok (.invokevirtual 167, 3) := dk_182 0 167 (dk_at dksX2_soonest_0 1 rfl rfl)
theorem dX2_soonest_4 : decode cX2_soonest 4 = .ok (.aload_n 0, 1) := dk_42 (dk_at dksX2_soonest_0 4 rfl rfl)
theorem dX2_soonest_5 : decode cX2_soonest 5 = .ok (.iload_n 1, 1) := dk_27 (dk_at dksX2_soonest_0 5 rfl rfl)
theorem dX2_soonest_6 : decode cX2_soonest 6 = .ok (.invokevirtual 274, 3) := dk_182 1 18 (dk_at dksX2_soonest_0 6 rfl rfl)
theorem dX2_soonest_9 : decode cX2_soonest 9 = .ok (.ifCond .ne 9, 3) := dk_154 0 9 (dk_at dksX2_soonest_0 9 rfl rfl)
theorem dX2_soonest_12 : decode cX2_soonest 12 = .ok (.aload_n 0, 1) := dk_42 (dk_at dksX2_soonest_0 12 rfl rfl)
theorem dX2_soonest_13 : decode cX2_soonest 13 = .ok (.iconst 1, 1) := dk_4 (dk_at dksX2_soonest_0 13 rfl rfl)
theorem dX2_soonest_14 : decode cX2_soonest 14 = .ok (.invokevirtual 170, 3) := dk_182 0 170 (dk_at dksX2_soonest_0 14 rfl rfl)
theorem dX2_soonest_17 : decode cX2_soonest 17 = .ok (.ireturn, 1) := dk_172 (dk_at dksX2_soonest_0 17 rfl rfl)
theorem dX2_soonest_18 : decode cX2_soonest 18 = .ok (.bipush (-2), 2) := dk_16 254 (dk_at dksX2_soonest_0 18 rfl rfl)
theorem dX2_soonest_20 : decode cX2_soonest 20 = .ok (.istore_n 2, 1) := dk_61 (dk_at dksX2_soonest_0 20 rfl rfl)
theorem dX2_soonest_21 : decode cX2_soonest 21 = .ok (.iconst 0, 1) := dk_3 (dk_at dksX2_soonest_0 21 rfl rfl)
theorem dX2_soonest_22 : decode cX2_soonest 22 = .ok (.istore_n 3, 1) := dk_62 (dk_at dksX2_soonest_0 22 rfl rfl)
theorem dX2_soonest_23 : decode cX2_soonest 23 = .ok (.iload_n 3, 1) := dk_29 (dk_at dksX2_soonest_0 23 rfl rfl)
theorem dX2_soonest_24 : decode cX2_soonest 24 = .ok (.aload_n 0, 1) := dk_42 (dk_at dksX2_soonest_1 0 rfl rfl)
theorem dX2_soonest_25 : decode cX2_soonest 25 = .ok (.getfield 20, 3) := dk_180 0 20 (dk_at dksX2_soonest_1 1 rfl rfl)
theorem dX2_soonest_28 : decode cX2_soonest 28 = .ok (.bipush 6, 2) := dk_16 6 (dk_at dksX2_soonest_1 4 rfl rfl)
theorem dX2_soonest_30 : decode cX2_soonest 30 = .ok (.iaload, 1) := dk_46 (dk_at dksX2_soonest_1 6 rfl rfl)
theorem dX2_soonest_31 : decode cX2_soonest 31 = .ok (.if_icmp .ge 39, 3) := dk_162 0 39 (dk_at dksX2_soonest_1 7 rfl rfl)
theorem dX2_soonest_34 : decode cX2_soonest 34 = .ok (.aload_n 0, 1) := dk_42 (dk_at dksX2_soonest_1 10 rfl rfl)
theorem dX2_soonest_35 : decode cX2_soonest 35 = .ok (.iload_n 3, 1) := dk_29 (dk_at dksX2_soonest_1 11 rfl rfl)
theorem dX2_soonest_36 : decode cX2_soonest 36 = .ok (.iload_n 1, 1) := dk_27 (dk_at dksX2_soonest_1 12 rfl rfl)
theorem dX2_soonest_37 : decode cX2_soonest 37 = .ok (.invokevirtual 367, 3) := dk_182 1 111 (dk_at dksX2_soonest_1 13 rfl rfl)
theorem dX2_soonest_40 : decode cX2_soonest 40 = .ok (.ifCond .lt 24, 3) := dk_155 0 24 (dk_at dksX2_soonest_1 16 rfl rfl)
theorem dX2_soonest_43 : decode cX2_soonest 43 = .ok (.iload_n 2, 1) := dk_28 (dk_at dksX2_soonest_1 19 rfl rfl)
theorem dX2_soonest_44 : decode cX2_soonest 44 = .ok (.ifCond .lt 18, 3) := dk_155 0 18 (dk_at dksX2_soonest_1 20 rfl rfl)
theorem dX2_soonest_47 : decode cX2_soonest 47 = .ok (.aload_n 0, 1) := dk_42 (dk_at dksX2_soonest_1 23 rfl rfl)
theorem dX2_soonest_48 : decode cX2_soonest 48 = .ok (.iload_n 3, 1) := dk_29 (dk_at dksX2_soonest_2 0 rfl rfl)
theorem dX2_soonest_49 : decode cX2_soonest 49 = .ok (.iload_n 1, 1) := dk_27 (dk_at dksX2_soonest_2 1 rfl rfl)
theorem dX2_soonest_50 : decode cX2_soonest 50 = .ok (.invokevirtual 367, 3) := dk_182 1 111 (dk_at dksX2_soonest_2 2 rfl rfl)
theorem dX2_soonest_53 : decode cX2_soonest 53 = .ok (.aload_n 0, 1) := dk_42 (dk_at dksX2_soonest_2 5 rfl rfl)
theorem dX2_soonest_54 : decode cX2_soonest 54 = .ok (.iload_n 2, 1) := dk_28 (dk_at dksX2_soonest_2 6 rfl rfl)
theorem dX2_soonest_55 : decode cX2_soonest 55 = .ok (.iload_n 1, 1) := dk_27 (dk_at dksX2_soonest_2 7 rfl rfl)
theorem dX2_soonest_56 : decode cX2_soonest 56 = .ok (.invokevirtual 367, 3) := dk_182 1 111 (dk_at dksX2_soonest_2 8 rfl rfl)
theorem dX2_soonest_59 : decode cX2_soonest 59 = .ok (.if_icmp .ge 5, 3) := dk_162 0 5 (dk_at dksX2_soonest_2 11 rfl rfl)
theorem dX2_soonest_62 : decode cX2_soonest 62 = .ok (.iload_n 3, 1) := dk_29 (dk_at dksX2_soonest_2 14 rfl rfl)
theorem dX2_soonest_63 : decode cX2_soonest 63 = .ok (.istore_n 2, 1) := dk_61 (dk_at dksX2_soonest_2 15 rfl rfl)
theorem dX2_soonest_64 : decode cX2_soonest 64 = .ok (.iinc 3 1, 3) := dk_132 3 1 (dk_at dksX2_soonest_2 16 rfl rfl)
theorem dX2_soonest_67 : decode cX2_soonest 67 = .ok (.goto (-44), 3) := dk_167 255 212 (dk_at dksX2_soonest_2 19 rfl rfl)
theorem dX2_soonest_70 : decode cX2_soonest 70 = .ok (.iload_n 2, 1) := dk_28 (dk_at dksX2_soonest_2 22 rfl rfl)
theorem dX2_soonest_71 : decode cX2_soonest 71 = .ok (.ireturn, 1) := dk_172 (dk_at dksX2_soonest_2 23 rfl rfl)
abbrev cX2_surest : ByteArray := prog_16_method_92_code
def yX2_surest : MethodName := ⟨RX2, "surest", "(I)I"⟩
def dkwX2_surest_1 : List UInt8 := [182, 0, 170, 172]
abbrev dktX2_surest_1 : List UInt8 := dkwX2_surest_1 ++ []
def dkwX2_surest_0 : List UInt8 := [42, 182, 0, 167, 42, 27, 182, 1, 18, 153, 0, 12, 42, 27, 2, 182, 1, 114, 167, 0, 8, 42, 4]
abbrev dktX2_surest_0 : List UInt8 := dkwX2_surest_0 ++ dktX2_surest_1
theorem dksX2_surest_0 : cX2_surest.data.toList.drop 0 = dktX2_surest_0 := by decide +kernel
theorem dksX2_surest_1 : cX2_surest.data.toList.drop 23 = dktX2_surest_1 := dk_seg dksX2_surest_0 23 rfl rfl
theorem dX2_surest_0 : decode cX2_surest 0 = .ok (.aload_n 0, 1) := dk_42 (dk_at dksX2_surest_0 0 rfl rfl)
theorem dX2_surest_1 : decode cX2_surest 1 = .ok (.invokevirtual 167, 3) := dk_182 0 167 (dk_at dksX2_surest_0 1 rfl rfl)
theorem dX2_surest_4 : decode cX2_surest 4 = .ok (.aload_n 0, 1) := dk_42 (dk_at dksX2_surest_0 4 rfl rfl)
theorem dX2_surest_5 : decode cX2_surest 5 = .ok (.iload_n 1, 1) := dk_27 (dk_at dksX2_surest_0 5 rfl rfl)
theorem dX2_surest_6 : decode cX2_surest 6 = .ok (.invokevirtual 274, 3) := dk_182 1 18 (dk_at dksX2_surest_0 6 rfl rfl)
theorem dX2_surest_9 : decode cX2_surest 9 = .ok (.ifCond .eq 12, 3) := dk_153 0 12 (dk_at dksX2_surest_0 9 rfl rfl)
theorem dX2_surest_12 : decode cX2_surest 12 = .ok (.aload_n 0, 1) := dk_42 (dk_at dksX2_surest_0 12 rfl rfl)
theorem dX2_surest_13 : decode cX2_surest 13 = .ok (.iload_n 1, 1) := dk_27 (dk_at dksX2_surest_0 13 rfl rfl)
theorem dX2_surest_14 : decode cX2_surest 14 = .ok (.iconst (-1), 1) := dk_2 (dk_at dksX2_surest_0 14 rfl rfl)
theorem dX2_surest_15 : decode cX2_surest 15 = .ok (.invokevirtual 370, 3) := dk_182 1 114 (dk_at dksX2_surest_0 15 rfl rfl)
theorem dX2_surest_18 : decode cX2_surest 18 = .ok (.goto 8, 3) := dk_167 0 8 (dk_at dksX2_surest_0 18 rfl rfl)
theorem dX2_surest_21 : decode cX2_surest 21 = .ok (.aload_n 0, 1) := dk_42 (dk_at dksX2_surest_0 21 rfl rfl)
theorem dX2_surest_22 : decode cX2_surest 22 = .ok (.iconst 1, 1) := dk_4 (dk_at dksX2_surest_0 22 rfl rfl)
theorem dX2_surest_23 : decode cX2_surest 23 = .ok (.invokevirtual 170, 3) := dk_182 0 170 (dk_at dksX2_surest_1 0 rfl rfl)
theorem dX2_surest_26 : decode cX2_surest 26 = .ok (.ireturn, 1) := dk_172 (dk_at dksX2_surest_1 3 rfl rfl)
abbrev cX2_surestBut : ByteArray := prog_16_method_91_code
def yX2_surestBut : MethodName := ⟨RX2, "surestBut", "(II)I"⟩
def dkwX2_surestBut_2 : List UInt8 := [182, 1, 15, 162, 0, 6, 21, 4, 62, 132, 4, 1, 167, 255, 202, 29, 172]
abbrev dktX2_surestBut_2 : List UInt8 := dkwX2_surestBut_2 ++ []
def dkwX2_surestBut_1 : List UInt8 := [42, 21, 4, 27, 182, 1, 111, 155, 0, 26, 29, 155, 0, 19, 42, 21, 4, 6, 182, 1, 15, 42, 29, 6]
abbrev dktX2_surestBut_1 : List UInt8 := dkwX2_surestBut_1 ++ dktX2_surestBut_2
def dkwX2_surestBut_0 : List UInt8 := [16, 254, 62, 3, 54, 4, 21, 4, 42, 180, 0, 20, 16, 6, 46, 162, 0, 48, 21, 4, 28, 159, 0, 36]
abbrev dktX2_surestBut_0 : List UInt8 := dkwX2_surestBut_0 ++ dktX2_surestBut_1
theorem dksX2_surestBut_0 : cX2_surestBut.data.toList.drop 0 = dktX2_surestBut_0 := by decide +kernel
theorem dksX2_surestBut_1 : cX2_surestBut.data.toList.drop 24 = dktX2_surestBut_1 := dk_seg dksX2_surestBut_0 24 rfl rfl
theorem dksX2_surestBut_2 : cX2_surestBut.data.toList.drop 48 = dktX2_surestBut_2 := dk_seg dksX2_surestBut_1 24 rfl rfl
theorem dX2_surestBut_0 : decode cX2_surestBut 0 = .ok (.bipush (-2), 2) := dk_16 254 (dk_at dksX2_surestBut_0 0 rfl rfl)
theorem dX2_surestBut_2 : decode cX2_surestBut 2 = .ok (.istore_n 3, 1) := dk_62 (dk_at dksX2_surestBut_0 2 rfl rfl)
theorem dX2_surestBut_3 : decode cX2_surestBut 3 = .ok (.iconst 0, 1) := dk_3 (dk_at dksX2_surestBut_0 3 rfl rfl)
theorem dX2_surestBut_4 : decode cX2_surestBut 4 = .ok (.istore 4, 2) := dk_54 4 (dk_at dksX2_surestBut_0 4 rfl rfl)
theorem dX2_surestBut_6 : decode cX2_surestBut 6 = .ok (.iload 4, 2) := dk_21 4 (dk_at dksX2_surestBut_0 6 rfl rfl)
theorem dX2_surestBut_8 : decode cX2_surestBut 8 = .ok (.aload_n 0, 1) := dk_42 (dk_at dksX2_surestBut_0 8 rfl rfl)
theorem dX2_surestBut_9 : decode cX2_surestBut 9 = .ok (.getfield 20, 3) := dk_180 0 20 (dk_at dksX2_surestBut_0 9 rfl rfl)
theorem dX2_surestBut_12 : decode cX2_surestBut 12 = .ok (.bipush 6, 2) := dk_16 6 (dk_at dksX2_surestBut_0 12 rfl rfl)
theorem dX2_surestBut_14 : decode cX2_surestBut 14 = .ok (.iaload, 1) := dk_46 (dk_at dksX2_surestBut_0 14 rfl rfl)
theorem dX2_surestBut_15 : decode cX2_surestBut 15 = .ok (.if_icmp .ge 48, 3) := dk_162 0 48 (dk_at dksX2_surestBut_0 15 rfl rfl)
theorem dX2_surestBut_18 : decode cX2_surestBut 18 = .ok (.iload 4, 2) := dk_21 4 (dk_at dksX2_surestBut_0 18 rfl rfl)
theorem dX2_surestBut_20 : decode cX2_surestBut 20 = .ok (.iload_n 2, 1) := dk_28 (dk_at dksX2_surestBut_0 20 rfl rfl)
theorem dX2_surestBut_21 : decode cX2_surestBut 21 = .ok (.if_icmp .eq 36, 3) := dk_159 0 36 (dk_at dksX2_surestBut_0 21 rfl rfl)
theorem dX2_surestBut_24 : decode cX2_surestBut 24 = .ok (.aload_n 0, 1) := dk_42 (dk_at dksX2_surestBut_1 0 rfl rfl)
theorem dX2_surestBut_25 : decode cX2_surestBut 25 = .ok (.iload 4, 2) := dk_21 4 (dk_at dksX2_surestBut_1 1 rfl rfl)
theorem dX2_surestBut_27 : decode cX2_surestBut 27 = .ok (.iload_n 1, 1) := dk_27 (dk_at dksX2_surestBut_1 3 rfl rfl)
theorem dX2_surestBut_28 : decode cX2_surestBut 28 = .ok (.invokevirtual 367, 3) := dk_182 1 111 (dk_at dksX2_surestBut_1 4 rfl rfl)
theorem dX2_surestBut_31 : decode cX2_surestBut 31 = .ok (.ifCond .lt 26, 3) := dk_155 0 26 (dk_at dksX2_surestBut_1 7 rfl rfl)
theorem dX2_surestBut_34 : decode cX2_surestBut 34 = .ok (.iload_n 3, 1) := dk_29 (dk_at dksX2_surestBut_1 10 rfl rfl)
theorem dX2_surestBut_35 : decode cX2_surestBut 35 = .ok (.ifCond .lt 19, 3) := dk_155 0 19 (dk_at dksX2_surestBut_1 11 rfl rfl)
theorem dX2_surestBut_38 : decode cX2_surestBut 38 = .ok (.aload_n 0, 1) := dk_42 (dk_at dksX2_surestBut_1 14 rfl rfl)
theorem dX2_surestBut_39 : decode cX2_surestBut 39 = .ok (.iload 4, 2) := dk_21 4 (dk_at dksX2_surestBut_1 15 rfl rfl)
theorem dX2_surestBut_41 : decode cX2_surestBut 41 = .ok (.iconst 3, 1) := dk_6 (dk_at dksX2_surestBut_1 17 rfl rfl)
theorem dX2_surestBut_42 : decode cX2_surestBut 42 = .ok (.invokevirtual 271, 3) := dk_182 1 15 (dk_at dksX2_surestBut_1 18 rfl rfl)
theorem dX2_surestBut_45 : decode cX2_surestBut 45 = .ok (.aload_n 0, 1) := dk_42 (dk_at dksX2_surestBut_1 21 rfl rfl)
theorem dX2_surestBut_46 : decode cX2_surestBut 46 = .ok (.iload_n 3, 1) := dk_29 (dk_at dksX2_surestBut_1 22 rfl rfl)
theorem dX2_surestBut_47 : decode cX2_surestBut 47 = .ok (.iconst 3, 1) := dk_6 (dk_at dksX2_surestBut_1 23 rfl rfl)
theorem dX2_surestBut_48 : decode cX2_surestBut 48 = .ok (.invokevirtual 271, 3) := dk_182 1 15 (dk_at dksX2_surestBut_2 0 rfl rfl)
theorem dX2_surestBut_51 : decode cX2_surestBut 51 = .ok (.if_icmp .ge 6, 3) := dk_162 0 6 (dk_at dksX2_surestBut_2 3 rfl rfl)
theorem dX2_surestBut_54 : decode cX2_surestBut 54 = .ok (.iload 4, 2) := dk_21 4 (dk_at dksX2_surestBut_2 6 rfl rfl)
theorem dX2_surestBut_56 : decode cX2_surestBut 56 = .ok (.istore_n 3, 1) := dk_62 (dk_at dksX2_surestBut_2 8 rfl rfl)
theorem dX2_surestBut_57 : decode cX2_surestBut 57 = .ok (.iinc 4 1, 3) := dk_132 4 1 (dk_at dksX2_surestBut_2 9 rfl rfl)
theorem dX2_surestBut_60 : decode cX2_surestBut 60 = .ok (.goto (-54), 3) := dk_167 255 202 (dk_at dksX2_surestBut_2 12 rfl rfl)
theorem dX2_surestBut_63 : decode cX2_surestBut 63 = .ok (.iload_n 3, 1) := dk_29 (dk_at dksX2_surestBut_2 15 rfl rfl)
theorem dX2_surestBut_64 : decode cX2_surestBut 64 = .ok (.ireturn, 1) := dk_172 (dk_at dksX2_surestBut_2 16 rfl rfl)
abbrev cX2_by : ByteArray := prog_16_method_93_code
def yX2_by : MethodName := ⟨RX2, "by", "(II)I"⟩
def dkwX2_by_3 : List UInt8 := [21, 4, 120, 167, 0, 4, 3, 128, 62, 132, 4, 1, 167, 255, 215, 29, 172]
abbrev dktX2_by_3 : List UInt8 := dkwX2_by_3 ++ []
def dkwX2_by_2 : List UInt8 := [16, 6, 46, 162, 0, 35, 29, 42, 21, 4, 27, 182, 1, 111, 3, 28, 184, 0, 149, 153, 0, 10, 4]
abbrev dktX2_by_2 : List UInt8 := dkwX2_by_2 ++ dktX2_by_3
def dkwX2_by_1 : List UInt8 := [184, 0, 149, 154, 0, 9, 42, 5, 182, 0, 170, 172, 3, 62, 3, 54, 4, 21, 4, 42, 180, 0, 20]
abbrev dktX2_by_1 : List UInt8 := dkwX2_by_1 ++ dktX2_by_2
def dkwX2_by_0 : List UInt8 := [42, 182, 0, 167, 42, 27, 182, 1, 18, 154, 0, 9, 42, 4, 182, 0, 170, 172, 28, 3, 19, 1, 84]
abbrev dktX2_by_0 : List UInt8 := dkwX2_by_0 ++ dktX2_by_1
theorem dksX2_by_0 : cX2_by.data.toList.drop 0 = dktX2_by_0 := by decide +kernel
theorem dksX2_by_1 : cX2_by.data.toList.drop 23 = dktX2_by_1 := dk_seg dksX2_by_0 23 rfl rfl
theorem dksX2_by_2 : cX2_by.data.toList.drop 46 = dktX2_by_2 := dk_seg dksX2_by_1 23 rfl rfl
theorem dksX2_by_3 : cX2_by.data.toList.drop 69 = dktX2_by_3 := dk_seg dksX2_by_2 23 rfl rfl
theorem dX2_by_0 : decode cX2_by 0 = .ok (.aload_n 0, 1) := dk_42 (dk_at dksX2_by_0 0 rfl rfl)
theorem dX2_by_1 : decode cX2_by 1 = .ok (.invokevirtual 167, 3) := dk_182 0 167 (dk_at dksX2_by_0 1 rfl rfl)
theorem dX2_by_4 : decode cX2_by 4 = .ok (.aload_n 0, 1) := dk_42 (dk_at dksX2_by_0 4 rfl rfl)
theorem dX2_by_5 : decode cX2_by 5 = .ok (.iload_n 1, 1) := dk_27 (dk_at dksX2_by_0 5 rfl rfl)
theorem dX2_by_6 : decode cX2_by 6 = .ok (.invokevirtual 274, 3) := dk_182 1 18 (dk_at dksX2_by_0 6 rfl rfl)
theorem dX2_by_9 : decode cX2_by 9 = .ok (.ifCond .ne 9, 3) := dk_154 0 9 (dk_at dksX2_by_0 9 rfl rfl)
theorem dX2_by_12 : decode cX2_by 12 = .ok (.aload_n 0, 1) := dk_42 (dk_at dksX2_by_0 12 rfl rfl)
theorem dX2_by_13 : decode cX2_by 13 = .ok (.iconst 1, 1) := dk_4 (dk_at dksX2_by_0 13 rfl rfl)
theorem dX2_by_14 : decode cX2_by 14 = .ok (.invokevirtual 170, 3) := dk_182 0 170 (dk_at dksX2_by_0 14 rfl rfl)
theorem dX2_by_17 : decode cX2_by 17 = .ok (.ireturn, 1) := dk_172 (dk_at dksX2_by_0 17 rfl rfl)
theorem dX2_by_18 : decode cX2_by 18 = .ok (.iload_n 2, 1) := dk_28 (dk_at dksX2_by_0 18 rfl rfl)
theorem dX2_by_19 : decode cX2_by 19 = .ok (.iconst 0, 1) := dk_3 (dk_at dksX2_by_0 19 rfl rfl)
theorem dX2_by_20 : decode cX2_by 20 = .ok (.ldc_w 340, 3) := dk_19 1 84 (dk_at dksX2_by_0 20 rfl rfl)
theorem dX2_by_23 : decode cX2_by 23 = .ok (.invokestatic 149, 3) := dk_184 0 149 (dk_at dksX2_by_1 0 rfl rfl)
theorem dX2_by_26 : decode cX2_by 26 = .ok (.ifCond .ne 9, 3) := dk_154 0 9 (dk_at dksX2_by_1 3 rfl rfl)
theorem dX2_by_29 : decode cX2_by 29 = .ok (.aload_n 0, 1) := dk_42 (dk_at dksX2_by_1 6 rfl rfl)
theorem dX2_by_30 : decode cX2_by 30 = .ok (.iconst 2, 1) := dk_5 (dk_at dksX2_by_1 7 rfl rfl)
theorem dX2_by_31 : decode cX2_by 31 = .ok (.invokevirtual 170, 3) := dk_182 0 170 (dk_at dksX2_by_1 8 rfl rfl)
theorem dX2_by_34 : decode cX2_by 34 = .ok (.ireturn, 1) := dk_172 (dk_at dksX2_by_1 11 rfl rfl)
theorem dX2_by_35 : decode cX2_by 35 = .ok (.iconst 0, 1) := dk_3 (dk_at dksX2_by_1 12 rfl rfl)
theorem dX2_by_36 : decode cX2_by 36 = .ok (.istore_n 3, 1) := dk_62 (dk_at dksX2_by_1 13 rfl rfl)
theorem dX2_by_37 : decode cX2_by 37 = .ok (.iconst 0, 1) := dk_3 (dk_at dksX2_by_1 14 rfl rfl)
theorem dX2_by_38 : decode cX2_by 38 = .ok (.istore 4, 2) := dk_54 4 (dk_at dksX2_by_1 15 rfl rfl)
theorem dX2_by_40 : decode cX2_by 40 = .ok (.iload 4, 2) := dk_21 4 (dk_at dksX2_by_1 17 rfl rfl)
theorem dX2_by_42 : decode cX2_by 42 = .ok (.aload_n 0, 1) := dk_42 (dk_at dksX2_by_1 19 rfl rfl)
theorem dX2_by_43 : decode cX2_by 43 = .ok (.getfield 20, 3) := dk_180 0 20 (dk_at dksX2_by_1 20 rfl rfl)
theorem dX2_by_46 : decode cX2_by 46 = .ok (.bipush 6, 2) := dk_16 6 (dk_at dksX2_by_2 0 rfl rfl)
theorem dX2_by_48 : decode cX2_by 48 = .ok (.iaload, 1) := dk_46 (dk_at dksX2_by_2 2 rfl rfl)
theorem dX2_by_49 : decode cX2_by 49 = .ok (.if_icmp .ge 35, 3) := dk_162 0 35 (dk_at dksX2_by_2 3 rfl rfl)
theorem dX2_by_52 : decode cX2_by 52 = .ok (.iload_n 3, 1) := dk_29 (dk_at dksX2_by_2 6 rfl rfl)
theorem dX2_by_53 : decode cX2_by 53 = .ok (.aload_n 0, 1) := dk_42 (dk_at dksX2_by_2 7 rfl rfl)
theorem dX2_by_54 : decode cX2_by 54 = .ok (.iload 4, 2) := dk_21 4 (dk_at dksX2_by_2 8 rfl rfl)
theorem dX2_by_56 : decode cX2_by 56 = .ok (.iload_n 1, 1) := dk_27 (dk_at dksX2_by_2 10 rfl rfl)
theorem dX2_by_57 : decode cX2_by 57 = .ok (.invokevirtual 367, 3) := dk_182 1 111 (dk_at dksX2_by_2 11 rfl rfl)
theorem dX2_by_60 : decode cX2_by 60 = .ok (.iconst 0, 1) := dk_3 (dk_at dksX2_by_2 14 rfl rfl)
theorem dX2_by_61 : decode cX2_by 61 = .ok (.iload_n 2, 1) := dk_28 (dk_at dksX2_by_2 15 rfl rfl)
theorem dX2_by_62 : decode cX2_by 62 = .ok (.invokestatic 149, 3) := dk_184 0 149 (dk_at dksX2_by_2 16 rfl rfl)
theorem dX2_by_65 : decode cX2_by 65 = .ok (.ifCond .eq 10, 3) := dk_153 0 10 (dk_at dksX2_by_2 19 rfl rfl)
theorem dX2_by_68 : decode cX2_by 68 = .ok (.iconst 1, 1) := dk_4 (dk_at dksX2_by_2 22 rfl rfl)
theorem dX2_by_69 : decode cX2_by 69 = .ok (.iload 4, 2) := dk_21 4 (dk_at dksX2_by_3 0 rfl rfl)
theorem dX2_by_71 : decode cX2_by 71 = .ok (.ishl, 1) := dk_120 (dk_at dksX2_by_3 2 rfl rfl)
theorem dX2_by_72 : decode cX2_by 72 = .ok (.goto 4, 3) := dk_167 0 4 (dk_at dksX2_by_3 3 rfl rfl)
theorem dX2_by_75 : decode cX2_by 75 = .ok (.iconst 0, 1) := dk_3 (dk_at dksX2_by_3 6 rfl rfl)
theorem dX2_by_76 : decode cX2_by 76 = .ok (.ior, 1) := dk_128 (dk_at dksX2_by_3 7 rfl rfl)
theorem dX2_by_77 : decode cX2_by 77 = .ok (.istore_n 3, 1) := dk_62 (dk_at dksX2_by_3 8 rfl rfl)
theorem dX2_by_78 : decode cX2_by 78 = .ok (.iinc 4 1, 3) := dk_132 4 1 (dk_at dksX2_by_3 9 rfl rfl)
theorem dX2_by_81 : decode cX2_by 81 = .ok (.goto (-41), 3) := dk_167 255 215 (dk_at dksX2_by_3 12 rfl rfl)
theorem dX2_by_84 : decode cX2_by 84 = .ok (.iload_n 3, 1) := dk_29 (dk_at dksX2_by_3 15 rfl rfl)
theorem dX2_by_85 : decode cX2_by 85 = .ok (.ireturn, 1) := dk_172 (dk_at dksX2_by_3 16 rfl rfl)
abbrev cX2_registered : ByteArray := prog_16_method_95_code
def yX2_registered : MethodName := ⟨RX2, "registered", "(IZ)J"⟩
def dkwX2_registered_3 : List UInt8 := [54, 5, 17, 39, 16, 21, 5, 100, 133, 20, 1, 117, 28, 184, 1, 119, 173]
abbrev dktX2_registered_3 : List UInt8 := dkwX2_registered_3 ++ []
def dkwX2_registered_2 : List UInt8 := [42, 29, 6, 182, 1, 15, 21, 4, 156, 0, 8, 16, 100, 167, 0, 10, 42, 21, 4, 6, 182, 1, 15, 104]
abbrev dktX2_registered_2 : List UInt8 := dkwX2_registered_2 ++ dktX2_registered_3
def dkwX2_registered_1 : List UInt8 := [182, 1, 114, 62, 29, 156, 0, 11, 42, 16, 6, 182, 0, 170, 133, 173, 42, 27, 29, 182, 1, 114, 54, 4]
abbrev dktX2_registered_1 : List UInt8 := dkwX2_registered_1 ++ dktX2_registered_2
def dkwX2_registered_0 : List UInt8 := [42, 182, 0, 167, 42, 27, 182, 1, 18, 154, 0, 10, 42, 4, 182, 0, 170, 133, 173, 42, 27, 2]
abbrev dktX2_registered_0 : List UInt8 := dkwX2_registered_0 ++ dktX2_registered_1
theorem dksX2_registered_0 : cX2_registered.data.toList.drop 0 = dktX2_registered_0 := by decide +kernel
theorem dksX2_registered_1 : cX2_registered.data.toList.drop 22 = dktX2_registered_1 := dk_seg dksX2_registered_0 22 rfl rfl
theorem dksX2_registered_2 : cX2_registered.data.toList.drop 46 = dktX2_registered_2 := dk_seg dksX2_registered_1 24 rfl rfl
theorem dksX2_registered_3 : cX2_registered.data.toList.drop 70 = dktX2_registered_3 := dk_seg dksX2_registered_2 24 rfl rfl
theorem dX2_registered_0 : decode cX2_registered 0 = .ok (.aload_n 0, 1) := dk_42 (dk_at dksX2_registered_0 0 rfl rfl)
theorem dX2_registered_1 : decode cX2_registered 1 = .ok (.invokevirtual 167, 3) := dk_182 0 167 (dk_at dksX2_registered_0 1 rfl rfl)
theorem dX2_registered_4 : decode cX2_registered 4 = .ok (.aload_n 0, 1) := dk_42 (dk_at dksX2_registered_0 4 rfl rfl)
theorem dX2_registered_5 : decode cX2_registered 5 = .ok (.iload_n 1, 1) := dk_27 (dk_at dksX2_registered_0 5 rfl rfl)
theorem dX2_registered_6 : decode cX2_registered 6 = .ok (.invokevirtual 274, 3) := dk_182 1 18 (dk_at dksX2_registered_0 6 rfl rfl)
theorem dX2_registered_9 : decode cX2_registered 9 = .ok (.ifCond .ne 10, 3) := dk_154 0 10 (dk_at dksX2_registered_0 9 rfl rfl)
theorem dX2_registered_12 : decode cX2_registered 12 = .ok (.aload_n 0, 1) := dk_42 (dk_at dksX2_registered_0 12 rfl rfl)
theorem dX2_registered_13 : decode cX2_registered 13 = .ok (.iconst 1, 1) := dk_4 (dk_at dksX2_registered_0 13 rfl rfl)
theorem dX2_registered_14 : decode cX2_registered 14 = .ok (.invokevirtual 170, 3) := dk_182 0 170 (dk_at dksX2_registered_0 14 rfl rfl)
theorem dX2_registered_17 : decode cX2_registered 17 = .ok (.i2l, 1) := dk_133 (dk_at dksX2_registered_0 17 rfl rfl)
theorem dX2_registered_18 : decode cX2_registered 18 = .ok (.lreturn, 1) := dk_173 (dk_at dksX2_registered_0 18 rfl rfl)
theorem dX2_registered_19 : decode cX2_registered 19 = .ok (.aload_n 0, 1) := dk_42 (dk_at dksX2_registered_0 19 rfl rfl)
theorem dX2_registered_20 : decode cX2_registered 20 = .ok (.iload_n 1, 1) := dk_27 (dk_at dksX2_registered_0 20 rfl rfl)
theorem dX2_registered_21 : decode cX2_registered 21 = .ok (.iconst (-1), 1) := dk_2 (dk_at dksX2_registered_0 21 rfl rfl)
theorem dX2_registered_22 : decode cX2_registered 22 = .ok (.invokevirtual 370, 3) := dk_182 1 114 (dk_at dksX2_registered_1 0 rfl rfl)
theorem dX2_registered_25 : decode cX2_registered 25 = .ok (.istore_n 3, 1) := dk_62 (dk_at dksX2_registered_1 3 rfl rfl)
theorem dX2_registered_26 : decode cX2_registered 26 = .ok (.iload_n 3, 1) := dk_29 (dk_at dksX2_registered_1 4 rfl rfl)
theorem dX2_registered_27 : decode cX2_registered 27 = .ok (.ifCond .ge 11, 3) := dk_156 0 11 (dk_at dksX2_registered_1 5 rfl rfl)
theorem dX2_registered_30 : decode cX2_registered 30 = .ok (.aload_n 0, 1) := dk_42 (dk_at dksX2_registered_1 8 rfl rfl)
theorem dX2_registered_31 : decode cX2_registered 31 = .ok (.bipush 6, 2) := dk_16 6 (dk_at dksX2_registered_1 9 rfl rfl)
theorem dX2_registered_33 : decode cX2_registered 33 = .ok (.invokevirtual 170, 3) := dk_182 0 170 (dk_at dksX2_registered_1 11 rfl rfl)
theorem dX2_registered_36 : decode cX2_registered 36 = .ok (.i2l, 1) := dk_133 (dk_at dksX2_registered_1 14 rfl rfl)
theorem dX2_registered_37 : decode cX2_registered 37 = .ok (.lreturn, 1) := dk_173 (dk_at dksX2_registered_1 15 rfl rfl)
theorem dX2_registered_38 : decode cX2_registered 38 = .ok (.aload_n 0, 1) := dk_42 (dk_at dksX2_registered_1 16 rfl rfl)
theorem dX2_registered_39 : decode cX2_registered 39 = .ok (.iload_n 1, 1) := dk_27 (dk_at dksX2_registered_1 17 rfl rfl)
theorem dX2_registered_40 : decode cX2_registered 40 = .ok (.iload_n 3, 1) := dk_29 (dk_at dksX2_registered_1 18 rfl rfl)
theorem dX2_registered_41 : decode cX2_registered 41 = .ok (.invokevirtual 370, 3) := dk_182 1 114 (dk_at dksX2_registered_1 19 rfl rfl)
theorem dX2_registered_44 : decode cX2_registered 44 = .ok (.istore 4, 2) := dk_54 4 (dk_at dksX2_registered_1 22 rfl rfl)
theorem dX2_registered_46 : decode cX2_registered 46 = .ok (.aload_n 0, 1) := dk_42 (dk_at dksX2_registered_2 0 rfl rfl)
theorem dX2_registered_47 : decode cX2_registered 47 = .ok (.iload_n 3, 1) := dk_29 (dk_at dksX2_registered_2 1 rfl rfl)
theorem dX2_registered_48 : decode cX2_registered 48 = .ok (.iconst 3, 1) := dk_6 (dk_at dksX2_registered_2 2 rfl rfl)
theorem dX2_registered_49 : decode cX2_registered 49 = .ok (.invokevirtual 271, 3) := dk_182 1 15 (dk_at dksX2_registered_2 3 rfl rfl)
theorem dX2_registered_52 : decode cX2_registered 52 = .ok (.iload 4, 2) := dk_21 4 (dk_at dksX2_registered_2 6 rfl rfl)
theorem dX2_registered_54 : decode cX2_registered 54 = .ok (.ifCond .ge 8, 3) := dk_156 0 8 (dk_at dksX2_registered_2 8 rfl rfl)
theorem dX2_registered_57 : decode cX2_registered 57 = .ok (.bipush 100, 2) := dk_16 100 (dk_at dksX2_registered_2 11 rfl rfl)
theorem dX2_registered_59 : decode cX2_registered 59 = .ok (.goto 10, 3) := dk_167 0 10 (dk_at dksX2_registered_2 13 rfl rfl)
theorem dX2_registered_62 : decode cX2_registered 62 = .ok (.aload_n 0, 1) := dk_42 (dk_at dksX2_registered_2 16 rfl rfl)
theorem dX2_registered_63 : decode cX2_registered 63 = .ok (.iload 4, 2) := dk_21 4 (dk_at dksX2_registered_2 17 rfl rfl)
theorem dX2_registered_65 : decode cX2_registered 65 = .ok (.iconst 3, 1) := dk_6 (dk_at dksX2_registered_2 19 rfl rfl)
theorem dX2_registered_66 : decode cX2_registered 66 = .ok (.invokevirtual 271, 3) := dk_182 1 15 (dk_at dksX2_registered_2 20 rfl rfl)
theorem dX2_registered_69 : decode cX2_registered 69 = .ok (.imul, 1) := dk_104 (dk_at dksX2_registered_2 23 rfl rfl)
theorem dX2_registered_70 : decode cX2_registered 70 = .ok (.istore 5, 2) := dk_54 5 (dk_at dksX2_registered_3 0 rfl rfl)
theorem dX2_registered_72 : decode cX2_registered 72 = .ok (.sipush 10000, 3) := dk_17 39 16 (dk_at dksX2_registered_3 2 rfl rfl)
theorem dX2_registered_75 : decode cX2_registered 75 = .ok (.iload 5, 2) := dk_21 5 (dk_at dksX2_registered_3 5 rfl rfl)
theorem dX2_registered_77 : decode cX2_registered 77 = .ok (.isub, 1) := dk_100 (dk_at dksX2_registered_3 7 rfl rfl)
theorem dX2_registered_78 : decode cX2_registered 78 = .ok (.i2l, 1) := dk_133 (dk_at dksX2_registered_3 8 rfl rfl)
theorem dX2_registered_79 : decode cX2_registered 79 = .ok (.ldc2_w 373, 3) := dk_20 1 117 (dk_at dksX2_registered_3 9 rfl rfl)
theorem dX2_registered_82 : decode cX2_registered 82 = .ok (.iload_n 2, 1) := dk_28 (dk_at dksX2_registered_3 12 rfl rfl)
theorem dX2_registered_83 : decode cX2_registered 83 = .ok (.invokestatic 375, 3) := dk_184 1 119 (dk_at dksX2_registered_3 13 rfl rfl)
theorem dX2_registered_86 : decode cX2_registered 86 = .ok (.lreturn, 1) := dk_173 (dk_at dksX2_registered_3 16 rfl rfl)
abbrev cX2_lowest : ByteArray := prog_16_method_94_code
def yX2_lowest : MethodName := ⟨RX2, "lowest", "(JJZ)J"⟩
def dkwX2_lowest_1 : List UInt8 := [22, 9, 55, 7, 167, 255, 234, 21, 4, 153, 0, 7, 32, 167, 0, 4, 30, 22, 5, 109, 173]
abbrev dktX2_lowest_1 : List UInt8 := dkwX2_lowest_1 ++ []
def dkwX2_lowest_0 : List UInt8 := [32, 55, 5, 30, 55, 7, 22, 7, 9, 148, 153, 0, 21, 22, 5, 22, 7, 113, 55, 9, 22, 7, 55, 5]
abbrev dktX2_lowest_0 : List UInt8 := dkwX2_lowest_0 ++ dktX2_lowest_1
theorem dksX2_lowest_0 : cX2_lowest.data.toList.drop 0 = dktX2_lowest_0 := by decide +kernel
theorem dksX2_lowest_1 : cX2_lowest.data.toList.drop 24 = dktX2_lowest_1 := dk_seg dksX2_lowest_0 24 rfl rfl
theorem dX2_lowest_0 : decode cX2_lowest 0 = .ok (.lload_n 2, 1) := dk_32 (dk_at dksX2_lowest_0 0 rfl rfl)
theorem dX2_lowest_1 : decode cX2_lowest 1 = .ok (.lstore 5, 2) := dk_55 5 (dk_at dksX2_lowest_0 1 rfl rfl)
theorem dX2_lowest_3 : decode cX2_lowest 3 = .ok (.lload_n 0, 1) := dk_30 (dk_at dksX2_lowest_0 3 rfl rfl)
theorem dX2_lowest_4 : decode cX2_lowest 4 = .ok (.lstore 7, 2) := dk_55 7 (dk_at dksX2_lowest_0 4 rfl rfl)
theorem dX2_lowest_6 : decode cX2_lowest 6 = .ok (.lload 7, 2) := dk_22 7 (dk_at dksX2_lowest_0 6 rfl rfl)
theorem dX2_lowest_8 : decode cX2_lowest 8 = .ok (.lconst 0, 1) := dk_9 (dk_at dksX2_lowest_0 8 rfl rfl)
theorem dX2_lowest_9 : decode cX2_lowest 9 = .ok (.lcmp, 1) := dk_148 (dk_at dksX2_lowest_0 9 rfl rfl)
theorem dX2_lowest_10 : decode cX2_lowest 10 = .ok (.ifCond .eq 21, 3) := dk_153 0 21 (dk_at dksX2_lowest_0 10 rfl rfl)
theorem dX2_lowest_13 : decode cX2_lowest 13 = .ok (.lload 5, 2) := dk_22 5 (dk_at dksX2_lowest_0 13 rfl rfl)
theorem dX2_lowest_15 : decode cX2_lowest 15 = .ok (.lload 7, 2) := dk_22 7 (dk_at dksX2_lowest_0 15 rfl rfl)
theorem dX2_lowest_17 : decode cX2_lowest 17 = .ok (.lrem, 1) := dk_113 (dk_at dksX2_lowest_0 17 rfl rfl)
theorem dX2_lowest_18 : decode cX2_lowest 18 = .ok (.lstore 9, 2) := dk_55 9 (dk_at dksX2_lowest_0 18 rfl rfl)
theorem dX2_lowest_20 : decode cX2_lowest 20 = .ok (.lload 7, 2) := dk_22 7 (dk_at dksX2_lowest_0 20 rfl rfl)
theorem dX2_lowest_22 : decode cX2_lowest 22 = .ok (.lstore 5, 2) := dk_55 5 (dk_at dksX2_lowest_0 22 rfl rfl)
theorem dX2_lowest_24 : decode cX2_lowest 24 = .ok (.lload 9, 2) := dk_22 9 (dk_at dksX2_lowest_1 0 rfl rfl)
theorem dX2_lowest_26 : decode cX2_lowest 26 = .ok (.lstore 7, 2) := dk_55 7 (dk_at dksX2_lowest_1 2 rfl rfl)
theorem dX2_lowest_28 : decode cX2_lowest 28 = .ok (.goto (-22), 3) := dk_167 255 234 (dk_at dksX2_lowest_1 4 rfl rfl)
theorem dX2_lowest_31 : decode cX2_lowest 31 = .ok (.iload 4, 2) := dk_21 4 (dk_at dksX2_lowest_1 7 rfl rfl)
theorem dX2_lowest_33 : decode cX2_lowest 33 = .ok (.ifCond .eq 7, 3) := dk_153 0 7 (dk_at dksX2_lowest_1 9 rfl rfl)
theorem dX2_lowest_36 : decode cX2_lowest 36 = .ok (.lload_n 2, 1) := dk_32 (dk_at dksX2_lowest_1 12 rfl rfl)
theorem dX2_lowest_37 : decode cX2_lowest 37 = .ok (.goto 4, 3) := dk_167 0 4 (dk_at dksX2_lowest_1 13 rfl rfl)
theorem dX2_lowest_40 : decode cX2_lowest 40 = .ok (.lload_n 0, 1) := dk_30 (dk_at dksX2_lowest_1 16 rfl rfl)
theorem dX2_lowest_41 : decode cX2_lowest 41 = .ok (.lload 5, 2) := dk_22 5 (dk_at dksX2_lowest_1 17 rfl rfl)
theorem dX2_lowest_43 : decode cX2_lowest 43 = .ok (.ldiv, 1) := dk_109 (dk_at dksX2_lowest_1 19 rfl rfl)
theorem dX2_lowest_44 : decode cX2_lowest 44 = .ok (.lreturn, 1) := dk_173 (dk_at dksX2_lowest_1 20 rfl rfl)
abbrev cX2_match : ByteArray := prog_16_method_98_code
def yX2_match : MethodName := ⟨RX2, "match", "()I"⟩
def dkwX2_match_1 : List UInt8 := [180, 1, 123, 172]
abbrev dktX2_match_1 : List UInt8 := dkwX2_match_1 ++ []
def dkwX2_match_0 : List UInt8 := [42, 182, 0, 167, 42, 180, 0, 180, 154, 0, 9, 42, 4, 182, 0, 170, 172, 42, 182, 1, 133, 42]
abbrev dktX2_match_0 : List UInt8 := dkwX2_match_0 ++ dktX2_match_1
theorem dksX2_match_0 : cX2_match.data.toList.drop 0 = dktX2_match_0 := by decide +kernel
theorem dksX2_match_1 : cX2_match.data.toList.drop 22 = dktX2_match_1 := dk_seg dksX2_match_0 22 rfl rfl
theorem dX2_match_0 : decode cX2_match 0 = .ok (.aload_n 0, 1) := dk_42 (dk_at dksX2_match_0 0 rfl rfl)
theorem dX2_match_1 : decode cX2_match 1 = .ok (.invokevirtual 167, 3) := dk_182 0 167 (dk_at dksX2_match_0 1 rfl rfl)
theorem dX2_match_4 : decode cX2_match 4 = .ok (.aload_n 0, 1) := dk_42 (dk_at dksX2_match_0 4 rfl rfl)
theorem dX2_match_5 : decode cX2_match 5 = .ok (.getfield 180, 3) := dk_180 0 180 (dk_at dksX2_match_0 5 rfl rfl)
theorem dX2_match_8 : decode cX2_match 8 = .ok (.ifCond .ne 9, 3) := dk_154 0 9 (dk_at dksX2_match_0 8 rfl rfl)
theorem dX2_match_11 : decode cX2_match 11 = .ok (.aload_n 0, 1) := dk_42 (dk_at dksX2_match_0 11 rfl rfl)
theorem dX2_match_12 : decode cX2_match 12 = .ok (.iconst 1, 1) := dk_4 (dk_at dksX2_match_0 12 rfl rfl)
theorem dX2_match_13 : decode cX2_match 13 = .ok (.invokevirtual 170, 3) := dk_182 0 170 (dk_at dksX2_match_0 13 rfl rfl)
theorem dX2_match_16 : decode cX2_match 16 = .ok (.ireturn, 1) := dk_172 (dk_at dksX2_match_0 16 rfl rfl)
theorem dX2_match_17 : decode cX2_match 17 = .ok (.aload_n 0, 1) := dk_42 (dk_at dksX2_match_0 17 rfl rfl)
theorem dX2_match_18 : decode cX2_match 18 = .ok (.invokevirtual 389, 3) := dk_182 1 133 (dk_at dksX2_match_0 18 rfl rfl)
theorem dX2_match_21 : decode cX2_match 21 = .ok (.aload_n 0, 1) := dk_42 (dk_at dksX2_match_0 21 rfl rfl)
theorem dX2_match_22 : decode cX2_match 22 = .ok (.getfield 379, 3) := dk_180 1 123 (dk_at dksX2_match_1 0 rfl rfl)
theorem dX2_match_25 : decode cX2_match 25 = .ok (.ireturn, 1) := dk_172 (dk_at dksX2_match_1 3 rfl rfl)
abbrev cX2_seekMatch : ByteArray := prog_16_method_97_code
def yX2_seekMatch : MethodName := ⟨RX2, "seekMatch", "()V"⟩
def dkwX2_seekMatch_3 : List UInt8 := [182, 1, 129, 177]
abbrev dktX2_seekMatch_3 : List UInt8 := dkwX2_seekMatch_3 ++ []
def dkwX2_seekMatch_2 : List UInt8 := [167, 255, 226, 132, 1, 1, 167, 255, 207, 42, 2, 181, 1, 123, 42, 3, 181, 1, 126, 42, 3, 3, 3, 3]
abbrev dktX2_seekMatch_2 : List UInt8 := dkwX2_seekMatch_2 ++ dktX2_seekMatch_3
def dkwX2_seekMatch_1 : List UInt8 := [162, 0, 25, 42, 180, 0, 50, 8, 27, 104, 28, 96, 42, 28, 27, 182, 1, 111, 79, 132, 2, 1]
abbrev dktX2_seekMatch_1 : List UInt8 := dkwX2_seekMatch_1 ++ dktX2_seekMatch_2
def dkwX2_seekMatch_0 : List UInt8 := [3, 60, 27, 42, 180, 0, 20, 16, 7, 46, 162, 0, 44, 3, 61, 28, 42, 180, 0, 20, 16, 6, 46]
abbrev dktX2_seekMatch_0 : List UInt8 := dkwX2_seekMatch_0 ++ dktX2_seekMatch_1
theorem dksX2_seekMatch_0 : cX2_seekMatch.data.toList.drop 0 = dktX2_seekMatch_0 := by decide +kernel
theorem dksX2_seekMatch_1 : cX2_seekMatch.data.toList.drop 23 = dktX2_seekMatch_1 := dk_seg dksX2_seekMatch_0 23 rfl rfl
theorem dksX2_seekMatch_2 : cX2_seekMatch.data.toList.drop 45 = dktX2_seekMatch_2 := dk_seg dksX2_seekMatch_1 22 rfl rfl
theorem dksX2_seekMatch_3 : cX2_seekMatch.data.toList.drop 69 = dktX2_seekMatch_3 := dk_seg dksX2_seekMatch_2 24 rfl rfl
theorem dX2_seekMatch_0 : decode cX2_seekMatch 0 = .ok (.iconst 0, 1) := dk_3 (dk_at dksX2_seekMatch_0 0 rfl rfl)
theorem dX2_seekMatch_1 : decode cX2_seekMatch 1 = .ok (.istore_n 1, 1) := dk_60 (dk_at dksX2_seekMatch_0 1 rfl rfl)
theorem dX2_seekMatch_2 : decode cX2_seekMatch 2 = .ok (.iload_n 1, 1) := dk_27 (dk_at dksX2_seekMatch_0 2 rfl rfl)
theorem dX2_seekMatch_3 : decode cX2_seekMatch 3 = .ok (.aload_n 0, 1) := dk_42 (dk_at dksX2_seekMatch_0 3 rfl rfl)
theorem dX2_seekMatch_4 : decode cX2_seekMatch 4 = .ok (.getfield 20, 3) := dk_180 0 20 (dk_at dksX2_seekMatch_0 4 rfl rfl)
theorem dX2_seekMatch_7 : decode cX2_seekMatch 7 = .ok (.bipush 7, 2) := dk_16 7 (dk_at dksX2_seekMatch_0 7 rfl rfl)
theorem dX2_seekMatch_9 : decode cX2_seekMatch 9 = .ok (.iaload, 1) := dk_46 (dk_at dksX2_seekMatch_0 9 rfl rfl)
theorem dX2_seekMatch_10 : decode cX2_seekMatch 10 = .ok (.if_icmp .ge 44, 3) := dk_162 0 44 (dk_at dksX2_seekMatch_0 10 rfl rfl)
theorem dX2_seekMatch_13 : decode cX2_seekMatch 13 = .ok (.iconst 0, 1) := dk_3 (dk_at dksX2_seekMatch_0 13 rfl rfl)
theorem dX2_seekMatch_14 : decode cX2_seekMatch 14 = .ok (.istore_n 2, 1) := dk_61 (dk_at dksX2_seekMatch_0 14 rfl rfl)
theorem dX2_seekMatch_15 : decode cX2_seekMatch 15 = .ok (.iload_n 2, 1) := dk_28 (dk_at dksX2_seekMatch_0 15 rfl rfl)
theorem dX2_seekMatch_16 : decode cX2_seekMatch 16 = .ok (.aload_n 0, 1) := dk_42 (dk_at dksX2_seekMatch_0 16 rfl rfl)
theorem dX2_seekMatch_17 : decode cX2_seekMatch 17 = .ok (.getfield 20, 3) := dk_180 0 20 (dk_at dksX2_seekMatch_0 17 rfl rfl)
theorem dX2_seekMatch_20 : decode cX2_seekMatch 20 = .ok (.bipush 6, 2) := dk_16 6 (dk_at dksX2_seekMatch_0 20 rfl rfl)
theorem dX2_seekMatch_22 : decode cX2_seekMatch 22 = .ok (.iaload, 1) := dk_46 (dk_at dksX2_seekMatch_0 22 rfl rfl)
theorem dX2_seekMatch_23 : decode cX2_seekMatch 23 = .ok (.if_icmp .ge 25, 3) := dk_162 0 25 (dk_at dksX2_seekMatch_1 0 rfl rfl)
theorem dX2_seekMatch_26 : decode cX2_seekMatch 26 = .ok (.aload_n 0, 1) := dk_42 (dk_at dksX2_seekMatch_1 3 rfl rfl)
theorem dX2_seekMatch_27 : decode cX2_seekMatch 27 = .ok (.getfield 50, 3) := dk_180 0 50 (dk_at dksX2_seekMatch_1 4 rfl rfl)
theorem dX2_seekMatch_30 : decode cX2_seekMatch 30 = .ok (.iconst 5, 1) := dk_8 (dk_at dksX2_seekMatch_1 7 rfl rfl)
theorem dX2_seekMatch_31 : decode cX2_seekMatch 31 = .ok (.iload_n 1, 1) := dk_27 (dk_at dksX2_seekMatch_1 8 rfl rfl)
theorem dX2_seekMatch_32 : decode cX2_seekMatch 32 = .ok (.imul, 1) := dk_104 (dk_at dksX2_seekMatch_1 9 rfl rfl)
theorem dX2_seekMatch_33 : decode cX2_seekMatch 33 = .ok (.iload_n 2, 1) := dk_28 (dk_at dksX2_seekMatch_1 10 rfl rfl)
theorem dX2_seekMatch_34 : decode cX2_seekMatch 34 = .ok (.iadd, 1) := dk_96 (dk_at dksX2_seekMatch_1 11 rfl rfl)
theorem dX2_seekMatch_35 : decode cX2_seekMatch 35 = .ok (.aload_n 0, 1) := dk_42 (dk_at dksX2_seekMatch_1 12 rfl rfl)
theorem dX2_seekMatch_36 : decode cX2_seekMatch 36 = .ok (.iload_n 2, 1) := dk_28 (dk_at dksX2_seekMatch_1 13 rfl rfl)
theorem dX2_seekMatch_37 : decode cX2_seekMatch 37 = .ok (.iload_n 1, 1) := dk_27 (dk_at dksX2_seekMatch_1 14 rfl rfl)
theorem dX2_seekMatch_38 : decode cX2_seekMatch 38 = .ok (.invokevirtual 367, 3) := dk_182 1 111 (dk_at dksX2_seekMatch_1 15 rfl rfl)
theorem dX2_seekMatch_41 : decode cX2_seekMatch 41 = .ok (.iastore, 1) := dk_79 (dk_at dksX2_seekMatch_1 18 rfl rfl)
theorem dX2_seekMatch_42 : decode cX2_seekMatch 42 = .ok (.iinc 2 1, 3) := dk_132 2 1 (dk_at dksX2_seekMatch_1 19 rfl rfl)
theorem dX2_seekMatch_45 : decode cX2_seekMatch 45 = .ok (.goto (-30), 3) := dk_167 255 226 (dk_at dksX2_seekMatch_2 0 rfl rfl)
theorem dX2_seekMatch_48 : decode cX2_seekMatch 48 = .ok (.iinc 1 1, 3) := dk_132 1 1 (dk_at dksX2_seekMatch_2 3 rfl rfl)
theorem dX2_seekMatch_51 : decode cX2_seekMatch 51 = .ok (.goto (-49), 3) := dk_167 255 207 (dk_at dksX2_seekMatch_2 6 rfl rfl)
theorem dX2_seekMatch_54 : decode cX2_seekMatch 54 = .ok (.aload_n 0, 1) := dk_42 (dk_at dksX2_seekMatch_2 9 rfl rfl)
theorem dX2_seekMatch_55 : decode cX2_seekMatch 55 = .ok (.iconst (-1), 1) := dk_2 (dk_at dksX2_seekMatch_2 10 rfl rfl)
theorem dX2_seekMatch_56 : decode cX2_seekMatch 56 = .ok (.putfield 379, 3) := dk_181 1 123 (dk_at dksX2_seekMatch_2 11 rfl rfl)
theorem dX2_seekMatch_59 : decode cX2_seekMatch 59 = .ok (.aload_n 0, 1) := dk_42 (dk_at dksX2_seekMatch_2 14 rfl rfl)
theorem dX2_seekMatch_60 : decode cX2_seekMatch 60 = .ok (.iconst 0, 1) := dk_3 (dk_at dksX2_seekMatch_2 15 rfl rfl)
theorem dX2_seekMatch_61 : decode cX2_seekMatch 61 = .ok (.putfield 382, 3) := dk_181 1 126 (dk_at dksX2_seekMatch_2 16 rfl rfl)
theorem dX2_seekMatch_64 : decode cX2_seekMatch 64 = .ok (.aload_n 0, 1) := dk_42 (dk_at dksX2_seekMatch_2 19 rfl rfl)
theorem dX2_seekMatch_65 : decode cX2_seekMatch 65 = .ok (.iconst 0, 1) := dk_3 (dk_at dksX2_seekMatch_2 20 rfl rfl)
theorem dX2_seekMatch_66 : decode cX2_seekMatch 66 = .ok (.iconst 0, 1) := dk_3 (dk_at dksX2_seekMatch_2 21 rfl rfl)
theorem dX2_seekMatch_67 : decode cX2_seekMatch 67 = .ok (.iconst 0, 1) := dk_3 (dk_at dksX2_seekMatch_2 22 rfl rfl)
theorem dX2_seekMatch_68 : decode cX2_seekMatch 68 = .ok (.iconst 0, 1) := dk_3 (dk_at dksX2_seekMatch_2 23 rfl rfl)
theorem dX2_seekMatch_69 : decode cX2_seekMatch 69 = .ok (.invokevirtual 385, 3) := dk_182 1 129 (dk_at dksX2_seekMatch_3 0 rfl rfl)
theorem dX2_seekMatch_72 : decode cX2_seekMatch 72 = .ok (.return_, 1) := dk_177 (dk_at dksX2_seekMatch_3 3 rfl rfl)
abbrev cX2_tryMatch : ByteArray := prog_16_method_96_code
def yX2_tryMatch : MethodName := ⟨RX2, "tryMatch", "(IIII)V"⟩
def dkwX2_tryMatch_7 : List UInt8 := [182, 1, 129, 177]
abbrev dktX2_tryMatch_7 : List UInt8 := dkwX2_tryMatch_7 ++ []
def dkwX2_tryMatch_6 : List UInt8 := [132, 5, 1, 167, 255, 177, 42, 180, 0, 44, 27, 16, 254, 79, 42, 27, 4, 96, 28, 29, 21, 4]
abbrev dktX2_tryMatch_6 : List UInt8 := dkwX2_tryMatch_6 ++ dktX2_tryMatch_7
def dkwX2_tryMatch_5 : List UInt8 := [120, 128, 29, 4, 96, 21, 4, 42, 180, 0, 50, 8, 27, 104, 21, 5, 96, 46, 96, 182, 1, 129]
abbrev dktX2_tryMatch_5 : List UInt8 := dkwX2_tryMatch_5 ++ dktX2_tryMatch_6
def dkwX2_tryMatch_4 : List UInt8 := [96, 46, 156, 0, 6, 167, 0, 41, 42, 180, 0, 44, 27, 21, 5, 79, 42, 27, 4, 96, 28, 4, 21, 5]
abbrev dktX2_tryMatch_4 : List UInt8 := dkwX2_tryMatch_4 ++ dktX2_tryMatch_5
def dkwX2_tryMatch_3 : List UInt8 := [16, 6, 46, 162, 0, 73, 28, 21, 5, 184, 1, 42, 154, 0, 58, 42, 180, 0, 50, 8, 27, 104, 21, 5]
abbrev dktX2_tryMatch_3 : List UInt8 := dkwX2_tryMatch_3 ++ dktX2_tryMatch_4
def dkwX2_tryMatch_2 : List UInt8 := [42, 180, 0, 44, 3, 42, 180, 0, 47, 3, 27, 184, 0, 176, 177, 3, 54, 5, 21, 5, 42, 180, 0, 20]
abbrev dktX2_tryMatch_2 : List UInt8 := dkwX2_tryMatch_2 ++ dktX2_tryMatch_3
def dkwX2_tryMatch_1 : List UInt8 := [160, 0, 13, 21, 4, 42, 180, 1, 126, 161, 0, 4, 177, 42, 29, 181, 1, 123, 42, 21, 4, 181, 1, 126]
abbrev dktX2_tryMatch_1 : List UInt8 := dkwX2_tryMatch_1 ++ dktX2_tryMatch_2
def dkwX2_tryMatch_0 : List UInt8 := [27, 42, 180, 0, 20, 16, 7, 46, 160, 0, 55, 29, 42, 180, 1, 123, 161, 0, 20, 29, 42, 180, 1, 123]
abbrev dktX2_tryMatch_0 : List UInt8 := dkwX2_tryMatch_0 ++ dktX2_tryMatch_1
theorem dksX2_tryMatch_0 : cX2_tryMatch.data.toList.drop 0 = dktX2_tryMatch_0 := by decide +kernel
theorem dksX2_tryMatch_1 : cX2_tryMatch.data.toList.drop 24 = dktX2_tryMatch_1 := dk_seg dksX2_tryMatch_0 24 rfl rfl
theorem dksX2_tryMatch_2 : cX2_tryMatch.data.toList.drop 48 = dktX2_tryMatch_2 := dk_seg dksX2_tryMatch_1 24 rfl rfl
theorem dksX2_tryMatch_3 : cX2_tryMatch.data.toList.drop 72 = dktX2_tryMatch_3 := dk_seg dksX2_tryMatch_2 24 rfl rfl
theorem dksX2_tryMatch_4 : cX2_tryMatch.data.toList.drop 96 = dktX2_tryMatch_4 := dk_seg dksX2_tryMatch_3 24 rfl rfl
theorem dksX2_tryMatch_5 : cX2_tryMatch.data.toList.drop 120 = dktX2_tryMatch_5 := dk_seg dksX2_tryMatch_4 24 rfl rfl
theorem dksX2_tryMatch_6 : cX2_tryMatch.data.toList.drop 142 = dktX2_tryMatch_6 := dk_seg dksX2_tryMatch_5 22 rfl rfl
theorem dksX2_tryMatch_7 : cX2_tryMatch.data.toList.drop 164 = dktX2_tryMatch_7 := dk_seg dksX2_tryMatch_6 22 rfl rfl
theorem dX2_tryMatch_0 : decode cX2_tryMatch 0 = .ok (.iload_n 1, 1) := dk_27 (dk_at dksX2_tryMatch_0 0 rfl rfl)
theorem dX2_tryMatch_1 : decode cX2_tryMatch 1 = .ok (.aload_n 0, 1) := dk_42 (dk_at dksX2_tryMatch_0 1 rfl rfl)
theorem dX2_tryMatch_2 : decode cX2_tryMatch 2 = .ok (.getfield 20, 3) := dk_180 0 20 (dk_at dksX2_tryMatch_0 2 rfl rfl)
theorem dX2_tryMatch_5 : decode cX2_tryMatch 5 = .ok (.bipush 7, 2) := dk_16 7 (dk_at dksX2_tryMatch_0 5 rfl rfl)
theorem dX2_tryMatch_7 : decode cX2_tryMatch 7 = .ok (.iaload, 1) := dk_46 (dk_at dksX2_tryMatch_0 7 rfl rfl)
theorem dX2_tryMatch_8 : decode cX2_tryMatch 8 = .ok (.if_icmp .ne 55, 3) := dk_160 0 55 (dk_at dksX2_tryMatch_0 8 rfl rfl)
theorem dX2_tryMatch_11 : decode cX2_tryMatch 11 = .ok (.iload_n 3, 1) := dk_29 (dk_at dksX2_tryMatch_0 11 rfl rfl)
theorem dX2_tryMatch_12 : decode cX2_tryMatch 12 = .ok (.aload_n 0, 1) := dk_42 (dk_at dksX2_tryMatch_0 12 rfl rfl)
theorem dX2_tryMatch_13 : decode cX2_tryMatch 13 = .ok (.getfield 379, 3) := dk_180 1 123 (dk_at dksX2_tryMatch_0 13 rfl rfl)
theorem dX2_tryMatch_16 : decode cX2_tryMatch 16 = .ok (.if_icmp .lt 20, 3) := dk_161 0 20 (dk_at dksX2_tryMatch_0 16 rfl rfl)
theorem dX2_tryMatch_19 : decode cX2_tryMatch 19 = .ok (.iload_n 3, 1) := dk_29 (dk_at dksX2_tryMatch_0 19 rfl rfl)
theorem dX2_tryMatch_20 : decode cX2_tryMatch 20 = .ok (.aload_n 0, 1) := dk_42 (dk_at dksX2_tryMatch_0 20 rfl rfl)
theorem dX2_tryMatch_21 : decode cX2_tryMatch 21 = .ok (.getfield 379, 3) := dk_180 1 123 (dk_at dksX2_tryMatch_0 21 rfl rfl)
theorem dX2_tryMatch_24 : decode cX2_tryMatch 24 = .ok (.if_icmp .ne 13, 3) := dk_160 0 13 (dk_at dksX2_tryMatch_1 0 rfl rfl)
theorem dX2_tryMatch_27 : decode cX2_tryMatch 27 = .ok (.iload 4, 2) := dk_21 4 (dk_at dksX2_tryMatch_1 3 rfl rfl)
theorem dX2_tryMatch_29 : decode cX2_tryMatch 29 = .ok (.aload_n 0, 1) := dk_42 (dk_at dksX2_tryMatch_1 5 rfl rfl)
theorem dX2_tryMatch_30 : decode cX2_tryMatch 30 = .ok (.getfield 382, 3) := dk_180 1 126 (dk_at dksX2_tryMatch_1 6 rfl rfl)
theorem dX2_tryMatch_33 : decode cX2_tryMatch 33 = .ok (.if_icmp .lt 4, 3) := dk_161 0 4 (dk_at dksX2_tryMatch_1 9 rfl rfl)
theorem dX2_tryMatch_36 : decode cX2_tryMatch 36 = .ok (.return_, 1) := dk_177 (dk_at dksX2_tryMatch_1 12 rfl rfl)
theorem dX2_tryMatch_37 : decode cX2_tryMatch 37 = .ok (.aload_n 0, 1) := dk_42 (dk_at dksX2_tryMatch_1 13 rfl rfl)
theorem dX2_tryMatch_38 : decode cX2_tryMatch 38 = .ok (.iload_n 3, 1) := dk_29 (dk_at dksX2_tryMatch_1 14 rfl rfl)
theorem dX2_tryMatch_39 : decode cX2_tryMatch 39 = .ok (.putfield 379, 3) := dk_181 1 123 (dk_at dksX2_tryMatch_1 15 rfl rfl)
theorem dX2_tryMatch_42 : decode cX2_tryMatch 42 = .ok (.aload_n 0, 1) := dk_42 (dk_at dksX2_tryMatch_1 18 rfl rfl)
theorem dX2_tryMatch_43 : decode cX2_tryMatch 43 = .ok (.iload 4, 2) := dk_21 4 (dk_at dksX2_tryMatch_1 19 rfl rfl)
theorem dX2_tryMatch_45 : decode cX2_tryMatch 45 = .ok (.putfield 382, 3) := dk_181 1 126 (dk_at dksX2_tryMatch_1 21 rfl rfl)
theorem dX2_tryMatch_48 : decode cX2_tryMatch 48 = .ok (.aload_n 0, 1) := dk_42 (dk_at dksX2_tryMatch_2 0 rfl rfl)
theorem dX2_tryMatch_49 : decode cX2_tryMatch 49 = .ok (.getfield 44, 3) := dk_180 0 44 (dk_at dksX2_tryMatch_2 1 rfl rfl)
theorem dX2_tryMatch_52 : decode cX2_tryMatch 52 = .ok (.iconst 0, 1) := dk_3 (dk_at dksX2_tryMatch_2 4 rfl rfl)
theorem dX2_tryMatch_53 : decode cX2_tryMatch 53 = .ok (.aload_n 0, 1) := dk_42 (dk_at dksX2_tryMatch_2 5 rfl rfl)
theorem dX2_tryMatch_54 : decode cX2_tryMatch 54 = .ok (.getfield 47, 3) := dk_180 0 47 (dk_at dksX2_tryMatch_2 6 rfl rfl)
theorem dX2_tryMatch_57 : decode cX2_tryMatch 57 = .ok (.iconst 0, 1) := dk_3 (dk_at dksX2_tryMatch_2 9 rfl rfl)
theorem dX2_tryMatch_58 : decode cX2_tryMatch 58 = .ok (.iload_n 1, 1) := dk_27 (dk_at dksX2_tryMatch_2 10 rfl rfl)
theorem dX2_tryMatch_59 : decode cX2_tryMatch 59 = .ok (.invokestatic 176, 3) := dk_184 0 176 (dk_at dksX2_tryMatch_2 11 rfl rfl)
theorem dX2_tryMatch_62 : decode cX2_tryMatch 62 = .ok (.return_, 1) := dk_177 (dk_at dksX2_tryMatch_2 14 rfl rfl)
theorem dX2_tryMatch_63 : decode cX2_tryMatch 63 = .ok (.iconst 0, 1) := dk_3 (dk_at dksX2_tryMatch_2 15 rfl rfl)
theorem dX2_tryMatch_64 : decode cX2_tryMatch 64 = .ok (.istore 5, 2) := dk_54 5 (dk_at dksX2_tryMatch_2 16 rfl rfl)
theorem dX2_tryMatch_66 : decode cX2_tryMatch 66 = .ok (.iload 5, 2) := dk_21 5 (dk_at dksX2_tryMatch_2 18 rfl rfl)
theorem dX2_tryMatch_68 : decode cX2_tryMatch 68 = .ok (.aload_n 0, 1) := dk_42 (dk_at dksX2_tryMatch_2 20 rfl rfl)
theorem dX2_tryMatch_69 : decode cX2_tryMatch 69 = .ok (.getfield 20, 3) := dk_180 0 20 (dk_at dksX2_tryMatch_2 21 rfl rfl)
theorem dX2_tryMatch_72 : decode cX2_tryMatch 72 = .ok (.bipush 6, 2) := dk_16 6 (dk_at dksX2_tryMatch_3 0 rfl rfl)
theorem dX2_tryMatch_74 : decode cX2_tryMatch 74 = .ok (.iaload, 1) := dk_46 (dk_at dksX2_tryMatch_3 2 rfl rfl)
theorem dX2_tryMatch_75 : decode cX2_tryMatch 75 = .ok (.if_icmp .ge 73, 3) := dk_162 0 73 (dk_at dksX2_tryMatch_3 3 rfl rfl)
theorem dX2_tryMatch_78 : decode cX2_tryMatch 78 = .ok (.iload_n 2, 1) := dk_28 (dk_at dksX2_tryMatch_3 6 rfl rfl)
theorem dX2_tryMatch_79 : decode cX2_tryMatch 79 = .ok (.iload 5, 2) := dk_21 5 (dk_at dksX2_tryMatch_3 7 rfl rfl)
theorem dX2_tryMatch_81 : decode cX2_tryMatch 81 = .ok (.invokestatic 298, 3) := dk_184 1 42 (dk_at dksX2_tryMatch_3 9 rfl rfl)
theorem dX2_tryMatch_84 : decode cX2_tryMatch 84 = .ok (.ifCond .ne 58, 3) := dk_154 0 58 (dk_at dksX2_tryMatch_3 12 rfl rfl)
theorem dX2_tryMatch_87 : decode cX2_tryMatch 87 = .ok (.aload_n 0, 1) := dk_42 (dk_at dksX2_tryMatch_3 15 rfl rfl)
theorem dX2_tryMatch_88 : decode cX2_tryMatch 88 = .ok (.getfield 50, 3) := dk_180 0 50 (dk_at dksX2_tryMatch_3 16 rfl rfl)
theorem dX2_tryMatch_91 : decode cX2_tryMatch 91 = .ok (.iconst 5, 1) := dk_8 (dk_at dksX2_tryMatch_3 19 rfl rfl)
theorem dX2_tryMatch_92 : decode cX2_tryMatch 92 = .ok (.iload_n 1, 1) := dk_27 (dk_at dksX2_tryMatch_3 20 rfl rfl)
theorem dX2_tryMatch_93 : decode cX2_tryMatch 93 = .ok (.imul, 1) := dk_104 (dk_at dksX2_tryMatch_3 21 rfl rfl)
theorem dX2_tryMatch_94 : decode cX2_tryMatch 94 = .ok (.iload 5, 2) := dk_21 5 (dk_at dksX2_tryMatch_3 22 rfl rfl)
theorem dX2_tryMatch_96 : decode cX2_tryMatch 96 = .ok (.iadd, 1) := dk_96 (dk_at dksX2_tryMatch_4 0 rfl rfl)
theorem dX2_tryMatch_97 : decode cX2_tryMatch 97 = .ok (.iaload, 1) := dk_46 (dk_at dksX2_tryMatch_4 1 rfl rfl)
theorem dX2_tryMatch_98 : decode cX2_tryMatch 98 = .ok (.ifCond .ge 6, 3) := dk_156 0 6 (dk_at dksX2_tryMatch_4 2 rfl rfl)
theorem dX2_tryMatch_101 : decode cX2_tryMatch 101 = .ok (.goto 41, 3) := dk_167 0 41 (dk_at dksX2_tryMatch_4 5 rfl rfl)
theorem dX2_tryMatch_104 : decode cX2_tryMatch 104 = .ok (.aload_n 0, 1) := dk_42 (dk_at dksX2_tryMatch_4 8 rfl rfl)
theorem dX2_tryMatch_105 : decode cX2_tryMatch 105 = .ok (.getfield 44, 3) := dk_180 0 44 (dk_at dksX2_tryMatch_4 9 rfl rfl)
theorem dX2_tryMatch_108 : decode cX2_tryMatch 108 = .ok (.iload_n 1, 1) := dk_27 (dk_at dksX2_tryMatch_4 12 rfl rfl)
theorem dX2_tryMatch_109 : decode cX2_tryMatch 109 = .ok (.iload 5, 2) := dk_21 5 (dk_at dksX2_tryMatch_4 13 rfl rfl)
theorem dX2_tryMatch_111 : decode cX2_tryMatch 111 = .ok (.iastore, 1) := dk_79 (dk_at dksX2_tryMatch_4 15 rfl rfl)
theorem dX2_tryMatch_112 : decode cX2_tryMatch 112 = .ok (.aload_n 0, 1) := dk_42 (dk_at dksX2_tryMatch_4 16 rfl rfl)
theorem dX2_tryMatch_113 : decode cX2_tryMatch 113 = .ok (.iload_n 1, 1) := dk_27 (dk_at dksX2_tryMatch_4 17 rfl rfl)
theorem dX2_tryMatch_114 : decode cX2_tryMatch 114 = .ok (.iconst 1, 1) := dk_4 (dk_at dksX2_tryMatch_4 18 rfl rfl)
theorem dX2_tryMatch_115 : decode cX2_tryMatch 115 = .ok (.iadd, 1) := dk_96 (dk_at dksX2_tryMatch_4 19 rfl rfl)
theorem dX2_tryMatch_116 : decode cX2_tryMatch 116 = .ok (.iload_n 2, 1) := dk_28 (dk_at dksX2_tryMatch_4 20 rfl rfl)
theorem dX2_tryMatch_117 : decode cX2_tryMatch 117 = .ok (.iconst 1, 1) := dk_4 (dk_at dksX2_tryMatch_4 21 rfl rfl)
theorem dX2_tryMatch_118 : decode cX2_tryMatch 118 = .ok (.iload 5, 2) := dk_21 5 (dk_at dksX2_tryMatch_4 22 rfl rfl)
theorem dX2_tryMatch_120 : decode cX2_tryMatch 120 = .ok (.ishl, 1) := dk_120 (dk_at dksX2_tryMatch_5 0 rfl rfl)
theorem dX2_tryMatch_121 : decode cX2_tryMatch 121 = .ok (.ior, 1) := dk_128 (dk_at dksX2_tryMatch_5 1 rfl rfl)
theorem dX2_tryMatch_122 : decode cX2_tryMatch 122 = .ok (.iload_n 3, 1) := dk_29 (dk_at dksX2_tryMatch_5 2 rfl rfl)
theorem dX2_tryMatch_123 : decode cX2_tryMatch 123 = .ok (.iconst 1, 1) := dk_4 (dk_at dksX2_tryMatch_5 3 rfl rfl)
theorem dX2_tryMatch_124 : decode cX2_tryMatch 124 = .ok (.iadd, 1) := dk_96 (dk_at dksX2_tryMatch_5 4 rfl rfl)
theorem dX2_tryMatch_125 : decode cX2_tryMatch 125 = .ok (.iload 4, 2) := dk_21 4 (dk_at dksX2_tryMatch_5 5 rfl rfl)
theorem dX2_tryMatch_127 : decode cX2_tryMatch 127 = .ok (.aload_n 0, 1) := dk_42 (dk_at dksX2_tryMatch_5 7 rfl rfl)
theorem dX2_tryMatch_128 : decode cX2_tryMatch 128 = .ok (.getfield 50, 3) := dk_180 0 50 (dk_at dksX2_tryMatch_5 8 rfl rfl)
theorem dX2_tryMatch_131 : decode cX2_tryMatch 131 = .ok (.iconst 5, 1) := dk_8 (dk_at dksX2_tryMatch_5 11 rfl rfl)
theorem dX2_tryMatch_132 : decode cX2_tryMatch 132 = .ok (.iload_n 1, 1) := dk_27 (dk_at dksX2_tryMatch_5 12 rfl rfl)
theorem dX2_tryMatch_133 : decode cX2_tryMatch 133 = .ok (.imul, 1) := dk_104 (dk_at dksX2_tryMatch_5 13 rfl rfl)
theorem dX2_tryMatch_134 : decode cX2_tryMatch 134 = .ok (.iload 5, 2) := dk_21 5 (dk_at dksX2_tryMatch_5 14 rfl rfl)
theorem dX2_tryMatch_136 : decode cX2_tryMatch 136 = .ok (.iadd, 1) := dk_96 (dk_at dksX2_tryMatch_5 16 rfl rfl)
theorem dX2_tryMatch_137 : decode cX2_tryMatch 137 = .ok (.iaload, 1) := dk_46 (dk_at dksX2_tryMatch_5 17 rfl rfl)
theorem dX2_tryMatch_138 : decode cX2_tryMatch 138 = .ok (.iadd, 1) := dk_96 (dk_at dksX2_tryMatch_5 18 rfl rfl)
theorem dX2_tryMatch_139 : decode cX2_tryMatch 139 = .ok (.invokevirtual 385, 3) := dk_182 1 129 (dk_at dksX2_tryMatch_5 19 rfl rfl)
theorem dX2_tryMatch_142 : decode cX2_tryMatch 142 = .ok (.iinc 5 1, 3) := dk_132 5 1 (dk_at dksX2_tryMatch_6 0 rfl rfl)
theorem dX2_tryMatch_145 : decode cX2_tryMatch 145 = .ok (.goto (-79), 3) := dk_167 255 177 (dk_at dksX2_tryMatch_6 3 rfl rfl)
theorem dX2_tryMatch_148 : decode cX2_tryMatch 148 = .ok (.aload_n 0, 1) := dk_42 (dk_at dksX2_tryMatch_6 6 rfl rfl)
theorem dX2_tryMatch_149 : decode cX2_tryMatch 149 = .ok (.getfield 44, 3) := dk_180 0 44 (dk_at dksX2_tryMatch_6 7 rfl rfl)
theorem dX2_tryMatch_152 : decode cX2_tryMatch 152 = .ok (.iload_n 1, 1) := dk_27 (dk_at dksX2_tryMatch_6 10 rfl rfl)
theorem dX2_tryMatch_153 : decode cX2_tryMatch 153 = .ok (.bipush (-2), 2) := dk_16 254 (dk_at dksX2_tryMatch_6 11 rfl rfl)
theorem dX2_tryMatch_155 : decode cX2_tryMatch 155 = .ok (.iastore, 1) := dk_79 (dk_at dksX2_tryMatch_6 13 rfl rfl)
theorem dX2_tryMatch_156 : decode cX2_tryMatch 156 = .ok (.aload_n 0, 1) := dk_42 (dk_at dksX2_tryMatch_6 14 rfl rfl)
theorem dX2_tryMatch_157 : decode cX2_tryMatch 157 = .ok (.iload_n 1, 1) := dk_27 (dk_at dksX2_tryMatch_6 15 rfl rfl)
theorem dX2_tryMatch_158 : decode cX2_tryMatch 158 = .ok (.iconst 1, 1) := dk_4 (dk_at dksX2_tryMatch_6 16 rfl rfl)
theorem dX2_tryMatch_159 : decode cX2_tryMatch 159 = .ok (.iadd, 1) := dk_96 (dk_at dksX2_tryMatch_6 17 rfl rfl)
theorem dX2_tryMatch_160 : decode cX2_tryMatch 160 = .ok (.iload_n 2, 1) := dk_28 (dk_at dksX2_tryMatch_6 18 rfl rfl)
theorem dX2_tryMatch_161 : decode cX2_tryMatch 161 = .ok (.iload_n 3, 1) := dk_29 (dk_at dksX2_tryMatch_6 19 rfl rfl)
theorem dX2_tryMatch_162 : decode cX2_tryMatch 162 = .ok (.iload 4, 2) := dk_21 4 (dk_at dksX2_tryMatch_6 20 rfl rfl)
theorem dX2_tryMatch_164 : decode cX2_tryMatch 164 = .ok (.invokevirtual 385, 3) := dk_182 1 129 (dk_at dksX2_tryMatch_7 0 rfl rfl)
theorem dX2_tryMatch_167 : decode cX2_tryMatch 167 = .ok (.return_, 1) := dk_177 (dk_at dksX2_tryMatch_7 3 rfl rfl)
abbrev cX2_matchDays : ByteArray := prog_16_method_99_code
def yX2_matchDays : MethodName := ⟨RX2, "matchDays", "()I"⟩
def dkwX2_matchDays_1 : List UInt8 := [180, 1, 126, 172]
abbrev dktX2_matchDays_1 : List UInt8 := dkwX2_matchDays_1 ++ []
def dkwX2_matchDays_0 : List UInt8 := [42, 182, 0, 167, 42, 180, 0, 180, 154, 0, 9, 42, 4, 182, 0, 170, 172, 42, 182, 1, 133, 42]
abbrev dktX2_matchDays_0 : List UInt8 := dkwX2_matchDays_0 ++ dktX2_matchDays_1
theorem dksX2_matchDays_0 : cX2_matchDays.data.toList.drop 0 = dktX2_matchDays_0 := by decide +kernel
theorem dksX2_matchDays_1 : cX2_matchDays.data.toList.drop 22 = dktX2_matchDays_1 := dk_seg dksX2_matchDays_0 22 rfl rfl
theorem dX2_matchDays_0 : decode cX2_matchDays 0 = .ok (.aload_n 0, 1) := dk_42 (dk_at dksX2_matchDays_0 0 rfl rfl)
theorem dX2_matchDays_1 : decode cX2_matchDays 1 = .ok (.invokevirtual 167, 3) := dk_182 0 167 (dk_at dksX2_matchDays_0 1 rfl rfl)
theorem dX2_matchDays_4 : decode cX2_matchDays 4 = .ok (.aload_n 0, 1) := dk_42 (dk_at dksX2_matchDays_0 4 rfl rfl)
theorem dX2_matchDays_5 : decode cX2_matchDays 5 = .ok (.getfield 180, 3) := dk_180 0 180 (dk_at dksX2_matchDays_0 5 rfl rfl)
theorem dX2_matchDays_8 : decode cX2_matchDays 8 = .ok (.ifCond .ne 9, 3) := dk_154 0 9 (dk_at dksX2_matchDays_0 8 rfl rfl)
theorem dX2_matchDays_11 : decode cX2_matchDays 11 = .ok (.aload_n 0, 1) := dk_42 (dk_at dksX2_matchDays_0 11 rfl rfl)
theorem dX2_matchDays_12 : decode cX2_matchDays 12 = .ok (.iconst 1, 1) := dk_4 (dk_at dksX2_matchDays_0 12 rfl rfl)
theorem dX2_matchDays_13 : decode cX2_matchDays 13 = .ok (.invokevirtual 170, 3) := dk_182 0 170 (dk_at dksX2_matchDays_0 13 rfl rfl)
theorem dX2_matchDays_16 : decode cX2_matchDays 16 = .ok (.ireturn, 1) := dk_172 (dk_at dksX2_matchDays_0 16 rfl rfl)
theorem dX2_matchDays_17 : decode cX2_matchDays 17 = .ok (.aload_n 0, 1) := dk_42 (dk_at dksX2_matchDays_0 17 rfl rfl)
theorem dX2_matchDays_18 : decode cX2_matchDays 18 = .ok (.invokevirtual 389, 3) := dk_182 1 133 (dk_at dksX2_matchDays_0 18 rfl rfl)
theorem dX2_matchDays_21 : decode cX2_matchDays 21 = .ok (.aload_n 0, 1) := dk_42 (dk_at dksX2_matchDays_0 21 rfl rfl)
theorem dX2_matchDays_22 : decode cX2_matchDays 22 = .ok (.getfield 382, 3) := dk_180 1 126 (dk_at dksX2_matchDays_1 0 rfl rfl)
theorem dX2_matchDays_25 : decode cX2_matchDays 25 = .ok (.ireturn, 1) := dk_172 (dk_at dksX2_matchDays_1 3 rfl rfl)
abbrev cX2_matchOf : ByteArray := prog_16_method_100_code
def yX2_matchOf : MethodName := ⟨RX2, "matchOf", "(I)I"⟩
def dkwX2_matchOf_1 : List UInt8 := [180, 0, 47, 27, 46, 172]
abbrev dktX2_matchOf_1 : List UInt8 := dkwX2_matchOf_1 ++ []
def dkwX2_matchOf_0 : List UInt8 := [42, 182, 0, 167, 42, 27, 182, 1, 18, 154, 0, 9, 42, 4, 182, 0, 170, 172, 42, 182, 1, 133, 42]
abbrev dktX2_matchOf_0 : List UInt8 := dkwX2_matchOf_0 ++ dktX2_matchOf_1
theorem dksX2_matchOf_0 : cX2_matchOf.data.toList.drop 0 = dktX2_matchOf_0 := by decide +kernel
theorem dksX2_matchOf_1 : cX2_matchOf.data.toList.drop 23 = dktX2_matchOf_1 := dk_seg dksX2_matchOf_0 23 rfl rfl
theorem dX2_matchOf_0 : decode cX2_matchOf 0 = .ok (.aload_n 0, 1) := dk_42 (dk_at dksX2_matchOf_0 0 rfl rfl)
theorem dX2_matchOf_1 : decode cX2_matchOf 1 = .ok (.invokevirtual 167, 3) := dk_182 0 167 (dk_at dksX2_matchOf_0 1 rfl rfl)
theorem dX2_matchOf_4 : decode cX2_matchOf 4 = .ok (.aload_n 0, 1) := dk_42 (dk_at dksX2_matchOf_0 4 rfl rfl)
theorem dX2_matchOf_5 : decode cX2_matchOf 5 = .ok (.iload_n 1, 1) := dk_27 (dk_at dksX2_matchOf_0 5 rfl rfl)
theorem dX2_matchOf_6 : decode cX2_matchOf 6 = .ok (.invokevirtual 274, 3) := dk_182 1 18 (dk_at dksX2_matchOf_0 6 rfl rfl)
theorem dX2_matchOf_9 : decode cX2_matchOf 9 = .ok (.ifCond .ne 9, 3) := dk_154 0 9 (dk_at dksX2_matchOf_0 9 rfl rfl)
theorem dX2_matchOf_12 : decode cX2_matchOf 12 = .ok (.aload_n 0, 1) := dk_42 (dk_at dksX2_matchOf_0 12 rfl rfl)
theorem dX2_matchOf_13 : decode cX2_matchOf 13 = .ok (.iconst 1, 1) := dk_4 (dk_at dksX2_matchOf_0 13 rfl rfl)
theorem dX2_matchOf_14 : decode cX2_matchOf 14 = .ok (.invokevirtual 170, 3) := dk_182 0 170 (dk_at dksX2_matchOf_0 14 rfl rfl)
theorem dX2_matchOf_17 : decode cX2_matchOf 17 = .ok (.ireturn, 1) := dk_172 (dk_at dksX2_matchOf_0 17 rfl rfl)
theorem dX2_matchOf_18 : decode cX2_matchOf 18 = .ok (.aload_n 0, 1) := dk_42 (dk_at dksX2_matchOf_0 18 rfl rfl)
theorem dX2_matchOf_19 : decode cX2_matchOf 19 = .ok (.invokevirtual 389, 3) := dk_182 1 133 (dk_at dksX2_matchOf_0 19 rfl rfl)
theorem dX2_matchOf_22 : decode cX2_matchOf 22 = .ok (.aload_n 0, 1) := dk_42 (dk_at dksX2_matchOf_0 22 rfl rfl)
theorem dX2_matchOf_23 : decode cX2_matchOf 23 = .ok (.getfield 47, 3) := dk_180 0 47 (dk_at dksX2_matchOf_1 0 rfl rfl)
theorem dX2_matchOf_26 : decode cX2_matchOf 26 = .ok (.iload_n 1, 1) := dk_27 (dk_at dksX2_matchOf_1 3 rfl rfl)
theorem dX2_matchOf_27 : decode cX2_matchOf 27 = .ok (.iaload, 1) := dk_46 (dk_at dksX2_matchOf_1 4 rfl rfl)
theorem dX2_matchOf_28 : decode cX2_matchOf 28 = .ok (.ireturn, 1) := dk_172 (dk_at dksX2_matchOf_1 5 rfl rfl)
abbrev cX2_meet : ByteArray := prog_16_method_101_code
def yX2_meet : MethodName := ⟨RX2, "meet", "(IIII)I"⟩
def dkwX2_meet_6 : List UInt8 := [21, 7, 42, 180, 1, 105, 162, 0, 8, 21, 7, 167, 0, 5, 16, 254, 172]
abbrev dktX2_meet_6 : List UInt8 := dkwX2_meet_6 ++ []
def dkwX2_meet_5 : List UInt8 := [159, 0, 6, 16, 254, 172, 21, 5, 42, 180, 1, 102, 184, 1, 99, 54, 7, 21, 7, 21, 6, 162, 0, 17]
abbrev dktX2_meet_5 : List UInt8 := dkwX2_meet_5 ++ dktX2_meet_6
def dkwX2_meet_4 : List UInt8 := [182, 1, 39, 42, 29, 3, 182, 1, 6, 160, 0, 17, 42, 29, 182, 1, 39, 42, 27, 3, 182, 1, 6]
abbrev dktX2_meet_4 : List UInt8 := dkwX2_meet_4 ++ dktX2_meet_5
def dkwX2_meet_3 : List UInt8 := [180, 1, 102, 54, 5, 42, 180, 1, 105, 54, 6, 42, 21, 4, 29, 182, 1, 108, 153, 0, 31, 42, 27]
abbrev dktX2_meet_3 : List UInt8 := dkwX2_meet_3 ++ dktX2_meet_4
def dkwX2_meet_2 : List UInt8 := [160, 0, 9, 42, 4, 182, 0, 170, 172, 42, 28, 27, 182, 1, 108, 154, 0, 6, 16, 254, 172, 42]
abbrev dktX2_meet_2 : List UInt8 := dkwX2_meet_2 ++ dktX2_meet_3
def dkwX2_meet_1 : List UInt8 := [182, 1, 12, 153, 0, 23, 42, 21, 4, 182, 1, 12, 153, 0, 14, 27, 29, 159, 0, 9, 28, 21, 4]
abbrev dktX2_meet_1 : List UInt8 := dkwX2_meet_1 ++ dktX2_meet_2
def dkwX2_meet_0 : List UInt8 := [42, 182, 0, 167, 42, 27, 182, 1, 18, 153, 0, 39, 42, 29, 182, 1, 18, 153, 0, 31, 42, 28]
abbrev dktX2_meet_0 : List UInt8 := dkwX2_meet_0 ++ dktX2_meet_1
theorem dksX2_meet_0 : cX2_meet.data.toList.drop 0 = dktX2_meet_0 := by decide +kernel
theorem dksX2_meet_1 : cX2_meet.data.toList.drop 22 = dktX2_meet_1 := dk_seg dksX2_meet_0 22 rfl rfl
theorem dksX2_meet_2 : cX2_meet.data.toList.drop 45 = dktX2_meet_2 := dk_seg dksX2_meet_1 23 rfl rfl
theorem dksX2_meet_3 : cX2_meet.data.toList.drop 67 = dktX2_meet_3 := dk_seg dksX2_meet_2 22 rfl rfl
theorem dksX2_meet_4 : cX2_meet.data.toList.drop 90 = dktX2_meet_4 := dk_seg dksX2_meet_3 23 rfl rfl
theorem dksX2_meet_5 : cX2_meet.data.toList.drop 113 = dktX2_meet_5 := dk_seg dksX2_meet_4 23 rfl rfl
theorem dksX2_meet_6 : cX2_meet.data.toList.drop 137 = dktX2_meet_6 := dk_seg dksX2_meet_5 24 rfl rfl
theorem dX2_meet_0 : decode cX2_meet 0 = .ok (.aload_n 0, 1) := dk_42 (dk_at dksX2_meet_0 0 rfl rfl)
theorem dX2_meet_1 : decode cX2_meet 1 = .ok (.invokevirtual 167, 3) := dk_182 0 167 (dk_at dksX2_meet_0 1 rfl rfl)
theorem dX2_meet_4 : decode cX2_meet 4 = .ok (.aload_n 0, 1) := dk_42 (dk_at dksX2_meet_0 4 rfl rfl)
theorem dX2_meet_5 : decode cX2_meet 5 = .ok (.iload_n 1, 1) := dk_27 (dk_at dksX2_meet_0 5 rfl rfl)
theorem dX2_meet_6 : decode cX2_meet 6 = .ok (.invokevirtual 274, 3) := dk_182 1 18 (dk_at dksX2_meet_0 6 rfl rfl)
theorem dX2_meet_9 : decode cX2_meet 9 = .ok (.ifCond .eq 39, 3) := dk_153 0 39 (dk_at dksX2_meet_0 9 rfl rfl)
theorem dX2_meet_12 : decode cX2_meet 12 = .ok (.aload_n 0, 1) := dk_42 (dk_at dksX2_meet_0 12 rfl rfl)
theorem dX2_meet_13 : decode cX2_meet 13 = .ok (.iload_n 3, 1) := dk_29 (dk_at dksX2_meet_0 13 rfl rfl)
theorem dX2_meet_14 : decode cX2_meet 14 = .ok (.invokevirtual 274, 3) := dk_182 1 18 (dk_at dksX2_meet_0 14 rfl rfl)
theorem dX2_meet_17 : decode cX2_meet 17 = .ok (.ifCond .eq 31, 3) := dk_153 0 31 (dk_at dksX2_meet_0 17 rfl rfl)
theorem dX2_meet_20 : decode cX2_meet 20 = .ok (.aload_n 0, 1) := dk_42 (dk_at dksX2_meet_0 20 rfl rfl)
theorem dX2_meet_21 : decode cX2_meet 21 = .ok (.iload_n 2, 1) := dk_28 (dk_at dksX2_meet_0 21 rfl rfl)
theorem dX2_meet_22 : decode cX2_meet 22 = .ok (.invokevirtual 268, 3) := dk_182 1 12 (dk_at dksX2_meet_1 0 rfl rfl)
theorem dX2_meet_25 : decode cX2_meet 25 = .ok (.ifCond .eq 23, 3) := dk_153 0 23 (dk_at dksX2_meet_1 3 rfl rfl)
theorem dX2_meet_28 : decode cX2_meet 28 = .ok (.aload_n 0, 1) := dk_42 (dk_at dksX2_meet_1 6 rfl rfl)
theorem dX2_meet_29 : decode cX2_meet 29 = .ok (.iload 4, 2) := dk_21 4 (dk_at dksX2_meet_1 7 rfl rfl)
theorem dX2_meet_31 : decode cX2_meet 31 = .ok (.invokevirtual 268, 3) := dk_182 1 12 (dk_at dksX2_meet_1 9 rfl rfl)
theorem dX2_meet_34 : decode cX2_meet 34 = .ok (.ifCond .eq 14, 3) := dk_153 0 14 (dk_at dksX2_meet_1 12 rfl rfl)
theorem dX2_meet_37 : decode cX2_meet 37 = .ok (.iload_n 1, 1) := dk_27 (dk_at dksX2_meet_1 15 rfl rfl)
theorem dX2_meet_38 : decode cX2_meet 38 = .ok (.iload_n 3, 1) := dk_29 (dk_at dksX2_meet_1 16 rfl rfl)
theorem dX2_meet_39 : decode cX2_meet 39 = .ok (.if_icmp .eq 9, 3) := dk_159 0 9 (dk_at dksX2_meet_1 17 rfl rfl)
theorem dX2_meet_42 : decode cX2_meet 42 = .ok (.iload_n 2, 1) := dk_28 (dk_at dksX2_meet_1 20 rfl rfl)
theorem dX2_meet_43 : decode cX2_meet 43 = .ok (.iload 4, 2) := dk_21 4 (dk_at dksX2_meet_1 21 rfl rfl)
theorem dX2_meet_45 : decode cX2_meet 45 = .ok (.if_icmp .ne 9, 3) := dk_160 0 9 (dk_at dksX2_meet_2 0 rfl rfl)
theorem dX2_meet_48 : decode cX2_meet 48 = .ok (.aload_n 0, 1) := dk_42 (dk_at dksX2_meet_2 3 rfl rfl)
theorem dX2_meet_49 : decode cX2_meet 49 = .ok (.iconst 1, 1) := dk_4 (dk_at dksX2_meet_2 4 rfl rfl)
theorem dX2_meet_50 : decode cX2_meet 50 = .ok (.invokevirtual 170, 3) := dk_182 0 170 (dk_at dksX2_meet_2 5 rfl rfl)
theorem dX2_meet_53 : decode cX2_meet 53 = .ok (.ireturn, 1) := dk_172 (dk_at dksX2_meet_2 8 rfl rfl)
theorem dX2_meet_54 : decode cX2_meet 54 = .ok (.aload_n 0, 1) := dk_42 (dk_at dksX2_meet_2 9 rfl rfl)
theorem dX2_meet_55 : decode cX2_meet 55 = .ok (.iload_n 2, 1) := dk_28 (dk_at dksX2_meet_2 10 rfl rfl)
theorem dX2_meet_56 : decode cX2_meet 56 = .ok (.iload_n 1, 1) := dk_27 (dk_at dksX2_meet_2 11 rfl rfl)
theorem dX2_meet_57 : decode cX2_meet 57 = .ok (.invokevirtual 364, 3) := dk_182 1 108 (dk_at dksX2_meet_2 12 rfl rfl)
theorem dX2_meet_60 : decode cX2_meet 60 = .ok (.ifCond .ne 6, 3) := dk_154 0 6 (dk_at dksX2_meet_2 15 rfl rfl)
theorem dX2_meet_63 : decode cX2_meet 63 = .ok (.bipush (-2), 2) := dk_16 254 (dk_at dksX2_meet_2 18 rfl rfl)
theorem dX2_meet_65 : decode cX2_meet 65 = .ok (.ireturn, 1) := dk_172 (dk_at dksX2_meet_2 20 rfl rfl)
theorem dX2_meet_66 : decode cX2_meet 66 = .ok (.aload_n 0, 1) := dk_42 (dk_at dksX2_meet_2 21 rfl rfl)
theorem dX2_meet_67 : decode cX2_meet 67 = .ok (.getfield 358, 3) := dk_180 1 102 (dk_at dksX2_meet_3 0 rfl rfl)
theorem dX2_meet_70 : decode cX2_meet 70 = .ok (.istore 5, 2) := dk_54 5 (dk_at dksX2_meet_3 3 rfl rfl)
theorem dX2_meet_72 : decode cX2_meet 72 = .ok (.aload_n 0, 1) := dk_42 (dk_at dksX2_meet_3 5 rfl rfl)
theorem dX2_meet_73 : decode cX2_meet 73 = .ok (.getfield 361, 3) := dk_180 1 105 (dk_at dksX2_meet_3 6 rfl rfl)
theorem dX2_meet_76 : decode cX2_meet 76 = .ok (.istore 6, 2) := dk_54 6 (dk_at dksX2_meet_3 9 rfl rfl)
theorem dX2_meet_78 : decode cX2_meet 78 = .ok (.aload_n 0, 1) := dk_42 (dk_at dksX2_meet_3 11 rfl rfl)
theorem dX2_meet_79 : decode cX2_meet 79 = .ok (.iload 4, 2) := dk_21 4 (dk_at dksX2_meet_3 12 rfl rfl)
theorem dX2_meet_81 : decode cX2_meet 81 = .ok (.iload_n 3, 1) := dk_29 (dk_at dksX2_meet_3 14 rfl rfl)
theorem dX2_meet_82 : decode cX2_meet 82 = .ok (.invokevirtual 364, 3) := dk_182 1 108 (dk_at dksX2_meet_3 15 rfl rfl)
theorem dX2_meet_85 : decode cX2_meet 85 = .ok (.ifCond .eq 31, 3) := dk_153 0 31 (dk_at dksX2_meet_3 18 rfl rfl)
theorem dX2_meet_88 : decode cX2_meet 88 = .ok (.aload_n 0, 1) := dk_42 (dk_at dksX2_meet_3 21 rfl rfl)
theorem dX2_meet_89 : decode cX2_meet 89 = .ok (.iload_n 1, 1) := dk_27 (dk_at dksX2_meet_3 22 rfl rfl)
theorem dX2_meet_90 : decode cX2_meet 90 = .ok (.invokevirtual 295, 3) := dk_182 1 39 (dk_at dksX2_meet_4 0 rfl rfl)
theorem dX2_meet_93 : decode cX2_meet 93 = .ok (.aload_n 0, 1) := dk_42 (dk_at dksX2_meet_4 3 rfl rfl)
theorem dX2_meet_94 : decode cX2_meet 94 = .ok (.iload_n 3, 1) := dk_29 (dk_at dksX2_meet_4 4 rfl rfl)
theorem dX2_meet_95 : decode cX2_meet 95 = .ok (.iconst 0, 1) := dk_3 (dk_at dksX2_meet_4 5 rfl rfl)
theorem dX2_meet_96 : decode cX2_meet 96 = .ok (.invokevirtual 262, 3) := dk_182 1 6 (dk_at dksX2_meet_4 6 rfl rfl)
theorem dX2_meet_99 : decode cX2_meet 99 = .ok (.if_icmp .ne 17, 3) := dk_160 0 17 (dk_at dksX2_meet_4 9 rfl rfl)
theorem dX2_meet_102 : decode cX2_meet 102 = .ok (.aload_n 0, 1) := dk_42 (dk_at dksX2_meet_4 12 rfl rfl)
theorem dX2_meet_103 : decode cX2_meet 103 = .ok (.iload_n 3, 1) := dk_29 (dk_at dksX2_meet_4 13 rfl rfl)
theorem dX2_meet_104 : decode cX2_meet 104 = .ok (.invokevirtual 295, 3) := dk_182 1 39 (dk_at dksX2_meet_4 14 rfl rfl)
theorem dX2_meet_107 : decode cX2_meet 107 = .ok (.aload_n 0, 1) := dk_42 (dk_at dksX2_meet_4 17 rfl rfl)
theorem dX2_meet_108 : decode cX2_meet 108 = .ok (.iload_n 1, 1) := dk_27 (dk_at dksX2_meet_4 18 rfl rfl)
theorem dX2_meet_109 : decode cX2_meet 109 = .ok (.iconst 0, 1) := dk_3 (dk_at dksX2_meet_4 19 rfl rfl)
theorem dX2_meet_110 : decode cX2_meet 110 = .ok (.invokevirtual 262, 3) := dk_182 1 6 (dk_at dksX2_meet_4 20 rfl rfl)
theorem dX2_meet_113 : decode cX2_meet 113 = .ok (.if_icmp .eq 6, 3) := dk_159 0 6 (dk_at dksX2_meet_5 0 rfl rfl)
theorem dX2_meet_116 : decode cX2_meet 116 = .ok (.bipush (-2), 2) := dk_16 254 (dk_at dksX2_meet_5 3 rfl rfl)
theorem dX2_meet_118 : decode cX2_meet 118 = .ok (.ireturn, 1) := dk_172 (dk_at dksX2_meet_5 5 rfl rfl)
theorem dX2_meet_119 : decode cX2_meet 119 = .ok (.iload 5, 2) := dk_21 5 (dk_at dksX2_meet_5 6 rfl rfl)
theorem dX2_meet_121 : decode cX2_meet 121 = .ok (.aload_n 0, 1) := dk_42 (dk_at dksX2_meet_5 8 rfl rfl)
theorem dX2_meet_122 : decode cX2_meet 122 = .ok (.getfield 358, 3) := dk_180 1 102 (dk_at dksX2_meet_5 9 rfl rfl)
theorem dX2_meet_125 : decode cX2_meet 125 = .ok (.invokestatic 355, 3) := dk_184 1 99 (dk_at dksX2_meet_5 12 rfl rfl)
theorem dX2_meet_128 : decode cX2_meet 128 = .ok (.istore 7, 2) := dk_54 7 (dk_at dksX2_meet_5 15 rfl rfl)
theorem dX2_meet_130 : decode cX2_meet 130 = .ok (.iload 7, 2) := dk_21 7 (dk_at dksX2_meet_5 17 rfl rfl)
theorem dX2_meet_132 : decode cX2_meet 132 = .ok (.iload 6, 2) := dk_21 6 (dk_at dksX2_meet_5 19 rfl rfl)
theorem dX2_meet_134 : decode cX2_meet 134 = .ok (.if_icmp .ge 17, 3) := dk_162 0 17 (dk_at dksX2_meet_5 21 rfl rfl)
theorem dX2_meet_137 : decode cX2_meet 137 = .ok (.iload 7, 2) := dk_21 7 (dk_at dksX2_meet_6 0 rfl rfl)
theorem dX2_meet_139 : decode cX2_meet 139 = .ok (.aload_n 0, 1) := dk_42 (dk_at dksX2_meet_6 2 rfl rfl)
theorem dX2_meet_140 : decode cX2_meet 140 = .ok (.getfield 361, 3) := dk_180 1 105 (dk_at dksX2_meet_6 3 rfl rfl)
theorem dX2_meet_143 : decode cX2_meet 143 = .ok (.if_icmp .ge 8, 3) := dk_162 0 8 (dk_at dksX2_meet_6 6 rfl rfl)
theorem dX2_meet_146 : decode cX2_meet 146 = .ok (.iload 7, 2) := dk_21 7 (dk_at dksX2_meet_6 9 rfl rfl)
theorem dX2_meet_148 : decode cX2_meet 148 = .ok (.goto 5, 3) := dk_167 0 5 (dk_at dksX2_meet_6 11 rfl rfl)
theorem dX2_meet_151 : decode cX2_meet 151 = .ok (.bipush (-2), 2) := dk_16 254 (dk_at dksX2_meet_6 14 rfl rfl)
theorem dX2_meet_153 : decode cX2_meet 153 = .ok (.ireturn, 1) := dk_172 (dk_at dksX2_meet_6 16 rfl rfl)
abbrev cX2_fits : ByteArray := prog_16_method_103_code
def yX2_fits : MethodName := ⟨RX2, "fits", "()I"⟩
def dkwX2_fits_2 : List UInt8 := [3, 128, 60, 132, 2, 1, 167, 255, 224, 27, 172]
abbrev dktX2_fits_2 : List UInt8 := dkwX2_fits_2 ++ []
def dkwX2_fits_1 : List UInt8 := [180, 0, 20, 16, 6, 46, 162, 0, 27, 27, 42, 28, 182, 1, 142, 153, 0, 9, 4, 28, 120, 167, 0, 4]
abbrev dktX2_fits_1 : List UInt8 := dkwX2_fits_1 ++ dktX2_fits_2
def dkwX2_fits_0 : List UInt8 := [42, 182, 0, 167, 42, 180, 0, 180, 154, 0, 9, 42, 4, 182, 0, 170, 172, 3, 60, 3, 61, 28, 42]
abbrev dktX2_fits_0 : List UInt8 := dkwX2_fits_0 ++ dktX2_fits_1
theorem dksX2_fits_0 : cX2_fits.data.toList.drop 0 = dktX2_fits_0 := by decide +kernel
theorem dksX2_fits_1 : cX2_fits.data.toList.drop 23 = dktX2_fits_1 := dk_seg dksX2_fits_0 23 rfl rfl
theorem dksX2_fits_2 : cX2_fits.data.toList.drop 47 = dktX2_fits_2 := dk_seg dksX2_fits_1 24 rfl rfl
theorem dX2_fits_0 : decode cX2_fits 0 = .ok (.aload_n 0, 1) := dk_42 (dk_at dksX2_fits_0 0 rfl rfl)
theorem dX2_fits_1 : decode cX2_fits 1 = .ok (.invokevirtual 167, 3) := dk_182 0 167 (dk_at dksX2_fits_0 1 rfl rfl)
theorem dX2_fits_4 : decode cX2_fits 4 = .ok (.aload_n 0, 1) := dk_42 (dk_at dksX2_fits_0 4 rfl rfl)
theorem dX2_fits_5 : decode cX2_fits 5 = .ok (.getfield 180, 3) := dk_180 0 180 (dk_at dksX2_fits_0 5 rfl rfl)
theorem dX2_fits_8 : decode cX2_fits 8 = .ok (.ifCond .ne 9, 3) := dk_154 0 9 (dk_at dksX2_fits_0 8 rfl rfl)
theorem dX2_fits_11 : decode cX2_fits 11 = .ok (.aload_n 0, 1) := dk_42 (dk_at dksX2_fits_0 11 rfl rfl)
theorem dX2_fits_12 : decode cX2_fits 12 = .ok (.iconst 1, 1) := dk_4 (dk_at dksX2_fits_0 12 rfl rfl)
theorem dX2_fits_13 : decode cX2_fits 13 = .ok (.invokevirtual 170, 3) := dk_182 0 170 (dk_at dksX2_fits_0 13 rfl rfl)
theorem dX2_fits_16 : decode cX2_fits 16 = .ok (.ireturn, 1) := dk_172 (dk_at dksX2_fits_0 16 rfl rfl)
theorem dX2_fits_17 : decode cX2_fits 17 = .ok (.iconst 0, 1) := dk_3 (dk_at dksX2_fits_0 17 rfl rfl)
theorem dX2_fits_18 : decode cX2_fits 18 = .ok (.istore_n 1, 1) := dk_60 (dk_at dksX2_fits_0 18 rfl rfl)
theorem dX2_fits_19 : decode cX2_fits 19 = .ok (.iconst 0, 1) := dk_3 (dk_at dksX2_fits_0 19 rfl rfl)
theorem dX2_fits_20 : decode cX2_fits 20 = .ok (.istore_n 2, 1) := dk_61 (dk_at dksX2_fits_0 20 rfl rfl)
theorem dX2_fits_21 : decode cX2_fits 21 = .ok (.iload_n 2, 1) := dk_28 (dk_at dksX2_fits_0 21 rfl rfl)
theorem dX2_fits_22 : decode cX2_fits 22 = .ok (.aload_n 0, 1) := dk_42 (dk_at dksX2_fits_0 22 rfl rfl)
theorem dX2_fits_23 : decode cX2_fits 23 = .ok (.getfield 20, 3) := dk_180 0 20 (dk_at dksX2_fits_1 0 rfl rfl)
theorem dX2_fits_26 : decode cX2_fits 26 = .ok (.bipush 6, 2) := dk_16 6 (dk_at dksX2_fits_1 3 rfl rfl)
theorem dX2_fits_28 : decode cX2_fits 28 = .ok (.iaload, 1) := dk_46 (dk_at dksX2_fits_1 5 rfl rfl)
theorem dX2_fits_29 : decode cX2_fits 29 = .ok (.if_icmp .ge 27, 3) := dk_162 0 27 (dk_at dksX2_fits_1 6 rfl rfl)
theorem dX2_fits_32 : decode cX2_fits 32 = .ok (.iload_n 1, 1) := dk_27 (dk_at dksX2_fits_1 9 rfl rfl)
theorem dX2_fits_33 : decode cX2_fits 33 = .ok (.aload_n 0, 1) := dk_42 (dk_at dksX2_fits_1 10 rfl rfl)
theorem dX2_fits_34 : decode cX2_fits 34 = .ok (.iload_n 2, 1) := dk_28 (dk_at dksX2_fits_1 11 rfl rfl)
theorem dX2_fits_35 : decode cX2_fits 35 = .ok (.invokevirtual 398, 3) := dk_182 1 142 (dk_at dksX2_fits_1 12 rfl rfl)
theorem dX2_fits_38 : decode cX2_fits 38 = .ok (.ifCond .eq 9, 3) := dk_153 0 9 (dk_at dksX2_fits_1 15 rfl rfl)
theorem dX2_fits_41 : decode cX2_fits 41 = .ok (.iconst 1, 1) := dk_4 (dk_at dksX2_fits_1 18 rfl rfl)
theorem dX2_fits_42 : decode cX2_fits 42 = .ok (.iload_n 2, 1) := dk_28 (dk_at dksX2_fits_1 19 rfl rfl)
theorem dX2_fits_43 : decode cX2_fits 43 = .ok (.ishl, 1) := dk_120 (dk_at dksX2_fits_1 20 rfl rfl)
theorem dX2_fits_44 : decode cX2_fits 44 = .ok (.goto 4, 3) := dk_167 0 4 (dk_at dksX2_fits_1 21 rfl rfl)
theorem dX2_fits_47 : decode cX2_fits 47 = .ok (.iconst 0, 1) := dk_3 (dk_at dksX2_fits_2 0 rfl rfl)
theorem dX2_fits_48 : decode cX2_fits 48 = .ok (.ior, 1) := dk_128 (dk_at dksX2_fits_2 1 rfl rfl)
theorem dX2_fits_49 : decode cX2_fits 49 = .ok (.istore_n 1, 1) := dk_60 (dk_at dksX2_fits_2 2 rfl rfl)
theorem dX2_fits_50 : decode cX2_fits 50 = .ok (.iinc 2 1, 3) := dk_132 2 1 (dk_at dksX2_fits_2 3 rfl rfl)
theorem dX2_fits_53 : decode cX2_fits 53 = .ok (.goto (-32), 3) := dk_167 255 224 (dk_at dksX2_fits_2 6 rfl rfl)
theorem dX2_fits_56 : decode cX2_fits 56 = .ok (.iload_n 1, 1) := dk_27 (dk_at dksX2_fits_2 9 rfl rfl)
theorem dX2_fits_57 : decode cX2_fits 57 = .ok (.ireturn, 1) := dk_172 (dk_at dksX2_fits_2 10 rfl rfl)
abbrev cX2_fitsAll : ByteArray := prog_16_method_102_code
def yX2_fitsAll : MethodName := ⟨RX2, "fitsAll", "(I)Z"⟩
def dkwX2_fitsAll_6 : List UInt8 := [172]
abbrev dktX2_fitsAll_6 : List UInt8 := dkwX2_fitsAll_6 ++ []
def dkwX2_fitsAll_5 : List UInt8 := [167, 0, 4, 3, 61, 42, 21, 4, 181, 1, 136, 42, 21, 5, 181, 1, 139, 132, 3, 1, 167, 255, 140, 28]
abbrev dktX2_fitsAll_5 : List UInt8 := dkwX2_fitsAll_5 ++ dktX2_fitsAll_6
def dkwX2_fitsAll_4 : List UInt8 := [180, 1, 136, 21, 4, 42, 180, 1, 139, 182, 1, 96, 3, 21, 5, 184, 0, 149, 153, 0, 7, 4]
abbrev dktX2_fitsAll_4 : List UInt8 := dkwX2_fitsAll_4 ++ dktX2_fitsAll_5
def dkwX2_fitsAll_3 : List UInt8 := [17, 0, 159, 6, 29, 104, 96, 5, 96, 46, 54, 5, 28, 153, 0, 36, 42, 42, 27, 3, 182, 1, 15, 42]
abbrev dktX2_fitsAll_3 : List UInt8 := dkwX2_fitsAll_3 ++ dktX2_fitsAll_4
def dkwX2_fitsAll_2 : List UInt8 := [167, 0, 86, 42, 180, 0, 20, 17, 0, 159, 6, 29, 104, 96, 4, 96, 46, 54, 4, 42, 180, 0, 20]
abbrev dktX2_fitsAll_2 : List UInt8 := dkwX2_fitsAll_2 ++ dktX2_fitsAll_3
def dkwX2_fitsAll_1 : List UInt8 := [16, 8, 46, 162, 0, 111, 42, 180, 0, 20, 17, 0, 159, 6, 29, 104, 96, 46, 27, 159, 0, 6]
abbrev dktX2_fitsAll_1 : List UInt8 := dkwX2_fitsAll_1 ++ dktX2_fitsAll_2
def dkwX2_fitsAll_0 : List UInt8 := [42, 42, 27, 4, 182, 1, 15, 181, 1, 136, 42, 3, 181, 1, 139, 4, 61, 3, 62, 29, 42, 180, 0, 20]
abbrev dktX2_fitsAll_0 : List UInt8 := dkwX2_fitsAll_0 ++ dktX2_fitsAll_1
theorem dksX2_fitsAll_0 : cX2_fitsAll.data.toList.drop 0 = dktX2_fitsAll_0 := by decide +kernel
theorem dksX2_fitsAll_1 : cX2_fitsAll.data.toList.drop 24 = dktX2_fitsAll_1 := dk_seg dksX2_fitsAll_0 24 rfl rfl
theorem dksX2_fitsAll_2 : cX2_fitsAll.data.toList.drop 46 = dktX2_fitsAll_2 := dk_seg dksX2_fitsAll_1 22 rfl rfl
theorem dksX2_fitsAll_3 : cX2_fitsAll.data.toList.drop 69 = dktX2_fitsAll_3 := dk_seg dksX2_fitsAll_2 23 rfl rfl
theorem dksX2_fitsAll_4 : cX2_fitsAll.data.toList.drop 93 = dktX2_fitsAll_4 := dk_seg dksX2_fitsAll_3 24 rfl rfl
theorem dksX2_fitsAll_5 : cX2_fitsAll.data.toList.drop 115 = dktX2_fitsAll_5 := dk_seg dksX2_fitsAll_4 22 rfl rfl
theorem dksX2_fitsAll_6 : cX2_fitsAll.data.toList.drop 139 = dktX2_fitsAll_6 := dk_seg dksX2_fitsAll_5 24 rfl rfl
theorem dX2_fitsAll_0 : decode cX2_fitsAll 0 = .ok (.aload_n 0, 1) := dk_42 (dk_at dksX2_fitsAll_0 0 rfl rfl)
theorem dX2_fitsAll_1 : decode cX2_fitsAll 1 = .ok (.aload_n 0, 1) := dk_42 (dk_at dksX2_fitsAll_0 1 rfl rfl)
theorem dX2_fitsAll_2 : decode cX2_fitsAll 2 = .ok (.iload_n 1, 1) := dk_27 (dk_at dksX2_fitsAll_0 2 rfl rfl)
theorem dX2_fitsAll_3 : decode cX2_fitsAll 3 = .ok (.iconst 1, 1) := dk_4 (dk_at dksX2_fitsAll_0 3 rfl rfl)
theorem dX2_fitsAll_4 : decode cX2_fitsAll 4 = .ok (.invokevirtual 271, 3) := dk_182 1 15 (dk_at dksX2_fitsAll_0 4 rfl rfl)
theorem dX2_fitsAll_7 : decode cX2_fitsAll 7 = .ok (.putfield 392, 3) := dk_181 1 136 (dk_at dksX2_fitsAll_0 7 rfl rfl)
theorem dX2_fitsAll_10 : decode cX2_fitsAll 10 = .ok (.aload_n 0, 1) := dk_42 (dk_at dksX2_fitsAll_0 10 rfl rfl)
theorem dX2_fitsAll_11 : decode cX2_fitsAll 11 = .ok (.iconst 0, 1) := dk_3 (dk_at dksX2_fitsAll_0 11 rfl rfl)
theorem dX2_fitsAll_12 : decode cX2_fitsAll 12 = .ok (.putfield 395, 3) := dk_181 1 139 (dk_at dksX2_fitsAll_0 12 rfl rfl)
theorem dX2_fitsAll_15 : decode cX2_fitsAll 15 = .ok (.iconst 1, 1) := dk_4 (dk_at dksX2_fitsAll_0 15 rfl rfl)
theorem dX2_fitsAll_16 : decode cX2_fitsAll 16 = .ok (.istore_n 2, 1) := dk_61 (dk_at dksX2_fitsAll_0 16 rfl rfl)
theorem dX2_fitsAll_17 : decode cX2_fitsAll 17 = .ok (.iconst 0, 1) := dk_3 (dk_at dksX2_fitsAll_0 17 rfl rfl)
theorem dX2_fitsAll_18 : decode cX2_fitsAll 18 = .ok (.istore_n 3, 1) := dk_62 (dk_at dksX2_fitsAll_0 18 rfl rfl)
theorem dX2_fitsAll_19 : decode cX2_fitsAll 19 = .ok (.iload_n 3, 1) := dk_29 (dk_at dksX2_fitsAll_0 19 rfl rfl)
theorem dX2_fitsAll_20 : decode cX2_fitsAll 20 = .ok (.aload_n 0, 1) := dk_42 (dk_at dksX2_fitsAll_0 20 rfl rfl)
theorem dX2_fitsAll_21 : decode cX2_fitsAll 21 = .ok (.getfield 20, 3) := dk_180 0 20 (dk_at dksX2_fitsAll_0 21 rfl rfl)
theorem dX2_fitsAll_24 : decode cX2_fitsAll 24 = .ok (.bipush 8, 2) := dk_16 8 (dk_at dksX2_fitsAll_1 0 rfl rfl)
theorem dX2_fitsAll_26 : decode cX2_fitsAll 26 = .ok (.iaload, 1) := dk_46 (dk_at dksX2_fitsAll_1 2 rfl rfl)
theorem dX2_fitsAll_27 : decode cX2_fitsAll 27 = .ok (.if_icmp .ge 111, 3) := dk_162 0 111 (dk_at dksX2_fitsAll_1 3 rfl rfl)
theorem dX2_fitsAll_30 : decode cX2_fitsAll 30 = .ok (.aload_n 0, 1) := dk_42 (dk_at dksX2_fitsAll_1 6 rfl rfl)
theorem dX2_fitsAll_31 : decode cX2_fitsAll 31 = .ok (.getfield 20, 3) := dk_180 0 20 (dk_at dksX2_fitsAll_1 7 rfl rfl)
theorem dX2_fitsAll_34 : decode cX2_fitsAll 34 = .ok (.sipush 159, 3) := dk_17 0 159 (dk_at dksX2_fitsAll_1 10 rfl rfl)
theorem dX2_fitsAll_37 : decode cX2_fitsAll 37 = .ok (.iconst 3, 1) := dk_6 (dk_at dksX2_fitsAll_1 13 rfl rfl)
theorem dX2_fitsAll_38 : decode cX2_fitsAll 38 = .ok (.iload_n 3, 1) := dk_29 (dk_at dksX2_fitsAll_1 14 rfl rfl)
theorem dX2_fitsAll_39 : decode cX2_fitsAll 39 = .ok (.imul, 1) := dk_104 (dk_at dksX2_fitsAll_1 15 rfl rfl)
theorem dX2_fitsAll_40 : decode cX2_fitsAll 40 = .ok (.iadd, 1) := dk_96 (dk_at dksX2_fitsAll_1 16 rfl rfl)
theorem dX2_fitsAll_41 : decode cX2_fitsAll 41 = .ok (.iaload, 1) := dk_46 (dk_at dksX2_fitsAll_1 17 rfl rfl)
theorem dX2_fitsAll_42 : decode cX2_fitsAll 42 = .ok (.iload_n 1, 1) := dk_27 (dk_at dksX2_fitsAll_1 18 rfl rfl)
theorem dX2_fitsAll_43 : decode cX2_fitsAll 43 = .ok (.if_icmp .eq 6, 3) := dk_159 0 6 (dk_at dksX2_fitsAll_1 19 rfl rfl)
theorem dX2_fitsAll_46 : decode cX2_fitsAll 46 = .ok (.goto 86, 3) := dk_167 0 86 (dk_at dksX2_fitsAll_2 0 rfl rfl)
theorem dX2_fitsAll_49 : decode cX2_fitsAll 49 = .ok (.aload_n 0, 1) := dk_42 (dk_at dksX2_fitsAll_2 3 rfl rfl)
theorem dX2_fitsAll_50 : decode cX2_fitsAll 50 = .ok (.getfield 20, 3) := dk_180 0 20 (dk_at dksX2_fitsAll_2 4 rfl rfl)
theorem dX2_fitsAll_53 : decode cX2_fitsAll 53 = .ok (.sipush 159, 3) := dk_17 0 159 (dk_at dksX2_fitsAll_2 7 rfl rfl)
theorem dX2_fitsAll_56 : decode cX2_fitsAll 56 = .ok (.iconst 3, 1) := dk_6 (dk_at dksX2_fitsAll_2 10 rfl rfl)
theorem dX2_fitsAll_57 : decode cX2_fitsAll 57 = .ok (.iload_n 3, 1) := dk_29 (dk_at dksX2_fitsAll_2 11 rfl rfl)
theorem dX2_fitsAll_58 : decode cX2_fitsAll 58 = .ok (.imul, 1) := dk_104 (dk_at dksX2_fitsAll_2 12 rfl rfl)
theorem dX2_fitsAll_59 : decode cX2_fitsAll 59 = .ok (.iadd, 1) := dk_96 (dk_at dksX2_fitsAll_2 13 rfl rfl)
theorem dX2_fitsAll_60 : decode cX2_fitsAll 60 = .ok (.iconst 1, 1) := dk_4 (dk_at dksX2_fitsAll_2 14 rfl rfl)
theorem dX2_fitsAll_61 : decode cX2_fitsAll 61 = .ok (.iadd, 1) := dk_96 (dk_at dksX2_fitsAll_2 15 rfl rfl)
theorem dX2_fitsAll_62 : decode cX2_fitsAll 62 = .ok (.iaload, 1) := dk_46 (dk_at dksX2_fitsAll_2 16 rfl rfl)
theorem dX2_fitsAll_63 : decode cX2_fitsAll 63 = .ok (.istore 4, 2) := dk_54 4 (dk_at dksX2_fitsAll_2 17 rfl rfl)
theorem dX2_fitsAll_65 : decode cX2_fitsAll 65 = .ok (.aload_n 0, 1) := dk_42 (dk_at dksX2_fitsAll_2 19 rfl rfl)
theorem dX2_fitsAll_66 : decode cX2_fitsAll 66 = .ok (.getfield 20, 3) := dk_180 0 20 (dk_at dksX2_fitsAll_2 20 rfl rfl)
theorem dX2_fitsAll_69 : decode cX2_fitsAll 69 = .ok (.sipush 159, 3) := dk_17 0 159 (dk_at dksX2_fitsAll_3 0 rfl rfl)
theorem dX2_fitsAll_72 : decode cX2_fitsAll 72 = .ok (.iconst 3, 1) := dk_6 (dk_at dksX2_fitsAll_3 3 rfl rfl)
theorem dX2_fitsAll_73 : decode cX2_fitsAll 73 = .ok (.iload_n 3, 1) := dk_29 (dk_at dksX2_fitsAll_3 4 rfl rfl)
theorem dX2_fitsAll_74 : decode cX2_fitsAll 74 = .ok (.imul, 1) := dk_104 (dk_at dksX2_fitsAll_3 5 rfl rfl)
theorem dX2_fitsAll_75 : decode cX2_fitsAll 75 = .ok (.iadd, 1) := dk_96 (dk_at dksX2_fitsAll_3 6 rfl rfl)
theorem dX2_fitsAll_76 : decode cX2_fitsAll 76 = .ok (.iconst 2, 1) := dk_5 (dk_at dksX2_fitsAll_3 7 rfl rfl)
theorem dX2_fitsAll_77 : decode cX2_fitsAll 77 = .ok (.iadd, 1) := dk_96 (dk_at dksX2_fitsAll_3 8 rfl rfl)
theorem dX2_fitsAll_78 : decode cX2_fitsAll 78 = .ok (.iaload, 1) := dk_46 (dk_at dksX2_fitsAll_3 9 rfl rfl)
theorem dX2_fitsAll_79 : decode cX2_fitsAll 79 = .ok (.istore 5, 2) := dk_54 5 (dk_at dksX2_fitsAll_3 10 rfl rfl)
theorem dX2_fitsAll_81 : decode cX2_fitsAll 81 = .ok (.iload_n 2, 1) := dk_28 (dk_at dksX2_fitsAll_3 12 rfl rfl)
theorem dX2_fitsAll_82 : decode cX2_fitsAll 82 = .ok (.ifCond .eq 36, 3) := dk_153 0 36 (dk_at dksX2_fitsAll_3 13 rfl rfl)
theorem dX2_fitsAll_85 : decode cX2_fitsAll 85 = .ok (.aload_n 0, 1) := dk_42 (dk_at dksX2_fitsAll_3 16 rfl rfl)
theorem dX2_fitsAll_86 : decode cX2_fitsAll 86 = .ok (.aload_n 0, 1) := dk_42 (dk_at dksX2_fitsAll_3 17 rfl rfl)
theorem dX2_fitsAll_87 : decode cX2_fitsAll 87 = .ok (.iload_n 1, 1) := dk_27 (dk_at dksX2_fitsAll_3 18 rfl rfl)
theorem dX2_fitsAll_88 : decode cX2_fitsAll 88 = .ok (.iconst 0, 1) := dk_3 (dk_at dksX2_fitsAll_3 19 rfl rfl)
theorem dX2_fitsAll_89 : decode cX2_fitsAll 89 = .ok (.invokevirtual 271, 3) := dk_182 1 15 (dk_at dksX2_fitsAll_3 20 rfl rfl)
theorem dX2_fitsAll_92 : decode cX2_fitsAll 92 = .ok (.aload_n 0, 1) := dk_42 (dk_at dksX2_fitsAll_3 23 rfl rfl)
theorem dX2_fitsAll_93 : decode cX2_fitsAll 93 = .ok (.getfield 392, 3) := dk_180 1 136 (dk_at dksX2_fitsAll_4 0 rfl rfl)
theorem dX2_fitsAll_96 : decode cX2_fitsAll 96 = .ok (.iload 4, 2) := dk_21 4 (dk_at dksX2_fitsAll_4 3 rfl rfl)
theorem dX2_fitsAll_98 : decode cX2_fitsAll 98 = .ok (.aload_n 0, 1) := dk_42 (dk_at dksX2_fitsAll_4 5 rfl rfl)
theorem dX2_fitsAll_99 : decode cX2_fitsAll 99 = .ok (.getfield 395, 3) := dk_180 1 139 (dk_at dksX2_fitsAll_4 6 rfl rfl)
theorem dX2_fitsAll_102 : decode cX2_fitsAll 102 = .ok (.invokevirtual 352, 3) := dk_182 1 96 (dk_at dksX2_fitsAll_4 9 rfl rfl)
theorem dX2_fitsAll_105 : decode cX2_fitsAll 105 = .ok (.iconst 0, 1) := dk_3 (dk_at dksX2_fitsAll_4 12 rfl rfl)
theorem dX2_fitsAll_106 : decode cX2_fitsAll 106 = .ok (.iload 5, 2) := dk_21 5 (dk_at dksX2_fitsAll_4 13 rfl rfl)
theorem dX2_fitsAll_108 : decode cX2_fitsAll 108 = .ok (.invokestatic 149, 3) := dk_184 0 149 (dk_at dksX2_fitsAll_4 15 rfl rfl)
theorem dX2_fitsAll_111 : decode cX2_fitsAll 111 = .ok (.ifCond .eq 7, 3) := dk_153 0 7 (dk_at dksX2_fitsAll_4 18 rfl rfl)
theorem dX2_fitsAll_114 : decode cX2_fitsAll 114 = .ok (.iconst 1, 1) := dk_4 (dk_at dksX2_fitsAll_4 21 rfl rfl)
theorem dX2_fitsAll_115 : decode cX2_fitsAll 115 = .ok (.goto 4, 3) := dk_167 0 4 (dk_at dksX2_fitsAll_5 0 rfl rfl)
theorem dX2_fitsAll_118 : decode cX2_fitsAll 118 = .ok (.iconst 0, 1) := dk_3 (dk_at dksX2_fitsAll_5 3 rfl rfl)
theorem dX2_fitsAll_119 : decode cX2_fitsAll 119 = .ok (.istore_n 2, 1) := dk_61 (dk_at dksX2_fitsAll_5 4 rfl rfl)
theorem dX2_fitsAll_120 : decode cX2_fitsAll 120 = .ok (.aload_n 0, 1) := dk_42 (dk_at dksX2_fitsAll_5 5 rfl rfl)
theorem dX2_fitsAll_121 : decode cX2_fitsAll 121 = .ok (.iload 4, 2) := dk_21 4 (dk_at dksX2_fitsAll_5 6 rfl rfl)
theorem dX2_fitsAll_123 : decode cX2_fitsAll 123 = .ok (.putfield 392, 3) := dk_181 1 136 (dk_at dksX2_fitsAll_5 8 rfl rfl)
theorem dX2_fitsAll_126 : decode cX2_fitsAll 126 = .ok (.aload_n 0, 1) := dk_42 (dk_at dksX2_fitsAll_5 11 rfl rfl)
theorem dX2_fitsAll_127 : decode cX2_fitsAll 127 = .ok (.iload 5, 2) := dk_21 5 (dk_at dksX2_fitsAll_5 12 rfl rfl)
theorem dX2_fitsAll_129 : decode cX2_fitsAll 129 = .ok (.putfield 395, 3) := dk_181 1 139 (dk_at dksX2_fitsAll_5 14 rfl rfl)
theorem dX2_fitsAll_132 : decode cX2_fitsAll 132 = .ok (.iinc 3 1, 3) := dk_132 3 1 (dk_at dksX2_fitsAll_5 17 rfl rfl)
theorem dX2_fitsAll_135 : decode cX2_fitsAll 135 = .ok (.goto (-116), 3) := dk_167 255 140 (dk_at dksX2_fitsAll_5 20 rfl rfl)
theorem dX2_fitsAll_138 : decode cX2_fitsAll 138 = .ok (.iload_n 2, 1) := dk_28 (dk_at dksX2_fitsAll_5 23 rfl rfl)
theorem dX2_fitsAll_139 : decode cX2_fitsAll 139 = .ok (.ireturn, 1) := dk_172 (dk_at dksX2_fitsAll_6 0 rfl rfl)
abbrev cX2_reach : ByteArray := prog_16_method_105_code
def yX2_reach : MethodName := ⟨RX2, "reach", "(II)I"⟩
def dkwX2_reach_1 : List UInt8 := [184, 0, 149, 153, 0, 12, 42, 27, 28, 182, 1, 145, 167, 0, 8, 42, 5, 182, 0, 170, 172]
abbrev dktX2_reach_1 : List UInt8 := dkwX2_reach_1 ++ []
def dkwX2_reach_0 : List UInt8 := [42, 182, 0, 167, 42, 27, 182, 1, 12, 154, 0, 9, 42, 4, 182, 0, 170, 172, 28, 3, 19, 1, 84]
abbrev dktX2_reach_0 : List UInt8 := dkwX2_reach_0 ++ dktX2_reach_1
theorem dksX2_reach_0 : cX2_reach.data.toList.drop 0 = dktX2_reach_0 := by decide +kernel
theorem dksX2_reach_1 : cX2_reach.data.toList.drop 23 = dktX2_reach_1 := dk_seg dksX2_reach_0 23 rfl rfl
theorem dX2_reach_0 : decode cX2_reach 0 = .ok (.aload_n 0, 1) := dk_42 (dk_at dksX2_reach_0 0 rfl rfl)
theorem dX2_reach_1 : decode cX2_reach 1 = .ok (.invokevirtual 167, 3) := dk_182 0 167 (dk_at dksX2_reach_0 1 rfl rfl)
theorem dX2_reach_4 : decode cX2_reach 4 = .ok (.aload_n 0, 1) := dk_42 (dk_at dksX2_reach_0 4 rfl rfl)
theorem dX2_reach_5 : decode cX2_reach 5 = .ok (.iload_n 1, 1) := dk_27 (dk_at dksX2_reach_0 5 rfl rfl)
theorem dX2_reach_6 : decode cX2_reach 6 = .ok (.invokevirtual 268, 3) := dk_182 1 12 (dk_at dksX2_reach_0 6 rfl rfl)
theorem dX2_reach_9 : decode cX2_reach 9 = .ok (.ifCond .ne 9, 3) := dk_154 0 9 (dk_at dksX2_reach_0 9 rfl rfl)
theorem dX2_reach_12 : decode cX2_reach 12 = .ok (.aload_n 0, 1) := dk_42 (dk_at dksX2_reach_0 12 rfl rfl)
theorem dX2_reach_13 : decode cX2_reach 13 = .ok (.iconst 1, 1) := dk_4 (dk_at dksX2_reach_0 13 rfl rfl)
theorem dX2_reach_14 : decode cX2_reach 14 = .ok (.invokevirtual 170, 3) := dk_182 0 170 (dk_at dksX2_reach_0 14 rfl rfl)
theorem dX2_reach_17 : decode cX2_reach 17 = .ok (.ireturn, 1) := dk_172 (dk_at dksX2_reach_0 17 rfl rfl)
theorem dX2_reach_18 : decode cX2_reach 18 = .ok (.iload_n 2, 1) := dk_28 (dk_at dksX2_reach_0 18 rfl rfl)
theorem dX2_reach_19 : decode cX2_reach 19 = .ok (.iconst 0, 1) := dk_3 (dk_at dksX2_reach_0 19 rfl rfl)
theorem dX2_reach_20 : decode cX2_reach 20 = .ok (.ldc_w 340, 3) := dk_19 1 84 (dk_at dksX2_reach_0 20 rfl rfl)
theorem dX2_reach_23 : decode cX2_reach 23 = .ok (.invokestatic 149, 3) := dk_184 0 149 (dk_at dksX2_reach_1 0 rfl rfl)
theorem dX2_reach_26 : decode cX2_reach 26 = .ok (.ifCond .eq 12, 3) := dk_153 0 12 (dk_at dksX2_reach_1 3 rfl rfl)
theorem dX2_reach_29 : decode cX2_reach 29 = .ok (.aload_n 0, 1) := dk_42 (dk_at dksX2_reach_1 6 rfl rfl)
theorem dX2_reach_30 : decode cX2_reach 30 = .ok (.iload_n 1, 1) := dk_27 (dk_at dksX2_reach_1 7 rfl rfl)
theorem dX2_reach_31 : decode cX2_reach 31 = .ok (.iload_n 2, 1) := dk_28 (dk_at dksX2_reach_1 8 rfl rfl)
theorem dX2_reach_32 : decode cX2_reach 32 = .ok (.invokevirtual 401, 3) := dk_182 1 145 (dk_at dksX2_reach_1 9 rfl rfl)
theorem dX2_reach_35 : decode cX2_reach 35 = .ok (.goto 8, 3) := dk_167 0 8 (dk_at dksX2_reach_1 12 rfl rfl)
theorem dX2_reach_38 : decode cX2_reach 38 = .ok (.aload_n 0, 1) := dk_42 (dk_at dksX2_reach_1 15 rfl rfl)
theorem dX2_reach_39 : decode cX2_reach 39 = .ok (.iconst 2, 1) := dk_5 (dk_at dksX2_reach_1 16 rfl rfl)
theorem dX2_reach_40 : decode cX2_reach 40 = .ok (.invokevirtual 170, 3) := dk_182 0 170 (dk_at dksX2_reach_1 17 rfl rfl)
theorem dX2_reach_43 : decode cX2_reach 43 = .ok (.ireturn, 1) := dk_172 (dk_at dksX2_reach_1 20 rfl rfl)
abbrev cX2_reachOf : ByteArray := prog_16_method_104_code
def yX2_reachOf : MethodName := ⟨RX2, "reachOf", "(II)I"⟩
def dkwX2_reachOf_2 : List UInt8 := [28, 163, 0, 10, 4, 21, 4, 120, 167, 0, 4, 3, 128, 62, 132, 4, 1, 167, 255, 220, 29, 172]
abbrev dktX2_reachOf_2 : List UInt8 := dkwX2_reachOf_2 ++ []
def dkwX2_reachOf_1 : List UInt8 := [3, 62, 3, 54, 4, 21, 4, 42, 180, 0, 20, 7, 46, 162, 0, 31, 29, 42, 180, 0, 38, 21, 4, 46]
abbrev dktX2_reachOf_1 : List UInt8 := dkwX2_reachOf_1 ++ dktX2_reachOf_2
def dkwX2_reachOf_0 : List UInt8 := [42, 27, 182, 1, 142, 87, 42, 42, 27, 3, 182, 1, 15, 42, 180, 1, 136, 42, 180, 1, 139, 182, 1, 93]
abbrev dktX2_reachOf_0 : List UInt8 := dkwX2_reachOf_0 ++ dktX2_reachOf_1
theorem dksX2_reachOf_0 : cX2_reachOf.data.toList.drop 0 = dktX2_reachOf_0 := by decide +kernel
theorem dksX2_reachOf_1 : cX2_reachOf.data.toList.drop 24 = dktX2_reachOf_1 := dk_seg dksX2_reachOf_0 24 rfl rfl
theorem dksX2_reachOf_2 : cX2_reachOf.data.toList.drop 48 = dktX2_reachOf_2 := dk_seg dksX2_reachOf_1 24 rfl rfl
theorem dX2_reachOf_0 : decode cX2_reachOf 0 = .ok (.aload_n 0, 1) := dk_42 (dk_at dksX2_reachOf_0 0 rfl rfl)
theorem dX2_reachOf_1 : decode cX2_reachOf 1 = .ok (.iload_n 1, 1) := dk_27 (dk_at dksX2_reachOf_0 1 rfl rfl)
theorem dX2_reachOf_2 : decode cX2_reachOf 2 = .ok (.invokevirtual 398, 3) := dk_182 1 142 (dk_at dksX2_reachOf_0 2 rfl rfl)
theorem dX2_reachOf_5 : decode cX2_reachOf 5 = .ok (.pop, 1) := dk_87 (dk_at dksX2_reachOf_0 5 rfl rfl)
theorem dX2_reachOf_6 : decode cX2_reachOf 6 = .ok (.aload_n 0, 1) := dk_42 (dk_at dksX2_reachOf_0 6 rfl rfl)
theorem dX2_reachOf_7 : decode cX2_reachOf 7 = .ok (.aload_n 0, 1) := dk_42 (dk_at dksX2_reachOf_0 7 rfl rfl)
theorem dX2_reachOf_8 : decode cX2_reachOf 8 = .ok (.iload_n 1, 1) := dk_27 (dk_at dksX2_reachOf_0 8 rfl rfl)
theorem dX2_reachOf_9 : decode cX2_reachOf 9 = .ok (.iconst 0, 1) := dk_3 (dk_at dksX2_reachOf_0 9 rfl rfl)
theorem dX2_reachOf_10 : decode cX2_reachOf 10 = .ok (.invokevirtual 271, 3) := dk_182 1 15 (dk_at dksX2_reachOf_0 10 rfl rfl)
theorem dX2_reachOf_13 : decode cX2_reachOf 13 = .ok (.aload_n 0, 1) := dk_42 (dk_at dksX2_reachOf_0 13 rfl rfl)
theorem dX2_reachOf_14 : decode cX2_reachOf 14 = .ok (.getfield 392, 3) := dk_180 1 136 (dk_at dksX2_reachOf_0 14 rfl rfl)
theorem dX2_reachOf_17 : decode cX2_reachOf 17 = .ok (.aload_n 0, 1) := dk_42 (dk_at dksX2_reachOf_0 17 rfl rfl)
theorem dX2_reachOf_18 : decode cX2_reachOf 18 = .ok (.getfield 395, 3) := dk_180 1 139 (dk_at dksX2_reachOf_0 18 rfl rfl)
theorem dX2_reachOf_21 : decode cX2_reachOf 21 = .ok (.invokevirtual 349, 3) := dk_182 1 93 (dk_at dksX2_reachOf_0 21 rfl rfl)
theorem dX2_reachOf_24 : decode cX2_reachOf 24 = .ok (.iconst 0, 1) := dk_3 (dk_at dksX2_reachOf_1 0 rfl rfl)
theorem dX2_reachOf_25 : decode cX2_reachOf 25 = .ok (.istore_n 3, 1) := dk_62 (dk_at dksX2_reachOf_1 1 rfl rfl)
theorem dX2_reachOf_26 : decode cX2_reachOf 26 = .ok (.iconst 0, 1) := dk_3 (dk_at dksX2_reachOf_1 2 rfl rfl)
theorem dX2_reachOf_27 : decode cX2_reachOf 27 = .ok (.istore 4, 2) := dk_54 4 (dk_at dksX2_reachOf_1 3 rfl rfl)
theorem dX2_reachOf_29 : decode cX2_reachOf 29 = .ok (.iload 4, 2) := dk_21 4 (dk_at dksX2_reachOf_1 5 rfl rfl)
theorem dX2_reachOf_31 : decode cX2_reachOf 31 = .ok (.aload_n 0, 1) := dk_42 (dk_at dksX2_reachOf_1 7 rfl rfl)
theorem dX2_reachOf_32 : decode cX2_reachOf 32 = .ok (.getfield 20, 3) := dk_180 0 20 (dk_at dksX2_reachOf_1 8 rfl rfl)
theorem dX2_reachOf_35 : decode cX2_reachOf 35 = .ok (.iconst 4, 1) := dk_7 (dk_at dksX2_reachOf_1 11 rfl rfl)
theorem dX2_reachOf_36 : decode cX2_reachOf 36 = .ok (.iaload, 1) := dk_46 (dk_at dksX2_reachOf_1 12 rfl rfl)
theorem dX2_reachOf_37 : decode cX2_reachOf 37 = .ok (.if_icmp .ge 31, 3) := dk_162 0 31 (dk_at dksX2_reachOf_1 13 rfl rfl)
theorem dX2_reachOf_40 : decode cX2_reachOf 40 = .ok (.iload_n 3, 1) := dk_29 (dk_at dksX2_reachOf_1 16 rfl rfl)
theorem dX2_reachOf_41 : decode cX2_reachOf 41 = .ok (.aload_n 0, 1) := dk_42 (dk_at dksX2_reachOf_1 17 rfl rfl)
theorem dX2_reachOf_42 : decode cX2_reachOf 42 = .ok (.getfield 38, 3) := dk_180 0 38 (dk_at dksX2_reachOf_1 18 rfl rfl)
theorem dX2_reachOf_45 : decode cX2_reachOf 45 = .ok (.iload 4, 2) := dk_21 4 (dk_at dksX2_reachOf_1 21 rfl rfl)
theorem dX2_reachOf_47 : decode cX2_reachOf 47 = .ok (.iaload, 1) := dk_46 (dk_at dksX2_reachOf_1 23 rfl rfl)
theorem dX2_reachOf_48 : decode cX2_reachOf 48 = .ok (.iload_n 2, 1) := dk_28 (dk_at dksX2_reachOf_2 0 rfl rfl)
theorem dX2_reachOf_49 : decode cX2_reachOf 49 = .ok (.if_icmp .gt 10, 3) := dk_163 0 10 (dk_at dksX2_reachOf_2 1 rfl rfl)
theorem dX2_reachOf_52 : decode cX2_reachOf 52 = .ok (.iconst 1, 1) := dk_4 (dk_at dksX2_reachOf_2 4 rfl rfl)
theorem dX2_reachOf_53 : decode cX2_reachOf 53 = .ok (.iload 4, 2) := dk_21 4 (dk_at dksX2_reachOf_2 5 rfl rfl)
theorem dX2_reachOf_55 : decode cX2_reachOf 55 = .ok (.ishl, 1) := dk_120 (dk_at dksX2_reachOf_2 7 rfl rfl)
theorem dX2_reachOf_56 : decode cX2_reachOf 56 = .ok (.goto 4, 3) := dk_167 0 4 (dk_at dksX2_reachOf_2 8 rfl rfl)
theorem dX2_reachOf_59 : decode cX2_reachOf 59 = .ok (.iconst 0, 1) := dk_3 (dk_at dksX2_reachOf_2 11 rfl rfl)
theorem dX2_reachOf_60 : decode cX2_reachOf 60 = .ok (.ior, 1) := dk_128 (dk_at dksX2_reachOf_2 12 rfl rfl)
theorem dX2_reachOf_61 : decode cX2_reachOf 61 = .ok (.istore_n 3, 1) := dk_62 (dk_at dksX2_reachOf_2 13 rfl rfl)
theorem dX2_reachOf_62 : decode cX2_reachOf 62 = .ok (.iinc 4 1, 3) := dk_132 4 1 (dk_at dksX2_reachOf_2 14 rfl rfl)
theorem dX2_reachOf_65 : decode cX2_reachOf 65 = .ok (.goto (-36), 3) := dk_167 255 220 (dk_at dksX2_reachOf_2 17 rfl rfl)
theorem dX2_reachOf_68 : decode cX2_reachOf 68 = .ok (.iload_n 3, 1) := dk_29 (dk_at dksX2_reachOf_2 20 rfl rfl)
theorem dX2_reachOf_69 : decode cX2_reachOf 69 = .ok (.ireturn, 1) := dk_172 (dk_at dksX2_reachOf_2 21 rfl rfl)
abbrev cX2_pier : ByteArray := prog_16_method_106_code
def yX2_pier : MethodName := ⟨RX2, "pie\x72", "(I)I"⟩
def dkwX2_pier_7 : List UInt8 := [21, 7, 62, 132, 4, 1, 167, 255, 132, 28, 172]
abbrev dktX2_pier_7 : List UInt8 := dkwX2_pier_7 ++ []
def dkwX2_pier_6 : List UInt8 := [167, 0, 10, 21, 6, 5, 21, 5, 104, 100, 54, 7, 21, 7, 29, 161, 0, 6, 167, 0, 9, 21, 4, 61]
abbrev dktX2_pier_6 : List UInt8 := dkwX2_pier_6 ++ dktX2_pier_7
def dkwX2_pier_5 : List UInt8 := [132, 7, 1, 167, 255, 201, 5, 21, 5, 104, 21, 6, 164, 0, 13, 5, 21, 5, 104, 21, 6, 100]
abbrev dktX2_pier_5 : List UInt8 := dkwX2_pier_5 ++ dktX2_pier_6
def dkwX2_pier_4 : List UInt8 := [21, 7, 27, 182, 1, 145, 21, 4, 184, 1, 42, 153, 0, 7, 4, 167, 0, 4, 3, 96, 54, 5]
abbrev dktX2_pier_4 : List UInt8 := dkwX2_pier_4 ++ dktX2_pier_5
def dkwX2_pier_3 : List UInt8 := [16, 6, 46, 162, 0, 49, 42, 21, 7, 182, 1, 142, 154, 0, 6, 167, 0, 31, 132, 6, 1, 21, 5, 42]
abbrev dktX2_pier_3 : List UInt8 := dkwX2_pier_3 ++ dktX2_pier_4
def dkwX2_pier_2 : List UInt8 := [180, 0, 20, 7, 46, 162, 0, 119, 3, 54, 5, 3, 54, 6, 3, 54, 7, 21, 7, 42, 180, 0, 20]
abbrev dktX2_pier_2 : List UInt8 := dkwX2_pier_2 ++ dktX2_pier_3
def dkwX2_pier_1 : List UInt8 := [184, 0, 149, 154, 0, 9, 42, 5, 182, 0, 170, 172, 2, 61, 19, 1, 85, 62, 3, 54, 4, 21, 4, 42]
abbrev dktX2_pier_1 : List UInt8 := dkwX2_pier_1 ++ dktX2_pier_2
def dkwX2_pier_0 : List UInt8 := [42, 182, 0, 167, 42, 180, 0, 180, 154, 0, 9, 42, 4, 182, 0, 170, 172, 27, 3, 19, 1, 84]
abbrev dktX2_pier_0 : List UInt8 := dkwX2_pier_0 ++ dktX2_pier_1
theorem dksX2_pier_0 : cX2_pier.data.toList.drop 0 = dktX2_pier_0 := by decide +kernel
theorem dksX2_pier_1 : cX2_pier.data.toList.drop 22 = dktX2_pier_1 := dk_seg dksX2_pier_0 22 rfl rfl
theorem dksX2_pier_2 : cX2_pier.data.toList.drop 46 = dktX2_pier_2 := dk_seg dksX2_pier_1 24 rfl rfl
theorem dksX2_pier_3 : cX2_pier.data.toList.drop 69 = dktX2_pier_3 := dk_seg dksX2_pier_2 23 rfl rfl
theorem dksX2_pier_4 : cX2_pier.data.toList.drop 93 = dktX2_pier_4 := dk_seg dksX2_pier_3 24 rfl rfl
theorem dksX2_pier_5 : cX2_pier.data.toList.drop 115 = dktX2_pier_5 := dk_seg dksX2_pier_4 22 rfl rfl
theorem dksX2_pier_6 : cX2_pier.data.toList.drop 137 = dktX2_pier_6 := dk_seg dksX2_pier_5 22 rfl rfl
theorem dksX2_pier_7 : cX2_pier.data.toList.drop 161 = dktX2_pier_7 := dk_seg dksX2_pier_6 24 rfl rfl
theorem dX2_pier_0 : decode cX2_pier 0 = .ok (.aload_n 0, 1) := dk_42 (dk_at dksX2_pier_0 0 rfl rfl)
theorem dX2_pier_1 : decode cX2_pier 1 = .ok (.invokevirtual 167, 3) := dk_182 0 167 (dk_at dksX2_pier_0 1 rfl rfl)
theorem dX2_pier_4 : decode cX2_pier 4 = .ok (.aload_n 0, 1) := dk_42 (dk_at dksX2_pier_0 4 rfl rfl)
theorem dX2_pier_5 : decode cX2_pier 5 = .ok (.getfield 180, 3) := dk_180 0 180 (dk_at dksX2_pier_0 5 rfl rfl)
theorem dX2_pier_8 : decode cX2_pier 8 = .ok (.ifCond .ne 9, 3) := dk_154 0 9 (dk_at dksX2_pier_0 8 rfl rfl)
theorem dX2_pier_11 : decode cX2_pier 11 = .ok (.aload_n 0, 1) := dk_42 (dk_at dksX2_pier_0 11 rfl rfl)
theorem dX2_pier_12 : decode cX2_pier 12 = .ok (.iconst 1, 1) := dk_4 (dk_at dksX2_pier_0 12 rfl rfl)
theorem dX2_pier_13 : decode cX2_pier 13 = .ok (.invokevirtual 170, 3) := dk_182 0 170 (dk_at dksX2_pier_0 13 rfl rfl)
theorem dX2_pier_16 : decode cX2_pier 16 = .ok (.ireturn, 1) := dk_172 (dk_at dksX2_pier_0 16 rfl rfl)
theorem dX2_pier_17 : decode cX2_pier 17 = .ok (.iload_n 1, 1) := dk_27 (dk_at dksX2_pier_0 17 rfl rfl)
theorem dX2_pier_18 : decode cX2_pier 18 = .ok (.iconst 0, 1) := dk_3 (dk_at dksX2_pier_0 18 rfl rfl)
theorem dX2_pier_19 : decode cX2_pier 19 = .ok (.ldc_w 340, 3) := dk_19 1 84 (dk_at dksX2_pier_0 19 rfl rfl)
theorem dX2_pier_22 : decode cX2_pier 22 = .ok (.invokestatic 149, 3) := dk_184 0 149 (dk_at dksX2_pier_1 0 rfl rfl)
theorem dX2_pier_25 : decode cX2_pier 25 = .ok (.ifCond .ne 9, 3) := dk_154 0 9 (dk_at dksX2_pier_1 3 rfl rfl)
theorem dX2_pier_28 : decode cX2_pier 28 = .ok (.aload_n 0, 1) := dk_42 (dk_at dksX2_pier_1 6 rfl rfl)
theorem dX2_pier_29 : decode cX2_pier 29 = .ok (.iconst 2, 1) := dk_5 (dk_at dksX2_pier_1 7 rfl rfl)
theorem dX2_pier_30 : decode cX2_pier 30 = .ok (.invokevirtual 170, 3) := dk_182 0 170 (dk_at dksX2_pier_1 8 rfl rfl)
theorem dX2_pier_33 : decode cX2_pier 33 = .ok (.ireturn, 1) := dk_172 (dk_at dksX2_pier_1 11 rfl rfl)
theorem dX2_pier_34 : decode cX2_pier 34 = .ok (.iconst (-1), 1) := dk_2 (dk_at dksX2_pier_1 12 rfl rfl)
theorem dX2_pier_35 : decode cX2_pier 35 = .ok (.istore_n 2, 1) := dk_61 (dk_at dksX2_pier_1 13 rfl rfl)
theorem dX2_pier_36 : decode cX2_pier 36 = .ok (.ldc_w 341, 3) := dk_19 1 85 (dk_at dksX2_pier_1 14 rfl rfl)
theorem dX2_pier_39 : decode cX2_pier 39 = .ok (.istore_n 3, 1) := dk_62 (dk_at dksX2_pier_1 17 rfl rfl)
theorem dX2_pier_40 : decode cX2_pier 40 = .ok (.iconst 0, 1) := dk_3 (dk_at dksX2_pier_1 18 rfl rfl)
theorem dX2_pier_41 : decode cX2_pier 41 = .ok (.istore 4, 2) := dk_54 4 (dk_at dksX2_pier_1 19 rfl rfl)
theorem dX2_pier_43 : decode cX2_pier 43 = .ok (.iload 4, 2) := dk_21 4 (dk_at dksX2_pier_1 21 rfl rfl)
theorem dX2_pier_45 : decode cX2_pier 45 = .ok (.aload_n 0, 1) := dk_42 (dk_at dksX2_pier_1 23 rfl rfl)
theorem dX2_pier_46 : decode cX2_pier 46 = .ok (.getfield 20, 3) := dk_180 0 20 (dk_at dksX2_pier_2 0 rfl rfl)
theorem dX2_pier_49 : decode cX2_pier 49 = .ok (.iconst 4, 1) := dk_7 (dk_at dksX2_pier_2 3 rfl rfl)
theorem dX2_pier_50 : decode cX2_pier 50 = .ok (.iaload, 1) := dk_46 (dk_at dksX2_pier_2 4 rfl rfl)
theorem dX2_pier_51 : decode cX2_pier 51 = .ok (.if_icmp .ge 119, 3) := dk_162 0 119 (dk_at dksX2_pier_2 5 rfl rfl)
theorem dX2_pier_54 : decode cX2_pier 54 = .ok (.iconst 0, 1) := dk_3 (dk_at dksX2_pier_2 8 rfl rfl)
theorem dX2_pier_55 : decode cX2_pier 55 = .ok (.istore 5, 2) := dk_54 5 (dk_at dksX2_pier_2 9 rfl rfl)
theorem dX2_pier_57 : decode cX2_pier 57 = .ok (.iconst 0, 1) := dk_3 (dk_at dksX2_pier_2 11 rfl rfl)
theorem dX2_pier_58 : decode cX2_pier 58 = .ok (.istore 6, 2) := dk_54 6 (dk_at dksX2_pier_2 12 rfl rfl)
theorem dX2_pier_60 : decode cX2_pier 60 = .ok (.iconst 0, 1) := dk_3 (dk_at dksX2_pier_2 14 rfl rfl)
theorem dX2_pier_61 : decode cX2_pier 61 = .ok (.istore 7, 2) := dk_54 7 (dk_at dksX2_pier_2 15 rfl rfl)
theorem dX2_pier_63 : decode cX2_pier 63 = .ok (.iload 7, 2) := dk_21 7 (dk_at dksX2_pier_2 17 rfl rfl)
theorem dX2_pier_65 : decode cX2_pier 65 = .ok (.aload_n 0, 1) := dk_42 (dk_at dksX2_pier_2 19 rfl rfl)
theorem dX2_pier_66 : decode cX2_pier 66 = .ok (.getfield 20, 3) := dk_180 0 20 (dk_at dksX2_pier_2 20 rfl rfl)
theorem dX2_pier_69 : decode cX2_pier 69 = .ok (.bipush 6, 2) := dk_16 6 (dk_at dksX2_pier_3 0 rfl rfl)
theorem dX2_pier_71 : decode cX2_pier 71 = .ok (.iaload, 1) := dk_46 (dk_at dksX2_pier_3 2 rfl rfl)
theorem dX2_pier_72 : decode cX2_pier 72 = .ok (.if_icmp .ge 49, 3) := dk_162 0 49 (dk_at dksX2_pier_3 3 rfl rfl)
theorem dX2_pier_75 : decode cX2_pier 75 = .ok (.aload_n 0, 1) := dk_42 (dk_at dksX2_pier_3 6 rfl rfl)
theorem dX2_pier_76 : decode cX2_pier 76 = .ok (.iload 7, 2) := dk_21 7 (dk_at dksX2_pier_3 7 rfl rfl)
theorem dX2_pier_78 : decode cX2_pier 78 = .ok (.invokevirtual 398, 3) := dk_182 1 142 (dk_at dksX2_pier_3 9 rfl rfl)
theorem dX2_pier_81 : decode cX2_pier 81 = .ok (.ifCond .ne 6, 3) := dk_154 0 6 (dk_at dksX2_pier_3 12 rfl rfl)
theorem dX2_pier_84 : decode cX2_pier 84 = .ok (.goto 31, 3) := dk_167 0 31 (dk_at dksX2_pier_3 15 rfl rfl)
theorem dX2_pier_87 : decode cX2_pier 87 = .ok (.iinc 6 1, 3) := dk_132 6 1 (dk_at dksX2_pier_3 18 rfl rfl)
theorem dX2_pier_90 : decode cX2_pier 90 = .ok (.iload 5, 2) := dk_21 5 (dk_at dksX2_pier_3 21 rfl rfl)
theorem dX2_pier_92 : decode cX2_pier 92 = .ok (.aload_n 0, 1) := dk_42 (dk_at dksX2_pier_3 23 rfl rfl)
theorem dX2_pier_93 : decode cX2_pier 93 = .ok (.iload 7, 2) := dk_21 7 (dk_at dksX2_pier_4 0 rfl rfl)
theorem dX2_pier_95 : decode cX2_pier 95 = .ok (.iload_n 1, 1) := dk_27 (dk_at dksX2_pier_4 2 rfl rfl)
theorem dX2_pier_96 : decode cX2_pier 96 = .ok (.invokevirtual 401, 3) := dk_182 1 145 (dk_at dksX2_pier_4 3 rfl rfl)
theorem dX2_pier_99 : decode cX2_pier 99 = .ok (.iload 4, 2) := dk_21 4 (dk_at dksX2_pier_4 6 rfl rfl)
theorem dX2_pier_101 : decode cX2_pier 101 = .ok (.invokestatic 298, 3) := dk_184 1 42 (dk_at dksX2_pier_4 8 rfl rfl)
theorem dX2_pier_104 : decode cX2_pier 104 = .ok (.ifCond .eq 7, 3) := dk_153 0 7 (dk_at dksX2_pier_4 11 rfl rfl)
theorem dX2_pier_107 : decode cX2_pier 107 = .ok (.iconst 1, 1) := dk_4 (dk_at dksX2_pier_4 14 rfl rfl)
theorem dX2_pier_108 : decode cX2_pier 108 = .ok (.goto 4, 3) := dk_167 0 4 (dk_at dksX2_pier_4 15 rfl rfl)
theorem dX2_pier_111 : decode cX2_pier 111 = .ok (.iconst 0, 1) := dk_3 (dk_at dksX2_pier_4 18 rfl rfl)
theorem dX2_pier_112 : decode cX2_pier 112 = .ok (.iadd, 1) := dk_96 (dk_at dksX2_pier_4 19 rfl rfl)
theorem dX2_pier_113 : decode cX2_pier 113 = .ok (.istore 5, 2) := dk_54 5 (dk_at dksX2_pier_4 20 rfl rfl)
theorem dX2_pier_115 : decode cX2_pier 115 = .ok (.iinc 7 1, 3) := dk_132 7 1 (dk_at dksX2_pier_5 0 rfl rfl)
theorem dX2_pier_118 : decode cX2_pier 118 = .ok (.goto (-55), 3) := dk_167 255 201 (dk_at dksX2_pier_5 3 rfl rfl)
theorem dX2_pier_121 : decode cX2_pier 121 = .ok (.iconst 2, 1) := dk_5 (dk_at dksX2_pier_5 6 rfl rfl)
theorem dX2_pier_122 : decode cX2_pier 122 = .ok (.iload 5, 2) := dk_21 5 (dk_at dksX2_pier_5 7 rfl rfl)
theorem dX2_pier_124 : decode cX2_pier 124 = .ok (.imul, 1) := dk_104 (dk_at dksX2_pier_5 9 rfl rfl)
theorem dX2_pier_125 : decode cX2_pier 125 = .ok (.iload 6, 2) := dk_21 6 (dk_at dksX2_pier_5 10 rfl rfl)
theorem dX2_pier_127 : decode cX2_pier 127 = .ok (.if_icmp .le 13, 3) := dk_164 0 13 (dk_at dksX2_pier_5 12 rfl rfl)
theorem dX2_pier_130 : decode cX2_pier 130 = .ok (.iconst 2, 1) := dk_5 (dk_at dksX2_pier_5 15 rfl rfl)
theorem dX2_pier_131 : decode cX2_pier 131 = .ok (.iload 5, 2) := dk_21 5 (dk_at dksX2_pier_5 16 rfl rfl)
theorem dX2_pier_133 : decode cX2_pier 133 = .ok (.imul, 1) := dk_104 (dk_at dksX2_pier_5 18 rfl rfl)
theorem dX2_pier_134 : decode cX2_pier 134 = .ok (.iload 6, 2) := dk_21 6 (dk_at dksX2_pier_5 19 rfl rfl)
theorem dX2_pier_136 : decode cX2_pier 136 = .ok (.isub, 1) := dk_100 (dk_at dksX2_pier_5 21 rfl rfl)
theorem dX2_pier_137 : decode cX2_pier 137 = .ok (.goto 10, 3) := dk_167 0 10 (dk_at dksX2_pier_6 0 rfl rfl)
theorem dX2_pier_140 : decode cX2_pier 140 = .ok (.iload 6, 2) := dk_21 6 (dk_at dksX2_pier_6 3 rfl rfl)
theorem dX2_pier_142 : decode cX2_pier 142 = .ok (.iconst 2, 1) := dk_5 (dk_at dksX2_pier_6 5 rfl rfl)
theorem dX2_pier_143 : decode cX2_pier 143 = .ok (.iload 5, 2) := dk_21 5 (dk_at dksX2_pier_6 6 rfl rfl)
theorem dX2_pier_145 : decode cX2_pier 145 = .ok (.imul, 1) := dk_104 (dk_at dksX2_pier_6 8 rfl rfl)
theorem dX2_pier_146 : decode cX2_pier 146 = .ok (.isub, 1) := dk_100 (dk_at dksX2_pier_6 9 rfl rfl)
theorem dX2_pier_147 : decode cX2_pier 147 = .ok (.istore 7, 2) := dk_54 7 (dk_at dksX2_pier_6 10 rfl rfl)
theorem dX2_pier_149 : decode cX2_pier 149 = .ok (.iload 7, 2) := dk_21 7 (dk_at dksX2_pier_6 12 rfl rfl)
theorem dX2_pier_151 : decode cX2_pier 151 = .ok (.iload_n 3, 1) := dk_29 (dk_at dksX2_pier_6 14 rfl rfl)
theorem dX2_pier_152 : decode cX2_pier 152 = .ok (.if_icmp .lt 6, 3) := dk_161 0 6 (dk_at dksX2_pier_6 15 rfl rfl)
theorem dX2_pier_155 : decode cX2_pier 155 = .ok (.goto 9, 3) := dk_167 0 9 (dk_at dksX2_pier_6 18 rfl rfl)
theorem dX2_pier_158 : decode cX2_pier 158 = .ok (.iload 4, 2) := dk_21 4 (dk_at dksX2_pier_6 21 rfl rfl)
theorem dX2_pier_160 : decode cX2_pier 160 = .ok (.istore_n 2, 1) := dk_61 (dk_at dksX2_pier_6 23 rfl rfl)
theorem dX2_pier_161 : decode cX2_pier 161 = .ok (.iload 7, 2) := dk_21 7 (dk_at dksX2_pier_7 0 rfl rfl)
theorem dX2_pier_163 : decode cX2_pier 163 = .ok (.istore_n 3, 1) := dk_62 (dk_at dksX2_pier_7 2 rfl rfl)
theorem dX2_pier_164 : decode cX2_pier 164 = .ok (.iinc 4 1, 3) := dk_132 4 1 (dk_at dksX2_pier_7 3 rfl rfl)
theorem dX2_pier_167 : decode cX2_pier 167 = .ok (.goto (-124), 3) := dk_167 255 132 (dk_at dksX2_pier_7 6 rfl rfl)
theorem dX2_pier_170 : decode cX2_pier 170 = .ok (.iload_n 2, 1) := dk_28 (dk_at dksX2_pier_7 9 rfl rfl)
theorem dX2_pier_171 : decode cX2_pier 171 = .ok (.ireturn, 1) := dk_172 (dk_at dksX2_pier_7 10 rfl rfl)
abbrev cX2_watch : ByteArray := prog_16_method_108_code
def yX2_watch : MethodName := ⟨RX2, "watch", "(II)I"⟩
def dkwX2_watch_4 : List UInt8 := [42, 180, 0, 26, 4, 46, 2, 130, 126, 172]
abbrev dktX2_watch_4 : List UInt8 := dkwX2_watch_4 ++ []
def dkwX2_watch_3 : List UInt8 := [162, 0, 17, 42, 27, 28, 21, 4, 182, 1, 151, 154, 0, 6, 21, 4, 62, 132, 4, 1, 167, 255, 214, 29]
abbrev dktX2_watch_3 : List UInt8 := dkwX2_watch_3 ++ dktX2_watch_4
def dkwX2_watch_2 : List UInt8 := [21, 4, 4, 42, 180, 0, 20, 8, 46, 120, 162, 0, 35, 21, 4, 184, 1, 148, 29, 184, 1, 148]
abbrev dktX2_watch_2 : List UInt8 := dkwX2_watch_2 ++ dktX2_watch_3
def dkwX2_watch_1 : List UInt8 := [160, 0, 9, 42, 4, 182, 0, 170, 172, 4, 42, 180, 0, 20, 8, 46, 120, 4, 100, 62, 3, 54, 4]
abbrev dktX2_watch_1 : List UInt8 := dkwX2_watch_1 ++ dktX2_watch_2
def dkwX2_watch_0 : List UInt8 := [42, 182, 0, 167, 42, 27, 182, 1, 21, 153, 0, 16, 42, 28, 182, 1, 21, 153, 0, 8, 27, 28]
abbrev dktX2_watch_0 : List UInt8 := dkwX2_watch_0 ++ dktX2_watch_1
theorem dksX2_watch_0 : cX2_watch.data.toList.drop 0 = dktX2_watch_0 := by decide +kernel
theorem dksX2_watch_1 : cX2_watch.data.toList.drop 22 = dktX2_watch_1 := dk_seg dksX2_watch_0 22 rfl rfl
theorem dksX2_watch_2 : cX2_watch.data.toList.drop 45 = dktX2_watch_2 := dk_seg dksX2_watch_1 23 rfl rfl
theorem dksX2_watch_3 : cX2_watch.data.toList.drop 67 = dktX2_watch_3 := dk_seg dksX2_watch_2 22 rfl rfl
theorem dksX2_watch_4 : cX2_watch.data.toList.drop 91 = dktX2_watch_4 := dk_seg dksX2_watch_3 24 rfl rfl
theorem dX2_watch_0 : decode cX2_watch 0 = .ok (.aload_n 0, 1) := dk_42 (dk_at dksX2_watch_0 0 rfl rfl)
theorem dX2_watch_1 : decode cX2_watch 1 = .ok (.invokevirtual 167, 3) := dk_182 0 167 (dk_at dksX2_watch_0 1 rfl rfl)
theorem dX2_watch_4 : decode cX2_watch 4 = .ok (.aload_n 0, 1) := dk_42 (dk_at dksX2_watch_0 4 rfl rfl)
theorem dX2_watch_5 : decode cX2_watch 5 = .ok (.iload_n 1, 1) := dk_27 (dk_at dksX2_watch_0 5 rfl rfl)
theorem dX2_watch_6 : decode cX2_watch 6 = .ok (.invokevirtual 277, 3) := dk_182 1 21 (dk_at dksX2_watch_0 6 rfl rfl)
theorem dX2_watch_9 : decode cX2_watch 9 = .ok (.ifCond .eq 16, 3) := dk_153 0 16 (dk_at dksX2_watch_0 9 rfl rfl)
theorem dX2_watch_12 : decode cX2_watch 12 = .ok (.aload_n 0, 1) := dk_42 (dk_at dksX2_watch_0 12 rfl rfl)
theorem dX2_watch_13 : decode cX2_watch 13 = .ok (.iload_n 2, 1) := dk_28 (dk_at dksX2_watch_0 13 rfl rfl)
theorem dX2_watch_14 : decode cX2_watch 14 = .ok (.invokevirtual 277, 3) := dk_182 1 21 (dk_at dksX2_watch_0 14 rfl rfl)
theorem dX2_watch_17 : decode cX2_watch 17 = .ok (.ifCond .eq 8, 3) := dk_153 0 8 (dk_at dksX2_watch_0 17 rfl rfl)
theorem dX2_watch_20 : decode cX2_watch 20 = .ok (.iload_n 1, 1) := dk_27 (dk_at dksX2_watch_0 20 rfl rfl)
theorem dX2_watch_21 : decode cX2_watch 21 = .ok (.iload_n 2, 1) := dk_28 (dk_at dksX2_watch_0 21 rfl rfl)
theorem dX2_watch_22 : decode cX2_watch 22 = .ok (.if_icmp .ne 9, 3) := dk_160 0 9 (dk_at dksX2_watch_1 0 rfl rfl)
theorem dX2_watch_25 : decode cX2_watch 25 = .ok (.aload_n 0, 1) := dk_42 (dk_at dksX2_watch_1 3 rfl rfl)
theorem dX2_watch_26 : decode cX2_watch 26 = .ok (.iconst 1, 1) := dk_4 (dk_at dksX2_watch_1 4 rfl rfl)
theorem dX2_watch_27 : decode cX2_watch 27 = .ok (.invokevirtual 170, 3) := dk_182 0 170 (dk_at dksX2_watch_1 5 rfl rfl)
theorem dX2_watch_30 : decode cX2_watch 30 = .ok (.ireturn, 1) := dk_172 (dk_at dksX2_watch_1 8 rfl rfl)
theorem dX2_watch_31 : decode cX2_watch 31 = .ok (.iconst 1, 1) := dk_4 (dk_at dksX2_watch_1 9 rfl rfl)
theorem dX2_watch_32 : decode cX2_watch 32 = .ok (.aload_n 0, 1) := dk_42 (dk_at dksX2_watch_1 10 rfl rfl)
theorem dX2_watch_33 : decode cX2_watch 33 = .ok (.getfield 20, 3) := dk_180 0 20 (dk_at dksX2_watch_1 11 rfl rfl)
theorem dX2_watch_36 : decode cX2_watch 36 = .ok (.iconst 5, 1) := dk_8 (dk_at dksX2_watch_1 14 rfl rfl)
theorem dX2_watch_37 : decode cX2_watch 37 = .ok (.iaload, 1) := dk_46 (dk_at dksX2_watch_1 15 rfl rfl)
theorem dX2_watch_38 : decode cX2_watch 38 = .ok (.ishl, 1) := dk_120 (dk_at dksX2_watch_1 16 rfl rfl)
theorem dX2_watch_39 : decode cX2_watch 39 = .ok (.iconst 1, 1) := dk_4 (dk_at dksX2_watch_1 17 rfl rfl)
theorem dX2_watch_40 : decode cX2_watch 40 = .ok (.isub, 1) := dk_100 (dk_at dksX2_watch_1 18 rfl rfl)
theorem dX2_watch_41 : decode cX2_watch 41 = .ok (.istore_n 3, 1) := dk_62 (dk_at dksX2_watch_1 19 rfl rfl)
theorem dX2_watch_42 : decode cX2_watch 42 = .ok (.iconst 0, 1) := dk_3 (dk_at dksX2_watch_1 20 rfl rfl)
theorem dX2_watch_43 : decode cX2_watch 43 = .ok (.istore 4, 2) := dk_54 4 (dk_at dksX2_watch_1 21 rfl rfl)
theorem dX2_watch_45 : decode cX2_watch 45 = .ok (.iload 4, 2) := dk_21 4 (dk_at dksX2_watch_2 0 rfl rfl)
theorem dX2_watch_47 : decode cX2_watch 47 = .ok (.iconst 1, 1) := dk_4 (dk_at dksX2_watch_2 2 rfl rfl)
theorem dX2_watch_48 : decode cX2_watch 48 = .ok (.aload_n 0, 1) := dk_42 (dk_at dksX2_watch_2 3 rfl rfl)
theorem dX2_watch_49 : decode cX2_watch 49 = .ok (.getfield 20, 3) := dk_180 0 20 (dk_at dksX2_watch_2 4 rfl rfl)
theorem dX2_watch_52 : decode cX2_watch 52 = .ok (.iconst 5, 1) := dk_8 (dk_at dksX2_watch_2 7 rfl rfl)
theorem dX2_watch_53 : decode cX2_watch 53 = .ok (.iaload, 1) := dk_46 (dk_at dksX2_watch_2 8 rfl rfl)
theorem dX2_watch_54 : decode cX2_watch 54 = .ok (.ishl, 1) := dk_120 (dk_at dksX2_watch_2 9 rfl rfl)
theorem dX2_watch_55 : decode cX2_watch 55 = .ok (.if_icmp .ge 35, 3) := dk_162 0 35 (dk_at dksX2_watch_2 10 rfl rfl)
theorem dX2_watch_58 : decode cX2_watch 58 = .ok (.iload 4, 2) := dk_21 4 (dk_at dksX2_watch_2 13 rfl rfl)
theorem dX2_watch_60 : decode cX2_watch 60 = .ok (.invokestatic 404, 3) := dk_184 1 148 (dk_at dksX2_watch_2 15 rfl rfl)
theorem dX2_watch_63 : decode cX2_watch 63 = .ok (.iload_n 3, 1) := dk_29 (dk_at dksX2_watch_2 18 rfl rfl)
theorem dX2_watch_64 : decode cX2_watch 64 = .ok (.invokestatic 404, 3) := dk_184 1 148 (dk_at dksX2_watch_2 19 rfl rfl)
theorem dX2_watch_67 : decode cX2_watch 67 = .ok (.if_icmp .ge 17, 3) := dk_162 0 17 (dk_at dksX2_watch_3 0 rfl rfl)
theorem dX2_watch_70 : decode cX2_watch 70 = .ok (.aload_n 0, 1) := dk_42 (dk_at dksX2_watch_3 3 rfl rfl)
theorem dX2_watch_71 : decode cX2_watch 71 = .ok (.iload_n 1, 1) := dk_27 (dk_at dksX2_watch_3 4 rfl rfl)
theorem dX2_watch_72 : decode cX2_watch 72 = .ok (.iload_n 2, 1) := dk_28 (dk_at dksX2_watch_3 5 rfl rfl)
theorem dX2_watch_73 : decode cX2_watch 73 = .ok (.iload 4, 2) := dk_21 4 (dk_at dksX2_watch_3 6 rfl rfl)
theorem dX2_watch_75 : decode cX2_watch 75 = .ok (.invokevirtual 407, 3) := dk_182 1 151 (dk_at dksX2_watch_3 8 rfl rfl)
theorem dX2_watch_78 : decode cX2_watch 78 = .ok (.ifCond .ne 6, 3) := dk_154 0 6 (dk_at dksX2_watch_3 11 rfl rfl)
theorem dX2_watch_81 : decode cX2_watch 81 = .ok (.iload 4, 2) := dk_21 4 (dk_at dksX2_watch_3 14 rfl rfl)
theorem dX2_watch_83 : decode cX2_watch 83 = .ok (.istore_n 3, 1) := dk_62 (dk_at dksX2_watch_3 16 rfl rfl)
theorem dX2_watch_84 : decode cX2_watch 84 = .ok (.iinc 4 1, 3) := dk_132 4 1 (dk_at dksX2_watch_3 17 rfl rfl)
theorem dX2_watch_87 : decode cX2_watch 87 = .ok (.goto (-42), 3) := dk_167 255 214 (dk_at dksX2_watch_3 20 rfl rfl)
theorem dX2_watch_90 : decode cX2_watch 90 = .ok (.iload_n 3, 1) := dk_29 (dk_at dksX2_watch_3 23 rfl rfl)
theorem dX2_watch_91 : decode cX2_watch 91 = .ok (.aload_n 0, 1) := dk_42 (dk_at dksX2_watch_4 0 rfl rfl)
theorem dX2_watch_92 : decode cX2_watch 92 = .ok (.getfield 26, 3) := dk_180 0 26 (dk_at dksX2_watch_4 1 rfl rfl)
theorem dX2_watch_95 : decode cX2_watch 95 = .ok (.iconst 1, 1) := dk_4 (dk_at dksX2_watch_4 4 rfl rfl)
theorem dX2_watch_96 : decode cX2_watch 96 = .ok (.iaload, 1) := dk_46 (dk_at dksX2_watch_4 5 rfl rfl)
theorem dX2_watch_97 : decode cX2_watch 97 = .ok (.iconst (-1), 1) := dk_2 (dk_at dksX2_watch_4 6 rfl rfl)
theorem dX2_watch_98 : decode cX2_watch 98 = .ok (.ixor, 1) := dk_130 (dk_at dksX2_watch_4 7 rfl rfl)
theorem dX2_watch_99 : decode cX2_watch 99 = .ok (.iand, 1) := dk_126 (dk_at dksX2_watch_4 8 rfl rfl)
theorem dX2_watch_100 : decode cX2_watch 100 = .ok (.ireturn, 1) := dk_172 (dk_at dksX2_watch_4 9 rfl rfl)
abbrev cX2_ones : ByteArray := prog_16_method_8_code
def yX2_ones : MethodName := ⟨RX2, "ones", "(I)I"⟩
def dkwX2_ones_1 : List UInt8 := [27, 172]
abbrev dktX2_ones_1 : List UInt8 := dkwX2_ones_1 ++ []
def dkwX2_ones_0 : List UInt8 := [3, 60, 3, 61, 28, 16, 12, 162, 0, 17, 27, 26, 28, 122, 4, 126, 96, 60, 132, 2, 1, 167, 255, 239]
abbrev dktX2_ones_0 : List UInt8 := dkwX2_ones_0 ++ dktX2_ones_1
theorem dksX2_ones_0 : cX2_ones.data.toList.drop 0 = dktX2_ones_0 := by decide +kernel
theorem dksX2_ones_1 : cX2_ones.data.toList.drop 24 = dktX2_ones_1 := dk_seg dksX2_ones_0 24 rfl rfl
theorem dX2_ones_0 : decode cX2_ones 0 = .ok (.iconst 0, 1) := dk_3 (dk_at dksX2_ones_0 0 rfl rfl)
theorem dX2_ones_1 : decode cX2_ones 1 = .ok (.istore_n 1, 1) := dk_60 (dk_at dksX2_ones_0 1 rfl rfl)
theorem dX2_ones_2 : decode cX2_ones 2 = .ok (.iconst 0, 1) := dk_3 (dk_at dksX2_ones_0 2 rfl rfl)
theorem dX2_ones_3 : decode cX2_ones 3 = .ok (.istore_n 2, 1) := dk_61 (dk_at dksX2_ones_0 3 rfl rfl)
theorem dX2_ones_4 : decode cX2_ones 4 = .ok (.iload_n 2, 1) := dk_28 (dk_at dksX2_ones_0 4 rfl rfl)
theorem dX2_ones_5 : decode cX2_ones 5 = .ok (.bipush 12, 2) := dk_16 12 (dk_at dksX2_ones_0 5 rfl rfl)
theorem dX2_ones_7 : decode cX2_ones 7 = .ok (.if_icmp .ge 17, 3) := dk_162 0 17 (dk_at dksX2_ones_0 7 rfl rfl)
theorem dX2_ones_10 : decode cX2_ones 10 = .ok (.iload_n 1, 1) := dk_27 (dk_at dksX2_ones_0 10 rfl rfl)
theorem dX2_ones_11 : decode cX2_ones 11 = .ok (.iload_n 0, 1) := dk_26 (dk_at dksX2_ones_0 11 rfl rfl)
theorem dX2_ones_12 : decode cX2_ones 12 = .ok (.iload_n 2, 1) := dk_28 (dk_at dksX2_ones_0 12 rfl rfl)
theorem dX2_ones_13 : decode cX2_ones 13 = .ok (.ishr, 1) := dk_122 (dk_at dksX2_ones_0 13 rfl rfl)
theorem dX2_ones_14 : decode cX2_ones 14 = .ok (.iconst 1, 1) := dk_4 (dk_at dksX2_ones_0 14 rfl rfl)
theorem dX2_ones_15 : decode cX2_ones 15 = .ok (.iand, 1) := dk_126 (dk_at dksX2_ones_0 15 rfl rfl)
theorem dX2_ones_16 : decode cX2_ones 16 = .ok (.iadd, 1) := dk_96 (dk_at dksX2_ones_0 16 rfl rfl)
theorem dX2_ones_17 : decode cX2_ones 17 = .ok (.istore_n 1, 1) := dk_60 (dk_at dksX2_ones_0 17 rfl rfl)
theorem dX2_ones_18 : decode cX2_ones 18 = .ok (.iinc 2 1, 3) := dk_132 2 1 (dk_at dksX2_ones_0 18 rfl rfl)
theorem dX2_ones_21 : decode cX2_ones 21 = .ok (.goto (-17), 3) := dk_167 255 239 (dk_at dksX2_ones_0 21 rfl rfl)
theorem dX2_ones_24 : decode cX2_ones 24 = .ok (.iload_n 1, 1) := dk_27 (dk_at dksX2_ones_1 0 rfl rfl)
theorem dX2_ones_25 : decode cX2_ones 25 = .ok (.ireturn, 1) := dk_172 (dk_at dksX2_ones_1 1 rfl rfl)
abbrev cX2_doLead : ByteArray := prog_16_method_107_code
def yX2_doLead : MethodName := ⟨RX2, "doLead", "(III)Z"⟩
def dkwX2_doLead_5 : List UInt8 := [184, 1, 42, 172]
abbrev dktX2_doLead_5 : List UInt8 := dkwX2_doLead_5 ++ []
def dkwX2_doLead_4 : List UInt8 := [153, 0, 8, 21, 7, 167, 0, 4, 3, 128, 54, 4, 132, 6, 1, 167, 255, 169, 167, 255, 152, 21, 4, 28]
abbrev dktX2_doLead_4 : List UInt8 := dkwX2_doLead_4 ++ dktX2_doLead_5
def dkwX2_doLead_3 : List UInt8 := [180, 0, 20, 16, 59, 7, 21, 6, 104, 96, 4, 96, 46, 120, 128, 54, 7, 21, 4, 21, 4, 21, 7, 126]
abbrev dktX2_doLead_3 : List UInt8 := dkwX2_doLead_3 ++ dktX2_doLead_4
def dkwX2_doLead_2 : List UInt8 := [153, 0, 6, 167, 0, 55, 4, 42, 180, 0, 20, 16, 59, 7, 21, 6, 104, 96, 46, 120, 4, 42]
abbrev dktX2_doLead_2 : List UInt8 := dkwX2_doLead_2 ++ dktX2_doLead_3
def dkwX2_doLead_1 : List UInt8 := [42, 180, 0, 20, 8, 46, 162, 0, 82, 42, 21, 6, 182, 1, 46, 154, 0, 67, 29, 21, 6, 184, 1, 42]
abbrev dktX2_doLead_1 : List UInt8 := dkwX2_doLead_1 ++ dktX2_doLead_2
def dkwX2_doLead_0 : List UInt8 := [4, 27, 120, 54, 4, 3, 54, 5, 21, 5, 21, 4, 159, 0, 103, 21, 4, 54, 5, 3, 54, 6, 21, 6]
abbrev dktX2_doLead_0 : List UInt8 := dkwX2_doLead_0 ++ dktX2_doLead_1
theorem dksX2_doLead_0 : cX2_doLead.data.toList.drop 0 = dktX2_doLead_0 := by decide +kernel
theorem dksX2_doLead_1 : cX2_doLead.data.toList.drop 24 = dktX2_doLead_1 := dk_seg dksX2_doLead_0 24 rfl rfl
theorem dksX2_doLead_2 : cX2_doLead.data.toList.drop 48 = dktX2_doLead_2 := dk_seg dksX2_doLead_1 24 rfl rfl
theorem dksX2_doLead_3 : cX2_doLead.data.toList.drop 70 = dktX2_doLead_3 := dk_seg dksX2_doLead_2 22 rfl rfl
theorem dksX2_doLead_4 : cX2_doLead.data.toList.drop 94 = dktX2_doLead_4 := dk_seg dksX2_doLead_3 24 rfl rfl
theorem dksX2_doLead_5 : cX2_doLead.data.toList.drop 118 = dktX2_doLead_5 := dk_seg dksX2_doLead_4 24 rfl rfl
theorem dX2_doLead_0 : decode cX2_doLead 0 = .ok (.iconst 1, 1) := dk_4 (dk_at dksX2_doLead_0 0 rfl rfl)
theorem dX2_doLead_1 : decode cX2_doLead 1 = .ok (.iload_n 1, 1) := dk_27 (dk_at dksX2_doLead_0 1 rfl rfl)
theorem dX2_doLead_2 : decode cX2_doLead 2 = .ok (.ishl, 1) := dk_120 (dk_at dksX2_doLead_0 2 rfl rfl)
theorem dX2_doLead_3 : decode cX2_doLead 3 = .ok (.istore 4, 2) := dk_54 4 (dk_at dksX2_doLead_0 3 rfl rfl)
theorem dX2_doLead_5 : decode cX2_doLead 5 = .ok (.iconst 0, 1) := dk_3 (dk_at dksX2_doLead_0 5 rfl rfl)
theorem dX2_doLead_6 : decode cX2_doLead 6 = .ok (.istore 5, 2) := dk_54 5 (dk_at dksX2_doLead_0 6 rfl rfl)
theorem dX2_doLead_8 : decode cX2_doLead 8 = .ok (.iload 5, 2) := dk_21 5 (dk_at dksX2_doLead_0 8 rfl rfl)
theorem dX2_doLead_10 : decode cX2_doLead 10 = .ok (.iload 4, 2) := dk_21 4 (dk_at dksX2_doLead_0 10 rfl rfl)
theorem dX2_doLead_12 : decode cX2_doLead 12 = .ok (.if_icmp .eq 103, 3) := dk_159 0 103 (dk_at dksX2_doLead_0 12 rfl rfl)
theorem dX2_doLead_15 : decode cX2_doLead 15 = .ok (.iload 4, 2) := dk_21 4 (dk_at dksX2_doLead_0 15 rfl rfl)
theorem dX2_doLead_17 : decode cX2_doLead 17 = .ok (.istore 5, 2) := dk_54 5 (dk_at dksX2_doLead_0 17 rfl rfl)
theorem dX2_doLead_19 : decode cX2_doLead 19 = .ok (.iconst 0, 1) := dk_3 (dk_at dksX2_doLead_0 19 rfl rfl)
theorem dX2_doLead_20 : decode cX2_doLead 20 = .ok (.istore 6, 2) := dk_54 6 (dk_at dksX2_doLead_0 20 rfl rfl)
theorem dX2_doLead_22 : decode cX2_doLead 22 = .ok (.iload 6, 2) := dk_21 6 (dk_at dksX2_doLead_0 22 rfl rfl)
theorem dX2_doLead_24 : decode cX2_doLead 24 = .ok (.aload_n 0, 1) := dk_42 (dk_at dksX2_doLead_1 0 rfl rfl)
theorem dX2_doLead_25 : decode cX2_doLead 25 = .ok (.getfield 20, 3) := dk_180 0 20 (dk_at dksX2_doLead_1 1 rfl rfl)
theorem dX2_doLead_28 : decode cX2_doLead 28 = .ok (.iconst 5, 1) := dk_8 (dk_at dksX2_doLead_1 4 rfl rfl)
theorem dX2_doLead_29 : decode cX2_doLead 29 = .ok (.iaload, 1) := dk_46 (dk_at dksX2_doLead_1 5 rfl rfl)
theorem dX2_doLead_30 : decode cX2_doLead 30 = .ok (.if_icmp .ge 82, 3) := dk_162 0 82 (dk_at dksX2_doLead_1 6 rfl rfl)
theorem dX2_doLead_33 : decode cX2_doLead 33 = .ok (.aload_n 0, 1) := dk_42 (dk_at dksX2_doLead_1 9 rfl rfl)
theorem dX2_doLead_34 : decode cX2_doLead 34 = .ok (.iload 6, 2) := dk_21 6 (dk_at dksX2_doLead_1 10 rfl rfl)
theorem dX2_doLead_36 : decode cX2_doLead 36 = .ok (.invokevirtual 302, 3) := dk_182 1 46 (dk_at dksX2_doLead_1 12 rfl rfl)
theorem dX2_doLead_39 : decode cX2_doLead 39 = .ok (.ifCond .ne 67, 3) := dk_154 0 67 (dk_at dksX2_doLead_1 15 rfl rfl)
theorem dX2_doLead_42 : decode cX2_doLead 42 = .ok (.iload_n 3, 1) := dk_29 (dk_at dksX2_doLead_1 18 rfl rfl)
theorem dX2_doLead_43 : decode cX2_doLead 43 = .ok (.iload 6, 2) := dk_21 6 (dk_at dksX2_doLead_1 19 rfl rfl)
theorem dX2_doLead_45 : decode cX2_doLead 45 = .ok (.invokestatic 298, 3) := dk_184 1 42 (dk_at dksX2_doLead_1 21 rfl rfl)
theorem dX2_doLead_48 : decode cX2_doLead 48 = .ok (.ifCond .eq 6, 3) := dk_153 0 6 (dk_at dksX2_doLead_2 0 rfl rfl)
theorem dX2_doLead_51 : decode cX2_doLead 51 = .ok (.goto 55, 3) := dk_167 0 55 (dk_at dksX2_doLead_2 3 rfl rfl)
theorem dX2_doLead_54 : decode cX2_doLead 54 = .ok (.iconst 1, 1) := dk_4 (dk_at dksX2_doLead_2 6 rfl rfl)
theorem dX2_doLead_55 : decode cX2_doLead 55 = .ok (.aload_n 0, 1) := dk_42 (dk_at dksX2_doLead_2 7 rfl rfl)
theorem dX2_doLead_56 : decode cX2_doLead 56 = .ok (.getfield 20, 3) := dk_180 0 20 (dk_at dksX2_doLead_2 8 rfl rfl)
theorem dX2_doLead_59 : decode cX2_doLead 59 = .ok (.bipush 59, 2) := dk_16 59 (dk_at dksX2_doLead_2 11 rfl rfl)
theorem dX2_doLead_61 : decode cX2_doLead 61 = .ok (.iconst 4, 1) := dk_7 (dk_at dksX2_doLead_2 13 rfl rfl)
theorem dX2_doLead_62 : decode cX2_doLead 62 = .ok (.iload 6, 2) := dk_21 6 (dk_at dksX2_doLead_2 14 rfl rfl)
theorem dX2_doLead_64 : decode cX2_doLead 64 = .ok (.imul, 1) := dk_104 (dk_at dksX2_doLead_2 16 rfl rfl)
theorem dX2_doLead_65 : decode cX2_doLead 65 = .ok (.iadd, 1) := dk_96 (dk_at dksX2_doLead_2 17 rfl rfl)
theorem dX2_doLead_66 : decode cX2_doLead 66 = .ok (.iaload, 1) := dk_46 (dk_at dksX2_doLead_2 18 rfl rfl)
theorem dX2_doLead_67 : decode cX2_doLead 67 = .ok (.ishl, 1) := dk_120 (dk_at dksX2_doLead_2 19 rfl rfl)
theorem dX2_doLead_68 : decode cX2_doLead 68 = .ok (.iconst 1, 1) := dk_4 (dk_at dksX2_doLead_2 20 rfl rfl)
theorem dX2_doLead_69 : decode cX2_doLead 69 = .ok (.aload_n 0, 1) := dk_42 (dk_at dksX2_doLead_2 21 rfl rfl)
theorem dX2_doLead_70 : decode cX2_doLead 70 = .ok (.getfield 20, 3) := dk_180 0 20 (dk_at dksX2_doLead_3 0 rfl rfl)
theorem dX2_doLead_73 : decode cX2_doLead 73 = .ok (.bipush 59, 2) := dk_16 59 (dk_at dksX2_doLead_3 3 rfl rfl)
theorem dX2_doLead_75 : decode cX2_doLead 75 = .ok (.iconst 4, 1) := dk_7 (dk_at dksX2_doLead_3 5 rfl rfl)
theorem dX2_doLead_76 : decode cX2_doLead 76 = .ok (.iload 6, 2) := dk_21 6 (dk_at dksX2_doLead_3 6 rfl rfl)
theorem dX2_doLead_78 : decode cX2_doLead 78 = .ok (.imul, 1) := dk_104 (dk_at dksX2_doLead_3 8 rfl rfl)
theorem dX2_doLead_79 : decode cX2_doLead 79 = .ok (.iadd, 1) := dk_96 (dk_at dksX2_doLead_3 9 rfl rfl)
theorem dX2_doLead_80 : decode cX2_doLead 80 = .ok (.iconst 1, 1) := dk_4 (dk_at dksX2_doLead_3 10 rfl rfl)
theorem dX2_doLead_81 : decode cX2_doLead 81 = .ok (.iadd, 1) := dk_96 (dk_at dksX2_doLead_3 11 rfl rfl)
theorem dX2_doLead_82 : decode cX2_doLead 82 = .ok (.iaload, 1) := dk_46 (dk_at dksX2_doLead_3 12 rfl rfl)
theorem dX2_doLead_83 : decode cX2_doLead 83 = .ok (.ishl, 1) := dk_120 (dk_at dksX2_doLead_3 13 rfl rfl)
theorem dX2_doLead_84 : decode cX2_doLead 84 = .ok (.ior, 1) := dk_128 (dk_at dksX2_doLead_3 14 rfl rfl)
theorem dX2_doLead_85 : decode cX2_doLead 85 = .ok (.istore 7, 2) := dk_54 7 (dk_at dksX2_doLead_3 15 rfl rfl)
theorem dX2_doLead_87 : decode cX2_doLead 87 = .ok (.iload 4, 2) := dk_21 4 (dk_at dksX2_doLead_3 17 rfl rfl)
theorem dX2_doLead_89 : decode cX2_doLead 89 = .ok (.iload 4, 2) := dk_21 4 (dk_at dksX2_doLead_3 19 rfl rfl)
theorem dX2_doLead_91 : decode cX2_doLead 91 = .ok (.iload 7, 2) := dk_21 7 (dk_at dksX2_doLead_3 21 rfl rfl)
theorem dX2_doLead_93 : decode cX2_doLead 93 = .ok (.iand, 1) := dk_126 (dk_at dksX2_doLead_3 23 rfl rfl)
theorem dX2_doLead_94 : decode cX2_doLead 94 = .ok (.ifCond .eq 8, 3) := dk_153 0 8 (dk_at dksX2_doLead_4 0 rfl rfl)
theorem dX2_doLead_97 : decode cX2_doLead 97 = .ok (.iload 7, 2) := dk_21 7 (dk_at dksX2_doLead_4 3 rfl rfl)
theorem dX2_doLead_99 : decode cX2_doLead 99 = .ok (.goto 4, 3) := dk_167 0 4 (dk_at dksX2_doLead_4 5 rfl rfl)
theorem dX2_doLead_102 : decode cX2_doLead 102 = .ok (.iconst 0, 1) := dk_3 (dk_at dksX2_doLead_4 8 rfl rfl)
theorem dX2_doLead_103 : decode cX2_doLead 103 = .ok (.ior, 1) := dk_128 (dk_at dksX2_doLead_4 9 rfl rfl)
theorem dX2_doLead_104 : decode cX2_doLead 104 = .ok (.istore 4, 2) := dk_54 4 (dk_at dksX2_doLead_4 10 rfl rfl)
theorem dX2_doLead_106 : decode cX2_doLead 106 = .ok (.iinc 6 1, 3) := dk_132 6 1 (dk_at dksX2_doLead_4 12 rfl rfl)
theorem dX2_doLead_109 : decode cX2_doLead 109 = .ok (.goto (-87), 3) := dk_167 255 169 (dk_at dksX2_doLead_4 15 rfl rfl)
theorem dX2_doLead_112 : decode cX2_doLead 112 = .ok (.goto (-104), 3) := dk_167 255 152 (dk_at dksX2_doLead_4 18 rfl rfl)
theorem dX2_doLead_115 : decode cX2_doLead 115 = .ok (.iload 4, 2) := dk_21 4 (dk_at dksX2_doLead_4 21 rfl rfl)
theorem dX2_doLead_117 : decode cX2_doLead 117 = .ok (.iload_n 2, 1) := dk_28 (dk_at dksX2_doLead_4 23 rfl rfl)
theorem dX2_doLead_118 : decode cX2_doLead 118 = .ok (.invokestatic 298, 3) := dk_184 1 42 (dk_at dksX2_doLead_5 0 rfl rfl)
theorem dX2_doLead_121 : decode cX2_doLead 121 = .ok (.ireturn, 1) := dk_172 (dk_at dksX2_doLead_5 3 rfl rfl)
abbrev cX2_round : ByteArray := prog_16_method_112_code
def yX2_round : MethodName := ⟨RX2, "round", "(I)I"⟩
def dkwX2_round_1 : List UInt8 := [182, 0, 170, 172]
abbrev dktX2_round_1 : List UInt8 := dkwX2_round_1 ++ []
def dkwX2_round_0 : List UInt8 := [42, 182, 0, 167, 42, 27, 182, 1, 21, 153, 0, 11, 42, 27, 182, 1, 163, 167, 0, 8, 42, 4]
abbrev dktX2_round_0 : List UInt8 := dkwX2_round_0 ++ dktX2_round_1
theorem dksX2_round_0 : cX2_round.data.toList.drop 0 = dktX2_round_0 := by decide +kernel
theorem dksX2_round_1 : cX2_round.data.toList.drop 22 = dktX2_round_1 := dk_seg dksX2_round_0 22 rfl rfl
theorem dX2_round_0 : decode cX2_round 0 = .ok (.aload_n 0, 1) := dk_42 (dk_at dksX2_round_0 0 rfl rfl)
theorem dX2_round_1 : decode cX2_round 1 = .ok (.invokevirtual 167, 3) := dk_182 0 167 (dk_at dksX2_round_0 1 rfl rfl)
theorem dX2_round_4 : decode cX2_round 4 = .ok (.aload_n 0, 1) := dk_42 (dk_at dksX2_round_0 4 rfl rfl)
theorem dX2_round_5 : decode cX2_round 5 = .ok (.iload_n 1, 1) := dk_27 (dk_at dksX2_round_0 5 rfl rfl)
theorem dX2_round_6 : decode cX2_round 6 = .ok (.invokevirtual 277, 3) := dk_182 1 21 (dk_at dksX2_round_0 6 rfl rfl)
theorem dX2_round_9 : decode cX2_round 9 = .ok (.ifCond .eq 11, 3) := dk_153 0 11 (dk_at dksX2_round_0 9 rfl rfl)
theorem dX2_round_12 : decode cX2_round 12 = .ok (.aload_n 0, 1) := dk_42 (dk_at dksX2_round_0 12 rfl rfl)
theorem dX2_round_13 : decode cX2_round 13 = .ok (.iload_n 1, 1) := dk_27 (dk_at dksX2_round_0 13 rfl rfl)
theorem dX2_round_14 : decode cX2_round 14 = .ok (.invokevirtual 419, 3) := dk_182 1 163 (dk_at dksX2_round_0 14 rfl rfl)
theorem dX2_round_17 : decode cX2_round 17 = .ok (.goto 8, 3) := dk_167 0 8 (dk_at dksX2_round_0 17 rfl rfl)
theorem dX2_round_20 : decode cX2_round 20 = .ok (.aload_n 0, 1) := dk_42 (dk_at dksX2_round_0 20 rfl rfl)
theorem dX2_round_21 : decode cX2_round 21 = .ok (.iconst 1, 1) := dk_4 (dk_at dksX2_round_0 21 rfl rfl)
theorem dX2_round_22 : decode cX2_round 22 = .ok (.invokevirtual 170, 3) := dk_182 0 170 (dk_at dksX2_round_1 0 rfl rfl)
theorem dX2_round_25 : decode cX2_round 25 = .ok (.ireturn, 1) := dk_172 (dk_at dksX2_round_1 3 rfl rfl)
abbrev cX2_seekRound : ByteArray := prog_16_method_111_code
def yX2_seekRound : MethodName := ⟨RX2, "seekRound", "(I)I"⟩
def dkwX2_seekRound_1 : List UInt8 := [182, 1, 157, 42, 180, 1, 154, 19, 1, 85, 160, 0, 8, 16, 254, 167, 0, 7, 42, 180, 1, 154, 172]
abbrev dktX2_seekRound_1 : List UInt8 := dkwX2_seekRound_1 ++ []
def dkwX2_seekRound_0 : List UInt8 := [42, 182, 1, 160, 42, 19, 1, 85, 181, 1, 154, 42, 180, 0, 56, 3, 27, 79, 42, 4, 4, 27, 120, 3]
abbrev dktX2_seekRound_0 : List UInt8 := dkwX2_seekRound_0 ++ dktX2_seekRound_1
theorem dksX2_seekRound_0 : cX2_seekRound.data.toList.drop 0 = dktX2_seekRound_0 := by decide +kernel
theorem dksX2_seekRound_1 : cX2_seekRound.data.toList.drop 24 = dktX2_seekRound_1 := dk_seg dksX2_seekRound_0 24 rfl rfl
theorem dX2_seekRound_0 : decode cX2_seekRound 0 = .ok (.aload_n 0, 1) := dk_42 (dk_at dksX2_seekRound_0 0 rfl rfl)
theorem dX2_seekRound_1 : decode cX2_seekRound 1 = .ok (.invokevirtual 416, 3) := dk_182 1 160 (dk_at dksX2_seekRound_0 1 rfl rfl)
theorem dX2_seekRound_4 : decode cX2_seekRound 4 = .ok (.aload_n 0, 1) := dk_42 (dk_at dksX2_seekRound_0 4 rfl rfl)
theorem dX2_seekRound_5 : decode cX2_seekRound 5 = .ok (.ldc_w 341, 3) := dk_19 1 85 (dk_at dksX2_seekRound_0 5 rfl rfl)
theorem dX2_seekRound_8 : decode cX2_seekRound 8 = .ok (.putfield 410, 3) := dk_181 1 154 (dk_at dksX2_seekRound_0 8 rfl rfl)
theorem dX2_seekRound_11 : decode cX2_seekRound 11 = .ok (.aload_n 0, 1) := dk_42 (dk_at dksX2_seekRound_0 11 rfl rfl)
theorem dX2_seekRound_12 : decode cX2_seekRound 12 = .ok (.getfield 56, 3) := dk_180 0 56 (dk_at dksX2_seekRound_0 12 rfl rfl)
theorem dX2_seekRound_15 : decode cX2_seekRound 15 = .ok (.iconst 0, 1) := dk_3 (dk_at dksX2_seekRound_0 15 rfl rfl)
theorem dX2_seekRound_16 : decode cX2_seekRound 16 = .ok (.iload_n 1, 1) := dk_27 (dk_at dksX2_seekRound_0 16 rfl rfl)
theorem dX2_seekRound_17 : decode cX2_seekRound 17 = .ok (.iastore, 1) := dk_79 (dk_at dksX2_seekRound_0 17 rfl rfl)
theorem dX2_seekRound_18 : decode cX2_seekRound 18 = .ok (.aload_n 0, 1) := dk_42 (dk_at dksX2_seekRound_0 18 rfl rfl)
theorem dX2_seekRound_19 : decode cX2_seekRound 19 = .ok (.iconst 1, 1) := dk_4 (dk_at dksX2_seekRound_0 19 rfl rfl)
theorem dX2_seekRound_20 : decode cX2_seekRound 20 = .ok (.iconst 1, 1) := dk_4 (dk_at dksX2_seekRound_0 20 rfl rfl)
theorem dX2_seekRound_21 : decode cX2_seekRound 21 = .ok (.iload_n 1, 1) := dk_27 (dk_at dksX2_seekRound_0 21 rfl rfl)
theorem dX2_seekRound_22 : decode cX2_seekRound 22 = .ok (.ishl, 1) := dk_120 (dk_at dksX2_seekRound_0 22 rfl rfl)
theorem dX2_seekRound_23 : decode cX2_seekRound 23 = .ok (.iconst 0, 1) := dk_3 (dk_at dksX2_seekRound_0 23 rfl rfl)
theorem dX2_seekRound_24 : decode cX2_seekRound 24 = .ok (.invokevirtual 413, 3) := dk_182 1 157 (dk_at dksX2_seekRound_1 0 rfl rfl)
theorem dX2_seekRound_27 : decode cX2_seekRound 27 = .ok (.aload_n 0, 1) := dk_42 (dk_at dksX2_seekRound_1 3 rfl rfl)
theorem dX2_seekRound_28 : decode cX2_seekRound 28 = .ok (.getfield 410, 3) := dk_180 1 154 (dk_at dksX2_seekRound_1 4 rfl rfl)
theorem dX2_seekRound_31 : decode cX2_seekRound 31 = .ok (.ldc_w 341, 3) := dk_19 1 85 (dk_at dksX2_seekRound_1 7 rfl rfl)
theorem dX2_seekRound_34 : decode cX2_seekRound 34 = .ok (.if_icmp .ne 8, 3) := dk_160 0 8 (dk_at dksX2_seekRound_1 10 rfl rfl)
theorem dX2_seekRound_37 : decode cX2_seekRound 37 = .ok (.bipush (-2), 2) := dk_16 254 (dk_at dksX2_seekRound_1 13 rfl rfl)
theorem dX2_seekRound_39 : decode cX2_seekRound 39 = .ok (.goto 7, 3) := dk_167 0 7 (dk_at dksX2_seekRound_1 15 rfl rfl)
theorem dX2_seekRound_42 : decode cX2_seekRound 42 = .ok (.aload_n 0, 1) := dk_42 (dk_at dksX2_seekRound_1 18 rfl rfl)
theorem dX2_seekRound_43 : decode cX2_seekRound 43 = .ok (.getfield 410, 3) := dk_180 1 154 (dk_at dksX2_seekRound_1 19 rfl rfl)
theorem dX2_seekRound_46 : decode cX2_seekRound 46 = .ok (.ireturn, 1) := dk_172 (dk_at dksX2_seekRound_1 22 rfl rfl)
abbrev cX2_layFar : ByteArray := prog_16_method_109_code
def yX2_layFar : MethodName := ⟨RX2, "layFa\x72", "()V"⟩
def dkwX2_layFar_9 : List UInt8 := [167, 255, 162, 132, 1, 1, 167, 255, 148, 177]
abbrev dktX2_layFar_9 : List UInt8 := dkwX2_layFar_9 ++ []
def dkwX2_layFar_8 : List UInt8 := [42, 180, 0, 53, 16, 7, 27, 104, 29, 96, 46, 96, 79, 132, 3, 1, 167, 255, 176, 132, 2, 1]
abbrev dktX2_layFar_8 : List UInt8 := dkwX2_layFar_8 ++ dktX2_layFar_9
def dkwX2_layFar_7 : List UInt8 := [162, 0, 37, 42, 180, 0, 53, 16, 7, 28, 104, 29, 96, 42, 180, 0, 53, 16, 7, 28, 104, 27, 96, 46]
abbrev dktX2_layFar_7 : List UInt8 := dkwX2_layFar_7 ++ dktX2_layFar_8
def dkwX2_layFar_6 : List UInt8 := [42, 180, 0, 53, 16, 7, 27, 104, 29, 96, 46, 96, 42, 180, 0, 53, 16, 7, 28, 104, 29, 96, 46]
abbrev dktX2_layFar_6 : List UInt8 := dkwX2_layFar_6 ++ dktX2_layFar_7
def dkwX2_layFar_5 : List UInt8 := [16, 7, 162, 0, 94, 3, 62, 29, 16, 7, 162, 0, 80, 42, 180, 0, 53, 16, 7, 28, 104, 27, 96, 46]
abbrev dktX2_layFar_5 : List UInt8 := dkwX2_layFar_5 ++ dktX2_layFar_6
def dkwX2_layFar_4 : List UInt8 := [132, 2, 1, 167, 255, 168, 132, 1, 1, 167, 255, 154, 3, 60, 27, 16, 7, 162, 0, 108, 3, 61, 28]
abbrev dktX2_layFar_4 : List UInt8 := dkwX2_layFar_4 ++ dktX2_layFar_5
def dkwX2_layFar_3 : List UInt8 := [29, 156, 0, 9, 19, 1, 85, 167, 0, 16, 42, 180, 0, 20, 16, 59, 7, 29, 104, 96, 5, 96, 46, 79]
abbrev dktX2_layFar_3 : List UInt8 := dkwX2_layFar_3 ++ dktX2_layFar_4
def dkwX2_layFar_2 : List UInt8 := [167, 0, 4, 2, 62, 42, 180, 0, 53, 16, 7, 27, 104, 28, 96, 27, 28, 160, 0, 7, 3, 167, 0, 26]
abbrev dktX2_layFar_2 : List UInt8 := dkwX2_layFar_2 ++ dktX2_layFar_3
def dkwX2_layFar_1 : List UInt8 := [162, 0, 27, 28, 42, 180, 0, 20, 7, 46, 162, 0, 17, 27, 28, 159, 0, 12, 42, 27, 28, 182, 1, 49]
abbrev dktX2_layFar_1 : List UInt8 := dkwX2_layFar_1 ++ dktX2_layFar_2
def dkwX2_layFar_0 : List UInt8 := [3, 60, 27, 16, 7, 162, 0, 102, 3, 61, 28, 16, 7, 162, 0, 88, 27, 42, 180, 0, 20, 7, 46]
abbrev dktX2_layFar_0 : List UInt8 := dkwX2_layFar_0 ++ dktX2_layFar_1
theorem dksX2_layFar_0 : cX2_layFar.data.toList.drop 0 = dktX2_layFar_0 := by decide +kernel
theorem dksX2_layFar_1 : cX2_layFar.data.toList.drop 23 = dktX2_layFar_1 := dk_seg dksX2_layFar_0 23 rfl rfl
theorem dksX2_layFar_2 : cX2_layFar.data.toList.drop 47 = dktX2_layFar_2 := dk_seg dksX2_layFar_1 24 rfl rfl
theorem dksX2_layFar_3 : cX2_layFar.data.toList.drop 71 = dktX2_layFar_3 := dk_seg dksX2_layFar_2 24 rfl rfl
theorem dksX2_layFar_4 : cX2_layFar.data.toList.drop 95 = dktX2_layFar_4 := dk_seg dksX2_layFar_3 24 rfl rfl
theorem dksX2_layFar_5 : cX2_layFar.data.toList.drop 118 = dktX2_layFar_5 := dk_seg dksX2_layFar_4 23 rfl rfl
theorem dksX2_layFar_6 : cX2_layFar.data.toList.drop 142 = dktX2_layFar_6 := dk_seg dksX2_layFar_5 24 rfl rfl
theorem dksX2_layFar_7 : cX2_layFar.data.toList.drop 165 = dktX2_layFar_7 := dk_seg dksX2_layFar_6 23 rfl rfl
theorem dksX2_layFar_8 : cX2_layFar.data.toList.drop 189 = dktX2_layFar_8 := dk_seg dksX2_layFar_7 24 rfl rfl
theorem dksX2_layFar_9 : cX2_layFar.data.toList.drop 211 = dktX2_layFar_9 := dk_seg dksX2_layFar_8 22 rfl rfl
theorem dX2_layFar_0 : decode cX2_layFar 0 = .ok (.iconst 0, 1) := dk_3 (dk_at dksX2_layFar_0 0 rfl rfl)
theorem dX2_layFar_1 : decode cX2_layFar 1 = .ok (.istore_n 1, 1) := dk_60 (dk_at dksX2_layFar_0 1 rfl rfl)
theorem dX2_layFar_2 : decode cX2_layFar 2 = .ok (.iload_n 1, 1) := dk_27 (dk_at dksX2_layFar_0 2 rfl rfl)
theorem dX2_layFar_3 : decode cX2_layFar 3 = .ok (.bipush 7, 2) := dk_16 7 (dk_at dksX2_layFar_0 3 rfl rfl)
theorem dX2_layFar_5 : decode cX2_layFar 5 = .ok (.if_icmp .ge 102, 3) := dk_162 0 102 (dk_at dksX2_layFar_0 5 rfl rfl)
theorem dX2_layFar_8 : decode cX2_layFar 8 = .ok (.iconst 0, 1) := dk_3 (dk_at dksX2_layFar_0 8 rfl rfl)
theorem dX2_layFar_9 : decode cX2_layFar 9 = .ok (.istore_n 2, 1) := dk_61 (dk_at dksX2_layFar_0 9 rfl rfl)
theorem dX2_layFar_10 : decode cX2_layFar 10 = .ok (.iload_n 2, 1) := dk_28 (dk_at dksX2_layFar_0 10 rfl rfl)
theorem dX2_layFar_11 : decode cX2_layFar 11 = .ok (.bipush 7, 2) := dk_16 7 (dk_at dksX2_layFar_0 11 rfl rfl)
theorem dX2_layFar_13 : decode cX2_layFar 13 = .ok (.if_icmp .ge 88, 3) := dk_162 0 88 (dk_at dksX2_layFar_0 13 rfl rfl)
theorem dX2_layFar_16 : decode cX2_layFar 16 = .ok (.iload_n 1, 1) := dk_27 (dk_at dksX2_layFar_0 16 rfl rfl)
theorem dX2_layFar_17 : decode cX2_layFar 17 = .ok (.aload_n 0, 1) := dk_42 (dk_at dksX2_layFar_0 17 rfl rfl)
theorem dX2_layFar_18 : decode cX2_layFar 18 = .ok (.getfield 20, 3) := dk_180 0 20 (dk_at dksX2_layFar_0 18 rfl rfl)
theorem dX2_layFar_21 : decode cX2_layFar 21 = .ok (.iconst 4, 1) := dk_7 (dk_at dksX2_layFar_0 21 rfl rfl)
theorem dX2_layFar_22 : decode cX2_layFar 22 = .ok (.iaload, 1) := dk_46 (dk_at dksX2_layFar_0 22 rfl rfl)
theorem dX2_layFar_23 : decode cX2_layFar 23 = .ok (.if_icmp .ge 27, 3) := dk_162 0 27 (dk_at dksX2_layFar_1 0 rfl rfl)
theorem dX2_layFar_26 : decode cX2_layFar 26 = .ok (.iload_n 2, 1) := dk_28 (dk_at dksX2_layFar_1 3 rfl rfl)
theorem dX2_layFar_27 : decode cX2_layFar 27 = .ok (.aload_n 0, 1) := dk_42 (dk_at dksX2_layFar_1 4 rfl rfl)
theorem dX2_layFar_28 : decode cX2_layFar 28 = .ok (.getfield 20, 3) := dk_180 0 20 (dk_at dksX2_layFar_1 5 rfl rfl)
theorem dX2_layFar_31 : decode cX2_layFar 31 = .ok (.iconst 4, 1) := dk_7 (dk_at dksX2_layFar_1 8 rfl rfl)
theorem dX2_layFar_32 : decode cX2_layFar 32 = .ok (.iaload, 1) := dk_46 (dk_at dksX2_layFar_1 9 rfl rfl)
theorem dX2_layFar_33 : decode cX2_layFar 33 = .ok (.if_icmp .ge 17, 3) := dk_162 0 17 (dk_at dksX2_layFar_1 10 rfl rfl)
theorem dX2_layFar_36 : decode cX2_layFar 36 = .ok (.iload_n 1, 1) := dk_27 (dk_at dksX2_layFar_1 13 rfl rfl)
theorem dX2_layFar_37 : decode cX2_layFar 37 = .ok (.iload_n 2, 1) := dk_28 (dk_at dksX2_layFar_1 14 rfl rfl)
theorem dX2_layFar_38 : decode cX2_layFar 38 = .ok (.if_icmp .eq 12, 3) := dk_159 0 12 (dk_at dksX2_layFar_1 15 rfl rfl)
theorem dX2_layFar_41 : decode cX2_layFar 41 = .ok (.aload_n 0, 1) := dk_42 (dk_at dksX2_layFar_1 18 rfl rfl)
theorem dX2_layFar_42 : decode cX2_layFar 42 = .ok (.iload_n 1, 1) := dk_27 (dk_at dksX2_layFar_1 19 rfl rfl)
theorem dX2_layFar_43 : decode cX2_layFar 43 = .ok (.iload_n 2, 1) := dk_28 (dk_at dksX2_layFar_1 20 rfl rfl)
theorem dX2_layFar_44 : decode cX2_layFar 44 = .ok (.invokevirtual 305, 3) := dk_182 1 49 (dk_at dksX2_layFar_1 21 rfl rfl)
theorem dX2_layFar_47 : decode cX2_layFar 47 = .ok (.goto 4, 3) := dk_167 0 4 (dk_at dksX2_layFar_2 0 rfl rfl)
theorem dX2_layFar_50 : decode cX2_layFar 50 = .ok (.iconst (-1), 1) := dk_2 (dk_at dksX2_layFar_2 3 rfl rfl)
theorem dX2_layFar_51 : decode cX2_layFar 51 = .ok (.istore_n 3, 1) := dk_62 (dk_at dksX2_layFar_2 4 rfl rfl)
theorem dX2_layFar_52 : decode cX2_layFar 52 = .ok (.aload_n 0, 1) := dk_42 (dk_at dksX2_layFar_2 5 rfl rfl)
theorem dX2_layFar_53 : decode cX2_layFar 53 = .ok (.getfield 53, 3) := dk_180 0 53 (dk_at dksX2_layFar_2 6 rfl rfl)
theorem dX2_layFar_56 : decode cX2_layFar 56 = .ok (.bipush 7, 2) := dk_16 7 (dk_at dksX2_layFar_2 9 rfl rfl)
theorem dX2_layFar_58 : decode cX2_layFar 58 = .ok (.iload_n 1, 1) := dk_27 (dk_at dksX2_layFar_2 11 rfl rfl)
theorem dX2_layFar_59 : decode cX2_layFar 59 = .ok (.imul, 1) := dk_104 (dk_at dksX2_layFar_2 12 rfl rfl)
theorem dX2_layFar_60 : decode cX2_layFar 60 = .ok (.iload_n 2, 1) := dk_28 (dk_at dksX2_layFar_2 13 rfl rfl)
theorem dX2_layFar_61 : decode cX2_layFar 61 = .ok (.iadd, 1) := dk_96 (dk_at dksX2_layFar_2 14 rfl rfl)
theorem dX2_layFar_62 : decode cX2_layFar 62 = .ok (.iload_n 1, 1) := dk_27 (dk_at dksX2_layFar_2 15 rfl rfl)
theorem dX2_layFar_63 : decode cX2_layFar 63 = .ok (.iload_n 2, 1) := dk_28 (dk_at dksX2_layFar_2 16 rfl rfl)
theorem dX2_layFar_64 : decode cX2_layFar 64 = .ok (.if_icmp .ne 7, 3) := dk_160 0 7 (dk_at dksX2_layFar_2 17 rfl rfl)
theorem dX2_layFar_67 : decode cX2_layFar 67 = .ok (.iconst 0, 1) := dk_3 (dk_at dksX2_layFar_2 20 rfl rfl)
theorem dX2_layFar_68 : decode cX2_layFar 68 = .ok (.goto 26, 3) := dk_167 0 26 (dk_at dksX2_layFar_2 21 rfl rfl)
theorem dX2_layFar_71 : decode cX2_layFar 71 = .ok (.iload_n 3, 1) := dk_29 (dk_at dksX2_layFar_3 0 rfl rfl)
theorem dX2_layFar_72 : decode cX2_layFar 72 = .ok (.ifCond .ge 9, 3) := dk_156 0 9 (dk_at dksX2_layFar_3 1 rfl rfl)
theorem dX2_layFar_75 : decode cX2_layFar 75 = .ok (.ldc_w 341, 3) := dk_19 1 85 (dk_at dksX2_layFar_3 4 rfl rfl)
theorem dX2_layFar_78 : decode cX2_layFar 78 = .ok (.goto 16, 3) := dk_167 0 16 (dk_at dksX2_layFar_3 7 rfl rfl)
theorem dX2_layFar_81 : decode cX2_layFar 81 = .ok (.aload_n 0, 1) := dk_42 (dk_at dksX2_layFar_3 10 rfl rfl)
theorem dX2_layFar_82 : decode cX2_layFar 82 = .ok (.getfield 20, 3) := dk_180 0 20 (dk_at dksX2_layFar_3 11 rfl rfl)
theorem dX2_layFar_85 : decode cX2_layFar 85 = .ok (.bipush 59, 2) := dk_16 59 (dk_at dksX2_layFar_3 14 rfl rfl)
theorem dX2_layFar_87 : decode cX2_layFar 87 = .ok (.iconst 4, 1) := dk_7 (dk_at dksX2_layFar_3 16 rfl rfl)
theorem dX2_layFar_88 : decode cX2_layFar 88 = .ok (.iload_n 3, 1) := dk_29 (dk_at dksX2_layFar_3 17 rfl rfl)
theorem dX2_layFar_89 : decode cX2_layFar 89 = .ok (.imul, 1) := dk_104 (dk_at dksX2_layFar_3 18 rfl rfl)
theorem dX2_layFar_90 : decode cX2_layFar 90 = .ok (.iadd, 1) := dk_96 (dk_at dksX2_layFar_3 19 rfl rfl)
theorem dX2_layFar_91 : decode cX2_layFar 91 = .ok (.iconst 2, 1) := dk_5 (dk_at dksX2_layFar_3 20 rfl rfl)
theorem dX2_layFar_92 : decode cX2_layFar 92 = .ok (.iadd, 1) := dk_96 (dk_at dksX2_layFar_3 21 rfl rfl)
theorem dX2_layFar_93 : decode cX2_layFar 93 = .ok (.iaload, 1) := dk_46 (dk_at dksX2_layFar_3 22 rfl rfl)
theorem dX2_layFar_94 : decode cX2_layFar 94 = .ok (.iastore, 1) := dk_79 (dk_at dksX2_layFar_3 23 rfl rfl)
theorem dX2_layFar_95 : decode cX2_layFar 95 = .ok (.iinc 2 1, 3) := dk_132 2 1 (dk_at dksX2_layFar_4 0 rfl rfl)
theorem dX2_layFar_98 : decode cX2_layFar 98 = .ok (.goto (-88), 3) := dk_167 255 168 (dk_at dksX2_layFar_4 3 rfl rfl)
theorem dX2_layFar_101 : decode cX2_layFar 101 = .ok (.iinc 1 1, 3) := dk_132 1 1 (dk_at dksX2_layFar_4 6 rfl rfl)
theorem dX2_layFar_104 : decode cX2_layFar 104 = .ok (.goto (-102), 3) := dk_167 255 154 (dk_at dksX2_layFar_4 9 rfl rfl)
theorem dX2_layFar_107 : decode cX2_layFar 107 = .ok (.iconst 0, 1) := dk_3 (dk_at dksX2_layFar_4 12 rfl rfl)
theorem dX2_layFar_108 : decode cX2_layFar 108 = .ok (.istore_n 1, 1) := dk_60 (dk_at dksX2_layFar_4 13 rfl rfl)
theorem dX2_layFar_109 : decode cX2_layFar 109 = .ok (.iload_n 1, 1) := dk_27 (dk_at dksX2_layFar_4 14 rfl rfl)
theorem dX2_layFar_110 : decode cX2_layFar 110 = .ok (.bipush 7, 2) := dk_16 7 (dk_at dksX2_layFar_4 15 rfl rfl)
theorem dX2_layFar_112 : decode cX2_layFar 112 = .ok (.if_icmp .ge 108, 3) := dk_162 0 108 (dk_at dksX2_layFar_4 17 rfl rfl)
theorem dX2_layFar_115 : decode cX2_layFar 115 = .ok (.iconst 0, 1) := dk_3 (dk_at dksX2_layFar_4 20 rfl rfl)
theorem dX2_layFar_116 : decode cX2_layFar 116 = .ok (.istore_n 2, 1) := dk_61 (dk_at dksX2_layFar_4 21 rfl rfl)
theorem dX2_layFar_117 : decode cX2_layFar 117 = .ok (.iload_n 2, 1) := dk_28 (dk_at dksX2_layFar_4 22 rfl rfl)
theorem dX2_layFar_118 : decode cX2_layFar 118 = .ok (.bipush 7, 2) := dk_16 7 (dk_at dksX2_layFar_5 0 rfl rfl)
theorem dX2_layFar_120 : decode cX2_layFar 120 = .ok (.if_icmp .ge 94, 3) := dk_162 0 94 (dk_at dksX2_layFar_5 2 rfl rfl)
theorem dX2_layFar_123 : decode cX2_layFar 123 = .ok (.iconst 0, 1) := dk_3 (dk_at dksX2_layFar_5 5 rfl rfl)
theorem dX2_layFar_124 : decode cX2_layFar 124 = .ok (.istore_n 3, 1) := dk_62 (dk_at dksX2_layFar_5 6 rfl rfl)
theorem dX2_layFar_125 : decode cX2_layFar 125 = .ok (.iload_n 3, 1) := dk_29 (dk_at dksX2_layFar_5 7 rfl rfl)
theorem dX2_layFar_126 : decode cX2_layFar 126 = .ok (.bipush 7, 2) := dk_16 7 (dk_at dksX2_layFar_5 8 rfl rfl)
theorem dX2_layFar_128 : decode cX2_layFar 128 = .ok (.if_icmp .ge 80, 3) := dk_162 0 80 (dk_at dksX2_layFar_5 10 rfl rfl)
theorem dX2_layFar_131 : decode cX2_layFar 131 = .ok (.aload_n 0, 1) := dk_42 (dk_at dksX2_layFar_5 13 rfl rfl)
theorem dX2_layFar_132 : decode cX2_layFar 132 = .ok (.getfield 53, 3) := dk_180 0 53 (dk_at dksX2_layFar_5 14 rfl rfl)
theorem dX2_layFar_135 : decode cX2_layFar 135 = .ok (.bipush 7, 2) := dk_16 7 (dk_at dksX2_layFar_5 17 rfl rfl)
theorem dX2_layFar_137 : decode cX2_layFar 137 = .ok (.iload_n 2, 1) := dk_28 (dk_at dksX2_layFar_5 19 rfl rfl)
theorem dX2_layFar_138 : decode cX2_layFar 138 = .ok (.imul, 1) := dk_104 (dk_at dksX2_layFar_5 20 rfl rfl)
theorem dX2_layFar_139 : decode cX2_layFar 139 = .ok (.iload_n 1, 1) := dk_27 (dk_at dksX2_layFar_5 21 rfl rfl)
theorem dX2_layFar_140 : decode cX2_layFar 140 = .ok (.iadd, 1) := dk_96 (dk_at dksX2_layFar_5 22 rfl rfl)
theorem dX2_layFar_141 : decode cX2_layFar 141 = .ok (.iaload, 1) := dk_46 (dk_at dksX2_layFar_5 23 rfl rfl)
theorem dX2_layFar_142 : decode cX2_layFar 142 = .ok (.aload_n 0, 1) := dk_42 (dk_at dksX2_layFar_6 0 rfl rfl)
theorem dX2_layFar_143 : decode cX2_layFar 143 = .ok (.getfield 53, 3) := dk_180 0 53 (dk_at dksX2_layFar_6 1 rfl rfl)
theorem dX2_layFar_146 : decode cX2_layFar 146 = .ok (.bipush 7, 2) := dk_16 7 (dk_at dksX2_layFar_6 4 rfl rfl)
theorem dX2_layFar_148 : decode cX2_layFar 148 = .ok (.iload_n 1, 1) := dk_27 (dk_at dksX2_layFar_6 6 rfl rfl)
theorem dX2_layFar_149 : decode cX2_layFar 149 = .ok (.imul, 1) := dk_104 (dk_at dksX2_layFar_6 7 rfl rfl)
theorem dX2_layFar_150 : decode cX2_layFar 150 = .ok (.iload_n 3, 1) := dk_29 (dk_at dksX2_layFar_6 8 rfl rfl)
theorem dX2_layFar_151 : decode cX2_layFar 151 = .ok (.iadd, 1) := dk_96 (dk_at dksX2_layFar_6 9 rfl rfl)
theorem dX2_layFar_152 : decode cX2_layFar 152 = .ok (.iaload, 1) := dk_46 (dk_at dksX2_layFar_6 10 rfl rfl)
theorem dX2_layFar_153 : decode cX2_layFar 153 = .ok (.iadd, 1) := dk_96 (dk_at dksX2_layFar_6 11 rfl rfl)
theorem dX2_layFar_154 : decode cX2_layFar 154 = .ok (.aload_n 0, 1) := dk_42 (dk_at dksX2_layFar_6 12 rfl rfl)
theorem dX2_layFar_155 : decode cX2_layFar 155 = .ok (.getfield 53, 3) := dk_180 0 53 (dk_at dksX2_layFar_6 13 rfl rfl)
theorem dX2_layFar_158 : decode cX2_layFar 158 = .ok (.bipush 7, 2) := dk_16 7 (dk_at dksX2_layFar_6 16 rfl rfl)
theorem dX2_layFar_160 : decode cX2_layFar 160 = .ok (.iload_n 2, 1) := dk_28 (dk_at dksX2_layFar_6 18 rfl rfl)
theorem dX2_layFar_161 : decode cX2_layFar 161 = .ok (.imul, 1) := dk_104 (dk_at dksX2_layFar_6 19 rfl rfl)
theorem dX2_layFar_162 : decode cX2_layFar 162 = .ok (.iload_n 3, 1) := dk_29 (dk_at dksX2_layFar_6 20 rfl rfl)
theorem dX2_layFar_163 : decode cX2_layFar 163 = .ok (.iadd, 1) := dk_96 (dk_at dksX2_layFar_6 21 rfl rfl)
theorem dX2_layFar_164 : decode cX2_layFar 164 = .ok (.iaload, 1) := dk_46 (dk_at dksX2_layFar_6 22 rfl rfl)
theorem dX2_layFar_165 : decode cX2_layFar 165 = .ok (.if_icmp .ge 37, 3) := dk_162 0 37 (dk_at dksX2_layFar_7 0 rfl rfl)
theorem dX2_layFar_168 : decode cX2_layFar 168 = .ok (.aload_n 0, 1) := dk_42 (dk_at dksX2_layFar_7 3 rfl rfl)
theorem dX2_layFar_169 : decode cX2_layFar 169 = .ok (.getfield 53, 3) := dk_180 0 53 (dk_at dksX2_layFar_7 4 rfl rfl)
theorem dX2_layFar_172 : decode cX2_layFar 172 = .ok (.bipush 7, 2) := dk_16 7 (dk_at dksX2_layFar_7 7 rfl rfl)
theorem dX2_layFar_174 : decode cX2_layFar 174 = .ok (.iload_n 2, 1) := dk_28 (dk_at dksX2_layFar_7 9 rfl rfl)
theorem dX2_layFar_175 : decode cX2_layFar 175 = .ok (.imul, 1) := dk_104 (dk_at dksX2_layFar_7 10 rfl rfl)
theorem dX2_layFar_176 : decode cX2_layFar 176 = .ok (.iload_n 3, 1) := dk_29 (dk_at dksX2_layFar_7 11 rfl rfl)
theorem dX2_layFar_177 : decode cX2_layFar 177 = .ok (.iadd, 1) := dk_96 (dk_at dksX2_layFar_7 12 rfl rfl)
theorem dX2_layFar_178 : decode cX2_layFar 178 = .ok (.aload_n 0, 1) := dk_42 (dk_at dksX2_layFar_7 13 rfl rfl)
theorem dX2_layFar_179 : decode cX2_layFar 179 = .ok (.getfield 53, 3) := dk_180 0 53 (dk_at dksX2_layFar_7 14 rfl rfl)
theorem dX2_layFar_182 : decode cX2_layFar 182 = .ok (.bipush 7, 2) := dk_16 7 (dk_at dksX2_layFar_7 17 rfl rfl)
theorem dX2_layFar_184 : decode cX2_layFar 184 = .ok (.iload_n 2, 1) := dk_28 (dk_at dksX2_layFar_7 19 rfl rfl)
theorem dX2_layFar_185 : decode cX2_layFar 185 = .ok (.imul, 1) := dk_104 (dk_at dksX2_layFar_7 20 rfl rfl)
theorem dX2_layFar_186 : decode cX2_layFar 186 = .ok (.iload_n 1, 1) := dk_27 (dk_at dksX2_layFar_7 21 rfl rfl)
theorem dX2_layFar_187 : decode cX2_layFar 187 = .ok (.iadd, 1) := dk_96 (dk_at dksX2_layFar_7 22 rfl rfl)
theorem dX2_layFar_188 : decode cX2_layFar 188 = .ok (.iaload, 1) := dk_46 (dk_at dksX2_layFar_7 23 rfl rfl)
theorem dX2_layFar_189 : decode cX2_layFar 189 = .ok (.aload_n 0, 1) := dk_42 (dk_at dksX2_layFar_8 0 rfl rfl)
theorem dX2_layFar_190 : decode cX2_layFar 190 = .ok (.getfield 53, 3) := dk_180 0 53 (dk_at dksX2_layFar_8 1 rfl rfl)
theorem dX2_layFar_193 : decode cX2_layFar 193 = .ok (.bipush 7, 2) := dk_16 7 (dk_at dksX2_layFar_8 4 rfl rfl)
theorem dX2_layFar_195 : decode cX2_layFar 195 = .ok (.iload_n 1, 1) := dk_27 (dk_at dksX2_layFar_8 6 rfl rfl)
theorem dX2_layFar_196 : decode cX2_layFar 196 = .ok (.imul, 1) := dk_104 (dk_at dksX2_layFar_8 7 rfl rfl)
theorem dX2_layFar_197 : decode cX2_layFar 197 = .ok (.iload_n 3, 1) := dk_29 (dk_at dksX2_layFar_8 8 rfl rfl)
theorem dX2_layFar_198 : decode cX2_layFar 198 = .ok (.iadd, 1) := dk_96 (dk_at dksX2_layFar_8 9 rfl rfl)
theorem dX2_layFar_199 : decode cX2_layFar 199 = .ok (.iaload, 1) := dk_46 (dk_at dksX2_layFar_8 10 rfl rfl)
theorem dX2_layFar_200 : decode cX2_layFar 200 = .ok (.iadd, 1) := dk_96 (dk_at dksX2_layFar_8 11 rfl rfl)
theorem dX2_layFar_201 : decode cX2_layFar 201 = .ok (.iastore, 1) := dk_79 (dk_at dksX2_layFar_8 12 rfl rfl)
theorem dX2_layFar_202 : decode cX2_layFar 202 = .ok (.iinc 3 1, 3) := dk_132 3 1 (dk_at dksX2_layFar_8 13 rfl rfl)
theorem dX2_layFar_205 : decode cX2_layFar 205 = .ok (.goto (-80), 3) := dk_167 255 176 (dk_at dksX2_layFar_8 16 rfl rfl)
theorem dX2_layFar_208 : decode cX2_layFar 208 = .ok (.iinc 2 1, 3) := dk_132 2 1 (dk_at dksX2_layFar_8 19 rfl rfl)
theorem dX2_layFar_211 : decode cX2_layFar 211 = .ok (.goto (-94), 3) := dk_167 255 162 (dk_at dksX2_layFar_9 0 rfl rfl)
theorem dX2_layFar_214 : decode cX2_layFar 214 = .ok (.iinc 1 1, 3) := dk_132 1 1 (dk_at dksX2_layFar_9 3 rfl rfl)
theorem dX2_layFar_217 : decode cX2_layFar 217 = .ok (.goto (-108), 3) := dk_167 255 148 (dk_at dksX2_layFar_9 6 rfl rfl)
theorem dX2_layFar_220 : decode cX2_layFar 220 = .ok (.return_, 1) := dk_177 (dk_at dksX2_layFar_9 9 rfl rfl)
abbrev cX2_tryRound : ByteArray := prog_16_method_110_code
def yX2_tryRound : MethodName := ⟨RX2, "tryRound", "(III)V"⟩
def dkwX2_tryRound_4 : List UInt8 := [100, 46, 104, 21, 4, 96, 46, 96, 182, 1, 157, 132, 4, 1, 167, 255, 188, 177]
abbrev dktX2_tryRound_4 : List UInt8 := dkwX2_tryRound_4 ++ []
def dkwX2_tryRound_3 : List UInt8 := [79, 42, 27, 4, 96, 28, 4, 21, 4, 120, 128, 29, 42, 180, 0, 53, 16, 7, 42, 180, 0, 56, 27, 4]
abbrev dktX2_tryRound_3 : List UInt8 := dkwX2_tryRound_3 ++ dktX2_tryRound_4
def dkwX2_tryRound_2 : List UInt8 := [7, 46, 162, 0, 63, 28, 21, 4, 184, 1, 42, 153, 0, 6, 167, 0, 45, 42, 180, 0, 56, 27, 21, 4]
abbrev dktX2_tryRound_2 : List UInt8 := dkwX2_tryRound_2 ++ dktX2_tryRound_3
def dkwX2_tryRound_1 : List UInt8 := [42, 180, 0, 56, 3, 42, 180, 0, 59, 3, 27, 184, 0, 176, 177, 3, 54, 4, 21, 4, 42, 180, 0, 20]
abbrev dktX2_tryRound_1 : List UInt8 := dkwX2_tryRound_1 ++ dktX2_tryRound_2
def dkwX2_tryRound_0 : List UInt8 := [29, 42, 180, 1, 154, 161, 0, 4, 177, 27, 42, 180, 0, 20, 7, 46, 160, 0, 23, 42, 29, 181, 1, 154]
abbrev dktX2_tryRound_0 : List UInt8 := dkwX2_tryRound_0 ++ dktX2_tryRound_1
theorem dksX2_tryRound_0 : cX2_tryRound.data.toList.drop 0 = dktX2_tryRound_0 := by decide +kernel
theorem dksX2_tryRound_1 : cX2_tryRound.data.toList.drop 24 = dktX2_tryRound_1 := dk_seg dksX2_tryRound_0 24 rfl rfl
theorem dksX2_tryRound_2 : cX2_tryRound.data.toList.drop 48 = dktX2_tryRound_2 := dk_seg dksX2_tryRound_1 24 rfl rfl
theorem dksX2_tryRound_3 : cX2_tryRound.data.toList.drop 72 = dktX2_tryRound_3 := dk_seg dksX2_tryRound_2 24 rfl rfl
theorem dksX2_tryRound_4 : cX2_tryRound.data.toList.drop 96 = dktX2_tryRound_4 := dk_seg dksX2_tryRound_3 24 rfl rfl
theorem dX2_tryRound_0 : decode cX2_tryRound 0 = .ok (.iload_n 3, 1) := dk_29 (dk_at dksX2_tryRound_0 0 rfl rfl)
theorem dX2_tryRound_1 : decode cX2_tryRound 1 = .ok (.aload_n 0, 1) := dk_42 (dk_at dksX2_tryRound_0 1 rfl rfl)
theorem dX2_tryRound_2 : decode cX2_tryRound 2 = .ok (.getfield 410, 3) := dk_180 1 154 (dk_at dksX2_tryRound_0 2 rfl rfl)
theorem dX2_tryRound_5 : decode cX2_tryRound 5 = .ok (.if_icmp .lt 4, 3) := dk_161 0 4 (dk_at dksX2_tryRound_0 5 rfl rfl)
theorem dX2_tryRound_8 : decode cX2_tryRound 8 = .ok (.return_, 1) := dk_177 (dk_at dksX2_tryRound_0 8 rfl rfl)
theorem dX2_tryRound_9 : decode cX2_tryRound 9 = .ok (.iload_n 1, 1) := dk_27 (dk_at dksX2_tryRound_0 9 rfl rfl)
theorem dX2_tryRound_10 : decode cX2_tryRound 10 = .ok (.aload_n 0, 1) := dk_42 (dk_at dksX2_tryRound_0 10 rfl rfl)
theorem dX2_tryRound_11 : decode cX2_tryRound 11 = .ok (.getfield 20, 3) := dk_180 0 20 (dk_at dksX2_tryRound_0 11 rfl rfl)
theorem dX2_tryRound_14 : decode cX2_tryRound 14 = .ok (.iconst 4, 1) := dk_7 (dk_at dksX2_tryRound_0 14 rfl rfl)
theorem dX2_tryRound_15 : decode cX2_tryRound 15 = .ok (.iaload, 1) := dk_46 (dk_at dksX2_tryRound_0 15 rfl rfl)
theorem dX2_tryRound_16 : decode cX2_tryRound 16 = .ok (.if_icmp .ne 23, 3) := dk_160 0 23 (dk_at dksX2_tryRound_0 16 rfl rfl)
theorem dX2_tryRound_19 : decode cX2_tryRound 19 = .ok (.aload_n 0, 1) := dk_42 (dk_at dksX2_tryRound_0 19 rfl rfl)
theorem dX2_tryRound_20 : decode cX2_tryRound 20 = .ok (.iload_n 3, 1) := dk_29 (dk_at dksX2_tryRound_0 20 rfl rfl)
theorem dX2_tryRound_21 : decode cX2_tryRound 21 = .ok (.putfield 410, 3) := dk_181 1 154 (dk_at dksX2_tryRound_0 21 rfl rfl)
theorem dX2_tryRound_24 : decode cX2_tryRound 24 = .ok (.aload_n 0, 1) := dk_42 (dk_at dksX2_tryRound_1 0 rfl rfl)
theorem dX2_tryRound_25 : decode cX2_tryRound 25 = .ok (.getfield 56, 3) := dk_180 0 56 (dk_at dksX2_tryRound_1 1 rfl rfl)
theorem dX2_tryRound_28 : decode cX2_tryRound 28 = .ok (.iconst 0, 1) := dk_3 (dk_at dksX2_tryRound_1 4 rfl rfl)
theorem dX2_tryRound_29 : decode cX2_tryRound 29 = .ok (.aload_n 0, 1) := dk_42 (dk_at dksX2_tryRound_1 5 rfl rfl)
theorem dX2_tryRound_30 : decode cX2_tryRound 30 = .ok (.getfield 59, 3) := dk_180 0 59 (dk_at dksX2_tryRound_1 6 rfl rfl)
theorem dX2_tryRound_33 : decode cX2_tryRound 33 = .ok (.iconst 0, 1) := dk_3 (dk_at dksX2_tryRound_1 9 rfl rfl)
theorem dX2_tryRound_34 : decode cX2_tryRound 34 = .ok (.iload_n 1, 1) := dk_27 (dk_at dksX2_tryRound_1 10 rfl rfl)
theorem dX2_tryRound_35 : decode cX2_tryRound 35 = .ok (.invokestatic 176, 3) := dk_184 0 176 (dk_at dksX2_tryRound_1 11 rfl rfl)
theorem dX2_tryRound_38 : decode cX2_tryRound 38 = .ok (.return_, 1) := dk_177 (dk_at dksX2_tryRound_1 14 rfl rfl)
theorem dX2_tryRound_39 : decode cX2_tryRound 39 = .ok (.iconst 0, 1) := dk_3 (dk_at dksX2_tryRound_1 15 rfl rfl)
theorem dX2_tryRound_40 : decode cX2_tryRound 40 = .ok (.istore 4, 2) := dk_54 4 (dk_at dksX2_tryRound_1 16 rfl rfl)
theorem dX2_tryRound_42 : decode cX2_tryRound 42 = .ok (.iload 4, 2) := dk_21 4 (dk_at dksX2_tryRound_1 18 rfl rfl)
theorem dX2_tryRound_44 : decode cX2_tryRound 44 = .ok (.aload_n 0, 1) := dk_42 (dk_at dksX2_tryRound_1 20 rfl rfl)
theorem dX2_tryRound_45 : decode cX2_tryRound 45 = .ok (.getfield 20, 3) := dk_180 0 20 (dk_at dksX2_tryRound_1 21 rfl rfl)
theorem dX2_tryRound_48 : decode cX2_tryRound 48 = .ok (.iconst 4, 1) := dk_7 (dk_at dksX2_tryRound_2 0 rfl rfl)
theorem dX2_tryRound_49 : decode cX2_tryRound 49 = .ok (.iaload, 1) := dk_46 (dk_at dksX2_tryRound_2 1 rfl rfl)
theorem dX2_tryRound_50 : decode cX2_tryRound 50 = .ok (.if_icmp .ge 63, 3) := dk_162 0 63 (dk_at dksX2_tryRound_2 2 rfl rfl)
theorem dX2_tryRound_53 : decode cX2_tryRound 53 = .ok (.iload_n 2, 1) := dk_28 (dk_at dksX2_tryRound_2 5 rfl rfl)
theorem dX2_tryRound_54 : decode cX2_tryRound 54 = .ok (.iload 4, 2) := dk_21 4 (dk_at dksX2_tryRound_2 6 rfl rfl)
theorem dX2_tryRound_56 : decode cX2_tryRound 56 = .ok (.invokestatic 298, 3) := dk_184 1 42 (dk_at dksX2_tryRound_2 8 rfl rfl)
theorem dX2_tryRound_59 : decode cX2_tryRound 59 = .ok (.ifCond .eq 6, 3) := dk_153 0 6 (dk_at dksX2_tryRound_2 11 rfl rfl)
theorem dX2_tryRound_62 : decode cX2_tryRound 62 = .ok (.goto 45, 3) := dk_167 0 45 (dk_at dksX2_tryRound_2 14 rfl rfl)
theorem dX2_tryRound_65 : decode cX2_tryRound 65 = .ok (.aload_n 0, 1) := dk_42 (dk_at dksX2_tryRound_2 17 rfl rfl)
theorem dX2_tryRound_66 : decode cX2_tryRound 66 = .ok (.getfield 56, 3) := dk_180 0 56 (dk_at dksX2_tryRound_2 18 rfl rfl)
theorem dX2_tryRound_69 : decode cX2_tryRound 69 = .ok (.iload_n 1, 1) := dk_27 (dk_at dksX2_tryRound_2 21 rfl rfl)
theorem dX2_tryRound_70 : decode cX2_tryRound 70 = .ok (.iload 4, 2) := dk_21 4 (dk_at dksX2_tryRound_2 22 rfl rfl)
theorem dX2_tryRound_72 : decode cX2_tryRound 72 = .ok (.iastore, 1) := dk_79 (dk_at dksX2_tryRound_3 0 rfl rfl)
theorem dX2_tryRound_73 : decode cX2_tryRound 73 = .ok (.aload_n 0, 1) := dk_42 (dk_at dksX2_tryRound_3 1 rfl rfl)
theorem dX2_tryRound_74 : decode cX2_tryRound 74 = .ok (.iload_n 1, 1) := dk_27 (dk_at dksX2_tryRound_3 2 rfl rfl)
theorem dX2_tryRound_75 : decode cX2_tryRound 75 = .ok (.iconst 1, 1) := dk_4 (dk_at dksX2_tryRound_3 3 rfl rfl)
theorem dX2_tryRound_76 : decode cX2_tryRound 76 = .ok (.iadd, 1) := dk_96 (dk_at dksX2_tryRound_3 4 rfl rfl)
theorem dX2_tryRound_77 : decode cX2_tryRound 77 = .ok (.iload_n 2, 1) := dk_28 (dk_at dksX2_tryRound_3 5 rfl rfl)
theorem dX2_tryRound_78 : decode cX2_tryRound 78 = .ok (.iconst 1, 1) := dk_4 (dk_at dksX2_tryRound_3 6 rfl rfl)
theorem dX2_tryRound_79 : decode cX2_tryRound 79 = .ok (.iload 4, 2) := dk_21 4 (dk_at dksX2_tryRound_3 7 rfl rfl)
theorem dX2_tryRound_81 : decode cX2_tryRound 81 = .ok (.ishl, 1) := dk_120 (dk_at dksX2_tryRound_3 9 rfl rfl)
theorem dX2_tryRound_82 : decode cX2_tryRound 82 = .ok (.ior, 1) := dk_128 (dk_at dksX2_tryRound_3 10 rfl rfl)
theorem dX2_tryRound_83 : decode cX2_tryRound 83 = .ok (.iload_n 3, 1) := dk_29 (dk_at dksX2_tryRound_3 11 rfl rfl)
theorem dX2_tryRound_84 : decode cX2_tryRound 84 = .ok (.aload_n 0, 1) := dk_42 (dk_at dksX2_tryRound_3 12 rfl rfl)
theorem dX2_tryRound_85 : decode cX2_tryRound 85 = .ok (.getfield 53, 3) := dk_180 0 53 (dk_at dksX2_tryRound_3 13 rfl rfl)
theorem dX2_tryRound_88 : decode cX2_tryRound 88 = .ok (.bipush 7, 2) := dk_16 7 (dk_at dksX2_tryRound_3 16 rfl rfl)
theorem dX2_tryRound_90 : decode cX2_tryRound 90 = .ok (.aload_n 0, 1) := dk_42 (dk_at dksX2_tryRound_3 18 rfl rfl)
theorem dX2_tryRound_91 : decode cX2_tryRound 91 = .ok (.getfield 56, 3) := dk_180 0 56 (dk_at dksX2_tryRound_3 19 rfl rfl)
theorem dX2_tryRound_94 : decode cX2_tryRound 94 = .ok (.iload_n 1, 1) := dk_27 (dk_at dksX2_tryRound_3 22 rfl rfl)
theorem dX2_tryRound_95 : decode cX2_tryRound 95 = .ok (.iconst 1, 1) := dk_4 (dk_at dksX2_tryRound_3 23 rfl rfl)
theorem dX2_tryRound_96 : decode cX2_tryRound 96 = .ok (.isub, 1) := dk_100 (dk_at dksX2_tryRound_4 0 rfl rfl)
theorem dX2_tryRound_97 : decode cX2_tryRound 97 = .ok (.iaload, 1) := dk_46 (dk_at dksX2_tryRound_4 1 rfl rfl)
theorem dX2_tryRound_98 : decode cX2_tryRound 98 = .ok (.imul, 1) := dk_104 (dk_at dksX2_tryRound_4 2 rfl rfl)
theorem dX2_tryRound_99 : decode cX2_tryRound 99 = .ok (.iload 4, 2) := dk_21 4 (dk_at dksX2_tryRound_4 3 rfl rfl)
theorem dX2_tryRound_101 : decode cX2_tryRound 101 = .ok (.iadd, 1) := dk_96 (dk_at dksX2_tryRound_4 5 rfl rfl)
theorem dX2_tryRound_102 : decode cX2_tryRound 102 = .ok (.iaload, 1) := dk_46 (dk_at dksX2_tryRound_4 6 rfl rfl)
theorem dX2_tryRound_103 : decode cX2_tryRound 103 = .ok (.iadd, 1) := dk_96 (dk_at dksX2_tryRound_4 7 rfl rfl)
theorem dX2_tryRound_104 : decode cX2_tryRound 104 = .ok (.invokevirtual 413, 3) := dk_182 1 157 (dk_at dksX2_tryRound_4 8 rfl rfl)
theorem dX2_tryRound_107 : decode cX2_tryRound 107 = .ok (.iinc 4 1, 3) := dk_132 4 1 (dk_at dksX2_tryRound_4 11 rfl rfl)
theorem dX2_tryRound_110 : decode cX2_tryRound 110 = .ok (.goto (-68), 3) := dk_167 255 188 (dk_at dksX2_tryRound_4 14 rfl rfl)
theorem dX2_tryRound_113 : decode cX2_tryRound 113 = .ok (.return_, 1) := dk_177 (dk_at dksX2_tryRound_4 17 rfl rfl)
abbrev cX2_roundAt : ByteArray := prog_16_method_113_code
def yX2_roundAt : MethodName := ⟨RX2, "roundAt", "(II)I"⟩
def dkwX2_roundAt_2 : List UInt8 := [182, 0, 170, 167, 0, 9, 42, 180, 0, 59, 28, 46, 172]
abbrev dktX2_roundAt_2 : List UInt8 := dkwX2_roundAt_2 ++ []
def dkwX2_roundAt_1 : List UInt8 := [184, 0, 149, 154, 0, 9, 42, 4, 182, 0, 170, 172, 42, 27, 182, 1, 163, 156, 0, 12, 42, 16, 6]
abbrev dktX2_roundAt_1 : List UInt8 := dkwX2_roundAt_1 ++ dktX2_roundAt_2
def dkwX2_roundAt_0 : List UInt8 := [42, 182, 0, 167, 42, 27, 182, 1, 21, 153, 0, 19, 28, 3, 42, 180, 0, 20, 7, 46, 4, 100]
abbrev dktX2_roundAt_0 : List UInt8 := dkwX2_roundAt_0 ++ dktX2_roundAt_1
theorem dksX2_roundAt_0 : cX2_roundAt.data.toList.drop 0 = dktX2_roundAt_0 := by decide +kernel
theorem dksX2_roundAt_1 : cX2_roundAt.data.toList.drop 22 = dktX2_roundAt_1 := dk_seg dksX2_roundAt_0 22 rfl rfl
theorem dksX2_roundAt_2 : cX2_roundAt.data.toList.drop 45 = dktX2_roundAt_2 := dk_seg dksX2_roundAt_1 23 rfl rfl
theorem dX2_roundAt_0 : decode cX2_roundAt 0 = .ok (.aload_n 0, 1) := dk_42 (dk_at dksX2_roundAt_0 0 rfl rfl)
theorem dX2_roundAt_1 : decode cX2_roundAt 1 = .ok (.invokevirtual 167, 3) := dk_182 0 167 (dk_at dksX2_roundAt_0 1 rfl rfl)
theorem dX2_roundAt_4 : decode cX2_roundAt 4 = .ok (.aload_n 0, 1) := dk_42 (dk_at dksX2_roundAt_0 4 rfl rfl)
theorem dX2_roundAt_5 : decode cX2_roundAt 5 = .ok (.iload_n 1, 1) := dk_27 (dk_at dksX2_roundAt_0 5 rfl rfl)
theorem dX2_roundAt_6 : decode cX2_roundAt 6 = .ok (.invokevirtual 277, 3) := dk_182 1 21 (dk_at dksX2_roundAt_0 6 rfl rfl)
theorem dX2_roundAt_9 : decode cX2_roundAt 9 = .ok (.ifCond .eq 19, 3) := dk_153 0 19 (dk_at dksX2_roundAt_0 9 rfl rfl)
theorem dX2_roundAt_12 : decode cX2_roundAt 12 = .ok (.iload_n 2, 1) := dk_28 (dk_at dksX2_roundAt_0 12 rfl rfl)
theorem dX2_roundAt_13 : decode cX2_roundAt 13 = .ok (.iconst 0, 1) := dk_3 (dk_at dksX2_roundAt_0 13 rfl rfl)
theorem dX2_roundAt_14 : decode cX2_roundAt 14 = .ok (.aload_n 0, 1) := dk_42 (dk_at dksX2_roundAt_0 14 rfl rfl)
theorem dX2_roundAt_15 : decode cX2_roundAt 15 = .ok (.getfield 20, 3) := dk_180 0 20 (dk_at dksX2_roundAt_0 15 rfl rfl)
theorem dX2_roundAt_18 : decode cX2_roundAt 18 = .ok (.iconst 4, 1) := dk_7 (dk_at dksX2_roundAt_0 18 rfl rfl)
theorem dX2_roundAt_19 : decode cX2_roundAt 19 = .ok (.iaload, 1) := dk_46 (dk_at dksX2_roundAt_0 19 rfl rfl)
theorem dX2_roundAt_20 : decode cX2_roundAt 20 = .ok (.iconst 1, 1) := dk_4 (dk_at dksX2_roundAt_0 20 rfl rfl)
theorem dX2_roundAt_21 : decode cX2_roundAt 21 = .ok (.isub, 1) := dk_100 (dk_at dksX2_roundAt_0 21 rfl rfl)
theorem dX2_roundAt_22 : decode cX2_roundAt 22 = .ok (.invokestatic 149, 3) := dk_184 0 149 (dk_at dksX2_roundAt_1 0 rfl rfl)
theorem dX2_roundAt_25 : decode cX2_roundAt 25 = .ok (.ifCond .ne 9, 3) := dk_154 0 9 (dk_at dksX2_roundAt_1 3 rfl rfl)
theorem dX2_roundAt_28 : decode cX2_roundAt 28 = .ok (.aload_n 0, 1) := dk_42 (dk_at dksX2_roundAt_1 6 rfl rfl)
theorem dX2_roundAt_29 : decode cX2_roundAt 29 = .ok (.iconst 1, 1) := dk_4 (dk_at dksX2_roundAt_1 7 rfl rfl)
theorem dX2_roundAt_30 : decode cX2_roundAt 30 = .ok (.invokevirtual 170, 3) := dk_182 0 170 (dk_at dksX2_roundAt_1 8 rfl rfl)
theorem dX2_roundAt_33 : decode cX2_roundAt 33 = .ok (.ireturn, 1) := dk_172 (dk_at dksX2_roundAt_1 11 rfl rfl)
theorem dX2_roundAt_34 : decode cX2_roundAt 34 = .ok (.aload_n 0, 1) := dk_42 (dk_at dksX2_roundAt_1 12 rfl rfl)
theorem dX2_roundAt_35 : decode cX2_roundAt 35 = .ok (.iload_n 1, 1) := dk_27 (dk_at dksX2_roundAt_1 13 rfl rfl)
theorem dX2_roundAt_36 : decode cX2_roundAt 36 = .ok (.invokevirtual 419, 3) := dk_182 1 163 (dk_at dksX2_roundAt_1 14 rfl rfl)
theorem dX2_roundAt_39 : decode cX2_roundAt 39 = .ok (.ifCond .ge 12, 3) := dk_156 0 12 (dk_at dksX2_roundAt_1 17 rfl rfl)
theorem dX2_roundAt_42 : decode cX2_roundAt 42 = .ok (.aload_n 0, 1) := dk_42 (dk_at dksX2_roundAt_1 20 rfl rfl)
theorem dX2_roundAt_43 : decode cX2_roundAt 43 = .ok (.bipush 6, 2) := dk_16 6 (dk_at dksX2_roundAt_1 21 rfl rfl)
theorem dX2_roundAt_45 : decode cX2_roundAt 45 = .ok (.invokevirtual 170, 3) := dk_182 0 170 (dk_at dksX2_roundAt_2 0 rfl rfl)
theorem dX2_roundAt_48 : decode cX2_roundAt 48 = .ok (.goto 9, 3) := dk_167 0 9 (dk_at dksX2_roundAt_2 3 rfl rfl)
theorem dX2_roundAt_51 : decode cX2_roundAt 51 = .ok (.aload_n 0, 1) := dk_42 (dk_at dksX2_roundAt_2 6 rfl rfl)
theorem dX2_roundAt_52 : decode cX2_roundAt 52 = .ok (.getfield 59, 3) := dk_180 0 59 (dk_at dksX2_roundAt_2 7 rfl rfl)
theorem dX2_roundAt_55 : decode cX2_roundAt 55 = .ok (.iload_n 2, 1) := dk_28 (dk_at dksX2_roundAt_2 10 rfl rfl)
theorem dX2_roundAt_56 : decode cX2_roundAt 56 = .ok (.iaload, 1) := dk_46 (dk_at dksX2_roundAt_2 11 rfl rfl)
theorem dX2_roundAt_57 : decode cX2_roundAt 57 = .ok (.ireturn, 1) := dk_172 (dk_at dksX2_roundAt_2 12 rfl rfl)
abbrev cX2_decade : ByteArray := prog_16_method_114_code
def yX2_decade : MethodName := ⟨RX2, "decade", "(II)I"⟩
def dkwX2_decade_8 : List UInt8 := [132, 6, 1, 167, 255, 127, 132, 5, 1, 167, 255, 112, 21, 4, 172]
abbrev dktX2_decade_8 : List UInt8 := dkwX2_decade_8 ++ []
def dkwX2_decade_7 : List UInt8 := [21, 8, 182, 1, 35, 42, 21, 6, 4, 182, 1, 6, 160, 0, 7, 4, 167, 0, 4, 3, 96, 54, 4]
abbrev dktX2_decade_7 : List UInt8 := dkwX2_decade_7 ++ dktX2_decade_8
def dkwX2_decade_6 : List UInt8 := [180, 0, 20, 3, 46, 112, 54, 8, 21, 4, 42, 21, 6, 42, 180, 0, 26, 3, 46, 21, 5, 96, 21, 7]
abbrev dktX2_decade_6 : List UInt8 := dkwX2_decade_6 ++ dktX2_decade_7
def dkwX2_decade_5 : List UInt8 := [21, 6, 182, 1, 28, 112, 54, 7, 16, 75, 29, 104, 16, 74, 96, 19, 1, 167, 112, 62, 29, 42]
abbrev dktX2_decade_5 : List UInt8 := dkwX2_decade_5 ++ dktX2_decade_6
def dkwX2_decade_4 : List UInt8 := [112, 42, 180, 0, 20, 6, 46, 162, 0, 47, 16, 75, 29, 104, 16, 74, 96, 19, 1, 167, 112, 62, 29, 42]
abbrev dktX2_decade_4 : List UInt8 := dkwX2_decade_4 ++ dktX2_decade_5
def dkwX2_decade_3 : List UInt8 := [162, 0, 123, 2, 54, 7, 3, 54, 8, 16, 75, 29, 104, 16, 74, 96, 19, 1, 167, 112, 62, 29, 16, 100]
abbrev dktX2_decade_3 : List UInt8 := dkwX2_decade_3 ++ dktX2_decade_4
def dkwX2_decade_2 : List UInt8 := [3, 54, 4, 3, 54, 5, 21, 5, 28, 162, 0, 144, 3, 54, 6, 21, 6, 42, 180, 0, 20, 16, 7, 46]
abbrev dktX2_decade_2 : List UInt8 := dkwX2_decade_2 ++ dktX2_decade_3
def dkwX2_decade_1 : List UInt8 := [184, 0, 149, 153, 0, 13, 28, 3, 16, 50, 184, 0, 149, 154, 0, 9, 42, 5, 182, 0, 170, 172, 27, 62]
abbrev dktX2_decade_1 : List UInt8 := dkwX2_decade_1 ++ dktX2_decade_2
def dkwX2_decade_0 : List UInt8 := [42, 182, 0, 167, 42, 180, 0, 180, 154, 0, 9, 42, 4, 182, 0, 170, 172, 27, 3, 19, 1, 166]
abbrev dktX2_decade_0 : List UInt8 := dkwX2_decade_0 ++ dktX2_decade_1
theorem dksX2_decade_0 : cX2_decade.data.toList.drop 0 = dktX2_decade_0 := by decide +kernel
theorem dksX2_decade_1 : cX2_decade.data.toList.drop 22 = dktX2_decade_1 := dk_seg dksX2_decade_0 22 rfl rfl
theorem dksX2_decade_2 : cX2_decade.data.toList.drop 46 = dktX2_decade_2 := dk_seg dksX2_decade_1 24 rfl rfl
theorem dksX2_decade_3 : cX2_decade.data.toList.drop 70 = dktX2_decade_3 := dk_seg dksX2_decade_2 24 rfl rfl
theorem dksX2_decade_4 : cX2_decade.data.toList.drop 94 = dktX2_decade_4 := dk_seg dksX2_decade_3 24 rfl rfl
theorem dksX2_decade_5 : cX2_decade.data.toList.drop 118 = dktX2_decade_5 := dk_seg dksX2_decade_4 24 rfl rfl
theorem dksX2_decade_6 : cX2_decade.data.toList.drop 140 = dktX2_decade_6 := dk_seg dksX2_decade_5 22 rfl rfl
theorem dksX2_decade_7 : cX2_decade.data.toList.drop 164 = dktX2_decade_7 := dk_seg dksX2_decade_6 24 rfl rfl
theorem dksX2_decade_8 : cX2_decade.data.toList.drop 187 = dktX2_decade_8 := dk_seg dksX2_decade_7 23 rfl rfl
theorem dX2_decade_0 : decode cX2_decade 0 = .ok (.aload_n 0, 1) := dk_42 (dk_at dksX2_decade_0 0 rfl rfl)
theorem dX2_decade_1 : decode cX2_decade 1 = .ok (.invokevirtual 167, 3) := dk_182 0 167 (dk_at dksX2_decade_0 1 rfl rfl)
theorem dX2_decade_4 : decode cX2_decade 4 = .ok (.aload_n 0, 1) := dk_42 (dk_at dksX2_decade_0 4 rfl rfl)
theorem dX2_decade_5 : decode cX2_decade 5 = .ok (.getfield 180, 3) := dk_180 0 180 (dk_at dksX2_decade_0 5 rfl rfl)
theorem dX2_decade_8 : decode cX2_decade 8 = .ok (.ifCond .ne 9, 3) := dk_154 0 9 (dk_at dksX2_decade_0 8 rfl rfl)
theorem dX2_decade_11 : decode cX2_decade 11 = .ok (.aload_n 0, 1) := dk_42 (dk_at dksX2_decade_0 11 rfl rfl)
theorem dX2_decade_12 : decode cX2_decade 12 = .ok (.iconst 1, 1) := dk_4 (dk_at dksX2_decade_0 12 rfl rfl)
theorem dX2_decade_13 : decode cX2_decade 13 = .ok (.invokevirtual 170, 3) := dk_182 0 170 (dk_at dksX2_decade_0 13 rfl rfl)
theorem dX2_decade_16 : decode cX2_decade 16 = .ok (.ireturn, 1) := dk_172 (dk_at dksX2_decade_0 16 rfl rfl)
theorem dX2_decade_17 : decode cX2_decade 17 = .ok (.iload_n 1, 1) := dk_27 (dk_at dksX2_decade_0 17 rfl rfl)
theorem dX2_decade_18 : decode cX2_decade 18 = .ok (.iconst 0, 1) := dk_3 (dk_at dksX2_decade_0 18 rfl rfl)
theorem dX2_decade_19 : decode cX2_decade 19 = .ok (.ldc_w 422, 3) := dk_19 1 166 (dk_at dksX2_decade_0 19 rfl rfl)
theorem dX2_decade_22 : decode cX2_decade 22 = .ok (.invokestatic 149, 3) := dk_184 0 149 (dk_at dksX2_decade_1 0 rfl rfl)
theorem dX2_decade_25 : decode cX2_decade 25 = .ok (.ifCond .eq 13, 3) := dk_153 0 13 (dk_at dksX2_decade_1 3 rfl rfl)
theorem dX2_decade_28 : decode cX2_decade 28 = .ok (.iload_n 2, 1) := dk_28 (dk_at dksX2_decade_1 6 rfl rfl)
theorem dX2_decade_29 : decode cX2_decade 29 = .ok (.iconst 0, 1) := dk_3 (dk_at dksX2_decade_1 7 rfl rfl)
theorem dX2_decade_30 : decode cX2_decade 30 = .ok (.bipush 50, 2) := dk_16 50 (dk_at dksX2_decade_1 8 rfl rfl)
theorem dX2_decade_32 : decode cX2_decade 32 = .ok (.invokestatic 149, 3) := dk_184 0 149 (dk_at dksX2_decade_1 10 rfl rfl)
theorem dX2_decade_35 : decode cX2_decade 35 = .ok (.ifCond .ne 9, 3) := dk_154 0 9 (dk_at dksX2_decade_1 13 rfl rfl)
theorem dX2_decade_38 : decode cX2_decade 38 = .ok (.aload_n 0, 1) := dk_42 (dk_at dksX2_decade_1 16 rfl rfl)
theorem dX2_decade_39 : decode cX2_decade 39 = .ok (.iconst 2, 1) := dk_5 (dk_at dksX2_decade_1 17 rfl rfl)
theorem dX2_decade_40 : decode cX2_decade 40 = .ok (.invokevirtual 170, 3) := dk_182 0 170 (dk_at dksX2_decade_1 18 rfl rfl)
theorem dX2_decade_43 : decode cX2_decade 43 = .ok (.ireturn, 1) := dk_172 (dk_at dksX2_decade_1 21 rfl rfl)
theorem dX2_decade_44 : decode cX2_decade 44 = .ok (.iload_n 1, 1) := dk_27 (dk_at dksX2_decade_1 22 rfl rfl)
theorem dX2_decade_45 : decode cX2_decade 45 = .ok (.istore_n 3, 1) := dk_62 (dk_at dksX2_decade_1 23 rfl rfl)
theorem dX2_decade_46 : decode cX2_decade 46 = .ok (.iconst 0, 1) := dk_3 (dk_at dksX2_decade_2 0 rfl rfl)
theorem dX2_decade_47 : decode cX2_decade 47 = .ok (.istore 4, 2) := dk_54 4 (dk_at dksX2_decade_2 1 rfl rfl)
theorem dX2_decade_49 : decode cX2_decade 49 = .ok (.iconst 0, 1) := dk_3 (dk_at dksX2_decade_2 3 rfl rfl)
theorem dX2_decade_50 : decode cX2_decade 50 = .ok (.istore 5, 2) := dk_54 5 (dk_at dksX2_decade_2 4 rfl rfl)
theorem dX2_decade_52 : decode cX2_decade 52 = .ok (.iload 5, 2) := dk_21 5 (dk_at dksX2_decade_2 6 rfl rfl)
theorem dX2_decade_54 : decode cX2_decade 54 = .ok (.iload_n 2, 1) := dk_28 (dk_at dksX2_decade_2 8 rfl rfl)
theorem dX2_decade_55 : decode cX2_decade 55 = .ok (.if_icmp .ge 144, 3) := dk_162 0 144 (dk_at dksX2_decade_2 9 rfl rfl)
theorem dX2_decade_58 : decode cX2_decade 58 = .ok (.iconst 0, 1) := dk_3 (dk_at dksX2_decade_2 12 rfl rfl)
theorem dX2_decade_59 : decode cX2_decade 59 = .ok (.istore 6, 2) := dk_54 6 (dk_at dksX2_decade_2 13 rfl rfl)
theorem dX2_decade_61 : decode cX2_decade 61 = .ok (.iload 6, 2) := dk_21 6 (dk_at dksX2_decade_2 15 rfl rfl)
theorem dX2_decade_63 : decode cX2_decade 63 = .ok (.aload_n 0, 1) := dk_42 (dk_at dksX2_decade_2 17 rfl rfl)
theorem dX2_decade_64 : decode cX2_decade 64 = .ok (.getfield 20, 3) := dk_180 0 20 (dk_at dksX2_decade_2 18 rfl rfl)
theorem dX2_decade_67 : decode cX2_decade 67 = .ok (.bipush 7, 2) := dk_16 7 (dk_at dksX2_decade_2 21 rfl rfl)
theorem dX2_decade_69 : decode cX2_decade 69 = .ok (.iaload, 1) := dk_46 (dk_at dksX2_decade_2 23 rfl rfl)
theorem dX2_decade_70 : decode cX2_decade 70 = .ok (.if_icmp .ge 123, 3) := dk_162 0 123 (dk_at dksX2_decade_3 0 rfl rfl)
theorem dX2_decade_73 : decode cX2_decade 73 = .ok (.iconst (-1), 1) := dk_2 (dk_at dksX2_decade_3 3 rfl rfl)
theorem dX2_decade_74 : decode cX2_decade 74 = .ok (.istore 7, 2) := dk_54 7 (dk_at dksX2_decade_3 4 rfl rfl)
theorem dX2_decade_76 : decode cX2_decade 76 = .ok (.iconst 0, 1) := dk_3 (dk_at dksX2_decade_3 6 rfl rfl)
theorem dX2_decade_77 : decode cX2_decade 77 = .ok (.istore 8, 2) := dk_54 8 (dk_at dksX2_decade_3 7 rfl rfl)
theorem dX2_decade_79 : decode cX2_decade 79 = .ok (.bipush 75, 2) := dk_16 75 (dk_at dksX2_decade_3 9 rfl rfl)
theorem dX2_decade_81 : decode cX2_decade 81 = .ok (.iload_n 3, 1) := dk_29 (dk_at dksX2_decade_3 11 rfl rfl)
theorem dX2_decade_82 : decode cX2_decade 82 = .ok (.imul, 1) := dk_104 (dk_at dksX2_decade_3 12 rfl rfl)
theorem dX2_decade_83 : decode cX2_decade 83 = .ok (.bipush 74, 2) := dk_16 74 (dk_at dksX2_decade_3 13 rfl rfl)
theorem dX2_decade_85 : decode cX2_decade 85 = .ok (.iadd, 1) := dk_96 (dk_at dksX2_decade_3 15 rfl rfl)
theorem dX2_decade_86 : decode cX2_decade 86 = .ok (.ldc_w 423, 3) := dk_19 1 167 (dk_at dksX2_decade_3 16 rfl rfl)
theorem dX2_decade_89 : decode cX2_decade 89 = .ok (.irem, 1) := dk_112 (dk_at dksX2_decade_3 19 rfl rfl)
theorem dX2_decade_90 : decode cX2_decade 90 = .ok (.istore_n 3, 1) := dk_62 (dk_at dksX2_decade_3 20 rfl rfl)
theorem dX2_decade_91 : decode cX2_decade 91 = .ok (.iload_n 3, 1) := dk_29 (dk_at dksX2_decade_3 21 rfl rfl)
theorem dX2_decade_92 : decode cX2_decade 92 = .ok (.bipush 100, 2) := dk_16 100 (dk_at dksX2_decade_3 22 rfl rfl)
theorem dX2_decade_94 : decode cX2_decade 94 = .ok (.irem, 1) := dk_112 (dk_at dksX2_decade_4 0 rfl rfl)
theorem dX2_decade_95 : decode cX2_decade 95 = .ok (.aload_n 0, 1) := dk_42 (dk_at dksX2_decade_4 1 rfl rfl)
theorem dX2_decade_96 : decode cX2_decade 96 = .ok (.getfield 20, 3) := dk_180 0 20 (dk_at dksX2_decade_4 2 rfl rfl)
theorem dX2_decade_99 : decode cX2_decade 99 = .ok (.iconst 3, 1) := dk_6 (dk_at dksX2_decade_4 5 rfl rfl)
theorem dX2_decade_100 : decode cX2_decade 100 = .ok (.iaload, 1) := dk_46 (dk_at dksX2_decade_4 6 rfl rfl)
theorem dX2_decade_101 : decode cX2_decade 101 = .ok (.if_icmp .ge 47, 3) := dk_162 0 47 (dk_at dksX2_decade_4 7 rfl rfl)
theorem dX2_decade_104 : decode cX2_decade 104 = .ok (.bipush 75, 2) := dk_16 75 (dk_at dksX2_decade_4 10 rfl rfl)
theorem dX2_decade_106 : decode cX2_decade 106 = .ok (.iload_n 3, 1) := dk_29 (dk_at dksX2_decade_4 12 rfl rfl)
theorem dX2_decade_107 : decode cX2_decade 107 = .ok (.imul, 1) := dk_104 (dk_at dksX2_decade_4 13 rfl rfl)
theorem dX2_decade_108 : decode cX2_decade 108 = .ok (.bipush 74, 2) := dk_16 74 (dk_at dksX2_decade_4 14 rfl rfl)
theorem dX2_decade_110 : decode cX2_decade 110 = .ok (.iadd, 1) := dk_96 (dk_at dksX2_decade_4 16 rfl rfl)
theorem dX2_decade_111 : decode cX2_decade 111 = .ok (.ldc_w 423, 3) := dk_19 1 167 (dk_at dksX2_decade_4 17 rfl rfl)
theorem dX2_decade_114 : decode cX2_decade 114 = .ok (.irem, 1) := dk_112 (dk_at dksX2_decade_4 20 rfl rfl)
theorem dX2_decade_115 : decode cX2_decade 115 = .ok (.istore_n 3, 1) := dk_62 (dk_at dksX2_decade_4 21 rfl rfl)
theorem dX2_decade_116 : decode cX2_decade 116 = .ok (.iload_n 3, 1) := dk_29 (dk_at dksX2_decade_4 22 rfl rfl)
theorem dX2_decade_117 : decode cX2_decade 117 = .ok (.aload_n 0, 1) := dk_42 (dk_at dksX2_decade_4 23 rfl rfl)
theorem dX2_decade_118 : decode cX2_decade 118 = .ok (.iload 6, 2) := dk_21 6 (dk_at dksX2_decade_5 0 rfl rfl)
theorem dX2_decade_120 : decode cX2_decade 120 = .ok (.invokevirtual 284, 3) := dk_182 1 28 (dk_at dksX2_decade_5 2 rfl rfl)
theorem dX2_decade_123 : decode cX2_decade 123 = .ok (.irem, 1) := dk_112 (dk_at dksX2_decade_5 5 rfl rfl)
theorem dX2_decade_124 : decode cX2_decade 124 = .ok (.istore 7, 2) := dk_54 7 (dk_at dksX2_decade_5 6 rfl rfl)
theorem dX2_decade_126 : decode cX2_decade 126 = .ok (.bipush 75, 2) := dk_16 75 (dk_at dksX2_decade_5 8 rfl rfl)
theorem dX2_decade_128 : decode cX2_decade 128 = .ok (.iload_n 3, 1) := dk_29 (dk_at dksX2_decade_5 10 rfl rfl)
theorem dX2_decade_129 : decode cX2_decade 129 = .ok (.imul, 1) := dk_104 (dk_at dksX2_decade_5 11 rfl rfl)
theorem dX2_decade_130 : decode cX2_decade 130 = .ok (.bipush 74, 2) := dk_16 74 (dk_at dksX2_decade_5 12 rfl rfl)
theorem dX2_decade_132 : decode cX2_decade 132 = .ok (.iadd, 1) := dk_96 (dk_at dksX2_decade_5 14 rfl rfl)
theorem dX2_decade_133 : decode cX2_decade 133 = .ok (.ldc_w 423, 3) := dk_19 1 167 (dk_at dksX2_decade_5 15 rfl rfl)
theorem dX2_decade_136 : decode cX2_decade 136 = .ok (.irem, 1) := dk_112 (dk_at dksX2_decade_5 18 rfl rfl)
theorem dX2_decade_137 : decode cX2_decade 137 = .ok (.istore_n 3, 1) := dk_62 (dk_at dksX2_decade_5 19 rfl rfl)
theorem dX2_decade_138 : decode cX2_decade 138 = .ok (.iload_n 3, 1) := dk_29 (dk_at dksX2_decade_5 20 rfl rfl)
theorem dX2_decade_139 : decode cX2_decade 139 = .ok (.aload_n 0, 1) := dk_42 (dk_at dksX2_decade_5 21 rfl rfl)
theorem dX2_decade_140 : decode cX2_decade 140 = .ok (.getfield 20, 3) := dk_180 0 20 (dk_at dksX2_decade_6 0 rfl rfl)
theorem dX2_decade_143 : decode cX2_decade 143 = .ok (.iconst 0, 1) := dk_3 (dk_at dksX2_decade_6 3 rfl rfl)
theorem dX2_decade_144 : decode cX2_decade 144 = .ok (.iaload, 1) := dk_46 (dk_at dksX2_decade_6 4 rfl rfl)
theorem dX2_decade_145 : decode cX2_decade 145 = .ok (.irem, 1) := dk_112 (dk_at dksX2_decade_6 5 rfl rfl)
theorem dX2_decade_146 : decode cX2_decade 146 = .ok (.istore 8, 2) := dk_54 8 (dk_at dksX2_decade_6 6 rfl rfl)
theorem dX2_decade_148 : decode cX2_decade 148 = .ok (.iload 4, 2) := dk_21 4 (dk_at dksX2_decade_6 8 rfl rfl)
theorem dX2_decade_150 : decode cX2_decade 150 = .ok (.aload_n 0, 1) := dk_42 (dk_at dksX2_decade_6 10 rfl rfl)
theorem dX2_decade_151 : decode cX2_decade 151 = .ok (.iload 6, 2) := dk_21 6 (dk_at dksX2_decade_6 11 rfl rfl)
theorem dX2_decade_153 : decode cX2_decade 153 = .ok (.aload_n 0, 1) := dk_42 (dk_at dksX2_decade_6 13 rfl rfl)
theorem dX2_decade_154 : decode cX2_decade 154 = .ok (.getfield 26, 3) := dk_180 0 26 (dk_at dksX2_decade_6 14 rfl rfl)
theorem dX2_decade_157 : decode cX2_decade 157 = .ok (.iconst 0, 1) := dk_3 (dk_at dksX2_decade_6 17 rfl rfl)
theorem dX2_decade_158 : decode cX2_decade 158 = .ok (.iaload, 1) := dk_46 (dk_at dksX2_decade_6 18 rfl rfl)
theorem dX2_decade_159 : decode cX2_decade 159 = .ok (.iload 5, 2) := dk_21 5 (dk_at dksX2_decade_6 19 rfl rfl)
theorem dX2_decade_161 : decode cX2_decade 161 = .ok (.iadd, 1) := dk_96 (dk_at dksX2_decade_6 21 rfl rfl)
theorem dX2_decade_162 : decode cX2_decade 162 = .ok (.iload 7, 2) := dk_21 7 (dk_at dksX2_decade_6 22 rfl rfl)
theorem dX2_decade_164 : decode cX2_decade 164 = .ok (.iload 8, 2) := dk_21 8 (dk_at dksX2_decade_7 0 rfl rfl)
theorem dX2_decade_166 : decode cX2_decade 166 = .ok (.invokevirtual 291, 3) := dk_182 1 35 (dk_at dksX2_decade_7 2 rfl rfl)
theorem dX2_decade_169 : decode cX2_decade 169 = .ok (.aload_n 0, 1) := dk_42 (dk_at dksX2_decade_7 5 rfl rfl)
theorem dX2_decade_170 : decode cX2_decade 170 = .ok (.iload 6, 2) := dk_21 6 (dk_at dksX2_decade_7 6 rfl rfl)
theorem dX2_decade_172 : decode cX2_decade 172 = .ok (.iconst 1, 1) := dk_4 (dk_at dksX2_decade_7 8 rfl rfl)
theorem dX2_decade_173 : decode cX2_decade 173 = .ok (.invokevirtual 262, 3) := dk_182 1 6 (dk_at dksX2_decade_7 9 rfl rfl)
theorem dX2_decade_176 : decode cX2_decade 176 = .ok (.if_icmp .ne 7, 3) := dk_160 0 7 (dk_at dksX2_decade_7 12 rfl rfl)
theorem dX2_decade_179 : decode cX2_decade 179 = .ok (.iconst 1, 1) := dk_4 (dk_at dksX2_decade_7 15 rfl rfl)
theorem dX2_decade_180 : decode cX2_decade 180 = .ok (.goto 4, 3) := dk_167 0 4 (dk_at dksX2_decade_7 16 rfl rfl)
theorem dX2_decade_183 : decode cX2_decade 183 = .ok (.iconst 0, 1) := dk_3 (dk_at dksX2_decade_7 19 rfl rfl)
theorem dX2_decade_184 : decode cX2_decade 184 = .ok (.iadd, 1) := dk_96 (dk_at dksX2_decade_7 20 rfl rfl)
theorem dX2_decade_185 : decode cX2_decade 185 = .ok (.istore 4, 2) := dk_54 4 (dk_at dksX2_decade_7 21 rfl rfl)
theorem dX2_decade_187 : decode cX2_decade 187 = .ok (.iinc 6 1, 3) := dk_132 6 1 (dk_at dksX2_decade_8 0 rfl rfl)
theorem dX2_decade_190 : decode cX2_decade 190 = .ok (.goto (-129), 3) := dk_167 255 127 (dk_at dksX2_decade_8 3 rfl rfl)
theorem dX2_decade_193 : decode cX2_decade 193 = .ok (.iinc 5 1, 3) := dk_132 5 1 (dk_at dksX2_decade_8 6 rfl rfl)
theorem dX2_decade_196 : decode cX2_decade 196 = .ok (.goto (-144), 3) := dk_167 255 112 (dk_at dksX2_decade_8 9 rfl rfl)
theorem dX2_decade_199 : decode cX2_decade 199 = .ok (.iload 4, 2) := dk_21 4 (dk_at dksX2_decade_8 12 rfl rfl)
theorem dX2_decade_201 : decode cX2_decade 201 = .ok (.ireturn, 1) := dk_172 (dk_at dksX2_decade_8 14 rfl rfl)
abbrev cX2_send : ByteArray := prog_16_method_116_code
def yX2_send : MethodName := ⟨RX2, "send", "(II)I"⟩
def dkwX2_send_4 : List UInt8 := [28, 96, 21, 4, 4, 96, 79, 29, 172]
abbrev dktX2_send_4 : List UInt8 := dkwX2_send_4 ++ []
def dkwX2_send_3 : List UInt8 := [16, 7, 27, 96, 29, 79, 42, 180, 0, 26, 16, 12, 28, 96, 29, 4, 96, 79, 42, 180, 0, 26, 16, 20]
abbrev dktX2_send_3 : List UInt8 := dkwX2_send_3 ++ dktX2_send_4
def dkwX2_send_2 : List UInt8 := [182, 1, 39, 54, 4, 42, 182, 1, 168, 42, 180, 0, 26, 5, 27, 96, 21, 4, 79, 42, 180, 0, 26]
abbrev dktX2_send_2 : List UInt8 := dkwX2_send_2 ++ dktX2_send_3
def dkwX2_send_1 : List UInt8 := [182, 0, 170, 172, 42, 27, 28, 182, 1, 111, 62, 29, 156, 0, 9, 42, 8, 182, 0, 170, 172, 42, 28]
abbrev dktX2_send_1 : List UInt8 := dkwX2_send_1 ++ dktX2_send_2
def dkwX2_send_0 : List UInt8 := [42, 182, 0, 167, 42, 27, 182, 1, 12, 153, 0, 11, 42, 28, 182, 1, 18, 154, 0, 9, 42, 4]
abbrev dktX2_send_0 : List UInt8 := dkwX2_send_0 ++ dktX2_send_1
theorem dksX2_send_0 : cX2_send.data.toList.drop 0 = dktX2_send_0 := by decide +kernel
theorem dksX2_send_1 : cX2_send.data.toList.drop 22 = dktX2_send_1 := dk_seg dksX2_send_0 22 rfl rfl
theorem dksX2_send_2 : cX2_send.data.toList.drop 45 = dktX2_send_2 := dk_seg dksX2_send_1 23 rfl rfl
theorem dksX2_send_3 : cX2_send.data.toList.drop 68 = dktX2_send_3 := dk_seg dksX2_send_2 23 rfl rfl
theorem dksX2_send_4 : cX2_send.data.toList.drop 92 = dktX2_send_4 := dk_seg dksX2_send_3 24 rfl rfl
theorem dX2_send_0 : decode cX2_send 0 = .ok (.aload_n 0, 1) := dk_42 (dk_at dksX2_send_0 0 rfl rfl)
theorem dX2_send_1 : decode cX2_send 1 = .ok (.invokevirtual 167, 3) := dk_182 0 167 (dk_at dksX2_send_0 1 rfl rfl)
theorem dX2_send_4 : decode cX2_send 4 = .ok (.aload_n 0, 1) := dk_42 (dk_at dksX2_send_0 4 rfl rfl)
theorem dX2_send_5 : decode cX2_send 5 = .ok (.iload_n 1, 1) := dk_27 (dk_at dksX2_send_0 5 rfl rfl)
theorem dX2_send_6 : decode cX2_send 6 = .ok (.invokevirtual 268, 3) := dk_182 1 12 (dk_at dksX2_send_0 6 rfl rfl)
theorem dX2_send_9 : decode cX2_send 9 = .ok (.ifCond .eq 11, 3) := dk_153 0 11 (dk_at dksX2_send_0 9 rfl rfl)
theorem dX2_send_12 : decode cX2_send 12 = .ok (.aload_n 0, 1) := dk_42 (dk_at dksX2_send_0 12 rfl rfl)
theorem dX2_send_13 : decode cX2_send 13 = .ok (.iload_n 2, 1) := dk_28 (dk_at dksX2_send_0 13 rfl rfl)
theorem dX2_send_14 : decode cX2_send 14 = .ok (.invokevirtual 274, 3) := dk_182 1 18 (dk_at dksX2_send_0 14 rfl rfl)
theorem dX2_send_17 : decode cX2_send 17 = .ok (.ifCond .ne 9, 3) := dk_154 0 9 (dk_at dksX2_send_0 17 rfl rfl)
theorem dX2_send_20 : decode cX2_send 20 = .ok (.aload_n 0, 1) := dk_42 (dk_at dksX2_send_0 20 rfl rfl)
theorem dX2_send_21 : decode cX2_send 21 = .ok (.iconst 1, 1) := dk_4 (dk_at dksX2_send_0 21 rfl rfl)
theorem dX2_send_22 : decode cX2_send 22 = .ok (.invokevirtual 170, 3) := dk_182 0 170 (dk_at dksX2_send_1 0 rfl rfl)
theorem dX2_send_25 : decode cX2_send 25 = .ok (.ireturn, 1) := dk_172 (dk_at dksX2_send_1 3 rfl rfl)
theorem dX2_send_26 : decode cX2_send 26 = .ok (.aload_n 0, 1) := dk_42 (dk_at dksX2_send_1 4 rfl rfl)
theorem dX2_send_27 : decode cX2_send 27 = .ok (.iload_n 1, 1) := dk_27 (dk_at dksX2_send_1 5 rfl rfl)
theorem dX2_send_28 : decode cX2_send 28 = .ok (.iload_n 2, 1) := dk_28 (dk_at dksX2_send_1 6 rfl rfl)
theorem dX2_send_29 : decode cX2_send 29 = .ok (.invokevirtual 367, 3) := dk_182 1 111 (dk_at dksX2_send_1 7 rfl rfl)
theorem dX2_send_32 : decode cX2_send 32 = .ok (.istore_n 3, 1) := dk_62 (dk_at dksX2_send_1 10 rfl rfl)
theorem dX2_send_33 : decode cX2_send 33 = .ok (.iload_n 3, 1) := dk_29 (dk_at dksX2_send_1 11 rfl rfl)
theorem dX2_send_34 : decode cX2_send 34 = .ok (.ifCond .ge 9, 3) := dk_156 0 9 (dk_at dksX2_send_1 12 rfl rfl)
theorem dX2_send_37 : decode cX2_send 37 = .ok (.aload_n 0, 1) := dk_42 (dk_at dksX2_send_1 15 rfl rfl)
theorem dX2_send_38 : decode cX2_send 38 = .ok (.iconst 5, 1) := dk_8 (dk_at dksX2_send_1 16 rfl rfl)
theorem dX2_send_39 : decode cX2_send 39 = .ok (.invokevirtual 170, 3) := dk_182 0 170 (dk_at dksX2_send_1 17 rfl rfl)
theorem dX2_send_42 : decode cX2_send 42 = .ok (.ireturn, 1) := dk_172 (dk_at dksX2_send_1 20 rfl rfl)
theorem dX2_send_43 : decode cX2_send 43 = .ok (.aload_n 0, 1) := dk_42 (dk_at dksX2_send_1 21 rfl rfl)
theorem dX2_send_44 : decode cX2_send 44 = .ok (.iload_n 2, 1) := dk_28 (dk_at dksX2_send_1 22 rfl rfl)
theorem dX2_send_45 : decode cX2_send 45 = .ok (.invokevirtual 295, 3) := dk_182 1 39 (dk_at dksX2_send_2 0 rfl rfl)
theorem dX2_send_48 : decode cX2_send 48 = .ok (.istore 4, 2) := dk_54 4 (dk_at dksX2_send_2 3 rfl rfl)
theorem dX2_send_50 : decode cX2_send 50 = .ok (.aload_n 0, 1) := dk_42 (dk_at dksX2_send_2 5 rfl rfl)
theorem dX2_send_51 : decode cX2_send 51 = .ok (.invokevirtual 424, 3) := dk_182 1 168 (dk_at dksX2_send_2 6 rfl rfl)
theorem dX2_send_54 : decode cX2_send 54 = .ok (.aload_n 0, 1) := dk_42 (dk_at dksX2_send_2 9 rfl rfl)
theorem dX2_send_55 : decode cX2_send 55 = .ok (.getfield 26, 3) := dk_180 0 26 (dk_at dksX2_send_2 10 rfl rfl)
theorem dX2_send_58 : decode cX2_send 58 = .ok (.iconst 2, 1) := dk_5 (dk_at dksX2_send_2 13 rfl rfl)
theorem dX2_send_59 : decode cX2_send 59 = .ok (.iload_n 1, 1) := dk_27 (dk_at dksX2_send_2 14 rfl rfl)
theorem dX2_send_60 : decode cX2_send 60 = .ok (.iadd, 1) := dk_96 (dk_at dksX2_send_2 15 rfl rfl)
theorem dX2_send_61 : decode cX2_send 61 = .ok (.iload 4, 2) := dk_21 4 (dk_at dksX2_send_2 16 rfl rfl)
theorem dX2_send_63 : decode cX2_send 63 = .ok (.iastore, 1) := dk_79 (dk_at dksX2_send_2 18 rfl rfl)
theorem dX2_send_64 : decode cX2_send 64 = .ok (.aload_n 0, 1) := dk_42 (dk_at dksX2_send_2 19 rfl rfl)
theorem dX2_send_65 : decode cX2_send 65 = .ok (.getfield 26, 3) := dk_180 0 26 (dk_at dksX2_send_2 20 rfl rfl)
theorem dX2_send_68 : decode cX2_send 68 = .ok (.bipush 7, 2) := dk_16 7 (dk_at dksX2_send_3 0 rfl rfl)
theorem dX2_send_70 : decode cX2_send 70 = .ok (.iload_n 1, 1) := dk_27 (dk_at dksX2_send_3 2 rfl rfl)
theorem dX2_send_71 : decode cX2_send 71 = .ok (.iadd, 1) := dk_96 (dk_at dksX2_send_3 3 rfl rfl)
theorem dX2_send_72 : decode cX2_send 72 = .ok (.iload_n 3, 1) := dk_29 (dk_at dksX2_send_3 4 rfl rfl)
theorem dX2_send_73 : decode cX2_send 73 = .ok (.iastore, 1) := dk_79 (dk_at dksX2_send_3 5 rfl rfl)
theorem dX2_send_74 : decode cX2_send 74 = .ok (.aload_n 0, 1) := dk_42 (dk_at dksX2_send_3 6 rfl rfl)
theorem dX2_send_75 : decode cX2_send 75 = .ok (.getfield 26, 3) := dk_180 0 26 (dk_at dksX2_send_3 7 rfl rfl)
theorem dX2_send_78 : decode cX2_send 78 = .ok (.bipush 12, 2) := dk_16 12 (dk_at dksX2_send_3 10 rfl rfl)
theorem dX2_send_80 : decode cX2_send 80 = .ok (.iload_n 2, 1) := dk_28 (dk_at dksX2_send_3 12 rfl rfl)
theorem dX2_send_81 : decode cX2_send 81 = .ok (.iadd, 1) := dk_96 (dk_at dksX2_send_3 13 rfl rfl)
theorem dX2_send_82 : decode cX2_send 82 = .ok (.iload_n 3, 1) := dk_29 (dk_at dksX2_send_3 14 rfl rfl)
theorem dX2_send_83 : decode cX2_send 83 = .ok (.iconst 1, 1) := dk_4 (dk_at dksX2_send_3 15 rfl rfl)
theorem dX2_send_84 : decode cX2_send 84 = .ok (.iadd, 1) := dk_96 (dk_at dksX2_send_3 16 rfl rfl)
theorem dX2_send_85 : decode cX2_send 85 = .ok (.iastore, 1) := dk_79 (dk_at dksX2_send_3 17 rfl rfl)
theorem dX2_send_86 : decode cX2_send 86 = .ok (.aload_n 0, 1) := dk_42 (dk_at dksX2_send_3 18 rfl rfl)
theorem dX2_send_87 : decode cX2_send 87 = .ok (.getfield 26, 3) := dk_180 0 26 (dk_at dksX2_send_3 19 rfl rfl)
theorem dX2_send_90 : decode cX2_send 90 = .ok (.bipush 20, 2) := dk_16 20 (dk_at dksX2_send_3 22 rfl rfl)
theorem dX2_send_92 : decode cX2_send 92 = .ok (.iload_n 2, 1) := dk_28 (dk_at dksX2_send_4 0 rfl rfl)
theorem dX2_send_93 : decode cX2_send 93 = .ok (.iadd, 1) := dk_96 (dk_at dksX2_send_4 1 rfl rfl)
theorem dX2_send_94 : decode cX2_send 94 = .ok (.iload 4, 2) := dk_21 4 (dk_at dksX2_send_4 2 rfl rfl)
theorem dX2_send_96 : decode cX2_send 96 = .ok (.iconst 1, 1) := dk_4 (dk_at dksX2_send_4 4 rfl rfl)
theorem dX2_send_97 : decode cX2_send 97 = .ok (.iadd, 1) := dk_96 (dk_at dksX2_send_4 5 rfl rfl)
theorem dX2_send_98 : decode cX2_send 98 = .ok (.iastore, 1) := dk_79 (dk_at dksX2_send_4 6 rfl rfl)
theorem dX2_send_99 : decode cX2_send 99 = .ok (.iload_n 3, 1) := dk_29 (dk_at dksX2_send_4 7 rfl rfl)
theorem dX2_send_100 : decode cX2_send 100 = .ok (.ireturn, 1) := dk_172 (dk_at dksX2_send_4 8 rfl rfl)
abbrev cX2_note1 : ByteArray := prog_16_method_115_code
def yX2_note1 : MethodName := ⟨RX2, "note1", "()V"⟩
def dkwX2_note1_3 : List UInt8 := [42, 89, 180, 0, 183, 4, 96, 181, 0, 183, 177]
abbrev dktX2_note1_3 : List UInt8 := dkwX2_note1_3 ++ []
def dkwX2_note1_2 : List UInt8 := [181, 0, 183, 42, 180, 0, 26, 3, 42, 180, 0, 29, 16, 76, 42, 180, 0, 183, 104, 16, 76, 184, 0, 176]
abbrev dktX2_note1_2 : List UInt8 := dkwX2_note1_2 ++ dktX2_note1_3
def dkwX2_note1_1 : List UInt8 := [180, 0, 29, 27, 16, 76, 96, 46, 79, 132, 1, 1, 167, 255, 231, 42, 89, 180, 0, 183, 4, 100]
abbrev dktX2_note1_1 : List UInt8 := dkwX2_note1_1 ++ dktX2_note1_2
def dkwX2_note1_0 : List UInt8 := [42, 180, 0, 183, 16, 12, 160, 0, 43, 3, 60, 27, 17, 3, 68, 162, 0, 24, 42, 180, 0, 29, 27, 42]
abbrev dktX2_note1_0 : List UInt8 := dkwX2_note1_0 ++ dktX2_note1_1
theorem dksX2_note1_0 : cX2_note1.data.toList.drop 0 = dktX2_note1_0 := by decide +kernel
theorem dksX2_note1_1 : cX2_note1.data.toList.drop 24 = dktX2_note1_1 := dk_seg dksX2_note1_0 24 rfl rfl
theorem dksX2_note1_2 : cX2_note1.data.toList.drop 46 = dktX2_note1_2 := dk_seg dksX2_note1_1 22 rfl rfl
theorem dksX2_note1_3 : cX2_note1.data.toList.drop 70 = dktX2_note1_3 := dk_seg dksX2_note1_2 24 rfl rfl
theorem dX2_note1_0 : decode cX2_note1 0 = .ok (.aload_n 0, 1) := dk_42 (dk_at dksX2_note1_0 0 rfl rfl)
theorem dX2_note1_1 : decode cX2_note1 1 = .ok (.getfield 183, 3) := dk_180 0 183 (dk_at dksX2_note1_0 1 rfl rfl)
theorem dX2_note1_4 : decode cX2_note1 4 = .ok (.bipush 12, 2) := dk_16 12 (dk_at dksX2_note1_0 4 rfl rfl)
theorem dX2_note1_6 : decode cX2_note1 6 = .ok (.if_icmp .ne 43, 3) := dk_160 0 43 (dk_at dksX2_note1_0 6 rfl rfl)
theorem dX2_note1_9 : decode cX2_note1 9 = .ok (.iconst 0, 1) := dk_3 (dk_at dksX2_note1_0 9 rfl rfl)
theorem dX2_note1_10 : decode cX2_note1 10 = .ok (.istore_n 1, 1) := dk_60 (dk_at dksX2_note1_0 10 rfl rfl)
theorem dX2_note1_11 : decode cX2_note1 11 = .ok (.iload_n 1, 1) := dk_27 (dk_at dksX2_note1_0 11 rfl rfl)
theorem dX2_note1_12 : decode cX2_note1 12 = .ok (.sipush 836, 3) := dk_17 3 68 (dk_at dksX2_note1_0 12 rfl rfl)
theorem dX2_note1_15 : decode cX2_note1 15 = .ok (.if_icmp .ge 24, 3) := dk_162 0 24 (dk_at dksX2_note1_0 15 rfl rfl)
theorem dX2_note1_18 : decode cX2_note1 18 = .ok (.aload_n 0, 1) := dk_42 (dk_at dksX2_note1_0 18 rfl rfl)
theorem dX2_note1_19 : decode cX2_note1 19 = .ok (.getfield 29, 3) := dk_180 0 29 (dk_at dksX2_note1_0 19 rfl rfl)
theorem dX2_note1_22 : decode cX2_note1 22 = .ok (.iload_n 1, 1) := dk_27 (dk_at dksX2_note1_0 22 rfl rfl)
theorem dX2_note1_23 : decode cX2_note1 23 = .ok (.aload_n 0, 1) := dk_42 (dk_at dksX2_note1_0 23 rfl rfl)
theorem dX2_note1_24 : decode cX2_note1 24 = .ok (.getfield 29, 3) := dk_180 0 29 (dk_at dksX2_note1_1 0 rfl rfl)
theorem dX2_note1_27 : decode cX2_note1 27 = .ok (.iload_n 1, 1) := dk_27 (dk_at dksX2_note1_1 3 rfl rfl)
theorem dX2_note1_28 : decode cX2_note1 28 = .ok (.bipush 76, 2) := dk_16 76 (dk_at dksX2_note1_1 4 rfl rfl)
theorem dX2_note1_30 : decode cX2_note1 30 = .ok (.iadd, 1) := dk_96 (dk_at dksX2_note1_1 6 rfl rfl)
theorem dX2_note1_31 : decode cX2_note1 31 = .ok (.iaload, 1) := dk_46 (dk_at dksX2_note1_1 7 rfl rfl)
theorem dX2_note1_32 : decode cX2_note1 32 = .ok (.iastore, 1) := dk_79 (dk_at dksX2_note1_1 8 rfl rfl)
theorem dX2_note1_33 : decode cX2_note1 33 = .ok (.iinc 1 1, 3) := dk_132 1 1 (dk_at dksX2_note1_1 9 rfl rfl)
theorem dX2_note1_36 : decode cX2_note1 36 = .ok (.goto (-25), 3) := dk_167 255 231 (dk_at dksX2_note1_1 12 rfl rfl)
theorem dX2_note1_39 : decode cX2_note1 39 = .ok (.aload_n 0, 1) := dk_42 (dk_at dksX2_note1_1 15 rfl rfl)
theorem dX2_note1_40 : decode cX2_note1 40 = .ok (.dup, 1) := dk_89 (dk_at dksX2_note1_1 16 rfl rfl)
theorem dX2_note1_41 : decode cX2_note1 41 = .ok (.getfield 183, 3) := dk_180 0 183 (dk_at dksX2_note1_1 17 rfl rfl)
theorem dX2_note1_44 : decode cX2_note1 44 = .ok (.iconst 1, 1) := dk_4 (dk_at dksX2_note1_1 20 rfl rfl)
theorem dX2_note1_45 : decode cX2_note1 45 = .ok (.isub, 1) := dk_100 (dk_at dksX2_note1_1 21 rfl rfl)
theorem dX2_note1_46 : decode cX2_note1 46 = .ok (.putfield 183, 3) := dk_181 0 183 (dk_at dksX2_note1_2 0 rfl rfl)
theorem dX2_note1_49 : decode cX2_note1 49 = .ok (.aload_n 0, 1) := dk_42 (dk_at dksX2_note1_2 3 rfl rfl)
theorem dX2_note1_50 : decode cX2_note1 50 = .ok (.getfield 26, 3) := dk_180 0 26 (dk_at dksX2_note1_2 4 rfl rfl)
theorem dX2_note1_53 : decode cX2_note1 53 = .ok (.iconst 0, 1) := dk_3 (dk_at dksX2_note1_2 7 rfl rfl)
theorem dX2_note1_54 : decode cX2_note1 54 = .ok (.aload_n 0, 1) := dk_42 (dk_at dksX2_note1_2 8 rfl rfl)
theorem dX2_note1_55 : decode cX2_note1 55 = .ok (.getfield 29, 3) := dk_180 0 29 (dk_at dksX2_note1_2 9 rfl rfl)
theorem dX2_note1_58 : decode cX2_note1 58 = .ok (.bipush 76, 2) := dk_16 76 (dk_at dksX2_note1_2 12 rfl rfl)
theorem dX2_note1_60 : decode cX2_note1 60 = .ok (.aload_n 0, 1) := dk_42 (dk_at dksX2_note1_2 14 rfl rfl)
theorem dX2_note1_61 : decode cX2_note1 61 = .ok (.getfield 183, 3) := dk_180 0 183 (dk_at dksX2_note1_2 15 rfl rfl)
theorem dX2_note1_64 : decode cX2_note1 64 = .ok (.imul, 1) := dk_104 (dk_at dksX2_note1_2 18 rfl rfl)
theorem dX2_note1_65 : decode cX2_note1 65 = .ok (.bipush 76, 2) := dk_16 76 (dk_at dksX2_note1_2 19 rfl rfl)
theorem dX2_note1_67 : decode cX2_note1 67 = .ok (.invokestatic 176, 3) := dk_184 0 176 (dk_at dksX2_note1_2 21 rfl rfl)
theorem dX2_note1_70 : decode cX2_note1 70 = .ok (.aload_n 0, 1) := dk_42 (dk_at dksX2_note1_3 0 rfl rfl)
theorem dX2_note1_71 : decode cX2_note1 71 = .ok (.dup, 1) := dk_89 (dk_at dksX2_note1_3 1 rfl rfl)
theorem dX2_note1_72 : decode cX2_note1 72 = .ok (.getfield 183, 3) := dk_180 0 183 (dk_at dksX2_note1_3 2 rfl rfl)
theorem dX2_note1_75 : decode cX2_note1 75 = .ok (.iconst 1, 1) := dk_4 (dk_at dksX2_note1_3 5 rfl rfl)
theorem dX2_note1_76 : decode cX2_note1 76 = .ok (.iadd, 1) := dk_96 (dk_at dksX2_note1_3 6 rfl rfl)
theorem dX2_note1_77 : decode cX2_note1 77 = .ok (.putfield 183, 3) := dk_181 0 183 (dk_at dksX2_note1_3 7 rfl rfl)
theorem dX2_note1_80 : decode cX2_note1 80 = .ok (.return_, 1) := dk_177 (dk_at dksX2_note1_3 10 rfl rfl)
abbrev cX2_tune : ByteArray := prog_16_method_117_code
def yX2_tune : MethodName := ⟨RX2, "tune", "(III)Z"⟩
def dkwX2_tune_4 : List UInt8 := [182, 1, 168, 42, 180, 0, 26, 16, 28, 16, 6, 27, 104, 96, 28, 96, 29, 79, 4, 172]
abbrev dktX2_tune_4 : List UInt8 := dkwX2_tune_4 ++ []
def dkwX2_tune_3 : List UInt8 := [159, 0, 15, 42, 180, 0, 26, 16, 12, 27, 96, 46, 158, 0, 9, 42, 8, 182, 1, 171, 172, 42]
abbrev dktX2_tune_3 : List UInt8 := dkwX2_tune_3 ++ dktX2_tune_4
def dkwX2_tune_2 : List UInt8 := [154, 0, 9, 42, 5, 182, 1, 171, 172, 42, 180, 0, 26, 16, 28, 16, 6, 27, 104, 96, 28, 96, 46, 29]
abbrev dktX2_tune_2 : List UInt8 := dkwX2_tune_2 ++ dktX2_tune_3
def dkwX2_tune_1 : List UInt8 := [154, 0, 9, 42, 4, 182, 1, 171, 172, 29, 3, 42, 180, 0, 20, 3, 46, 4, 100, 184, 0, 149]
abbrev dktX2_tune_1 : List UInt8 := dkwX2_tune_1 ++ dktX2_tune_2
def dkwX2_tune_0 : List UInt8 := [42, 182, 0, 167, 42, 27, 182, 1, 18, 153, 0, 18, 28, 3, 42, 27, 182, 1, 28, 4, 100, 184, 0, 149]
abbrev dktX2_tune_0 : List UInt8 := dkwX2_tune_0 ++ dktX2_tune_1
theorem dksX2_tune_0 : cX2_tune.data.toList.drop 0 = dktX2_tune_0 := by decide +kernel
theorem dksX2_tune_1 : cX2_tune.data.toList.drop 24 = dktX2_tune_1 := dk_seg dksX2_tune_0 24 rfl rfl
theorem dksX2_tune_2 : cX2_tune.data.toList.drop 46 = dktX2_tune_2 := dk_seg dksX2_tune_1 22 rfl rfl
theorem dksX2_tune_3 : cX2_tune.data.toList.drop 70 = dktX2_tune_3 := dk_seg dksX2_tune_2 24 rfl rfl
theorem dksX2_tune_4 : cX2_tune.data.toList.drop 92 = dktX2_tune_4 := dk_seg dksX2_tune_3 22 rfl rfl
theorem dX2_tune_0 : decode cX2_tune 0 = .ok (.aload_n 0, 1) := dk_42 (dk_at dksX2_tune_0 0 rfl rfl)
theorem dX2_tune_1 : decode cX2_tune 1 = .ok (.invokevirtual 167, 3) := dk_182 0 167 (dk_at dksX2_tune_0 1 rfl rfl)
theorem dX2_tune_4 : decode cX2_tune 4 = .ok (.aload_n 0, 1) := dk_42 (dk_at dksX2_tune_0 4 rfl rfl)
theorem dX2_tune_5 : decode cX2_tune 5 = .ok (.iload_n 1, 1) := dk_27 (dk_at dksX2_tune_0 5 rfl rfl)
theorem dX2_tune_6 : decode cX2_tune 6 = .ok (.invokevirtual 274, 3) := dk_182 1 18 (dk_at dksX2_tune_0 6 rfl rfl)
theorem dX2_tune_9 : decode cX2_tune 9 = .ok (.ifCond .eq 18, 3) := dk_153 0 18 (dk_at dksX2_tune_0 9 rfl rfl)
theorem dX2_tune_12 : decode cX2_tune 12 = .ok (.iload_n 2, 1) := dk_28 (dk_at dksX2_tune_0 12 rfl rfl)
theorem dX2_tune_13 : decode cX2_tune 13 = .ok (.iconst 0, 1) := dk_3 (dk_at dksX2_tune_0 13 rfl rfl)
theorem dX2_tune_14 : decode cX2_tune 14 = .ok (.aload_n 0, 1) := dk_42 (dk_at dksX2_tune_0 14 rfl rfl)
theorem dX2_tune_15 : decode cX2_tune 15 = .ok (.iload_n 1, 1) := dk_27 (dk_at dksX2_tune_0 15 rfl rfl)
theorem dX2_tune_16 : decode cX2_tune 16 = .ok (.invokevirtual 284, 3) := dk_182 1 28 (dk_at dksX2_tune_0 16 rfl rfl)
theorem dX2_tune_19 : decode cX2_tune 19 = .ok (.iconst 1, 1) := dk_4 (dk_at dksX2_tune_0 19 rfl rfl)
theorem dX2_tune_20 : decode cX2_tune 20 = .ok (.isub, 1) := dk_100 (dk_at dksX2_tune_0 20 rfl rfl)
theorem dX2_tune_21 : decode cX2_tune 21 = .ok (.invokestatic 149, 3) := dk_184 0 149 (dk_at dksX2_tune_0 21 rfl rfl)
theorem dX2_tune_24 : decode cX2_tune 24 = .ok (.ifCond .ne 9, 3) := dk_154 0 9 (dk_at dksX2_tune_1 0 rfl rfl)
theorem dX2_tune_27 : decode cX2_tune 27 = .ok (.aload_n 0, 1) := dk_42 (dk_at dksX2_tune_1 3 rfl rfl)
theorem dX2_tune_28 : decode cX2_tune 28 = .ok (.iconst 1, 1) := dk_4 (dk_at dksX2_tune_1 4 rfl rfl)
theorem dX2_tune_29 : decode cX2_tune 29 = .ok (.invokevirtual 427, 3) := dk_182 1 171 (dk_at dksX2_tune_1 5 rfl rfl)
theorem dX2_tune_32 : decode cX2_tune 32 = .ok (.ireturn, 1) := dk_172 (dk_at dksX2_tune_1 8 rfl rfl)
theorem dX2_tune_33 : decode cX2_tune 33 = .ok (.iload_n 3, 1) := dk_29 (dk_at dksX2_tune_1 9 rfl rfl)
theorem dX2_tune_34 : decode cX2_tune 34 = .ok (.iconst 0, 1) := dk_3 (dk_at dksX2_tune_1 10 rfl rfl)
theorem dX2_tune_35 : decode cX2_tune 35 = .ok (.aload_n 0, 1) := dk_42 (dk_at dksX2_tune_1 11 rfl rfl)
theorem dX2_tune_36 : decode cX2_tune 36 = .ok (.getfield 20, 3) := dk_180 0 20 (dk_at dksX2_tune_1 12 rfl rfl)
theorem dX2_tune_39 : decode cX2_tune 39 = .ok (.iconst 0, 1) := dk_3 (dk_at dksX2_tune_1 15 rfl rfl)
theorem dX2_tune_40 : decode cX2_tune 40 = .ok (.iaload, 1) := dk_46 (dk_at dksX2_tune_1 16 rfl rfl)
theorem dX2_tune_41 : decode cX2_tune 41 = .ok (.iconst 1, 1) := dk_4 (dk_at dksX2_tune_1 17 rfl rfl)
theorem dX2_tune_42 : decode cX2_tune 42 = .ok (.isub, 1) := dk_100 (dk_at dksX2_tune_1 18 rfl rfl)
theorem dX2_tune_43 : decode cX2_tune 43 = .ok (.invokestatic 149, 3) := dk_184 0 149 (dk_at dksX2_tune_1 19 rfl rfl)
theorem dX2_tune_46 : decode cX2_tune 46 = .ok (.ifCond .ne 9, 3) := dk_154 0 9 (dk_at dksX2_tune_2 0 rfl rfl)
theorem dX2_tune_49 : decode cX2_tune 49 = .ok (.aload_n 0, 1) := dk_42 (dk_at dksX2_tune_2 3 rfl rfl)
theorem dX2_tune_50 : decode cX2_tune 50 = .ok (.iconst 2, 1) := dk_5 (dk_at dksX2_tune_2 4 rfl rfl)
theorem dX2_tune_51 : decode cX2_tune 51 = .ok (.invokevirtual 427, 3) := dk_182 1 171 (dk_at dksX2_tune_2 5 rfl rfl)
theorem dX2_tune_54 : decode cX2_tune 54 = .ok (.ireturn, 1) := dk_172 (dk_at dksX2_tune_2 8 rfl rfl)
theorem dX2_tune_55 : decode cX2_tune 55 = .ok (.aload_n 0, 1) := dk_42 (dk_at dksX2_tune_2 9 rfl rfl)
theorem dX2_tune_56 : decode cX2_tune 56 = .ok (.getfield 26, 3) := dk_180 0 26 (dk_at dksX2_tune_2 10 rfl rfl)
theorem dX2_tune_59 : decode cX2_tune 59 = .ok (.bipush 28, 2) := dk_16 28 (dk_at dksX2_tune_2 13 rfl rfl)
theorem dX2_tune_61 : decode cX2_tune 61 = .ok (.bipush 6, 2) := dk_16 6 (dk_at dksX2_tune_2 15 rfl rfl)
theorem dX2_tune_63 : decode cX2_tune 63 = .ok (.iload_n 1, 1) := dk_27 (dk_at dksX2_tune_2 17 rfl rfl)
theorem dX2_tune_64 : decode cX2_tune 64 = .ok (.imul, 1) := dk_104 (dk_at dksX2_tune_2 18 rfl rfl)
theorem dX2_tune_65 : decode cX2_tune 65 = .ok (.iadd, 1) := dk_96 (dk_at dksX2_tune_2 19 rfl rfl)
theorem dX2_tune_66 : decode cX2_tune 66 = .ok (.iload_n 2, 1) := dk_28 (dk_at dksX2_tune_2 20 rfl rfl)
theorem dX2_tune_67 : decode cX2_tune 67 = .ok (.iadd, 1) := dk_96 (dk_at dksX2_tune_2 21 rfl rfl)
theorem dX2_tune_68 : decode cX2_tune 68 = .ok (.iaload, 1) := dk_46 (dk_at dksX2_tune_2 22 rfl rfl)
theorem dX2_tune_69 : decode cX2_tune 69 = .ok (.iload_n 3, 1) := dk_29 (dk_at dksX2_tune_2 23 rfl rfl)
theorem dX2_tune_70 : decode cX2_tune 70 = .ok (.if_icmp .eq 15, 3) := dk_159 0 15 (dk_at dksX2_tune_3 0 rfl rfl)
theorem dX2_tune_73 : decode cX2_tune 73 = .ok (.aload_n 0, 1) := dk_42 (dk_at dksX2_tune_3 3 rfl rfl)
theorem dX2_tune_74 : decode cX2_tune 74 = .ok (.getfield 26, 3) := dk_180 0 26 (dk_at dksX2_tune_3 4 rfl rfl)
theorem dX2_tune_77 : decode cX2_tune 77 = .ok (.bipush 12, 2) := dk_16 12 (dk_at dksX2_tune_3 7 rfl rfl)
theorem dX2_tune_79 : decode cX2_tune 79 = .ok (.iload_n 1, 1) := dk_27 (dk_at dksX2_tune_3 9 rfl rfl)
theorem dX2_tune_80 : decode cX2_tune 80 = .ok (.iadd, 1) := dk_96 (dk_at dksX2_tune_3 10 rfl rfl)
theorem dX2_tune_81 : decode cX2_tune 81 = .ok (.iaload, 1) := dk_46 (dk_at dksX2_tune_3 11 rfl rfl)
theorem dX2_tune_82 : decode cX2_tune 82 = .ok (.ifCond .le 9, 3) := dk_158 0 9 (dk_at dksX2_tune_3 12 rfl rfl)
theorem dX2_tune_85 : decode cX2_tune 85 = .ok (.aload_n 0, 1) := dk_42 (dk_at dksX2_tune_3 15 rfl rfl)
theorem dX2_tune_86 : decode cX2_tune 86 = .ok (.iconst 5, 1) := dk_8 (dk_at dksX2_tune_3 16 rfl rfl)
theorem dX2_tune_87 : decode cX2_tune 87 = .ok (.invokevirtual 427, 3) := dk_182 1 171 (dk_at dksX2_tune_3 17 rfl rfl)
theorem dX2_tune_90 : decode cX2_tune 90 = .ok (.ireturn, 1) := dk_172 (dk_at dksX2_tune_3 20 rfl rfl)
theorem dX2_tune_91 : decode cX2_tune 91 = .ok (.aload_n 0, 1) := dk_42 (dk_at dksX2_tune_3 21 rfl rfl)
theorem dX2_tune_92 : decode cX2_tune 92 = .ok (.invokevirtual 424, 3) := dk_182 1 168 (dk_at dksX2_tune_4 0 rfl rfl)
theorem dX2_tune_95 : decode cX2_tune 95 = .ok (.aload_n 0, 1) := dk_42 (dk_at dksX2_tune_4 3 rfl rfl)
theorem dX2_tune_96 : decode cX2_tune 96 = .ok (.getfield 26, 3) := dk_180 0 26 (dk_at dksX2_tune_4 4 rfl rfl)
theorem dX2_tune_99 : decode cX2_tune 99 = .ok (.bipush 28, 2) := dk_16 28 (dk_at dksX2_tune_4 7 rfl rfl)
theorem dX2_tune_101 : decode cX2_tune 101 = .ok (.bipush 6, 2) := dk_16 6 (dk_at dksX2_tune_4 9 rfl rfl)
theorem dX2_tune_103 : decode cX2_tune 103 = .ok (.iload_n 1, 1) := dk_27 (dk_at dksX2_tune_4 11 rfl rfl)
theorem dX2_tune_104 : decode cX2_tune 104 = .ok (.imul, 1) := dk_104 (dk_at dksX2_tune_4 12 rfl rfl)
theorem dX2_tune_105 : decode cX2_tune 105 = .ok (.iadd, 1) := dk_96 (dk_at dksX2_tune_4 13 rfl rfl)
theorem dX2_tune_106 : decode cX2_tune 106 = .ok (.iload_n 2, 1) := dk_28 (dk_at dksX2_tune_4 14 rfl rfl)
theorem dX2_tune_107 : decode cX2_tune 107 = .ok (.iadd, 1) := dk_96 (dk_at dksX2_tune_4 15 rfl rfl)
theorem dX2_tune_108 : decode cX2_tune 108 = .ok (.iload_n 3, 1) := dk_29 (dk_at dksX2_tune_4 16 rfl rfl)
theorem dX2_tune_109 : decode cX2_tune 109 = .ok (.iastore, 1) := dk_79 (dk_at dksX2_tune_4 17 rfl rfl)
theorem dX2_tune_110 : decode cX2_tune 110 = .ok (.iconst 1, 1) := dk_4 (dk_at dksX2_tune_4 18 rfl rfl)
theorem dX2_tune_111 : decode cX2_tune 111 = .ok (.ireturn, 1) := dk_172 (dk_at dksX2_tune_4 19 rfl rfl)
abbrev cX2_isNot : ByteArray := prog_16_method_5_code
def yX2_isNot : MethodName := ⟨RX2, "isNot", "(I)Z"⟩
def dkwX2_isNot_0 : List UInt8 := [42, 27, 181, 0, 65, 3, 172]
abbrev dktX2_isNot_0 : List UInt8 := dkwX2_isNot_0 ++ []
theorem dksX2_isNot_0 : cX2_isNot.data.toList.drop 0 = dktX2_isNot_0 := by decide +kernel
theorem dX2_isNot_0 : decode cX2_isNot 0 = .ok (.aload_n 0, 1) := dk_42 (dk_at dksX2_isNot_0 0 rfl rfl)
theorem dX2_isNot_1 : decode cX2_isNot 1 = .ok (.iload_n 1, 1) := dk_27 (dk_at dksX2_isNot_0 1 rfl rfl)
theorem dX2_isNot_2 : decode cX2_isNot 2 = .ok (.putfield 65, 3) := dk_181 0 65 (dk_at dksX2_isNot_0 2 rfl rfl)
theorem dX2_isNot_5 : decode cX2_isNot 5 = .ok (.iconst 0, 1) := dk_3 (dk_at dksX2_isNot_0 5 rfl rfl)
theorem dX2_isNot_6 : decode cX2_isNot 6 = .ok (.ireturn, 1) := dk_172 (dk_at dksX2_isNot_0 6 rfl rfl)
abbrev cX2_years : ByteArray := prog_16_method_118_code
def yX2_years : MethodName := ⟨RX2, "years", "(I)I"⟩
def dkwX2_years_3 : List UInt8 := [46, 172]
abbrev dktX2_years_3 : List UInt8 := dkwX2_years_3 ++ []
def dkwX2_years_2 : List UInt8 := [6, 182, 0, 170, 172, 42, 182, 1, 168, 42, 180, 0, 26, 3, 92, 46, 27, 96, 79, 42, 180, 0, 26, 3]
abbrev dktX2_years_2 : List UInt8 := dkwX2_years_2 ++ dktX2_years_3
def dkwX2_years_1 : List UInt8 := [154, 0, 9, 42, 5, 182, 0, 170, 172, 42, 180, 0, 26, 3, 46, 27, 96, 17, 39, 15, 164, 0, 9, 42]
abbrev dktX2_years_1 : List UInt8 := dkwX2_years_1 ++ dktX2_years_2
def dkwX2_years_0 : List UInt8 := [42, 182, 0, 167, 42, 180, 0, 180, 154, 0, 9, 42, 4, 182, 0, 170, 172, 27, 4, 16, 99, 184, 0, 149]
abbrev dktX2_years_0 : List UInt8 := dkwX2_years_0 ++ dktX2_years_1
theorem dksX2_years_0 : cX2_years.data.toList.drop 0 = dktX2_years_0 := by decide +kernel
theorem dksX2_years_1 : cX2_years.data.toList.drop 24 = dktX2_years_1 := dk_seg dksX2_years_0 24 rfl rfl
theorem dksX2_years_2 : cX2_years.data.toList.drop 48 = dktX2_years_2 := dk_seg dksX2_years_1 24 rfl rfl
theorem dksX2_years_3 : cX2_years.data.toList.drop 72 = dktX2_years_3 := dk_seg dksX2_years_2 24 rfl rfl
theorem dX2_years_0 : decode cX2_years 0 = .ok (.aload_n 0, 1) := dk_42 (dk_at dksX2_years_0 0 rfl rfl)
theorem dX2_years_1 : decode cX2_years 1 = .ok (.invokevirtual 167, 3) := dk_182 0 167 (dk_at dksX2_years_0 1 rfl rfl)
theorem dX2_years_4 : decode cX2_years 4 = .ok (.aload_n 0, 1) := dk_42 (dk_at dksX2_years_0 4 rfl rfl)
theorem dX2_years_5 : decode cX2_years 5 = .ok (.getfield 180, 3) := dk_180 0 180 (dk_at dksX2_years_0 5 rfl rfl)
theorem dX2_years_8 : decode cX2_years 8 = .ok (.ifCond .ne 9, 3) := dk_154 0 9 (dk_at dksX2_years_0 8 rfl rfl)
theorem dX2_years_11 : decode cX2_years 11 = .ok (.aload_n 0, 1) := dk_42 (dk_at dksX2_years_0 11 rfl rfl)
theorem dX2_years_12 : decode cX2_years 12 = .ok (.iconst 1, 1) := dk_4 (dk_at dksX2_years_0 12 rfl rfl)
theorem dX2_years_13 : decode cX2_years 13 = .ok (.invokevirtual 170, 3) := dk_182 0 170 (dk_at dksX2_years_0 13 rfl rfl)
theorem dX2_years_16 : decode cX2_years 16 = .ok (.ireturn, 1) := dk_172 (dk_at dksX2_years_0 16 rfl rfl)
theorem dX2_years_17 : decode cX2_years 17 = .ok (.iload_n 1, 1) := dk_27 (dk_at dksX2_years_0 17 rfl rfl)
theorem dX2_years_18 : decode cX2_years 18 = .ok (.iconst 1, 1) := dk_4 (dk_at dksX2_years_0 18 rfl rfl)
theorem dX2_years_19 : decode cX2_years 19 = .ok (.bipush 99, 2) := dk_16 99 (dk_at dksX2_years_0 19 rfl rfl)
theorem dX2_years_21 : decode cX2_years 21 = .ok (.invokestatic 149, 3) := dk_184 0 149 (dk_at dksX2_years_0 21 rfl rfl)
theorem dX2_years_24 : decode cX2_years 24 = .ok (.ifCond .ne 9, 3) := dk_154 0 9 (dk_at dksX2_years_1 0 rfl rfl)
theorem dX2_years_27 : decode cX2_years 27 = .ok (.aload_n 0, 1) := dk_42 (dk_at dksX2_years_1 3 rfl rfl)
theorem dX2_years_28 : decode cX2_years 28 = .ok (.iconst 2, 1) := dk_5 (dk_at dksX2_years_1 4 rfl rfl)
theorem dX2_years_29 : decode cX2_years 29 = .ok (.invokevirtual 170, 3) := dk_182 0 170 (dk_at dksX2_years_1 5 rfl rfl)
theorem dX2_years_32 : decode cX2_years 32 = .ok (.ireturn, 1) := dk_172 (dk_at dksX2_years_1 8 rfl rfl)
theorem dX2_years_33 : decode cX2_years 33 = .ok (.aload_n 0, 1) := dk_42 (dk_at dksX2_years_1 9 rfl rfl)
theorem dX2_years_34 : decode cX2_years 34 = .ok (.getfield 26, 3) := dk_180 0 26 (dk_at dksX2_years_1 10 rfl rfl)
theorem dX2_years_37 : decode cX2_years 37 = .ok (.iconst 0, 1) := dk_3 (dk_at dksX2_years_1 13 rfl rfl)
theorem dX2_years_38 : decode cX2_years 38 = .ok (.iaload, 1) := dk_46 (dk_at dksX2_years_1 14 rfl rfl)
theorem dX2_years_39 : decode cX2_years 39 = .ok (.iload_n 1, 1) := dk_27 (dk_at dksX2_years_1 15 rfl rfl)
theorem dX2_years_40 : decode cX2_years 40 = .ok (.iadd, 1) := dk_96 (dk_at dksX2_years_1 16 rfl rfl)
theorem dX2_years_41 : decode cX2_years 41 = .ok (.sipush 9999, 3) := dk_17 39 15 (dk_at dksX2_years_1 17 rfl rfl)
theorem dX2_years_44 : decode cX2_years 44 = .ok (.if_icmp .le 9, 3) := dk_164 0 9 (dk_at dksX2_years_1 20 rfl rfl)
theorem dX2_years_47 : decode cX2_years 47 = .ok (.aload_n 0, 1) := dk_42 (dk_at dksX2_years_1 23 rfl rfl)
theorem dX2_years_48 : decode cX2_years 48 = .ok (.iconst 3, 1) := dk_6 (dk_at dksX2_years_2 0 rfl rfl)
theorem dX2_years_49 : decode cX2_years 49 = .ok (.invokevirtual 170, 3) := dk_182 0 170 (dk_at dksX2_years_2 1 rfl rfl)
theorem dX2_years_52 : decode cX2_years 52 = .ok (.ireturn, 1) := dk_172 (dk_at dksX2_years_2 4 rfl rfl)
theorem dX2_years_53 : decode cX2_years 53 = .ok (.aload_n 0, 1) := dk_42 (dk_at dksX2_years_2 5 rfl rfl)
theorem dX2_years_54 : decode cX2_years 54 = .ok (.invokevirtual 424, 3) := dk_182 1 168 (dk_at dksX2_years_2 6 rfl rfl)
theorem dX2_years_57 : decode cX2_years 57 = .ok (.aload_n 0, 1) := dk_42 (dk_at dksX2_years_2 9 rfl rfl)
theorem dX2_years_58 : decode cX2_years 58 = .ok (.getfield 26, 3) := dk_180 0 26 (dk_at dksX2_years_2 10 rfl rfl)
theorem dX2_years_61 : decode cX2_years 61 = .ok (.iconst 0, 1) := dk_3 (dk_at dksX2_years_2 13 rfl rfl)
theorem dX2_years_62 : decode cX2_years 62 = .ok (.dup2, 1) := dk_92 (dk_at dksX2_years_2 14 rfl rfl)
theorem dX2_years_63 : decode cX2_years 63 = .ok (.iaload, 1) := dk_46 (dk_at dksX2_years_2 15 rfl rfl)
theorem dX2_years_64 : decode cX2_years 64 = .ok (.iload_n 1, 1) := dk_27 (dk_at dksX2_years_2 16 rfl rfl)
theorem dX2_years_65 : decode cX2_years 65 = .ok (.iadd, 1) := dk_96 (dk_at dksX2_years_2 17 rfl rfl)
theorem dX2_years_66 : decode cX2_years 66 = .ok (.iastore, 1) := dk_79 (dk_at dksX2_years_2 18 rfl rfl)
theorem dX2_years_67 : decode cX2_years 67 = .ok (.aload_n 0, 1) := dk_42 (dk_at dksX2_years_2 19 rfl rfl)
theorem dX2_years_68 : decode cX2_years 68 = .ok (.getfield 26, 3) := dk_180 0 26 (dk_at dksX2_years_2 20 rfl rfl)
theorem dX2_years_71 : decode cX2_years 71 = .ok (.iconst 0, 1) := dk_3 (dk_at dksX2_years_2 23 rfl rfl)
theorem dX2_years_72 : decode cX2_years 72 = .ok (.iaload, 1) := dk_46 (dk_at dksX2_years_3 0 rfl rfl)
theorem dX2_years_73 : decode cX2_years 73 = .ok (.ireturn, 1) := dk_172 (dk_at dksX2_years_3 1 rfl rfl)
abbrev cX2_close : ByteArray := prog_16_method_119_code
def yX2_close : MethodName := ⟨RX2, "close", "(IZ)Z"⟩
def dkwX2_close_2 : List UInt8 := [42, 182, 1, 168, 42, 180, 0, 26, 4, 92, 46, 4, 27, 120, 130, 79, 4, 172]
abbrev dktX2_close_2 : List UInt8 := dkwX2_close_2 ++ []
def dkwX2_close_1 : List UInt8 := [154, 0, 9, 42, 4, 182, 1, 171, 172, 42, 27, 182, 1, 46, 28, 160, 0, 9, 42, 8, 182, 1, 171, 172]
abbrev dktX2_close_1 : List UInt8 := dkwX2_close_1 ++ dktX2_close_2
def dkwX2_close_0 : List UInt8 := [42, 182, 0, 167, 42, 180, 0, 180, 153, 0, 19, 27, 3, 42, 180, 0, 20, 8, 46, 4, 100, 184, 0, 149]
abbrev dktX2_close_0 : List UInt8 := dkwX2_close_0 ++ dktX2_close_1
theorem dksX2_close_0 : cX2_close.data.toList.drop 0 = dktX2_close_0 := by decide +kernel
theorem dksX2_close_1 : cX2_close.data.toList.drop 24 = dktX2_close_1 := dk_seg dksX2_close_0 24 rfl rfl
theorem dksX2_close_2 : cX2_close.data.toList.drop 48 = dktX2_close_2 := dk_seg dksX2_close_1 24 rfl rfl
theorem dX2_close_0 : decode cX2_close 0 = .ok (.aload_n 0, 1) := dk_42 (dk_at dksX2_close_0 0 rfl rfl)
theorem dX2_close_1 : decode cX2_close 1 = .ok (.invokevirtual 167, 3) := dk_182 0 167 (dk_at dksX2_close_0 1 rfl rfl)
theorem dX2_close_4 : decode cX2_close 4 = .ok (.aload_n 0, 1) := dk_42 (dk_at dksX2_close_0 4 rfl rfl)
theorem dX2_close_5 : decode cX2_close 5 = .ok (.getfield 180, 3) := dk_180 0 180 (dk_at dksX2_close_0 5 rfl rfl)
theorem dX2_close_8 : decode cX2_close 8 = .ok (.ifCond .eq 19, 3) := dk_153 0 19 (dk_at dksX2_close_0 8 rfl rfl)
theorem dX2_close_11 : decode cX2_close 11 = .ok (.iload_n 1, 1) := dk_27 (dk_at dksX2_close_0 11 rfl rfl)
theorem dX2_close_12 : decode cX2_close 12 = .ok (.iconst 0, 1) := dk_3 (dk_at dksX2_close_0 12 rfl rfl)
theorem dX2_close_13 : decode cX2_close 13 = .ok (.aload_n 0, 1) := dk_42 (dk_at dksX2_close_0 13 rfl rfl)
theorem dX2_close_14 : decode cX2_close 14 = .ok (.getfield 20, 3) := dk_180 0 20 (dk_at dksX2_close_0 14 rfl rfl)
theorem dX2_close_17 : decode cX2_close 17 = .ok (.iconst 5, 1) := dk_8 (dk_at dksX2_close_0 17 rfl rfl)
theorem dX2_close_18 : decode cX2_close 18 = .ok (.iaload, 1) := dk_46 (dk_at dksX2_close_0 18 rfl rfl)
theorem dX2_close_19 : decode cX2_close 19 = .ok (.iconst 1, 1) := dk_4 (dk_at dksX2_close_0 19 rfl rfl)
theorem dX2_close_20 : decode cX2_close 20 = .ok (.isub, 1) := dk_100 (dk_at dksX2_close_0 20 rfl rfl)
theorem dX2_close_21 : decode cX2_close 21 = .ok (.invokestatic 149, 3) := dk_184 0 149 (dk_at dksX2_close_0 21 rfl rfl)
theorem dX2_close_24 : decode cX2_close 24 = .ok (.ifCond .ne 9, 3) := dk_154 0 9 (dk_at dksX2_close_1 0 rfl rfl)
theorem dX2_close_27 : decode cX2_close 27 = .ok (.aload_n 0, 1) := dk_42 (dk_at dksX2_close_1 3 rfl rfl)
theorem dX2_close_28 : decode cX2_close 28 = .ok (.iconst 1, 1) := dk_4 (dk_at dksX2_close_1 4 rfl rfl)
theorem dX2_close_29 : decode cX2_close 29 = .ok (.invokevirtual 427, 3) := dk_182 1 171 (dk_at dksX2_close_1 5 rfl rfl)
theorem dX2_close_32 : decode cX2_close 32 = .ok (.ireturn, 1) := dk_172 (dk_at dksX2_close_1 8 rfl rfl)
theorem dX2_close_33 : decode cX2_close 33 = .ok (.aload_n 0, 1) := dk_42 (dk_at dksX2_close_1 9 rfl rfl)
theorem dX2_close_34 : decode cX2_close 34 = .ok (.iload_n 1, 1) := dk_27 (dk_at dksX2_close_1 10 rfl rfl)
theorem dX2_close_35 : decode cX2_close 35 = .ok (.invokevirtual 302, 3) := dk_182 1 46 (dk_at dksX2_close_1 11 rfl rfl)
theorem dX2_close_38 : decode cX2_close 38 = .ok (.iload_n 2, 1) := dk_28 (dk_at dksX2_close_1 14 rfl rfl)
theorem dX2_close_39 : decode cX2_close 39 = .ok (.if_icmp .ne 9, 3) := dk_160 0 9 (dk_at dksX2_close_1 15 rfl rfl)
theorem dX2_close_42 : decode cX2_close 42 = .ok (.aload_n 0, 1) := dk_42 (dk_at dksX2_close_1 18 rfl rfl)
theorem dX2_close_43 : decode cX2_close 43 = .ok (.iconst 5, 1) := dk_8 (dk_at dksX2_close_1 19 rfl rfl)
theorem dX2_close_44 : decode cX2_close 44 = .ok (.invokevirtual 427, 3) := dk_182 1 171 (dk_at dksX2_close_1 20 rfl rfl)
theorem dX2_close_47 : decode cX2_close 47 = .ok (.ireturn, 1) := dk_172 (dk_at dksX2_close_1 23 rfl rfl)
theorem dX2_close_48 : decode cX2_close 48 = .ok (.aload_n 0, 1) := dk_42 (dk_at dksX2_close_2 0 rfl rfl)
theorem dX2_close_49 : decode cX2_close 49 = .ok (.invokevirtual 424, 3) := dk_182 1 168 (dk_at dksX2_close_2 1 rfl rfl)
theorem dX2_close_52 : decode cX2_close 52 = .ok (.aload_n 0, 1) := dk_42 (dk_at dksX2_close_2 4 rfl rfl)
theorem dX2_close_53 : decode cX2_close 53 = .ok (.getfield 26, 3) := dk_180 0 26 (dk_at dksX2_close_2 5 rfl rfl)
theorem dX2_close_56 : decode cX2_close 56 = .ok (.iconst 1, 1) := dk_4 (dk_at dksX2_close_2 8 rfl rfl)
theorem dX2_close_57 : decode cX2_close 57 = .ok (.dup2, 1) := dk_92 (dk_at dksX2_close_2 9 rfl rfl)
theorem dX2_close_58 : decode cX2_close 58 = .ok (.iaload, 1) := dk_46 (dk_at dksX2_close_2 10 rfl rfl)
theorem dX2_close_59 : decode cX2_close 59 = .ok (.iconst 1, 1) := dk_4 (dk_at dksX2_close_2 11 rfl rfl)
theorem dX2_close_60 : decode cX2_close 60 = .ok (.iload_n 1, 1) := dk_27 (dk_at dksX2_close_2 12 rfl rfl)
theorem dX2_close_61 : decode cX2_close 61 = .ok (.ishl, 1) := dk_120 (dk_at dksX2_close_2 13 rfl rfl)
theorem dX2_close_62 : decode cX2_close 62 = .ok (.ixor, 1) := dk_130 (dk_at dksX2_close_2 14 rfl rfl)
theorem dX2_close_63 : decode cX2_close 63 = .ok (.iastore, 1) := dk_79 (dk_at dksX2_close_2 15 rfl rfl)
theorem dX2_close_64 : decode cX2_close 64 = .ok (.iconst 1, 1) := dk_4 (dk_at dksX2_close_2 16 rfl rfl)
theorem dX2_close_65 : decode cX2_close 65 = .ok (.ireturn, 1) := dk_172 (dk_at dksX2_close_2 17 rfl rfl)
abbrev cX2_undo : ByteArray := prog_16_method_120_code
def yX2_undo : MethodName := ⟨RX2, "undo", "()Z"⟩
def dkwX2_undo_2 : List UInt8 := [184, 0, 176, 4, 172]
abbrev dktX2_undo_2 : List UInt8 := dkwX2_undo_2 ++ []
def dkwX2_undo_1 : List UInt8 := [100, 181, 0, 183, 42, 180, 0, 29, 16, 76, 42, 180, 0, 183, 104, 42, 180, 0, 26, 3, 16, 76]
abbrev dktX2_undo_1 : List UInt8 := dkwX2_undo_1 ++ dktX2_undo_2
def dkwX2_undo_0 : List UInt8 := [42, 182, 0, 167, 42, 180, 0, 183, 154, 0, 10, 42, 16, 6, 182, 1, 171, 172, 42, 89, 180, 0, 183, 4]
abbrev dktX2_undo_0 : List UInt8 := dkwX2_undo_0 ++ dktX2_undo_1
theorem dksX2_undo_0 : cX2_undo.data.toList.drop 0 = dktX2_undo_0 := by decide +kernel
theorem dksX2_undo_1 : cX2_undo.data.toList.drop 24 = dktX2_undo_1 := dk_seg dksX2_undo_0 24 rfl rfl
theorem dksX2_undo_2 : cX2_undo.data.toList.drop 46 = dktX2_undo_2 := dk_seg dksX2_undo_1 22 rfl rfl
theorem dX2_undo_0 : decode cX2_undo 0 = .ok (.aload_n 0, 1) := dk_42 (dk_at dksX2_undo_0 0 rfl rfl)
theorem dX2_undo_1 : decode cX2_undo 1 = .ok (.invokevirtual 167, 3) := dk_182 0 167 (dk_at dksX2_undo_0 1 rfl rfl)
theorem dX2_undo_4 : decode cX2_undo 4 = .ok (.aload_n 0, 1) := dk_42 (dk_at dksX2_undo_0 4 rfl rfl)
theorem dX2_undo_5 : decode cX2_undo 5 = .ok (.getfield 183, 3) := dk_180 0 183 (dk_at dksX2_undo_0 5 rfl rfl)
theorem dX2_undo_8 : decode cX2_undo 8 = .ok (.ifCond .ne 10, 3) := dk_154 0 10 (dk_at dksX2_undo_0 8 rfl rfl)
theorem dX2_undo_11 : decode cX2_undo 11 = .ok (.aload_n 0, 1) := dk_42 (dk_at dksX2_undo_0 11 rfl rfl)
theorem dX2_undo_12 : decode cX2_undo 12 = .ok (.bipush 6, 2) := dk_16 6 (dk_at dksX2_undo_0 12 rfl rfl)
theorem dX2_undo_14 : decode cX2_undo 14 = .ok (.invokevirtual 427, 3) := dk_182 1 171 (dk_at dksX2_undo_0 14 rfl rfl)
theorem dX2_undo_17 : decode cX2_undo 17 = .ok (.ireturn, 1) := dk_172 (dk_at dksX2_undo_0 17 rfl rfl)
theorem dX2_undo_18 : decode cX2_undo 18 = .ok (.aload_n 0, 1) := dk_42 (dk_at dksX2_undo_0 18 rfl rfl)
theorem dX2_undo_19 : decode cX2_undo 19 = .ok (.dup, 1) := dk_89 (dk_at dksX2_undo_0 19 rfl rfl)
theorem dX2_undo_20 : decode cX2_undo 20 = .ok (.getfield 183, 3) := dk_180 0 183 (dk_at dksX2_undo_0 20 rfl rfl)
theorem dX2_undo_23 : decode cX2_undo 23 = .ok (.iconst 1, 1) := dk_4 (dk_at dksX2_undo_0 23 rfl rfl)
theorem dX2_undo_24 : decode cX2_undo 24 = .ok (.isub, 1) := dk_100 (dk_at dksX2_undo_1 0 rfl rfl)
theorem dX2_undo_25 : decode cX2_undo 25 = .ok (.putfield 183, 3) := dk_181 0 183 (dk_at dksX2_undo_1 1 rfl rfl)
theorem dX2_undo_28 : decode cX2_undo 28 = .ok (.aload_n 0, 1) := dk_42 (dk_at dksX2_undo_1 4 rfl rfl)
theorem dX2_undo_29 : decode cX2_undo 29 = .ok (.getfield 29, 3) := dk_180 0 29 (dk_at dksX2_undo_1 5 rfl rfl)
theorem dX2_undo_32 : decode cX2_undo 32 = .ok (.bipush 76, 2) := dk_16 76 (dk_at dksX2_undo_1 8 rfl rfl)
theorem dX2_undo_34 : decode cX2_undo 34 = .ok (.aload_n 0, 1) := dk_42 (dk_at dksX2_undo_1 10 rfl rfl)
theorem dX2_undo_35 : decode cX2_undo 35 = .ok (.getfield 183, 3) := dk_180 0 183 (dk_at dksX2_undo_1 11 rfl rfl)
theorem dX2_undo_38 : decode cX2_undo 38 = .ok (.imul, 1) := dk_104 (dk_at dksX2_undo_1 14 rfl rfl)
theorem dX2_undo_39 : decode cX2_undo 39 = .ok (.aload_n 0, 1) := dk_42 (dk_at dksX2_undo_1 15 rfl rfl)
theorem dX2_undo_40 : decode cX2_undo 40 = .ok (.getfield 26, 3) := dk_180 0 26 (dk_at dksX2_undo_1 16 rfl rfl)
theorem dX2_undo_43 : decode cX2_undo 43 = .ok (.iconst 0, 1) := dk_3 (dk_at dksX2_undo_1 19 rfl rfl)
theorem dX2_undo_44 : decode cX2_undo 44 = .ok (.bipush 76, 2) := dk_16 76 (dk_at dksX2_undo_1 20 rfl rfl)
theorem dX2_undo_46 : decode cX2_undo 46 = .ok (.invokestatic 176, 3) := dk_184 0 176 (dk_at dksX2_undo_2 0 rfl rfl)
theorem dX2_undo_49 : decode cX2_undo 49 = .ok (.iconst 1, 1) := dk_4 (dk_at dksX2_undo_2 3 rfl rfl)
theorem dX2_undo_50 : decode cX2_undo 50 = .ok (.ireturn, 1) := dk_172 (dk_at dksX2_undo_2 4 rfl rfl)
abbrev cX2_image : ByteArray := prog_16_method_121_code
def yX2_image : MethodName := ⟨RX2, "image", "()I"⟩
def dkwX2_image_2 : List UInt8 := [104, 16, 76, 184, 0, 176, 42, 89, 180, 0, 186, 4, 96, 181, 0, 186, 42, 180, 0, 186, 4, 100, 172]
abbrev dktX2_image_2 : List UInt8 := dkwX2_image_2 ++ []
def dkwX2_image_1 : List UInt8 := [160, 0, 9, 42, 6, 182, 0, 170, 172, 42, 180, 0, 26, 3, 42, 180, 0, 32, 16, 76, 42, 180, 0, 186]
abbrev dktX2_image_1 : List UInt8 := dkwX2_image_1 ++ dktX2_image_2
def dkwX2_image_0 : List UInt8 := [42, 182, 0, 167, 42, 180, 0, 180, 154, 0, 9, 42, 4, 182, 0, 170, 172, 42, 180, 0, 186, 6]
abbrev dktX2_image_0 : List UInt8 := dkwX2_image_0 ++ dktX2_image_1
theorem dksX2_image_0 : cX2_image.data.toList.drop 0 = dktX2_image_0 := by decide +kernel
theorem dksX2_image_1 : cX2_image.data.toList.drop 22 = dktX2_image_1 := dk_seg dksX2_image_0 22 rfl rfl
theorem dksX2_image_2 : cX2_image.data.toList.drop 46 = dktX2_image_2 := dk_seg dksX2_image_1 24 rfl rfl
theorem dX2_image_0 : decode cX2_image 0 = .ok (.aload_n 0, 1) := dk_42 (dk_at dksX2_image_0 0 rfl rfl)
theorem dX2_image_1 : decode cX2_image 1 = .ok (.invokevirtual 167, 3) := dk_182 0 167 (dk_at dksX2_image_0 1 rfl rfl)
theorem dX2_image_4 : decode cX2_image 4 = .ok (.aload_n 0, 1) := dk_42 (dk_at dksX2_image_0 4 rfl rfl)
theorem dX2_image_5 : decode cX2_image 5 = .ok (.getfield 180, 3) := dk_180 0 180 (dk_at dksX2_image_0 5 rfl rfl)
theorem dX2_image_8 : decode cX2_image 8 = .ok (.ifCond .ne 9, 3) := dk_154 0 9 (dk_at dksX2_image_0 8 rfl rfl)
theorem dX2_image_11 : decode cX2_image 11 = .ok (.aload_n 0, 1) := dk_42 (dk_at dksX2_image_0 11 rfl rfl)
theorem dX2_image_12 : decode cX2_image 12 = .ok (.iconst 1, 1) := dk_4 (dk_at dksX2_image_0 12 rfl rfl)
theorem dX2_image_13 : decode cX2_image 13 = .ok (.invokevirtual 170, 3) := dk_182 0 170 (dk_at dksX2_image_0 13 rfl rfl)
theorem dX2_image_16 : decode cX2_image 16 = .ok (.ireturn, 1) := dk_172 (dk_at dksX2_image_0 16 rfl rfl)
theorem dX2_image_17 : decode cX2_image 17 = .ok (.aload_n 0, 1) := dk_42 (dk_at dksX2_image_0 17 rfl rfl)
theorem dX2_image_18 : decode cX2_image 18 = .ok (.getfield 186, 3) := dk_180 0 186 (dk_at dksX2_image_0 18 rfl rfl)
theorem dX2_image_21 : decode cX2_image 21 = .ok (.iconst 3, 1) := dk_6 (dk_at dksX2_image_0 21 rfl rfl)
theorem dX2_image_22 : decode cX2_image 22 = .ok (.if_icmp .ne 9, 3) := dk_160 0 9 (dk_at dksX2_image_1 0 rfl rfl)
theorem dX2_image_25 : decode cX2_image 25 = .ok (.aload_n 0, 1) := dk_42 (dk_at dksX2_image_1 3 rfl rfl)
theorem dX2_image_26 : decode cX2_image 26 = .ok (.iconst 3, 1) := dk_6 (dk_at dksX2_image_1 4 rfl rfl)
theorem dX2_image_27 : decode cX2_image 27 = .ok (.invokevirtual 170, 3) := dk_182 0 170 (dk_at dksX2_image_1 5 rfl rfl)
theorem dX2_image_30 : decode cX2_image 30 = .ok (.ireturn, 1) := dk_172 (dk_at dksX2_image_1 8 rfl rfl)
theorem dX2_image_31 : decode cX2_image 31 = .ok (.aload_n 0, 1) := dk_42 (dk_at dksX2_image_1 9 rfl rfl)
theorem dX2_image_32 : decode cX2_image 32 = .ok (.getfield 26, 3) := dk_180 0 26 (dk_at dksX2_image_1 10 rfl rfl)
theorem dX2_image_35 : decode cX2_image 35 = .ok (.iconst 0, 1) := dk_3 (dk_at dksX2_image_1 13 rfl rfl)
theorem dX2_image_36 : decode cX2_image 36 = .ok (.aload_n 0, 1) := dk_42 (dk_at dksX2_image_1 14 rfl rfl)
theorem dX2_image_37 : decode cX2_image 37 = .ok (.getfield 32, 3) := dk_180 0 32 (dk_at dksX2_image_1 15 rfl rfl)
theorem dX2_image_40 : decode cX2_image 40 = .ok (.bipush 76, 2) := dk_16 76 (dk_at dksX2_image_1 18 rfl rfl)
theorem dX2_image_42 : decode cX2_image 42 = .ok (.aload_n 0, 1) := dk_42 (dk_at dksX2_image_1 20 rfl rfl)
theorem dX2_image_43 : decode cX2_image 43 = .ok (.getfield 186, 3) := dk_180 0 186 (dk_at dksX2_image_1 21 rfl rfl)
theorem dX2_image_46 : decode cX2_image 46 = .ok (.imul, 1) := dk_104 (dk_at dksX2_image_2 0 rfl rfl)
theorem dX2_image_47 : decode cX2_image 47 = .ok (.bipush 76, 2) := dk_16 76 (dk_at dksX2_image_2 1 rfl rfl)
theorem dX2_image_49 : decode cX2_image 49 = .ok (.invokestatic 176, 3) := dk_184 0 176 (dk_at dksX2_image_2 3 rfl rfl)
theorem dX2_image_52 : decode cX2_image 52 = .ok (.aload_n 0, 1) := dk_42 (dk_at dksX2_image_2 6 rfl rfl)
theorem dX2_image_53 : decode cX2_image 53 = .ok (.dup, 1) := dk_89 (dk_at dksX2_image_2 7 rfl rfl)
theorem dX2_image_54 : decode cX2_image 54 = .ok (.getfield 186, 3) := dk_180 0 186 (dk_at dksX2_image_2 8 rfl rfl)
theorem dX2_image_57 : decode cX2_image 57 = .ok (.iconst 1, 1) := dk_4 (dk_at dksX2_image_2 11 rfl rfl)
theorem dX2_image_58 : decode cX2_image 58 = .ok (.iadd, 1) := dk_96 (dk_at dksX2_image_2 12 rfl rfl)
theorem dX2_image_59 : decode cX2_image 59 = .ok (.putfield 186, 3) := dk_181 0 186 (dk_at dksX2_image_2 13 rfl rfl)
theorem dX2_image_62 : decode cX2_image 62 = .ok (.aload_n 0, 1) := dk_42 (dk_at dksX2_image_2 16 rfl rfl)
theorem dX2_image_63 : decode cX2_image 63 = .ok (.getfield 186, 3) := dk_180 0 186 (dk_at dksX2_image_2 17 rfl rfl)
theorem dX2_image_66 : decode cX2_image 66 = .ok (.iconst 1, 1) := dk_4 (dk_at dksX2_image_2 20 rfl rfl)
theorem dX2_image_67 : decode cX2_image 67 = .ok (.isub, 1) := dk_100 (dk_at dksX2_image_2 21 rfl rfl)
theorem dX2_image_68 : decode cX2_image 68 = .ok (.ireturn, 1) := dk_172 (dk_at dksX2_image_2 22 rfl rfl)
abbrev cX2_back : ByteArray := prog_16_method_122_code
def yX2_back : MethodName := ⟨RX2, "back", "(I)Z"⟩
def dkwX2_back_2 : List UInt8 := [172]
abbrev dktX2_back_2 : List UInt8 := dkwX2_back_2 ++ []
def dkwX2_back_1 : List UInt8 := [42, 180, 0, 32, 16, 76, 27, 104, 42, 180, 0, 26, 3, 16, 76, 184, 0, 176, 42, 3, 181, 0, 183, 4]
abbrev dktX2_back_1 : List UInt8 := dkwX2_back_1 ++ dktX2_back_2
def dkwX2_back_0 : List UInt8 := [42, 182, 0, 167, 27, 3, 42, 180, 0, 186, 4, 100, 184, 0, 149, 154, 0, 9, 42, 4, 182, 1, 171, 172]
abbrev dktX2_back_0 : List UInt8 := dkwX2_back_0 ++ dktX2_back_1
theorem dksX2_back_0 : cX2_back.data.toList.drop 0 = dktX2_back_0 := by decide +kernel
theorem dksX2_back_1 : cX2_back.data.toList.drop 24 = dktX2_back_1 := dk_seg dksX2_back_0 24 rfl rfl
theorem dksX2_back_2 : cX2_back.data.toList.drop 48 = dktX2_back_2 := dk_seg dksX2_back_1 24 rfl rfl
theorem dX2_back_0 : decode cX2_back 0 = .ok (.aload_n 0, 1) := dk_42 (dk_at dksX2_back_0 0 rfl rfl)
theorem dX2_back_1 : decode cX2_back 1 = .ok (.invokevirtual 167, 3) := dk_182 0 167 (dk_at dksX2_back_0 1 rfl rfl)
theorem dX2_back_4 : decode cX2_back 4 = .ok (.iload_n 1, 1) := dk_27 (dk_at dksX2_back_0 4 rfl rfl)
theorem dX2_back_5 : decode cX2_back 5 = .ok (.iconst 0, 1) := dk_3 (dk_at dksX2_back_0 5 rfl rfl)
theorem dX2_back_6 : decode cX2_back 6 = .ok (.aload_n 0, 1) := dk_42 (dk_at dksX2_back_0 6 rfl rfl)
theorem dX2_back_7 : decode cX2_back 7 = .ok (.getfield 186, 3) := dk_180 0 186 (dk_at dksX2_back_0 7 rfl rfl)
theorem dX2_back_10 : decode cX2_back 10 = .ok (.iconst 1, 1) := dk_4 (dk_at dksX2_back_0 10 rfl rfl)
theorem dX2_back_11 : decode cX2_back 11 = .ok (.isub, 1) := dk_100 (dk_at dksX2_back_0 11 rfl rfl)
theorem dX2_back_12 : decode cX2_back 12 = .ok (.invokestatic 149, 3) := dk_184 0 149 (dk_at dksX2_back_0 12 rfl rfl)
theorem dX2_back_15 : decode cX2_back 15 = .ok (.ifCond .ne 9, 3) := dk_154 0 9 (dk_at dksX2_back_0 15 rfl rfl)
theorem dX2_back_18 : decode cX2_back 18 = .ok (.aload_n 0, 1) := dk_42 (dk_at dksX2_back_0 18 rfl rfl)
theorem dX2_back_19 : decode cX2_back 19 = .ok (.iconst 1, 1) := dk_4 (dk_at dksX2_back_0 19 rfl rfl)
theorem dX2_back_20 : decode cX2_back 20 = .ok (.invokevirtual 427, 3) := dk_182 1 171 (dk_at dksX2_back_0 20 rfl rfl)
theorem dX2_back_23 : decode cX2_back 23 = .ok (.ireturn, 1) := dk_172 (dk_at dksX2_back_0 23 rfl rfl)
theorem dX2_back_24 : decode cX2_back 24 = .ok (.aload_n 0, 1) := dk_42 (dk_at dksX2_back_1 0 rfl rfl)
theorem dX2_back_25 : decode cX2_back 25 = .ok (.getfield 32, 3) := dk_180 0 32 (dk_at dksX2_back_1 1 rfl rfl)
theorem dX2_back_28 : decode cX2_back 28 = .ok (.bipush 76, 2) := dk_16 76 (dk_at dksX2_back_1 4 rfl rfl)
theorem dX2_back_30 : decode cX2_back 30 = .ok (.iload_n 1, 1) := dk_27 (dk_at dksX2_back_1 6 rfl rfl)
theorem dX2_back_31 : decode cX2_back 31 = .ok (.imul, 1) := dk_104 (dk_at dksX2_back_1 7 rfl rfl)
theorem dX2_back_32 : decode cX2_back 32 = .ok (.aload_n 0, 1) := dk_42 (dk_at dksX2_back_1 8 rfl rfl)
theorem dX2_back_33 : decode cX2_back 33 = .ok (.getfield 26, 3) := dk_180 0 26 (dk_at dksX2_back_1 9 rfl rfl)
theorem dX2_back_36 : decode cX2_back 36 = .ok (.iconst 0, 1) := dk_3 (dk_at dksX2_back_1 12 rfl rfl)
theorem dX2_back_37 : decode cX2_back 37 = .ok (.bipush 76, 2) := dk_16 76 (dk_at dksX2_back_1 13 rfl rfl)
theorem dX2_back_39 : decode cX2_back 39 = .ok (.invokestatic 176, 3) := dk_184 0 176 (dk_at dksX2_back_1 15 rfl rfl)
theorem dX2_back_42 : decode cX2_back 42 = .ok (.aload_n 0, 1) := dk_42 (dk_at dksX2_back_1 18 rfl rfl)
theorem dX2_back_43 : decode cX2_back 43 = .ok (.iconst 0, 1) := dk_3 (dk_at dksX2_back_1 19 rfl rfl)
theorem dX2_back_44 : decode cX2_back 44 = .ok (.putfield 183, 3) := dk_181 0 183 (dk_at dksX2_back_1 20 rfl rfl)
theorem dX2_back_47 : decode cX2_back 47 = .ok (.iconst 1, 1) := dk_4 (dk_at dksX2_back_1 23 rfl rfl)
theorem dX2_back_48 : decode cX2_back 48 = .ok (.ireturn, 1) := dk_172 (dk_at dksX2_back_2 0 rfl rfl)
abbrev cX2_led : ByteArray := prog_16_method_123_code
def yX2_led : MethodName := ⟨RX2, "led", "(I)I"⟩
def dkwX2_led_2 : List UInt8 := [29, 172, 132, 2, 1, 132, 3, 1, 167, 255, 205, 42, 4, 181, 0, 62, 3, 172]
abbrev dktX2_led_2 : List UInt8 := dkwX2_led_2 ++ []
def dkwX2_led_1 : List UInt8 := [180, 0, 26, 16, 12, 29, 96, 46, 158, 0, 6, 167, 0, 18, 28, 27, 160, 0, 10, 42, 3, 181, 0, 62]
abbrev dktX2_led_1 : List UInt8 := dkwX2_led_1 ++ dktX2_led_2
def dkwX2_led_0 : List UInt8 := [3, 61, 3, 62, 42, 180, 0, 180, 153, 0, 50, 29, 42, 180, 0, 20, 16, 7, 46, 162, 0, 39, 42]
abbrev dktX2_led_0 : List UInt8 := dkwX2_led_0 ++ dktX2_led_1
theorem dksX2_led_0 : cX2_led.data.toList.drop 0 = dktX2_led_0 := by decide +kernel
theorem dksX2_led_1 : cX2_led.data.toList.drop 23 = dktX2_led_1 := dk_seg dksX2_led_0 23 rfl rfl
theorem dksX2_led_2 : cX2_led.data.toList.drop 47 = dktX2_led_2 := dk_seg dksX2_led_1 24 rfl rfl
theorem dX2_led_0 : decode cX2_led 0 = .ok (.iconst 0, 1) := dk_3 (dk_at dksX2_led_0 0 rfl rfl)
theorem dX2_led_1 : decode cX2_led 1 = .ok (.istore_n 2, 1) := dk_61 (dk_at dksX2_led_0 1 rfl rfl)
theorem dX2_led_2 : decode cX2_led 2 = .ok (.iconst 0, 1) := dk_3 (dk_at dksX2_led_0 2 rfl rfl)
theorem dX2_led_3 : decode cX2_led 3 = .ok (.istore_n 3, 1) := dk_62 (dk_at dksX2_led_0 3 rfl rfl)
theorem dX2_led_4 : decode cX2_led 4 = .ok (.aload_n 0, 1) := dk_42 (dk_at dksX2_led_0 4 rfl rfl)
theorem dX2_led_5 : decode cX2_led 5 = .ok (.getfield 180, 3) := dk_180 0 180 (dk_at dksX2_led_0 5 rfl rfl)
theorem dX2_led_8 : decode cX2_led 8 = .ok (.ifCond .eq 50, 3) := dk_153 0 50 (dk_at dksX2_led_0 8 rfl rfl)
theorem dX2_led_11 : decode cX2_led 11 = .ok (.iload_n 3, 1) := dk_29 (dk_at dksX2_led_0 11 rfl rfl)
theorem dX2_led_12 : decode cX2_led 12 = .ok (.aload_n 0, 1) := dk_42 (dk_at dksX2_led_0 12 rfl rfl)
theorem dX2_led_13 : decode cX2_led 13 = .ok (.getfield 20, 3) := dk_180 0 20 (dk_at dksX2_led_0 13 rfl rfl)
theorem dX2_led_16 : decode cX2_led 16 = .ok (.bipush 7, 2) := dk_16 7 (dk_at dksX2_led_0 16 rfl rfl)
theorem dX2_led_18 : decode cX2_led 18 = .ok (.iaload, 1) := dk_46 (dk_at dksX2_led_0 18 rfl rfl)
theorem dX2_led_19 : decode cX2_led 19 = .ok (.if_icmp .ge 39, 3) := dk_162 0 39 (dk_at dksX2_led_0 19 rfl rfl)
theorem dX2_led_22 : decode cX2_led 22 = .ok (.aload_n 0, 1) := dk_42 (dk_at dksX2_led_0 22 rfl rfl)
theorem dX2_led_23 : decode cX2_led 23 = .ok (.getfield 26, 3) := dk_180 0 26 (dk_at dksX2_led_1 0 rfl rfl)
theorem dX2_led_26 : decode cX2_led 26 = .ok (.bipush 12, 2) := dk_16 12 (dk_at dksX2_led_1 3 rfl rfl)
theorem dX2_led_28 : decode cX2_led 28 = .ok (.iload_n 3, 1) := dk_29 (dk_at dksX2_led_1 5 rfl rfl)
theorem dX2_led_29 : decode cX2_led 29 = .ok (.iadd, 1) := dk_96 (dk_at dksX2_led_1 6 rfl rfl)
theorem dX2_led_30 : decode cX2_led 30 = .ok (.iaload, 1) := dk_46 (dk_at dksX2_led_1 7 rfl rfl)
theorem dX2_led_31 : decode cX2_led 31 = .ok (.ifCond .le 6, 3) := dk_158 0 6 (dk_at dksX2_led_1 8 rfl rfl)
theorem dX2_led_34 : decode cX2_led 34 = .ok (.goto 18, 3) := dk_167 0 18 (dk_at dksX2_led_1 11 rfl rfl)
theorem dX2_led_37 : decode cX2_led 37 = .ok (.iload_n 2, 1) := dk_28 (dk_at dksX2_led_1 14 rfl rfl)
theorem dX2_led_38 : decode cX2_led 38 = .ok (.iload_n 1, 1) := dk_27 (dk_at dksX2_led_1 15 rfl rfl)
theorem dX2_led_39 : decode cX2_led 39 = .ok (.if_icmp .ne 10, 3) := dk_160 0 10 (dk_at dksX2_led_1 16 rfl rfl)
theorem dX2_led_42 : decode cX2_led 42 = .ok (.aload_n 0, 1) := dk_42 (dk_at dksX2_led_1 19 rfl rfl)
theorem dX2_led_43 : decode cX2_led 43 = .ok (.iconst 0, 1) := dk_3 (dk_at dksX2_led_1 20 rfl rfl)
theorem dX2_led_44 : decode cX2_led 44 = .ok (.putfield 62, 3) := dk_181 0 62 (dk_at dksX2_led_1 21 rfl rfl)
theorem dX2_led_47 : decode cX2_led 47 = .ok (.iload_n 3, 1) := dk_29 (dk_at dksX2_led_2 0 rfl rfl)
theorem dX2_led_48 : decode cX2_led 48 = .ok (.ireturn, 1) := dk_172 (dk_at dksX2_led_2 1 rfl rfl)
theorem dX2_led_49 : decode cX2_led 49 = .ok (.iinc 2 1, 3) := dk_132 2 1 (dk_at dksX2_led_2 2 rfl rfl)
theorem dX2_led_52 : decode cX2_led 52 = .ok (.iinc 3 1, 3) := dk_132 3 1 (dk_at dksX2_led_2 5 rfl rfl)
theorem dX2_led_55 : decode cX2_led 55 = .ok (.goto (-51), 3) := dk_167 255 205 (dk_at dksX2_led_2 8 rfl rfl)
theorem dX2_led_58 : decode cX2_led 58 = .ok (.aload_n 0, 1) := dk_42 (dk_at dksX2_led_2 11 rfl rfl)
theorem dX2_led_59 : decode cX2_led 59 = .ok (.iconst 1, 1) := dk_4 (dk_at dksX2_led_2 12 rfl rfl)
theorem dX2_led_60 : decode cX2_led 60 = .ok (.putfield 62, 3) := dk_181 0 62 (dk_at dksX2_led_2 13 rfl rfl)
theorem dX2_led_63 : decode cX2_led 63 = .ok (.iconst 0, 1) := dk_3 (dk_at dksX2_led_2 16 rfl rfl)
theorem dX2_led_64 : decode cX2_led 64 = .ok (.ireturn, 1) := dk_172 (dk_at dksX2_led_2 17 rfl rfl)
abbrev cX2_size : ByteArray := prog_16_method_124_code
def yX2_size : MethodName := ⟨RX2, "size", "(I)I"⟩
def dkwX2_size_4 : List UInt8 := [180, 0, 186, 167, 0, 4, 2, 172]
abbrev dktX2_size_4 : List UInt8 := dkwX2_size_4 ++ []
def dkwX2_size_3 : List UInt8 := [167, 0, 30, 27, 16, 10, 160, 0, 10, 42, 180, 0, 183, 167, 0, 17, 27, 16, 11, 160, 0, 10, 42]
abbrev dktX2_size_3 : List UInt8 := dkwX2_size_3 ++ dktX2_size_4
def dkwX2_size_2 : List UInt8 := [153, 0, 10, 42, 180, 0, 20, 27, 46, 172, 27, 16, 9, 160, 0, 12, 42, 180, 0, 26, 3, 46]
abbrev dktX2_size_2 : List UInt8 := dkwX2_size_2 ++ dktX2_size_3
def dkwX2_size_1 : List UInt8 := [3, 16, 11, 184, 0, 149, 153, 0, 7, 3, 167, 0, 4, 2, 172, 27, 3, 16, 8, 184, 0, 149]
abbrev dktX2_size_1 : List UInt8 := dkwX2_size_1 ++ dktX2_size_2
def dkwX2_size_0 : List UInt8 := [42, 3, 181, 0, 62, 27, 16, 12, 160, 0, 8, 42, 180, 0, 68, 172, 42, 180, 0, 180, 154, 0, 19, 27]
abbrev dktX2_size_0 : List UInt8 := dkwX2_size_0 ++ dktX2_size_1
theorem dksX2_size_0 : cX2_size.data.toList.drop 0 = dktX2_size_0 := by decide +kernel
theorem dksX2_size_1 : cX2_size.data.toList.drop 24 = dktX2_size_1 := dk_seg dksX2_size_0 24 rfl rfl
theorem dksX2_size_2 : cX2_size.data.toList.drop 46 = dktX2_size_2 := dk_seg dksX2_size_1 22 rfl rfl
theorem dksX2_size_3 : cX2_size.data.toList.drop 68 = dktX2_size_3 := dk_seg dksX2_size_2 22 rfl rfl
theorem dksX2_size_4 : cX2_size.data.toList.drop 91 = dktX2_size_4 := dk_seg dksX2_size_3 23 rfl rfl
theorem dX2_size_0 : decode cX2_size 0 = .ok (.aload_n 0, 1) := dk_42 (dk_at dksX2_size_0 0 rfl rfl)
theorem dX2_size_1 : decode cX2_size 1 = .ok (.iconst 0, 1) := dk_3 (dk_at dksX2_size_0 1 rfl rfl)
theorem dX2_size_2 : decode cX2_size 2 = .ok (.putfield 62, 3) := dk_181 0 62 (dk_at dksX2_size_0 2 rfl rfl)
theorem dX2_size_5 : decode cX2_size 5 = .ok (.iload_n 1, 1) := dk_27 (dk_at dksX2_size_0 5 rfl rfl)
theorem dX2_size_6 : decode cX2_size 6 = .ok (.bipush 12, 2) := dk_16 12 (dk_at dksX2_size_0 6 rfl rfl)
theorem dX2_size_8 : decode cX2_size 8 = .ok (.if_icmp .ne 8, 3) := dk_160 0 8 (dk_at dksX2_size_0 8 rfl rfl)
theorem dX2_size_11 : decode cX2_size 11 = .ok (.aload_n 0, 1) := dk_42 (dk_at dksX2_size_0 11 rfl rfl)
theorem dX2_size_12 : decode cX2_size 12 = .ok (.getfield 68, 3) := dk_180 0 68 (dk_at dksX2_size_0 12 rfl rfl)
theorem dX2_size_15 : decode cX2_size 15 = .ok (.ireturn, 1) := dk_172 (dk_at dksX2_size_0 15 rfl rfl)
theorem dX2_size_16 : decode cX2_size 16 = .ok (.aload_n 0, 1) := dk_42 (dk_at dksX2_size_0 16 rfl rfl)
theorem dX2_size_17 : decode cX2_size 17 = .ok (.getfield 180, 3) := dk_180 0 180 (dk_at dksX2_size_0 17 rfl rfl)
theorem dX2_size_20 : decode cX2_size 20 = .ok (.ifCond .ne 19, 3) := dk_154 0 19 (dk_at dksX2_size_0 20 rfl rfl)
theorem dX2_size_23 : decode cX2_size 23 = .ok (.iload_n 1, 1) := dk_27 (dk_at dksX2_size_0 23 rfl rfl)
theorem dX2_size_24 : decode cX2_size 24 = .ok (.iconst 0, 1) := dk_3 (dk_at dksX2_size_1 0 rfl rfl)
theorem dX2_size_25 : decode cX2_size 25 = .ok (.bipush 11, 2) := dk_16 11 (dk_at dksX2_size_1 1 rfl rfl)
theorem dX2_size_27 : decode cX2_size 27 = .ok (.invokestatic 149, 3) := dk_184 0 149 (dk_at dksX2_size_1 3 rfl rfl)
theorem dX2_size_30 : decode cX2_size 30 = .ok (.ifCond .eq 7, 3) := dk_153 0 7 (dk_at dksX2_size_1 6 rfl rfl)
theorem dX2_size_33 : decode cX2_size 33 = .ok (.iconst 0, 1) := dk_3 (dk_at dksX2_size_1 9 rfl rfl)
theorem dX2_size_34 : decode cX2_size 34 = .ok (.goto 4, 3) := dk_167 0 4 (dk_at dksX2_size_1 10 rfl rfl)
theorem dX2_size_37 : decode cX2_size 37 = .ok (.iconst (-1), 1) := dk_2 (dk_at dksX2_size_1 13 rfl rfl)
theorem dX2_size_38 : decode cX2_size 38 = .ok (.ireturn, 1) := dk_172 (dk_at dksX2_size_1 14 rfl rfl)
theorem dX2_size_39 : decode cX2_size 39 = .ok (.iload_n 1, 1) := dk_27 (dk_at dksX2_size_1 15 rfl rfl)
theorem dX2_size_40 : decode cX2_size 40 = .ok (.iconst 0, 1) := dk_3 (dk_at dksX2_size_1 16 rfl rfl)
theorem dX2_size_41 : decode cX2_size 41 = .ok (.bipush 8, 2) := dk_16 8 (dk_at dksX2_size_1 17 rfl rfl)
theorem dX2_size_43 : decode cX2_size 43 = .ok (.invokestatic 149, 3) := dk_184 0 149 (dk_at dksX2_size_1 19 rfl rfl)
theorem dX2_size_46 : decode cX2_size 46 = .ok (.ifCond .eq 10, 3) := dk_153 0 10 (dk_at dksX2_size_2 0 rfl rfl)
theorem dX2_size_49 : decode cX2_size 49 = .ok (.aload_n 0, 1) := dk_42 (dk_at dksX2_size_2 3 rfl rfl)
theorem dX2_size_50 : decode cX2_size 50 = .ok (.getfield 20, 3) := dk_180 0 20 (dk_at dksX2_size_2 4 rfl rfl)
theorem dX2_size_53 : decode cX2_size 53 = .ok (.iload_n 1, 1) := dk_27 (dk_at dksX2_size_2 7 rfl rfl)
theorem dX2_size_54 : decode cX2_size 54 = .ok (.iaload, 1) := dk_46 (dk_at dksX2_size_2 8 rfl rfl)
theorem dX2_size_55 : decode cX2_size 55 = .ok (.ireturn, 1) := dk_172 (dk_at dksX2_size_2 9 rfl rfl)
theorem dX2_size_56 : decode cX2_size 56 = .ok (.iload_n 1, 1) := dk_27 (dk_at dksX2_size_2 10 rfl rfl)
theorem dX2_size_57 : decode cX2_size 57 = .ok (.bipush 9, 2) := dk_16 9 (dk_at dksX2_size_2 11 rfl rfl)
theorem dX2_size_59 : decode cX2_size 59 = .ok (.if_icmp .ne 12, 3) := dk_160 0 12 (dk_at dksX2_size_2 13 rfl rfl)
theorem dX2_size_62 : decode cX2_size 62 = .ok (.aload_n 0, 1) := dk_42 (dk_at dksX2_size_2 16 rfl rfl)
theorem dX2_size_63 : decode cX2_size 63 = .ok (.getfield 26, 3) := dk_180 0 26 (dk_at dksX2_size_2 17 rfl rfl)
theorem dX2_size_66 : decode cX2_size 66 = .ok (.iconst 0, 1) := dk_3 (dk_at dksX2_size_2 20 rfl rfl)
theorem dX2_size_67 : decode cX2_size 67 = .ok (.iaload, 1) := dk_46 (dk_at dksX2_size_2 21 rfl rfl)
theorem dX2_size_68 : decode cX2_size 68 = .ok (.goto 30, 3) := dk_167 0 30 (dk_at dksX2_size_3 0 rfl rfl)
theorem dX2_size_71 : decode cX2_size 71 = .ok (.iload_n 1, 1) := dk_27 (dk_at dksX2_size_3 3 rfl rfl)
theorem dX2_size_72 : decode cX2_size 72 = .ok (.bipush 10, 2) := dk_16 10 (dk_at dksX2_size_3 4 rfl rfl)
theorem dX2_size_74 : decode cX2_size 74 = .ok (.if_icmp .ne 10, 3) := dk_160 0 10 (dk_at dksX2_size_3 6 rfl rfl)
theorem dX2_size_77 : decode cX2_size 77 = .ok (.aload_n 0, 1) := dk_42 (dk_at dksX2_size_3 9 rfl rfl)
theorem dX2_size_78 : decode cX2_size 78 = .ok (.getfield 183, 3) := dk_180 0 183 (dk_at dksX2_size_3 10 rfl rfl)
theorem dX2_size_81 : decode cX2_size 81 = .ok (.goto 17, 3) := dk_167 0 17 (dk_at dksX2_size_3 13 rfl rfl)
theorem dX2_size_84 : decode cX2_size 84 = .ok (.iload_n 1, 1) := dk_27 (dk_at dksX2_size_3 16 rfl rfl)
theorem dX2_size_85 : decode cX2_size 85 = .ok (.bipush 11, 2) := dk_16 11 (dk_at dksX2_size_3 17 rfl rfl)
theorem dX2_size_87 : decode cX2_size 87 = .ok (.if_icmp .ne 10, 3) := dk_160 0 10 (dk_at dksX2_size_3 19 rfl rfl)
theorem dX2_size_90 : decode cX2_size 90 = .ok (.aload_n 0, 1) := dk_42 (dk_at dksX2_size_3 22 rfl rfl)
theorem dX2_size_91 : decode cX2_size 91 = .ok (.getfield 186, 3) := dk_180 0 186 (dk_at dksX2_size_4 0 rfl rfl)
theorem dX2_size_94 : decode cX2_size 94 = .ok (.goto 4, 3) := dk_167 0 4 (dk_at dksX2_size_4 3 rfl rfl)
theorem dX2_size_97 : decode cX2_size 97 = .ok (.iconst (-1), 1) := dk_2 (dk_at dksX2_size_4 6 rfl rfl)
theorem dX2_size_98 : decode cX2_size 98 = .ok (.ireturn, 1) := dk_172 (dk_at dksX2_size_4 7 rfl rfl)
abbrev cX2_trouble : ByteArray := prog_16_method_125_code
def yX2_trouble : MethodName := ⟨RX2, "trouble", "()I"⟩
def dkwX2_trouble_0 : List UInt8 := [42, 3, 181, 0, 62, 42, 180, 0, 65, 172]
abbrev dktX2_trouble_0 : List UInt8 := dkwX2_trouble_0 ++ []
theorem dksX2_trouble_0 : cX2_trouble.data.toList.drop 0 = dktX2_trouble_0 := by decide +kernel
theorem dX2_trouble_0 : decode cX2_trouble 0 = .ok (.aload_n 0, 1) := dk_42 (dk_at dksX2_trouble_0 0 rfl rfl)
theorem dX2_trouble_1 : decode cX2_trouble 1 = .ok (.iconst 0, 1) := dk_3 (dk_at dksX2_trouble_0 1 rfl rfl)
theorem dX2_trouble_2 : decode cX2_trouble 2 = .ok (.putfield 62, 3) := dk_181 0 62 (dk_at dksX2_trouble_0 2 rfl rfl)
theorem dX2_trouble_5 : decode cX2_trouble 5 = .ok (.aload_n 0, 1) := dk_42 (dk_at dksX2_trouble_0 5 rfl rfl)
theorem dX2_trouble_6 : decode cX2_trouble 6 = .ok (.getfield 65, 3) := dk_180 0 65 (dk_at dksX2_trouble_0 6 rfl rfl)
theorem dX2_trouble_9 : decode cX2_trouble 9 = .ok (.ireturn, 1) := dk_172 (dk_at dksX2_trouble_0 9 rfl rfl)
theorem q135 : (Jvm.Cond.initialized "WhalePostModel") ∈ lw_all := lw_g (lw_at lw_m1 5 rfl) rfl
theorem q860 : (Jvm.Cond.selects "WhalePostModel" ({ cls := "java/lang/Object", name := "getClass", desc := "()Ljava/lang/Class;" } : Jvm.MethodName) ({ cls := "java/lang/Object", name := "getClass", desc := "()Ljava/lang/Class;" } : Jvm.MethodName)) ∈ lw_all := lw_g (lw_at lw_m4 10 rfl) rfl
theorem q1668 : (Jvm.Cond.instantiable "WhalePostModel" (39 : Nat)) ∈ lw_all := lw_g (lw_at lw_m7 98 rfl) rfl
theorem q1670 : (Jvm.Cond.instanceMethod ({ cls := "WhalePostModel", name := "<init>", desc := "()V" } : Jvm.MethodName)) ∈ lw_all := lw_g (lw_at lw_m7 100 rfl) rfl
theorem q1671 : (Jvm.Cond.code ({ cls := "WhalePostModel", name := "<init>", desc := "()V" } : Jvm.MethodName) prog_16_method_1_code (1 : Nat) (Option.none : Option Jvm.ClassFile.FieldType)) ∈ lw_all := lw_g (lw_at lw_m7 101 rfl) rfl
theorem q1672 : (Jvm.Cond.methodLink "WhalePostModel" (1 : Nat) ({ cls := "java/lang/Object", name := "<init>", desc := "()V" } : Jvm.MethodName)) ∈ lw_all := lw_g (lw_at lw_m7 102 rfl) rfl
theorem q1673 : (Jvm.Cond.fieldLink "WhalePostModel" (62 : Nat) "WhalePostModel" "thrown" "I") ∈ lw_all := lw_g (lw_at lw_m7 103 rfl) rfl
theorem q1674 : (Jvm.Cond.fieldLink "WhalePostModel" (7 : Nat) "WhalePostModel" "tape" "[I") ∈ lw_all := lw_g (lw_at lw_m7 104 rfl) rfl
theorem q1675 : (Jvm.Cond.fieldLink "WhalePostModel" (68 : Nat) "WhalePostModel" "taped" "I") ∈ lw_all := lw_g (lw_at lw_m7 105 rfl) rfl
theorem q1676 : (Jvm.Cond.fieldLink "WhalePostModel" (71 : Nat) "WhalePostModel" "size" "I") ∈ lw_all := lw_g (lw_at lw_m7 106 rfl) rfl
theorem q1677 : (Jvm.Cond.fieldLink "WhalePostModel" (81 : Nat) "WhalePostModel" "at" "I") ∈ lw_all := lw_g (lw_at lw_m7 107 rfl) rfl
theorem q1678 : (Jvm.Cond.fieldLink "WhalePostModel" (74 : Nat) "WhalePostModel" "end" "I") ∈ lw_all := lw_g (lw_at lw_m7 108 rfl) rfl
theorem q1679 : (Jvm.Cond.fieldLink "WhalePostModel" (90 : Nat) "WhalePostModel" "token" "I") ∈ lw_all := lw_g (lw_at lw_m7 109 rfl) rfl
theorem q1680 : (Jvm.Cond.fieldLink "WhalePostModel" (87 : Nat) "WhalePostModel" "whole" "I") ∈ lw_all := lw_g (lw_at lw_m7 110 rfl) rfl
theorem q1681 : (Jvm.Cond.fieldLink "WhalePostModel" (84 : Nat) "WhalePostModel" "nameSize" "I") ∈ lw_all := lw_g (lw_at lw_m7 111 rfl) rfl
theorem q1682 : (Jvm.Cond.fieldLink "WhalePostModel" (104 : Nat) "WhalePostModel" "fault" "I") ∈ lw_all := lw_g (lw_at lw_m7 112 rfl) rfl
theorem q1683 : (Jvm.Cond.fieldLink "WhalePostModel" (13 : Nat) "WhalePostModel" "place" "I") ∈ lw_all := lw_g (lw_at lw_m7 113 rfl) rfl
theorem q1684 : (Jvm.Cond.fieldLink "WhalePostModel" (65 : Nat) "WhalePostModel" "trouble" "I") ∈ lw_all := lw_g (lw_at lw_m7 114 rfl) rfl
theorem q1685 : (Jvm.Cond.fieldLink "WhalePostModel" (17 : Nat) "WhalePostModel" "letters" "[I") ∈ lw_all := lw_g (lw_at lw_m7 115 rfl) rfl
theorem q1686 : (Jvm.Cond.fieldLink "WhalePostModel" (100 : Nat) "WhalePostModel" "failed" "Z") ∈ lw_all := lw_g (lw_at lw_m7 116 rfl) rfl
theorem q1687 : (Jvm.Cond.fieldLink "WhalePostModel" (180 : Nat) "WhalePostModel" "hasPost" "Z") ∈ lw_all := lw_g (lw_at lw_m7 117 rfl) rfl
theorem q1688 : (Jvm.Cond.fieldLink "WhalePostModel" (20 : Nat) "WhalePostModel" "\x72" "[I") ∈ lw_all := lw_g (lw_at lw_m7 118 rfl) rfl
theorem q1689 : (Jvm.Cond.fieldLink "WhalePostModel" (23 : Nat) "WhalePostModel" "fresh" "[I") ∈ lw_all := lw_g (lw_at lw_m7 119 rfl) rfl
theorem q1690 : (Jvm.Cond.fieldLink "WhalePostModel" (26 : Nat) "WhalePostModel" "st" "[I") ∈ lw_all := lw_g (lw_at lw_m7 120 rfl) rfl
theorem q1691 : (Jvm.Cond.fieldLink "WhalePostModel" (29 : Nat) "WhalePostModel" "undone" "[I") ∈ lw_all := lw_g (lw_at lw_m7 121 rfl) rfl
theorem q1692 : (Jvm.Cond.fieldLink "WhalePostModel" (32 : Nat) "WhalePostModel" "kept" "[I") ∈ lw_all := lw_g (lw_at lw_m7 122 rfl) rfl
theorem q1693 : (Jvm.Cond.fieldLink "WhalePostModel" (183 : Nat) "WhalePostModel" "undos" "I") ∈ lw_all := lw_g (lw_at lw_m7 123 rfl) rfl
theorem q1694 : (Jvm.Cond.fieldLink "WhalePostModel" (186 : Nat) "WhalePostModel" "images" "I") ∈ lw_all := lw_g (lw_at lw_m7 124 rfl) rfl
theorem q1695 : (Jvm.Cond.fieldLink "WhalePostModel" (35 : Nat) "WhalePostModel" "taken" "[I") ∈ lw_all := lw_g (lw_at lw_m7 125 rfl) rfl
theorem q1696 : (Jvm.Cond.fieldLink "WhalePostModel" (315 : Nat) "WhalePostModel" "takenMany" "I") ∈ lw_all := lw_g (lw_at lw_m7 126 rfl) rfl
theorem q1697 : (Jvm.Cond.fieldLink "WhalePostModel" (38 : Nat) "WhalePostModel" "days" "[I") ∈ lw_all := lw_g (lw_at lw_m7 127 rfl) rfl
theorem q1698 : (Jvm.Cond.fieldLink "WhalePostModel" (41 : Nat) "WhalePostModel" "done" "[I") ∈ lw_all := lw_g (lw_at lw_m7 128 rfl) rfl
theorem q1699 : (Jvm.Cond.fieldLink "WhalePostModel" (358 : Nat) "WhalePostModel" "takes" "I") ∈ lw_all := lw_g (lw_at lw_m7 129 rfl) rfl
theorem q1700 : (Jvm.Cond.fieldLink "WhalePostModel" (361 : Nat) "WhalePostModel" "arrives" "I") ∈ lw_all := lw_g (lw_at lw_m7 130 rfl) rfl
theorem q1701 : (Jvm.Cond.fieldLink "WhalePostModel" (44 : Nat) "WhalePostModel" "tried" "[I") ∈ lw_all := lw_g (lw_at lw_m7 131 rfl) rfl
theorem q1702 : (Jvm.Cond.fieldLink "WhalePostModel" (47 : Nat) "WhalePostModel" "bestFo\x72" "[I") ∈ lw_all := lw_g (lw_at lw_m7 132 rfl) rfl
theorem q1703 : (Jvm.Cond.fieldLink "WhalePostModel" (50 : Nat) "WhalePostModel" "bringDays" "[I") ∈ lw_all := lw_g (lw_at lw_m7 133 rfl) rfl
theorem q1704 : (Jvm.Cond.fieldLink "WhalePostModel" (379 : Nat) "WhalePostModel" "bestMany" "I") ∈ lw_all := lw_g (lw_at lw_m7 134 rfl) rfl
theorem q1705 : (Jvm.Cond.fieldLink "WhalePostModel" (382 : Nat) "WhalePostModel" "bestSum" "I") ∈ lw_all := lw_g (lw_at lw_m7 135 rfl) rfl
theorem q1706 : (Jvm.Cond.fieldLink "WhalePostModel" (392 : Nat) "WhalePostModel" "seenAt" "I") ∈ lw_all := lw_g (lw_at lw_m7 136 rfl) rfl
theorem q1707 : (Jvm.Cond.fieldLink "WhalePostModel" (395 : Nat) "WhalePostModel" "seenDay" "I") ∈ lw_all := lw_g (lw_at lw_m7 137 rfl) rfl
theorem q1708 : (Jvm.Cond.fieldLink "WhalePostModel" (53 : Nat) "WhalePostModel" "fa\x72" "[I") ∈ lw_all := lw_g (lw_at lw_m7 138 rfl) rfl
theorem q1709 : (Jvm.Cond.fieldLink "WhalePostModel" (56 : Nat) "WhalePostModel" "orde\x72" "[I") ∈ lw_all := lw_g (lw_at lw_m7 139 rfl) rfl
theorem q1710 : (Jvm.Cond.fieldLink "WhalePostModel" (59 : Nat) "WhalePostModel" "bestOrde\x72" "[I") ∈ lw_all := lw_g (lw_at lw_m7 140 rfl) rfl
theorem q1711 : (Jvm.Cond.fieldLink "WhalePostModel" (410 : Nat) "WhalePostModel" "bestRound" "I") ∈ lw_all := lw_g (lw_at lw_m7 141 rfl) rfl
theorem q1712 : (Jvm.Cond.lays "WhalePostModel" "WhalePostModel" "thrown" "I") ∈ lw_all := lw_g (lw_at lw_m7 142 rfl) rfl
theorem q1713 : (Jvm.Cond.soleField "WhalePostModel" "thrown") ∈ lw_all := lw_g (lw_at lw_m7 143 rfl) rfl
theorem q1714 : (Jvm.Cond.laysFinal "WhalePostModel" "WhalePostModel" "tape" "[I") ∈ lw_all := lw_g (lw_at lw_m7 144 rfl) rfl
theorem q1715 : (Jvm.Cond.soleField "WhalePostModel" "tape") ∈ lw_all := lw_g (lw_at lw_m7 145 rfl) rfl
theorem q1716 : (Jvm.Cond.lays "WhalePostModel" "WhalePostModel" "taped" "I") ∈ lw_all := lw_g (lw_at lw_m7 146 rfl) rfl
theorem q1717 : (Jvm.Cond.soleField "WhalePostModel" "taped") ∈ lw_all := lw_g (lw_at lw_m7 147 rfl) rfl
theorem q1718 : (Jvm.Cond.lays "WhalePostModel" "WhalePostModel" "size" "I") ∈ lw_all := lw_g (lw_at lw_m7 148 rfl) rfl
theorem q1719 : (Jvm.Cond.soleField "WhalePostModel" "size") ∈ lw_all := lw_g (lw_at lw_m7 149 rfl) rfl
theorem q1720 : (Jvm.Cond.lays "WhalePostModel" "WhalePostModel" "at" "I") ∈ lw_all := lw_g (lw_at lw_m7 150 rfl) rfl
theorem q1721 : (Jvm.Cond.soleField "WhalePostModel" "at") ∈ lw_all := lw_g (lw_at lw_m7 151 rfl) rfl
theorem q1722 : (Jvm.Cond.lays "WhalePostModel" "WhalePostModel" "end" "I") ∈ lw_all := lw_g (lw_at lw_m7 152 rfl) rfl
theorem q1723 : (Jvm.Cond.soleField "WhalePostModel" "end") ∈ lw_all := lw_g (lw_at lw_m7 153 rfl) rfl
theorem q1724 : (Jvm.Cond.lays "WhalePostModel" "WhalePostModel" "token" "I") ∈ lw_all := lw_g (lw_at lw_m7 154 rfl) rfl
theorem q1725 : (Jvm.Cond.soleField "WhalePostModel" "token") ∈ lw_all := lw_g (lw_at lw_m7 155 rfl) rfl
theorem q1726 : (Jvm.Cond.lays "WhalePostModel" "WhalePostModel" "whole" "I") ∈ lw_all := lw_g (lw_at lw_m7 156 rfl) rfl
theorem q1727 : (Jvm.Cond.soleField "WhalePostModel" "whole") ∈ lw_all := lw_g (lw_at lw_m7 157 rfl) rfl
theorem q1728 : (Jvm.Cond.lays "WhalePostModel" "WhalePostModel" "nameSize" "I") ∈ lw_all := lw_g (lw_at lw_m7 158 rfl) rfl
theorem q1729 : (Jvm.Cond.soleField "WhalePostModel" "nameSize") ∈ lw_all := lw_g (lw_at lw_m7 159 rfl) rfl
theorem q1730 : (Jvm.Cond.lays "WhalePostModel" "WhalePostModel" "fault" "I") ∈ lw_all := lw_g (lw_at lw_m7 160 rfl) rfl
theorem q1731 : (Jvm.Cond.soleField "WhalePostModel" "fault") ∈ lw_all := lw_g (lw_at lw_m7 161 rfl) rfl
theorem q1732 : (Jvm.Cond.lays "WhalePostModel" "WhalePostModel" "place" "I") ∈ lw_all := lw_g (lw_at lw_m7 162 rfl) rfl
theorem q1733 : (Jvm.Cond.soleField "WhalePostModel" "place") ∈ lw_all := lw_g (lw_at lw_m7 163 rfl) rfl
theorem q1734 : (Jvm.Cond.lays "WhalePostModel" "WhalePostModel" "trouble" "I") ∈ lw_all := lw_g (lw_at lw_m7 164 rfl) rfl
theorem q1735 : (Jvm.Cond.soleField "WhalePostModel" "trouble") ∈ lw_all := lw_g (lw_at lw_m7 165 rfl) rfl
theorem q1736 : (Jvm.Cond.laysFinal "WhalePostModel" "WhalePostModel" "letters" "[I") ∈ lw_all := lw_g (lw_at lw_m7 166 rfl) rfl
theorem q1737 : (Jvm.Cond.soleField "WhalePostModel" "letters") ∈ lw_all := lw_g (lw_at lw_m7 167 rfl) rfl
theorem q1738 : (Jvm.Cond.lays "WhalePostModel" "WhalePostModel" "failed" "Z") ∈ lw_all := lw_g (lw_at lw_m7 168 rfl) rfl
theorem q1739 : (Jvm.Cond.soleField "WhalePostModel" "failed") ∈ lw_all := lw_g (lw_at lw_m7 169 rfl) rfl
theorem q1740 : (Jvm.Cond.lays "WhalePostModel" "WhalePostModel" "hasPost" "Z") ∈ lw_all := lw_g (lw_at lw_m7 170 rfl) rfl
theorem q1741 : (Jvm.Cond.soleField "WhalePostModel" "hasPost") ∈ lw_all := lw_g (lw_at lw_m7 171 rfl) rfl
theorem q1742 : (Jvm.Cond.laysFinal "WhalePostModel" "WhalePostModel" "\x72" "[I") ∈ lw_all := lw_g (lw_at lw_m7 172 rfl) rfl
theorem q1743 : (Jvm.Cond.soleField "WhalePostModel" "\x72") ∈ lw_all := lw_g (lw_at lw_m7 173 rfl) rfl
theorem q1744 : (Jvm.Cond.laysFinal "WhalePostModel" "WhalePostModel" "fresh" "[I") ∈ lw_all := lw_g (lw_at lw_m7 174 rfl) rfl
theorem q1745 : (Jvm.Cond.soleField "WhalePostModel" "fresh") ∈ lw_all := lw_g (lw_at lw_m7 175 rfl) rfl
theorem q1746 : (Jvm.Cond.laysFinal "WhalePostModel" "WhalePostModel" "st" "[I") ∈ lw_all := lw_g (lw_at lw_m7 176 rfl) rfl
theorem q1747 : (Jvm.Cond.soleField "WhalePostModel" "st") ∈ lw_all := lw_g (lw_at lw_m7 177 rfl) rfl
theorem q1748 : (Jvm.Cond.laysFinal "WhalePostModel" "WhalePostModel" "undone" "[I") ∈ lw_all := lw_g (lw_at lw_m7 178 rfl) rfl
theorem q1749 : (Jvm.Cond.soleField "WhalePostModel" "undone") ∈ lw_all := lw_g (lw_at lw_m7 179 rfl) rfl
theorem q1750 : (Jvm.Cond.laysFinal "WhalePostModel" "WhalePostModel" "kept" "[I") ∈ lw_all := lw_g (lw_at lw_m7 180 rfl) rfl
theorem q1751 : (Jvm.Cond.soleField "WhalePostModel" "kept") ∈ lw_all := lw_g (lw_at lw_m7 181 rfl) rfl
theorem q1752 : (Jvm.Cond.lays "WhalePostModel" "WhalePostModel" "undos" "I") ∈ lw_all := lw_g (lw_at lw_m7 182 rfl) rfl
theorem q1753 : (Jvm.Cond.soleField "WhalePostModel" "undos") ∈ lw_all := lw_g (lw_at lw_m7 183 rfl) rfl
theorem q1754 : (Jvm.Cond.lays "WhalePostModel" "WhalePostModel" "images" "I") ∈ lw_all := lw_g (lw_at lw_m7 184 rfl) rfl
theorem q1755 : (Jvm.Cond.soleField "WhalePostModel" "images") ∈ lw_all := lw_g (lw_at lw_m7 185 rfl) rfl
theorem q1756 : (Jvm.Cond.laysFinal "WhalePostModel" "WhalePostModel" "taken" "[I") ∈ lw_all := lw_g (lw_at lw_m7 186 rfl) rfl
theorem q1757 : (Jvm.Cond.soleField "WhalePostModel" "taken") ∈ lw_all := lw_g (lw_at lw_m7 187 rfl) rfl
theorem q1758 : (Jvm.Cond.lays "WhalePostModel" "WhalePostModel" "takenMany" "I") ∈ lw_all := lw_g (lw_at lw_m7 188 rfl) rfl
theorem q1759 : (Jvm.Cond.soleField "WhalePostModel" "takenMany") ∈ lw_all := lw_g (lw_at lw_m7 189 rfl) rfl
theorem q1760 : (Jvm.Cond.laysFinal "WhalePostModel" "WhalePostModel" "days" "[I") ∈ lw_all := lw_g (lw_at lw_m7 190 rfl) rfl
theorem q1761 : (Jvm.Cond.soleField "WhalePostModel" "days") ∈ lw_all := lw_g (lw_at lw_m7 191 rfl) rfl
theorem q1762 : (Jvm.Cond.laysFinal "WhalePostModel" "WhalePostModel" "done" "[I") ∈ lw_all := lw_g (lw_at lw_m7 192 rfl) rfl
theorem q1763 : (Jvm.Cond.soleField "WhalePostModel" "done") ∈ lw_all := lw_g (lw_at lw_m7 193 rfl) rfl
theorem q1764 : (Jvm.Cond.lays "WhalePostModel" "WhalePostModel" "takes" "I") ∈ lw_all := lw_g (lw_at lw_m7 194 rfl) rfl
theorem q1765 : (Jvm.Cond.soleField "WhalePostModel" "takes") ∈ lw_all := lw_g (lw_at lw_m7 195 rfl) rfl
theorem q1766 : (Jvm.Cond.lays "WhalePostModel" "WhalePostModel" "arrives" "I") ∈ lw_all := lw_g (lw_at lw_m7 196 rfl) rfl
theorem q1767 : (Jvm.Cond.soleField "WhalePostModel" "arrives") ∈ lw_all := lw_g (lw_at lw_m7 197 rfl) rfl
theorem q1768 : (Jvm.Cond.laysFinal "WhalePostModel" "WhalePostModel" "tried" "[I") ∈ lw_all := lw_g (lw_at lw_m7 198 rfl) rfl
theorem q1769 : (Jvm.Cond.soleField "WhalePostModel" "tried") ∈ lw_all := lw_g (lw_at lw_m7 199 rfl) rfl
theorem q1770 : (Jvm.Cond.laysFinal "WhalePostModel" "WhalePostModel" "bestFo\x72" "[I") ∈ lw_all := lw_g (lw_at lw_m7 200 rfl) rfl
theorem q1771 : (Jvm.Cond.soleField "WhalePostModel" "bestFo\x72") ∈ lw_all := lw_g (lw_at lw_m7 201 rfl) rfl
theorem q1772 : (Jvm.Cond.laysFinal "WhalePostModel" "WhalePostModel" "bringDays" "[I") ∈ lw_all := lw_g (lw_at lw_m7 202 rfl) rfl
theorem q1773 : (Jvm.Cond.soleField "WhalePostModel" "bringDays") ∈ lw_all := lw_g (lw_at lw_m7 203 rfl) rfl
theorem q1774 : (Jvm.Cond.lays "WhalePostModel" "WhalePostModel" "bestMany" "I") ∈ lw_all := lw_g (lw_at lw_m7 204 rfl) rfl
theorem q1775 : (Jvm.Cond.soleField "WhalePostModel" "bestMany") ∈ lw_all := lw_g (lw_at lw_m7 205 rfl) rfl
theorem q1776 : (Jvm.Cond.lays "WhalePostModel" "WhalePostModel" "bestSum" "I") ∈ lw_all := lw_g (lw_at lw_m7 206 rfl) rfl
theorem q1777 : (Jvm.Cond.soleField "WhalePostModel" "bestSum") ∈ lw_all := lw_g (lw_at lw_m7 207 rfl) rfl
theorem q1778 : (Jvm.Cond.lays "WhalePostModel" "WhalePostModel" "seenAt" "I") ∈ lw_all := lw_g (lw_at lw_m7 208 rfl) rfl
theorem q1779 : (Jvm.Cond.soleField "WhalePostModel" "seenAt") ∈ lw_all := lw_g (lw_at lw_m7 209 rfl) rfl
theorem q1780 : (Jvm.Cond.lays "WhalePostModel" "WhalePostModel" "seenDay" "I") ∈ lw_all := lw_g (lw_at lw_m7 210 rfl) rfl
theorem q1781 : (Jvm.Cond.soleField "WhalePostModel" "seenDay") ∈ lw_all := lw_g (lw_at lw_m7 211 rfl) rfl
theorem q1782 : (Jvm.Cond.laysFinal "WhalePostModel" "WhalePostModel" "fa\x72" "[I") ∈ lw_all := lw_g (lw_at lw_m7 212 rfl) rfl
theorem q1783 : (Jvm.Cond.soleField "WhalePostModel" "fa\x72") ∈ lw_all := lw_g (lw_at lw_m7 213 rfl) rfl
theorem q1784 : (Jvm.Cond.laysFinal "WhalePostModel" "WhalePostModel" "orde\x72" "[I") ∈ lw_all := lw_g (lw_at lw_m7 214 rfl) rfl
theorem q1785 : (Jvm.Cond.soleField "WhalePostModel" "orde\x72") ∈ lw_all := lw_g (lw_at lw_m7 215 rfl) rfl
theorem q1786 : (Jvm.Cond.laysFinal "WhalePostModel" "WhalePostModel" "bestOrde\x72" "[I") ∈ lw_all := lw_g (lw_at lw_m7 216 rfl) rfl
theorem q1787 : (Jvm.Cond.soleField "WhalePostModel" "bestOrde\x72") ∈ lw_all := lw_g (lw_at lw_m7 217 rfl) rfl
theorem q1788 : (Jvm.Cond.lays "WhalePostModel" "WhalePostModel" "bestRound" "I") ∈ lw_all := lw_g (lw_at lw_m7 218 rfl) rfl
theorem q1789 : (Jvm.Cond.soleField "WhalePostModel" "bestRound") ∈ lw_all := lw_g (lw_at lw_m7 219 rfl) rfl
theorem q1790 : (Jvm.Cond.superclass "WhalePostModel" "java/lang/Object") ∈ lw_all := lw_g (lw_at lw_m7 220 rfl) rfl
theorem q1792 : (Jvm.Cond.instanceMethod ({ cls := "WhalePostModel", name := "thrown", desc := "()I" } : Jvm.MethodName)) ∈ lw_all := lw_g (lw_at lw_m7 222 rfl) rfl
theorem q1793 : (Jvm.Cond.selects "WhalePostModel" ({ cls := "WhalePostModel", name := "thrown", desc := "()I" } : Jvm.MethodName) ({ cls := "WhalePostModel", name := "thrown", desc := "()I" } : Jvm.MethodName)) ∈ lw_all := lw_g (lw_at lw_m7 223 rfl) rfl
theorem q1794 : (Jvm.Cond.code ({ cls := "WhalePostModel", name := "thrown", desc := "()I" } : Jvm.MethodName) prog_16_method_2_code (1 : Nat) (Option.some Jvm.ClassFile.FieldType.int)) ∈ lw_all := lw_g (lw_at lw_m7 224 rfl) rfl
theorem q1796 : (Jvm.Cond.instanceMethod ({ cls := "WhalePostModel", name := "feed", desc := "(IIIII)I" } : Jvm.MethodName)) ∈ lw_all := lw_g (lw_at lw_m7 226 rfl) rfl
theorem q1797 : (Jvm.Cond.selects "WhalePostModel" ({ cls := "WhalePostModel", name := "feed", desc := "(IIIII)I" } : Jvm.MethodName) ({ cls := "WhalePostModel", name := "feed", desc := "(IIIII)I" } : Jvm.MethodName)) ∈ lw_all := lw_g (lw_at lw_m7 227 rfl) rfl
theorem q1798 : (Jvm.Cond.code ({ cls := "WhalePostModel", name := "feed", desc := "(IIIII)I" } : Jvm.MethodName) prog_16_method_11_code (8 : Nat) (Option.some Jvm.ClassFile.FieldType.int)) ∈ lw_all := lw_g (lw_at lw_m7 228 rfl) rfl
theorem q1800 : (Jvm.Cond.instanceMethod ({ cls := "WhalePostModel", name := "post", desc := "(I)I" } : Jvm.MethodName)) ∈ lw_all := lw_g (lw_at lw_m7 230 rfl) rfl
theorem q1801 : (Jvm.Cond.selects "WhalePostModel" ({ cls := "WhalePostModel", name := "post", desc := "(I)I" } : Jvm.MethodName) ({ cls := "WhalePostModel", name := "post", desc := "(I)I" } : Jvm.MethodName)) ∈ lw_all := lw_g (lw_at lw_m7 231 rfl) rfl
theorem q1802 : (Jvm.Cond.code ({ cls := "WhalePostModel", name := "post", desc := "(I)I" } : Jvm.MethodName) prog_16_method_28_code (3 : Nat) (Option.some Jvm.ClassFile.FieldType.int)) ∈ lw_all := lw_g (lw_at lw_m7 232 rfl) rfl
theorem q1803 : (Jvm.Cond.methodLink "WhalePostModel" (167 : Nat) ({ cls := "WhalePostModel", name := "good", desc := "()V" } : Jvm.MethodName)) ∈ lw_all := lw_g (lw_at lw_m7 233 rfl) rfl
theorem q1804 : (Jvm.Cond.privateMethod ({ cls := "WhalePostModel", name := "good", desc := "()V" } : Jvm.MethodName)) ∈ lw_tbl := lw_at lw_m7 234 rfl
theorem q1805 : (Jvm.Cond.instanceMethod ({ cls := "WhalePostModel", name := "good", desc := "()V" } : Jvm.MethodName)) ∈ lw_all := lw_g (lw_at lw_m7 235 rfl) rfl
theorem q1806 : (Jvm.Cond.code ({ cls := "WhalePostModel", name := "good", desc := "()V" } : Jvm.MethodName) prog_16_method_3_code (1 : Nat) (Option.none : Option Jvm.ClassFile.FieldType)) ∈ lw_all := lw_g (lw_at lw_m7 236 rfl) rfl
theorem q1807 : (Jvm.Cond.methodLink "WhalePostModel" (149 : Nat) ({ cls := "WhalePostModel", name := "in", desc := "(III)Z" } : Jvm.MethodName)) ∈ lw_all := lw_g (lw_at lw_m7 237 rfl) rfl
theorem q1808 : (Jvm.Cond.static ({ cls := "WhalePostModel", name := "in", desc := "(III)Z" } : Jvm.MethodName)) ∈ lw_all := lw_g (lw_at lw_m7 238 rfl) rfl
theorem q1809 : (Jvm.Cond.code ({ cls := "WhalePostModel", name := "in", desc := "(III)Z" } : Jvm.MethodName) prog_16_method_6_code (3 : Nat) (Option.some Jvm.ClassFile.FieldType.boolean)) ∈ lw_all := lw_g (lw_at lw_m7 239 rfl) rfl
theorem q1810 : (Jvm.Cond.methodLink "WhalePostModel" (170 : Nat) ({ cls := "WhalePostModel", name := "no", desc := "(I)I" } : Jvm.MethodName)) ∈ lw_all := lw_g (lw_at lw_m8 0 rfl) rfl
theorem q1811 : (Jvm.Cond.privateMethod ({ cls := "WhalePostModel", name := "no", desc := "(I)I" } : Jvm.MethodName)) ∈ lw_tbl := lw_at lw_m8 1 rfl
theorem q1812 : (Jvm.Cond.instanceMethod ({ cls := "WhalePostModel", name := "no", desc := "(I)I" } : Jvm.MethodName)) ∈ lw_all := lw_g (lw_at lw_m8 2 rfl) rfl
theorem q1813 : (Jvm.Cond.code ({ cls := "WhalePostModel", name := "no", desc := "(I)I" } : Jvm.MethodName) prog_16_method_4_code (2 : Nat) (Option.some Jvm.ClassFile.FieldType.int)) ∈ lw_all := lw_g (lw_at lw_m8 3 rfl) rfl
theorem q1814 : (Jvm.Cond.methodLink "WhalePostModel" (121 : Nat) ({ cls := "WhalePostModel", name := "next", desc := "()V" } : Jvm.MethodName)) ∈ lw_all := lw_g (lw_at lw_m8 4 rfl) rfl
theorem q1815 : (Jvm.Cond.privateMethod ({ cls := "WhalePostModel", name := "next", desc := "()V" } : Jvm.MethodName)) ∈ lw_tbl := lw_at lw_m8 5 rfl
theorem q1816 : (Jvm.Cond.instanceMethod ({ cls := "WhalePostModel", name := "next", desc := "()V" } : Jvm.MethodName)) ∈ lw_all := lw_g (lw_at lw_m8 6 rfl) rfl
theorem q1817 : (Jvm.Cond.code ({ cls := "WhalePostModel", name := "next", desc := "()V" } : Jvm.MethodName) prog_16_method_15_code (4 : Nat) (Option.none : Option Jvm.ClassFile.FieldType)) ∈ lw_all := lw_g (lw_at lw_m8 7 rfl) rfl
theorem q1818 : (Jvm.Cond.methodLink "WhalePostModel" (77 : Nat) ({ cls := "WhalePostModel", name := "look", desc := "(I)I" } : Jvm.MethodName)) ∈ lw_all := lw_g (lw_at lw_m8 8 rfl) rfl
theorem q1819 : (Jvm.Cond.privateMethod ({ cls := "WhalePostModel", name := "look", desc := "(I)I" } : Jvm.MethodName)) ∈ lw_tbl := lw_at lw_m8 9 rfl
theorem q1820 : (Jvm.Cond.instanceMethod ({ cls := "WhalePostModel", name := "look", desc := "(I)I" } : Jvm.MethodName)) ∈ lw_all := lw_g (lw_at lw_m8 10 rfl) rfl
theorem q1821 : (Jvm.Cond.code ({ cls := "WhalePostModel", name := "look", desc := "(I)I" } : Jvm.MethodName) prog_16_method_12_code (2 : Nat) (Option.some Jvm.ClassFile.FieldType.int)) ∈ lw_all := lw_g (lw_at lw_m8 11 rfl) rfl
theorem q1822 : (Jvm.Cond.methodLink "WhalePostModel" (93 : Nat) ({ cls := "WhalePostModel", name := "isSmall", desc := "(I)Z" } : Jvm.MethodName)) ∈ lw_all := lw_g (lw_at lw_m8 12 rfl) rfl
theorem q1823 : (Jvm.Cond.static ({ cls := "WhalePostModel", name := "isSmall", desc := "(I)Z" } : Jvm.MethodName)) ∈ lw_all := lw_g (lw_at lw_m8 13 rfl) rfl
theorem q1824 : (Jvm.Cond.code ({ cls := "WhalePostModel", name := "isSmall", desc := "(I)Z" } : Jvm.MethodName) prog_16_method_13_code (1 : Nat) (Option.some Jvm.ClassFile.FieldType.boolean)) ∈ lw_all := lw_g (lw_at lw_m8 14 rfl) rfl
theorem q1825 : (Jvm.Cond.methodLink "WhalePostModel" (97 : Nat) ({ cls := "WhalePostModel", name := "isDigit", desc := "(I)Z" } : Jvm.MethodName)) ∈ lw_all := lw_g (lw_at lw_m8 15 rfl) rfl
theorem q1826 : (Jvm.Cond.static ({ cls := "WhalePostModel", name := "isDigit", desc := "(I)Z" } : Jvm.MethodName)) ∈ lw_all := lw_g (lw_at lw_m8 16 rfl) rfl
theorem q1827 : (Jvm.Cond.code ({ cls := "WhalePostModel", name := "isDigit", desc := "(I)Z" } : Jvm.MethodName) prog_16_method_14_code (1 : Nat) (Option.some Jvm.ClassFile.FieldType.boolean)) ∈ lw_all := lw_g (lw_at lw_m8 17 rfl) rfl
theorem q1828 : (Jvm.Cond.methodLink "WhalePostModel" (173 : Nat) ({ cls := "WhalePostModel", name := "readLine", desc := "()V" } : Jvm.MethodName)) ∈ lw_all := lw_g (lw_at lw_m8 18 rfl) rfl
theorem q1829 : (Jvm.Cond.privateMethod ({ cls := "WhalePostModel", name := "readLine", desc := "()V" } : Jvm.MethodName)) ∈ lw_tbl := lw_at lw_m8 19 rfl
theorem q1830 : (Jvm.Cond.instanceMethod ({ cls := "WhalePostModel", name := "readLine", desc := "()V" } : Jvm.MethodName)) ∈ lw_all := lw_g (lw_at lw_m8 20 rfl) rfl
theorem q1831 : (Jvm.Cond.code ({ cls := "WhalePostModel", name := "readLine", desc := "()V" } : Jvm.MethodName) prog_16_method_30_code (1 : Nat) (Option.none : Option Jvm.ClassFile.FieldType)) ∈ lw_all := lw_g (lw_at lw_m8 21 rfl) rfl
theorem q1832 : (Jvm.Cond.stringRef "WhalePostModel" (131 : Nat) "post") ∈ lw_tbl := lw_at lw_m8 22 rfl
theorem q1833 : (Jvm.Cond.methodLink "WhalePostModel" (117 : Nat) ({ cls := "WhalePostModel", name := "isWord", desc := "(Ljava/lang/String;)Z" } : Jvm.MethodName)) ∈ lw_all := lw_g (lw_at lw_m8 23 rfl) rfl
theorem q1834 : (Jvm.Cond.privateMethod ({ cls := "WhalePostModel", name := "isWord", desc := "(Ljava/lang/String;)Z" } : Jvm.MethodName)) ∈ lw_tbl := lw_at lw_m8 24 rfl
theorem q1835 : (Jvm.Cond.instanceMethod ({ cls := "WhalePostModel", name := "isWord", desc := "(Ljava/lang/String;)Z" } : Jvm.MethodName)) ∈ lw_all := lw_g (lw_at lw_m8 25 rfl) rfl
theorem q1836 : (Jvm.Cond.code ({ cls := "WhalePostModel", name := "isWord", desc := "(Ljava/lang/String;)Z" } : Jvm.MethodName) prog_16_method_17_code (4 : Nat) (Option.some Jvm.ClassFile.FieldType.boolean)) ∈ lw_all := lw_g (lw_at lw_m8 26 rfl) rfl
theorem q1837 : (Jvm.Cond.methodLink "WhalePostModel" (107 : Nat) ({ cls := "java/lang/String", name := "length", desc := "()I" } : Jvm.MethodName)) ∈ lw_all := lw_g (lw_at lw_m8 27 rfl) rfl
theorem q1838 : (Jvm.Cond.methodLink "WhalePostModel" (113 : Nat) ({ cls := "java/lang/String", name := "charAt", desc := "(I)C" } : Jvm.MethodName)) ∈ lw_all := lw_g (lw_at lw_m8 28 rfl) rfl
theorem q1839 : (Jvm.Cond.methodLink "WhalePostModel" (189 : Nat) ({ cls := "WhalePostModel", name := "postLine", desc := "()V" } : Jvm.MethodName)) ∈ lw_all := lw_g (lw_at lw_m8 29 rfl) rfl
theorem q1840 : (Jvm.Cond.privateMethod ({ cls := "WhalePostModel", name := "postLine", desc := "()V" } : Jvm.MethodName)) ∈ lw_tbl := lw_at lw_m8 30 rfl
theorem q1841 : (Jvm.Cond.instanceMethod ({ cls := "WhalePostModel", name := "postLine", desc := "()V" } : Jvm.MethodName)) ∈ lw_all := lw_g (lw_at lw_m8 31 rfl) rfl
theorem q1842 : (Jvm.Cond.code ({ cls := "WhalePostModel", name := "postLine", desc := "()V" } : Jvm.MethodName) prog_16_method_31_code (1 : Nat) (Option.none : Option Jvm.ClassFile.FieldType)) ∈ lw_all := lw_g (lw_at lw_m8 32 rfl) rfl
theorem q1843 : (Jvm.Cond.methodLink "WhalePostModel" (127 : Nat) ({ cls := "WhalePostModel", name := "wrong", desc := "(II)V" } : Jvm.MethodName)) ∈ lw_all := lw_g (lw_at lw_m8 33 rfl) rfl
theorem q1844 : (Jvm.Cond.privateMethod ({ cls := "WhalePostModel", name := "wrong", desc := "(II)V" } : Jvm.MethodName)) ∈ lw_tbl := lw_at lw_m8 34 rfl
theorem q1845 : (Jvm.Cond.instanceMethod ({ cls := "WhalePostModel", name := "wrong", desc := "(II)V" } : Jvm.MethodName)) ∈ lw_all := lw_g (lw_at lw_m8 35 rfl) rfl
theorem q1846 : (Jvm.Cond.code ({ cls := "WhalePostModel", name := "wrong", desc := "(II)V" } : Jvm.MethodName) prog_16_method_16_code (3 : Nat) (Option.none : Option Jvm.ClassFile.FieldType)) ∈ lw_all := lw_g (lw_at lw_m8 36 rfl) rfl
theorem q1847 : (Jvm.Cond.stringRef "WhalePostModel" (211 : Nat) "notes") ∈ lw_tbl := lw_at lw_m8 37 rfl
theorem q1848 : (Jvm.Cond.methodLink "WhalePostModel" (213 : Nat) ({ cls := "WhalePostModel", name := "afte\x72", desc := "(Ljava/lang/String;II)I" } : Jvm.MethodName)) ∈ lw_all := lw_g (lw_at lw_m8 38 rfl) rfl
theorem q1849 : (Jvm.Cond.privateMethod ({ cls := "WhalePostModel", name := "afte\x72", desc := "(Ljava/lang/String;II)I" } : Jvm.MethodName)) ∈ lw_tbl := lw_at lw_m8 39 rfl
theorem q1850 : (Jvm.Cond.instanceMethod ({ cls := "WhalePostModel", name := "afte\x72", desc := "(Ljava/lang/String;II)I" } : Jvm.MethodName)) ∈ lw_all := lw_g (lw_at lw_m8 40 rfl) rfl
theorem q1851 : (Jvm.Cond.code ({ cls := "WhalePostModel", name := "afte\x72", desc := "(Ljava/lang/String;II)I" } : Jvm.MethodName) prog_16_method_27_code (4 : Nat) (Option.some Jvm.ClassFile.FieldType.int)) ∈ lw_all := lw_g (lw_at lw_m8 41 rfl) rfl
theorem q1852 : (Jvm.Cond.methodLink "WhalePostModel" (157 : Nat) ({ cls := "WhalePostModel", name := "must", desc := "(Ljava/lang/String;)V" } : Jvm.MethodName)) ∈ lw_all := lw_g (lw_at lw_m8 42 rfl) rfl
theorem q1853 : (Jvm.Cond.privateMethod ({ cls := "WhalePostModel", name := "must", desc := "(Ljava/lang/String;)V" } : Jvm.MethodName)) ∈ lw_tbl := lw_at lw_m8 43 rfl
theorem q1854 : (Jvm.Cond.instanceMethod ({ cls := "WhalePostModel", name := "must", desc := "(Ljava/lang/String;)V" } : Jvm.MethodName)) ∈ lw_all := lw_g (lw_at lw_m8 44 rfl) rfl
theorem q1855 : (Jvm.Cond.code ({ cls := "WhalePostModel", name := "must", desc := "(Ljava/lang/String;)V" } : Jvm.MethodName) prog_16_method_19_code (2 : Nat) (Option.none : Option Jvm.ClassFile.FieldType)) ∈ lw_all := lw_g (lw_at lw_m8 45 rfl) rfl
theorem q1856 : (Jvm.Cond.methodLink "WhalePostModel" (124 : Nat) ({ cls := "WhalePostModel", name := "takesWord", desc := "(Ljava/lang/String;)Z" } : Jvm.MethodName)) ∈ lw_all := lw_g (lw_at lw_m8 46 rfl) rfl
theorem q1857 : (Jvm.Cond.privateMethod ({ cls := "WhalePostModel", name := "takesWord", desc := "(Ljava/lang/String;)Z" } : Jvm.MethodName)) ∈ lw_tbl := lw_at lw_m8 47 rfl
theorem q1858 : (Jvm.Cond.instanceMethod ({ cls := "WhalePostModel", name := "takesWord", desc := "(Ljava/lang/String;)Z" } : Jvm.MethodName)) ∈ lw_all := lw_g (lw_at lw_m8 48 rfl) rfl
theorem q1859 : (Jvm.Cond.code ({ cls := "WhalePostModel", name := "takesWord", desc := "(Ljava/lang/String;)Z" } : Jvm.MethodName) prog_16_method_18_code (2 : Nat) (Option.some Jvm.ClassFile.FieldType.boolean)) ∈ lw_all := lw_g (lw_at lw_m8 49 rfl) rfl
theorem q1860 : (Jvm.Cond.methodLink "WhalePostModel" (164 : Nat) ({ cls := "WhalePostModel", name := "numbe\x72", desc := "(II)I" } : Jvm.MethodName)) ∈ lw_all := lw_g (lw_at lw_m8 50 rfl) rfl
theorem q1861 : (Jvm.Cond.privateMethod ({ cls := "WhalePostModel", name := "numbe\x72", desc := "(II)I" } : Jvm.MethodName)) ∈ lw_tbl := lw_at lw_m8 51 rfl
theorem q1862 : (Jvm.Cond.instanceMethod ({ cls := "WhalePostModel", name := "numbe\x72", desc := "(II)I" } : Jvm.MethodName)) ∈ lw_all := lw_g (lw_at lw_m8 52 rfl) rfl
theorem q1863 : (Jvm.Cond.code ({ cls := "WhalePostModel", name := "numbe\x72", desc := "(II)I" } : Jvm.MethodName) prog_16_method_26_code (4 : Nat) (Option.some Jvm.ClassFile.FieldType.int)) ∈ lw_all := lw_g (lw_at lw_m8 53 rfl) rfl
theorem q1864 : (Jvm.Cond.stringRef "WhalePostModel" (217 : Nat) "errors") ∈ lw_tbl := lw_at lw_m8 54 rfl
theorem q1865 : (Jvm.Cond.stringRef "WhalePostModel" (219 : Nat) "drift") ∈ lw_tbl := lw_at lw_m8 55 rfl
theorem q1866 : (Jvm.Cond.stringRef "WhalePostModel" (221 : Nat) "slip") ∈ lw_tbl := lw_at lw_m8 56 rfl
theorem q1867 : (Jvm.Cond.stringRef "WhalePostModel" (133 : Nat) "island") ∈ lw_tbl := lw_at lw_m8 57 rfl
theorem q1868 : (Jvm.Cond.methodLink "WhalePostModel" (192 : Nat) ({ cls := "WhalePostModel", name := "begins", desc := "(Ljava/lang/String;Z)Z" } : Jvm.MethodName)) ∈ lw_all := lw_g (lw_at lw_m8 58 rfl) rfl
theorem q1869 : (Jvm.Cond.privateMethod ({ cls := "WhalePostModel", name := "begins", desc := "(Ljava/lang/String;Z)Z" } : Jvm.MethodName)) ∈ lw_tbl := lw_at lw_m8 59 rfl
theorem q1870 : (Jvm.Cond.instanceMethod ({ cls := "WhalePostModel", name := "begins", desc := "(Ljava/lang/String;Z)Z" } : Jvm.MethodName)) ∈ lw_all := lw_g (lw_at lw_m8 60 rfl) rfl
theorem q1871 : (Jvm.Cond.code ({ cls := "WhalePostModel", name := "begins", desc := "(Ljava/lang/String;Z)Z" } : Jvm.MethodName) prog_16_method_29_code (3 : Nat) (Option.some Jvm.ClassFile.FieldType.boolean)) ∈ lw_all := lw_g (lw_at lw_m8 61 rfl) rfl
theorem q1872 : (Jvm.Cond.methodLink "WhalePostModel" (196 : Nat) ({ cls := "WhalePostModel", name := "islandLine", desc := "()V" } : Jvm.MethodName)) ∈ lw_all := lw_g (lw_at lw_m8 62 rfl) rfl
theorem q1873 : (Jvm.Cond.privateMethod ({ cls := "WhalePostModel", name := "islandLine", desc := "()V" } : Jvm.MethodName)) ∈ lw_tbl := lw_at lw_m8 63 rfl
theorem q1874 : (Jvm.Cond.instanceMethod ({ cls := "WhalePostModel", name := "islandLine", desc := "()V" } : Jvm.MethodName)) ∈ lw_all := lw_g (lw_at lw_m8 64 rfl) rfl
theorem q1875 : (Jvm.Cond.code ({ cls := "WhalePostModel", name := "islandLine", desc := "()V" } : Jvm.MethodName) prog_16_method_32_code (6 : Nat) (Option.none : Option Jvm.ClassFile.FieldType)) ∈ lw_all := lw_g (lw_at lw_m8 65 rfl) rfl
theorem q1876 : (Jvm.Cond.methodLink "WhalePostModel" (223 : Nat) ({ cls := "WhalePostModel", name := "newName", desc := "(I)V" } : Jvm.MethodName)) ∈ lw_all := lw_g (lw_at lw_m8 66 rfl) rfl
theorem q1877 : (Jvm.Cond.privateMethod ({ cls := "WhalePostModel", name := "newName", desc := "(I)V" } : Jvm.MethodName)) ∈ lw_tbl := lw_at lw_m8 67 rfl
theorem q1878 : (Jvm.Cond.instanceMethod ({ cls := "WhalePostModel", name := "newName", desc := "(I)V" } : Jvm.MethodName)) ∈ lw_all := lw_g (lw_at lw_m8 68 rfl) rfl
theorem q1879 : (Jvm.Cond.code ({ cls := "WhalePostModel", name := "newName", desc := "(I)V" } : Jvm.MethodName) prog_16_method_22_code (3 : Nat) (Option.none : Option Jvm.ClassFile.FieldType)) ∈ lw_all := lw_g (lw_at lw_m8 69 rfl) rfl
theorem q1880 : (Jvm.Cond.methodLink "WhalePostModel" (143 : Nat) ({ cls := "WhalePostModel", name := "mustName", desc := "()V" } : Jvm.MethodName)) ∈ lw_all := lw_g (lw_at lw_m8 70 rfl) rfl
theorem q1881 : (Jvm.Cond.privateMethod ({ cls := "WhalePostModel", name := "mustName", desc := "()V" } : Jvm.MethodName)) ∈ lw_tbl := lw_at lw_m8 71 rfl
theorem q1882 : (Jvm.Cond.instanceMethod ({ cls := "WhalePostModel", name := "mustName", desc := "()V" } : Jvm.MethodName)) ∈ lw_all := lw_g (lw_at lw_m8 72 rfl) rfl
theorem q1883 : (Jvm.Cond.code ({ cls := "WhalePostModel", name := "mustName", desc := "()V" } : Jvm.MethodName) prog_16_method_20_code (1 : Nat) (Option.none : Option Jvm.ClassFile.FieldType)) ∈ lw_all := lw_g (lw_at lw_m8 73 rfl) rfl
theorem q1884 : (Jvm.Cond.stringRef "WhalePostModel" (135 : Nat) "way") ∈ lw_tbl := lw_at lw_m8 74 rfl
theorem q1885 : (Jvm.Cond.stringRef "WhalePostModel" (137 : Nat) "whale") ∈ lw_tbl := lw_at lw_m8 75 rfl
theorem q1886 : (Jvm.Cond.stringRef "WhalePostModel" (139 : Nat) "box") ∈ lw_tbl := lw_at lw_m8 76 rfl
theorem q1887 : (Jvm.Cond.stringRef "WhalePostModel" (141 : Nat) "spout") ∈ lw_tbl := lw_at lw_m8 77 rfl
theorem q1888 : (Jvm.Cond.methodLink "WhalePostModel" (146 : Nat) ({ cls := "WhalePostModel", name := "find", desc := "()I" } : Jvm.MethodName)) ∈ lw_all := lw_g (lw_at lw_m8 78 rfl) rfl
theorem q1889 : (Jvm.Cond.privateMethod ({ cls := "WhalePostModel", name := "find", desc := "()I" } : Jvm.MethodName)) ∈ lw_tbl := lw_at lw_m8 79 rfl
theorem q1890 : (Jvm.Cond.instanceMethod ({ cls := "WhalePostModel", name := "find", desc := "()I" } : Jvm.MethodName)) ∈ lw_all := lw_g (lw_at lw_m8 80 rfl) rfl
theorem q1891 : (Jvm.Cond.code ({ cls := "WhalePostModel", name := "find", desc := "()I" } : Jvm.MethodName) prog_16_method_21_code (4 : Nat) (Option.some Jvm.ClassFile.FieldType.int)) ∈ lw_all := lw_g (lw_at lw_m8 81 rfl) rfl
theorem q1892 : (Jvm.Cond.methodLink "WhalePostModel" (227 : Nat) ({ cls := "WhalePostModel", name := "isSong", desc := "(I)Z" } : Jvm.MethodName)) ∈ lw_all := lw_g (lw_at lw_m8 82 rfl) rfl
theorem q1893 : (Jvm.Cond.privateMethod ({ cls := "WhalePostModel", name := "isSong", desc := "(I)Z" } : Jvm.MethodName)) ∈ lw_tbl := lw_at lw_m8 83 rfl
theorem q1894 : (Jvm.Cond.instanceMethod ({ cls := "WhalePostModel", name := "isSong", desc := "(I)Z" } : Jvm.MethodName)) ∈ lw_all := lw_g (lw_at lw_m8 84 rfl) rfl
theorem q1895 : (Jvm.Cond.code ({ cls := "WhalePostModel", name := "isSong", desc := "(I)Z" } : Jvm.MethodName) prog_16_method_33_code (5 : Nat) (Option.some Jvm.ClassFile.FieldType.boolean)) ∈ lw_all := lw_g (lw_at lw_m8 85 rfl) rfl
theorem q1896 : (Jvm.Cond.methodLink "WhalePostModel" (199 : Nat) ({ cls := "WhalePostModel", name := "wayLine", desc := "()V" } : Jvm.MethodName)) ∈ lw_all := lw_g (lw_at lw_m8 86 rfl) rfl
theorem q1897 : (Jvm.Cond.privateMethod ({ cls := "WhalePostModel", name := "wayLine", desc := "()V" } : Jvm.MethodName)) ∈ lw_tbl := lw_at lw_m8 87 rfl
theorem q1898 : (Jvm.Cond.instanceMethod ({ cls := "WhalePostModel", name := "wayLine", desc := "()V" } : Jvm.MethodName)) ∈ lw_all := lw_g (lw_at lw_m8 88 rfl) rfl
theorem q1899 : (Jvm.Cond.code ({ cls := "WhalePostModel", name := "wayLine", desc := "()V" } : Jvm.MethodName) prog_16_method_34_code (6 : Nat) (Option.none : Option Jvm.ClassFile.FieldType)) ∈ lw_all := lw_g (lw_at lw_m8 89 rfl) rfl
theorem q1900 : (Jvm.Cond.methodLink "WhalePostModel" (161 : Nat) ({ cls := "WhalePostModel", name := "islandPassed", desc := "()I" } : Jvm.MethodName)) ∈ lw_all := lw_g (lw_at lw_m8 90 rfl) rfl
theorem q1901 : (Jvm.Cond.privateMethod ({ cls := "WhalePostModel", name := "islandPassed", desc := "()I" } : Jvm.MethodName)) ∈ lw_tbl := lw_at lw_m8 91 rfl
theorem q1902 : (Jvm.Cond.instanceMethod ({ cls := "WhalePostModel", name := "islandPassed", desc := "()I" } : Jvm.MethodName)) ∈ lw_all := lw_g (lw_at lw_m8 92 rfl) rfl
theorem q1903 : (Jvm.Cond.code ({ cls := "WhalePostModel", name := "islandPassed", desc := "()I" } : Jvm.MethodName) prog_16_method_24_code (2 : Nat) (Option.some Jvm.ClassFile.FieldType.int)) ∈ lw_all := lw_g (lw_at lw_m8 93 rfl) rfl
theorem q1904 : (Jvm.Cond.methodLink "WhalePostModel" (153 : Nat) ({ cls := "WhalePostModel", name := "named", desc := "(II)I" } : Jvm.MethodName)) ∈ lw_all := lw_g (lw_at lw_m8 94 rfl) rfl
theorem q1905 : (Jvm.Cond.privateMethod ({ cls := "WhalePostModel", name := "named", desc := "(II)I" } : Jvm.MethodName)) ∈ lw_tbl := lw_at lw_m8 95 rfl
theorem q1906 : (Jvm.Cond.instanceMethod ({ cls := "WhalePostModel", name := "named", desc := "(II)I" } : Jvm.MethodName)) ∈ lw_all := lw_g (lw_at lw_m8 96 rfl) rfl
theorem q1907 : (Jvm.Cond.code ({ cls := "WhalePostModel", name := "named", desc := "(II)I" } : Jvm.MethodName) prog_16_method_23_code (4 : Nat) (Option.some Jvm.ClassFile.FieldType.int)) ∈ lw_all := lw_g (lw_at lw_m8 97 rfl) rfl
theorem q1908 : (Jvm.Cond.methodLink "WhalePostModel" (230 : Nat) ({ cls := "WhalePostModel", name := "joins", desc := "([IIII)Z" } : Jvm.MethodName)) ∈ lw_all := lw_g (lw_at lw_m8 98 rfl) rfl
theorem q1909 : (Jvm.Cond.static ({ cls := "WhalePostModel", name := "joins", desc := "([IIII)Z" } : Jvm.MethodName)) ∈ lw_all := lw_g (lw_at lw_m8 99 rfl) rfl
theorem q1910 : (Jvm.Cond.code ({ cls := "WhalePostModel", name := "joins", desc := "([IIII)Z" } : Jvm.MethodName) prog_16_method_35_code (6 : Nat) (Option.some Jvm.ClassFile.FieldType.boolean)) ∈ lw_all := lw_g (lw_at lw_m8 100 rfl) rfl
theorem q1911 : (Jvm.Cond.stringRef "WhalePostModel" (234 : Nat) "days") ∈ lw_tbl := lw_at lw_m8 101 rfl
theorem q1912 : (Jvm.Cond.stringRef "WhalePostModel" (235 : Nat) "open") ∈ lw_tbl := lw_at lw_m8 102 rfl
theorem q1913 : (Jvm.Cond.methodLink "WhalePostModel" (202 : Nat) ({ cls := "WhalePostModel", name := "whaleLine", desc := "()V" } : Jvm.MethodName)) ∈ lw_all := lw_g (lw_at lw_m8 103 rfl) rfl
theorem q1914 : (Jvm.Cond.privateMethod ({ cls := "WhalePostModel", name := "whaleLine", desc := "()V" } : Jvm.MethodName)) ∈ lw_tbl := lw_at lw_m8 104 rfl
theorem q1915 : (Jvm.Cond.instanceMethod ({ cls := "WhalePostModel", name := "whaleLine", desc := "()V" } : Jvm.MethodName)) ∈ lw_all := lw_g (lw_at lw_m8 105 rfl) rfl
theorem q1916 : (Jvm.Cond.code ({ cls := "WhalePostModel", name := "whaleLine", desc := "()V" } : Jvm.MethodName) prog_16_method_36_code (3 : Nat) (Option.none : Option Jvm.ClassFile.FieldType)) ∈ lw_all := lw_g (lw_at lw_m8 106 rfl) rfl
theorem q1917 : (Jvm.Cond.stringRef "WhalePostModel" (237 : Nat) "calf") ∈ lw_tbl := lw_at lw_m8 107 rfl
theorem q1918 : (Jvm.Cond.stringRef "WhalePostModel" (239 : Nat) "cow") ∈ lw_tbl := lw_at lw_m8 108 rfl
theorem q1919 : (Jvm.Cond.stringRef "WhalePostModel" (241 : Nat) "bull") ∈ lw_tbl := lw_at lw_m8 109 rfl
theorem q1920 : (Jvm.Cond.stringRef "WhalePostModel" (243 : Nat) "old") ∈ lw_tbl := lw_at lw_m8 110 rfl
theorem q1921 : (Jvm.Cond.stringRef "WhalePostModel" (245 : Nat) "at") ∈ lw_tbl := lw_at lw_m8 111 rfl
theorem q1922 : (Jvm.Cond.methodLink "WhalePostModel" (246 : Nat) ({ cls := "WhalePostModel", name := "islandBehind", desc := "(Ljava/lang/String;)I" } : Jvm.MethodName)) ∈ lw_all := lw_g (lw_at lw_m8 112 rfl) rfl
theorem q1923 : (Jvm.Cond.privateMethod ({ cls := "WhalePostModel", name := "islandBehind", desc := "(Ljava/lang/String;)I" } : Jvm.MethodName)) ∈ lw_tbl := lw_at lw_m8 113 rfl
theorem q1924 : (Jvm.Cond.instanceMethod ({ cls := "WhalePostModel", name := "islandBehind", desc := "(Ljava/lang/String;)I" } : Jvm.MethodName)) ∈ lw_all := lw_g (lw_at lw_m8 114 rfl) rfl
theorem q1925 : (Jvm.Cond.code ({ cls := "WhalePostModel", name := "islandBehind", desc := "(Ljava/lang/String;)I" } : Jvm.MethodName) prog_16_method_25_code (2 : Nat) (Option.some Jvm.ClassFile.FieldType.int)) ∈ lw_all := lw_g (lw_at lw_m8 115 rfl) rfl
theorem q1926 : (Jvm.Cond.stringRef "WhalePostModel" (250 : Nat) "keeps") ∈ lw_tbl := lw_at lw_m8 116 rfl
theorem q1927 : (Jvm.Cond.stringRef "WhalePostModel" (252 : Nat) "lost") ∈ lw_tbl := lw_at lw_m8 117 rfl
theorem q1928 : (Jvm.Cond.methodLink "WhalePostModel" (205 : Nat) ({ cls := "WhalePostModel", name := "boxLine", desc := "()V" } : Jvm.MethodName)) ∈ lw_all := lw_g (lw_at lw_m8 118 rfl) rfl
theorem q1929 : (Jvm.Cond.privateMethod ({ cls := "WhalePostModel", name := "boxLine", desc := "()V" } : Jvm.MethodName)) ∈ lw_tbl := lw_at lw_m8 119 rfl
theorem q1930 : (Jvm.Cond.instanceMethod ({ cls := "WhalePostModel", name := "boxLine", desc := "()V" } : Jvm.MethodName)) ∈ lw_all := lw_g (lw_at lw_m8 120 rfl) rfl
theorem q1931 : (Jvm.Cond.code ({ cls := "WhalePostModel", name := "boxLine", desc := "()V" } : Jvm.MethodName) prog_16_method_37_code (2 : Nat) (Option.none : Option Jvm.ClassFile.FieldType)) ∈ lw_all := lw_g (lw_at lw_m8 121 rfl) rfl
theorem q1932 : (Jvm.Cond.stringRef "WhalePostModel" (254 : Nat) "from") ∈ lw_tbl := lw_at lw_m8 122 rfl
theorem q1933 : (Jvm.Cond.stringRef "WhalePostModel" (256 : Nat) "to") ∈ lw_tbl := lw_at lw_m8 123 rfl
theorem q1934 : (Jvm.Cond.stringRef "WhalePostModel" (258 : Nat) "weighs") ∈ lw_tbl := lw_at lw_m8 124 rfl
theorem q1935 : (Jvm.Cond.stringRef "WhalePostModel" (260 : Nat) "day") ∈ lw_tbl := lw_at lw_m8 125 rfl
theorem q1936 : (Jvm.Cond.methodLink "WhalePostModel" (208 : Nat) ({ cls := "WhalePostModel", name := "spoutLine", desc := "()V" } : Jvm.MethodName)) ∈ lw_all := lw_g (lw_at lw_m8 126 rfl) rfl
theorem q1937 : (Jvm.Cond.privateMethod ({ cls := "WhalePostModel", name := "spoutLine", desc := "()V" } : Jvm.MethodName)) ∈ lw_tbl := lw_at lw_m8 127 rfl
theorem q1938 : (Jvm.Cond.instanceMethod ({ cls := "WhalePostModel", name := "spoutLine", desc := "()V" } : Jvm.MethodName)) ∈ lw_all := lw_g (lw_at lw_m8 128 rfl) rfl
theorem q1939 : (Jvm.Cond.code ({ cls := "WhalePostModel", name := "spoutLine", desc := "()V" } : Jvm.MethodName) prog_16_method_38_code (6 : Nat) (Option.none : Option Jvm.ClassFile.FieldType)) ∈ lw_all := lw_g (lw_at lw_m8 129 rfl) rfl
theorem q1940 : (Jvm.Cond.methodLink "WhalePostModel" (176 : Nat) ({ cls := "WhalePostModel", name := "copy", desc := "([II[III)V" } : Jvm.MethodName)) ∈ lw_all := lw_g (lw_at lw_m8 130 rfl) rfl
theorem q1941 : (Jvm.Cond.static ({ cls := "WhalePostModel", name := "copy", desc := "([II[III)V" } : Jvm.MethodName)) ∈ lw_all := lw_g (lw_at lw_m8 131 rfl) rfl
theorem q1942 : (Jvm.Cond.code ({ cls := "WhalePostModel", name := "copy", desc := "([II[III)V" } : Jvm.MethodName) prog_16_method_9_code (6 : Nat) (Option.none : Option Jvm.ClassFile.FieldType)) ∈ lw_all := lw_g (lw_at lw_m8 132 rfl) rfl
theorem q1944 : (Jvm.Cond.instanceMethod ({ cls := "WhalePostModel", name := "fault", desc := "()I" } : Jvm.MethodName)) ∈ lw_all := lw_g (lw_at lw_m8 134 rfl) rfl
theorem q1945 : (Jvm.Cond.selects "WhalePostModel" ({ cls := "WhalePostModel", name := "fault", desc := "()I" } : Jvm.MethodName) ({ cls := "WhalePostModel", name := "fault", desc := "()I" } : Jvm.MethodName)) ∈ lw_all := lw_g (lw_at lw_m8 135 rfl) rfl
theorem q1946 : (Jvm.Cond.code ({ cls := "WhalePostModel", name := "fault", desc := "()I" } : Jvm.MethodName) prog_16_method_39_code (1 : Nat) (Option.some Jvm.ClassFile.FieldType.int)) ∈ lw_all := lw_g (lw_at lw_m8 136 rfl) rfl
theorem q1948 : (Jvm.Cond.instanceMethod ({ cls := "WhalePostModel", name := "where", desc := "()I" } : Jvm.MethodName)) ∈ lw_all := lw_g (lw_at lw_m8 138 rfl) rfl
theorem q1949 : (Jvm.Cond.selects "WhalePostModel" ({ cls := "WhalePostModel", name := "where", desc := "()I" } : Jvm.MethodName) ({ cls := "WhalePostModel", name := "where", desc := "()I" } : Jvm.MethodName)) ∈ lw_all := lw_g (lw_at lw_m8 139 rfl) rfl
theorem q1950 : (Jvm.Cond.code ({ cls := "WhalePostModel", name := "where", desc := "()I" } : Jvm.MethodName) prog_16_method_40_code (1 : Nat) (Option.some Jvm.ClassFile.FieldType.int)) ∈ lw_all := lw_g (lw_at lw_m8 140 rfl) rfl
theorem q1952 : (Jvm.Cond.instanceMethod ({ cls := "WhalePostModel", name := "whale", desc := "(II)I" } : Jvm.MethodName)) ∈ lw_all := lw_g (lw_at lw_m8 142 rfl) rfl
theorem q1953 : (Jvm.Cond.selects "WhalePostModel" ({ cls := "WhalePostModel", name := "whale", desc := "(II)I" } : Jvm.MethodName) ({ cls := "WhalePostModel", name := "whale", desc := "(II)I" } : Jvm.MethodName)) ∈ lw_all := lw_g (lw_at lw_m8 143 rfl) rfl
theorem q1954 : (Jvm.Cond.code ({ cls := "WhalePostModel", name := "whale", desc := "(II)I" } : Jvm.MethodName) prog_16_method_49_code (3 : Nat) (Option.some Jvm.ClassFile.FieldType.int)) ∈ lw_all := lw_g (lw_at lw_m8 144 rfl) rfl
theorem q1955 : (Jvm.Cond.methodLink "WhalePostModel" (268 : Nat) ({ cls := "WhalePostModel", name := "isWhale", desc := "(I)Z" } : Jvm.MethodName)) ∈ lw_all := lw_g (lw_at lw_m8 145 rfl) rfl
theorem q1956 : (Jvm.Cond.privateMethod ({ cls := "WhalePostModel", name := "isWhale", desc := "(I)Z" } : Jvm.MethodName)) ∈ lw_tbl := lw_at lw_m8 146 rfl
theorem q1957 : (Jvm.Cond.instanceMethod ({ cls := "WhalePostModel", name := "isWhale", desc := "(I)Z" } : Jvm.MethodName)) ∈ lw_all := lw_g (lw_at lw_m8 147 rfl) rfl
theorem q1958 : (Jvm.Cond.code ({ cls := "WhalePostModel", name := "isWhale", desc := "(I)Z" } : Jvm.MethodName) prog_16_method_42_code (2 : Nat) (Option.some Jvm.ClassFile.FieldType.boolean)) ∈ lw_all := lw_g (lw_at lw_m8 148 rfl) rfl
theorem q1959 : (Jvm.Cond.methodLink "WhalePostModel" (271 : Nat) ({ cls := "WhalePostModel", name := "ofWhale", desc := "(II)I" } : Jvm.MethodName)) ∈ lw_all := lw_g (lw_at lw_m8 149 rfl) rfl
theorem q1960 : (Jvm.Cond.privateMethod ({ cls := "WhalePostModel", name := "ofWhale", desc := "(II)I" } : Jvm.MethodName)) ∈ lw_tbl := lw_at lw_m8 150 rfl
theorem q1961 : (Jvm.Cond.instanceMethod ({ cls := "WhalePostModel", name := "ofWhale", desc := "(II)I" } : Jvm.MethodName)) ∈ lw_all := lw_g (lw_at lw_m8 151 rfl) rfl
theorem q1962 : (Jvm.Cond.code ({ cls := "WhalePostModel", name := "ofWhale", desc := "(II)I" } : Jvm.MethodName) prog_16_method_44_code (3 : Nat) (Option.some Jvm.ClassFile.FieldType.int)) ∈ lw_all := lw_g (lw_at lw_m8 152 rfl) rfl
theorem q1964 : (Jvm.Cond.instanceMethod ({ cls := "WhalePostModel", name := "box", desc := "(II)I" } : Jvm.MethodName)) ∈ lw_all := lw_g (lw_at lw_m8 154 rfl) rfl
theorem q1965 : (Jvm.Cond.selects "WhalePostModel" ({ cls := "WhalePostModel", name := "box", desc := "(II)I" } : Jvm.MethodName) ({ cls := "WhalePostModel", name := "box", desc := "(II)I" } : Jvm.MethodName)) ∈ lw_all := lw_g (lw_at lw_m8 155 rfl) rfl
theorem q1966 : (Jvm.Cond.code ({ cls := "WhalePostModel", name := "box", desc := "(II)I" } : Jvm.MethodName) prog_16_method_50_code (4 : Nat) (Option.some Jvm.ClassFile.FieldType.int)) ∈ lw_all := lw_g (lw_at lw_m8 156 rfl) rfl
theorem q1967 : (Jvm.Cond.methodLink "WhalePostModel" (274 : Nat) ({ cls := "WhalePostModel", name := "isBox", desc := "(I)Z" } : Jvm.MethodName)) ∈ lw_all := lw_g (lw_at lw_m8 157 rfl) rfl
theorem q1968 : (Jvm.Cond.privateMethod ({ cls := "WhalePostModel", name := "isBox", desc := "(I)Z" } : Jvm.MethodName)) ∈ lw_tbl := lw_at lw_m8 158 rfl
theorem q1969 : (Jvm.Cond.instanceMethod ({ cls := "WhalePostModel", name := "isBox", desc := "(I)Z" } : Jvm.MethodName)) ∈ lw_all := lw_g (lw_at lw_m8 159 rfl) rfl
theorem q1970 : (Jvm.Cond.code ({ cls := "WhalePostModel", name := "isBox", desc := "(I)Z" } : Jvm.MethodName) prog_16_method_43_code (2 : Nat) (Option.some Jvm.ClassFile.FieldType.boolean)) ∈ lw_all := lw_g (lw_at lw_m8 160 rfl) rfl
theorem q1971 : (Jvm.Cond.methodLink "WhalePostModel" (262 : Nat) ({ cls := "WhalePostModel", name := "ofBox", desc := "(II)I" } : Jvm.MethodName)) ∈ lw_all := lw_g (lw_at lw_m8 161 rfl) rfl
theorem q1972 : (Jvm.Cond.privateMethod ({ cls := "WhalePostModel", name := "ofBox", desc := "(II)I" } : Jvm.MethodName)) ∈ lw_tbl := lw_at lw_m8 162 rfl
theorem q1973 : (Jvm.Cond.instanceMethod ({ cls := "WhalePostModel", name := "ofBox", desc := "(II)I" } : Jvm.MethodName)) ∈ lw_all := lw_g (lw_at lw_m8 163 rfl) rfl
theorem q1974 : (Jvm.Cond.code ({ cls := "WhalePostModel", name := "ofBox", desc := "(II)I" } : Jvm.MethodName) prog_16_method_45_code (3 : Nat) (Option.some Jvm.ClassFile.FieldType.int)) ∈ lw_all := lw_g (lw_at lw_m8 164 rfl) rfl
theorem q1976 : (Jvm.Cond.instanceMethod ({ cls := "WhalePostModel", name := "length", desc := "(I)I" } : Jvm.MethodName)) ∈ lw_all := lw_g (lw_at lw_m8 166 rfl) rfl
theorem q1977 : (Jvm.Cond.selects "WhalePostModel" ({ cls := "WhalePostModel", name := "length", desc := "(I)I" } : Jvm.MethodName) ({ cls := "WhalePostModel", name := "length", desc := "(I)I" } : Jvm.MethodName)) ∈ lw_all := lw_g (lw_at lw_m8 167 rfl) rfl
theorem q1978 : (Jvm.Cond.code ({ cls := "WhalePostModel", name := "length", desc := "(I)I" } : Jvm.MethodName) prog_16_method_51_code (2 : Nat) (Option.some Jvm.ClassFile.FieldType.int)) ∈ lw_all := lw_g (lw_at lw_m8 168 rfl) rfl
theorem q1979 : (Jvm.Cond.methodLink "WhalePostModel" (277 : Nat) ({ cls := "WhalePostModel", name := "isIsland", desc := "(I)Z" } : Jvm.MethodName)) ∈ lw_all := lw_g (lw_at lw_m8 169 rfl) rfl
theorem q1980 : (Jvm.Cond.privateMethod ({ cls := "WhalePostModel", name := "isIsland", desc := "(I)Z" } : Jvm.MethodName)) ∈ lw_tbl := lw_at lw_m8 170 rfl
theorem q1981 : (Jvm.Cond.instanceMethod ({ cls := "WhalePostModel", name := "isIsland", desc := "(I)Z" } : Jvm.MethodName)) ∈ lw_all := lw_g (lw_at lw_m8 171 rfl) rfl
theorem q1982 : (Jvm.Cond.code ({ cls := "WhalePostModel", name := "isIsland", desc := "(I)Z" } : Jvm.MethodName) prog_16_method_41_code (2 : Nat) (Option.some Jvm.ClassFile.FieldType.boolean)) ∈ lw_all := lw_g (lw_at lw_m8 172 rfl) rfl
theorem q1983 : (Jvm.Cond.methodLink "WhalePostModel" (265 : Nat) ({ cls := "WhalePostModel", name := "songLong", desc := "(I)I" } : Jvm.MethodName)) ∈ lw_all := lw_g (lw_at lw_m8 173 rfl) rfl
theorem q1984 : (Jvm.Cond.privateMethod ({ cls := "WhalePostModel", name := "songLong", desc := "(I)I" } : Jvm.MethodName)) ∈ lw_tbl := lw_at lw_m8 174 rfl
theorem q1985 : (Jvm.Cond.instanceMethod ({ cls := "WhalePostModel", name := "songLong", desc := "(I)I" } : Jvm.MethodName)) ∈ lw_all := lw_g (lw_at lw_m8 175 rfl) rfl
theorem q1986 : (Jvm.Cond.code ({ cls := "WhalePostModel", name := "songLong", desc := "(I)I" } : Jvm.MethodName) prog_16_method_46_code (2 : Nat) (Option.some Jvm.ClassFile.FieldType.int)) ∈ lw_all := lw_g (lw_at lw_m8 176 rfl) rfl
theorem q1988 : (Jvm.Cond.instanceMethod ({ cls := "WhalePostModel", name := "note", desc := "(II)I" } : Jvm.MethodName)) ∈ lw_all := lw_g (lw_at lw_m8 178 rfl) rfl
theorem q1989 : (Jvm.Cond.selects "WhalePostModel" ({ cls := "WhalePostModel", name := "note", desc := "(II)I" } : Jvm.MethodName) ({ cls := "WhalePostModel", name := "note", desc := "(II)I" } : Jvm.MethodName)) ∈ lw_all := lw_g (lw_at lw_m8 179 rfl) rfl
theorem q1990 : (Jvm.Cond.code ({ cls := "WhalePostModel", name := "note", desc := "(II)I" } : Jvm.MethodName) prog_16_method_52_code (3 : Nat) (Option.some Jvm.ClassFile.FieldType.int)) ∈ lw_all := lw_g (lw_at lw_m8 180 rfl) rfl
theorem q1991 : (Jvm.Cond.methodLink "WhalePostModel" (280 : Nat) ({ cls := "WhalePostModel", name := "noteIn", desc := "(III)I" } : Jvm.MethodName)) ∈ lw_all := lw_g (lw_at lw_m8 181 rfl) rfl
theorem q1992 : (Jvm.Cond.privateMethod ({ cls := "WhalePostModel", name := "noteIn", desc := "(III)I" } : Jvm.MethodName)) ∈ lw_tbl := lw_at lw_m8 182 rfl
theorem q1993 : (Jvm.Cond.instanceMethod ({ cls := "WhalePostModel", name := "noteIn", desc := "(III)I" } : Jvm.MethodName)) ∈ lw_all := lw_g (lw_at lw_m8 183 rfl) rfl
theorem q1994 : (Jvm.Cond.code ({ cls := "WhalePostModel", name := "noteIn", desc := "(III)I" } : Jvm.MethodName) prog_16_method_48_code (5 : Nat) (Option.some Jvm.ClassFile.FieldType.int)) ∈ lw_all := lw_g (lw_at lw_m8 184 rfl) rfl
theorem q1996 : (Jvm.Cond.instanceMethod ({ cls := "WhalePostModel", name := "sung", desc := "(II)I" } : Jvm.MethodName)) ∈ lw_all := lw_g (lw_at lw_m8 186 rfl) rfl
theorem q1997 : (Jvm.Cond.selects "WhalePostModel" ({ cls := "WhalePostModel", name := "sung", desc := "(II)I" } : Jvm.MethodName) ({ cls := "WhalePostModel", name := "sung", desc := "(II)I" } : Jvm.MethodName)) ∈ lw_all := lw_g (lw_at lw_m8 187 rfl) rfl
theorem q1998 : (Jvm.Cond.code ({ cls := "WhalePostModel", name := "sung", desc := "(II)I" } : Jvm.MethodName) prog_16_method_53_code (3 : Nat) (Option.some Jvm.ClassFile.FieldType.int)) ∈ lw_all := lw_g (lw_at lw_m8 188 rfl) rfl
theorem q1999 : (Jvm.Cond.methodLink "WhalePostModel" (284 : Nat) ({ cls := "WhalePostModel", name := "boxLong", desc := "(I)I" } : Jvm.MethodName)) ∈ lw_all := lw_g (lw_at lw_m8 189 rfl) rfl
theorem q2000 : (Jvm.Cond.privateMethod ({ cls := "WhalePostModel", name := "boxLong", desc := "(I)I" } : Jvm.MethodName)) ∈ lw_tbl := lw_at lw_m8 190 rfl
theorem q2001 : (Jvm.Cond.instanceMethod ({ cls := "WhalePostModel", name := "boxLong", desc := "(I)I" } : Jvm.MethodName)) ∈ lw_all := lw_g (lw_at lw_m8 191 rfl) rfl
theorem q2002 : (Jvm.Cond.code ({ cls := "WhalePostModel", name := "boxLong", desc := "(I)I" } : Jvm.MethodName) prog_16_method_47_code (2 : Nat) (Option.some Jvm.ClassFile.FieldType.int)) ∈ lw_all := lw_g (lw_at lw_m8 192 rfl) rfl
theorem q2004 : (Jvm.Cond.instanceMethod ({ cls := "WhalePostModel", name := "heard", desc := "(I)I" } : Jvm.MethodName)) ∈ lw_all := lw_g (lw_at lw_m8 194 rfl) rfl
theorem q2005 : (Jvm.Cond.selects "WhalePostModel" ({ cls := "WhalePostModel", name := "heard", desc := "(I)I" } : Jvm.MethodName) ({ cls := "WhalePostModel", name := "heard", desc := "(I)I" } : Jvm.MethodName)) ∈ lw_all := lw_g (lw_at lw_m8 195 rfl) rfl
theorem q2006 : (Jvm.Cond.code ({ cls := "WhalePostModel", name := "heard", desc := "(I)I" } : Jvm.MethodName) prog_16_method_57_code (2 : Nat) (Option.some Jvm.ClassFile.FieldType.int)) ∈ lw_all := lw_g (lw_at lw_m8 196 rfl) rfl
theorem q2007 : (Jvm.Cond.methodLink "WhalePostModel" (295 : Nat) ({ cls := "WhalePostModel", name := "heardNow", desc := "(I)I" } : Jvm.MethodName)) ∈ lw_all := lw_g (lw_at lw_m8 197 rfl) rfl
theorem q2008 : (Jvm.Cond.privateMethod ({ cls := "WhalePostModel", name := "heardNow", desc := "(I)I" } : Jvm.MethodName)) ∈ lw_tbl := lw_at lw_m8 198 rfl
theorem q2009 : (Jvm.Cond.instanceMethod ({ cls := "WhalePostModel", name := "heardNow", desc := "(I)I" } : Jvm.MethodName)) ∈ lw_all := lw_g (lw_at lw_m8 199 rfl) rfl
theorem q2010 : (Jvm.Cond.code ({ cls := "WhalePostModel", name := "heardNow", desc := "(I)I" } : Jvm.MethodName) prog_16_method_56_code (2 : Nat) (Option.some Jvm.ClassFile.FieldType.int)) ∈ lw_all := lw_g (lw_at lw_m8 200 rfl) rfl
theorem q2011 : (Jvm.Cond.methodLink "WhalePostModel" (291 : Nat) ({ cls := "WhalePostModel", name := "hearsIn", desc := "(IIII)I" } : Jvm.MethodName)) ∈ lw_all := lw_g (lw_at lw_m8 201 rfl) rfl
theorem q2012 : (Jvm.Cond.privateMethod ({ cls := "WhalePostModel", name := "hearsIn", desc := "(IIII)I" } : Jvm.MethodName)) ∈ lw_tbl := lw_at lw_m8 202 rfl
theorem q2013 : (Jvm.Cond.instanceMethod ({ cls := "WhalePostModel", name := "hearsIn", desc := "(IIII)I" } : Jvm.MethodName)) ∈ lw_all := lw_g (lw_at lw_m8 203 rfl) rfl
theorem q2014 : (Jvm.Cond.code ({ cls := "WhalePostModel", name := "hearsIn", desc := "(IIII)I" } : Jvm.MethodName) prog_16_method_55_code (9 : Nat) (Option.some Jvm.ClassFile.FieldType.int)) ∈ lw_all := lw_g (lw_at lw_m8 204 rfl) rfl
theorem q2015 : (Jvm.Cond.methodLink "WhalePostModel" (287 : Nat) ({ cls := "WhalePostModel", name := "unlike", desc := "(IIIII)I" } : Jvm.MethodName)) ∈ lw_all := lw_g (lw_at lw_m8 205 rfl) rfl
theorem q2016 : (Jvm.Cond.privateMethod ({ cls := "WhalePostModel", name := "unlike", desc := "(IIIII)I" } : Jvm.MethodName)) ∈ lw_tbl := lw_at lw_m8 206 rfl
theorem q2017 : (Jvm.Cond.instanceMethod ({ cls := "WhalePostModel", name := "unlike", desc := "(IIIII)I" } : Jvm.MethodName)) ∈ lw_all := lw_g (lw_at lw_m8 207 rfl) rfl
theorem q2018 : (Jvm.Cond.code ({ cls := "WhalePostModel", name := "unlike", desc := "(IIIII)I" } : Jvm.MethodName) prog_16_method_54_code (8 : Nat) (Option.some Jvm.ClassFile.FieldType.int)) ∈ lw_all := lw_g (lw_at lw_m8 208 rfl) rfl
theorem q2020 : (Jvm.Cond.instanceMethod ({ cls := "WhalePostModel", name := "way", desc := "(II)I" } : Jvm.MethodName)) ∈ lw_all := lw_g (lw_at lw_m8 210 rfl) rfl
theorem q2021 : (Jvm.Cond.selects "WhalePostModel" ({ cls := "WhalePostModel", name := "way", desc := "(II)I" } : Jvm.MethodName) ({ cls := "WhalePostModel", name := "way", desc := "(II)I" } : Jvm.MethodName)) ∈ lw_all := lw_g (lw_at lw_m8 211 rfl) rfl
theorem q2022 : (Jvm.Cond.code ({ cls := "WhalePostModel", name := "way", desc := "(II)I" } : Jvm.MethodName) prog_16_method_60_code (4 : Nat) (Option.some Jvm.ClassFile.FieldType.int)) ∈ lw_all := lw_g (lw_at lw_m8 212 rfl) rfl
theorem q2023 : (Jvm.Cond.methodLink "WhalePostModel" (305 : Nat) ({ cls := "WhalePostModel", name := "wayOf", desc := "(II)I" } : Jvm.MethodName)) ∈ lw_all := lw_g (lw_at lw_m8 213 rfl) rfl
theorem q2024 : (Jvm.Cond.privateMethod ({ cls := "WhalePostModel", name := "wayOf", desc := "(II)I" } : Jvm.MethodName)) ∈ lw_tbl := lw_at lw_m8 214 rfl
theorem q2025 : (Jvm.Cond.instanceMethod ({ cls := "WhalePostModel", name := "wayOf", desc := "(II)I" } : Jvm.MethodName)) ∈ lw_all := lw_g (lw_at lw_m8 215 rfl) rfl
theorem q2026 : (Jvm.Cond.code ({ cls := "WhalePostModel", name := "wayOf", desc := "(II)I" } : Jvm.MethodName) prog_16_method_59_code (4 : Nat) (Option.some Jvm.ClassFile.FieldType.int)) ∈ lw_all := lw_g (lw_at lw_m8 216 rfl) rfl
theorem q2027 : (Jvm.Cond.methodLink "WhalePostModel" (302 : Nat) ({ cls := "WhalePostModel", name := "isClosed", desc := "(I)Z" } : Jvm.MethodName)) ∈ lw_all := lw_g (lw_at lw_m8 217 rfl) rfl
theorem q2028 : (Jvm.Cond.privateMethod ({ cls := "WhalePostModel", name := "isClosed", desc := "(I)Z" } : Jvm.MethodName)) ∈ lw_tbl := lw_at lw_m8 218 rfl
theorem q2029 : (Jvm.Cond.instanceMethod ({ cls := "WhalePostModel", name := "isClosed", desc := "(I)Z" } : Jvm.MethodName)) ∈ lw_all := lw_g (lw_at lw_m8 219 rfl) rfl
theorem q2030 : (Jvm.Cond.code ({ cls := "WhalePostModel", name := "isClosed", desc := "(I)Z" } : Jvm.MethodName) prog_16_method_58_code (2 : Nat) (Option.some Jvm.ClassFile.FieldType.boolean)) ∈ lw_all := lw_g (lw_at lw_m8 220 rfl) rfl
theorem q2031 : (Jvm.Cond.methodLink "WhalePostModel" (298 : Nat) ({ cls := "WhalePostModel", name := "hasBit", desc := "(II)Z" } : Jvm.MethodName)) ∈ lw_all := lw_g (lw_at lw_m8 221 rfl) rfl
theorem q2032 : (Jvm.Cond.static ({ cls := "WhalePostModel", name := "hasBit", desc := "(II)Z" } : Jvm.MethodName)) ∈ lw_all := lw_g (lw_at lw_m8 222 rfl) rfl
theorem q2033 : (Jvm.Cond.code ({ cls := "WhalePostModel", name := "hasBit", desc := "(II)Z" } : Jvm.MethodName) prog_16_method_7_code (2 : Nat) (Option.some Jvm.ClassFile.FieldType.boolean)) ∈ lw_all := lw_g (lw_at lw_m8 223 rfl) rfl
theorem q2035 : (Jvm.Cond.instanceMethod ({ cls := "WhalePostModel", name := "nea\x72", desc := "(I)I" } : Jvm.MethodName)) ∈ lw_all := lw_g (lw_at lw_m8 225 rfl) rfl
theorem q2036 : (Jvm.Cond.selects "WhalePostModel" ({ cls := "WhalePostModel", name := "nea\x72", desc := "(I)I" } : Jvm.MethodName) ({ cls := "WhalePostModel", name := "nea\x72", desc := "(I)I" } : Jvm.MethodName)) ∈ lw_all := lw_g (lw_at lw_m8 226 rfl) rfl
theorem q2037 : (Jvm.Cond.code ({ cls := "WhalePostModel", name := "nea\x72", desc := "(I)I" } : Jvm.MethodName) prog_16_method_62_code (2 : Nat) (Option.some Jvm.ClassFile.FieldType.int)) ∈ lw_all := lw_g (lw_at lw_m8 227 rfl) rfl
theorem q2038 : (Jvm.Cond.methodLink "WhalePostModel" (308 : Nat) ({ cls := "WhalePostModel", name := "nearOf", desc := "(IZ)I" } : Jvm.MethodName)) ∈ lw_all := lw_g (lw_at lw_m8 228 rfl) rfl
theorem q2039 : (Jvm.Cond.privateMethod ({ cls := "WhalePostModel", name := "nearOf", desc := "(IZ)I" } : Jvm.MethodName)) ∈ lw_tbl := lw_at lw_m8 229 rfl
theorem q2040 : (Jvm.Cond.instanceMethod ({ cls := "WhalePostModel", name := "nearOf", desc := "(IZ)I" } : Jvm.MethodName)) ∈ lw_all := lw_g (lw_at lw_m8 230 rfl) rfl
theorem q2041 : (Jvm.Cond.code ({ cls := "WhalePostModel", name := "nearOf", desc := "(IZ)I" } : Jvm.MethodName) prog_16_method_61_code (7 : Nat) (Option.some Jvm.ClassFile.FieldType.int)) ∈ lw_all := lw_g (lw_at lw_m8 231 rfl) rfl
theorem q2043 : (Jvm.Cond.instanceMethod ({ cls := "WhalePostModel", name := "asNea\x72", desc := "(I)I" } : Jvm.MethodName)) ∈ lw_all := lw_g (lw_at lw_m8 233 rfl) rfl
theorem q2044 : (Jvm.Cond.selects "WhalePostModel" ({ cls := "WhalePostModel", name := "asNea\x72", desc := "(I)I" } : Jvm.MethodName) ({ cls := "WhalePostModel", name := "asNea\x72", desc := "(I)I" } : Jvm.MethodName)) ∈ lw_all := lw_g (lw_at lw_m8 234 rfl) rfl
theorem q2045 : (Jvm.Cond.code ({ cls := "WhalePostModel", name := "asNea\x72", desc := "(I)I" } : Jvm.MethodName) prog_16_method_63_code (2 : Nat) (Option.some Jvm.ClassFile.FieldType.int)) ∈ lw_all := lw_g (lw_at lw_m8 235 rfl) rfl
theorem q2047 : (Jvm.Cond.instanceMethod ({ cls := "WhalePostModel", name := "sent", desc := "(I)I" } : Jvm.MethodName)) ∈ lw_all := lw_g (lw_at lw_m8 237 rfl) rfl
theorem q2048 : (Jvm.Cond.selects "WhalePostModel" ({ cls := "WhalePostModel", name := "sent", desc := "(I)I" } : Jvm.MethodName) ({ cls := "WhalePostModel", name := "sent", desc := "(I)I" } : Jvm.MethodName)) ∈ lw_all := lw_g (lw_at lw_m8 238 rfl) rfl
theorem q2049 : (Jvm.Cond.code ({ cls := "WhalePostModel", name := "sent", desc := "(I)I" } : Jvm.MethodName) prog_16_method_64_code (4 : Nat) (Option.some Jvm.ClassFile.FieldType.int)) ∈ lw_all := lw_g (lw_at lw_m8 239 rfl) rfl
theorem q2051 : (Jvm.Cond.instanceMethod ({ cls := "WhalePostModel", name := "apart", desc := "(II)I" } : Jvm.MethodName)) ∈ lw_all := lw_g (lw_at lw_m9 1 rfl) rfl
theorem q2052 : (Jvm.Cond.selects "WhalePostModel" ({ cls := "WhalePostModel", name := "apart", desc := "(II)I" } : Jvm.MethodName) ({ cls := "WhalePostModel", name := "apart", desc := "(II)I" } : Jvm.MethodName)) ∈ lw_all := lw_g (lw_at lw_m9 2 rfl) rfl
theorem q2053 : (Jvm.Cond.code ({ cls := "WhalePostModel", name := "apart", desc := "(II)I" } : Jvm.MethodName) prog_16_method_66_code (3 : Nat) (Option.some Jvm.ClassFile.FieldType.int)) ∈ lw_all := lw_g (lw_at lw_m9 3 rfl) rfl
theorem q2054 : (Jvm.Cond.methodLink "WhalePostModel" (312 : Nat) ({ cls := "WhalePostModel", name := "apartOf", desc := "(II)I" } : Jvm.MethodName)) ∈ lw_all := lw_g (lw_at lw_m9 4 rfl) rfl
theorem q2055 : (Jvm.Cond.privateMethod ({ cls := "WhalePostModel", name := "apartOf", desc := "(II)I" } : Jvm.MethodName)) ∈ lw_tbl := lw_at lw_m9 5 rfl
theorem q2056 : (Jvm.Cond.instanceMethod ({ cls := "WhalePostModel", name := "apartOf", desc := "(II)I" } : Jvm.MethodName)) ∈ lw_all := lw_g (lw_at lw_m9 6 rfl) rfl
theorem q2057 : (Jvm.Cond.code ({ cls := "WhalePostModel", name := "apartOf", desc := "(II)I" } : Jvm.MethodName) prog_16_method_65_code (5 : Nat) (Option.some Jvm.ClassFile.FieldType.int)) ∈ lw_all := lw_g (lw_at lw_m9 7 rfl) rfl
theorem q2059 : (Jvm.Cond.instanceMethod ({ cls := "WhalePostModel", name := "bea\x72", desc := "()I" } : Jvm.MethodName)) ∈ lw_all := lw_g (lw_at lw_m9 9 rfl) rfl
theorem q2060 : (Jvm.Cond.selects "WhalePostModel" ({ cls := "WhalePostModel", name := "bea\x72", desc := "()I" } : Jvm.MethodName) ({ cls := "WhalePostModel", name := "bea\x72", desc := "()I" } : Jvm.MethodName)) ∈ lw_all := lw_g (lw_at lw_m9 10 rfl) rfl
theorem q2061 : (Jvm.Cond.code ({ cls := "WhalePostModel", name := "bea\x72", desc := "()I" } : Jvm.MethodName) prog_16_method_67_code (4 : Nat) (Option.some Jvm.ClassFile.FieldType.int)) ∈ lw_all := lw_g (lw_at lw_m9 11 rfl) rfl
theorem q2063 : (Jvm.Cond.instanceMethod ({ cls := "WhalePostModel", name := "mixed", desc := "()I" } : Jvm.MethodName)) ∈ lw_all := lw_g (lw_at lw_m9 13 rfl) rfl
theorem q2064 : (Jvm.Cond.selects "WhalePostModel" ({ cls := "WhalePostModel", name := "mixed", desc := "()I" } : Jvm.MethodName) ({ cls := "WhalePostModel", name := "mixed", desc := "()I" } : Jvm.MethodName)) ∈ lw_all := lw_g (lw_at lw_m9 14 rfl) rfl
theorem q2065 : (Jvm.Cond.code ({ cls := "WhalePostModel", name := "mixed", desc := "()I" } : Jvm.MethodName) prog_16_method_68_code (4 : Nat) (Option.some Jvm.ClassFile.FieldType.int)) ∈ lw_all := lw_g (lw_at lw_m9 15 rfl) rfl
theorem q2067 : (Jvm.Cond.instanceMethod ({ cls := "WhalePostModel", name := "fresh", desc := "(II)I" } : Jvm.MethodName)) ∈ lw_all := lw_g (lw_at lw_m9 17 rfl) rfl
theorem q2068 : (Jvm.Cond.selects "WhalePostModel" ({ cls := "WhalePostModel", name := "fresh", desc := "(II)I" } : Jvm.MethodName) ({ cls := "WhalePostModel", name := "fresh", desc := "(II)I" } : Jvm.MethodName)) ∈ lw_all := lw_g (lw_at lw_m9 18 rfl) rfl
theorem q2069 : (Jvm.Cond.code ({ cls := "WhalePostModel", name := "fresh", desc := "(II)I" } : Jvm.MethodName) prog_16_method_73_code (4 : Nat) (Option.some Jvm.ClassFile.FieldType.int)) ∈ lw_all := lw_g (lw_at lw_m9 19 rfl) rfl
theorem q2070 : (Jvm.Cond.methodLink "WhalePostModel" (324 : Nat) ({ cls := "WhalePostModel", name := "songWhy", desc := "(II)I" } : Jvm.MethodName)) ∈ lw_all := lw_g (lw_at lw_m9 20 rfl) rfl
theorem q2071 : (Jvm.Cond.privateMethod ({ cls := "WhalePostModel", name := "songWhy", desc := "(II)I" } : Jvm.MethodName)) ∈ lw_tbl := lw_at lw_m9 21 rfl
theorem q2072 : (Jvm.Cond.instanceMethod ({ cls := "WhalePostModel", name := "songWhy", desc := "(II)I" } : Jvm.MethodName)) ∈ lw_all := lw_g (lw_at lw_m9 22 rfl) rfl
theorem q2073 : (Jvm.Cond.code ({ cls := "WhalePostModel", name := "songWhy", desc := "(II)I" } : Jvm.MethodName) prog_16_method_72_code (3 : Nat) (Option.some Jvm.ClassFile.FieldType.int)) ∈ lw_all := lw_g (lw_at lw_m9 23 rfl) rfl
theorem q2074 : (Jvm.Cond.methodLink "WhalePostModel" (327 : Nat) ({ cls := "WhalePostModel", name := "newSongs", desc := "(IIZ)I" } : Jvm.MethodName)) ∈ lw_all := lw_g (lw_at lw_m9 24 rfl) rfl
theorem q2075 : (Jvm.Cond.privateMethod ({ cls := "WhalePostModel", name := "newSongs", desc := "(IIZ)I" } : Jvm.MethodName)) ∈ lw_tbl := lw_at lw_m9 25 rfl
theorem q2076 : (Jvm.Cond.instanceMethod ({ cls := "WhalePostModel", name := "newSongs", desc := "(IIZ)I" } : Jvm.MethodName)) ∈ lw_all := lw_g (lw_at lw_m9 26 rfl) rfl
theorem q2077 : (Jvm.Cond.code ({ cls := "WhalePostModel", name := "newSongs", desc := "(IIZ)I" } : Jvm.MethodName) prog_16_method_71_code (8 : Nat) (Option.some Jvm.ClassFile.FieldType.int)) ∈ lw_all := lw_g (lw_at lw_m9 27 rfl) rfl
theorem q2078 : (Jvm.Cond.methodLink "WhalePostModel" (318 : Nat) ({ cls := "WhalePostModel", name := "powe\x72", desc := "(I)I" } : Jvm.MethodName)) ∈ lw_all := lw_g (lw_at lw_m9 28 rfl) rfl
theorem q2079 : (Jvm.Cond.privateMethod ({ cls := "WhalePostModel", name := "powe\x72", desc := "(I)I" } : Jvm.MethodName)) ∈ lw_tbl := lw_at lw_m9 29 rfl
theorem q2080 : (Jvm.Cond.instanceMethod ({ cls := "WhalePostModel", name := "powe\x72", desc := "(I)I" } : Jvm.MethodName)) ∈ lw_all := lw_g (lw_at lw_m9 30 rfl) rfl
theorem q2081 : (Jvm.Cond.code ({ cls := "WhalePostModel", name := "powe\x72", desc := "(I)I" } : Jvm.MethodName) prog_16_method_69_code (4 : Nat) (Option.some Jvm.ClassFile.FieldType.int)) ∈ lw_all := lw_g (lw_at lw_m9 31 rfl) rfl
theorem q2082 : (Jvm.Cond.methodLink "WhalePostModel" (321 : Nat) ({ cls := "WhalePostModel", name := "digitsApart", desc := "(III)I" } : Jvm.MethodName)) ∈ lw_all := lw_g (lw_at lw_m9 32 rfl) rfl
theorem q2083 : (Jvm.Cond.privateMethod ({ cls := "WhalePostModel", name := "digitsApart", desc := "(III)I" } : Jvm.MethodName)) ∈ lw_tbl := lw_at lw_m9 33 rfl
theorem q2084 : (Jvm.Cond.instanceMethod ({ cls := "WhalePostModel", name := "digitsApart", desc := "(III)I" } : Jvm.MethodName)) ∈ lw_all := lw_g (lw_at lw_m9 34 rfl) rfl
theorem q2085 : (Jvm.Cond.code ({ cls := "WhalePostModel", name := "digitsApart", desc := "(III)I" } : Jvm.MethodName) prog_16_method_70_code (8 : Nat) (Option.some Jvm.ClassFile.FieldType.int)) ∈ lw_all := lw_g (lw_at lw_m9 35 rfl) rfl
theorem q2087 : (Jvm.Cond.instanceMethod ({ cls := "WhalePostModel", name := "byTurns", desc := "(II)I" } : Jvm.MethodName)) ∈ lw_all := lw_g (lw_at lw_m9 37 rfl) rfl
theorem q2088 : (Jvm.Cond.selects "WhalePostModel" ({ cls := "WhalePostModel", name := "byTurns", desc := "(II)I" } : Jvm.MethodName) ({ cls := "WhalePostModel", name := "byTurns", desc := "(II)I" } : Jvm.MethodName)) ∈ lw_all := lw_g (lw_at lw_m9 38 rfl) rfl
theorem q2089 : (Jvm.Cond.code ({ cls := "WhalePostModel", name := "byTurns", desc := "(II)I" } : Jvm.MethodName) prog_16_method_74_code (4 : Nat) (Option.some Jvm.ClassFile.FieldType.int)) ∈ lw_all := lw_g (lw_at lw_m9 39 rfl) rfl
theorem q2091 : (Jvm.Cond.instanceMethod ({ cls := "WhalePostModel", name := "heardIn", desc := "(II)I" } : Jvm.MethodName)) ∈ lw_all := lw_g (lw_at lw_m9 41 rfl) rfl
theorem q2092 : (Jvm.Cond.selects "WhalePostModel" ({ cls := "WhalePostModel", name := "heardIn", desc := "(II)I" } : Jvm.MethodName) ({ cls := "WhalePostModel", name := "heardIn", desc := "(II)I" } : Jvm.MethodName)) ∈ lw_all := lw_g (lw_at lw_m9 42 rfl) rfl
theorem q2093 : (Jvm.Cond.code ({ cls := "WhalePostModel", name := "heardIn", desc := "(II)I" } : Jvm.MethodName) prog_16_method_75_code (3 : Nat) (Option.some Jvm.ClassFile.FieldType.int)) ∈ lw_all := lw_g (lw_at lw_m9 43 rfl) rfl
theorem q2095 : (Jvm.Cond.instanceMethod ({ cls := "WhalePostModel", name := "strange", desc := "(I)I" } : Jvm.MethodName)) ∈ lw_all := lw_g (lw_at lw_m9 45 rfl) rfl
theorem q2096 : (Jvm.Cond.selects "WhalePostModel" ({ cls := "WhalePostModel", name := "strange", desc := "(I)I" } : Jvm.MethodName) ({ cls := "WhalePostModel", name := "strange", desc := "(I)I" } : Jvm.MethodName)) ∈ lw_all := lw_g (lw_at lw_m9 46 rfl) rfl
theorem q2097 : (Jvm.Cond.code ({ cls := "WhalePostModel", name := "strange", desc := "(I)I" } : Jvm.MethodName) prog_16_method_77_code (3 : Nat) (Option.some Jvm.ClassFile.FieldType.int)) ∈ lw_all := lw_g (lw_at lw_m9 47 rfl) rfl
theorem q2098 : (Jvm.Cond.methodLink "WhalePostModel" (331 : Nat) ({ cls := "WhalePostModel", name := "hearsItself", desc := "(II)Z" } : Jvm.MethodName)) ∈ lw_all := lw_g (lw_at lw_m9 48 rfl) rfl
theorem q2099 : (Jvm.Cond.privateMethod ({ cls := "WhalePostModel", name := "hearsItself", desc := "(II)Z" } : Jvm.MethodName)) ∈ lw_tbl := lw_at lw_m9 49 rfl
theorem q2100 : (Jvm.Cond.instanceMethod ({ cls := "WhalePostModel", name := "hearsItself", desc := "(II)Z" } : Jvm.MethodName)) ∈ lw_all := lw_g (lw_at lw_m9 50 rfl) rfl
theorem q2101 : (Jvm.Cond.code ({ cls := "WhalePostModel", name := "hearsItself", desc := "(II)Z" } : Jvm.MethodName) prog_16_method_76_code (8 : Nat) (Option.some Jvm.ClassFile.FieldType.boolean)) ∈ lw_all := lw_g (lw_at lw_m9 51 rfl) rfl
theorem q2103 : (Jvm.Cond.instanceMethod ({ cls := "WhalePostModel", name := "season", desc := "(I)I" } : Jvm.MethodName)) ∈ lw_all := lw_g (lw_at lw_m9 53 rfl) rfl
theorem q2104 : (Jvm.Cond.selects "WhalePostModel" ({ cls := "WhalePostModel", name := "season", desc := "(I)I" } : Jvm.MethodName) ({ cls := "WhalePostModel", name := "season", desc := "(I)I" } : Jvm.MethodName)) ∈ lw_all := lw_g (lw_at lw_m9 54 rfl) rfl
theorem q2105 : (Jvm.Cond.code ({ cls := "WhalePostModel", name := "season", desc := "(I)I" } : Jvm.MethodName) prog_16_method_81_code (2 : Nat) (Option.some Jvm.ClassFile.FieldType.int)) ∈ lw_all := lw_g (lw_at lw_m9 55 rfl) rfl
theorem q2106 : (Jvm.Cond.constant "WhalePostModel" (340 : Nat) (99999 : Int32)) ∈ lw_all := lw_g (lw_at lw_m9 56 rfl) rfl
theorem q2107 : (Jvm.Cond.methodLink "WhalePostModel" (337 : Nat) ({ cls := "WhalePostModel", name := "seasonOf", desc := "(I)I" } : Jvm.MethodName)) ∈ lw_all := lw_g (lw_at lw_m9 57 rfl) rfl
theorem q2108 : (Jvm.Cond.static ({ cls := "WhalePostModel", name := "seasonOf", desc := "(I)I" } : Jvm.MethodName)) ∈ lw_all := lw_g (lw_at lw_m9 58 rfl) rfl
theorem q2109 : (Jvm.Cond.code ({ cls := "WhalePostModel", name := "seasonOf", desc := "(I)I" } : Jvm.MethodName) prog_16_method_80_code (1 : Nat) (Option.some Jvm.ClassFile.FieldType.int)) ∈ lw_all := lw_g (lw_at lw_m9 59 rfl) rfl
theorem q2111 : (Jvm.Cond.instanceMethod ({ cls := "WhalePostModel", name := "sets", desc := "(III)I" } : Jvm.MethodName)) ∈ lw_all := lw_g (lw_at lw_m9 61 rfl) rfl
theorem q2112 : (Jvm.Cond.selects "WhalePostModel" ({ cls := "WhalePostModel", name := "sets", desc := "(III)I" } : Jvm.MethodName) ({ cls := "WhalePostModel", name := "sets", desc := "(III)I" } : Jvm.MethodName)) ∈ lw_all := lw_g (lw_at lw_m9 62 rfl) rfl
theorem q2113 : (Jvm.Cond.code ({ cls := "WhalePostModel", name := "sets", desc := "(III)I" } : Jvm.MethodName) prog_16_method_82_code (4 : Nat) (Option.some Jvm.ClassFile.FieldType.int)) ∈ lw_all := lw_g (lw_at lw_m9 63 rfl) rfl
theorem q2114 : (Jvm.Cond.methodLink "WhalePostModel" (334 : Nat) ({ cls := "WhalePostModel", name := "setsOut", desc := "(III)I" } : Jvm.MethodName)) ∈ lw_all := lw_g (lw_at lw_m9 64 rfl) rfl
theorem q2115 : (Jvm.Cond.privateMethod ({ cls := "WhalePostModel", name := "setsOut", desc := "(III)I" } : Jvm.MethodName)) ∈ lw_tbl := lw_at lw_m9 65 rfl
theorem q2116 : (Jvm.Cond.instanceMethod ({ cls := "WhalePostModel", name := "setsOut", desc := "(III)I" } : Jvm.MethodName)) ∈ lw_all := lw_g (lw_at lw_m9 66 rfl) rfl
theorem q2117 : (Jvm.Cond.code ({ cls := "WhalePostModel", name := "setsOut", desc := "(III)I" } : Jvm.MethodName) prog_16_method_79_code (5 : Nat) (Option.some Jvm.ClassFile.FieldType.int)) ∈ lw_all := lw_g (lw_at lw_m9 67 rfl) rfl
theorem q2119 : (Jvm.Cond.instanceMethod ({ cls := "WhalePostModel", name := "arrival", desc := "(IIII)I" } : Jvm.MethodName)) ∈ lw_all := lw_g (lw_at lw_m9 69 rfl) rfl
theorem q2120 : (Jvm.Cond.selects "WhalePostModel" ({ cls := "WhalePostModel", name := "arrival", desc := "(IIII)I" } : Jvm.MethodName) ({ cls := "WhalePostModel", name := "arrival", desc := "(IIII)I" } : Jvm.MethodName)) ∈ lw_all := lw_g (lw_at lw_m9 70 rfl) rfl
theorem q2121 : (Jvm.Cond.code ({ cls := "WhalePostModel", name := "arrival", desc := "(IIII)I" } : Jvm.MethodName) prog_16_method_86_code (5 : Nat) (Option.some Jvm.ClassFile.FieldType.int)) ∈ lw_all := lw_g (lw_at lw_m9 71 rfl) rfl
theorem q2122 : (Jvm.Cond.methodLink "WhalePostModel" (352 : Nat) ({ cls := "WhalePostModel", name := "arrivalOf", desc := "(IIII)I" } : Jvm.MethodName)) ∈ lw_all := lw_g (lw_at lw_m9 72 rfl) rfl
theorem q2123 : (Jvm.Cond.privateMethod ({ cls := "WhalePostModel", name := "arrivalOf", desc := "(IIII)I" } : Jvm.MethodName)) ∈ lw_tbl := lw_at lw_m9 73 rfl
theorem q2124 : (Jvm.Cond.instanceMethod ({ cls := "WhalePostModel", name := "arrivalOf", desc := "(IIII)I" } : Jvm.MethodName)) ∈ lw_all := lw_g (lw_at lw_m9 74 rfl) rfl
theorem q2125 : (Jvm.Cond.code ({ cls := "WhalePostModel", name := "arrivalOf", desc := "(IIII)I" } : Jvm.MethodName) prog_16_method_85_code (5 : Nat) (Option.some Jvm.ClassFile.FieldType.int)) ∈ lw_all := lw_g (lw_at lw_m9 75 rfl) rfl
theorem q2126 : (Jvm.Cond.methodLink "WhalePostModel" (349 : Nat) ({ cls := "WhalePostModel", name := "layDays", desc := "(III)V" } : Jvm.MethodName)) ∈ lw_all := lw_g (lw_at lw_m9 76 rfl) rfl
theorem q2127 : (Jvm.Cond.privateMethod ({ cls := "WhalePostModel", name := "layDays", desc := "(III)V" } : Jvm.MethodName)) ∈ lw_tbl := lw_at lw_m9 77 rfl
theorem q2128 : (Jvm.Cond.instanceMethod ({ cls := "WhalePostModel", name := "layDays", desc := "(III)V" } : Jvm.MethodName)) ∈ lw_all := lw_g (lw_at lw_m9 78 rfl) rfl
theorem q2129 : (Jvm.Cond.code ({ cls := "WhalePostModel", name := "layDays", desc := "(III)V" } : Jvm.MethodName) prog_16_method_83_code (7 : Nat) (Option.none : Option Jvm.ClassFile.FieldType)) ∈ lw_all := lw_g (lw_at lw_m9 79 rfl) rfl
theorem q2130 : (Jvm.Cond.constant "WhalePostModel" (341 : Nat) (1000000 : Int32)) ∈ lw_all := lw_g (lw_at lw_m9 80 rfl) rfl
theorem q2131 : (Jvm.Cond.methodLink "WhalePostModel" (342 : Nat) ({ cls := "WhalePostModel", name := "goesBy", desc := "(III)V" } : Jvm.MethodName)) ∈ lw_all := lw_g (lw_at lw_m9 81 rfl) rfl
theorem q2132 : (Jvm.Cond.privateMethod ({ cls := "WhalePostModel", name := "goesBy", desc := "(III)V" } : Jvm.MethodName)) ∈ lw_tbl := lw_at lw_m9 82 rfl
theorem q2133 : (Jvm.Cond.instanceMethod ({ cls := "WhalePostModel", name := "goesBy", desc := "(III)V" } : Jvm.MethodName)) ∈ lw_all := lw_g (lw_at lw_m9 83 rfl) rfl
theorem q2134 : (Jvm.Cond.code ({ cls := "WhalePostModel", name := "goesBy", desc := "(III)V" } : Jvm.MethodName) prog_16_method_84_code (8 : Nat) (Option.none : Option Jvm.ClassFile.FieldType)) ∈ lw_all := lw_g (lw_at lw_m9 84 rfl) rfl
theorem q2135 : (Jvm.Cond.methodLink "WhalePostModel" (346 : Nat) ({ cls := "WhalePostModel", name := "dayBy", desc := "(III)I" } : Jvm.MethodName)) ∈ lw_all := lw_g (lw_at lw_m9 85 rfl) rfl
theorem q2136 : (Jvm.Cond.privateMethod ({ cls := "WhalePostModel", name := "dayBy", desc := "(III)I" } : Jvm.MethodName)) ∈ lw_tbl := lw_at lw_m9 86 rfl
theorem q2137 : (Jvm.Cond.instanceMethod ({ cls := "WhalePostModel", name := "dayBy", desc := "(III)I" } : Jvm.MethodName)) ∈ lw_all := lw_g (lw_at lw_m9 87 rfl) rfl
theorem q2138 : (Jvm.Cond.code ({ cls := "WhalePostModel", name := "dayBy", desc := "(III)I" } : Jvm.MethodName) prog_16_method_78_code (4 : Nat) (Option.some Jvm.ClassFile.FieldType.int)) ∈ lw_all := lw_g (lw_at lw_m9 88 rfl) rfl
theorem q2140 : (Jvm.Cond.instanceMethod ({ cls := "WhalePostModel", name := "brings", desc := "(II)I" } : Jvm.MethodName)) ∈ lw_all := lw_g (lw_at lw_m9 90 rfl) rfl
theorem q2141 : (Jvm.Cond.selects "WhalePostModel" ({ cls := "WhalePostModel", name := "brings", desc := "(II)I" } : Jvm.MethodName) ({ cls := "WhalePostModel", name := "brings", desc := "(II)I" } : Jvm.MethodName)) ∈ lw_all := lw_g (lw_at lw_m9 91 rfl) rfl
theorem q2142 : (Jvm.Cond.code ({ cls := "WhalePostModel", name := "brings", desc := "(II)I" } : Jvm.MethodName) prog_16_method_89_code (3 : Nat) (Option.some Jvm.ClassFile.FieldType.int)) ∈ lw_all := lw_g (lw_at lw_m9 92 rfl) rfl
theorem q2143 : (Jvm.Cond.methodLink "WhalePostModel" (367 : Nat) ({ cls := "WhalePostModel", name := "bringsOf", desc := "(II)I" } : Jvm.MethodName)) ∈ lw_all := lw_g (lw_at lw_m9 93 rfl) rfl
theorem q2144 : (Jvm.Cond.privateMethod ({ cls := "WhalePostModel", name := "bringsOf", desc := "(II)I" } : Jvm.MethodName)) ∈ lw_tbl := lw_at lw_m9 94 rfl
theorem q2145 : (Jvm.Cond.instanceMethod ({ cls := "WhalePostModel", name := "bringsOf", desc := "(II)I" } : Jvm.MethodName)) ∈ lw_all := lw_g (lw_at lw_m9 95 rfl) rfl
theorem q2146 : (Jvm.Cond.code ({ cls := "WhalePostModel", name := "bringsOf", desc := "(II)I" } : Jvm.MethodName) prog_16_method_88_code (3 : Nat) (Option.some Jvm.ClassFile.FieldType.int)) ∈ lw_all := lw_g (lw_at lw_m9 96 rfl) rfl
theorem q2147 : (Jvm.Cond.methodLink "WhalePostModel" (364 : Nat) ({ cls := "WhalePostModel", name := "lays", desc := "(II)Z" } : Jvm.MethodName)) ∈ lw_all := lw_g (lw_at lw_m9 97 rfl) rfl
theorem q2148 : (Jvm.Cond.privateMethod ({ cls := "WhalePostModel", name := "lays", desc := "(II)Z" } : Jvm.MethodName)) ∈ lw_tbl := lw_at lw_m9 98 rfl
theorem q2149 : (Jvm.Cond.instanceMethod ({ cls := "WhalePostModel", name := "lays", desc := "(II)Z" } : Jvm.MethodName)) ∈ lw_all := lw_g (lw_at lw_m9 99 rfl) rfl
theorem q2150 : (Jvm.Cond.code ({ cls := "WhalePostModel", name := "lays", desc := "(II)Z" } : Jvm.MethodName) prog_16_method_87_code (7 : Nat) (Option.some Jvm.ClassFile.FieldType.boolean)) ∈ lw_all := lw_g (lw_at lw_m9 100 rfl) rfl
theorem q2151 : (Jvm.Cond.methodLink "WhalePostModel" (355 : Nat) ({ cls := "WhalePostModel", name := "late\x72", desc := "(II)I" } : Jvm.MethodName)) ∈ lw_all := lw_g (lw_at lw_m9 101 rfl) rfl
theorem q2152 : (Jvm.Cond.static ({ cls := "WhalePostModel", name := "late\x72", desc := "(II)I" } : Jvm.MethodName)) ∈ lw_all := lw_g (lw_at lw_m9 102 rfl) rfl
theorem q2153 : (Jvm.Cond.code ({ cls := "WhalePostModel", name := "late\x72", desc := "(II)I" } : Jvm.MethodName) prog_16_method_10_code (2 : Nat) (Option.some Jvm.ClassFile.FieldType.int)) ∈ lw_all := lw_g (lw_at lw_m9 103 rfl) rfl
theorem q2155 : (Jvm.Cond.instanceMethod ({ cls := "WhalePostModel", name := "soonest", desc := "(I)I" } : Jvm.MethodName)) ∈ lw_all := lw_g (lw_at lw_m9 105 rfl) rfl
theorem q2156 : (Jvm.Cond.selects "WhalePostModel" ({ cls := "WhalePostModel", name := "soonest", desc := "(I)I" } : Jvm.MethodName) ({ cls := "WhalePostModel", name := "soonest", desc := "(I)I" } : Jvm.MethodName)) ∈ lw_all := lw_g (lw_at lw_m9 106 rfl) rfl
theorem q2157 : (Jvm.Cond.code ({ cls := "WhalePostModel", name := "soonest", desc := "(I)I" } : Jvm.MethodName) prog_16_method_90_code (4 : Nat) (Option.some Jvm.ClassFile.FieldType.int)) ∈ lw_all := lw_g (lw_at lw_m9 107 rfl) rfl
theorem q2159 : (Jvm.Cond.instanceMethod ({ cls := "WhalePostModel", name := "surest", desc := "(I)I" } : Jvm.MethodName)) ∈ lw_all := lw_g (lw_at lw_m9 109 rfl) rfl
theorem q2160 : (Jvm.Cond.selects "WhalePostModel" ({ cls := "WhalePostModel", name := "surest", desc := "(I)I" } : Jvm.MethodName) ({ cls := "WhalePostModel", name := "surest", desc := "(I)I" } : Jvm.MethodName)) ∈ lw_all := lw_g (lw_at lw_m9 110 rfl) rfl
theorem q2161 : (Jvm.Cond.code ({ cls := "WhalePostModel", name := "surest", desc := "(I)I" } : Jvm.MethodName) prog_16_method_92_code (2 : Nat) (Option.some Jvm.ClassFile.FieldType.int)) ∈ lw_all := lw_g (lw_at lw_m9 111 rfl) rfl
theorem q2162 : (Jvm.Cond.methodLink "WhalePostModel" (370 : Nat) ({ cls := "WhalePostModel", name := "surestBut", desc := "(II)I" } : Jvm.MethodName)) ∈ lw_all := lw_g (lw_at lw_m9 112 rfl) rfl
theorem q2163 : (Jvm.Cond.privateMethod ({ cls := "WhalePostModel", name := "surestBut", desc := "(II)I" } : Jvm.MethodName)) ∈ lw_tbl := lw_at lw_m9 113 rfl
theorem q2164 : (Jvm.Cond.instanceMethod ({ cls := "WhalePostModel", name := "surestBut", desc := "(II)I" } : Jvm.MethodName)) ∈ lw_all := lw_g (lw_at lw_m9 114 rfl) rfl
theorem q2165 : (Jvm.Cond.code ({ cls := "WhalePostModel", name := "surestBut", desc := "(II)I" } : Jvm.MethodName) prog_16_method_91_code (5 : Nat) (Option.some Jvm.ClassFile.FieldType.int)) ∈ lw_all := lw_g (lw_at lw_m9 115 rfl) rfl
theorem q2167 : (Jvm.Cond.instanceMethod ({ cls := "WhalePostModel", name := "by", desc := "(II)I" } : Jvm.MethodName)) ∈ lw_all := lw_g (lw_at lw_m9 117 rfl) rfl
theorem q2168 : (Jvm.Cond.selects "WhalePostModel" ({ cls := "WhalePostModel", name := "by", desc := "(II)I" } : Jvm.MethodName) ({ cls := "WhalePostModel", name := "by", desc := "(II)I" } : Jvm.MethodName)) ∈ lw_all := lw_g (lw_at lw_m9 118 rfl) rfl
theorem q2169 : (Jvm.Cond.code ({ cls := "WhalePostModel", name := "by", desc := "(II)I" } : Jvm.MethodName) prog_16_method_93_code (5 : Nat) (Option.some Jvm.ClassFile.FieldType.int)) ∈ lw_all := lw_g (lw_at lw_m9 119 rfl) rfl
theorem q2171 : (Jvm.Cond.instanceMethod ({ cls := "WhalePostModel", name := "registered", desc := "(IZ)J" } : Jvm.MethodName)) ∈ lw_all := lw_g (lw_at lw_m9 121 rfl) rfl
theorem q2172 : (Jvm.Cond.selects "WhalePostModel" ({ cls := "WhalePostModel", name := "registered", desc := "(IZ)J" } : Jvm.MethodName) ({ cls := "WhalePostModel", name := "registered", desc := "(IZ)J" } : Jvm.MethodName)) ∈ lw_all := lw_g (lw_at lw_m9 122 rfl) rfl
theorem q2173 : (Jvm.Cond.code ({ cls := "WhalePostModel", name := "registered", desc := "(IZ)J" } : Jvm.MethodName) prog_16_method_95_code (6 : Nat) (Option.some Jvm.ClassFile.FieldType.long)) ∈ lw_all := lw_g (lw_at lw_m9 123 rfl) rfl
theorem q2174 : (Jvm.Cond.constantLong "WhalePostModel" (373 : Nat) (10000 : Int64)) ∈ lw_all := lw_g (lw_at lw_m9 124 rfl) rfl
theorem q2175 : (Jvm.Cond.methodLink "WhalePostModel" (375 : Nat) ({ cls := "WhalePostModel", name := "lowest", desc := "(JJZ)J" } : Jvm.MethodName)) ∈ lw_all := lw_g (lw_at lw_m9 125 rfl) rfl
theorem q2176 : (Jvm.Cond.static ({ cls := "WhalePostModel", name := "lowest", desc := "(JJZ)J" } : Jvm.MethodName)) ∈ lw_all := lw_g (lw_at lw_m9 126 rfl) rfl
theorem q2177 : (Jvm.Cond.code ({ cls := "WhalePostModel", name := "lowest", desc := "(JJZ)J" } : Jvm.MethodName) prog_16_method_94_code (11 : Nat) (Option.some Jvm.ClassFile.FieldType.long)) ∈ lw_all := lw_g (lw_at lw_m9 127 rfl) rfl
theorem q2179 : (Jvm.Cond.instanceMethod ({ cls := "WhalePostModel", name := "match", desc := "()I" } : Jvm.MethodName)) ∈ lw_all := lw_g (lw_at lw_m9 129 rfl) rfl
theorem q2180 : (Jvm.Cond.selects "WhalePostModel" ({ cls := "WhalePostModel", name := "match", desc := "()I" } : Jvm.MethodName) ({ cls := "WhalePostModel", name := "match", desc := "()I" } : Jvm.MethodName)) ∈ lw_all := lw_g (lw_at lw_m9 130 rfl) rfl
theorem q2181 : (Jvm.Cond.code ({ cls := "WhalePostModel", name := "match", desc := "()I" } : Jvm.MethodName) prog_16_method_98_code (1 : Nat) (Option.some Jvm.ClassFile.FieldType.int)) ∈ lw_all := lw_g (lw_at lw_m9 131 rfl) rfl
theorem q2182 : (Jvm.Cond.methodLink "WhalePostModel" (389 : Nat) ({ cls := "WhalePostModel", name := "seekMatch", desc := "()V" } : Jvm.MethodName)) ∈ lw_all := lw_g (lw_at lw_m9 132 rfl) rfl
theorem q2183 : (Jvm.Cond.privateMethod ({ cls := "WhalePostModel", name := "seekMatch", desc := "()V" } : Jvm.MethodName)) ∈ lw_tbl := lw_at lw_m9 133 rfl
theorem q2184 : (Jvm.Cond.instanceMethod ({ cls := "WhalePostModel", name := "seekMatch", desc := "()V" } : Jvm.MethodName)) ∈ lw_all := lw_g (lw_at lw_m9 134 rfl) rfl
theorem q2185 : (Jvm.Cond.code ({ cls := "WhalePostModel", name := "seekMatch", desc := "()V" } : Jvm.MethodName) prog_16_method_97_code (3 : Nat) (Option.none : Option Jvm.ClassFile.FieldType)) ∈ lw_all := lw_g (lw_at lw_m9 135 rfl) rfl
theorem q2186 : (Jvm.Cond.methodLink "WhalePostModel" (385 : Nat) ({ cls := "WhalePostModel", name := "tryMatch", desc := "(IIII)V" } : Jvm.MethodName)) ∈ lw_all := lw_g (lw_at lw_m9 136 rfl) rfl
theorem q2187 : (Jvm.Cond.privateMethod ({ cls := "WhalePostModel", name := "tryMatch", desc := "(IIII)V" } : Jvm.MethodName)) ∈ lw_tbl := lw_at lw_m9 137 rfl
theorem q2188 : (Jvm.Cond.instanceMethod ({ cls := "WhalePostModel", name := "tryMatch", desc := "(IIII)V" } : Jvm.MethodName)) ∈ lw_all := lw_g (lw_at lw_m9 138 rfl) rfl
theorem q2189 : (Jvm.Cond.code ({ cls := "WhalePostModel", name := "tryMatch", desc := "(IIII)V" } : Jvm.MethodName) prog_16_method_96_code (6 : Nat) (Option.none : Option Jvm.ClassFile.FieldType)) ∈ lw_all := lw_g (lw_at lw_m9 139 rfl) rfl
theorem q2191 : (Jvm.Cond.instanceMethod ({ cls := "WhalePostModel", name := "matchDays", desc := "()I" } : Jvm.MethodName)) ∈ lw_all := lw_g (lw_at lw_m9 141 rfl) rfl
theorem q2192 : (Jvm.Cond.selects "WhalePostModel" ({ cls := "WhalePostModel", name := "matchDays", desc := "()I" } : Jvm.MethodName) ({ cls := "WhalePostModel", name := "matchDays", desc := "()I" } : Jvm.MethodName)) ∈ lw_all := lw_g (lw_at lw_m9 142 rfl) rfl
theorem q2193 : (Jvm.Cond.code ({ cls := "WhalePostModel", name := "matchDays", desc := "()I" } : Jvm.MethodName) prog_16_method_99_code (1 : Nat) (Option.some Jvm.ClassFile.FieldType.int)) ∈ lw_all := lw_g (lw_at lw_m9 143 rfl) rfl
theorem q2195 : (Jvm.Cond.instanceMethod ({ cls := "WhalePostModel", name := "matchOf", desc := "(I)I" } : Jvm.MethodName)) ∈ lw_all := lw_g (lw_at lw_m9 145 rfl) rfl
theorem q2196 : (Jvm.Cond.selects "WhalePostModel" ({ cls := "WhalePostModel", name := "matchOf", desc := "(I)I" } : Jvm.MethodName) ({ cls := "WhalePostModel", name := "matchOf", desc := "(I)I" } : Jvm.MethodName)) ∈ lw_all := lw_g (lw_at lw_m9 146 rfl) rfl
theorem q2197 : (Jvm.Cond.code ({ cls := "WhalePostModel", name := "matchOf", desc := "(I)I" } : Jvm.MethodName) prog_16_method_100_code (2 : Nat) (Option.some Jvm.ClassFile.FieldType.int)) ∈ lw_all := lw_g (lw_at lw_m9 147 rfl) rfl
theorem q2199 : (Jvm.Cond.instanceMethod ({ cls := "WhalePostModel", name := "meet", desc := "(IIII)I" } : Jvm.MethodName)) ∈ lw_all := lw_g (lw_at lw_m9 149 rfl) rfl
theorem q2200 : (Jvm.Cond.selects "WhalePostModel" ({ cls := "WhalePostModel", name := "meet", desc := "(IIII)I" } : Jvm.MethodName) ({ cls := "WhalePostModel", name := "meet", desc := "(IIII)I" } : Jvm.MethodName)) ∈ lw_all := lw_g (lw_at lw_m9 150 rfl) rfl
theorem q2201 : (Jvm.Cond.code ({ cls := "WhalePostModel", name := "meet", desc := "(IIII)I" } : Jvm.MethodName) prog_16_method_101_code (8 : Nat) (Option.some Jvm.ClassFile.FieldType.int)) ∈ lw_all := lw_g (lw_at lw_m9 151 rfl) rfl
theorem q2203 : (Jvm.Cond.instanceMethod ({ cls := "WhalePostModel", name := "fits", desc := "()I" } : Jvm.MethodName)) ∈ lw_all := lw_g (lw_at lw_m9 153 rfl) rfl
theorem q2204 : (Jvm.Cond.selects "WhalePostModel" ({ cls := "WhalePostModel", name := "fits", desc := "()I" } : Jvm.MethodName) ({ cls := "WhalePostModel", name := "fits", desc := "()I" } : Jvm.MethodName)) ∈ lw_all := lw_g (lw_at lw_m9 154 rfl) rfl
theorem q2205 : (Jvm.Cond.code ({ cls := "WhalePostModel", name := "fits", desc := "()I" } : Jvm.MethodName) prog_16_method_103_code (3 : Nat) (Option.some Jvm.ClassFile.FieldType.int)) ∈ lw_all := lw_g (lw_at lw_m9 155 rfl) rfl
theorem q2206 : (Jvm.Cond.methodLink "WhalePostModel" (398 : Nat) ({ cls := "WhalePostModel", name := "fitsAll", desc := "(I)Z" } : Jvm.MethodName)) ∈ lw_all := lw_g (lw_at lw_m9 156 rfl) rfl
theorem q2207 : (Jvm.Cond.privateMethod ({ cls := "WhalePostModel", name := "fitsAll", desc := "(I)Z" } : Jvm.MethodName)) ∈ lw_tbl := lw_at lw_m9 157 rfl
theorem q2208 : (Jvm.Cond.instanceMethod ({ cls := "WhalePostModel", name := "fitsAll", desc := "(I)Z" } : Jvm.MethodName)) ∈ lw_all := lw_g (lw_at lw_m9 158 rfl) rfl
theorem q2209 : (Jvm.Cond.code ({ cls := "WhalePostModel", name := "fitsAll", desc := "(I)Z" } : Jvm.MethodName) prog_16_method_102_code (6 : Nat) (Option.some Jvm.ClassFile.FieldType.boolean)) ∈ lw_all := lw_g (lw_at lw_m9 159 rfl) rfl
theorem q2211 : (Jvm.Cond.instanceMethod ({ cls := "WhalePostModel", name := "reach", desc := "(II)I" } : Jvm.MethodName)) ∈ lw_all := lw_g (lw_at lw_m9 161 rfl) rfl
theorem q2212 : (Jvm.Cond.selects "WhalePostModel" ({ cls := "WhalePostModel", name := "reach", desc := "(II)I" } : Jvm.MethodName) ({ cls := "WhalePostModel", name := "reach", desc := "(II)I" } : Jvm.MethodName)) ∈ lw_all := lw_g (lw_at lw_m9 162 rfl) rfl
theorem q2213 : (Jvm.Cond.code ({ cls := "WhalePostModel", name := "reach", desc := "(II)I" } : Jvm.MethodName) prog_16_method_105_code (3 : Nat) (Option.some Jvm.ClassFile.FieldType.int)) ∈ lw_all := lw_g (lw_at lw_m9 163 rfl) rfl
theorem q2214 : (Jvm.Cond.methodLink "WhalePostModel" (401 : Nat) ({ cls := "WhalePostModel", name := "reachOf", desc := "(II)I" } : Jvm.MethodName)) ∈ lw_all := lw_g (lw_at lw_m9 164 rfl) rfl
theorem q2215 : (Jvm.Cond.privateMethod ({ cls := "WhalePostModel", name := "reachOf", desc := "(II)I" } : Jvm.MethodName)) ∈ lw_tbl := lw_at lw_m9 165 rfl
theorem q2216 : (Jvm.Cond.instanceMethod ({ cls := "WhalePostModel", name := "reachOf", desc := "(II)I" } : Jvm.MethodName)) ∈ lw_all := lw_g (lw_at lw_m9 166 rfl) rfl
theorem q2217 : (Jvm.Cond.code ({ cls := "WhalePostModel", name := "reachOf", desc := "(II)I" } : Jvm.MethodName) prog_16_method_104_code (5 : Nat) (Option.some Jvm.ClassFile.FieldType.int)) ∈ lw_all := lw_g (lw_at lw_m9 167 rfl) rfl
theorem q2219 : (Jvm.Cond.instanceMethod ({ cls := "WhalePostModel", name := "pie\x72", desc := "(I)I" } : Jvm.MethodName)) ∈ lw_all := lw_g (lw_at lw_m9 169 rfl) rfl
theorem q2220 : (Jvm.Cond.selects "WhalePostModel" ({ cls := "WhalePostModel", name := "pie\x72", desc := "(I)I" } : Jvm.MethodName) ({ cls := "WhalePostModel", name := "pie\x72", desc := "(I)I" } : Jvm.MethodName)) ∈ lw_all := lw_g (lw_at lw_m9 170 rfl) rfl
theorem q2221 : (Jvm.Cond.code ({ cls := "WhalePostModel", name := "pie\x72", desc := "(I)I" } : Jvm.MethodName) prog_16_method_106_code (8 : Nat) (Option.some Jvm.ClassFile.FieldType.int)) ∈ lw_all := lw_g (lw_at lw_m9 171 rfl) rfl
theorem q2223 : (Jvm.Cond.instanceMethod ({ cls := "WhalePostModel", name := "watch", desc := "(II)I" } : Jvm.MethodName)) ∈ lw_all := lw_g (lw_at lw_m9 173 rfl) rfl
theorem q2224 : (Jvm.Cond.selects "WhalePostModel" ({ cls := "WhalePostModel", name := "watch", desc := "(II)I" } : Jvm.MethodName) ({ cls := "WhalePostModel", name := "watch", desc := "(II)I" } : Jvm.MethodName)) ∈ lw_all := lw_g (lw_at lw_m9 174 rfl) rfl
theorem q2225 : (Jvm.Cond.code ({ cls := "WhalePostModel", name := "watch", desc := "(II)I" } : Jvm.MethodName) prog_16_method_108_code (5 : Nat) (Option.some Jvm.ClassFile.FieldType.int)) ∈ lw_all := lw_g (lw_at lw_m9 175 rfl) rfl
theorem q2226 : (Jvm.Cond.methodLink "WhalePostModel" (404 : Nat) ({ cls := "WhalePostModel", name := "ones", desc := "(I)I" } : Jvm.MethodName)) ∈ lw_all := lw_g (lw_at lw_m9 176 rfl) rfl
theorem q2227 : (Jvm.Cond.static ({ cls := "WhalePostModel", name := "ones", desc := "(I)I" } : Jvm.MethodName)) ∈ lw_all := lw_g (lw_at lw_m9 177 rfl) rfl
theorem q2228 : (Jvm.Cond.code ({ cls := "WhalePostModel", name := "ones", desc := "(I)I" } : Jvm.MethodName) prog_16_method_8_code (3 : Nat) (Option.some Jvm.ClassFile.FieldType.int)) ∈ lw_all := lw_g (lw_at lw_m9 178 rfl) rfl
theorem q2229 : (Jvm.Cond.methodLink "WhalePostModel" (407 : Nat) ({ cls := "WhalePostModel", name := "doLead", desc := "(III)Z" } : Jvm.MethodName)) ∈ lw_all := lw_g (lw_at lw_m9 179 rfl) rfl
theorem q2230 : (Jvm.Cond.privateMethod ({ cls := "WhalePostModel", name := "doLead", desc := "(III)Z" } : Jvm.MethodName)) ∈ lw_tbl := lw_at lw_m9 180 rfl
theorem q2231 : (Jvm.Cond.instanceMethod ({ cls := "WhalePostModel", name := "doLead", desc := "(III)Z" } : Jvm.MethodName)) ∈ lw_all := lw_g (lw_at lw_m9 181 rfl) rfl
theorem q2232 : (Jvm.Cond.code ({ cls := "WhalePostModel", name := "doLead", desc := "(III)Z" } : Jvm.MethodName) prog_16_method_107_code (8 : Nat) (Option.some Jvm.ClassFile.FieldType.boolean)) ∈ lw_all := lw_g (lw_at lw_m9 182 rfl) rfl
theorem q2234 : (Jvm.Cond.instanceMethod ({ cls := "WhalePostModel", name := "round", desc := "(I)I" } : Jvm.MethodName)) ∈ lw_all := lw_g (lw_at lw_m9 184 rfl) rfl
theorem q2235 : (Jvm.Cond.selects "WhalePostModel" ({ cls := "WhalePostModel", name := "round", desc := "(I)I" } : Jvm.MethodName) ({ cls := "WhalePostModel", name := "round", desc := "(I)I" } : Jvm.MethodName)) ∈ lw_all := lw_g (lw_at lw_m9 185 rfl) rfl
theorem q2236 : (Jvm.Cond.code ({ cls := "WhalePostModel", name := "round", desc := "(I)I" } : Jvm.MethodName) prog_16_method_112_code (2 : Nat) (Option.some Jvm.ClassFile.FieldType.int)) ∈ lw_all := lw_g (lw_at lw_m9 186 rfl) rfl
theorem q2237 : (Jvm.Cond.methodLink "WhalePostModel" (419 : Nat) ({ cls := "WhalePostModel", name := "seekRound", desc := "(I)I" } : Jvm.MethodName)) ∈ lw_all := lw_g (lw_at lw_m9 187 rfl) rfl
theorem q2238 : (Jvm.Cond.privateMethod ({ cls := "WhalePostModel", name := "seekRound", desc := "(I)I" } : Jvm.MethodName)) ∈ lw_tbl := lw_at lw_m9 188 rfl
theorem q2239 : (Jvm.Cond.instanceMethod ({ cls := "WhalePostModel", name := "seekRound", desc := "(I)I" } : Jvm.MethodName)) ∈ lw_all := lw_g (lw_at lw_m9 189 rfl) rfl
theorem q2240 : (Jvm.Cond.code ({ cls := "WhalePostModel", name := "seekRound", desc := "(I)I" } : Jvm.MethodName) prog_16_method_111_code (2 : Nat) (Option.some Jvm.ClassFile.FieldType.int)) ∈ lw_all := lw_g (lw_at lw_m9 190 rfl) rfl
theorem q2241 : (Jvm.Cond.methodLink "WhalePostModel" (416 : Nat) ({ cls := "WhalePostModel", name := "layFa\x72", desc := "()V" } : Jvm.MethodName)) ∈ lw_all := lw_g (lw_at lw_m9 191 rfl) rfl
theorem q2242 : (Jvm.Cond.privateMethod ({ cls := "WhalePostModel", name := "layFa\x72", desc := "()V" } : Jvm.MethodName)) ∈ lw_tbl := lw_at lw_m9 192 rfl
theorem q2243 : (Jvm.Cond.instanceMethod ({ cls := "WhalePostModel", name := "layFa\x72", desc := "()V" } : Jvm.MethodName)) ∈ lw_all := lw_g (lw_at lw_m9 193 rfl) rfl
theorem q2244 : (Jvm.Cond.code ({ cls := "WhalePostModel", name := "layFa\x72", desc := "()V" } : Jvm.MethodName) prog_16_method_109_code (4 : Nat) (Option.none : Option Jvm.ClassFile.FieldType)) ∈ lw_all := lw_g (lw_at lw_m9 194 rfl) rfl
theorem q2245 : (Jvm.Cond.methodLink "WhalePostModel" (413 : Nat) ({ cls := "WhalePostModel", name := "tryRound", desc := "(III)V" } : Jvm.MethodName)) ∈ lw_all := lw_g (lw_at lw_m9 195 rfl) rfl
theorem q2246 : (Jvm.Cond.privateMethod ({ cls := "WhalePostModel", name := "tryRound", desc := "(III)V" } : Jvm.MethodName)) ∈ lw_tbl := lw_at lw_m9 196 rfl
theorem q2247 : (Jvm.Cond.instanceMethod ({ cls := "WhalePostModel", name := "tryRound", desc := "(III)V" } : Jvm.MethodName)) ∈ lw_all := lw_g (lw_at lw_m9 197 rfl) rfl
theorem q2248 : (Jvm.Cond.code ({ cls := "WhalePostModel", name := "tryRound", desc := "(III)V" } : Jvm.MethodName) prog_16_method_110_code (5 : Nat) (Option.none : Option Jvm.ClassFile.FieldType)) ∈ lw_all := lw_g (lw_at lw_m9 198 rfl) rfl
theorem q2250 : (Jvm.Cond.instanceMethod ({ cls := "WhalePostModel", name := "roundAt", desc := "(II)I" } : Jvm.MethodName)) ∈ lw_all := lw_g (lw_at lw_m9 200 rfl) rfl
theorem q2251 : (Jvm.Cond.selects "WhalePostModel" ({ cls := "WhalePostModel", name := "roundAt", desc := "(II)I" } : Jvm.MethodName) ({ cls := "WhalePostModel", name := "roundAt", desc := "(II)I" } : Jvm.MethodName)) ∈ lw_all := lw_g (lw_at lw_m9 201 rfl) rfl
theorem q2252 : (Jvm.Cond.code ({ cls := "WhalePostModel", name := "roundAt", desc := "(II)I" } : Jvm.MethodName) prog_16_method_113_code (3 : Nat) (Option.some Jvm.ClassFile.FieldType.int)) ∈ lw_all := lw_g (lw_at lw_m9 202 rfl) rfl
theorem q2254 : (Jvm.Cond.instanceMethod ({ cls := "WhalePostModel", name := "decade", desc := "(II)I" } : Jvm.MethodName)) ∈ lw_all := lw_g (lw_at lw_m9 204 rfl) rfl
theorem q2255 : (Jvm.Cond.selects "WhalePostModel" ({ cls := "WhalePostModel", name := "decade", desc := "(II)I" } : Jvm.MethodName) ({ cls := "WhalePostModel", name := "decade", desc := "(II)I" } : Jvm.MethodName)) ∈ lw_all := lw_g (lw_at lw_m9 205 rfl) rfl
theorem q2256 : (Jvm.Cond.code ({ cls := "WhalePostModel", name := "decade", desc := "(II)I" } : Jvm.MethodName) prog_16_method_114_code (9 : Nat) (Option.some Jvm.ClassFile.FieldType.int)) ∈ lw_all := lw_g (lw_at lw_m9 206 rfl) rfl
theorem q2257 : (Jvm.Cond.constant "WhalePostModel" (422 : Nat) (65536 : Int32)) ∈ lw_all := lw_g (lw_at lw_m9 207 rfl) rfl
theorem q2258 : (Jvm.Cond.constant "WhalePostModel" (423 : Nat) (65537 : Int32)) ∈ lw_all := lw_g (lw_at lw_m9 208 rfl) rfl
theorem q2260 : (Jvm.Cond.instanceMethod ({ cls := "WhalePostModel", name := "send", desc := "(II)I" } : Jvm.MethodName)) ∈ lw_all := lw_g (lw_at lw_m9 210 rfl) rfl
theorem q2261 : (Jvm.Cond.selects "WhalePostModel" ({ cls := "WhalePostModel", name := "send", desc := "(II)I" } : Jvm.MethodName) ({ cls := "WhalePostModel", name := "send", desc := "(II)I" } : Jvm.MethodName)) ∈ lw_all := lw_g (lw_at lw_m9 211 rfl) rfl
theorem q2262 : (Jvm.Cond.code ({ cls := "WhalePostModel", name := "send", desc := "(II)I" } : Jvm.MethodName) prog_16_method_116_code (5 : Nat) (Option.some Jvm.ClassFile.FieldType.int)) ∈ lw_all := lw_g (lw_at lw_m9 212 rfl) rfl
theorem q2263 : (Jvm.Cond.methodLink "WhalePostModel" (424 : Nat) ({ cls := "WhalePostModel", name := "note1", desc := "()V" } : Jvm.MethodName)) ∈ lw_all := lw_g (lw_at lw_m9 213 rfl) rfl
theorem q2264 : (Jvm.Cond.privateMethod ({ cls := "WhalePostModel", name := "note1", desc := "()V" } : Jvm.MethodName)) ∈ lw_tbl := lw_at lw_m9 214 rfl
theorem q2265 : (Jvm.Cond.instanceMethod ({ cls := "WhalePostModel", name := "note1", desc := "()V" } : Jvm.MethodName)) ∈ lw_all := lw_g (lw_at lw_m9 215 rfl) rfl
theorem q2266 : (Jvm.Cond.code ({ cls := "WhalePostModel", name := "note1", desc := "()V" } : Jvm.MethodName) prog_16_method_115_code (2 : Nat) (Option.none : Option Jvm.ClassFile.FieldType)) ∈ lw_all := lw_g (lw_at lw_m9 216 rfl) rfl
theorem q2268 : (Jvm.Cond.instanceMethod ({ cls := "WhalePostModel", name := "tune", desc := "(III)Z" } : Jvm.MethodName)) ∈ lw_all := lw_g (lw_at lw_m9 218 rfl) rfl
theorem q2269 : (Jvm.Cond.selects "WhalePostModel" ({ cls := "WhalePostModel", name := "tune", desc := "(III)Z" } : Jvm.MethodName) ({ cls := "WhalePostModel", name := "tune", desc := "(III)Z" } : Jvm.MethodName)) ∈ lw_all := lw_g (lw_at lw_m9 219 rfl) rfl
theorem q2270 : (Jvm.Cond.code ({ cls := "WhalePostModel", name := "tune", desc := "(III)Z" } : Jvm.MethodName) prog_16_method_117_code (4 : Nat) (Option.some Jvm.ClassFile.FieldType.boolean)) ∈ lw_all := lw_g (lw_at lw_m9 220 rfl) rfl
theorem q2271 : (Jvm.Cond.methodLink "WhalePostModel" (427 : Nat) ({ cls := "WhalePostModel", name := "isNot", desc := "(I)Z" } : Jvm.MethodName)) ∈ lw_all := lw_g (lw_at lw_m9 221 rfl) rfl
theorem q2272 : (Jvm.Cond.privateMethod ({ cls := "WhalePostModel", name := "isNot", desc := "(I)Z" } : Jvm.MethodName)) ∈ lw_tbl := lw_at lw_m9 222 rfl
theorem q2273 : (Jvm.Cond.instanceMethod ({ cls := "WhalePostModel", name := "isNot", desc := "(I)Z" } : Jvm.MethodName)) ∈ lw_all := lw_g (lw_at lw_m9 223 rfl) rfl
theorem q2274 : (Jvm.Cond.code ({ cls := "WhalePostModel", name := "isNot", desc := "(I)Z" } : Jvm.MethodName) prog_16_method_5_code (2 : Nat) (Option.some Jvm.ClassFile.FieldType.boolean)) ∈ lw_all := lw_g (lw_at lw_m9 224 rfl) rfl
theorem q2276 : (Jvm.Cond.instanceMethod ({ cls := "WhalePostModel", name := "years", desc := "(I)I" } : Jvm.MethodName)) ∈ lw_all := lw_g (lw_at lw_m9 226 rfl) rfl
theorem q2277 : (Jvm.Cond.selects "WhalePostModel" ({ cls := "WhalePostModel", name := "years", desc := "(I)I" } : Jvm.MethodName) ({ cls := "WhalePostModel", name := "years", desc := "(I)I" } : Jvm.MethodName)) ∈ lw_all := lw_g (lw_at lw_m9 227 rfl) rfl
theorem q2278 : (Jvm.Cond.code ({ cls := "WhalePostModel", name := "years", desc := "(I)I" } : Jvm.MethodName) prog_16_method_118_code (2 : Nat) (Option.some Jvm.ClassFile.FieldType.int)) ∈ lw_all := lw_g (lw_at lw_m9 228 rfl) rfl
theorem q2280 : (Jvm.Cond.instanceMethod ({ cls := "WhalePostModel", name := "close", desc := "(IZ)Z" } : Jvm.MethodName)) ∈ lw_all := lw_g (lw_at lw_m9 230 rfl) rfl
theorem q2281 : (Jvm.Cond.selects "WhalePostModel" ({ cls := "WhalePostModel", name := "close", desc := "(IZ)Z" } : Jvm.MethodName) ({ cls := "WhalePostModel", name := "close", desc := "(IZ)Z" } : Jvm.MethodName)) ∈ lw_all := lw_g (lw_at lw_m9 231 rfl) rfl
theorem q2282 : (Jvm.Cond.code ({ cls := "WhalePostModel", name := "close", desc := "(IZ)Z" } : Jvm.MethodName) prog_16_method_119_code (3 : Nat) (Option.some Jvm.ClassFile.FieldType.boolean)) ∈ lw_all := lw_g (lw_at lw_m9 232 rfl) rfl
theorem q2284 : (Jvm.Cond.instanceMethod ({ cls := "WhalePostModel", name := "undo", desc := "()Z" } : Jvm.MethodName)) ∈ lw_all := lw_g (lw_at lw_m9 234 rfl) rfl
theorem q2285 : (Jvm.Cond.selects "WhalePostModel" ({ cls := "WhalePostModel", name := "undo", desc := "()Z" } : Jvm.MethodName) ({ cls := "WhalePostModel", name := "undo", desc := "()Z" } : Jvm.MethodName)) ∈ lw_all := lw_g (lw_at lw_m9 235 rfl) rfl
theorem q2286 : (Jvm.Cond.code ({ cls := "WhalePostModel", name := "undo", desc := "()Z" } : Jvm.MethodName) prog_16_method_120_code (1 : Nat) (Option.some Jvm.ClassFile.FieldType.boolean)) ∈ lw_all := lw_g (lw_at lw_m9 236 rfl) rfl
theorem q2288 : (Jvm.Cond.instanceMethod ({ cls := "WhalePostModel", name := "image", desc := "()I" } : Jvm.MethodName)) ∈ lw_all := lw_g (lw_at lw_m9 238 rfl) rfl
theorem q2289 : (Jvm.Cond.selects "WhalePostModel" ({ cls := "WhalePostModel", name := "image", desc := "()I" } : Jvm.MethodName) ({ cls := "WhalePostModel", name := "image", desc := "()I" } : Jvm.MethodName)) ∈ lw_all := lw_g (lw_at lw_m9 239 rfl) rfl
theorem q2290 : (Jvm.Cond.code ({ cls := "WhalePostModel", name := "image", desc := "()I" } : Jvm.MethodName) prog_16_method_121_code (1 : Nat) (Option.some Jvm.ClassFile.FieldType.int)) ∈ lw_all := lw_g (lw_at lw_m10 0 rfl) rfl
theorem q2292 : (Jvm.Cond.instanceMethod ({ cls := "WhalePostModel", name := "back", desc := "(I)Z" } : Jvm.MethodName)) ∈ lw_all := lw_g (lw_at lw_m10 2 rfl) rfl
theorem q2293 : (Jvm.Cond.selects "WhalePostModel" ({ cls := "WhalePostModel", name := "back", desc := "(I)Z" } : Jvm.MethodName) ({ cls := "WhalePostModel", name := "back", desc := "(I)Z" } : Jvm.MethodName)) ∈ lw_all := lw_g (lw_at lw_m10 3 rfl) rfl
theorem q2294 : (Jvm.Cond.code ({ cls := "WhalePostModel", name := "back", desc := "(I)Z" } : Jvm.MethodName) prog_16_method_122_code (2 : Nat) (Option.some Jvm.ClassFile.FieldType.boolean)) ∈ lw_all := lw_g (lw_at lw_m10 4 rfl) rfl
theorem q2296 : (Jvm.Cond.instanceMethod ({ cls := "WhalePostModel", name := "led", desc := "(I)I" } : Jvm.MethodName)) ∈ lw_all := lw_g (lw_at lw_m10 6 rfl) rfl
theorem q2297 : (Jvm.Cond.selects "WhalePostModel" ({ cls := "WhalePostModel", name := "led", desc := "(I)I" } : Jvm.MethodName) ({ cls := "WhalePostModel", name := "led", desc := "(I)I" } : Jvm.MethodName)) ∈ lw_all := lw_g (lw_at lw_m10 7 rfl) rfl
theorem q2298 : (Jvm.Cond.code ({ cls := "WhalePostModel", name := "led", desc := "(I)I" } : Jvm.MethodName) prog_16_method_123_code (4 : Nat) (Option.some Jvm.ClassFile.FieldType.int)) ∈ lw_all := lw_g (lw_at lw_m10 8 rfl) rfl
theorem q2300 : (Jvm.Cond.instanceMethod ({ cls := "WhalePostModel", name := "size", desc := "(I)I" } : Jvm.MethodName)) ∈ lw_all := lw_g (lw_at lw_m10 10 rfl) rfl
theorem q2301 : (Jvm.Cond.selects "WhalePostModel" ({ cls := "WhalePostModel", name := "size", desc := "(I)I" } : Jvm.MethodName) ({ cls := "WhalePostModel", name := "size", desc := "(I)I" } : Jvm.MethodName)) ∈ lw_all := lw_g (lw_at lw_m10 11 rfl) rfl
theorem q2302 : (Jvm.Cond.code ({ cls := "WhalePostModel", name := "size", desc := "(I)I" } : Jvm.MethodName) prog_16_method_124_code (2 : Nat) (Option.some Jvm.ClassFile.FieldType.int)) ∈ lw_all := lw_g (lw_at lw_m10 12 rfl) rfl
theorem q2304 : (Jvm.Cond.instanceMethod ({ cls := "WhalePostModel", name := "trouble", desc := "()I" } : Jvm.MethodName)) ∈ lw_all := lw_g (lw_at lw_m10 14 rfl) rfl
theorem q2305 : (Jvm.Cond.selects "WhalePostModel" ({ cls := "WhalePostModel", name := "trouble", desc := "()I" } : Jvm.MethodName) ({ cls := "WhalePostModel", name := "trouble", desc := "()I" } : Jvm.MethodName)) ∈ lw_all := lw_g (lw_at lw_m10 15 rfl) rfl
theorem q2306 : (Jvm.Cond.code ({ cls := "WhalePostModel", name := "trouble", desc := "()I" } : Jvm.MethodName) prog_16_method_125_code (1 : Nat) (Option.some Jvm.ClassFile.FieldType.int)) ∈ lw_all := lw_g (lw_at lw_m10 16 rfl) rfl
theorem q2318 : (Jvm.Cond.castable "WhalePostModel" "java/lang/Object") ∈ lw_tbl := lw_at lw_m10 28 rfl
theorem in_X2 : ∀ w ∈ wsX20, w ∈ lw_all := lw_in wsX20 [1712, 1714, 1716, 1718, 1720, 1722, 1724, 1726, 1728, 1730, 1732, 1734, 1736, 1738, 1740, 1742, 1744, 1746, 1748, 1750, 1752, 1754, 1756, 1758, 1760, 1762, 1764, 1766, 1768, 1770, 1772, 1774, 1776, 1778, 1780, 1782, 1784, 1786, 1788] (by decide +kernel) (by decide +kernel)

