/-! WhalePost -/
set_option maxRecDepth 100000
def RX1 : String := "WhalePost"
def TX1 : u_T := fun k => match k with
  | 0 => ("WhalePost", "tape", "[B", true)
  | 1 => ("WhalePost", "taped", "I", false)
  | 2 => ("WhalePost", "fault", "I", false)
  | 3 => ("WhalePost", "where", "I", false)
  | 4 => ("WhalePost", "trouble", "I", false)
  | 5 => ("WhalePost", "post", "LWhalePost$Post;", false)
  | 6 => ("WhalePost", "desk", "LWhalePost$Desk;", false)
  | 7 => ("WhalePost", "past", "Ljava/util/ArrayList;", true)
  | 8 => ("WhalePost", "images", "Ljava/util/ArrayList;", true)
  | 9 => ("WhalePost", "taken", "[I", true)
  | 10 => ("WhalePost", "row", "[I", true)
  | 11 => ("WhalePost", "days", "[I", true)
  | 12 => ("WhalePost", "then", "[I", true)
  | 13 => ("WhalePost", "worth", "[J", true)
  | 14 => ("WhalePost", "chosen", "[I", true)
  | 15 => ("WhalePost", "brought", "[I", true)
  | 16 => ("WhalePost", "island", "I", false)
  | 17 => ("WhalePost", "since", "I", false)
  | 18 => ("WhalePost", "fa\x72", "[I", true)
  | _ => ("WhalePost", "rest", "[I", true)
def tyX1 : Nat → FieldType := fun k => match k with
  | 0 => .array .byte
  | 1 => .int
  | 2 => .int
  | 3 => .int
  | 4 => .int
  | 5 => .object "WhalePost$Post"
  | 6 => .object "WhalePost$Desk"
  | 7 => .object "java/util/ArrayList"
  | 8 => .object "java/util/ArrayList"
  | 9 => .array .int
  | 10 => .array .int
  | 11 => .array .int
  | 12 => .array .int
  | 13 => .array .long
  | 14 => .array .int
  | 15 => .array .int
  | 16 => .int
  | 17 => .int
  | 18 => .array .int
  | _ => .array .int
abbrev wsX10 : List Cond := u_ws RX1 TX1 20
set_option maxRecDepth 100000 in
theorem nmX1 : ∀ a, a < 20 → ∀ b, b < 20 → a ≠ b → (TX1 a).2.1 ≠ (TX1 b).2.1 := by decide +kernel
set_option maxRecDepth 100000 in
theorem tyX1_ok : ∀ k, k < 20 → parseFieldDescriptor (TX1 k).2.2.1 = some (tyX1 k) := by decide +kernel
abbrev cX1_init : ByteArray := prog_1_method_1_code
def yX1_init : MethodName := ⟨RX1, "<init>", "()V"⟩
def dkwX1_init_4 : List UInt8 := [188, 10, 181, 0, 47, 42, 16, 49, 188, 10, 181, 0, 50, 42, 17, 3, 128, 188, 10, 181, 0, 53, 177]
abbrev dktX1_init_4 : List UInt8 := dkwX1_init_4 ++ []
def dkwX1_init_3 : List UInt8 := [181, 0, 37, 42, 17, 1, 32, 188, 11, 181, 0, 40, 42, 17, 1, 0, 188, 10, 181, 0, 44, 42, 8]
abbrev dktX1_init_3 : List UInt8 := dkwX1_init_3 ++ dktX1_init_4
def dkwX1_init_2 : List UInt8 := [181, 0, 27, 42, 16, 6, 188, 10, 181, 0, 31, 42, 16, 7, 188, 10, 181, 0, 34, 42, 16, 7, 188, 10]
abbrev dktX1_init_2 : List UInt8 := dkwX1_init_2 ++ dktX1_init_3
def dkwX1_init_1 : List UInt8 := [183, 0, 19, 181, 0, 20, 42, 187, 0, 17, 89, 183, 0, 19, 181, 0, 24, 42, 17, 4, 0, 188, 10]
abbrev dktX1_init_1 : List UInt8 := dkwX1_init_1 ++ dktX1_init_2
def dkwX1_init_0 : List UInt8 := [42, 183, 0, 1, 42, 17, 3, 232, 188, 8, 181, 0, 9, 42, 2, 181, 0, 13, 42, 187, 0, 17, 89]
abbrev dktX1_init_0 : List UInt8 := dkwX1_init_0 ++ dktX1_init_1
theorem dksX1_init_0 : cX1_init.data.toList.drop 0 = dktX1_init_0 := by decide +kernel
theorem dksX1_init_1 : cX1_init.data.toList.drop 23 = dktX1_init_1 := dk_seg dksX1_init_0 23 rfl rfl
theorem dksX1_init_2 : cX1_init.data.toList.drop 46 = dktX1_init_2 := dk_seg dksX1_init_1 23 rfl rfl
theorem dksX1_init_3 : cX1_init.data.toList.drop 70 = dktX1_init_3 := dk_seg dksX1_init_2 24 rfl rfl
theorem dksX1_init_4 : cX1_init.data.toList.drop 93 = dktX1_init_4 := dk_seg dksX1_init_3 23 rfl rfl
theorem dX1_init_0 : decode cX1_init 0 = .ok (.aload_n 0, 1) := dk_42 (dk_at dksX1_init_0 0 rfl rfl)
theorem dX1_init_1 : decode cX1_init 1 = .ok (.invokespecial 1, 3) := dk_183 0 1 (dk_at dksX1_init_0 1 rfl rfl)
theorem dX1_init_4 : decode cX1_init 4 = .ok (.aload_n 0, 1) := dk_42 (dk_at dksX1_init_0 4 rfl rfl)
theorem dX1_init_5 : decode cX1_init 5 = .ok (.sipush 1000, 3) := dk_17 3 232 (dk_at dksX1_init_0 5 rfl rfl)
theorem dX1_init_8 : decode cX1_init 8 = .ok (.newarray .byte, 2) := dk_188_8 (dk_at dksX1_init_0 8 rfl rfl)
theorem dX1_init_10 : decode cX1_init 10 = .ok (.putfield 9, 3) := dk_181 0 9 (dk_at dksX1_init_0 10 rfl rfl)
theorem dX1_init_13 : decode cX1_init 13 = .ok (.aload_n 0, 1) := dk_42 (dk_at dksX1_init_0 13 rfl rfl)
theorem dX1_init_14 : decode cX1_init 14 = .ok (.iconst (-1), 1) := dk_2 (dk_at dksX1_init_0 14 rfl rfl)
theorem dX1_init_15 : decode cX1_init 15 = .ok (.putfield 13, 3) := dk_181 0 13 (dk_at dksX1_init_0 15 rfl rfl)
theorem dX1_init_18 : decode cX1_init 18 = .ok (.aload_n 0, 1) := dk_42 (dk_at dksX1_init_0 18 rfl rfl)
theorem dX1_init_19 : decode cX1_init 19 = .ok (.new 17, 3) := dk_187 0 17 (dk_at dksX1_init_0 19 rfl rfl)
theorem dX1_init_22 : decode cX1_init 22 = .ok (.dup, 1) := dk_89 (dk_at dksX1_init_0 22 rfl rfl)
theorem dX1_init_23 : decode cX1_init 23 = .ok (.invokespecial 19, 3) := dk_183 0 19 (dk_at dksX1_init_1 0 rfl rfl)
theorem dX1_init_26 : decode cX1_init 26 = .ok (.putfield 20, 3) := dk_181 0 20 (dk_at dksX1_init_1 3 rfl rfl)
theorem dX1_init_29 : decode cX1_init 29 = .ok (.aload_n 0, 1) := dk_42 (dk_at dksX1_init_1 6 rfl rfl)
theorem dX1_init_30 : decode cX1_init 30 = .ok (.new 17, 3) := dk_187 0 17 (dk_at dksX1_init_1 7 rfl rfl)
theorem dX1_init_33 : decode cX1_init 33 = .ok (.dup, 1) := dk_89 (dk_at dksX1_init_1 10 rfl rfl)
theorem dX1_init_34 : decode cX1_init 34 = .ok (.invokespecial 19, 3) := dk_183 0 19 (dk_at dksX1_init_1 11 rfl rfl)
theorem dX1_init_37 : decode cX1_init 37 = .ok (.putfield 24, 3) := dk_181 0 24 (dk_at dksX1_init_1 14 rfl rfl)
theorem dX1_init_40 : decode cX1_init 40 = .ok (.aload_n 0, 1) := dk_42 (dk_at dksX1_init_1 17 rfl rfl)
theorem dX1_init_41 : decode cX1_init 41 = .ok (.sipush 1024, 3) := dk_17 4 0 (dk_at dksX1_init_1 18 rfl rfl)
theorem dX1_init_44 : decode cX1_init 44 = .ok (.newarray .int, 2) := dk_188_10 (dk_at dksX1_init_1 21 rfl rfl)
theorem dX1_init_46 : decode cX1_init 46 = .ok (.putfield 27, 3) := dk_181 0 27 (dk_at dksX1_init_2 0 rfl rfl)
theorem dX1_init_49 : decode cX1_init 49 = .ok (.aload_n 0, 1) := dk_42 (dk_at dksX1_init_2 3 rfl rfl)
theorem dX1_init_50 : decode cX1_init 50 = .ok (.bipush 6, 2) := dk_16 6 (dk_at dksX1_init_2 4 rfl rfl)
theorem dX1_init_52 : decode cX1_init 52 = .ok (.newarray .int, 2) := dk_188_10 (dk_at dksX1_init_2 6 rfl rfl)
theorem dX1_init_54 : decode cX1_init 54 = .ok (.putfield 31, 3) := dk_181 0 31 (dk_at dksX1_init_2 8 rfl rfl)
theorem dX1_init_57 : decode cX1_init 57 = .ok (.aload_n 0, 1) := dk_42 (dk_at dksX1_init_2 11 rfl rfl)
theorem dX1_init_58 : decode cX1_init 58 = .ok (.bipush 7, 2) := dk_16 7 (dk_at dksX1_init_2 12 rfl rfl)
theorem dX1_init_60 : decode cX1_init 60 = .ok (.newarray .int, 2) := dk_188_10 (dk_at dksX1_init_2 14 rfl rfl)
theorem dX1_init_62 : decode cX1_init 62 = .ok (.putfield 34, 3) := dk_181 0 34 (dk_at dksX1_init_2 16 rfl rfl)
theorem dX1_init_65 : decode cX1_init 65 = .ok (.aload_n 0, 1) := dk_42 (dk_at dksX1_init_2 19 rfl rfl)
theorem dX1_init_66 : decode cX1_init 66 = .ok (.bipush 7, 2) := dk_16 7 (dk_at dksX1_init_2 20 rfl rfl)
theorem dX1_init_68 : decode cX1_init 68 = .ok (.newarray .int, 2) := dk_188_10 (dk_at dksX1_init_2 22 rfl rfl)
theorem dX1_init_70 : decode cX1_init 70 = .ok (.putfield 37, 3) := dk_181 0 37 (dk_at dksX1_init_3 0 rfl rfl)
theorem dX1_init_73 : decode cX1_init 73 = .ok (.aload_n 0, 1) := dk_42 (dk_at dksX1_init_3 3 rfl rfl)
theorem dX1_init_74 : decode cX1_init 74 = .ok (.sipush 288, 3) := dk_17 1 32 (dk_at dksX1_init_3 4 rfl rfl)
theorem dX1_init_77 : decode cX1_init 77 = .ok (.newarray .long, 2) := dk_188_11 (dk_at dksX1_init_3 7 rfl rfl)
theorem dX1_init_79 : decode cX1_init 79 = .ok (.putfield 40, 3) := dk_181 0 40 (dk_at dksX1_init_3 9 rfl rfl)
theorem dX1_init_82 : decode cX1_init 82 = .ok (.aload_n 0, 1) := dk_42 (dk_at dksX1_init_3 12 rfl rfl)
theorem dX1_init_83 : decode cX1_init 83 = .ok (.sipush 256, 3) := dk_17 1 0 (dk_at dksX1_init_3 13 rfl rfl)
theorem dX1_init_86 : decode cX1_init 86 = .ok (.newarray .int, 2) := dk_188_10 (dk_at dksX1_init_3 16 rfl rfl)
theorem dX1_init_88 : decode cX1_init 88 = .ok (.putfield 44, 3) := dk_181 0 44 (dk_at dksX1_init_3 18 rfl rfl)
theorem dX1_init_91 : decode cX1_init 91 = .ok (.aload_n 0, 1) := dk_42 (dk_at dksX1_init_3 21 rfl rfl)
theorem dX1_init_92 : decode cX1_init 92 = .ok (.iconst 5, 1) := dk_8 (dk_at dksX1_init_3 22 rfl rfl)
theorem dX1_init_93 : decode cX1_init 93 = .ok (.newarray .int, 2) := dk_188_10 (dk_at dksX1_init_4 0 rfl rfl)
theorem dX1_init_95 : decode cX1_init 95 = .ok (.putfield 47, 3) := dk_181 0 47 (dk_at dksX1_init_4 2 rfl rfl)
theorem dX1_init_98 : decode cX1_init 98 = .ok (.aload_n 0, 1) := dk_42 (dk_at dksX1_init_4 5 rfl rfl)
theorem dX1_init_99 : decode cX1_init 99 = .ok (.bipush 49, 2) := dk_16 49 (dk_at dksX1_init_4 6 rfl rfl)
theorem dX1_init_101 : decode cX1_init 101 = .ok (.newarray .int, 2) := dk_188_10 (dk_at dksX1_init_4 8 rfl rfl)
theorem dX1_init_103 : decode cX1_init 103 = .ok (.putfield 50, 3) := dk_181 0 50 (dk_at dksX1_init_4 10 rfl rfl)
theorem dX1_init_106 : decode cX1_init 106 = .ok (.aload_n 0, 1) := dk_42 (dk_at dksX1_init_4 13 rfl rfl)
theorem dX1_init_107 : decode cX1_init 107 = .ok (.sipush 896, 3) := dk_17 3 128 (dk_at dksX1_init_4 14 rfl rfl)
theorem dX1_init_110 : decode cX1_init 110 = .ok (.newarray .int, 2) := dk_188_10 (dk_at dksX1_init_4 17 rfl rfl)
theorem dX1_init_112 : decode cX1_init 112 = .ok (.putfield 53, 3) := dk_181 0 53 (dk_at dksX1_init_4 19 rfl rfl)
theorem dX1_init_115 : decode cX1_init 115 = .ok (.return_, 1) := dk_177 (dk_at dksX1_init_4 22 rfl rfl)
abbrev cX1_feed : ByteArray := prog_1_method_12_code
def yX1_feed : MethodName := ⟨RX1, "feed", "(IIIII)I"⟩
def dkwX1_feed_5 : List UInt8 := [180, 0, 76, 172]
abbrev dktX1_feed_5 : List UInt8 := dkwX1_feed_5 ++ []
def dkwX1_feed_4 : List UInt8 := [112, 104, 100, 124, 145, 84, 132, 6, 1, 167, 255, 172, 42, 89, 180, 0, 76, 16, 20, 96, 181, 0, 76, 42]
abbrev dktX1_feed_4 : List UInt8 := dkwX1_feed_4 ++ dktX1_feed_5
def dkwX1_feed_3 : List UInt8 := [21, 5, 54, 7, 42, 180, 0, 9, 42, 180, 0, 76, 21, 6, 96, 21, 7, 16, 24, 16, 8, 21, 6, 7]
abbrev dktX1_feed_3 : List UInt8 := dkwX1_feed_3 ++ dktX1_feed_4
def dkwX1_feed_2 : List UInt8 := [21, 6, 16, 12, 162, 0, 7, 29, 167, 0, 17, 21, 6, 16, 16, 162, 0, 8, 21, 4, 167, 0, 5]
abbrev dktX1_feed_2 : List UInt8 := dkwX1_feed_2 ++ dktX1_feed_3
def dkwX1_feed_1 : List UInt8 := [162, 0, 83, 21, 6, 7, 162, 0, 7, 27, 167, 0, 39, 21, 6, 16, 8, 162, 0, 7, 28, 167, 0, 28]
abbrev dktX1_feed_1 : List UInt8 := dkwX1_feed_1 ++ dktX1_feed_2
def dkwX1_feed_0 : List UInt8 := [42, 180, 0, 76, 16, 20, 96, 17, 3, 232, 164, 0, 5, 2, 172, 3, 54, 6, 21, 6, 16, 20]
abbrev dktX1_feed_0 : List UInt8 := dkwX1_feed_0 ++ dktX1_feed_1
theorem dksX1_feed_0 : cX1_feed.data.toList.drop 0 = dktX1_feed_0 := by decide +kernel
theorem dksX1_feed_1 : cX1_feed.data.toList.drop 22 = dktX1_feed_1 := dk_seg dksX1_feed_0 22 rfl rfl
theorem dksX1_feed_2 : cX1_feed.data.toList.drop 46 = dktX1_feed_2 := dk_seg dksX1_feed_1 24 rfl rfl
theorem dksX1_feed_3 : cX1_feed.data.toList.drop 69 = dktX1_feed_3 := dk_seg dksX1_feed_2 23 rfl rfl
theorem dksX1_feed_4 : cX1_feed.data.toList.drop 93 = dktX1_feed_4 := dk_seg dksX1_feed_3 24 rfl rfl
theorem dksX1_feed_5 : cX1_feed.data.toList.drop 117 = dktX1_feed_5 := dk_seg dksX1_feed_4 24 rfl rfl
theorem dX1_feed_0 : decode cX1_feed 0 = .ok (.aload_n 0, 1) := dk_42 (dk_at dksX1_feed_0 0 rfl rfl)
theorem dX1_feed_1 : decode cX1_feed 1 = .ok (.getfield 76, 3) := dk_180 0 76 (dk_at dksX1_feed_0 1 rfl rfl)
theorem dX1_feed_4 : decode cX1_feed 4 = .ok (.bipush 20, 2) := dk_16 20 (dk_at dksX1_feed_0 4 rfl rfl)
theorem dX1_feed_6 : decode cX1_feed 6 = .ok (.iadd, 1) := dk_96 (dk_at dksX1_feed_0 6 rfl rfl)
theorem dX1_feed_7 : decode cX1_feed 7 = .ok (.sipush 1000, 3) := dk_17 3 232 (dk_at dksX1_feed_0 7 rfl rfl)
theorem dX1_feed_10 : decode cX1_feed 10 = .ok (.if_icmp .le 5, 3) := dk_164 0 5 (dk_at dksX1_feed_0 10 rfl rfl)
theorem dX1_feed_13 : decode cX1_feed 13 = .ok (.iconst (-1), 1) := dk_2 (dk_at dksX1_feed_0 13 rfl rfl)
theorem dX1_feed_14 : decode cX1_feed 14 = .ok (.ireturn, 1) := dk_172 (dk_at dksX1_feed_0 14 rfl rfl)
theorem dX1_feed_15 : decode cX1_feed 15 = .ok (.iconst 0, 1) := dk_3 (dk_at dksX1_feed_0 15 rfl rfl)
theorem dX1_feed_16 : decode cX1_feed 16 = .ok (.istore 6, 2) := dk_54 6 (dk_at dksX1_feed_0 16 rfl rfl)
theorem dX1_feed_18 : decode cX1_feed 18 = .ok (.iload 6, 2) := dk_21 6 (dk_at dksX1_feed_0 18 rfl rfl)
theorem dX1_feed_20 : decode cX1_feed 20 = .ok (.bipush 20, 2) := dk_16 20 (dk_at dksX1_feed_0 20 rfl rfl)
theorem dX1_feed_22 : decode cX1_feed 22 = .ok (.if_icmp .ge 83, 3) := dk_162 0 83 (dk_at dksX1_feed_1 0 rfl rfl)
theorem dX1_feed_25 : decode cX1_feed 25 = .ok (.iload 6, 2) := dk_21 6 (dk_at dksX1_feed_1 3 rfl rfl)
theorem dX1_feed_27 : decode cX1_feed 27 = .ok (.iconst 4, 1) := dk_7 (dk_at dksX1_feed_1 5 rfl rfl)
theorem dX1_feed_28 : decode cX1_feed 28 = .ok (.if_icmp .ge 7, 3) := dk_162 0 7 (dk_at dksX1_feed_1 6 rfl rfl)
theorem dX1_feed_31 : decode cX1_feed 31 = .ok (.iload_n 1, 1) := dk_27 (dk_at dksX1_feed_1 9 rfl rfl)
theorem dX1_feed_32 : decode cX1_feed 32 = .ok (.goto 39, 3) := dk_167 0 39 (dk_at dksX1_feed_1 10 rfl rfl)
theorem dX1_feed_35 : decode cX1_feed 35 = .ok (.iload 6, 2) := dk_21 6 (dk_at dksX1_feed_1 13 rfl rfl)
theorem dX1_feed_37 : decode cX1_feed 37 = .ok (.bipush 8, 2) := dk_16 8 (dk_at dksX1_feed_1 15 rfl rfl)
theorem dX1_feed_39 : decode cX1_feed 39 = .ok (.if_icmp .ge 7, 3) := dk_162 0 7 (dk_at dksX1_feed_1 17 rfl rfl)
theorem dX1_feed_42 : decode cX1_feed 42 = .ok (.iload_n 2, 1) := dk_28 (dk_at dksX1_feed_1 20 rfl rfl)
theorem dX1_feed_43 : decode cX1_feed 43 = .ok (.goto 28, 3) := dk_167 0 28 (dk_at dksX1_feed_1 21 rfl rfl)
theorem dX1_feed_46 : decode cX1_feed 46 = .ok (.iload 6, 2) := dk_21 6 (dk_at dksX1_feed_2 0 rfl rfl)
theorem dX1_feed_48 : decode cX1_feed 48 = .ok (.bipush 12, 2) := dk_16 12 (dk_at dksX1_feed_2 2 rfl rfl)
theorem dX1_feed_50 : decode cX1_feed 50 = .ok (.if_icmp .ge 7, 3) := dk_162 0 7 (dk_at dksX1_feed_2 4 rfl rfl)
theorem dX1_feed_53 : decode cX1_feed 53 = .ok (.iload_n 3, 1) := dk_29 (dk_at dksX1_feed_2 7 rfl rfl)
theorem dX1_feed_54 : decode cX1_feed 54 = .ok (.goto 17, 3) := dk_167 0 17 (dk_at dksX1_feed_2 8 rfl rfl)
theorem dX1_feed_57 : decode cX1_feed 57 = .ok (.iload 6, 2) := dk_21 6 (dk_at dksX1_feed_2 11 rfl rfl)
theorem dX1_feed_59 : decode cX1_feed 59 = .ok (.bipush 16, 2) := dk_16 16 (dk_at dksX1_feed_2 13 rfl rfl)
theorem dX1_feed_61 : decode cX1_feed 61 = .ok (.if_icmp .ge 8, 3) := dk_162 0 8 (dk_at dksX1_feed_2 15 rfl rfl)
theorem dX1_feed_64 : decode cX1_feed 64 = .ok (.iload 4, 2) := dk_21 4 (dk_at dksX1_feed_2 18 rfl rfl)
theorem dX1_feed_66 : decode cX1_feed 66 = .ok (.goto 5, 3) := dk_167 0 5 (dk_at dksX1_feed_2 20 rfl rfl)
theorem dX1_feed_69 : decode cX1_feed 69 = .ok (.iload 5, 2) := dk_21 5 (dk_at dksX1_feed_3 0 rfl rfl)
theorem dX1_feed_71 : decode cX1_feed 71 = .ok (.istore 7, 2) := dk_54 7 (dk_at dksX1_feed_3 2 rfl rfl)
theorem dX1_feed_73 : decode cX1_feed 73 = .ok (.aload_n 0, 1) := dk_42 (dk_at dksX1_feed_3 4 rfl rfl)
theorem dX1_feed_74 : decode cX1_feed 74 = .ok (.getfield 9, 3) := dk_180 0 9 (dk_at dksX1_feed_3 5 rfl rfl)
theorem dX1_feed_77 : decode cX1_feed 77 = .ok (.aload_n 0, 1) := dk_42 (dk_at dksX1_feed_3 8 rfl rfl)
theorem dX1_feed_78 : decode cX1_feed 78 = .ok (.getfield 76, 3) := dk_180 0 76 (dk_at dksX1_feed_3 9 rfl rfl)
theorem dX1_feed_81 : decode cX1_feed 81 = .ok (.iload 6, 2) := dk_21 6 (dk_at dksX1_feed_3 12 rfl rfl)
theorem dX1_feed_83 : decode cX1_feed 83 = .ok (.iadd, 1) := dk_96 (dk_at dksX1_feed_3 14 rfl rfl)
theorem dX1_feed_84 : decode cX1_feed 84 = .ok (.iload 7, 2) := dk_21 7 (dk_at dksX1_feed_3 15 rfl rfl)
theorem dX1_feed_86 : decode cX1_feed 86 = .ok (.bipush 24, 2) := dk_16 24 (dk_at dksX1_feed_3 17 rfl rfl)
theorem dX1_feed_88 : decode cX1_feed 88 = .ok (.bipush 8, 2) := dk_16 8 (dk_at dksX1_feed_3 19 rfl rfl)
theorem dX1_feed_90 : decode cX1_feed 90 = .ok (.iload 6, 2) := dk_21 6 (dk_at dksX1_feed_3 21 rfl rfl)
theorem dX1_feed_92 : decode cX1_feed 92 = .ok (.iconst 4, 1) := dk_7 (dk_at dksX1_feed_3 23 rfl rfl)
theorem dX1_feed_93 : decode cX1_feed 93 = .ok (.irem, 1) := dk_112 (dk_at dksX1_feed_4 0 rfl rfl)
theorem dX1_feed_94 : decode cX1_feed 94 = .ok (.imul, 1) := dk_104 (dk_at dksX1_feed_4 1 rfl rfl)
theorem dX1_feed_95 : decode cX1_feed 95 = .ok (.isub, 1) := dk_100 (dk_at dksX1_feed_4 2 rfl rfl)
theorem dX1_feed_96 : decode cX1_feed 96 = .ok (.iushr, 1) := dk_124 (dk_at dksX1_feed_4 3 rfl rfl)
theorem dX1_feed_97 : decode cX1_feed 97 = .ok (.i2b, 1) := dk_145 (dk_at dksX1_feed_4 4 rfl rfl)
theorem dX1_feed_98 : decode cX1_feed 98 = .ok (.bastore, 1) := dk_84 (dk_at dksX1_feed_4 5 rfl rfl)
theorem dX1_feed_99 : decode cX1_feed 99 = .ok (.iinc 6 1, 3) := dk_132 6 1 (dk_at dksX1_feed_4 6 rfl rfl)
theorem dX1_feed_102 : decode cX1_feed 102 = .ok (.goto (-84), 3) := dk_167 255 172 (dk_at dksX1_feed_4 9 rfl rfl)
theorem dX1_feed_105 : decode cX1_feed 105 = .ok (.aload_n 0, 1) := dk_42 (dk_at dksX1_feed_4 12 rfl rfl)
theorem dX1_feed_106 : decode cX1_feed 106 = .ok (.dup, 1) := dk_89 (dk_at dksX1_feed_4 13 rfl rfl)
theorem dX1_feed_107 : decode cX1_feed 107 = .ok (.getfield 76, 3) := dk_180 0 76 (dk_at dksX1_feed_4 14 rfl rfl)
theorem dX1_feed_110 : decode cX1_feed 110 = .ok (.bipush 20, 2) := dk_16 20 (dk_at dksX1_feed_4 17 rfl rfl)
theorem dX1_feed_112 : decode cX1_feed 112 = .ok (.iadd, 1) := dk_96 (dk_at dksX1_feed_4 19 rfl rfl)
theorem dX1_feed_113 : decode cX1_feed 113 = .ok (.putfield 76, 3) := dk_181 0 76 (dk_at dksX1_feed_4 20 rfl rfl)
theorem dX1_feed_116 : decode cX1_feed 116 = .ok (.aload_n 0, 1) := dk_42 (dk_at dksX1_feed_4 23 rfl rfl)
theorem dX1_feed_117 : decode cX1_feed 117 = .ok (.getfield 76, 3) := dk_180 0 76 (dk_at dksX1_feed_5 0 rfl rfl)
theorem dX1_feed_120 : decode cX1_feed 120 = .ok (.ireturn, 1) := dk_172 (dk_at dksX1_feed_5 3 rfl rfl)
abbrev cX1_post : ByteArray := prog_1_method_13_code
def yX1_post : MethodName := ⟨RX1, "post", "(I)I"⟩
def dkwX1_post_5 : List UInt8 := [182, 0, 119, 42, 42, 180, 0, 104, 180, 0, 122, 182, 0, 127, 182, 0, 69, 172]
abbrev dktX1_post_5 : List UInt8 := dkwX1_post_5 ++ []
def dkwX1_post_4 : List UInt8 := [42, 180, 0, 111, 42, 180, 0, 104, 182, 0, 115, 42, 180, 0, 20, 182, 0, 119, 42, 180, 0, 24]
abbrev dktX1_post_4 : List UInt8 := dkwX1_post_4 ++ dktX1_post_5
def dkwX1_post_3 : List UInt8 := [180, 0, 101, 181, 0, 13, 2, 172, 42, 45, 181, 0, 104, 42, 187, 0, 108, 89, 183, 0, 110, 181, 0, 111]
abbrev dktX1_post_3 : List UInt8 := dkwX1_post_3 ++ dktX1_post_4
def dkwX1_post_2 : List UInt8 := [182, 0, 93, 78, 42, 44, 180, 0, 97, 181, 0, 100, 45, 199, 0, 18, 42, 7, 181, 0, 62, 42, 44]
abbrev dktX1_post_2 : List UInt8 := dkwX1_post_2 ++ dktX1_post_3
def dkwX1_post_1 : List UInt8 := [187, 0, 85, 89, 42, 180, 0, 9, 27, 183, 0, 87, 183, 0, 90, 77, 42, 3, 181, 0, 76, 44]
abbrev dktX1_post_1 : List UInt8 := dkwX1_post_1 ++ dktX1_post_2
def dkwX1_post_0 : List UInt8 := [27, 3, 42, 180, 0, 76, 184, 0, 79, 154, 0, 9, 42, 5, 182, 0, 65, 172, 187, 0, 83, 89]
abbrev dktX1_post_0 : List UInt8 := dkwX1_post_0 ++ dktX1_post_1
theorem dksX1_post_0 : cX1_post.data.toList.drop 0 = dktX1_post_0 := by decide +kernel
theorem dksX1_post_1 : cX1_post.data.toList.drop 22 = dktX1_post_1 := dk_seg dksX1_post_0 22 rfl rfl
theorem dksX1_post_2 : cX1_post.data.toList.drop 44 = dktX1_post_2 := dk_seg dksX1_post_1 22 rfl rfl
theorem dksX1_post_3 : cX1_post.data.toList.drop 67 = dktX1_post_3 := dk_seg dksX1_post_2 23 rfl rfl
theorem dksX1_post_4 : cX1_post.data.toList.drop 91 = dktX1_post_4 := dk_seg dksX1_post_3 24 rfl rfl
theorem dksX1_post_5 : cX1_post.data.toList.drop 113 = dktX1_post_5 := dk_seg dksX1_post_4 22 rfl rfl
theorem dX1_post_0 : decode cX1_post 0 = .ok (.iload_n 1, 1) := dk_27 (dk_at dksX1_post_0 0 rfl rfl)
theorem dX1_post_1 : decode cX1_post 1 = .ok (.iconst 0, 1) := dk_3 (dk_at dksX1_post_0 1 rfl rfl)
theorem dX1_post_2 : decode cX1_post 2 = .ok (.aload_n 0, 1) := dk_42 (dk_at dksX1_post_0 2 rfl rfl)
theorem dX1_post_3 : decode cX1_post 3 = .ok (.getfield 76, 3) := dk_180 0 76 (dk_at dksX1_post_0 3 rfl rfl)
theorem dX1_post_6 : decode cX1_post 6 = .ok (.invokestatic 79, 3) := dk_184 0 79 (dk_at dksX1_post_0 6 rfl rfl)
theorem dX1_post_9 : decode cX1_post 9 = .ok (.ifCond .ne 9, 3) := dk_154 0 9 (dk_at dksX1_post_0 9 rfl rfl)
theorem dX1_post_12 : decode cX1_post 12 = .ok (.aload_n 0, 1) := dk_42 (dk_at dksX1_post_0 12 rfl rfl)
theorem dX1_post_13 : decode cX1_post 13 = .ok (.iconst 2, 1) := dk_5 (dk_at dksX1_post_0 13 rfl rfl)
theorem dX1_post_14 : decode cX1_post 14 = .ok (.invokevirtual 65, 3) := dk_182 0 65 (dk_at dksX1_post_0 14 rfl rfl)
theorem dX1_post_17 : decode cX1_post 17 = .ok (.ireturn, 1) := dk_172 (dk_at dksX1_post_0 17 rfl rfl)
theorem dX1_post_18 : decode cX1_post 18 = .ok (.new 83, 3) := dk_187 0 83 (dk_at dksX1_post_0 18 rfl rfl)
theorem dX1_post_21 : decode cX1_post 21 = .ok (.dup, 1) := dk_89 (dk_at dksX1_post_0 21 rfl rfl)
theorem dX1_post_22 : decode cX1_post 22 = .ok (.new 85, 3) := dk_187 0 85 (dk_at dksX1_post_1 0 rfl rfl)
theorem dX1_post_25 : decode cX1_post 25 = .ok (.dup, 1) := dk_89 (dk_at dksX1_post_1 3 rfl rfl)
theorem dX1_post_26 : decode cX1_post 26 = .ok (.aload_n 0, 1) := dk_42 (dk_at dksX1_post_1 4 rfl rfl)
theorem dX1_post_27 : decode cX1_post 27 = .ok (.getfield 9, 3) := dk_180 0 9 (dk_at dksX1_post_1 5 rfl rfl)
theorem dX1_post_30 : decode cX1_post 30 = .ok (.iload_n 1, 1) := dk_27 (dk_at dksX1_post_1 8 rfl rfl)
theorem dX1_post_31 : decode cX1_post 31 = .ok (.invokespecial 87, 3) := dk_183 0 87 (dk_at dksX1_post_1 9 rfl rfl)
theorem dX1_post_34 : decode cX1_post 34 = .ok (.invokespecial 90, 3) := dk_183 0 90 (dk_at dksX1_post_1 12 rfl rfl)
theorem dX1_post_37 : decode cX1_post 37 = .ok (.astore_n 2, 1) := dk_77 (dk_at dksX1_post_1 15 rfl rfl)
theorem dX1_post_38 : decode cX1_post 38 = .ok (.aload_n 0, 1) := dk_42 (dk_at dksX1_post_1 16 rfl rfl)
theorem dX1_post_39 : decode cX1_post 39 = .ok (.iconst 0, 1) := dk_3 (dk_at dksX1_post_1 17 rfl rfl)
theorem dX1_post_40 : decode cX1_post 40 = .ok (.putfield 76, 3) := dk_181 0 76 (dk_at dksX1_post_1 18 rfl rfl)
theorem dX1_post_43 : decode cX1_post 43 = .ok (.aload_n 2, 1) := dk_44 (dk_at dksX1_post_1 21 rfl rfl)
theorem dX1_post_44 : decode cX1_post 44 = .ok (.invokevirtual 93, 3) := dk_182 0 93 (dk_at dksX1_post_2 0 rfl rfl)
theorem dX1_post_47 : decode cX1_post 47 = .ok (.astore_n 3, 1) := dk_78 (dk_at dksX1_post_2 3 rfl rfl)
theorem dX1_post_48 : decode cX1_post 48 = .ok (.aload_n 0, 1) := dk_42 (dk_at dksX1_post_2 4 rfl rfl)
theorem dX1_post_49 : decode cX1_post 49 = .ok (.aload_n 2, 1) := dk_44 (dk_at dksX1_post_2 5 rfl rfl)
theorem dX1_post_50 : decode cX1_post 50 = .ok (.getfield 97, 3) := dk_180 0 97 (dk_at dksX1_post_2 6 rfl rfl)
theorem dX1_post_53 : decode cX1_post 53 = .ok (.putfield 100, 3) := dk_181 0 100 (dk_at dksX1_post_2 9 rfl rfl)
theorem dX1_post_56 : decode cX1_post 56 = .ok (.aload_n 3, 1) := dk_45 (dk_at dksX1_post_2 12 rfl rfl)
theorem dX1_post_57 : decode cX1_post 57 = .ok (.ifnonnull 18, 3) := dk_199 0 18 (dk_at dksX1_post_2 13 rfl rfl)
theorem dX1_post_60 : decode cX1_post 60 = .ok (.aload_n 0, 1) := dk_42 (dk_at dksX1_post_2 16 rfl rfl)
theorem dX1_post_61 : decode cX1_post 61 = .ok (.iconst 4, 1) := dk_7 (dk_at dksX1_post_2 17 rfl rfl)
theorem dX1_post_62 : decode cX1_post 62 = .ok (.putfield 62, 3) := dk_181 0 62 (dk_at dksX1_post_2 18 rfl rfl)
theorem dX1_post_65 : decode cX1_post 65 = .ok (.aload_n 0, 1) := dk_42 (dk_at dksX1_post_2 21 rfl rfl)
theorem dX1_post_66 : decode cX1_post 66 = .ok (.aload_n 2, 1) := dk_44 (dk_at dksX1_post_2 22 rfl rfl)
theorem dX1_post_67 : decode cX1_post 67 = .ok (.getfield 101, 3) := dk_180 0 101 (dk_at dksX1_post_3 0 rfl rfl)
theorem dX1_post_70 : decode cX1_post 70 = .ok (.putfield 13, 3) := dk_181 0 13 (dk_at dksX1_post_3 3 rfl rfl)
theorem dX1_post_73 : decode cX1_post 73 = .ok (.iconst (-1), 1) := dk_2 (dk_at dksX1_post_3 6 rfl rfl)
theorem dX1_post_74 : decode cX1_post 74 = .ok (.ireturn, 1) := dk_172 (dk_at dksX1_post_3 7 rfl rfl)
theorem dX1_post_75 : decode cX1_post 75 = .ok (.aload_n 0, 1) := dk_42 (dk_at dksX1_post_3 8 rfl rfl)
theorem dX1_post_76 : decode cX1_post 76 = .ok (.aload_n 3, 1) := dk_45 (dk_at dksX1_post_3 9 rfl rfl)
theorem dX1_post_77 : decode cX1_post 77 = .ok (.putfield 104, 3) := dk_181 0 104 (dk_at dksX1_post_3 10 rfl rfl)
theorem dX1_post_80 : decode cX1_post 80 = .ok (.aload_n 0, 1) := dk_42 (dk_at dksX1_post_3 13 rfl rfl)
theorem dX1_post_81 : decode cX1_post 81 = .ok (.new 108, 3) := dk_187 0 108 (dk_at dksX1_post_3 14 rfl rfl)
theorem dX1_post_84 : decode cX1_post 84 = .ok (.dup, 1) := dk_89 (dk_at dksX1_post_3 17 rfl rfl)
theorem dX1_post_85 : decode cX1_post 85 = .ok (.invokespecial 110, 3) := dk_183 0 110 (dk_at dksX1_post_3 18 rfl rfl)
theorem dX1_post_88 : decode cX1_post 88 = .ok (.putfield 111, 3) := dk_181 0 111 (dk_at dksX1_post_3 21 rfl rfl)
theorem dX1_post_91 : decode cX1_post 91 = .ok (.aload_n 0, 1) := dk_42 (dk_at dksX1_post_4 0 rfl rfl)
theorem dX1_post_92 : decode cX1_post 92 = .ok (.getfield 111, 3) := dk_180 0 111 (dk_at dksX1_post_4 1 rfl rfl)
theorem dX1_post_95 : decode cX1_post 95 = .ok (.aload_n 0, 1) := dk_42 (dk_at dksX1_post_4 4 rfl rfl)
theorem dX1_post_96 : decode cX1_post 96 = .ok (.getfield 104, 3) := dk_180 0 104 (dk_at dksX1_post_4 5 rfl rfl)
theorem dX1_post_99 : decode cX1_post 99 = .ok (.invokevirtual 115, 3) := dk_182 0 115 (dk_at dksX1_post_4 8 rfl rfl)
theorem dX1_post_102 : decode cX1_post 102 = .ok (.aload_n 0, 1) := dk_42 (dk_at dksX1_post_4 11 rfl rfl)
theorem dX1_post_103 : decode cX1_post 103 = .ok (.getfield 20, 3) := dk_180 0 20 (dk_at dksX1_post_4 12 rfl rfl)
theorem dX1_post_106 : decode cX1_post 106 = .ok (.invokevirtual 119, 3) := dk_182 0 119 (dk_at dksX1_post_4 15 rfl rfl)
theorem dX1_post_109 : decode cX1_post 109 = .ok (.aload_n 0, 1) := dk_42 (dk_at dksX1_post_4 18 rfl rfl)
theorem dX1_post_110 : decode cX1_post 110 = .ok (.getfield 24, 3) := dk_180 0 24 (dk_at dksX1_post_4 19 rfl rfl)
theorem dX1_post_113 : decode cX1_post 113 = .ok (.invokevirtual 119, 3) := dk_182 0 119 (dk_at dksX1_post_5 0 rfl rfl)
theorem dX1_post_116 : decode cX1_post 116 = .ok (.aload_n 0, 1) := dk_42 (dk_at dksX1_post_5 3 rfl rfl)
theorem dX1_post_117 : decode cX1_post 117 = .ok (.aload_n 0, 1) := dk_42 (dk_at dksX1_post_5 4 rfl rfl)
theorem dX1_post_118 : decode cX1_post 118 = .ok (.getfield 104, 3) := dk_180 0 104 (dk_at dksX1_post_5 5 rfl rfl)
theorem dX1_post_121 : decode cX1_post 121 = .ok (.getfield 122, 3) := dk_180 0 122 (dk_at dksX1_post_5 8 rfl rfl)
theorem dX1_post_124 : decode cX1_post 124 = .ok (.invokevirtual 127, 3) := dk_182 0 127 (dk_at dksX1_post_5 11 rfl rfl)
theorem dX1_post_127 : decode cX1_post 127 = .ok (.invokevirtual 69, 3) := dk_182 0 69 (dk_at dksX1_post_5 14 rfl rfl)
theorem dX1_post_130 : decode cX1_post 130 = .ok (.ireturn, 1) := dk_172 (dk_at dksX1_post_5 17 rfl rfl)
abbrev cX1_in : ByteArray := prog_1_method_2_code
def yX1_in : MethodName := ⟨RX1, "in", "(III)Z"⟩
def dkwX1_in_0 : List UInt8 := [26, 27, 161, 0, 12, 26, 28, 163, 0, 7, 4, 167, 0, 4, 3, 172]
abbrev dktX1_in_0 : List UInt8 := dkwX1_in_0 ++ []
theorem dksX1_in_0 : cX1_in.data.toList.drop 0 = dktX1_in_0 := by decide +kernel
theorem dX1_in_0 : decode cX1_in 0 = .ok (.iload_n 0, 1) := dk_26 (dk_at dksX1_in_0 0 rfl rfl)
theorem dX1_in_1 : decode cX1_in 1 = .ok (.iload_n 1, 1) := dk_27 (dk_at dksX1_in_0 1 rfl rfl)
theorem dX1_in_2 : decode cX1_in 2 = .ok (.if_icmp .lt 12, 3) := dk_161 0 12 (dk_at dksX1_in_0 2 rfl rfl)
theorem dX1_in_5 : decode cX1_in 5 = .ok (.iload_n 0, 1) := dk_26 (dk_at dksX1_in_0 5 rfl rfl)
theorem dX1_in_6 : decode cX1_in 6 = .ok (.iload_n 2, 1) := dk_28 (dk_at dksX1_in_0 6 rfl rfl)
theorem dX1_in_7 : decode cX1_in 7 = .ok (.if_icmp .gt 7, 3) := dk_163 0 7 (dk_at dksX1_in_0 7 rfl rfl)
theorem dX1_in_10 : decode cX1_in 10 = .ok (.iconst 1, 1) := dk_4 (dk_at dksX1_in_0 10 rfl rfl)
theorem dX1_in_11 : decode cX1_in 11 = .ok (.goto 4, 3) := dk_167 0 4 (dk_at dksX1_in_0 11 rfl rfl)
theorem dX1_in_14 : decode cX1_in 14 = .ok (.iconst 0, 1) := dk_3 (dk_at dksX1_in_0 14 rfl rfl)
theorem dX1_in_15 : decode cX1_in 15 = .ok (.ireturn, 1) := dk_172 (dk_at dksX1_in_0 15 rfl rfl)
abbrev cX1_refused : ByteArray := prog_1_method_7_code
def yX1_refused : MethodName := ⟨RX1, "refused", "(I)I"⟩
def dkwX1_refused_0 : List UInt8 := [42, 27, 181, 0, 62, 42, 2, 181, 0, 13, 2, 172]
abbrev dktX1_refused_0 : List UInt8 := dkwX1_refused_0 ++ []
theorem dksX1_refused_0 : cX1_refused.data.toList.drop 0 = dktX1_refused_0 := by decide +kernel
theorem dX1_refused_0 : decode cX1_refused 0 = .ok (.aload_n 0, 1) := dk_42 (dk_at dksX1_refused_0 0 rfl rfl)
theorem dX1_refused_1 : decode cX1_refused 1 = .ok (.iload_n 1, 1) := dk_27 (dk_at dksX1_refused_0 1 rfl rfl)
theorem dX1_refused_2 : decode cX1_refused 2 = .ok (.putfield 62, 3) := dk_181 0 62 (dk_at dksX1_refused_0 2 rfl rfl)
theorem dX1_refused_5 : decode cX1_refused 5 = .ok (.aload_n 0, 1) := dk_42 (dk_at dksX1_refused_0 5 rfl rfl)
theorem dX1_refused_6 : decode cX1_refused 6 = .ok (.iconst (-1), 1) := dk_2 (dk_at dksX1_refused_0 6 rfl rfl)
theorem dX1_refused_7 : decode cX1_refused 7 = .ok (.putfield 13, 3) := dk_181 0 13 (dk_at dksX1_refused_0 7 rfl rfl)
theorem dX1_refused_10 : decode cX1_refused 10 = .ok (.iconst (-1), 1) := dk_2 (dk_at dksX1_refused_0 10 rfl rfl)
theorem dX1_refused_11 : decode cX1_refused 11 = .ok (.ireturn, 1) := dk_172 (dk_at dksX1_refused_0 11 rfl rfl)
abbrev cX1_well : ByteArray := prog_1_method_9_code
def yX1_well : MethodName := ⟨RX1, "well", "(I)I"⟩
def dkwX1_well_0 : List UInt8 := [42, 3, 181, 0, 62, 42, 2, 181, 0, 13, 27, 172]
abbrev dktX1_well_0 : List UInt8 := dkwX1_well_0 ++ []
theorem dksX1_well_0 : cX1_well.data.toList.drop 0 = dktX1_well_0 := by decide +kernel
theorem dX1_well_0 : decode cX1_well 0 = .ok (.aload_n 0, 1) := dk_42 (dk_at dksX1_well_0 0 rfl rfl)
theorem dX1_well_1 : decode cX1_well 1 = .ok (.iconst 0, 1) := dk_3 (dk_at dksX1_well_0 1 rfl rfl)
theorem dX1_well_2 : decode cX1_well 2 = .ok (.putfield 62, 3) := dk_181 0 62 (dk_at dksX1_well_0 2 rfl rfl)
theorem dX1_well_5 : decode cX1_well 5 = .ok (.aload_n 0, 1) := dk_42 (dk_at dksX1_well_0 5 rfl rfl)
theorem dX1_well_6 : decode cX1_well 6 = .ok (.iconst (-1), 1) := dk_2 (dk_at dksX1_well_0 6 rfl rfl)
theorem dX1_well_7 : decode cX1_well 7 = .ok (.putfield 13, 3) := dk_181 0 13 (dk_at dksX1_well_0 7 rfl rfl)
theorem dX1_well_10 : decode cX1_well 10 = .ok (.iload_n 1, 1) := dk_27 (dk_at dksX1_well_0 10 rfl rfl)
theorem dX1_well_11 : decode cX1_well 11 = .ok (.ireturn, 1) := dk_172 (dk_at dksX1_well_0 11 rfl rfl)
abbrev cX1_fault : ByteArray := prog_1_method_14_code
def yX1_fault : MethodName := ⟨RX1, "fault", "()I"⟩
theorem dX1_fault_0 : decode cX1_fault 0 = .ok (.aload_n 0, 1) := by decide +kernel
theorem dX1_fault_1 : decode cX1_fault 1 = .ok (.getfield 100, 3) := by decide +kernel
theorem dX1_fault_4 : decode cX1_fault 4 = .ok (.ireturn, 1) := by decide +kernel
abbrev cX1_where : ByteArray := prog_1_method_15_code
def yX1_where : MethodName := ⟨RX1, "where", "()I"⟩
theorem dX1_where_0 : decode cX1_where 0 = .ok (.aload_n 0, 1) := by decide +kernel
theorem dX1_where_1 : decode cX1_where 1 = .ok (.getfield 13, 3) := by decide +kernel
theorem dX1_where_4 : decode cX1_where 4 = .ok (.ireturn, 1) := by decide +kernel
abbrev cX1_whale : ByteArray := prog_1_method_21_code
def yX1_whale : MethodName := ⟨RX1, "whale", "(II)I"⟩
def dkwX1_whale_3 : List UInt8 := [46, 167, 0, 19, 28, 6, 160, 0, 10, 45, 180, 0, 162, 167, 0, 7, 45, 180, 0, 165, 182, 0, 69, 172]
abbrev dktX1_whale_3 : List UInt8 := dkwX1_whale_3 ++ []
def dkwX1_whale_2 : List UInt8 := [180, 0, 111, 180, 0, 156, 27, 46, 167, 0, 36, 28, 5, 160, 0, 15, 42, 180, 0, 111, 180, 0, 159, 27]
abbrev dktX1_whale_2 : List UInt8 := dkwX1_whale_2 ++ dktX1_whale_3
def dkwX1_whale_1 : List UInt8 := [27, 182, 0, 149, 78, 42, 28, 154, 0, 10, 45, 182, 0, 153, 167, 0, 53, 28, 4, 160, 0, 15, 42]
abbrev dktX1_whale_1 : List UInt8 := dkwX1_whale_1 ++ dktX1_whale_2
def dkwX1_whale_0 : List UInt8 := [42, 27, 182, 0, 145, 153, 0, 12, 28, 3, 7, 184, 0, 79, 154, 0, 9, 42, 4, 182, 0, 65, 172, 42]
abbrev dktX1_whale_0 : List UInt8 := dkwX1_whale_0 ++ dktX1_whale_1
theorem dksX1_whale_0 : cX1_whale.data.toList.drop 0 = dktX1_whale_0 := by decide +kernel
theorem dksX1_whale_1 : cX1_whale.data.toList.drop 24 = dktX1_whale_1 := dk_seg dksX1_whale_0 24 rfl rfl
theorem dksX1_whale_2 : cX1_whale.data.toList.drop 47 = dktX1_whale_2 := dk_seg dksX1_whale_1 23 rfl rfl
theorem dksX1_whale_3 : cX1_whale.data.toList.drop 71 = dktX1_whale_3 := dk_seg dksX1_whale_2 24 rfl rfl
theorem dX1_whale_0 : decode cX1_whale 0 = .ok (.aload_n 0, 1) := dk_42 (dk_at dksX1_whale_0 0 rfl rfl)
theorem dX1_whale_1 : decode cX1_whale 1 = .ok (.iload_n 1, 1) := dk_27 (dk_at dksX1_whale_0 1 rfl rfl)
theorem dX1_whale_2 : decode cX1_whale 2 = .ok (.invokevirtual 145, 3) := dk_182 0 145 (dk_at dksX1_whale_0 2 rfl rfl)
theorem dX1_whale_5 : decode cX1_whale 5 = .ok (.ifCond .eq 12, 3) := dk_153 0 12 (dk_at dksX1_whale_0 5 rfl rfl)
theorem dX1_whale_8 : decode cX1_whale 8 = .ok (.iload_n 2, 1) := dk_28 (dk_at dksX1_whale_0 8 rfl rfl)
theorem dX1_whale_9 : decode cX1_whale 9 = .ok (.iconst 0, 1) := dk_3 (dk_at dksX1_whale_0 9 rfl rfl)
theorem dX1_whale_10 : decode cX1_whale 10 = .ok (.iconst 4, 1) := dk_7 (dk_at dksX1_whale_0 10 rfl rfl)
theorem dX1_whale_11 : decode cX1_whale 11 = .ok (.invokestatic 79, 3) := dk_184 0 79 (dk_at dksX1_whale_0 11 rfl rfl)
theorem dX1_whale_14 : decode cX1_whale 14 = .ok (.ifCond .ne 9, 3) := dk_154 0 9 (dk_at dksX1_whale_0 14 rfl rfl)
theorem dX1_whale_17 : decode cX1_whale 17 = .ok (.aload_n 0, 1) := dk_42 (dk_at dksX1_whale_0 17 rfl rfl)
theorem dX1_whale_18 : decode cX1_whale 18 = .ok (.iconst 1, 1) := dk_4 (dk_at dksX1_whale_0 18 rfl rfl)
theorem dX1_whale_19 : decode cX1_whale 19 = .ok (.invokevirtual 65, 3) := dk_182 0 65 (dk_at dksX1_whale_0 19 rfl rfl)
theorem dX1_whale_22 : decode cX1_whale 22 = .ok (.ireturn, 1) := dk_172 (dk_at dksX1_whale_0 22 rfl rfl)
theorem dX1_whale_23 : decode cX1_whale 23 = .ok (.aload_n 0, 1) := dk_42 (dk_at dksX1_whale_0 23 rfl rfl)
theorem dX1_whale_24 : decode cX1_whale 24 = .ok (.iload_n 1, 1) := dk_27 (dk_at dksX1_whale_1 0 rfl rfl)
theorem dX1_whale_25 : decode cX1_whale 25 = .ok (.invokevirtual 149, 3) := dk_182 0 149 (dk_at dksX1_whale_1 1 rfl rfl)
theorem dX1_whale_28 : decode cX1_whale 28 = .ok (.astore_n 3, 1) := dk_78 (dk_at dksX1_whale_1 4 rfl rfl)
theorem dX1_whale_29 : decode cX1_whale 29 = .ok (.aload_n 0, 1) := dk_42 (dk_at dksX1_whale_1 5 rfl rfl)
theorem dX1_whale_30 : decode cX1_whale 30 = .ok (.iload_n 2, 1) := dk_28 (dk_at dksX1_whale_1 6 rfl rfl)
theorem dX1_whale_31 : decode cX1_whale 31 = .ok (.ifCond .ne 10, 3) := dk_154 0 10 (dk_at dksX1_whale_1 7 rfl rfl)
theorem dX1_whale_34 : decode cX1_whale 34 = .ok (.aload_n 3, 1) := dk_45 (dk_at dksX1_whale_1 10 rfl rfl)
theorem dX1_whale_35 : decode cX1_whale 35 = .ok (.invokevirtual 153, 3) := dk_182 0 153 (dk_at dksX1_whale_1 11 rfl rfl)
theorem dX1_whale_38 : decode cX1_whale 38 = .ok (.goto 53, 3) := dk_167 0 53 (dk_at dksX1_whale_1 14 rfl rfl)
theorem dX1_whale_41 : decode cX1_whale 41 = .ok (.iload_n 2, 1) := dk_28 (dk_at dksX1_whale_1 17 rfl rfl)
theorem dX1_whale_42 : decode cX1_whale 42 = .ok (.iconst 1, 1) := dk_4 (dk_at dksX1_whale_1 18 rfl rfl)
theorem dX1_whale_43 : decode cX1_whale 43 = .ok (.if_icmp .ne 15, 3) := dk_160 0 15 (dk_at dksX1_whale_1 19 rfl rfl)
theorem dX1_whale_46 : decode cX1_whale 46 = .ok (.aload_n 0, 1) := dk_42 (dk_at dksX1_whale_1 22 rfl rfl)
theorem dX1_whale_47 : decode cX1_whale 47 = .ok (.getfield 111, 3) := dk_180 0 111 (dk_at dksX1_whale_2 0 rfl rfl)
theorem dX1_whale_50 : decode cX1_whale 50 = .ok (.getfield 156, 3) := dk_180 0 156 (dk_at dksX1_whale_2 3 rfl rfl)
theorem dX1_whale_53 : decode cX1_whale 53 = .ok (.iload_n 1, 1) := dk_27 (dk_at dksX1_whale_2 6 rfl rfl)
theorem dX1_whale_54 : decode cX1_whale 54 = .ok (.iaload, 1) := dk_46 (dk_at dksX1_whale_2 7 rfl rfl)
theorem dX1_whale_55 : decode cX1_whale 55 = .ok (.goto 36, 3) := dk_167 0 36 (dk_at dksX1_whale_2 8 rfl rfl)
theorem dX1_whale_58 : decode cX1_whale 58 = .ok (.iload_n 2, 1) := dk_28 (dk_at dksX1_whale_2 11 rfl rfl)
theorem dX1_whale_59 : decode cX1_whale 59 = .ok (.iconst 2, 1) := dk_5 (dk_at dksX1_whale_2 12 rfl rfl)
theorem dX1_whale_60 : decode cX1_whale 60 = .ok (.if_icmp .ne 15, 3) := dk_160 0 15 (dk_at dksX1_whale_2 13 rfl rfl)
theorem dX1_whale_63 : decode cX1_whale 63 = .ok (.aload_n 0, 1) := dk_42 (dk_at dksX1_whale_2 16 rfl rfl)
theorem dX1_whale_64 : decode cX1_whale 64 = .ok (.getfield 111, 3) := dk_180 0 111 (dk_at dksX1_whale_2 17 rfl rfl)
theorem dX1_whale_67 : decode cX1_whale 67 = .ok (.getfield 159, 3) := dk_180 0 159 (dk_at dksX1_whale_2 20 rfl rfl)
theorem dX1_whale_70 : decode cX1_whale 70 = .ok (.iload_n 1, 1) := dk_27 (dk_at dksX1_whale_2 23 rfl rfl)
theorem dX1_whale_71 : decode cX1_whale 71 = .ok (.iaload, 1) := dk_46 (dk_at dksX1_whale_3 0 rfl rfl)
theorem dX1_whale_72 : decode cX1_whale 72 = .ok (.goto 19, 3) := dk_167 0 19 (dk_at dksX1_whale_3 1 rfl rfl)
theorem dX1_whale_75 : decode cX1_whale 75 = .ok (.iload_n 2, 1) := dk_28 (dk_at dksX1_whale_3 4 rfl rfl)
theorem dX1_whale_76 : decode cX1_whale 76 = .ok (.iconst 3, 1) := dk_6 (dk_at dksX1_whale_3 5 rfl rfl)
theorem dX1_whale_77 : decode cX1_whale 77 = .ok (.if_icmp .ne 10, 3) := dk_160 0 10 (dk_at dksX1_whale_3 6 rfl rfl)
theorem dX1_whale_80 : decode cX1_whale 80 = .ok (.aload_n 3, 1) := dk_45 (dk_at dksX1_whale_3 9 rfl rfl)
theorem dX1_whale_81 : decode cX1_whale 81 = .ok (.getfield 162, 3) := dk_180 0 162 (dk_at dksX1_whale_3 10 rfl rfl)
theorem dX1_whale_84 : decode cX1_whale 84 = .ok (.goto 7, 3) := dk_167 0 7 (dk_at dksX1_whale_3 13 rfl rfl)
theorem dX1_whale_87 : decode cX1_whale 87 = .ok (.aload_n 3, 1) := dk_45 (dk_at dksX1_whale_3 16 rfl rfl)
theorem dX1_whale_88 : decode cX1_whale 88 = .ok (.getfield 165, 3) := dk_180 0 165 (dk_at dksX1_whale_3 17 rfl rfl)
theorem dX1_whale_91 : decode cX1_whale 91 = .ok (.invokevirtual 69, 3) := dk_182 0 69 (dk_at dksX1_whale_3 20 rfl rfl)
theorem dX1_whale_94 : decode cX1_whale 94 = .ok (.ireturn, 1) := dk_172 (dk_at dksX1_whale_3 23 rfl rfl)
abbrev cX1_isWhale : ByteArray := prog_1_method_17_code
def yX1_isWhale : MethodName := ⟨RX1, "isWhale", "(I)Z"⟩
def dkwX1_isWhale_1 : List UInt8 := [153, 0, 7, 4, 167, 0, 4, 3, 172]
abbrev dktX1_isWhale_1 : List UInt8 := dkwX1_isWhale_1 ++ []
def dkwX1_isWhale_0 : List UInt8 := [42, 180, 0, 104, 198, 0, 27, 27, 3, 42, 180, 0, 104, 180, 0, 131, 182, 0, 127, 4, 100, 184, 0, 79]
abbrev dktX1_isWhale_0 : List UInt8 := dkwX1_isWhale_0 ++ dktX1_isWhale_1
theorem dksX1_isWhale_0 : cX1_isWhale.data.toList.drop 0 = dktX1_isWhale_0 := by decide +kernel
theorem dksX1_isWhale_1 : cX1_isWhale.data.toList.drop 24 = dktX1_isWhale_1 := dk_seg dksX1_isWhale_0 24 rfl rfl
theorem dX1_isWhale_0 : decode cX1_isWhale 0 = .ok (.aload_n 0, 1) := dk_42 (dk_at dksX1_isWhale_0 0 rfl rfl)
theorem dX1_isWhale_1 : decode cX1_isWhale 1 = .ok (.getfield 104, 3) := dk_180 0 104 (dk_at dksX1_isWhale_0 1 rfl rfl)
theorem dX1_isWhale_4 : decode cX1_isWhale 4 = .ok (.ifnull 27, 3) := dk_198 0 27 (dk_at dksX1_isWhale_0 4 rfl rfl)
theorem dX1_isWhale_7 : decode cX1_isWhale 7 = .ok (.iload_n 1, 1) := dk_27 (dk_at dksX1_isWhale_0 7 rfl rfl)
theorem dX1_isWhale_8 : decode cX1_isWhale 8 = .ok (.iconst 0, 1) := dk_3 (dk_at dksX1_isWhale_0 8 rfl rfl)
theorem dX1_isWhale_9 : decode cX1_isWhale 9 = .ok (.aload_n 0, 1) := dk_42 (dk_at dksX1_isWhale_0 9 rfl rfl)
theorem dX1_isWhale_10 : decode cX1_isWhale 10 = .ok (.getfield 104, 3) := dk_180 0 104 (dk_at dksX1_isWhale_0 10 rfl rfl)
theorem dX1_isWhale_13 : decode cX1_isWhale 13 = .ok (.getfield 131, 3) := dk_180 0 131 (dk_at dksX1_isWhale_0 13 rfl rfl)
theorem dX1_isWhale_16 : decode cX1_isWhale 16 = .ok (.invokevirtual 127, 3) := dk_182 0 127 (dk_at dksX1_isWhale_0 16 rfl rfl)
theorem dX1_isWhale_19 : decode cX1_isWhale 19 = .ok (.iconst 1, 1) := dk_4 (dk_at dksX1_isWhale_0 19 rfl rfl)
theorem dX1_isWhale_20 : decode cX1_isWhale 20 = .ok (.isub, 1) := dk_100 (dk_at dksX1_isWhale_0 20 rfl rfl)
theorem dX1_isWhale_21 : decode cX1_isWhale 21 = .ok (.invokestatic 79, 3) := dk_184 0 79 (dk_at dksX1_isWhale_0 21 rfl rfl)
theorem dX1_isWhale_24 : decode cX1_isWhale 24 = .ok (.ifCond .eq 7, 3) := dk_153 0 7 (dk_at dksX1_isWhale_1 0 rfl rfl)
theorem dX1_isWhale_27 : decode cX1_isWhale 27 = .ok (.iconst 1, 1) := dk_4 (dk_at dksX1_isWhale_1 3 rfl rfl)
theorem dX1_isWhale_28 : decode cX1_isWhale 28 = .ok (.goto 4, 3) := dk_167 0 4 (dk_at dksX1_isWhale_1 4 rfl rfl)
theorem dX1_isWhale_31 : decode cX1_isWhale 31 = .ok (.iconst 0, 1) := dk_3 (dk_at dksX1_isWhale_1 7 rfl rfl)
theorem dX1_isWhale_32 : decode cX1_isWhale 32 = .ok (.ireturn, 1) := dk_172 (dk_at dksX1_isWhale_1 8 rfl rfl)
abbrev cX1_whaleOf : ByteArray := prog_1_method_19_code
def yX1_whaleOf : MethodName := ⟨RX1, "whaleOf", "(I)LWhalePost$Whale;"⟩
def dkwX1_whaleOf_0 : List UInt8 := [42, 180, 0, 104, 180, 0, 131, 27, 182, 0, 137, 192, 0, 141, 176]
abbrev dktX1_whaleOf_0 : List UInt8 := dkwX1_whaleOf_0 ++ []
theorem dksX1_whaleOf_0 : cX1_whaleOf.data.toList.drop 0 = dktX1_whaleOf_0 := by decide +kernel
theorem dX1_whaleOf_0 : decode cX1_whaleOf 0 = .ok (.aload_n 0, 1) := dk_42 (dk_at dksX1_whaleOf_0 0 rfl rfl)
theorem dX1_whaleOf_1 : decode cX1_whaleOf 1 = .ok (.getfield 104, 3) := dk_180 0 104 (dk_at dksX1_whaleOf_0 1 rfl rfl)
theorem dX1_whaleOf_4 : decode cX1_whaleOf 4 = .ok (.getfield 131, 3) := dk_180 0 131 (dk_at dksX1_whaleOf_0 4 rfl rfl)
theorem dX1_whaleOf_7 : decode cX1_whaleOf 7 = .ok (.iload_n 1, 1) := dk_27 (dk_at dksX1_whaleOf_0 7 rfl rfl)
theorem dX1_whaleOf_8 : decode cX1_whaleOf 8 = .ok (.invokevirtual 137, 3) := dk_182 0 137 (dk_at dksX1_whaleOf_0 8 rfl rfl)
theorem dX1_whaleOf_11 : decode cX1_whaleOf 11 = .ok (.checkcast 141, 3) := dk_192 0 141 (dk_at dksX1_whaleOf_0 11 rfl rfl)
theorem dX1_whaleOf_14 : decode cX1_whaleOf 14 = .ok (.areturn, 1) := dk_176 (dk_at dksX1_whaleOf_0 14 rfl rfl)
abbrev cX1_box : ByteArray := prog_1_method_22_code
def yX1_box : MethodName := ⟨RX1, "box", "(II)I"⟩
def dkwX1_box_5 : List UInt8 := [182, 0, 69, 172, 42, 42, 180, 0, 111, 180, 0, 190, 27, 46, 182, 0, 69, 172]
abbrev dktX1_box_5 : List UInt8 := dkwX1_box_5 ++ []
def dkwX1_box_4 : List UInt8 := [182, 0, 69, 172, 42, 45, 180, 0, 184, 182, 0, 69, 172, 42, 42, 180, 0, 111, 180, 0, 187, 27, 46]
abbrev dktX1_box_4 : List UInt8 := dkwX1_box_4 ++ dktX1_box_5
def dkwX1_box_3 : List UInt8 := [42, 45, 180, 0, 175, 182, 0, 69, 172, 42, 45, 180, 0, 178, 182, 0, 69, 172, 42, 45, 180, 0, 181]
abbrev dktX1_box_3 : List UInt8 := dkwX1_box_3 ++ dktX1_box_4
def dkwX1_box_2 : List UInt8 := [170, 0, 0, 0, 0, 84, 0, 0, 0, 0, 0, 0, 0, 4, 0, 0, 0, 34, 0, 0, 0, 43, 0, 0, 0, 52, 0, 0, 0, 61, 0, 0, 0, 70]
abbrev dktX1_box_2 : List UInt8 := dkwX1_box_2 ++ dktX1_box_3
def dkwX1_box_1 : List UInt8 := [27, 182, 0, 171, 78, 28]
abbrev dktX1_box_1 : List UInt8 := dkwX1_box_1 ++ dktX1_box_2
def dkwX1_box_0 : List UInt8 := [42, 27, 182, 0, 168, 153, 0, 12, 28, 3, 8, 184, 0, 79, 154, 0, 9, 42, 4, 182, 0, 65, 172, 42]
abbrev dktX1_box_0 : List UInt8 := dkwX1_box_0 ++ dktX1_box_1
theorem dksX1_box_0 : cX1_box.data.toList.drop 0 = dktX1_box_0 := by decide +kernel
theorem dksX1_box_1 : cX1_box.data.toList.drop 24 = dktX1_box_1 := dk_seg dksX1_box_0 24 rfl rfl
theorem dksX1_box_2 : cX1_box.data.toList.drop 30 = dktX1_box_2 := dk_seg dksX1_box_1 6 rfl rfl
theorem dksX1_box_3 : cX1_box.data.toList.drop 64 = dktX1_box_3 := dk_seg dksX1_box_2 34 rfl rfl
theorem dksX1_box_4 : cX1_box.data.toList.drop 87 = dktX1_box_4 := dk_seg dksX1_box_3 23 rfl rfl
theorem dksX1_box_5 : cX1_box.data.toList.drop 110 = dktX1_box_5 := dk_seg dksX1_box_4 23 rfl rfl
theorem dX1_box_0 : decode cX1_box 0 = .ok (.aload_n 0, 1) := dk_42 (dk_at dksX1_box_0 0 rfl rfl)
theorem dX1_box_1 : decode cX1_box 1 = .ok (.iload_n 1, 1) := dk_27 (dk_at dksX1_box_0 1 rfl rfl)
theorem dX1_box_2 : decode cX1_box 2 = .ok (.invokevirtual 168, 3) := dk_182 0 168 (dk_at dksX1_box_0 2 rfl rfl)
theorem dX1_box_5 : decode cX1_box 5 = .ok (.ifCond .eq 12, 3) := dk_153 0 12 (dk_at dksX1_box_0 5 rfl rfl)
theorem dX1_box_8 : decode cX1_box 8 = .ok (.iload_n 2, 1) := dk_28 (dk_at dksX1_box_0 8 rfl rfl)
theorem dX1_box_9 : decode cX1_box 9 = .ok (.iconst 0, 1) := dk_3 (dk_at dksX1_box_0 9 rfl rfl)
theorem dX1_box_10 : decode cX1_box 10 = .ok (.iconst 5, 1) := dk_8 (dk_at dksX1_box_0 10 rfl rfl)
theorem dX1_box_11 : decode cX1_box 11 = .ok (.invokestatic 79, 3) := dk_184 0 79 (dk_at dksX1_box_0 11 rfl rfl)
theorem dX1_box_14 : decode cX1_box 14 = .ok (.ifCond .ne 9, 3) := dk_154 0 9 (dk_at dksX1_box_0 14 rfl rfl)
theorem dX1_box_17 : decode cX1_box 17 = .ok (.aload_n 0, 1) := dk_42 (dk_at dksX1_box_0 17 rfl rfl)
theorem dX1_box_18 : decode cX1_box 18 = .ok (.iconst 1, 1) := dk_4 (dk_at dksX1_box_0 18 rfl rfl)
theorem dX1_box_19 : decode cX1_box 19 = .ok (.invokevirtual 65, 3) := dk_182 0 65 (dk_at dksX1_box_0 19 rfl rfl)
theorem dX1_box_22 : decode cX1_box 22 = .ok (.ireturn, 1) := dk_172 (dk_at dksX1_box_0 22 rfl rfl)
theorem dX1_box_23 : decode cX1_box 23 = .ok (.aload_n 0, 1) := dk_42 (dk_at dksX1_box_0 23 rfl rfl)
theorem dX1_box_24 : decode cX1_box 24 = .ok (.iload_n 1, 1) := dk_27 (dk_at dksX1_box_1 0 rfl rfl)
theorem dX1_box_25 : decode cX1_box 25 = .ok (.invokevirtual 171, 3) := dk_182 0 171 (dk_at dksX1_box_1 1 rfl rfl)
theorem dX1_box_28 : decode cX1_box 28 = .ok (.astore_n 3, 1) := dk_78 (dk_at dksX1_box_1 4 rfl rfl)
theorem dX1_box_29 : decode cX1_box 29 = .ok (.iload_n 2, 1) := dk_28 (dk_at dksX1_box_1 5 rfl rfl)
theorem dX1_box_30 : decode cX1_box 30 = .ok (.tableswitch 84 0 4 #[34, 43, 52, 61, 70], 34) := by decide +kernel
theorem dX1_box_64 : decode cX1_box 64 = .ok (.aload_n 0, 1) := dk_42 (dk_at dksX1_box_3 0 rfl rfl)
theorem dX1_box_65 : decode cX1_box 65 = .ok (.aload_n 3, 1) := dk_45 (dk_at dksX1_box_3 1 rfl rfl)
theorem dX1_box_66 : decode cX1_box 66 = .ok (.getfield 175, 3) := dk_180 0 175 (dk_at dksX1_box_3 2 rfl rfl)
theorem dX1_box_69 : decode cX1_box 69 = .ok (.invokevirtual 69, 3) := dk_182 0 69 (dk_at dksX1_box_3 5 rfl rfl)
theorem dX1_box_72 : decode cX1_box 72 = .ok (.ireturn, 1) := dk_172 (dk_at dksX1_box_3 8 rfl rfl)
theorem dX1_box_73 : decode cX1_box 73 = .ok (.aload_n 0, 1) := dk_42 (dk_at dksX1_box_3 9 rfl rfl)
theorem dX1_box_74 : decode cX1_box 74 = .ok (.aload_n 3, 1) := dk_45 (dk_at dksX1_box_3 10 rfl rfl)
theorem dX1_box_75 : decode cX1_box 75 = .ok (.getfield 178, 3) := dk_180 0 178 (dk_at dksX1_box_3 11 rfl rfl)
theorem dX1_box_78 : decode cX1_box 78 = .ok (.invokevirtual 69, 3) := dk_182 0 69 (dk_at dksX1_box_3 14 rfl rfl)
theorem dX1_box_81 : decode cX1_box 81 = .ok (.ireturn, 1) := dk_172 (dk_at dksX1_box_3 17 rfl rfl)
theorem dX1_box_82 : decode cX1_box 82 = .ok (.aload_n 0, 1) := dk_42 (dk_at dksX1_box_3 18 rfl rfl)
theorem dX1_box_83 : decode cX1_box 83 = .ok (.aload_n 3, 1) := dk_45 (dk_at dksX1_box_3 19 rfl rfl)
theorem dX1_box_84 : decode cX1_box 84 = .ok (.getfield 181, 3) := dk_180 0 181 (dk_at dksX1_box_3 20 rfl rfl)
theorem dX1_box_87 : decode cX1_box 87 = .ok (.invokevirtual 69, 3) := dk_182 0 69 (dk_at dksX1_box_4 0 rfl rfl)
theorem dX1_box_90 : decode cX1_box 90 = .ok (.ireturn, 1) := dk_172 (dk_at dksX1_box_4 3 rfl rfl)
theorem dX1_box_91 : decode cX1_box 91 = .ok (.aload_n 0, 1) := dk_42 (dk_at dksX1_box_4 4 rfl rfl)
theorem dX1_box_92 : decode cX1_box 92 = .ok (.aload_n 3, 1) := dk_45 (dk_at dksX1_box_4 5 rfl rfl)
theorem dX1_box_93 : decode cX1_box 93 = .ok (.getfield 184, 3) := dk_180 0 184 (dk_at dksX1_box_4 6 rfl rfl)
theorem dX1_box_96 : decode cX1_box 96 = .ok (.invokevirtual 69, 3) := dk_182 0 69 (dk_at dksX1_box_4 9 rfl rfl)
theorem dX1_box_99 : decode cX1_box 99 = .ok (.ireturn, 1) := dk_172 (dk_at dksX1_box_4 12 rfl rfl)
theorem dX1_box_100 : decode cX1_box 100 = .ok (.aload_n 0, 1) := dk_42 (dk_at dksX1_box_4 13 rfl rfl)
theorem dX1_box_101 : decode cX1_box 101 = .ok (.aload_n 0, 1) := dk_42 (dk_at dksX1_box_4 14 rfl rfl)
theorem dX1_box_102 : decode cX1_box 102 = .ok (.getfield 111, 3) := dk_180 0 111 (dk_at dksX1_box_4 15 rfl rfl)
theorem dX1_box_105 : decode cX1_box 105 = .ok (.getfield 187, 3) := dk_180 0 187 (dk_at dksX1_box_4 18 rfl rfl)
theorem dX1_box_108 : decode cX1_box 108 = .ok (.iload_n 1, 1) := dk_27 (dk_at dksX1_box_4 21 rfl rfl)
theorem dX1_box_109 : decode cX1_box 109 = .ok (.iaload, 1) := dk_46 (dk_at dksX1_box_4 22 rfl rfl)
theorem dX1_box_110 : decode cX1_box 110 = .ok (.invokevirtual 69, 3) := dk_182 0 69 (dk_at dksX1_box_5 0 rfl rfl)
theorem dX1_box_113 : decode cX1_box 113 = .ok (.ireturn, 1) := dk_172 (dk_at dksX1_box_5 3 rfl rfl)
theorem dX1_box_114 : decode cX1_box 114 = .ok (.aload_n 0, 1) := dk_42 (dk_at dksX1_box_5 4 rfl rfl)
theorem dX1_box_115 : decode cX1_box 115 = .ok (.aload_n 0, 1) := dk_42 (dk_at dksX1_box_5 5 rfl rfl)
theorem dX1_box_116 : decode cX1_box 116 = .ok (.getfield 111, 3) := dk_180 0 111 (dk_at dksX1_box_5 6 rfl rfl)
theorem dX1_box_119 : decode cX1_box 119 = .ok (.getfield 190, 3) := dk_180 0 190 (dk_at dksX1_box_5 9 rfl rfl)
theorem dX1_box_122 : decode cX1_box 122 = .ok (.iload_n 1, 1) := dk_27 (dk_at dksX1_box_5 12 rfl rfl)
theorem dX1_box_123 : decode cX1_box 123 = .ok (.iaload, 1) := dk_46 (dk_at dksX1_box_5 13 rfl rfl)
theorem dX1_box_124 : decode cX1_box 124 = .ok (.invokevirtual 69, 3) := dk_182 0 69 (dk_at dksX1_box_5 14 rfl rfl)
theorem dX1_box_127 : decode cX1_box 127 = .ok (.ireturn, 1) := dk_172 (dk_at dksX1_box_5 17 rfl rfl)
abbrev cX1_isBox : ByteArray := prog_1_method_18_code
def yX1_isBox : MethodName := ⟨RX1, "isBox", "(I)Z"⟩
def dkwX1_isBox_1 : List UInt8 := [153, 0, 7, 4, 167, 0, 4, 3, 172]
abbrev dktX1_isBox_1 : List UInt8 := dkwX1_isBox_1 ++ []
def dkwX1_isBox_0 : List UInt8 := [42, 180, 0, 104, 198, 0, 27, 27, 3, 42, 180, 0, 104, 180, 0, 134, 182, 0, 127, 4, 100, 184, 0, 79]
abbrev dktX1_isBox_0 : List UInt8 := dkwX1_isBox_0 ++ dktX1_isBox_1
theorem dksX1_isBox_0 : cX1_isBox.data.toList.drop 0 = dktX1_isBox_0 := by decide +kernel
theorem dksX1_isBox_1 : cX1_isBox.data.toList.drop 24 = dktX1_isBox_1 := dk_seg dksX1_isBox_0 24 rfl rfl
theorem dX1_isBox_0 : decode cX1_isBox 0 = .ok (.aload_n 0, 1) := dk_42 (dk_at dksX1_isBox_0 0 rfl rfl)
theorem dX1_isBox_1 : decode cX1_isBox 1 = .ok (.getfield 104, 3) := dk_180 0 104 (dk_at dksX1_isBox_0 1 rfl rfl)
theorem dX1_isBox_4 : decode cX1_isBox 4 = .ok (.ifnull 27, 3) := dk_198 0 27 (dk_at dksX1_isBox_0 4 rfl rfl)
theorem dX1_isBox_7 : decode cX1_isBox 7 = .ok (.iload_n 1, 1) := dk_27 (dk_at dksX1_isBox_0 7 rfl rfl)
theorem dX1_isBox_8 : decode cX1_isBox 8 = .ok (.iconst 0, 1) := dk_3 (dk_at dksX1_isBox_0 8 rfl rfl)
theorem dX1_isBox_9 : decode cX1_isBox 9 = .ok (.aload_n 0, 1) := dk_42 (dk_at dksX1_isBox_0 9 rfl rfl)
theorem dX1_isBox_10 : decode cX1_isBox 10 = .ok (.getfield 104, 3) := dk_180 0 104 (dk_at dksX1_isBox_0 10 rfl rfl)
theorem dX1_isBox_13 : decode cX1_isBox 13 = .ok (.getfield 134, 3) := dk_180 0 134 (dk_at dksX1_isBox_0 13 rfl rfl)
theorem dX1_isBox_16 : decode cX1_isBox 16 = .ok (.invokevirtual 127, 3) := dk_182 0 127 (dk_at dksX1_isBox_0 16 rfl rfl)
theorem dX1_isBox_19 : decode cX1_isBox 19 = .ok (.iconst 1, 1) := dk_4 (dk_at dksX1_isBox_0 19 rfl rfl)
theorem dX1_isBox_20 : decode cX1_isBox 20 = .ok (.isub, 1) := dk_100 (dk_at dksX1_isBox_0 20 rfl rfl)
theorem dX1_isBox_21 : decode cX1_isBox 21 = .ok (.invokestatic 79, 3) := dk_184 0 79 (dk_at dksX1_isBox_0 21 rfl rfl)
theorem dX1_isBox_24 : decode cX1_isBox 24 = .ok (.ifCond .eq 7, 3) := dk_153 0 7 (dk_at dksX1_isBox_1 0 rfl rfl)
theorem dX1_isBox_27 : decode cX1_isBox 27 = .ok (.iconst 1, 1) := dk_4 (dk_at dksX1_isBox_1 3 rfl rfl)
theorem dX1_isBox_28 : decode cX1_isBox 28 = .ok (.goto 4, 3) := dk_167 0 4 (dk_at dksX1_isBox_1 4 rfl rfl)
theorem dX1_isBox_31 : decode cX1_isBox 31 = .ok (.iconst 0, 1) := dk_3 (dk_at dksX1_isBox_1 7 rfl rfl)
theorem dX1_isBox_32 : decode cX1_isBox 32 = .ok (.ireturn, 1) := dk_172 (dk_at dksX1_isBox_1 8 rfl rfl)
abbrev cX1_boxOf : ByteArray := prog_1_method_20_code
def yX1_boxOf : MethodName := ⟨RX1, "boxOf", "(I)LWhalePost$Box;"⟩
def dkwX1_boxOf_0 : List UInt8 := [42, 180, 0, 104, 180, 0, 134, 27, 182, 0, 137, 192, 0, 143, 176]
abbrev dktX1_boxOf_0 : List UInt8 := dkwX1_boxOf_0 ++ []
theorem dksX1_boxOf_0 : cX1_boxOf.data.toList.drop 0 = dktX1_boxOf_0 := by decide +kernel
theorem dX1_boxOf_0 : decode cX1_boxOf 0 = .ok (.aload_n 0, 1) := dk_42 (dk_at dksX1_boxOf_0 0 rfl rfl)
theorem dX1_boxOf_1 : decode cX1_boxOf 1 = .ok (.getfield 104, 3) := dk_180 0 104 (dk_at dksX1_boxOf_0 1 rfl rfl)
theorem dX1_boxOf_4 : decode cX1_boxOf 4 = .ok (.getfield 134, 3) := dk_180 0 134 (dk_at dksX1_boxOf_0 4 rfl rfl)
theorem dX1_boxOf_7 : decode cX1_boxOf 7 = .ok (.iload_n 1, 1) := dk_27 (dk_at dksX1_boxOf_0 7 rfl rfl)
theorem dX1_boxOf_8 : decode cX1_boxOf 8 = .ok (.invokevirtual 137, 3) := dk_182 0 137 (dk_at dksX1_boxOf_0 8 rfl rfl)
theorem dX1_boxOf_11 : decode cX1_boxOf 11 = .ok (.checkcast 143, 3) := dk_192 0 143 (dk_at dksX1_boxOf_0 11 rfl rfl)
theorem dX1_boxOf_14 : decode cX1_boxOf 14 = .ok (.areturn, 1) := dk_176 (dk_at dksX1_boxOf_0 14 rfl rfl)
abbrev cX1_length : ByteArray := prog_1_method_23_code
def yX1_length : MethodName := ⟨RX1, "length", "(I)I"⟩
def dkwX1_length_1 : List UInt8 := [4, 182, 0, 65, 172]
abbrev dktX1_length_1 : List UInt8 := dkwX1_length_1 ++ []
def dkwX1_length_0 : List UInt8 := [42, 27, 182, 0, 193, 153, 0, 18, 42, 42, 180, 0, 104, 27, 182, 0, 196, 182, 0, 69, 167, 0, 8, 42]
abbrev dktX1_length_0 : List UInt8 := dkwX1_length_0 ++ dktX1_length_1
theorem dksX1_length_0 : cX1_length.data.toList.drop 0 = dktX1_length_0 := by decide +kernel
theorem dksX1_length_1 : cX1_length.data.toList.drop 24 = dktX1_length_1 := dk_seg dksX1_length_0 24 rfl rfl
theorem dX1_length_0 : decode cX1_length 0 = .ok (.aload_n 0, 1) := dk_42 (dk_at dksX1_length_0 0 rfl rfl)
theorem dX1_length_1 : decode cX1_length 1 = .ok (.iload_n 1, 1) := dk_27 (dk_at dksX1_length_0 1 rfl rfl)
theorem dX1_length_2 : decode cX1_length 2 = .ok (.invokevirtual 193, 3) := dk_182 0 193 (dk_at dksX1_length_0 2 rfl rfl)
theorem dX1_length_5 : decode cX1_length 5 = .ok (.ifCond .eq 18, 3) := dk_153 0 18 (dk_at dksX1_length_0 5 rfl rfl)
theorem dX1_length_8 : decode cX1_length 8 = .ok (.aload_n 0, 1) := dk_42 (dk_at dksX1_length_0 8 rfl rfl)
theorem dX1_length_9 : decode cX1_length 9 = .ok (.aload_n 0, 1) := dk_42 (dk_at dksX1_length_0 9 rfl rfl)
theorem dX1_length_10 : decode cX1_length 10 = .ok (.getfield 104, 3) := dk_180 0 104 (dk_at dksX1_length_0 10 rfl rfl)
theorem dX1_length_13 : decode cX1_length 13 = .ok (.iload_n 1, 1) := dk_27 (dk_at dksX1_length_0 13 rfl rfl)
theorem dX1_length_14 : decode cX1_length 14 = .ok (.invokevirtual 196, 3) := dk_182 0 196 (dk_at dksX1_length_0 14 rfl rfl)
theorem dX1_length_17 : decode cX1_length 17 = .ok (.invokevirtual 69, 3) := dk_182 0 69 (dk_at dksX1_length_0 17 rfl rfl)
theorem dX1_length_20 : decode cX1_length 20 = .ok (.goto 8, 3) := dk_167 0 8 (dk_at dksX1_length_0 20 rfl rfl)
theorem dX1_length_23 : decode cX1_length 23 = .ok (.aload_n 0, 1) := dk_42 (dk_at dksX1_length_0 23 rfl rfl)
theorem dX1_length_24 : decode cX1_length 24 = .ok (.iconst 1, 1) := dk_4 (dk_at dksX1_length_1 0 rfl rfl)
theorem dX1_length_25 : decode cX1_length 25 = .ok (.invokevirtual 65, 3) := dk_182 0 65 (dk_at dksX1_length_1 1 rfl rfl)
theorem dX1_length_28 : decode cX1_length 28 = .ok (.ireturn, 1) := dk_172 (dk_at dksX1_length_1 4 rfl rfl)
abbrev cX1_isIsland : ByteArray := prog_1_method_16_code
def yX1_isIsland : MethodName := ⟨RX1, "isIsland", "(I)Z"⟩
def dkwX1_isIsland_1 : List UInt8 := [153, 0, 7, 4, 167, 0, 4, 3, 172]
abbrev dktX1_isIsland_1 : List UInt8 := dkwX1_isIsland_1 ++ []
def dkwX1_isIsland_0 : List UInt8 := [42, 180, 0, 104, 198, 0, 27, 27, 3, 42, 180, 0, 104, 180, 0, 122, 182, 0, 127, 4, 100, 184, 0, 79]
abbrev dktX1_isIsland_0 : List UInt8 := dkwX1_isIsland_0 ++ dktX1_isIsland_1
theorem dksX1_isIsland_0 : cX1_isIsland.data.toList.drop 0 = dktX1_isIsland_0 := by decide +kernel
theorem dksX1_isIsland_1 : cX1_isIsland.data.toList.drop 24 = dktX1_isIsland_1 := dk_seg dksX1_isIsland_0 24 rfl rfl
theorem dX1_isIsland_0 : decode cX1_isIsland 0 = .ok (.aload_n 0, 1) := dk_42 (dk_at dksX1_isIsland_0 0 rfl rfl)
theorem dX1_isIsland_1 : decode cX1_isIsland 1 = .ok (.getfield 104, 3) := dk_180 0 104 (dk_at dksX1_isIsland_0 1 rfl rfl)
theorem dX1_isIsland_4 : decode cX1_isIsland 4 = .ok (.ifnull 27, 3) := dk_198 0 27 (dk_at dksX1_isIsland_0 4 rfl rfl)
theorem dX1_isIsland_7 : decode cX1_isIsland 7 = .ok (.iload_n 1, 1) := dk_27 (dk_at dksX1_isIsland_0 7 rfl rfl)
theorem dX1_isIsland_8 : decode cX1_isIsland 8 = .ok (.iconst 0, 1) := dk_3 (dk_at dksX1_isIsland_0 8 rfl rfl)
theorem dX1_isIsland_9 : decode cX1_isIsland 9 = .ok (.aload_n 0, 1) := dk_42 (dk_at dksX1_isIsland_0 9 rfl rfl)
theorem dX1_isIsland_10 : decode cX1_isIsland 10 = .ok (.getfield 104, 3) := dk_180 0 104 (dk_at dksX1_isIsland_0 10 rfl rfl)
theorem dX1_isIsland_13 : decode cX1_isIsland 13 = .ok (.getfield 122, 3) := dk_180 0 122 (dk_at dksX1_isIsland_0 13 rfl rfl)
theorem dX1_isIsland_16 : decode cX1_isIsland 16 = .ok (.invokevirtual 127, 3) := dk_182 0 127 (dk_at dksX1_isIsland_0 16 rfl rfl)
theorem dX1_isIsland_19 : decode cX1_isIsland 19 = .ok (.iconst 1, 1) := dk_4 (dk_at dksX1_isIsland_0 19 rfl rfl)
theorem dX1_isIsland_20 : decode cX1_isIsland 20 = .ok (.isub, 1) := dk_100 (dk_at dksX1_isIsland_0 20 rfl rfl)
theorem dX1_isIsland_21 : decode cX1_isIsland 21 = .ok (.invokestatic 79, 3) := dk_184 0 79 (dk_at dksX1_isIsland_0 21 rfl rfl)
theorem dX1_isIsland_24 : decode cX1_isIsland 24 = .ok (.ifCond .eq 7, 3) := dk_153 0 7 (dk_at dksX1_isIsland_1 0 rfl rfl)
theorem dX1_isIsland_27 : decode cX1_isIsland 27 = .ok (.iconst 1, 1) := dk_4 (dk_at dksX1_isIsland_1 3 rfl rfl)
theorem dX1_isIsland_28 : decode cX1_isIsland 28 = .ok (.goto 4, 3) := dk_167 0 4 (dk_at dksX1_isIsland_1 4 rfl rfl)
theorem dX1_isIsland_31 : decode cX1_isIsland 31 = .ok (.iconst 0, 1) := dk_3 (dk_at dksX1_isIsland_1 7 rfl rfl)
theorem dX1_isIsland_32 : decode cX1_isIsland 32 = .ok (.ireturn, 1) := dk_172 (dk_at dksX1_isIsland_1 8 rfl rfl)
abbrev cX1_note : ByteArray := prog_1_method_24_code
def yX1_note : MethodName := ⟨RX1, "note", "(II)I"⟩
def dkwX1_note_2 : List UInt8 := [167, 0, 8, 42, 4, 182, 0, 65, 172]
abbrev dktX1_note_2 : List UInt8 := dkwX1_note_2 ++ []
def dkwX1_note_1 : List UInt8 := [153, 0, 26, 42, 42, 180, 0, 104, 27, 28, 42, 180, 0, 111, 180, 0, 199, 182, 0, 202, 182, 0, 69]
abbrev dktX1_note_1 : List UInt8 := dkwX1_note_1 ++ dktX1_note_2
def dkwX1_note_0 : List UInt8 := [42, 27, 182, 0, 193, 153, 0, 44, 28, 3, 42, 180, 0, 104, 27, 182, 0, 196, 4, 100, 184, 0, 79]
abbrev dktX1_note_0 : List UInt8 := dkwX1_note_0 ++ dktX1_note_1
theorem dksX1_note_0 : cX1_note.data.toList.drop 0 = dktX1_note_0 := by decide +kernel
theorem dksX1_note_1 : cX1_note.data.toList.drop 23 = dktX1_note_1 := dk_seg dksX1_note_0 23 rfl rfl
theorem dksX1_note_2 : cX1_note.data.toList.drop 46 = dktX1_note_2 := dk_seg dksX1_note_1 23 rfl rfl
theorem dX1_note_0 : decode cX1_note 0 = .ok (.aload_n 0, 1) := dk_42 (dk_at dksX1_note_0 0 rfl rfl)
theorem dX1_note_1 : decode cX1_note 1 = .ok (.iload_n 1, 1) := dk_27 (dk_at dksX1_note_0 1 rfl rfl)
theorem dX1_note_2 : decode cX1_note 2 = .ok (.invokevirtual 193, 3) := dk_182 0 193 (dk_at dksX1_note_0 2 rfl rfl)
theorem dX1_note_5 : decode cX1_note 5 = .ok (.ifCond .eq 44, 3) := dk_153 0 44 (dk_at dksX1_note_0 5 rfl rfl)
theorem dX1_note_8 : decode cX1_note 8 = .ok (.iload_n 2, 1) := dk_28 (dk_at dksX1_note_0 8 rfl rfl)
theorem dX1_note_9 : decode cX1_note 9 = .ok (.iconst 0, 1) := dk_3 (dk_at dksX1_note_0 9 rfl rfl)
theorem dX1_note_10 : decode cX1_note 10 = .ok (.aload_n 0, 1) := dk_42 (dk_at dksX1_note_0 10 rfl rfl)
theorem dX1_note_11 : decode cX1_note 11 = .ok (.getfield 104, 3) := dk_180 0 104 (dk_at dksX1_note_0 11 rfl rfl)
theorem dX1_note_14 : decode cX1_note 14 = .ok (.iload_n 1, 1) := dk_27 (dk_at dksX1_note_0 14 rfl rfl)
theorem dX1_note_15 : decode cX1_note 15 = .ok (.invokevirtual 196, 3) := dk_182 0 196 (dk_at dksX1_note_0 15 rfl rfl)
theorem dX1_note_18 : decode cX1_note 18 = .ok (.iconst 1, 1) := dk_4 (dk_at dksX1_note_0 18 rfl rfl)
theorem dX1_note_19 : decode cX1_note 19 = .ok (.isub, 1) := dk_100 (dk_at dksX1_note_0 19 rfl rfl)
theorem dX1_note_20 : decode cX1_note 20 = .ok (.invokestatic 79, 3) := dk_184 0 79 (dk_at dksX1_note_0 20 rfl rfl)
theorem dX1_note_23 : decode cX1_note 23 = .ok (.ifCond .eq 26, 3) := dk_153 0 26 (dk_at dksX1_note_1 0 rfl rfl)
theorem dX1_note_26 : decode cX1_note 26 = .ok (.aload_n 0, 1) := dk_42 (dk_at dksX1_note_1 3 rfl rfl)
theorem dX1_note_27 : decode cX1_note 27 = .ok (.aload_n 0, 1) := dk_42 (dk_at dksX1_note_1 4 rfl rfl)
theorem dX1_note_28 : decode cX1_note 28 = .ok (.getfield 104, 3) := dk_180 0 104 (dk_at dksX1_note_1 5 rfl rfl)
theorem dX1_note_31 : decode cX1_note 31 = .ok (.iload_n 1, 1) := dk_27 (dk_at dksX1_note_1 8 rfl rfl)
theorem dX1_note_32 : decode cX1_note 32 = .ok (.iload_n 2, 1) := dk_28 (dk_at dksX1_note_1 9 rfl rfl)
theorem dX1_note_33 : decode cX1_note 33 = .ok (.aload_n 0, 1) := dk_42 (dk_at dksX1_note_1 10 rfl rfl)
theorem dX1_note_34 : decode cX1_note 34 = .ok (.getfield 111, 3) := dk_180 0 111 (dk_at dksX1_note_1 11 rfl rfl)
theorem dX1_note_37 : decode cX1_note 37 = .ok (.getfield 199, 3) := dk_180 0 199 (dk_at dksX1_note_1 14 rfl rfl)
theorem dX1_note_40 : decode cX1_note 40 = .ok (.invokevirtual 202, 3) := dk_182 0 202 (dk_at dksX1_note_1 17 rfl rfl)
theorem dX1_note_43 : decode cX1_note 43 = .ok (.invokevirtual 69, 3) := dk_182 0 69 (dk_at dksX1_note_1 20 rfl rfl)
theorem dX1_note_46 : decode cX1_note 46 = .ok (.goto 8, 3) := dk_167 0 8 (dk_at dksX1_note_2 0 rfl rfl)
theorem dX1_note_49 : decode cX1_note 49 = .ok (.aload_n 0, 1) := dk_42 (dk_at dksX1_note_2 3 rfl rfl)
theorem dX1_note_50 : decode cX1_note 50 = .ok (.iconst 1, 1) := dk_4 (dk_at dksX1_note_2 4 rfl rfl)
theorem dX1_note_51 : decode cX1_note 51 = .ok (.invokevirtual 65, 3) := dk_182 0 65 (dk_at dksX1_note_2 5 rfl rfl)
theorem dX1_note_54 : decode cX1_note 54 = .ok (.ireturn, 1) := dk_172 (dk_at dksX1_note_2 8 rfl rfl)
abbrev cX1_sung : ByteArray := prog_1_method_26_code
def yX1_sung : MethodName := ⟨RX1, "sung", "(II)I"⟩
def dkwX1_sung_2 : List UInt8 := [182, 0, 65, 172]
abbrev dktX1_sung_2 : List UInt8 := dkwX1_sung_2 ++ []
def dkwX1_sung_1 : List UInt8 := [42, 180, 0, 111, 180, 0, 209, 16, 6, 27, 104, 28, 96, 46, 182, 0, 69, 167, 0, 8, 42, 4]
abbrev dktX1_sung_1 : List UInt8 := dkwX1_sung_1 ++ dktX1_sung_2
def dkwX1_sung_0 : List UInt8 := [42, 27, 182, 0, 168, 153, 0, 39, 28, 3, 42, 27, 182, 0, 206, 4, 100, 184, 0, 79, 153, 0, 24, 42]
abbrev dktX1_sung_0 : List UInt8 := dkwX1_sung_0 ++ dktX1_sung_1
theorem dksX1_sung_0 : cX1_sung.data.toList.drop 0 = dktX1_sung_0 := by decide +kernel
theorem dksX1_sung_1 : cX1_sung.data.toList.drop 24 = dktX1_sung_1 := dk_seg dksX1_sung_0 24 rfl rfl
theorem dksX1_sung_2 : cX1_sung.data.toList.drop 46 = dktX1_sung_2 := dk_seg dksX1_sung_1 22 rfl rfl
theorem dX1_sung_0 : decode cX1_sung 0 = .ok (.aload_n 0, 1) := dk_42 (dk_at dksX1_sung_0 0 rfl rfl)
theorem dX1_sung_1 : decode cX1_sung 1 = .ok (.iload_n 1, 1) := dk_27 (dk_at dksX1_sung_0 1 rfl rfl)
theorem dX1_sung_2 : decode cX1_sung 2 = .ok (.invokevirtual 168, 3) := dk_182 0 168 (dk_at dksX1_sung_0 2 rfl rfl)
theorem dX1_sung_5 : decode cX1_sung 5 = .ok (.ifCond .eq 39, 3) := dk_153 0 39 (dk_at dksX1_sung_0 5 rfl rfl)
theorem dX1_sung_8 : decode cX1_sung 8 = .ok (.iload_n 2, 1) := dk_28 (dk_at dksX1_sung_0 8 rfl rfl)
theorem dX1_sung_9 : decode cX1_sung 9 = .ok (.iconst 0, 1) := dk_3 (dk_at dksX1_sung_0 9 rfl rfl)
theorem dX1_sung_10 : decode cX1_sung 10 = .ok (.aload_n 0, 1) := dk_42 (dk_at dksX1_sung_0 10 rfl rfl)
theorem dX1_sung_11 : decode cX1_sung 11 = .ok (.iload_n 1, 1) := dk_27 (dk_at dksX1_sung_0 11 rfl rfl)
theorem dX1_sung_12 : decode cX1_sung 12 = .ok (.invokevirtual 206, 3) := dk_182 0 206 (dk_at dksX1_sung_0 12 rfl rfl)
theorem dX1_sung_15 : decode cX1_sung 15 = .ok (.iconst 1, 1) := dk_4 (dk_at dksX1_sung_0 15 rfl rfl)
theorem dX1_sung_16 : decode cX1_sung 16 = .ok (.isub, 1) := dk_100 (dk_at dksX1_sung_0 16 rfl rfl)
theorem dX1_sung_17 : decode cX1_sung 17 = .ok (.invokestatic 79, 3) := dk_184 0 79 (dk_at dksX1_sung_0 17 rfl rfl)
theorem dX1_sung_20 : decode cX1_sung 20 = .ok (.ifCond .eq 24, 3) := dk_153 0 24 (dk_at dksX1_sung_0 20 rfl rfl)
theorem dX1_sung_23 : decode cX1_sung 23 = .ok (.aload_n 0, 1) := dk_42 (dk_at dksX1_sung_0 23 rfl rfl)
theorem dX1_sung_24 : decode cX1_sung 24 = .ok (.aload_n 0, 1) := dk_42 (dk_at dksX1_sung_1 0 rfl rfl)
theorem dX1_sung_25 : decode cX1_sung 25 = .ok (.getfield 111, 3) := dk_180 0 111 (dk_at dksX1_sung_1 1 rfl rfl)
theorem dX1_sung_28 : decode cX1_sung 28 = .ok (.getfield 209, 3) := dk_180 0 209 (dk_at dksX1_sung_1 4 rfl rfl)
theorem dX1_sung_31 : decode cX1_sung 31 = .ok (.bipush 6, 2) := dk_16 6 (dk_at dksX1_sung_1 7 rfl rfl)
theorem dX1_sung_33 : decode cX1_sung 33 = .ok (.iload_n 1, 1) := dk_27 (dk_at dksX1_sung_1 9 rfl rfl)
theorem dX1_sung_34 : decode cX1_sung 34 = .ok (.imul, 1) := dk_104 (dk_at dksX1_sung_1 10 rfl rfl)
theorem dX1_sung_35 : decode cX1_sung 35 = .ok (.iload_n 2, 1) := dk_28 (dk_at dksX1_sung_1 11 rfl rfl)
theorem dX1_sung_36 : decode cX1_sung 36 = .ok (.iadd, 1) := dk_96 (dk_at dksX1_sung_1 12 rfl rfl)
theorem dX1_sung_37 : decode cX1_sung 37 = .ok (.iaload, 1) := dk_46 (dk_at dksX1_sung_1 13 rfl rfl)
theorem dX1_sung_38 : decode cX1_sung 38 = .ok (.invokevirtual 69, 3) := dk_182 0 69 (dk_at dksX1_sung_1 14 rfl rfl)
theorem dX1_sung_41 : decode cX1_sung 41 = .ok (.goto 8, 3) := dk_167 0 8 (dk_at dksX1_sung_1 17 rfl rfl)
theorem dX1_sung_44 : decode cX1_sung 44 = .ok (.aload_n 0, 1) := dk_42 (dk_at dksX1_sung_1 20 rfl rfl)
theorem dX1_sung_45 : decode cX1_sung 45 = .ok (.iconst 1, 1) := dk_4 (dk_at dksX1_sung_1 21 rfl rfl)
theorem dX1_sung_46 : decode cX1_sung 46 = .ok (.invokevirtual 65, 3) := dk_182 0 65 (dk_at dksX1_sung_2 0 rfl rfl)
theorem dX1_sung_49 : decode cX1_sung 49 = .ok (.ireturn, 1) := dk_172 (dk_at dksX1_sung_2 3 rfl rfl)
abbrev cX1_sungNotes : ByteArray := prog_1_method_25_code
def yX1_sungNotes : MethodName := ⟨RX1, "sungNotes", "(I)I"⟩
def dkwX1_sungNotes_0 : List UInt8 := [42, 180, 0, 104, 42, 27, 182, 0, 171, 180, 0, 178, 182, 0, 196, 172]
abbrev dktX1_sungNotes_0 : List UInt8 := dkwX1_sungNotes_0 ++ []
theorem dksX1_sungNotes_0 : cX1_sungNotes.data.toList.drop 0 = dktX1_sungNotes_0 := by decide +kernel
theorem dX1_sungNotes_0 : decode cX1_sungNotes 0 = .ok (.aload_n 0, 1) := dk_42 (dk_at dksX1_sungNotes_0 0 rfl rfl)
theorem dX1_sungNotes_1 : decode cX1_sungNotes 1 = .ok (.getfield 104, 3) := dk_180 0 104 (dk_at dksX1_sungNotes_0 1 rfl rfl)
theorem dX1_sungNotes_4 : decode cX1_sungNotes 4 = .ok (.aload_n 0, 1) := dk_42 (dk_at dksX1_sungNotes_0 4 rfl rfl)
theorem dX1_sungNotes_5 : decode cX1_sungNotes 5 = .ok (.iload_n 1, 1) := dk_27 (dk_at dksX1_sungNotes_0 5 rfl rfl)
theorem dX1_sungNotes_6 : decode cX1_sungNotes 6 = .ok (.invokevirtual 171, 3) := dk_182 0 171 (dk_at dksX1_sungNotes_0 6 rfl rfl)
theorem dX1_sungNotes_9 : decode cX1_sungNotes 9 = .ok (.getfield 178, 3) := dk_180 0 178 (dk_at dksX1_sungNotes_0 9 rfl rfl)
theorem dX1_sungNotes_12 : decode cX1_sungNotes 12 = .ok (.invokevirtual 196, 3) := dk_182 0 196 (dk_at dksX1_sungNotes_0 12 rfl rfl)
theorem dX1_sungNotes_15 : decode cX1_sungNotes 15 = .ok (.ireturn, 1) := dk_172 (dk_at dksX1_sungNotes_0 15 rfl rfl)
abbrev cX1_heard : ByteArray := prog_1_method_28_code
def yX1_heard : MethodName := ⟨RX1, "heard", "(I)I"⟩
def dkwX1_heard_1 : List UInt8 := [182, 0, 65, 172]
abbrev dktX1_heard_1 : List UInt8 := dkwX1_heard_1 ++ []
def dkwX1_heard_0 : List UInt8 := [42, 27, 182, 0, 168, 153, 0, 15, 42, 42, 27, 182, 0, 216, 182, 0, 69, 167, 0, 8, 42, 4]
abbrev dktX1_heard_0 : List UInt8 := dkwX1_heard_0 ++ dktX1_heard_1
theorem dksX1_heard_0 : cX1_heard.data.toList.drop 0 = dktX1_heard_0 := by decide +kernel
theorem dksX1_heard_1 : cX1_heard.data.toList.drop 22 = dktX1_heard_1 := dk_seg dksX1_heard_0 22 rfl rfl
theorem dX1_heard_0 : decode cX1_heard 0 = .ok (.aload_n 0, 1) := dk_42 (dk_at dksX1_heard_0 0 rfl rfl)
theorem dX1_heard_1 : decode cX1_heard 1 = .ok (.iload_n 1, 1) := dk_27 (dk_at dksX1_heard_0 1 rfl rfl)
theorem dX1_heard_2 : decode cX1_heard 2 = .ok (.invokevirtual 168, 3) := dk_182 0 168 (dk_at dksX1_heard_0 2 rfl rfl)
theorem dX1_heard_5 : decode cX1_heard 5 = .ok (.ifCond .eq 15, 3) := dk_153 0 15 (dk_at dksX1_heard_0 5 rfl rfl)
theorem dX1_heard_8 : decode cX1_heard 8 = .ok (.aload_n 0, 1) := dk_42 (dk_at dksX1_heard_0 8 rfl rfl)
theorem dX1_heard_9 : decode cX1_heard 9 = .ok (.aload_n 0, 1) := dk_42 (dk_at dksX1_heard_0 9 rfl rfl)
theorem dX1_heard_10 : decode cX1_heard 10 = .ok (.iload_n 1, 1) := dk_27 (dk_at dksX1_heard_0 10 rfl rfl)
theorem dX1_heard_11 : decode cX1_heard 11 = .ok (.invokevirtual 216, 3) := dk_182 0 216 (dk_at dksX1_heard_0 11 rfl rfl)
theorem dX1_heard_14 : decode cX1_heard 14 = .ok (.invokevirtual 69, 3) := dk_182 0 69 (dk_at dksX1_heard_0 14 rfl rfl)
theorem dX1_heard_17 : decode cX1_heard 17 = .ok (.goto 8, 3) := dk_167 0 8 (dk_at dksX1_heard_0 17 rfl rfl)
theorem dX1_heard_20 : decode cX1_heard 20 = .ok (.aload_n 0, 1) := dk_42 (dk_at dksX1_heard_0 20 rfl rfl)
theorem dX1_heard_21 : decode cX1_heard 21 = .ok (.iconst 1, 1) := dk_4 (dk_at dksX1_heard_0 21 rfl rfl)
theorem dX1_heard_22 : decode cX1_heard 22 = .ok (.invokevirtual 65, 3) := dk_182 0 65 (dk_at dksX1_heard_1 0 rfl rfl)
theorem dX1_heard_25 : decode cX1_heard 25 = .ok (.ireturn, 1) := dk_172 (dk_at dksX1_heard_1 3 rfl rfl)
abbrev cX1_heardNow : ByteArray := prog_1_method_27_code
def yX1_heardNow : MethodName := ⟨RX1, "heardNow", "(I)I"⟩
def dkwX1_heardNow_1 : List UInt8 := [180, 0, 199, 182, 0, 212, 172]
abbrev dktX1_heardNow_1 : List UInt8 := dkwX1_heardNow_1 ++ []
def dkwX1_heardNow_0 : List UInt8 := [42, 180, 0, 104, 42, 180, 0, 111, 180, 0, 209, 16, 6, 27, 104, 42, 27, 182, 0, 206, 42, 180, 0, 111]
abbrev dktX1_heardNow_0 : List UInt8 := dkwX1_heardNow_0 ++ dktX1_heardNow_1
theorem dksX1_heardNow_0 : cX1_heardNow.data.toList.drop 0 = dktX1_heardNow_0 := by decide +kernel
theorem dksX1_heardNow_1 : cX1_heardNow.data.toList.drop 24 = dktX1_heardNow_1 := dk_seg dksX1_heardNow_0 24 rfl rfl
theorem dX1_heardNow_0 : decode cX1_heardNow 0 = .ok (.aload_n 0, 1) := dk_42 (dk_at dksX1_heardNow_0 0 rfl rfl)
theorem dX1_heardNow_1 : decode cX1_heardNow 1 = .ok (.getfield 104, 3) := dk_180 0 104 (dk_at dksX1_heardNow_0 1 rfl rfl)
theorem dX1_heardNow_4 : decode cX1_heardNow 4 = .ok (.aload_n 0, 1) := dk_42 (dk_at dksX1_heardNow_0 4 rfl rfl)
theorem dX1_heardNow_5 : decode cX1_heardNow 5 = .ok (.getfield 111, 3) := dk_180 0 111 (dk_at dksX1_heardNow_0 5 rfl rfl)
theorem dX1_heardNow_8 : decode cX1_heardNow 8 = .ok (.getfield 209, 3) := dk_180 0 209 (dk_at dksX1_heardNow_0 8 rfl rfl)
theorem dX1_heardNow_11 : decode cX1_heardNow 11 = .ok (.bipush 6, 2) := dk_16 6 (dk_at dksX1_heardNow_0 11 rfl rfl)
theorem dX1_heardNow_13 : decode cX1_heardNow 13 = .ok (.iload_n 1, 1) := dk_27 (dk_at dksX1_heardNow_0 13 rfl rfl)
theorem dX1_heardNow_14 : decode cX1_heardNow 14 = .ok (.imul, 1) := dk_104 (dk_at dksX1_heardNow_0 14 rfl rfl)
theorem dX1_heardNow_15 : decode cX1_heardNow 15 = .ok (.aload_n 0, 1) := dk_42 (dk_at dksX1_heardNow_0 15 rfl rfl)
theorem dX1_heardNow_16 : decode cX1_heardNow 16 = .ok (.iload_n 1, 1) := dk_27 (dk_at dksX1_heardNow_0 16 rfl rfl)
theorem dX1_heardNow_17 : decode cX1_heardNow 17 = .ok (.invokevirtual 206, 3) := dk_182 0 206 (dk_at dksX1_heardNow_0 17 rfl rfl)
theorem dX1_heardNow_20 : decode cX1_heardNow 20 = .ok (.aload_n 0, 1) := dk_42 (dk_at dksX1_heardNow_0 20 rfl rfl)
theorem dX1_heardNow_21 : decode cX1_heardNow 21 = .ok (.getfield 111, 3) := dk_180 0 111 (dk_at dksX1_heardNow_0 21 rfl rfl)
theorem dX1_heardNow_24 : decode cX1_heardNow 24 = .ok (.getfield 199, 3) := dk_180 0 199 (dk_at dksX1_heardNow_1 0 rfl rfl)
theorem dX1_heardNow_27 : decode cX1_heardNow 27 = .ok (.invokevirtual 212, 3) := dk_182 0 212 (dk_at dksX1_heardNow_1 3 rfl rfl)
theorem dX1_heardNow_30 : decode cX1_heardNow 30 = .ok (.ireturn, 1) := dk_172 (dk_at dksX1_heardNow_1 6 rfl rfl)
abbrev cX1_way : ByteArray := prog_1_method_30_code
def yX1_way : MethodName := ⟨RX1, "way", "(II)I"⟩
def dkwX1_way_4 : List UInt8 := [172, 132, 3, 1, 167, 255, 187, 42, 16, 254, 182, 0, 69, 172]
abbrev dktX1_way_4 : List UInt8 := dkwX1_way_4 ++ []
def dkwX1_way_3 : List UInt8 := [154, 0, 25, 42, 42, 180, 0, 104, 180, 0, 226, 29, 182, 0, 137, 192, 0, 229, 180, 0, 237, 182, 0, 69]
abbrev dktX1_way_3 : List UInt8 := dkwX1_way_3 ++ dktX1_way_4
def dkwX1_way_2 : List UInt8 := [180, 0, 226, 29, 182, 0, 137, 192, 0, 229, 27, 28, 182, 0, 231, 153, 0, 33, 42, 29, 182, 0, 234]
abbrev dktX1_way_2 : List UInt8 := dkwX1_way_2 ++ dktX1_way_3
def dkwX1_way_1 : List UInt8 := [182, 0, 65, 172, 3, 62, 29, 42, 180, 0, 104, 180, 0, 226, 182, 0, 127, 162, 0, 61, 42, 180, 0, 104]
abbrev dktX1_way_1 : List UInt8 := dkwX1_way_1 ++ dktX1_way_2
def dkwX1_way_0 : List UInt8 := [42, 27, 182, 0, 193, 153, 0, 16, 42, 28, 182, 0, 193, 153, 0, 8, 27, 28, 160, 0, 9, 42, 4]
abbrev dktX1_way_0 : List UInt8 := dkwX1_way_0 ++ dktX1_way_1
theorem dksX1_way_0 : cX1_way.data.toList.drop 0 = dktX1_way_0 := by decide +kernel
theorem dksX1_way_1 : cX1_way.data.toList.drop 23 = dktX1_way_1 := dk_seg dksX1_way_0 23 rfl rfl
theorem dksX1_way_2 : cX1_way.data.toList.drop 47 = dktX1_way_2 := dk_seg dksX1_way_1 24 rfl rfl
theorem dksX1_way_3 : cX1_way.data.toList.drop 70 = dktX1_way_3 := dk_seg dksX1_way_2 23 rfl rfl
theorem dksX1_way_4 : cX1_way.data.toList.drop 94 = dktX1_way_4 := dk_seg dksX1_way_3 24 rfl rfl
theorem dX1_way_0 : decode cX1_way 0 = .ok (.aload_n 0, 1) := dk_42 (dk_at dksX1_way_0 0 rfl rfl)
theorem dX1_way_1 : decode cX1_way 1 = .ok (.iload_n 1, 1) := dk_27 (dk_at dksX1_way_0 1 rfl rfl)
theorem dX1_way_2 : decode cX1_way 2 = .ok (.invokevirtual 193, 3) := dk_182 0 193 (dk_at dksX1_way_0 2 rfl rfl)
theorem dX1_way_5 : decode cX1_way 5 = .ok (.ifCond .eq 16, 3) := dk_153 0 16 (dk_at dksX1_way_0 5 rfl rfl)
theorem dX1_way_8 : decode cX1_way 8 = .ok (.aload_n 0, 1) := dk_42 (dk_at dksX1_way_0 8 rfl rfl)
theorem dX1_way_9 : decode cX1_way 9 = .ok (.iload_n 2, 1) := dk_28 (dk_at dksX1_way_0 9 rfl rfl)
theorem dX1_way_10 : decode cX1_way 10 = .ok (.invokevirtual 193, 3) := dk_182 0 193 (dk_at dksX1_way_0 10 rfl rfl)
theorem dX1_way_13 : decode cX1_way 13 = .ok (.ifCond .eq 8, 3) := dk_153 0 8 (dk_at dksX1_way_0 13 rfl rfl)
theorem dX1_way_16 : decode cX1_way 16 = .ok (.iload_n 1, 1) := dk_27 (dk_at dksX1_way_0 16 rfl rfl)
theorem dX1_way_17 : decode cX1_way 17 = .ok (.iload_n 2, 1) := dk_28 (dk_at dksX1_way_0 17 rfl rfl)
theorem dX1_way_18 : decode cX1_way 18 = .ok (.if_icmp .ne 9, 3) := dk_160 0 9 (dk_at dksX1_way_0 18 rfl rfl)
theorem dX1_way_21 : decode cX1_way 21 = .ok (.aload_n 0, 1) := dk_42 (dk_at dksX1_way_0 21 rfl rfl)
theorem dX1_way_22 : decode cX1_way 22 = .ok (.iconst 1, 1) := dk_4 (dk_at dksX1_way_0 22 rfl rfl)
theorem dX1_way_23 : decode cX1_way 23 = .ok (.invokevirtual 65, 3) := dk_182 0 65 (dk_at dksX1_way_1 0 rfl rfl)
theorem dX1_way_26 : decode cX1_way 26 = .ok (.ireturn, 1) := dk_172 (dk_at dksX1_way_1 3 rfl rfl)
theorem dX1_way_27 : decode cX1_way 27 = .ok (.iconst 0, 1) := dk_3 (dk_at dksX1_way_1 4 rfl rfl)
theorem dX1_way_28 : decode cX1_way 28 = .ok (.istore_n 3, 1) := dk_62 (dk_at dksX1_way_1 5 rfl rfl)
theorem dX1_way_29 : decode cX1_way 29 = .ok (.iload_n 3, 1) := dk_29 (dk_at dksX1_way_1 6 rfl rfl)
theorem dX1_way_30 : decode cX1_way 30 = .ok (.aload_n 0, 1) := dk_42 (dk_at dksX1_way_1 7 rfl rfl)
theorem dX1_way_31 : decode cX1_way 31 = .ok (.getfield 104, 3) := dk_180 0 104 (dk_at dksX1_way_1 8 rfl rfl)
theorem dX1_way_34 : decode cX1_way 34 = .ok (.getfield 226, 3) := dk_180 0 226 (dk_at dksX1_way_1 11 rfl rfl)
theorem dX1_way_37 : decode cX1_way 37 = .ok (.invokevirtual 127, 3) := dk_182 0 127 (dk_at dksX1_way_1 14 rfl rfl)
theorem dX1_way_40 : decode cX1_way 40 = .ok (.if_icmp .ge 61, 3) := dk_162 0 61 (dk_at dksX1_way_1 17 rfl rfl)
theorem dX1_way_43 : decode cX1_way 43 = .ok (.aload_n 0, 1) := dk_42 (dk_at dksX1_way_1 20 rfl rfl)
theorem dX1_way_44 : decode cX1_way 44 = .ok (.getfield 104, 3) := dk_180 0 104 (dk_at dksX1_way_1 21 rfl rfl)
theorem dX1_way_47 : decode cX1_way 47 = .ok (.getfield 226, 3) := dk_180 0 226 (dk_at dksX1_way_2 0 rfl rfl)
theorem dX1_way_50 : decode cX1_way 50 = .ok (.iload_n 3, 1) := dk_29 (dk_at dksX1_way_2 3 rfl rfl)
theorem dX1_way_51 : decode cX1_way 51 = .ok (.invokevirtual 137, 3) := dk_182 0 137 (dk_at dksX1_way_2 4 rfl rfl)
theorem dX1_way_54 : decode cX1_way 54 = .ok (.checkcast 229, 3) := dk_192 0 229 (dk_at dksX1_way_2 7 rfl rfl)
theorem dX1_way_57 : decode cX1_way 57 = .ok (.iload_n 1, 1) := dk_27 (dk_at dksX1_way_2 10 rfl rfl)
theorem dX1_way_58 : decode cX1_way 58 = .ok (.iload_n 2, 1) := dk_28 (dk_at dksX1_way_2 11 rfl rfl)
theorem dX1_way_59 : decode cX1_way 59 = .ok (.invokevirtual 231, 3) := dk_182 0 231 (dk_at dksX1_way_2 12 rfl rfl)
theorem dX1_way_62 : decode cX1_way 62 = .ok (.ifCond .eq 33, 3) := dk_153 0 33 (dk_at dksX1_way_2 15 rfl rfl)
theorem dX1_way_65 : decode cX1_way 65 = .ok (.aload_n 0, 1) := dk_42 (dk_at dksX1_way_2 18 rfl rfl)
theorem dX1_way_66 : decode cX1_way 66 = .ok (.iload_n 3, 1) := dk_29 (dk_at dksX1_way_2 19 rfl rfl)
theorem dX1_way_67 : decode cX1_way 67 = .ok (.invokevirtual 234, 3) := dk_182 0 234 (dk_at dksX1_way_2 20 rfl rfl)
theorem dX1_way_70 : decode cX1_way 70 = .ok (.ifCond .ne 25, 3) := dk_154 0 25 (dk_at dksX1_way_3 0 rfl rfl)
theorem dX1_way_73 : decode cX1_way 73 = .ok (.aload_n 0, 1) := dk_42 (dk_at dksX1_way_3 3 rfl rfl)
theorem dX1_way_74 : decode cX1_way 74 = .ok (.aload_n 0, 1) := dk_42 (dk_at dksX1_way_3 4 rfl rfl)
theorem dX1_way_75 : decode cX1_way 75 = .ok (.getfield 104, 3) := dk_180 0 104 (dk_at dksX1_way_3 5 rfl rfl)
theorem dX1_way_78 : decode cX1_way 78 = .ok (.getfield 226, 3) := dk_180 0 226 (dk_at dksX1_way_3 8 rfl rfl)
theorem dX1_way_81 : decode cX1_way 81 = .ok (.iload_n 3, 1) := dk_29 (dk_at dksX1_way_3 11 rfl rfl)
theorem dX1_way_82 : decode cX1_way 82 = .ok (.invokevirtual 137, 3) := dk_182 0 137 (dk_at dksX1_way_3 12 rfl rfl)
theorem dX1_way_85 : decode cX1_way 85 = .ok (.checkcast 229, 3) := dk_192 0 229 (dk_at dksX1_way_3 15 rfl rfl)
theorem dX1_way_88 : decode cX1_way 88 = .ok (.getfield 237, 3) := dk_180 0 237 (dk_at dksX1_way_3 18 rfl rfl)
theorem dX1_way_91 : decode cX1_way 91 = .ok (.invokevirtual 69, 3) := dk_182 0 69 (dk_at dksX1_way_3 21 rfl rfl)
theorem dX1_way_94 : decode cX1_way 94 = .ok (.ireturn, 1) := dk_172 (dk_at dksX1_way_4 0 rfl rfl)
theorem dX1_way_95 : decode cX1_way 95 = .ok (.iinc 3 1, 3) := dk_132 3 1 (dk_at dksX1_way_4 1 rfl rfl)
theorem dX1_way_98 : decode cX1_way 98 = .ok (.goto (-69), 3) := dk_167 255 187 (dk_at dksX1_way_4 4 rfl rfl)
theorem dX1_way_101 : decode cX1_way 101 = .ok (.aload_n 0, 1) := dk_42 (dk_at dksX1_way_4 7 rfl rfl)
theorem dX1_way_102 : decode cX1_way 102 = .ok (.bipush (-2), 2) := dk_16 254 (dk_at dksX1_way_4 8 rfl rfl)
theorem dX1_way_104 : decode cX1_way 104 = .ok (.invokevirtual 69, 3) := dk_182 0 69 (dk_at dksX1_way_4 10 rfl rfl)
theorem dX1_way_107 : decode cX1_way 107 = .ok (.ireturn, 1) := dk_172 (dk_at dksX1_way_4 13 rfl rfl)
abbrev cX1_isClosed : ByteArray := prog_1_method_29_code
def yX1_isClosed : MethodName := ⟨RX1, "isClosed", "(I)Z"⟩
def dkwX1_isClosed_0 : List UInt8 := [42, 180, 0, 111, 180, 0, 219, 27, 184, 0, 222, 172]
abbrev dktX1_isClosed_0 : List UInt8 := dkwX1_isClosed_0 ++ []
theorem dksX1_isClosed_0 : cX1_isClosed.data.toList.drop 0 = dktX1_isClosed_0 := by decide +kernel
theorem dX1_isClosed_0 : decode cX1_isClosed 0 = .ok (.aload_n 0, 1) := dk_42 (dk_at dksX1_isClosed_0 0 rfl rfl)
theorem dX1_isClosed_1 : decode cX1_isClosed 1 = .ok (.getfield 111, 3) := dk_180 0 111 (dk_at dksX1_isClosed_0 1 rfl rfl)
theorem dX1_isClosed_4 : decode cX1_isClosed 4 = .ok (.getfield 219, 3) := dk_180 0 219 (dk_at dksX1_isClosed_0 4 rfl rfl)
theorem dX1_isClosed_7 : decode cX1_isClosed 7 = .ok (.iload_n 1, 1) := dk_27 (dk_at dksX1_isClosed_0 7 rfl rfl)
theorem dX1_isClosed_8 : decode cX1_isClosed 8 = .ok (.invokestatic 222, 3) := dk_184 0 222 (dk_at dksX1_isClosed_0 8 rfl rfl)
theorem dX1_isClosed_11 : decode cX1_isClosed 11 = .ok (.ireturn, 1) := dk_172 (dk_at dksX1_isClosed_0 11 rfl rfl)
abbrev cX1_has : ByteArray := prog_1_method_3_code
def yX1_has : MethodName := ⟨RX1, "has", "(II)Z"⟩
def dkwX1_has_0 : List UInt8 := [26, 27, 122, 4, 126, 4, 160, 0, 7, 4, 167, 0, 4, 3, 172]
abbrev dktX1_has_0 : List UInt8 := dkwX1_has_0 ++ []
theorem dksX1_has_0 : cX1_has.data.toList.drop 0 = dktX1_has_0 := by decide +kernel
theorem dX1_has_0 : decode cX1_has 0 = .ok (.iload_n 0, 1) := dk_26 (dk_at dksX1_has_0 0 rfl rfl)
theorem dX1_has_1 : decode cX1_has 1 = .ok (.iload_n 1, 1) := dk_27 (dk_at dksX1_has_0 1 rfl rfl)
theorem dX1_has_2 : decode cX1_has 2 = .ok (.ishr, 1) := dk_122 (dk_at dksX1_has_0 2 rfl rfl)
theorem dX1_has_3 : decode cX1_has 3 = .ok (.iconst 1, 1) := dk_4 (dk_at dksX1_has_0 3 rfl rfl)
theorem dX1_has_4 : decode cX1_has 4 = .ok (.iand, 1) := dk_126 (dk_at dksX1_has_0 4 rfl rfl)
theorem dX1_has_5 : decode cX1_has 5 = .ok (.iconst 1, 1) := dk_4 (dk_at dksX1_has_0 5 rfl rfl)
theorem dX1_has_6 : decode cX1_has 6 = .ok (.if_icmp .ne 7, 3) := dk_160 0 7 (dk_at dksX1_has_0 6 rfl rfl)
theorem dX1_has_9 : decode cX1_has 9 = .ok (.iconst 1, 1) := dk_4 (dk_at dksX1_has_0 9 rfl rfl)
theorem dX1_has_10 : decode cX1_has 10 = .ok (.goto 4, 3) := dk_167 0 4 (dk_at dksX1_has_0 10 rfl rfl)
theorem dX1_has_13 : decode cX1_has 13 = .ok (.iconst 0, 1) := dk_3 (dk_at dksX1_has_0 13 rfl rfl)
theorem dX1_has_14 : decode cX1_has 14 = .ok (.ireturn, 1) := dk_172 (dk_at dksX1_has_0 14 rfl rfl)
abbrev cX1_season : ByteArray := prog_1_method_31_code
def yX1_season : MethodName := ⟨RX1, "season", "(I)I"⟩
def dkwX1_season_1 : List UInt8 := [27, 16, 90, 108, 7, 112, 182, 0, 69, 167, 0, 8, 42, 5, 182, 0, 65, 172]
abbrev dktX1_season_1 : List UInt8 := dkwX1_season_1 ++ []
def dkwX1_season_0 : List UInt8 := [42, 180, 0, 104, 199, 0, 9, 42, 4, 182, 0, 65, 172, 27, 3, 18, 239, 184, 0, 79, 153, 0, 16, 42]
abbrev dktX1_season_0 : List UInt8 := dkwX1_season_0 ++ dktX1_season_1
theorem dksX1_season_0 : cX1_season.data.toList.drop 0 = dktX1_season_0 := by decide +kernel
theorem dksX1_season_1 : cX1_season.data.toList.drop 24 = dktX1_season_1 := dk_seg dksX1_season_0 24 rfl rfl
theorem dX1_season_0 : decode cX1_season 0 = .ok (.aload_n 0, 1) := dk_42 (dk_at dksX1_season_0 0 rfl rfl)
theorem dX1_season_1 : decode cX1_season 1 = .ok (.getfield 104, 3) := dk_180 0 104 (dk_at dksX1_season_0 1 rfl rfl)
theorem dX1_season_4 : decode cX1_season 4 = .ok (.ifnonnull 9, 3) := dk_199 0 9 (dk_at dksX1_season_0 4 rfl rfl)
theorem dX1_season_7 : decode cX1_season 7 = .ok (.aload_n 0, 1) := dk_42 (dk_at dksX1_season_0 7 rfl rfl)
theorem dX1_season_8 : decode cX1_season 8 = .ok (.iconst 1, 1) := dk_4 (dk_at dksX1_season_0 8 rfl rfl)
theorem dX1_season_9 : decode cX1_season 9 = .ok (.invokevirtual 65, 3) := dk_182 0 65 (dk_at dksX1_season_0 9 rfl rfl)
theorem dX1_season_12 : decode cX1_season 12 = .ok (.ireturn, 1) := dk_172 (dk_at dksX1_season_0 12 rfl rfl)
theorem dX1_season_13 : decode cX1_season 13 = .ok (.iload_n 1, 1) := dk_27 (dk_at dksX1_season_0 13 rfl rfl)
theorem dX1_season_14 : decode cX1_season 14 = .ok (.iconst 0, 1) := dk_3 (dk_at dksX1_season_0 14 rfl rfl)
theorem dX1_season_15 : decode cX1_season 15 = .ok (.ldc 239, 2) := dk_18 239 (dk_at dksX1_season_0 15 rfl rfl)
theorem dX1_season_17 : decode cX1_season 17 = .ok (.invokestatic 79, 3) := dk_184 0 79 (dk_at dksX1_season_0 17 rfl rfl)
theorem dX1_season_20 : decode cX1_season 20 = .ok (.ifCond .eq 16, 3) := dk_153 0 16 (dk_at dksX1_season_0 20 rfl rfl)
theorem dX1_season_23 : decode cX1_season 23 = .ok (.aload_n 0, 1) := dk_42 (dk_at dksX1_season_0 23 rfl rfl)
theorem dX1_season_24 : decode cX1_season 24 = .ok (.iload_n 1, 1) := dk_27 (dk_at dksX1_season_1 0 rfl rfl)
theorem dX1_season_25 : decode cX1_season 25 = .ok (.bipush 90, 2) := dk_16 90 (dk_at dksX1_season_1 1 rfl rfl)
theorem dX1_season_27 : decode cX1_season 27 = .ok (.idiv, 1) := dk_108 (dk_at dksX1_season_1 3 rfl rfl)
theorem dX1_season_28 : decode cX1_season 28 = .ok (.iconst 4, 1) := dk_7 (dk_at dksX1_season_1 4 rfl rfl)
theorem dX1_season_29 : decode cX1_season 29 = .ok (.irem, 1) := dk_112 (dk_at dksX1_season_1 5 rfl rfl)
theorem dX1_season_30 : decode cX1_season 30 = .ok (.invokevirtual 69, 3) := dk_182 0 69 (dk_at dksX1_season_1 6 rfl rfl)
theorem dX1_season_33 : decode cX1_season 33 = .ok (.goto 8, 3) := dk_167 0 8 (dk_at dksX1_season_1 9 rfl rfl)
theorem dX1_season_36 : decode cX1_season 36 = .ok (.aload_n 0, 1) := dk_42 (dk_at dksX1_season_1 12 rfl rfl)
theorem dX1_season_37 : decode cX1_season 37 = .ok (.iconst 2, 1) := dk_5 (dk_at dksX1_season_1 13 rfl rfl)
theorem dX1_season_38 : decode cX1_season 38 = .ok (.invokevirtual 65, 3) := dk_182 0 65 (dk_at dksX1_season_1 14 rfl rfl)
theorem dX1_season_41 : decode cX1_season 41 = .ok (.ireturn, 1) := dk_172 (dk_at dksX1_season_1 17 rfl rfl)
abbrev cX1_sets : ByteArray := prog_1_method_33_code
def yX1_sets : MethodName := ⟨RX1, "sets", "(III)I"⟩
def dkwX1_sets_3 : List UInt8 := [29, 182, 0, 243, 182, 0, 69, 172]
abbrev dktX1_sets_3 : List UInt8 := dkwX1_sets_3 ++ []
def dkwX1_sets_2 : List UInt8 := [16, 254, 167, 0, 26, 42, 27, 182, 0, 149, 42, 180, 0, 104, 180, 0, 226, 28, 182, 0, 137, 192, 0, 229]
abbrev dktX1_sets_2 : List UInt8 := dkwX1_sets_2 ++ dktX1_sets_3
def dkwX1_sets_1 : List UInt8 := [17, 39, 15, 184, 0, 79, 154, 0, 9, 42, 5, 182, 0, 65, 172, 42, 42, 28, 182, 0, 234, 153, 0, 8]
abbrev dktX1_sets_1 : List UInt8 := dkwX1_sets_1 ++ dktX1_sets_2
def dkwX1_sets_0 : List UInt8 := [42, 27, 182, 0, 145, 153, 0, 11, 42, 28, 182, 0, 240, 154, 0, 9, 42, 4, 182, 0, 65, 172, 29, 3]
abbrev dktX1_sets_0 : List UInt8 := dkwX1_sets_0 ++ dktX1_sets_1
theorem dksX1_sets_0 : cX1_sets.data.toList.drop 0 = dktX1_sets_0 := by decide +kernel
theorem dksX1_sets_1 : cX1_sets.data.toList.drop 24 = dktX1_sets_1 := dk_seg dksX1_sets_0 24 rfl rfl
theorem dksX1_sets_2 : cX1_sets.data.toList.drop 48 = dktX1_sets_2 := dk_seg dksX1_sets_1 24 rfl rfl
theorem dksX1_sets_3 : cX1_sets.data.toList.drop 72 = dktX1_sets_3 := dk_seg dksX1_sets_2 24 rfl rfl
theorem dX1_sets_0 : decode cX1_sets 0 = .ok (.aload_n 0, 1) := dk_42 (dk_at dksX1_sets_0 0 rfl rfl)
theorem dX1_sets_1 : decode cX1_sets 1 = .ok (.iload_n 1, 1) := dk_27 (dk_at dksX1_sets_0 1 rfl rfl)
theorem dX1_sets_2 : decode cX1_sets 2 = .ok (.invokevirtual 145, 3) := dk_182 0 145 (dk_at dksX1_sets_0 2 rfl rfl)
theorem dX1_sets_5 : decode cX1_sets 5 = .ok (.ifCond .eq 11, 3) := dk_153 0 11 (dk_at dksX1_sets_0 5 rfl rfl)
theorem dX1_sets_8 : decode cX1_sets 8 = .ok (.aload_n 0, 1) := dk_42 (dk_at dksX1_sets_0 8 rfl rfl)
theorem dX1_sets_9 : decode cX1_sets 9 = .ok (.iload_n 2, 1) := dk_28 (dk_at dksX1_sets_0 9 rfl rfl)
theorem dX1_sets_10 : decode cX1_sets 10 = .ok (.invokevirtual 240, 3) := dk_182 0 240 (dk_at dksX1_sets_0 10 rfl rfl)
theorem dX1_sets_13 : decode cX1_sets 13 = .ok (.ifCond .ne 9, 3) := dk_154 0 9 (dk_at dksX1_sets_0 13 rfl rfl)
theorem dX1_sets_16 : decode cX1_sets 16 = .ok (.aload_n 0, 1) := dk_42 (dk_at dksX1_sets_0 16 rfl rfl)
theorem dX1_sets_17 : decode cX1_sets 17 = .ok (.iconst 1, 1) := dk_4 (dk_at dksX1_sets_0 17 rfl rfl)
theorem dX1_sets_18 : decode cX1_sets 18 = .ok (.invokevirtual 65, 3) := dk_182 0 65 (dk_at dksX1_sets_0 18 rfl rfl)
theorem dX1_sets_21 : decode cX1_sets 21 = .ok (.ireturn, 1) := dk_172 (dk_at dksX1_sets_0 21 rfl rfl)
theorem dX1_sets_22 : decode cX1_sets 22 = .ok (.iload_n 3, 1) := dk_29 (dk_at dksX1_sets_0 22 rfl rfl)
theorem dX1_sets_23 : decode cX1_sets 23 = .ok (.iconst 0, 1) := dk_3 (dk_at dksX1_sets_0 23 rfl rfl)
theorem dX1_sets_24 : decode cX1_sets 24 = .ok (.sipush 9999, 3) := dk_17 39 15 (dk_at dksX1_sets_1 0 rfl rfl)
theorem dX1_sets_27 : decode cX1_sets 27 = .ok (.invokestatic 79, 3) := dk_184 0 79 (dk_at dksX1_sets_1 3 rfl rfl)
theorem dX1_sets_30 : decode cX1_sets 30 = .ok (.ifCond .ne 9, 3) := dk_154 0 9 (dk_at dksX1_sets_1 6 rfl rfl)
theorem dX1_sets_33 : decode cX1_sets 33 = .ok (.aload_n 0, 1) := dk_42 (dk_at dksX1_sets_1 9 rfl rfl)
theorem dX1_sets_34 : decode cX1_sets 34 = .ok (.iconst 2, 1) := dk_5 (dk_at dksX1_sets_1 10 rfl rfl)
theorem dX1_sets_35 : decode cX1_sets 35 = .ok (.invokevirtual 65, 3) := dk_182 0 65 (dk_at dksX1_sets_1 11 rfl rfl)
theorem dX1_sets_38 : decode cX1_sets 38 = .ok (.ireturn, 1) := dk_172 (dk_at dksX1_sets_1 14 rfl rfl)
theorem dX1_sets_39 : decode cX1_sets 39 = .ok (.aload_n 0, 1) := dk_42 (dk_at dksX1_sets_1 15 rfl rfl)
theorem dX1_sets_40 : decode cX1_sets 40 = .ok (.aload_n 0, 1) := dk_42 (dk_at dksX1_sets_1 16 rfl rfl)
theorem dX1_sets_41 : decode cX1_sets 41 = .ok (.iload_n 2, 1) := dk_28 (dk_at dksX1_sets_1 17 rfl rfl)
theorem dX1_sets_42 : decode cX1_sets 42 = .ok (.invokevirtual 234, 3) := dk_182 0 234 (dk_at dksX1_sets_1 18 rfl rfl)
theorem dX1_sets_45 : decode cX1_sets 45 = .ok (.ifCond .eq 8, 3) := dk_153 0 8 (dk_at dksX1_sets_1 21 rfl rfl)
theorem dX1_sets_48 : decode cX1_sets 48 = .ok (.bipush (-2), 2) := dk_16 254 (dk_at dksX1_sets_2 0 rfl rfl)
theorem dX1_sets_50 : decode cX1_sets 50 = .ok (.goto 26, 3) := dk_167 0 26 (dk_at dksX1_sets_2 2 rfl rfl)
theorem dX1_sets_53 : decode cX1_sets 53 = .ok (.aload_n 0, 1) := dk_42 (dk_at dksX1_sets_2 5 rfl rfl)
theorem dX1_sets_54 : decode cX1_sets 54 = .ok (.iload_n 1, 1) := dk_27 (dk_at dksX1_sets_2 6 rfl rfl)
theorem dX1_sets_55 : decode cX1_sets 55 = .ok (.invokevirtual 149, 3) := dk_182 0 149 (dk_at dksX1_sets_2 7 rfl rfl)
theorem dX1_sets_58 : decode cX1_sets 58 = .ok (.aload_n 0, 1) := dk_42 (dk_at dksX1_sets_2 10 rfl rfl)
theorem dX1_sets_59 : decode cX1_sets 59 = .ok (.getfield 104, 3) := dk_180 0 104 (dk_at dksX1_sets_2 11 rfl rfl)
theorem dX1_sets_62 : decode cX1_sets 62 = .ok (.getfield 226, 3) := dk_180 0 226 (dk_at dksX1_sets_2 14 rfl rfl)
theorem dX1_sets_65 : decode cX1_sets 65 = .ok (.iload_n 2, 1) := dk_28 (dk_at dksX1_sets_2 17 rfl rfl)
theorem dX1_sets_66 : decode cX1_sets 66 = .ok (.invokevirtual 137, 3) := dk_182 0 137 (dk_at dksX1_sets_2 18 rfl rfl)
theorem dX1_sets_69 : decode cX1_sets 69 = .ok (.checkcast 229, 3) := dk_192 0 229 (dk_at dksX1_sets_2 21 rfl rfl)
theorem dX1_sets_72 : decode cX1_sets 72 = .ok (.iload_n 3, 1) := dk_29 (dk_at dksX1_sets_3 0 rfl rfl)
theorem dX1_sets_73 : decode cX1_sets 73 = .ok (.invokevirtual 243, 3) := dk_182 0 243 (dk_at dksX1_sets_3 1 rfl rfl)
theorem dX1_sets_76 : decode cX1_sets 76 = .ok (.invokevirtual 69, 3) := dk_182 0 69 (dk_at dksX1_sets_3 4 rfl rfl)
theorem dX1_sets_79 : decode cX1_sets 79 = .ok (.ireturn, 1) := dk_172 (dk_at dksX1_sets_3 7 rfl rfl)
abbrev cX1_isWay : ByteArray := prog_1_method_32_code
def yX1_isWay : MethodName := ⟨RX1, "isWay", "(I)Z"⟩
def dkwX1_isWay_1 : List UInt8 := [153, 0, 7, 4, 167, 0, 4, 3, 172]
abbrev dktX1_isWay_1 : List UInt8 := dkwX1_isWay_1 ++ []
def dkwX1_isWay_0 : List UInt8 := [42, 180, 0, 104, 198, 0, 27, 27, 3, 42, 180, 0, 104, 180, 0, 226, 182, 0, 127, 4, 100, 184, 0, 79]
abbrev dktX1_isWay_0 : List UInt8 := dkwX1_isWay_0 ++ dktX1_isWay_1
theorem dksX1_isWay_0 : cX1_isWay.data.toList.drop 0 = dktX1_isWay_0 := by decide +kernel
theorem dksX1_isWay_1 : cX1_isWay.data.toList.drop 24 = dktX1_isWay_1 := dk_seg dksX1_isWay_0 24 rfl rfl
theorem dX1_isWay_0 : decode cX1_isWay 0 = .ok (.aload_n 0, 1) := dk_42 (dk_at dksX1_isWay_0 0 rfl rfl)
theorem dX1_isWay_1 : decode cX1_isWay 1 = .ok (.getfield 104, 3) := dk_180 0 104 (dk_at dksX1_isWay_0 1 rfl rfl)
theorem dX1_isWay_4 : decode cX1_isWay 4 = .ok (.ifnull 27, 3) := dk_198 0 27 (dk_at dksX1_isWay_0 4 rfl rfl)
theorem dX1_isWay_7 : decode cX1_isWay 7 = .ok (.iload_n 1, 1) := dk_27 (dk_at dksX1_isWay_0 7 rfl rfl)
theorem dX1_isWay_8 : decode cX1_isWay 8 = .ok (.iconst 0, 1) := dk_3 (dk_at dksX1_isWay_0 8 rfl rfl)
theorem dX1_isWay_9 : decode cX1_isWay 9 = .ok (.aload_n 0, 1) := dk_42 (dk_at dksX1_isWay_0 9 rfl rfl)
theorem dX1_isWay_10 : decode cX1_isWay 10 = .ok (.getfield 104, 3) := dk_180 0 104 (dk_at dksX1_isWay_0 10 rfl rfl)
theorem dX1_isWay_13 : decode cX1_isWay 13 = .ok (.getfield 226, 3) := dk_180 0 226 (dk_at dksX1_isWay_0 13 rfl rfl)
theorem dX1_isWay_16 : decode cX1_isWay 16 = .ok (.invokevirtual 127, 3) := dk_182 0 127 (dk_at dksX1_isWay_0 16 rfl rfl)
theorem dX1_isWay_19 : decode cX1_isWay 19 = .ok (.iconst 1, 1) := dk_4 (dk_at dksX1_isWay_0 19 rfl rfl)
theorem dX1_isWay_20 : decode cX1_isWay 20 = .ok (.isub, 1) := dk_100 (dk_at dksX1_isWay_0 20 rfl rfl)
theorem dX1_isWay_21 : decode cX1_isWay 21 = .ok (.invokestatic 79, 3) := dk_184 0 79 (dk_at dksX1_isWay_0 21 rfl rfl)
theorem dX1_isWay_24 : decode cX1_isWay 24 = .ok (.ifCond .eq 7, 3) := dk_153 0 7 (dk_at dksX1_isWay_1 0 rfl rfl)
theorem dX1_isWay_27 : decode cX1_isWay 27 = .ok (.iconst 1, 1) := dk_4 (dk_at dksX1_isWay_1 3 rfl rfl)
theorem dX1_isWay_28 : decode cX1_isWay 28 = .ok (.goto 4, 3) := dk_167 0 4 (dk_at dksX1_isWay_1 4 rfl rfl)
theorem dX1_isWay_31 : decode cX1_isWay 31 = .ok (.iconst 0, 1) := dk_3 (dk_at dksX1_isWay_1 7 rfl rfl)
theorem dX1_isWay_32 : decode cX1_isWay 32 = .ok (.ireturn, 1) := dk_172 (dk_at dksX1_isWay_1 8 rfl rfl)
abbrev cX1_sent : ByteArray := prog_1_method_34_code
def yX1_sent : MethodName := ⟨RX1, "sent", "(I)I"⟩
def dkwX1_sent_5 : List UInt8 := [132, 3, 1, 167, 255, 160, 42, 28, 182, 0, 69, 172]
abbrev dktX1_sent_5 : List UInt8 := dkwX1_sent_5 ++ []
def dkwX1_sent_4 : List UInt8 := [180, 0, 190, 29, 46, 42, 29, 182, 0, 171, 180, 0, 178, 160, 0, 7, 4, 167, 0, 4, 3, 96, 61]
abbrev dktX1_sent_4 : List UInt8 := dkwX1_sent_4 ++ dktX1_sent_5
def dkwX1_sent_3 : List UInt8 := [180, 0, 111, 180, 0, 187, 29, 46, 42, 29, 182, 0, 171, 180, 0, 184, 100, 167, 0, 28, 42, 180, 0, 111]
abbrev dktX1_sent_3 : List UInt8 := dkwX1_sent_3 ++ dktX1_sent_4
def dkwX1_sent_2 : List UInt8 := [46, 16, 254, 160, 0, 6, 167, 0, 65, 28, 27, 154, 0, 7, 4, 167, 0, 54, 27, 5, 160, 0, 24, 42]
abbrev dktX1_sent_2 : List UInt8 := dkwX1_sent_2 ++ dktX1_sent_3
def dkwX1_sent_1 : List UInt8 := [3, 62, 29, 42, 180, 0, 104, 180, 0, 134, 182, 0, 127, 162, 0, 88, 42, 180, 0, 111, 180, 0, 187, 29]
abbrev dktX1_sent_1 : List UInt8 := dkwX1_sent_1 ++ dktX1_sent_2
def dkwX1_sent_0 : List UInt8 := [42, 180, 0, 104, 198, 0, 12, 27, 3, 5, 184, 0, 79, 154, 0, 9, 42, 4, 182, 0, 65, 172, 3, 61]
abbrev dktX1_sent_0 : List UInt8 := dkwX1_sent_0 ++ dktX1_sent_1
theorem dksX1_sent_0 : cX1_sent.data.toList.drop 0 = dktX1_sent_0 := by decide +kernel
theorem dksX1_sent_1 : cX1_sent.data.toList.drop 24 = dktX1_sent_1 := dk_seg dksX1_sent_0 24 rfl rfl
theorem dksX1_sent_2 : cX1_sent.data.toList.drop 48 = dktX1_sent_2 := dk_seg dksX1_sent_1 24 rfl rfl
theorem dksX1_sent_3 : cX1_sent.data.toList.drop 72 = dktX1_sent_3 := dk_seg dksX1_sent_2 24 rfl rfl
theorem dksX1_sent_4 : cX1_sent.data.toList.drop 96 = dktX1_sent_4 := dk_seg dksX1_sent_3 24 rfl rfl
theorem dksX1_sent_5 : cX1_sent.data.toList.drop 119 = dktX1_sent_5 := dk_seg dksX1_sent_4 23 rfl rfl
theorem dX1_sent_0 : decode cX1_sent 0 = .ok (.aload_n 0, 1) := dk_42 (dk_at dksX1_sent_0 0 rfl rfl)
theorem dX1_sent_1 : decode cX1_sent 1 = .ok (.getfield 104, 3) := dk_180 0 104 (dk_at dksX1_sent_0 1 rfl rfl)
theorem dX1_sent_4 : decode cX1_sent 4 = .ok (.ifnull 12, 3) := dk_198 0 12 (dk_at dksX1_sent_0 4 rfl rfl)
theorem dX1_sent_7 : decode cX1_sent 7 = .ok (.iload_n 1, 1) := dk_27 (dk_at dksX1_sent_0 7 rfl rfl)
theorem dX1_sent_8 : decode cX1_sent 8 = .ok (.iconst 0, 1) := dk_3 (dk_at dksX1_sent_0 8 rfl rfl)
theorem dX1_sent_9 : decode cX1_sent 9 = .ok (.iconst 2, 1) := dk_5 (dk_at dksX1_sent_0 9 rfl rfl)
theorem dX1_sent_10 : decode cX1_sent 10 = .ok (.invokestatic 79, 3) := dk_184 0 79 (dk_at dksX1_sent_0 10 rfl rfl)
theorem dX1_sent_13 : decode cX1_sent 13 = .ok (.ifCond .ne 9, 3) := dk_154 0 9 (dk_at dksX1_sent_0 13 rfl rfl)
theorem dX1_sent_16 : decode cX1_sent 16 = .ok (.aload_n 0, 1) := dk_42 (dk_at dksX1_sent_0 16 rfl rfl)
theorem dX1_sent_17 : decode cX1_sent 17 = .ok (.iconst 1, 1) := dk_4 (dk_at dksX1_sent_0 17 rfl rfl)
theorem dX1_sent_18 : decode cX1_sent 18 = .ok (.invokevirtual 65, 3) := dk_182 0 65 (dk_at dksX1_sent_0 18 rfl rfl)
theorem dX1_sent_21 : decode cX1_sent 21 = .ok (.ireturn, 1) := dk_172 (dk_at dksX1_sent_0 21 rfl rfl)
theorem dX1_sent_22 : decode cX1_sent 22 = .ok (.iconst 0, 1) := dk_3 (dk_at dksX1_sent_0 22 rfl rfl)
theorem dX1_sent_23 : decode cX1_sent 23 = .ok (.istore_n 2, 1) := dk_61 (dk_at dksX1_sent_0 23 rfl rfl)
theorem dX1_sent_24 : decode cX1_sent 24 = .ok (.iconst 0, 1) := dk_3 (dk_at dksX1_sent_1 0 rfl rfl)
theorem dX1_sent_25 : decode cX1_sent 25 = .ok (.istore_n 3, 1) := dk_62 (dk_at dksX1_sent_1 1 rfl rfl)
theorem dX1_sent_26 : decode cX1_sent 26 = .ok (.iload_n 3, 1) := dk_29 (dk_at dksX1_sent_1 2 rfl rfl)
theorem dX1_sent_27 : decode cX1_sent 27 = .ok (.aload_n 0, 1) := dk_42 (dk_at dksX1_sent_1 3 rfl rfl)
theorem dX1_sent_28 : decode cX1_sent 28 = .ok (.getfield 104, 3) := dk_180 0 104 (dk_at dksX1_sent_1 4 rfl rfl)
theorem dX1_sent_31 : decode cX1_sent 31 = .ok (.getfield 134, 3) := dk_180 0 134 (dk_at dksX1_sent_1 7 rfl rfl)
theorem dX1_sent_34 : decode cX1_sent 34 = .ok (.invokevirtual 127, 3) := dk_182 0 127 (dk_at dksX1_sent_1 10 rfl rfl)
theorem dX1_sent_37 : decode cX1_sent 37 = .ok (.if_icmp .ge 88, 3) := dk_162 0 88 (dk_at dksX1_sent_1 13 rfl rfl)
theorem dX1_sent_40 : decode cX1_sent 40 = .ok (.aload_n 0, 1) := dk_42 (dk_at dksX1_sent_1 16 rfl rfl)
theorem dX1_sent_41 : decode cX1_sent 41 = .ok (.getfield 111, 3) := dk_180 0 111 (dk_at dksX1_sent_1 17 rfl rfl)
theorem dX1_sent_44 : decode cX1_sent 44 = .ok (.getfield 187, 3) := dk_180 0 187 (dk_at dksX1_sent_1 20 rfl rfl)
theorem dX1_sent_47 : decode cX1_sent 47 = .ok (.iload_n 3, 1) := dk_29 (dk_at dksX1_sent_1 23 rfl rfl)
theorem dX1_sent_48 : decode cX1_sent 48 = .ok (.iaload, 1) := dk_46 (dk_at dksX1_sent_2 0 rfl rfl)
theorem dX1_sent_49 : decode cX1_sent 49 = .ok (.bipush (-2), 2) := dk_16 254 (dk_at dksX1_sent_2 1 rfl rfl)
theorem dX1_sent_51 : decode cX1_sent 51 = .ok (.if_icmp .ne 6, 3) := dk_160 0 6 (dk_at dksX1_sent_2 3 rfl rfl)
theorem dX1_sent_54 : decode cX1_sent 54 = .ok (.goto 65, 3) := dk_167 0 65 (dk_at dksX1_sent_2 6 rfl rfl)
theorem dX1_sent_57 : decode cX1_sent 57 = .ok (.iload_n 2, 1) := dk_28 (dk_at dksX1_sent_2 9 rfl rfl)
theorem dX1_sent_58 : decode cX1_sent 58 = .ok (.iload_n 1, 1) := dk_27 (dk_at dksX1_sent_2 10 rfl rfl)
theorem dX1_sent_59 : decode cX1_sent 59 = .ok (.ifCond .ne 7, 3) := dk_154 0 7 (dk_at dksX1_sent_2 11 rfl rfl)
theorem dX1_sent_62 : decode cX1_sent 62 = .ok (.iconst 1, 1) := dk_4 (dk_at dksX1_sent_2 14 rfl rfl)
theorem dX1_sent_63 : decode cX1_sent 63 = .ok (.goto 54, 3) := dk_167 0 54 (dk_at dksX1_sent_2 15 rfl rfl)
theorem dX1_sent_66 : decode cX1_sent 66 = .ok (.iload_n 1, 1) := dk_27 (dk_at dksX1_sent_2 18 rfl rfl)
theorem dX1_sent_67 : decode cX1_sent 67 = .ok (.iconst 2, 1) := dk_5 (dk_at dksX1_sent_2 19 rfl rfl)
theorem dX1_sent_68 : decode cX1_sent 68 = .ok (.if_icmp .ne 24, 3) := dk_160 0 24 (dk_at dksX1_sent_2 20 rfl rfl)
theorem dX1_sent_71 : decode cX1_sent 71 = .ok (.aload_n 0, 1) := dk_42 (dk_at dksX1_sent_2 23 rfl rfl)
theorem dX1_sent_72 : decode cX1_sent 72 = .ok (.getfield 111, 3) := dk_180 0 111 (dk_at dksX1_sent_3 0 rfl rfl)
theorem dX1_sent_75 : decode cX1_sent 75 = .ok (.getfield 187, 3) := dk_180 0 187 (dk_at dksX1_sent_3 3 rfl rfl)
theorem dX1_sent_78 : decode cX1_sent 78 = .ok (.iload_n 3, 1) := dk_29 (dk_at dksX1_sent_3 6 rfl rfl)
theorem dX1_sent_79 : decode cX1_sent 79 = .ok (.iaload, 1) := dk_46 (dk_at dksX1_sent_3 7 rfl rfl)
theorem dX1_sent_80 : decode cX1_sent 80 = .ok (.aload_n 0, 1) := dk_42 (dk_at dksX1_sent_3 8 rfl rfl)
theorem dX1_sent_81 : decode cX1_sent 81 = .ok (.iload_n 3, 1) := dk_29 (dk_at dksX1_sent_3 9 rfl rfl)
theorem dX1_sent_82 : decode cX1_sent 82 = .ok (.invokevirtual 171, 3) := dk_182 0 171 (dk_at dksX1_sent_3 10 rfl rfl)
theorem dX1_sent_85 : decode cX1_sent 85 = .ok (.getfield 184, 3) := dk_180 0 184 (dk_at dksX1_sent_3 13 rfl rfl)
theorem dX1_sent_88 : decode cX1_sent 88 = .ok (.isub, 1) := dk_100 (dk_at dksX1_sent_3 16 rfl rfl)
theorem dX1_sent_89 : decode cX1_sent 89 = .ok (.goto 28, 3) := dk_167 0 28 (dk_at dksX1_sent_3 17 rfl rfl)
theorem dX1_sent_92 : decode cX1_sent 92 = .ok (.aload_n 0, 1) := dk_42 (dk_at dksX1_sent_3 20 rfl rfl)
theorem dX1_sent_93 : decode cX1_sent 93 = .ok (.getfield 111, 3) := dk_180 0 111 (dk_at dksX1_sent_3 21 rfl rfl)
theorem dX1_sent_96 : decode cX1_sent 96 = .ok (.getfield 190, 3) := dk_180 0 190 (dk_at dksX1_sent_4 0 rfl rfl)
theorem dX1_sent_99 : decode cX1_sent 99 = .ok (.iload_n 3, 1) := dk_29 (dk_at dksX1_sent_4 3 rfl rfl)
theorem dX1_sent_100 : decode cX1_sent 100 = .ok (.iaload, 1) := dk_46 (dk_at dksX1_sent_4 4 rfl rfl)
theorem dX1_sent_101 : decode cX1_sent 101 = .ok (.aload_n 0, 1) := dk_42 (dk_at dksX1_sent_4 5 rfl rfl)
theorem dX1_sent_102 : decode cX1_sent 102 = .ok (.iload_n 3, 1) := dk_29 (dk_at dksX1_sent_4 6 rfl rfl)
theorem dX1_sent_103 : decode cX1_sent 103 = .ok (.invokevirtual 171, 3) := dk_182 0 171 (dk_at dksX1_sent_4 7 rfl rfl)
theorem dX1_sent_106 : decode cX1_sent 106 = .ok (.getfield 178, 3) := dk_180 0 178 (dk_at dksX1_sent_4 10 rfl rfl)
theorem dX1_sent_109 : decode cX1_sent 109 = .ok (.if_icmp .ne 7, 3) := dk_160 0 7 (dk_at dksX1_sent_4 13 rfl rfl)
theorem dX1_sent_112 : decode cX1_sent 112 = .ok (.iconst 1, 1) := dk_4 (dk_at dksX1_sent_4 16 rfl rfl)
theorem dX1_sent_113 : decode cX1_sent 113 = .ok (.goto 4, 3) := dk_167 0 4 (dk_at dksX1_sent_4 17 rfl rfl)
theorem dX1_sent_116 : decode cX1_sent 116 = .ok (.iconst 0, 1) := dk_3 (dk_at dksX1_sent_4 20 rfl rfl)
theorem dX1_sent_117 : decode cX1_sent 117 = .ok (.iadd, 1) := dk_96 (dk_at dksX1_sent_4 21 rfl rfl)
theorem dX1_sent_118 : decode cX1_sent 118 = .ok (.istore_n 2, 1) := dk_61 (dk_at dksX1_sent_4 22 rfl rfl)
theorem dX1_sent_119 : decode cX1_sent 119 = .ok (.iinc 3 1, 3) := dk_132 3 1 (dk_at dksX1_sent_5 0 rfl rfl)
theorem dX1_sent_122 : decode cX1_sent 122 = .ok (.goto (-96), 3) := dk_167 255 160 (dk_at dksX1_sent_5 3 rfl rfl)
theorem dX1_sent_125 : decode cX1_sent 125 = .ok (.aload_n 0, 1) := dk_42 (dk_at dksX1_sent_5 6 rfl rfl)
theorem dX1_sent_126 : decode cX1_sent 126 = .ok (.iload_n 2, 1) := dk_28 (dk_at dksX1_sent_5 7 rfl rfl)
theorem dX1_sent_127 : decode cX1_sent 127 = .ok (.invokevirtual 69, 3) := dk_182 0 69 (dk_at dksX1_sent_5 8 rfl rfl)
theorem dX1_sent_130 : decode cX1_sent 130 = .ok (.ireturn, 1) := dk_172 (dk_at dksX1_sent_5 11 rfl rfl)
abbrev cX1_apart : ByteArray := prog_1_method_35_code
def yX1_apart : MethodName := ⟨RX1, "apart", "(II)I"⟩
def dkwX1_apart_1 : List UInt8 := [182, 0, 247, 182, 0, 69, 167, 0, 8, 42, 4, 182, 0, 65, 172]
abbrev dktX1_apart_1 : List UInt8 := dkwX1_apart_1 ++ []
def dkwX1_apart_0 : List UInt8 := [42, 27, 182, 0, 193, 153, 0, 27, 42, 28, 182, 0, 193, 153, 0, 19, 42, 42, 180, 0, 104, 27, 28]
abbrev dktX1_apart_0 : List UInt8 := dkwX1_apart_0 ++ dktX1_apart_1
theorem dksX1_apart_0 : cX1_apart.data.toList.drop 0 = dktX1_apart_0 := by decide +kernel
theorem dksX1_apart_1 : cX1_apart.data.toList.drop 23 = dktX1_apart_1 := dk_seg dksX1_apart_0 23 rfl rfl
theorem dX1_apart_0 : decode cX1_apart 0 = .ok (.aload_n 0, 1) := dk_42 (dk_at dksX1_apart_0 0 rfl rfl)
theorem dX1_apart_1 : decode cX1_apart 1 = .ok (.iload_n 1, 1) := dk_27 (dk_at dksX1_apart_0 1 rfl rfl)
theorem dX1_apart_2 : decode cX1_apart 2 = .ok (.invokevirtual 193, 3) := dk_182 0 193 (dk_at dksX1_apart_0 2 rfl rfl)
theorem dX1_apart_5 : decode cX1_apart 5 = .ok (.ifCond .eq 27, 3) := dk_153 0 27 (dk_at dksX1_apart_0 5 rfl rfl)
theorem dX1_apart_8 : decode cX1_apart 8 = .ok (.aload_n 0, 1) := dk_42 (dk_at dksX1_apart_0 8 rfl rfl)
theorem dX1_apart_9 : decode cX1_apart 9 = .ok (.iload_n 2, 1) := dk_28 (dk_at dksX1_apart_0 9 rfl rfl)
theorem dX1_apart_10 : decode cX1_apart 10 = .ok (.invokevirtual 193, 3) := dk_182 0 193 (dk_at dksX1_apart_0 10 rfl rfl)
theorem dX1_apart_13 : decode cX1_apart 13 = .ok (.ifCond .eq 19, 3) := dk_153 0 19 (dk_at dksX1_apart_0 13 rfl rfl)
theorem dX1_apart_16 : decode cX1_apart 16 = .ok (.aload_n 0, 1) := dk_42 (dk_at dksX1_apart_0 16 rfl rfl)
theorem dX1_apart_17 : decode cX1_apart 17 = .ok (.aload_n 0, 1) := dk_42 (dk_at dksX1_apart_0 17 rfl rfl)
theorem dX1_apart_18 : decode cX1_apart 18 = .ok (.getfield 104, 3) := dk_180 0 104 (dk_at dksX1_apart_0 18 rfl rfl)
theorem dX1_apart_21 : decode cX1_apart 21 = .ok (.iload_n 1, 1) := dk_27 (dk_at dksX1_apart_0 21 rfl rfl)
theorem dX1_apart_22 : decode cX1_apart 22 = .ok (.iload_n 2, 1) := dk_28 (dk_at dksX1_apart_0 22 rfl rfl)
theorem dX1_apart_23 : decode cX1_apart 23 = .ok (.invokevirtual 247, 3) := dk_182 0 247 (dk_at dksX1_apart_1 0 rfl rfl)
theorem dX1_apart_26 : decode cX1_apart 26 = .ok (.invokevirtual 69, 3) := dk_182 0 69 (dk_at dksX1_apart_1 3 rfl rfl)
theorem dX1_apart_29 : decode cX1_apart 29 = .ok (.goto 8, 3) := dk_167 0 8 (dk_at dksX1_apart_1 6 rfl rfl)
theorem dX1_apart_32 : decode cX1_apart 32 = .ok (.aload_n 0, 1) := dk_42 (dk_at dksX1_apart_1 9 rfl rfl)
theorem dX1_apart_33 : decode cX1_apart 33 = .ok (.iconst 1, 1) := dk_4 (dk_at dksX1_apart_1 10 rfl rfl)
theorem dX1_apart_34 : decode cX1_apart 34 = .ok (.invokevirtual 65, 3) := dk_182 0 65 (dk_at dksX1_apart_1 11 rfl rfl)
theorem dX1_apart_37 : decode cX1_apart 37 = .ok (.ireturn, 1) := dk_172 (dk_at dksX1_apart_1 14 rfl rfl)
abbrev cX1_bear : ByteArray := prog_1_method_36_code
def yX1_bear : MethodName := ⟨RX1, "bea\x72", "()I"⟩
def dkwX1_bear_4 : List UInt8 := [27, 4, 100, 5, 108, 182, 0, 69, 172]
abbrev dktX1_bear_4 : List UInt8 := dkwX1_bear_4 ++ []
def dkwX1_bear_3 : List UInt8 := [132, 3, 1, 167, 255, 220, 132, 2, 1, 167, 255, 198, 42, 27, 16, 6, 164, 0, 8, 16, 254, 167, 0, 8]
abbrev dktX1_bear_3 : List UInt8 := dkwX1_bear_3 ++ dktX1_bear_4
def dkwX1_bear_2 : List UInt8 := [182, 0, 247, 16, 254, 159, 0, 17, 27, 42, 180, 0, 104, 28, 29, 182, 0, 247, 184, 0, 251, 60]
abbrev dktX1_bear_2 : List UInt8 := dkwX1_bear_2 ++ dktX1_bear_3
def dkwX1_bear_1 : List UInt8 := [180, 0, 122, 182, 0, 127, 162, 0, 50, 3, 62, 29, 28, 162, 0, 37, 42, 180, 0, 104, 28, 29]
abbrev dktX1_bear_1 : List UInt8 := dkwX1_bear_1 ++ dktX1_bear_2
def dkwX1_bear_0 : List UInt8 := [42, 180, 0, 104, 199, 0, 9, 42, 4, 182, 0, 65, 172, 16, 7, 60, 3, 61, 28, 42, 180, 0, 104]
abbrev dktX1_bear_0 : List UInt8 := dkwX1_bear_0 ++ dktX1_bear_1
theorem dksX1_bear_0 : cX1_bear.data.toList.drop 0 = dktX1_bear_0 := by decide +kernel
theorem dksX1_bear_1 : cX1_bear.data.toList.drop 23 = dktX1_bear_1 := dk_seg dksX1_bear_0 23 rfl rfl
theorem dksX1_bear_2 : cX1_bear.data.toList.drop 45 = dktX1_bear_2 := dk_seg dksX1_bear_1 22 rfl rfl
theorem dksX1_bear_3 : cX1_bear.data.toList.drop 67 = dktX1_bear_3 := dk_seg dksX1_bear_2 22 rfl rfl
theorem dksX1_bear_4 : cX1_bear.data.toList.drop 91 = dktX1_bear_4 := dk_seg dksX1_bear_3 24 rfl rfl
theorem dX1_bear_0 : decode cX1_bear 0 = .ok (.aload_n 0, 1) := dk_42 (dk_at dksX1_bear_0 0 rfl rfl)
theorem dX1_bear_1 : decode cX1_bear 1 = .ok (.getfield 104, 3) := dk_180 0 104 (dk_at dksX1_bear_0 1 rfl rfl)
theorem dX1_bear_4 : decode cX1_bear 4 = .ok (.ifnonnull 9, 3) := dk_199 0 9 (dk_at dksX1_bear_0 4 rfl rfl)
theorem dX1_bear_7 : decode cX1_bear 7 = .ok (.aload_n 0, 1) := dk_42 (dk_at dksX1_bear_0 7 rfl rfl)
theorem dX1_bear_8 : decode cX1_bear 8 = .ok (.iconst 1, 1) := dk_4 (dk_at dksX1_bear_0 8 rfl rfl)
theorem dX1_bear_9 : decode cX1_bear 9 = .ok (.invokevirtual 65, 3) := dk_182 0 65 (dk_at dksX1_bear_0 9 rfl rfl)
theorem dX1_bear_12 : decode cX1_bear 12 = .ok (.ireturn, 1) := dk_172 (dk_at dksX1_bear_0 12 rfl rfl)
theorem dX1_bear_13 : decode cX1_bear 13 = .ok (.bipush 7, 2) := dk_16 7 (dk_at dksX1_bear_0 13 rfl rfl)
theorem dX1_bear_15 : decode cX1_bear 15 = .ok (.istore_n 1, 1) := dk_60 (dk_at dksX1_bear_0 15 rfl rfl)
theorem dX1_bear_16 : decode cX1_bear 16 = .ok (.iconst 0, 1) := dk_3 (dk_at dksX1_bear_0 16 rfl rfl)
theorem dX1_bear_17 : decode cX1_bear 17 = .ok (.istore_n 2, 1) := dk_61 (dk_at dksX1_bear_0 17 rfl rfl)
theorem dX1_bear_18 : decode cX1_bear 18 = .ok (.iload_n 2, 1) := dk_28 (dk_at dksX1_bear_0 18 rfl rfl)
theorem dX1_bear_19 : decode cX1_bear 19 = .ok (.aload_n 0, 1) := dk_42 (dk_at dksX1_bear_0 19 rfl rfl)
theorem dX1_bear_20 : decode cX1_bear 20 = .ok (.getfield 104, 3) := dk_180 0 104 (dk_at dksX1_bear_0 20 rfl rfl)
theorem dX1_bear_23 : decode cX1_bear 23 = .ok (.getfield 122, 3) := dk_180 0 122 (dk_at dksX1_bear_1 0 rfl rfl)
theorem dX1_bear_26 : decode cX1_bear 26 = .ok (.invokevirtual 127, 3) := dk_182 0 127 (dk_at dksX1_bear_1 3 rfl rfl)
theorem dX1_bear_29 : decode cX1_bear 29 = .ok (.if_icmp .ge 50, 3) := dk_162 0 50 (dk_at dksX1_bear_1 6 rfl rfl)
theorem dX1_bear_32 : decode cX1_bear 32 = .ok (.iconst 0, 1) := dk_3 (dk_at dksX1_bear_1 9 rfl rfl)
theorem dX1_bear_33 : decode cX1_bear 33 = .ok (.istore_n 3, 1) := dk_62 (dk_at dksX1_bear_1 10 rfl rfl)
theorem dX1_bear_34 : decode cX1_bear 34 = .ok (.iload_n 3, 1) := dk_29 (dk_at dksX1_bear_1 11 rfl rfl)
theorem dX1_bear_35 : decode cX1_bear 35 = .ok (.iload_n 2, 1) := dk_28 (dk_at dksX1_bear_1 12 rfl rfl)
theorem dX1_bear_36 : decode cX1_bear 36 = .ok (.if_icmp .ge 37, 3) := dk_162 0 37 (dk_at dksX1_bear_1 13 rfl rfl)
theorem dX1_bear_39 : decode cX1_bear 39 = .ok (.aload_n 0, 1) := dk_42 (dk_at dksX1_bear_1 16 rfl rfl)
theorem dX1_bear_40 : decode cX1_bear 40 = .ok (.getfield 104, 3) := dk_180 0 104 (dk_at dksX1_bear_1 17 rfl rfl)
theorem dX1_bear_43 : decode cX1_bear 43 = .ok (.iload_n 2, 1) := dk_28 (dk_at dksX1_bear_1 20 rfl rfl)
theorem dX1_bear_44 : decode cX1_bear 44 = .ok (.iload_n 3, 1) := dk_29 (dk_at dksX1_bear_1 21 rfl rfl)
theorem dX1_bear_45 : decode cX1_bear 45 = .ok (.invokevirtual 247, 3) := dk_182 0 247 (dk_at dksX1_bear_2 0 rfl rfl)
theorem dX1_bear_48 : decode cX1_bear 48 = .ok (.bipush (-2), 2) := dk_16 254 (dk_at dksX1_bear_2 3 rfl rfl)
theorem dX1_bear_50 : decode cX1_bear 50 = .ok (.if_icmp .eq 17, 3) := dk_159 0 17 (dk_at dksX1_bear_2 5 rfl rfl)
theorem dX1_bear_53 : decode cX1_bear 53 = .ok (.iload_n 1, 1) := dk_27 (dk_at dksX1_bear_2 8 rfl rfl)
theorem dX1_bear_54 : decode cX1_bear 54 = .ok (.aload_n 0, 1) := dk_42 (dk_at dksX1_bear_2 9 rfl rfl)
theorem dX1_bear_55 : decode cX1_bear 55 = .ok (.getfield 104, 3) := dk_180 0 104 (dk_at dksX1_bear_2 10 rfl rfl)
theorem dX1_bear_58 : decode cX1_bear 58 = .ok (.iload_n 2, 1) := dk_28 (dk_at dksX1_bear_2 13 rfl rfl)
theorem dX1_bear_59 : decode cX1_bear 59 = .ok (.iload_n 3, 1) := dk_29 (dk_at dksX1_bear_2 14 rfl rfl)
theorem dX1_bear_60 : decode cX1_bear 60 = .ok (.invokevirtual 247, 3) := dk_182 0 247 (dk_at dksX1_bear_2 15 rfl rfl)
theorem dX1_bear_63 : decode cX1_bear 63 = .ok (.invokestatic 251, 3) := dk_184 0 251 (dk_at dksX1_bear_2 18 rfl rfl)
theorem dX1_bear_66 : decode cX1_bear 66 = .ok (.istore_n 1, 1) := dk_60 (dk_at dksX1_bear_2 21 rfl rfl)
theorem dX1_bear_67 : decode cX1_bear 67 = .ok (.iinc 3 1, 3) := dk_132 3 1 (dk_at dksX1_bear_3 0 rfl rfl)
theorem dX1_bear_70 : decode cX1_bear 70 = .ok (.goto (-36), 3) := dk_167 255 220 (dk_at dksX1_bear_3 3 rfl rfl)
theorem dX1_bear_73 : decode cX1_bear 73 = .ok (.iinc 2 1, 3) := dk_132 2 1 (dk_at dksX1_bear_3 6 rfl rfl)
theorem dX1_bear_76 : decode cX1_bear 76 = .ok (.goto (-58), 3) := dk_167 255 198 (dk_at dksX1_bear_3 9 rfl rfl)
theorem dX1_bear_79 : decode cX1_bear 79 = .ok (.aload_n 0, 1) := dk_42 (dk_at dksX1_bear_3 12 rfl rfl)
theorem dX1_bear_80 : decode cX1_bear 80 = .ok (.iload_n 1, 1) := dk_27 (dk_at dksX1_bear_3 13 rfl rfl)
theorem dX1_bear_81 : decode cX1_bear 81 = .ok (.bipush 6, 2) := dk_16 6 (dk_at dksX1_bear_3 14 rfl rfl)
theorem dX1_bear_83 : decode cX1_bear 83 = .ok (.if_icmp .le 8, 3) := dk_164 0 8 (dk_at dksX1_bear_3 16 rfl rfl)
theorem dX1_bear_86 : decode cX1_bear 86 = .ok (.bipush (-2), 2) := dk_16 254 (dk_at dksX1_bear_3 19 rfl rfl)
theorem dX1_bear_88 : decode cX1_bear 88 = .ok (.goto 8, 3) := dk_167 0 8 (dk_at dksX1_bear_3 21 rfl rfl)
theorem dX1_bear_91 : decode cX1_bear 91 = .ok (.iload_n 1, 1) := dk_27 (dk_at dksX1_bear_4 0 rfl rfl)
theorem dX1_bear_92 : decode cX1_bear 92 = .ok (.iconst 1, 1) := dk_4 (dk_at dksX1_bear_4 1 rfl rfl)
theorem dX1_bear_93 : decode cX1_bear 93 = .ok (.isub, 1) := dk_100 (dk_at dksX1_bear_4 2 rfl rfl)
theorem dX1_bear_94 : decode cX1_bear 94 = .ok (.iconst 2, 1) := dk_5 (dk_at dksX1_bear_4 3 rfl rfl)
theorem dX1_bear_95 : decode cX1_bear 95 = .ok (.idiv, 1) := dk_108 (dk_at dksX1_bear_4 4 rfl rfl)
theorem dX1_bear_96 : decode cX1_bear 96 = .ok (.invokevirtual 69, 3) := dk_182 0 69 (dk_at dksX1_bear_4 5 rfl rfl)
theorem dX1_bear_99 : decode cX1_bear 99 = .ok (.ireturn, 1) := dk_172 (dk_at dksX1_bear_4 8 rfl rfl)
abbrev cX1_mixed : ByteArray := prog_1_method_37_code
def yX1_mixed : MethodName := ⟨RX1, "mixed", "()I"⟩
def dkwX1_mixed_3 : List UInt8 := [96, 60, 132, 3, 1, 167, 255, 215, 132, 2, 1, 167, 255, 193, 42, 27, 182, 0, 69, 172]
abbrev dktX1_mixed_3 : List UInt8 := dkwX1_mixed_3 ++ []
def dkwX1_mixed_2 : List UInt8 := [182, 0, 247, 3, 5, 42, 180, 0, 104, 180, 1, 0, 104, 184, 0, 79, 153, 0, 7, 4, 167, 0, 4, 3]
abbrev dktX1_mixed_2 : List UInt8 := dkwX1_mixed_2 ++ dktX1_mixed_3
def dkwX1_mixed_1 : List UInt8 := [180, 0, 122, 182, 0, 127, 162, 0, 55, 3, 62, 29, 28, 162, 0, 42, 27, 42, 180, 0, 104, 28, 29]
abbrev dktX1_mixed_1 : List UInt8 := dkwX1_mixed_1 ++ dktX1_mixed_2
def dkwX1_mixed_0 : List UInt8 := [42, 180, 0, 104, 199, 0, 9, 42, 4, 182, 0, 65, 172, 3, 60, 3, 61, 28, 42, 180, 0, 104]
abbrev dktX1_mixed_0 : List UInt8 := dkwX1_mixed_0 ++ dktX1_mixed_1
theorem dksX1_mixed_0 : cX1_mixed.data.toList.drop 0 = dktX1_mixed_0 := by decide +kernel
theorem dksX1_mixed_1 : cX1_mixed.data.toList.drop 22 = dktX1_mixed_1 := dk_seg dksX1_mixed_0 22 rfl rfl
theorem dksX1_mixed_2 : cX1_mixed.data.toList.drop 45 = dktX1_mixed_2 := dk_seg dksX1_mixed_1 23 rfl rfl
theorem dksX1_mixed_3 : cX1_mixed.data.toList.drop 69 = dktX1_mixed_3 := dk_seg dksX1_mixed_2 24 rfl rfl
theorem dX1_mixed_0 : decode cX1_mixed 0 = .ok (.aload_n 0, 1) := dk_42 (dk_at dksX1_mixed_0 0 rfl rfl)
theorem dX1_mixed_1 : decode cX1_mixed 1 = .ok (.getfield 104, 3) := dk_180 0 104 (dk_at dksX1_mixed_0 1 rfl rfl)
theorem dX1_mixed_4 : decode cX1_mixed 4 = .ok (.ifnonnull 9, 3) := dk_199 0 9 (dk_at dksX1_mixed_0 4 rfl rfl)
theorem dX1_mixed_7 : decode cX1_mixed 7 = .ok (.aload_n 0, 1) := dk_42 (dk_at dksX1_mixed_0 7 rfl rfl)
theorem dX1_mixed_8 : decode cX1_mixed 8 = .ok (.iconst 1, 1) := dk_4 (dk_at dksX1_mixed_0 8 rfl rfl)
theorem dX1_mixed_9 : decode cX1_mixed 9 = .ok (.invokevirtual 65, 3) := dk_182 0 65 (dk_at dksX1_mixed_0 9 rfl rfl)
theorem dX1_mixed_12 : decode cX1_mixed 12 = .ok (.ireturn, 1) := dk_172 (dk_at dksX1_mixed_0 12 rfl rfl)
theorem dX1_mixed_13 : decode cX1_mixed 13 = .ok (.iconst 0, 1) := dk_3 (dk_at dksX1_mixed_0 13 rfl rfl)
theorem dX1_mixed_14 : decode cX1_mixed 14 = .ok (.istore_n 1, 1) := dk_60 (dk_at dksX1_mixed_0 14 rfl rfl)
theorem dX1_mixed_15 : decode cX1_mixed 15 = .ok (.iconst 0, 1) := dk_3 (dk_at dksX1_mixed_0 15 rfl rfl)
theorem dX1_mixed_16 : decode cX1_mixed 16 = .ok (.istore_n 2, 1) := dk_61 (dk_at dksX1_mixed_0 16 rfl rfl)
theorem dX1_mixed_17 : decode cX1_mixed 17 = .ok (.iload_n 2, 1) := dk_28 (dk_at dksX1_mixed_0 17 rfl rfl)
theorem dX1_mixed_18 : decode cX1_mixed 18 = .ok (.aload_n 0, 1) := dk_42 (dk_at dksX1_mixed_0 18 rfl rfl)
theorem dX1_mixed_19 : decode cX1_mixed 19 = .ok (.getfield 104, 3) := dk_180 0 104 (dk_at dksX1_mixed_0 19 rfl rfl)
theorem dX1_mixed_22 : decode cX1_mixed 22 = .ok (.getfield 122, 3) := dk_180 0 122 (dk_at dksX1_mixed_1 0 rfl rfl)
theorem dX1_mixed_25 : decode cX1_mixed 25 = .ok (.invokevirtual 127, 3) := dk_182 0 127 (dk_at dksX1_mixed_1 3 rfl rfl)
theorem dX1_mixed_28 : decode cX1_mixed 28 = .ok (.if_icmp .ge 55, 3) := dk_162 0 55 (dk_at dksX1_mixed_1 6 rfl rfl)
theorem dX1_mixed_31 : decode cX1_mixed 31 = .ok (.iconst 0, 1) := dk_3 (dk_at dksX1_mixed_1 9 rfl rfl)
theorem dX1_mixed_32 : decode cX1_mixed 32 = .ok (.istore_n 3, 1) := dk_62 (dk_at dksX1_mixed_1 10 rfl rfl)
theorem dX1_mixed_33 : decode cX1_mixed 33 = .ok (.iload_n 3, 1) := dk_29 (dk_at dksX1_mixed_1 11 rfl rfl)
theorem dX1_mixed_34 : decode cX1_mixed 34 = .ok (.iload_n 2, 1) := dk_28 (dk_at dksX1_mixed_1 12 rfl rfl)
theorem dX1_mixed_35 : decode cX1_mixed 35 = .ok (.if_icmp .ge 42, 3) := dk_162 0 42 (dk_at dksX1_mixed_1 13 rfl rfl)
theorem dX1_mixed_38 : decode cX1_mixed 38 = .ok (.iload_n 1, 1) := dk_27 (dk_at dksX1_mixed_1 16 rfl rfl)
theorem dX1_mixed_39 : decode cX1_mixed 39 = .ok (.aload_n 0, 1) := dk_42 (dk_at dksX1_mixed_1 17 rfl rfl)
theorem dX1_mixed_40 : decode cX1_mixed 40 = .ok (.getfield 104, 3) := dk_180 0 104 (dk_at dksX1_mixed_1 18 rfl rfl)
theorem dX1_mixed_43 : decode cX1_mixed 43 = .ok (.iload_n 2, 1) := dk_28 (dk_at dksX1_mixed_1 21 rfl rfl)
theorem dX1_mixed_44 : decode cX1_mixed 44 = .ok (.iload_n 3, 1) := dk_29 (dk_at dksX1_mixed_1 22 rfl rfl)
theorem dX1_mixed_45 : decode cX1_mixed 45 = .ok (.invokevirtual 247, 3) := dk_182 0 247 (dk_at dksX1_mixed_2 0 rfl rfl)
theorem dX1_mixed_48 : decode cX1_mixed 48 = .ok (.iconst 0, 1) := dk_3 (dk_at dksX1_mixed_2 3 rfl rfl)
theorem dX1_mixed_49 : decode cX1_mixed 49 = .ok (.iconst 2, 1) := dk_5 (dk_at dksX1_mixed_2 4 rfl rfl)
theorem dX1_mixed_50 : decode cX1_mixed 50 = .ok (.aload_n 0, 1) := dk_42 (dk_at dksX1_mixed_2 5 rfl rfl)
theorem dX1_mixed_51 : decode cX1_mixed 51 = .ok (.getfield 104, 3) := dk_180 0 104 (dk_at dksX1_mixed_2 6 rfl rfl)
theorem dX1_mixed_54 : decode cX1_mixed 54 = .ok (.getfield 256, 3) := dk_180 1 0 (dk_at dksX1_mixed_2 9 rfl rfl)
theorem dX1_mixed_57 : decode cX1_mixed 57 = .ok (.imul, 1) := dk_104 (dk_at dksX1_mixed_2 12 rfl rfl)
theorem dX1_mixed_58 : decode cX1_mixed 58 = .ok (.invokestatic 79, 3) := dk_184 0 79 (dk_at dksX1_mixed_2 13 rfl rfl)
theorem dX1_mixed_61 : decode cX1_mixed 61 = .ok (.ifCond .eq 7, 3) := dk_153 0 7 (dk_at dksX1_mixed_2 16 rfl rfl)
theorem dX1_mixed_64 : decode cX1_mixed 64 = .ok (.iconst 1, 1) := dk_4 (dk_at dksX1_mixed_2 19 rfl rfl)
theorem dX1_mixed_65 : decode cX1_mixed 65 = .ok (.goto 4, 3) := dk_167 0 4 (dk_at dksX1_mixed_2 20 rfl rfl)
theorem dX1_mixed_68 : decode cX1_mixed 68 = .ok (.iconst 0, 1) := dk_3 (dk_at dksX1_mixed_2 23 rfl rfl)
theorem dX1_mixed_69 : decode cX1_mixed 69 = .ok (.iadd, 1) := dk_96 (dk_at dksX1_mixed_3 0 rfl rfl)
theorem dX1_mixed_70 : decode cX1_mixed 70 = .ok (.istore_n 1, 1) := dk_60 (dk_at dksX1_mixed_3 1 rfl rfl)
theorem dX1_mixed_71 : decode cX1_mixed 71 = .ok (.iinc 3 1, 3) := dk_132 3 1 (dk_at dksX1_mixed_3 2 rfl rfl)
theorem dX1_mixed_74 : decode cX1_mixed 74 = .ok (.goto (-41), 3) := dk_167 255 215 (dk_at dksX1_mixed_3 5 rfl rfl)
theorem dX1_mixed_77 : decode cX1_mixed 77 = .ok (.iinc 2 1, 3) := dk_132 2 1 (dk_at dksX1_mixed_3 8 rfl rfl)
theorem dX1_mixed_80 : decode cX1_mixed 80 = .ok (.goto (-63), 3) := dk_167 255 193 (dk_at dksX1_mixed_3 11 rfl rfl)
theorem dX1_mixed_83 : decode cX1_mixed 83 = .ok (.aload_n 0, 1) := dk_42 (dk_at dksX1_mixed_3 14 rfl rfl)
theorem dX1_mixed_84 : decode cX1_mixed 84 = .ok (.iload_n 1, 1) := dk_27 (dk_at dksX1_mixed_3 15 rfl rfl)
theorem dX1_mixed_85 : decode cX1_mixed 85 = .ok (.invokevirtual 69, 3) := dk_182 0 69 (dk_at dksX1_mixed_3 16 rfl rfl)
theorem dX1_mixed_88 : decode cX1_mixed 88 = .ok (.ireturn, 1) := dk_172 (dk_at dksX1_mixed_3 19 rfl rfl)
abbrev cX1_fresh : ByteArray := prog_1_method_43_code
def yX1_fresh : MethodName := ⟨RX1, "fresh", "(II)I"⟩
def dkwX1_fresh_2 : List UInt8 := [132, 4, 1, 167, 255, 225, 42, 16, 254, 182, 0, 69, 172]
abbrev dktX1_fresh_2 : List UInt8 := dkwX1_fresh_2 ++ []
def dkwX1_fresh_1 : List UInt8 := [182, 1, 16, 162, 0, 27, 42, 21, 4, 27, 28, 182, 1, 19, 153, 0, 10, 42, 21, 4, 182, 0, 69, 172]
abbrev dktX1_fresh_1 : List UInt8 := dkwX1_fresh_1 ++ dktX1_fresh_2
def dkwX1_fresh_0 : List UInt8 := [42, 27, 28, 182, 1, 13, 62, 29, 158, 0, 9, 42, 29, 182, 0, 65, 172, 3, 54, 4, 21, 4, 42, 27]
abbrev dktX1_fresh_0 : List UInt8 := dkwX1_fresh_0 ++ dktX1_fresh_1
theorem dksX1_fresh_0 : cX1_fresh.data.toList.drop 0 = dktX1_fresh_0 := by decide +kernel
theorem dksX1_fresh_1 : cX1_fresh.data.toList.drop 24 = dktX1_fresh_1 := dk_seg dksX1_fresh_0 24 rfl rfl
theorem dksX1_fresh_2 : cX1_fresh.data.toList.drop 48 = dktX1_fresh_2 := dk_seg dksX1_fresh_1 24 rfl rfl
theorem dX1_fresh_0 : decode cX1_fresh 0 = .ok (.aload_n 0, 1) := dk_42 (dk_at dksX1_fresh_0 0 rfl rfl)
theorem dX1_fresh_1 : decode cX1_fresh 1 = .ok (.iload_n 1, 1) := dk_27 (dk_at dksX1_fresh_0 1 rfl rfl)
theorem dX1_fresh_2 : decode cX1_fresh 2 = .ok (.iload_n 2, 1) := dk_28 (dk_at dksX1_fresh_0 2 rfl rfl)
theorem dX1_fresh_3 : decode cX1_fresh 3 = .ok (.invokevirtual 269, 3) := dk_182 1 13 (dk_at dksX1_fresh_0 3 rfl rfl)
theorem dX1_fresh_6 : decode cX1_fresh 6 = .ok (.istore_n 3, 1) := dk_62 (dk_at dksX1_fresh_0 6 rfl rfl)
theorem dX1_fresh_7 : decode cX1_fresh 7 = .ok (.iload_n 3, 1) := dk_29 (dk_at dksX1_fresh_0 7 rfl rfl)
theorem dX1_fresh_8 : decode cX1_fresh 8 = .ok (.ifCond .le 9, 3) := dk_158 0 9 (dk_at dksX1_fresh_0 8 rfl rfl)
theorem dX1_fresh_11 : decode cX1_fresh 11 = .ok (.aload_n 0, 1) := dk_42 (dk_at dksX1_fresh_0 11 rfl rfl)
theorem dX1_fresh_12 : decode cX1_fresh 12 = .ok (.iload_n 3, 1) := dk_29 (dk_at dksX1_fresh_0 12 rfl rfl)
theorem dX1_fresh_13 : decode cX1_fresh 13 = .ok (.invokevirtual 65, 3) := dk_182 0 65 (dk_at dksX1_fresh_0 13 rfl rfl)
theorem dX1_fresh_16 : decode cX1_fresh 16 = .ok (.ireturn, 1) := dk_172 (dk_at dksX1_fresh_0 16 rfl rfl)
theorem dX1_fresh_17 : decode cX1_fresh 17 = .ok (.iconst 0, 1) := dk_3 (dk_at dksX1_fresh_0 17 rfl rfl)
theorem dX1_fresh_18 : decode cX1_fresh 18 = .ok (.istore 4, 2) := dk_54 4 (dk_at dksX1_fresh_0 18 rfl rfl)
theorem dX1_fresh_20 : decode cX1_fresh 20 = .ok (.iload 4, 2) := dk_21 4 (dk_at dksX1_fresh_0 20 rfl rfl)
theorem dX1_fresh_22 : decode cX1_fresh 22 = .ok (.aload_n 0, 1) := dk_42 (dk_at dksX1_fresh_0 22 rfl rfl)
theorem dX1_fresh_23 : decode cX1_fresh 23 = .ok (.iload_n 1, 1) := dk_27 (dk_at dksX1_fresh_0 23 rfl rfl)
theorem dX1_fresh_24 : decode cX1_fresh 24 = .ok (.invokevirtual 272, 3) := dk_182 1 16 (dk_at dksX1_fresh_1 0 rfl rfl)
theorem dX1_fresh_27 : decode cX1_fresh 27 = .ok (.if_icmp .ge 27, 3) := dk_162 0 27 (dk_at dksX1_fresh_1 3 rfl rfl)
theorem dX1_fresh_30 : decode cX1_fresh 30 = .ok (.aload_n 0, 1) := dk_42 (dk_at dksX1_fresh_1 6 rfl rfl)
theorem dX1_fresh_31 : decode cX1_fresh 31 = .ok (.iload 4, 2) := dk_21 4 (dk_at dksX1_fresh_1 7 rfl rfl)
theorem dX1_fresh_33 : decode cX1_fresh 33 = .ok (.iload_n 1, 1) := dk_27 (dk_at dksX1_fresh_1 9 rfl rfl)
theorem dX1_fresh_34 : decode cX1_fresh 34 = .ok (.iload_n 2, 1) := dk_28 (dk_at dksX1_fresh_1 10 rfl rfl)
theorem dX1_fresh_35 : decode cX1_fresh 35 = .ok (.invokevirtual 275, 3) := dk_182 1 19 (dk_at dksX1_fresh_1 11 rfl rfl)
theorem dX1_fresh_38 : decode cX1_fresh 38 = .ok (.ifCond .eq 10, 3) := dk_153 0 10 (dk_at dksX1_fresh_1 14 rfl rfl)
theorem dX1_fresh_41 : decode cX1_fresh 41 = .ok (.aload_n 0, 1) := dk_42 (dk_at dksX1_fresh_1 17 rfl rfl)
theorem dX1_fresh_42 : decode cX1_fresh 42 = .ok (.iload 4, 2) := dk_21 4 (dk_at dksX1_fresh_1 18 rfl rfl)
theorem dX1_fresh_44 : decode cX1_fresh 44 = .ok (.invokevirtual 69, 3) := dk_182 0 69 (dk_at dksX1_fresh_1 20 rfl rfl)
theorem dX1_fresh_47 : decode cX1_fresh 47 = .ok (.ireturn, 1) := dk_172 (dk_at dksX1_fresh_1 23 rfl rfl)
theorem dX1_fresh_48 : decode cX1_fresh 48 = .ok (.iinc 4 1, 3) := dk_132 4 1 (dk_at dksX1_fresh_2 0 rfl rfl)
theorem dX1_fresh_51 : decode cX1_fresh 51 = .ok (.goto (-31), 3) := dk_167 255 225 (dk_at dksX1_fresh_2 3 rfl rfl)
theorem dX1_fresh_54 : decode cX1_fresh 54 = .ok (.aload_n 0, 1) := dk_42 (dk_at dksX1_fresh_2 6 rfl rfl)
theorem dX1_fresh_55 : decode cX1_fresh 55 = .ok (.bipush (-2), 2) := dk_16 254 (dk_at dksX1_fresh_2 7 rfl rfl)
theorem dX1_fresh_57 : decode cX1_fresh 57 = .ok (.invokevirtual 69, 3) := dk_182 0 69 (dk_at dksX1_fresh_2 9 rfl rfl)
theorem dX1_fresh_60 : decode cX1_fresh 60 = .ok (.ireturn, 1) := dk_172 (dk_at dksX1_fresh_2 12 rfl rfl)
abbrev cX1_refusesSongs : ByteArray := prog_1_method_42_code
def yX1_refusesSongs : MethodName := ⟨RX1, "refusesSongs", "(II)I"⟩
def dkwX1_refusesSongs_1 : List UInt8 := [184, 0, 79, 153, 0, 7, 3, 167, 0, 4, 5, 172]
abbrev dktX1_refusesSongs_1 : List UInt8 := dkwX1_refusesSongs_1 ++ []
def dkwX1_refusesSongs_0 : List UInt8 := [42, 180, 0, 104, 199, 0, 7, 4, 167, 0, 26, 27, 5, 8, 184, 0, 79, 153, 0, 16, 28, 4, 8]
abbrev dktX1_refusesSongs_0 : List UInt8 := dkwX1_refusesSongs_0 ++ dktX1_refusesSongs_1
theorem dksX1_refusesSongs_0 : cX1_refusesSongs.data.toList.drop 0 = dktX1_refusesSongs_0 := by decide +kernel
theorem dksX1_refusesSongs_1 : cX1_refusesSongs.data.toList.drop 23 = dktX1_refusesSongs_1 := dk_seg dksX1_refusesSongs_0 23 rfl rfl
theorem dX1_refusesSongs_0 : decode cX1_refusesSongs 0 = .ok (.aload_n 0, 1) := dk_42 (dk_at dksX1_refusesSongs_0 0 rfl rfl)
theorem dX1_refusesSongs_1 : decode cX1_refusesSongs 1 = .ok (.getfield 104, 3) := dk_180 0 104 (dk_at dksX1_refusesSongs_0 1 rfl rfl)
theorem dX1_refusesSongs_4 : decode cX1_refusesSongs 4 = .ok (.ifnonnull 7, 3) := dk_199 0 7 (dk_at dksX1_refusesSongs_0 4 rfl rfl)
theorem dX1_refusesSongs_7 : decode cX1_refusesSongs 7 = .ok (.iconst 1, 1) := dk_4 (dk_at dksX1_refusesSongs_0 7 rfl rfl)
theorem dX1_refusesSongs_8 : decode cX1_refusesSongs 8 = .ok (.goto 26, 3) := dk_167 0 26 (dk_at dksX1_refusesSongs_0 8 rfl rfl)
theorem dX1_refusesSongs_11 : decode cX1_refusesSongs 11 = .ok (.iload_n 1, 1) := dk_27 (dk_at dksX1_refusesSongs_0 11 rfl rfl)
theorem dX1_refusesSongs_12 : decode cX1_refusesSongs 12 = .ok (.iconst 2, 1) := dk_5 (dk_at dksX1_refusesSongs_0 12 rfl rfl)
theorem dX1_refusesSongs_13 : decode cX1_refusesSongs 13 = .ok (.iconst 5, 1) := dk_8 (dk_at dksX1_refusesSongs_0 13 rfl rfl)
theorem dX1_refusesSongs_14 : decode cX1_refusesSongs 14 = .ok (.invokestatic 79, 3) := dk_184 0 79 (dk_at dksX1_refusesSongs_0 14 rfl rfl)
theorem dX1_refusesSongs_17 : decode cX1_refusesSongs 17 = .ok (.ifCond .eq 16, 3) := dk_153 0 16 (dk_at dksX1_refusesSongs_0 17 rfl rfl)
theorem dX1_refusesSongs_20 : decode cX1_refusesSongs 20 = .ok (.iload_n 2, 1) := dk_28 (dk_at dksX1_refusesSongs_0 20 rfl rfl)
theorem dX1_refusesSongs_21 : decode cX1_refusesSongs 21 = .ok (.iconst 1, 1) := dk_4 (dk_at dksX1_refusesSongs_0 21 rfl rfl)
theorem dX1_refusesSongs_22 : decode cX1_refusesSongs 22 = .ok (.iconst 5, 1) := dk_8 (dk_at dksX1_refusesSongs_0 22 rfl rfl)
theorem dX1_refusesSongs_23 : decode cX1_refusesSongs 23 = .ok (.invokestatic 79, 3) := dk_184 0 79 (dk_at dksX1_refusesSongs_1 0 rfl rfl)
theorem dX1_refusesSongs_26 : decode cX1_refusesSongs 26 = .ok (.ifCond .eq 7, 3) := dk_153 0 7 (dk_at dksX1_refusesSongs_1 3 rfl rfl)
theorem dX1_refusesSongs_29 : decode cX1_refusesSongs 29 = .ok (.iconst 0, 1) := dk_3 (dk_at dksX1_refusesSongs_1 6 rfl rfl)
theorem dX1_refusesSongs_30 : decode cX1_refusesSongs 30 = .ok (.goto 4, 3) := dk_167 0 4 (dk_at dksX1_refusesSongs_1 7 rfl rfl)
theorem dX1_refusesSongs_33 : decode cX1_refusesSongs 33 = .ok (.iconst 2, 1) := dk_5 (dk_at dksX1_refusesSongs_1 10 rfl rfl)
theorem dX1_refusesSongs_34 : decode cX1_refusesSongs 34 = .ok (.ireturn, 1) := dk_172 (dk_at dksX1_refusesSongs_1 11 rfl rfl)
abbrev cX1_power : ByteArray := prog_1_method_38_code
def yX1_power : MethodName := ⟨RX1, "powe\x72", "(I)I"⟩
def dkwX1_power_1 : List UInt8 := [167, 255, 238, 28, 172]
abbrev dktX1_power_1 : List UInt8 := dkwX1_power_1 ++ []
def dkwX1_power_0 : List UInt8 := [4, 61, 3, 62, 29, 27, 162, 0, 19, 28, 42, 180, 0, 104, 180, 1, 3, 104, 61, 132, 3, 1]
abbrev dktX1_power_0 : List UInt8 := dkwX1_power_0 ++ dktX1_power_1
theorem dksX1_power_0 : cX1_power.data.toList.drop 0 = dktX1_power_0 := by decide +kernel
theorem dksX1_power_1 : cX1_power.data.toList.drop 22 = dktX1_power_1 := dk_seg dksX1_power_0 22 rfl rfl
theorem dX1_power_0 : decode cX1_power 0 = .ok (.iconst 1, 1) := dk_4 (dk_at dksX1_power_0 0 rfl rfl)
theorem dX1_power_1 : decode cX1_power 1 = .ok (.istore_n 2, 1) := dk_61 (dk_at dksX1_power_0 1 rfl rfl)
theorem dX1_power_2 : decode cX1_power 2 = .ok (.iconst 0, 1) := dk_3 (dk_at dksX1_power_0 2 rfl rfl)
theorem dX1_power_3 : decode cX1_power 3 = .ok (.istore_n 3, 1) := dk_62 (dk_at dksX1_power_0 3 rfl rfl)
theorem dX1_power_4 : decode cX1_power 4 = .ok (.iload_n 3, 1) := dk_29 (dk_at dksX1_power_0 4 rfl rfl)
theorem dX1_power_5 : decode cX1_power 5 = .ok (.iload_n 1, 1) := dk_27 (dk_at dksX1_power_0 5 rfl rfl)
theorem dX1_power_6 : decode cX1_power 6 = .ok (.if_icmp .ge 19, 3) := dk_162 0 19 (dk_at dksX1_power_0 6 rfl rfl)
theorem dX1_power_9 : decode cX1_power 9 = .ok (.iload_n 2, 1) := dk_28 (dk_at dksX1_power_0 9 rfl rfl)
theorem dX1_power_10 : decode cX1_power 10 = .ok (.aload_n 0, 1) := dk_42 (dk_at dksX1_power_0 10 rfl rfl)
theorem dX1_power_11 : decode cX1_power 11 = .ok (.getfield 104, 3) := dk_180 0 104 (dk_at dksX1_power_0 11 rfl rfl)
theorem dX1_power_14 : decode cX1_power 14 = .ok (.getfield 259, 3) := dk_180 1 3 (dk_at dksX1_power_0 14 rfl rfl)
theorem dX1_power_17 : decode cX1_power 17 = .ok (.imul, 1) := dk_104 (dk_at dksX1_power_0 17 rfl rfl)
theorem dX1_power_18 : decode cX1_power 18 = .ok (.istore_n 2, 1) := dk_61 (dk_at dksX1_power_0 18 rfl rfl)
theorem dX1_power_19 : decode cX1_power 19 = .ok (.iinc 3 1, 3) := dk_132 3 1 (dk_at dksX1_power_0 19 rfl rfl)
theorem dX1_power_22 : decode cX1_power 22 = .ok (.goto (-18), 3) := dk_167 255 238 (dk_at dksX1_power_1 0 rfl rfl)
theorem dX1_power_25 : decode cX1_power 25 = .ok (.iload_n 2, 1) := dk_28 (dk_at dksX1_power_1 3 rfl rfl)
theorem dX1_power_26 : decode cX1_power 26 = .ok (.ireturn, 1) := dk_172 (dk_at dksX1_power_1 4 rfl rfl)
abbrev cX1_isNew : ByteArray := prog_1_method_41_code
def yX1_isNew : MethodName := ⟨RX1, "isNew", "(III)Z"⟩
def dkwX1_isNew_2 : List UInt8 := [42, 180, 0, 111, 180, 0, 199, 182, 1, 10, 29, 162, 0, 5, 3, 172, 132, 4, 1, 167, 255, 198, 4, 172]
abbrev dktX1_isNew_2 : List UInt8 := dkwX1_isNew_2 ++ []
def dkwX1_isNew_1 : List UInt8 := [42, 180, 0, 104, 21, 4, 182, 0, 196, 28, 160, 0, 30, 42, 180, 0, 104, 42, 180, 0, 31, 3, 21, 4]
abbrev dktX1_isNew_1 : List UInt8 := dkwX1_isNew_1 ++ dktX1_isNew_2
def dkwX1_isNew_0 : List UInt8 := [42, 27, 28, 182, 1, 6, 3, 54, 4, 21, 4, 42, 180, 0, 104, 180, 0, 122, 182, 0, 127, 162, 0, 49]
abbrev dktX1_isNew_0 : List UInt8 := dkwX1_isNew_0 ++ dktX1_isNew_1
theorem dksX1_isNew_0 : cX1_isNew.data.toList.drop 0 = dktX1_isNew_0 := by decide +kernel
theorem dksX1_isNew_1 : cX1_isNew.data.toList.drop 24 = dktX1_isNew_1 := dk_seg dksX1_isNew_0 24 rfl rfl
theorem dksX1_isNew_2 : cX1_isNew.data.toList.drop 48 = dktX1_isNew_2 := dk_seg dksX1_isNew_1 24 rfl rfl
theorem dX1_isNew_0 : decode cX1_isNew 0 = .ok (.aload_n 0, 1) := dk_42 (dk_at dksX1_isNew_0 0 rfl rfl)
theorem dX1_isNew_1 : decode cX1_isNew 1 = .ok (.iload_n 1, 1) := dk_27 (dk_at dksX1_isNew_0 1 rfl rfl)
theorem dX1_isNew_2 : decode cX1_isNew 2 = .ok (.iload_n 2, 1) := dk_28 (dk_at dksX1_isNew_0 2 rfl rfl)
theorem dX1_isNew_3 : decode cX1_isNew 3 = .ok (.invokevirtual 262, 3) := dk_182 1 6 (dk_at dksX1_isNew_0 3 rfl rfl)
theorem dX1_isNew_6 : decode cX1_isNew 6 = .ok (.iconst 0, 1) := dk_3 (dk_at dksX1_isNew_0 6 rfl rfl)
theorem dX1_isNew_7 : decode cX1_isNew 7 = .ok (.istore 4, 2) := dk_54 4 (dk_at dksX1_isNew_0 7 rfl rfl)
theorem dX1_isNew_9 : decode cX1_isNew 9 = .ok (.iload 4, 2) := dk_21 4 (dk_at dksX1_isNew_0 9 rfl rfl)
theorem dX1_isNew_11 : decode cX1_isNew 11 = .ok (.aload_n 0, 1) := dk_42 (dk_at dksX1_isNew_0 11 rfl rfl)
theorem dX1_isNew_12 : decode cX1_isNew 12 = .ok (.getfield 104, 3) := dk_180 0 104 (dk_at dksX1_isNew_0 12 rfl rfl)
theorem dX1_isNew_15 : decode cX1_isNew 15 = .ok (.getfield 122, 3) := dk_180 0 122 (dk_at dksX1_isNew_0 15 rfl rfl)
theorem dX1_isNew_18 : decode cX1_isNew 18 = .ok (.invokevirtual 127, 3) := dk_182 0 127 (dk_at dksX1_isNew_0 18 rfl rfl)
theorem dX1_isNew_21 : decode cX1_isNew 21 = .ok (.if_icmp .ge 49, 3) := dk_162 0 49 (dk_at dksX1_isNew_0 21 rfl rfl)
theorem dX1_isNew_24 : decode cX1_isNew 24 = .ok (.aload_n 0, 1) := dk_42 (dk_at dksX1_isNew_1 0 rfl rfl)
theorem dX1_isNew_25 : decode cX1_isNew 25 = .ok (.getfield 104, 3) := dk_180 0 104 (dk_at dksX1_isNew_1 1 rfl rfl)
theorem dX1_isNew_28 : decode cX1_isNew 28 = .ok (.iload 4, 2) := dk_21 4 (dk_at dksX1_isNew_1 4 rfl rfl)
theorem dX1_isNew_30 : decode cX1_isNew 30 = .ok (.invokevirtual 196, 3) := dk_182 0 196 (dk_at dksX1_isNew_1 6 rfl rfl)
theorem dX1_isNew_33 : decode cX1_isNew 33 = .ok (.iload_n 2, 1) := dk_28 (dk_at dksX1_isNew_1 9 rfl rfl)
theorem dX1_isNew_34 : decode cX1_isNew 34 = .ok (.if_icmp .ne 30, 3) := dk_160 0 30 (dk_at dksX1_isNew_1 10 rfl rfl)
theorem dX1_isNew_37 : decode cX1_isNew 37 = .ok (.aload_n 0, 1) := dk_42 (dk_at dksX1_isNew_1 13 rfl rfl)
theorem dX1_isNew_38 : decode cX1_isNew 38 = .ok (.getfield 104, 3) := dk_180 0 104 (dk_at dksX1_isNew_1 14 rfl rfl)
theorem dX1_isNew_41 : decode cX1_isNew 41 = .ok (.aload_n 0, 1) := dk_42 (dk_at dksX1_isNew_1 17 rfl rfl)
theorem dX1_isNew_42 : decode cX1_isNew 42 = .ok (.getfield 31, 3) := dk_180 0 31 (dk_at dksX1_isNew_1 18 rfl rfl)
theorem dX1_isNew_45 : decode cX1_isNew 45 = .ok (.iconst 0, 1) := dk_3 (dk_at dksX1_isNew_1 21 rfl rfl)
theorem dX1_isNew_46 : decode cX1_isNew 46 = .ok (.iload 4, 2) := dk_21 4 (dk_at dksX1_isNew_1 22 rfl rfl)
theorem dX1_isNew_48 : decode cX1_isNew 48 = .ok (.aload_n 0, 1) := dk_42 (dk_at dksX1_isNew_2 0 rfl rfl)
theorem dX1_isNew_49 : decode cX1_isNew 49 = .ok (.getfield 111, 3) := dk_180 0 111 (dk_at dksX1_isNew_2 1 rfl rfl)
theorem dX1_isNew_52 : decode cX1_isNew 52 = .ok (.getfield 199, 3) := dk_180 0 199 (dk_at dksX1_isNew_2 4 rfl rfl)
theorem dX1_isNew_55 : decode cX1_isNew 55 = .ok (.invokevirtual 266, 3) := dk_182 1 10 (dk_at dksX1_isNew_2 7 rfl rfl)
theorem dX1_isNew_58 : decode cX1_isNew 58 = .ok (.iload_n 3, 1) := dk_29 (dk_at dksX1_isNew_2 10 rfl rfl)
theorem dX1_isNew_59 : decode cX1_isNew 59 = .ok (.if_icmp .ge 5, 3) := dk_162 0 5 (dk_at dksX1_isNew_2 11 rfl rfl)
theorem dX1_isNew_62 : decode cX1_isNew 62 = .ok (.iconst 0, 1) := dk_3 (dk_at dksX1_isNew_2 14 rfl rfl)
theorem dX1_isNew_63 : decode cX1_isNew 63 = .ok (.ireturn, 1) := dk_172 (dk_at dksX1_isNew_2 15 rfl rfl)
theorem dX1_isNew_64 : decode cX1_isNew 64 = .ok (.iinc 4 1, 3) := dk_132 4 1 (dk_at dksX1_isNew_2 16 rfl rfl)
theorem dX1_isNew_67 : decode cX1_isNew 67 = .ok (.goto (-58), 3) := dk_167 255 198 (dk_at dksX1_isNew_2 19 rfl rfl)
theorem dX1_isNew_70 : decode cX1_isNew 70 = .ok (.iconst 1, 1) := dk_4 (dk_at dksX1_isNew_2 22 rfl rfl)
theorem dX1_isNew_71 : decode cX1_isNew 71 = .ok (.ireturn, 1) := dk_172 (dk_at dksX1_isNew_2 23 rfl rfl)
abbrev cX1_rows : ByteArray := prog_1_method_39_code
def yX1_rows : MethodName := ⟨RX1, "rows", "(II)V"⟩
def dkwX1_rows_1 : List UInt8 := [180, 1, 3, 112, 79, 29, 42, 180, 0, 104, 180, 1, 3, 108, 62, 132, 4, 255, 167, 255, 222, 177]
abbrev dktX1_rows_1 : List UInt8 := dkwX1_rows_1 ++ []
def dkwX1_rows_0 : List UInt8 := [27, 62, 28, 4, 100, 54, 4, 21, 4, 155, 0, 35, 42, 180, 0, 31, 21, 4, 29, 42, 180, 0, 104]
abbrev dktX1_rows_0 : List UInt8 := dkwX1_rows_0 ++ dktX1_rows_1
theorem dksX1_rows_0 : cX1_rows.data.toList.drop 0 = dktX1_rows_0 := by decide +kernel
theorem dksX1_rows_1 : cX1_rows.data.toList.drop 23 = dktX1_rows_1 := dk_seg dksX1_rows_0 23 rfl rfl
theorem dX1_rows_0 : decode cX1_rows 0 = .ok (.iload_n 1, 1) := dk_27 (dk_at dksX1_rows_0 0 rfl rfl)
theorem dX1_rows_1 : decode cX1_rows 1 = .ok (.istore_n 3, 1) := dk_62 (dk_at dksX1_rows_0 1 rfl rfl)
theorem dX1_rows_2 : decode cX1_rows 2 = .ok (.iload_n 2, 1) := dk_28 (dk_at dksX1_rows_0 2 rfl rfl)
theorem dX1_rows_3 : decode cX1_rows 3 = .ok (.iconst 1, 1) := dk_4 (dk_at dksX1_rows_0 3 rfl rfl)
theorem dX1_rows_4 : decode cX1_rows 4 = .ok (.isub, 1) := dk_100 (dk_at dksX1_rows_0 4 rfl rfl)
theorem dX1_rows_5 : decode cX1_rows 5 = .ok (.istore 4, 2) := dk_54 4 (dk_at dksX1_rows_0 5 rfl rfl)
theorem dX1_rows_7 : decode cX1_rows 7 = .ok (.iload 4, 2) := dk_21 4 (dk_at dksX1_rows_0 7 rfl rfl)
theorem dX1_rows_9 : decode cX1_rows 9 = .ok (.ifCond .lt 35, 3) := dk_155 0 35 (dk_at dksX1_rows_0 9 rfl rfl)
theorem dX1_rows_12 : decode cX1_rows 12 = .ok (.aload_n 0, 1) := dk_42 (dk_at dksX1_rows_0 12 rfl rfl)
theorem dX1_rows_13 : decode cX1_rows 13 = .ok (.getfield 31, 3) := dk_180 0 31 (dk_at dksX1_rows_0 13 rfl rfl)
theorem dX1_rows_16 : decode cX1_rows 16 = .ok (.iload 4, 2) := dk_21 4 (dk_at dksX1_rows_0 16 rfl rfl)
theorem dX1_rows_18 : decode cX1_rows 18 = .ok (.iload_n 3, 1) := dk_29 (dk_at dksX1_rows_0 18 rfl rfl)
theorem dX1_rows_19 : decode cX1_rows 19 = .ok (.aload_n 0, 1) := dk_42 (dk_at dksX1_rows_0 19 rfl rfl)
theorem dX1_rows_20 : decode cX1_rows 20 = .ok (.getfield 104, 3) := dk_180 0 104 (dk_at dksX1_rows_0 20 rfl rfl)
theorem dX1_rows_23 : decode cX1_rows 23 = .ok (.getfield 259, 3) := dk_180 1 3 (dk_at dksX1_rows_1 0 rfl rfl)
theorem dX1_rows_26 : decode cX1_rows 26 = .ok (.irem, 1) := dk_112 (dk_at dksX1_rows_1 3 rfl rfl)
theorem dX1_rows_27 : decode cX1_rows 27 = .ok (.iastore, 1) := dk_79 (dk_at dksX1_rows_1 4 rfl rfl)
theorem dX1_rows_28 : decode cX1_rows 28 = .ok (.iload_n 3, 1) := dk_29 (dk_at dksX1_rows_1 5 rfl rfl)
theorem dX1_rows_29 : decode cX1_rows 29 = .ok (.aload_n 0, 1) := dk_42 (dk_at dksX1_rows_1 6 rfl rfl)
theorem dX1_rows_30 : decode cX1_rows 30 = .ok (.getfield 104, 3) := dk_180 0 104 (dk_at dksX1_rows_1 7 rfl rfl)
theorem dX1_rows_33 : decode cX1_rows 33 = .ok (.getfield 259, 3) := dk_180 1 3 (dk_at dksX1_rows_1 10 rfl rfl)
theorem dX1_rows_36 : decode cX1_rows 36 = .ok (.idiv, 1) := dk_108 (dk_at dksX1_rows_1 13 rfl rfl)
theorem dX1_rows_37 : decode cX1_rows 37 = .ok (.istore_n 3, 1) := dk_62 (dk_at dksX1_rows_1 14 rfl rfl)
theorem dX1_rows_38 : decode cX1_rows 38 = .ok (.iinc 4 (-1), 3) := dk_132 4 255 (dk_at dksX1_rows_1 15 rfl rfl)
theorem dX1_rows_41 : decode cX1_rows 41 = .ok (.goto (-34), 3) := dk_167 255 222 (dk_at dksX1_rows_1 18 rfl rfl)
theorem dX1_rows_44 : decode cX1_rows 44 = .ok (.return_, 1) := dk_177 (dk_at dksX1_rows_1 21 rfl rfl)
abbrev cX1_byTurns : ByteArray := prog_1_method_44_code
def yX1_byTurns : MethodName := ⟨RX1, "byTurns", "(II)I"⟩
def dkwX1_byTurns_5 : List UInt8 := [42, 21, 4, 182, 0, 69, 172]
abbrev dktX1_byTurns_5 : List UInt8 := dkwX1_byTurns_5 ++ []
def dkwX1_byTurns_4 : List UInt8 := [154, 0, 6, 167, 0, 15, 42, 180, 0, 27, 21, 4, 21, 5, 79, 132, 4, 1, 132, 5, 1, 167, 255, 168]
abbrev dktX1_byTurns_4 : List UInt8 := dkwX1_byTurns_4 ++ dktX1_byTurns_5
def dkwX1_byTurns_3 : List UInt8 := [182, 1, 22, 28, 161, 0, 7, 4, 167, 0, 4, 3, 54, 6, 132, 7, 1, 167, 255, 217, 21, 6]
abbrev dktX1_byTurns_3 : List UInt8 := dkwX1_byTurns_3 ++ dktX1_byTurns_4
def dkwX1_byTurns_2 : List UInt8 := [21, 7, 21, 4, 162, 0, 38, 21, 6, 153, 0, 33, 42, 42, 180, 0, 27, 21, 7, 46, 21, 5]
abbrev dktX1_byTurns_2 : List UInt8 := dkwX1_byTurns_2 ++ dktX1_byTurns_3
def dkwX1_byTurns_1 : List UInt8 := [21, 5, 42, 27, 182, 1, 16, 162, 0, 84, 42, 21, 5, 27, 28, 182, 1, 19, 54, 6, 3, 54, 7]
abbrev dktX1_byTurns_1 : List UInt8 := dkwX1_byTurns_1 ++ dktX1_byTurns_2
def dkwX1_byTurns_0 : List UInt8 := [42, 27, 28, 182, 1, 13, 62, 29, 158, 0, 9, 42, 29, 182, 0, 65, 172, 3, 54, 4, 3, 54, 5]
abbrev dktX1_byTurns_0 : List UInt8 := dkwX1_byTurns_0 ++ dktX1_byTurns_1
theorem dksX1_byTurns_0 : cX1_byTurns.data.toList.drop 0 = dktX1_byTurns_0 := by decide +kernel
theorem dksX1_byTurns_1 : cX1_byTurns.data.toList.drop 23 = dktX1_byTurns_1 := dk_seg dksX1_byTurns_0 23 rfl rfl
theorem dksX1_byTurns_2 : cX1_byTurns.data.toList.drop 46 = dktX1_byTurns_2 := dk_seg dksX1_byTurns_1 23 rfl rfl
theorem dksX1_byTurns_3 : cX1_byTurns.data.toList.drop 68 = dktX1_byTurns_3 := dk_seg dksX1_byTurns_2 22 rfl rfl
theorem dksX1_byTurns_4 : cX1_byTurns.data.toList.drop 90 = dktX1_byTurns_4 := dk_seg dksX1_byTurns_3 22 rfl rfl
theorem dksX1_byTurns_5 : cX1_byTurns.data.toList.drop 114 = dktX1_byTurns_5 := dk_seg dksX1_byTurns_4 24 rfl rfl
theorem dX1_byTurns_0 : decode cX1_byTurns 0 = .ok (.aload_n 0, 1) := dk_42 (dk_at dksX1_byTurns_0 0 rfl rfl)
theorem dX1_byTurns_1 : decode cX1_byTurns 1 = .ok (.iload_n 1, 1) := dk_27 (dk_at dksX1_byTurns_0 1 rfl rfl)
theorem dX1_byTurns_2 : decode cX1_byTurns 2 = .ok (.iload_n 2, 1) := dk_28 (dk_at dksX1_byTurns_0 2 rfl rfl)
theorem dX1_byTurns_3 : decode cX1_byTurns 3 = .ok (.invokevirtual 269, 3) := dk_182 1 13 (dk_at dksX1_byTurns_0 3 rfl rfl)
theorem dX1_byTurns_6 : decode cX1_byTurns 6 = .ok (.istore_n 3, 1) := dk_62 (dk_at dksX1_byTurns_0 6 rfl rfl)
theorem dX1_byTurns_7 : decode cX1_byTurns 7 = .ok (.iload_n 3, 1) := dk_29 (dk_at dksX1_byTurns_0 7 rfl rfl)
theorem dX1_byTurns_8 : decode cX1_byTurns 8 = .ok (.ifCond .le 9, 3) := dk_158 0 9 (dk_at dksX1_byTurns_0 8 rfl rfl)
theorem dX1_byTurns_11 : decode cX1_byTurns 11 = .ok (.aload_n 0, 1) := dk_42 (dk_at dksX1_byTurns_0 11 rfl rfl)
theorem dX1_byTurns_12 : decode cX1_byTurns 12 = .ok (.iload_n 3, 1) := dk_29 (dk_at dksX1_byTurns_0 12 rfl rfl)
theorem dX1_byTurns_13 : decode cX1_byTurns 13 = .ok (.invokevirtual 65, 3) := dk_182 0 65 (dk_at dksX1_byTurns_0 13 rfl rfl)
theorem dX1_byTurns_16 : decode cX1_byTurns 16 = .ok (.ireturn, 1) := dk_172 (dk_at dksX1_byTurns_0 16 rfl rfl)
theorem dX1_byTurns_17 : decode cX1_byTurns 17 = .ok (.iconst 0, 1) := dk_3 (dk_at dksX1_byTurns_0 17 rfl rfl)
theorem dX1_byTurns_18 : decode cX1_byTurns 18 = .ok (.istore 4, 2) := dk_54 4 (dk_at dksX1_byTurns_0 18 rfl rfl)
theorem dX1_byTurns_20 : decode cX1_byTurns 20 = .ok (.iconst 0, 1) := dk_3 (dk_at dksX1_byTurns_0 20 rfl rfl)
theorem dX1_byTurns_21 : decode cX1_byTurns 21 = .ok (.istore 5, 2) := dk_54 5 (dk_at dksX1_byTurns_0 21 rfl rfl)
theorem dX1_byTurns_23 : decode cX1_byTurns 23 = .ok (.iload 5, 2) := dk_21 5 (dk_at dksX1_byTurns_1 0 rfl rfl)
theorem dX1_byTurns_25 : decode cX1_byTurns 25 = .ok (.aload_n 0, 1) := dk_42 (dk_at dksX1_byTurns_1 2 rfl rfl)
theorem dX1_byTurns_26 : decode cX1_byTurns 26 = .ok (.iload_n 1, 1) := dk_27 (dk_at dksX1_byTurns_1 3 rfl rfl)
theorem dX1_byTurns_27 : decode cX1_byTurns 27 = .ok (.invokevirtual 272, 3) := dk_182 1 16 (dk_at dksX1_byTurns_1 4 rfl rfl)
theorem dX1_byTurns_30 : decode cX1_byTurns 30 = .ok (.if_icmp .ge 84, 3) := dk_162 0 84 (dk_at dksX1_byTurns_1 7 rfl rfl)
theorem dX1_byTurns_33 : decode cX1_byTurns 33 = .ok (.aload_n 0, 1) := dk_42 (dk_at dksX1_byTurns_1 10 rfl rfl)
theorem dX1_byTurns_34 : decode cX1_byTurns 34 = .ok (.iload 5, 2) := dk_21 5 (dk_at dksX1_byTurns_1 11 rfl rfl)
theorem dX1_byTurns_36 : decode cX1_byTurns 36 = .ok (.iload_n 1, 1) := dk_27 (dk_at dksX1_byTurns_1 13 rfl rfl)
theorem dX1_byTurns_37 : decode cX1_byTurns 37 = .ok (.iload_n 2, 1) := dk_28 (dk_at dksX1_byTurns_1 14 rfl rfl)
theorem dX1_byTurns_38 : decode cX1_byTurns 38 = .ok (.invokevirtual 275, 3) := dk_182 1 19 (dk_at dksX1_byTurns_1 15 rfl rfl)
theorem dX1_byTurns_41 : decode cX1_byTurns 41 = .ok (.istore 6, 2) := dk_54 6 (dk_at dksX1_byTurns_1 18 rfl rfl)
theorem dX1_byTurns_43 : decode cX1_byTurns 43 = .ok (.iconst 0, 1) := dk_3 (dk_at dksX1_byTurns_1 20 rfl rfl)
theorem dX1_byTurns_44 : decode cX1_byTurns 44 = .ok (.istore 7, 2) := dk_54 7 (dk_at dksX1_byTurns_1 21 rfl rfl)
theorem dX1_byTurns_46 : decode cX1_byTurns 46 = .ok (.iload 7, 2) := dk_21 7 (dk_at dksX1_byTurns_2 0 rfl rfl)
theorem dX1_byTurns_48 : decode cX1_byTurns 48 = .ok (.iload 4, 2) := dk_21 4 (dk_at dksX1_byTurns_2 2 rfl rfl)
theorem dX1_byTurns_50 : decode cX1_byTurns 50 = .ok (.if_icmp .ge 38, 3) := dk_162 0 38 (dk_at dksX1_byTurns_2 4 rfl rfl)
theorem dX1_byTurns_53 : decode cX1_byTurns 53 = .ok (.iload 6, 2) := dk_21 6 (dk_at dksX1_byTurns_2 7 rfl rfl)
theorem dX1_byTurns_55 : decode cX1_byTurns 55 = .ok (.ifCond .eq 33, 3) := dk_153 0 33 (dk_at dksX1_byTurns_2 9 rfl rfl)
theorem dX1_byTurns_58 : decode cX1_byTurns 58 = .ok (.aload_n 0, 1) := dk_42 (dk_at dksX1_byTurns_2 12 rfl rfl)
theorem dX1_byTurns_59 : decode cX1_byTurns 59 = .ok (.aload_n 0, 1) := dk_42 (dk_at dksX1_byTurns_2 13 rfl rfl)
theorem dX1_byTurns_60 : decode cX1_byTurns 60 = .ok (.getfield 27, 3) := dk_180 0 27 (dk_at dksX1_byTurns_2 14 rfl rfl)
theorem dX1_byTurns_63 : decode cX1_byTurns 63 = .ok (.iload 7, 2) := dk_21 7 (dk_at dksX1_byTurns_2 17 rfl rfl)
theorem dX1_byTurns_65 : decode cX1_byTurns 65 = .ok (.iaload, 1) := dk_46 (dk_at dksX1_byTurns_2 19 rfl rfl)
theorem dX1_byTurns_66 : decode cX1_byTurns 66 = .ok (.iload 5, 2) := dk_21 5 (dk_at dksX1_byTurns_2 20 rfl rfl)
theorem dX1_byTurns_68 : decode cX1_byTurns 68 = .ok (.invokevirtual 278, 3) := dk_182 1 22 (dk_at dksX1_byTurns_3 0 rfl rfl)
theorem dX1_byTurns_71 : decode cX1_byTurns 71 = .ok (.iload_n 2, 1) := dk_28 (dk_at dksX1_byTurns_3 3 rfl rfl)
theorem dX1_byTurns_72 : decode cX1_byTurns 72 = .ok (.if_icmp .lt 7, 3) := dk_161 0 7 (dk_at dksX1_byTurns_3 4 rfl rfl)
theorem dX1_byTurns_75 : decode cX1_byTurns 75 = .ok (.iconst 1, 1) := dk_4 (dk_at dksX1_byTurns_3 7 rfl rfl)
theorem dX1_byTurns_76 : decode cX1_byTurns 76 = .ok (.goto 4, 3) := dk_167 0 4 (dk_at dksX1_byTurns_3 8 rfl rfl)
theorem dX1_byTurns_79 : decode cX1_byTurns 79 = .ok (.iconst 0, 1) := dk_3 (dk_at dksX1_byTurns_3 11 rfl rfl)
theorem dX1_byTurns_80 : decode cX1_byTurns 80 = .ok (.istore 6, 2) := dk_54 6 (dk_at dksX1_byTurns_3 12 rfl rfl)
theorem dX1_byTurns_82 : decode cX1_byTurns 82 = .ok (.iinc 7 1, 3) := dk_132 7 1 (dk_at dksX1_byTurns_3 14 rfl rfl)
theorem dX1_byTurns_85 : decode cX1_byTurns 85 = .ok (.goto (-39), 3) := dk_167 255 217 (dk_at dksX1_byTurns_3 17 rfl rfl)
theorem dX1_byTurns_88 : decode cX1_byTurns 88 = .ok (.iload 6, 2) := dk_21 6 (dk_at dksX1_byTurns_3 20 rfl rfl)
theorem dX1_byTurns_90 : decode cX1_byTurns 90 = .ok (.ifCond .ne 6, 3) := dk_154 0 6 (dk_at dksX1_byTurns_4 0 rfl rfl)
theorem dX1_byTurns_93 : decode cX1_byTurns 93 = .ok (.goto 15, 3) := dk_167 0 15 (dk_at dksX1_byTurns_4 3 rfl rfl)
theorem dX1_byTurns_96 : decode cX1_byTurns 96 = .ok (.aload_n 0, 1) := dk_42 (dk_at dksX1_byTurns_4 6 rfl rfl)
theorem dX1_byTurns_97 : decode cX1_byTurns 97 = .ok (.getfield 27, 3) := dk_180 0 27 (dk_at dksX1_byTurns_4 7 rfl rfl)
theorem dX1_byTurns_100 : decode cX1_byTurns 100 = .ok (.iload 4, 2) := dk_21 4 (dk_at dksX1_byTurns_4 10 rfl rfl)
theorem dX1_byTurns_102 : decode cX1_byTurns 102 = .ok (.iload 5, 2) := dk_21 5 (dk_at dksX1_byTurns_4 12 rfl rfl)
theorem dX1_byTurns_104 : decode cX1_byTurns 104 = .ok (.iastore, 1) := dk_79 (dk_at dksX1_byTurns_4 14 rfl rfl)
theorem dX1_byTurns_105 : decode cX1_byTurns 105 = .ok (.iinc 4 1, 3) := dk_132 4 1 (dk_at dksX1_byTurns_4 15 rfl rfl)
theorem dX1_byTurns_108 : decode cX1_byTurns 108 = .ok (.iinc 5 1, 3) := dk_132 5 1 (dk_at dksX1_byTurns_4 18 rfl rfl)
theorem dX1_byTurns_111 : decode cX1_byTurns 111 = .ok (.goto (-88), 3) := dk_167 255 168 (dk_at dksX1_byTurns_4 21 rfl rfl)
theorem dX1_byTurns_114 : decode cX1_byTurns 114 = .ok (.aload_n 0, 1) := dk_42 (dk_at dksX1_byTurns_5 0 rfl rfl)
theorem dX1_byTurns_115 : decode cX1_byTurns 115 = .ok (.iload 4, 2) := dk_21 4 (dk_at dksX1_byTurns_5 1 rfl rfl)
theorem dX1_byTurns_117 : decode cX1_byTurns 117 = .ok (.invokevirtual 69, 3) := dk_182 0 69 (dk_at dksX1_byTurns_5 3 rfl rfl)
theorem dX1_byTurns_120 : decode cX1_byTurns 120 = .ok (.ireturn, 1) := dk_172 (dk_at dksX1_byTurns_5 6 rfl rfl)
abbrev cX1_unlike : ByteArray := prog_1_method_40_code
def yX1_unlike : MethodName := ⟨RX1, "unlike", "(II)I"⟩
def dkwX1_unlike_3 : List UInt8 := [167, 255, 194, 29, 172]
abbrev dktX1_unlike_3 : List UInt8 := dkwX1_unlike_3 ++ []
def dkwX1_unlike_2 : List UInt8 := [21, 4, 42, 180, 0, 104, 180, 1, 3, 108, 54, 4, 21, 5, 42, 180, 0, 104, 180, 1, 3, 108, 54, 5]
abbrev dktX1_unlike_2 : List UInt8 := dkwX1_unlike_2 ++ dktX1_unlike_3
def dkwX1_unlike_1 : List UInt8 := [180, 1, 3, 112, 21, 5, 42, 180, 0, 104, 180, 1, 3, 112, 159, 0, 7, 4, 167, 0, 4, 3, 96, 62]
abbrev dktX1_unlike_1 : List UInt8 := dkwX1_unlike_1 ++ dktX1_unlike_2
def dkwX1_unlike_0 : List UInt8 := [3, 62, 27, 54, 4, 28, 54, 5, 21, 4, 21, 5, 159, 0, 61, 29, 21, 4, 42, 180, 0, 104]
abbrev dktX1_unlike_0 : List UInt8 := dkwX1_unlike_0 ++ dktX1_unlike_1
theorem dksX1_unlike_0 : cX1_unlike.data.toList.drop 0 = dktX1_unlike_0 := by decide +kernel
theorem dksX1_unlike_1 : cX1_unlike.data.toList.drop 22 = dktX1_unlike_1 := dk_seg dksX1_unlike_0 22 rfl rfl
theorem dksX1_unlike_2 : cX1_unlike.data.toList.drop 46 = dktX1_unlike_2 := dk_seg dksX1_unlike_1 24 rfl rfl
theorem dksX1_unlike_3 : cX1_unlike.data.toList.drop 70 = dktX1_unlike_3 := dk_seg dksX1_unlike_2 24 rfl rfl
theorem dX1_unlike_0 : decode cX1_unlike 0 = .ok (.iconst 0, 1) := dk_3 (dk_at dksX1_unlike_0 0 rfl rfl)
theorem dX1_unlike_1 : decode cX1_unlike 1 = .ok (.istore_n 3, 1) := dk_62 (dk_at dksX1_unlike_0 1 rfl rfl)
theorem dX1_unlike_2 : decode cX1_unlike 2 = .ok (.iload_n 1, 1) := dk_27 (dk_at dksX1_unlike_0 2 rfl rfl)
theorem dX1_unlike_3 : decode cX1_unlike 3 = .ok (.istore 4, 2) := dk_54 4 (dk_at dksX1_unlike_0 3 rfl rfl)
theorem dX1_unlike_5 : decode cX1_unlike 5 = .ok (.iload_n 2, 1) := dk_28 (dk_at dksX1_unlike_0 5 rfl rfl)
theorem dX1_unlike_6 : decode cX1_unlike 6 = .ok (.istore 5, 2) := dk_54 5 (dk_at dksX1_unlike_0 6 rfl rfl)
theorem dX1_unlike_8 : decode cX1_unlike 8 = .ok (.iload 4, 2) := dk_21 4 (dk_at dksX1_unlike_0 8 rfl rfl)
theorem dX1_unlike_10 : decode cX1_unlike 10 = .ok (.iload 5, 2) := dk_21 5 (dk_at dksX1_unlike_0 10 rfl rfl)
theorem dX1_unlike_12 : decode cX1_unlike 12 = .ok (.if_icmp .eq 61, 3) := dk_159 0 61 (dk_at dksX1_unlike_0 12 rfl rfl)
theorem dX1_unlike_15 : decode cX1_unlike 15 = .ok (.iload_n 3, 1) := dk_29 (dk_at dksX1_unlike_0 15 rfl rfl)
theorem dX1_unlike_16 : decode cX1_unlike 16 = .ok (.iload 4, 2) := dk_21 4 (dk_at dksX1_unlike_0 16 rfl rfl)
theorem dX1_unlike_18 : decode cX1_unlike 18 = .ok (.aload_n 0, 1) := dk_42 (dk_at dksX1_unlike_0 18 rfl rfl)
theorem dX1_unlike_19 : decode cX1_unlike 19 = .ok (.getfield 104, 3) := dk_180 0 104 (dk_at dksX1_unlike_0 19 rfl rfl)
theorem dX1_unlike_22 : decode cX1_unlike 22 = .ok (.getfield 259, 3) := dk_180 1 3 (dk_at dksX1_unlike_1 0 rfl rfl)
theorem dX1_unlike_25 : decode cX1_unlike 25 = .ok (.irem, 1) := dk_112 (dk_at dksX1_unlike_1 3 rfl rfl)
theorem dX1_unlike_26 : decode cX1_unlike 26 = .ok (.iload 5, 2) := dk_21 5 (dk_at dksX1_unlike_1 4 rfl rfl)
theorem dX1_unlike_28 : decode cX1_unlike 28 = .ok (.aload_n 0, 1) := dk_42 (dk_at dksX1_unlike_1 6 rfl rfl)
theorem dX1_unlike_29 : decode cX1_unlike 29 = .ok (.getfield 104, 3) := dk_180 0 104 (dk_at dksX1_unlike_1 7 rfl rfl)
theorem dX1_unlike_32 : decode cX1_unlike 32 = .ok (.getfield 259, 3) := dk_180 1 3 (dk_at dksX1_unlike_1 10 rfl rfl)
theorem dX1_unlike_35 : decode cX1_unlike 35 = .ok (.irem, 1) := dk_112 (dk_at dksX1_unlike_1 13 rfl rfl)
theorem dX1_unlike_36 : decode cX1_unlike 36 = .ok (.if_icmp .eq 7, 3) := dk_159 0 7 (dk_at dksX1_unlike_1 14 rfl rfl)
theorem dX1_unlike_39 : decode cX1_unlike 39 = .ok (.iconst 1, 1) := dk_4 (dk_at dksX1_unlike_1 17 rfl rfl)
theorem dX1_unlike_40 : decode cX1_unlike 40 = .ok (.goto 4, 3) := dk_167 0 4 (dk_at dksX1_unlike_1 18 rfl rfl)
theorem dX1_unlike_43 : decode cX1_unlike 43 = .ok (.iconst 0, 1) := dk_3 (dk_at dksX1_unlike_1 21 rfl rfl)
theorem dX1_unlike_44 : decode cX1_unlike 44 = .ok (.iadd, 1) := dk_96 (dk_at dksX1_unlike_1 22 rfl rfl)
theorem dX1_unlike_45 : decode cX1_unlike 45 = .ok (.istore_n 3, 1) := dk_62 (dk_at dksX1_unlike_1 23 rfl rfl)
theorem dX1_unlike_46 : decode cX1_unlike 46 = .ok (.iload 4, 2) := dk_21 4 (dk_at dksX1_unlike_2 0 rfl rfl)
theorem dX1_unlike_48 : decode cX1_unlike 48 = .ok (.aload_n 0, 1) := dk_42 (dk_at dksX1_unlike_2 2 rfl rfl)
theorem dX1_unlike_49 : decode cX1_unlike 49 = .ok (.getfield 104, 3) := dk_180 0 104 (dk_at dksX1_unlike_2 3 rfl rfl)
theorem dX1_unlike_52 : decode cX1_unlike 52 = .ok (.getfield 259, 3) := dk_180 1 3 (dk_at dksX1_unlike_2 6 rfl rfl)
theorem dX1_unlike_55 : decode cX1_unlike 55 = .ok (.idiv, 1) := dk_108 (dk_at dksX1_unlike_2 9 rfl rfl)
theorem dX1_unlike_56 : decode cX1_unlike 56 = .ok (.istore 4, 2) := dk_54 4 (dk_at dksX1_unlike_2 10 rfl rfl)
theorem dX1_unlike_58 : decode cX1_unlike 58 = .ok (.iload 5, 2) := dk_21 5 (dk_at dksX1_unlike_2 12 rfl rfl)
theorem dX1_unlike_60 : decode cX1_unlike 60 = .ok (.aload_n 0, 1) := dk_42 (dk_at dksX1_unlike_2 14 rfl rfl)
theorem dX1_unlike_61 : decode cX1_unlike 61 = .ok (.getfield 104, 3) := dk_180 0 104 (dk_at dksX1_unlike_2 15 rfl rfl)
theorem dX1_unlike_64 : decode cX1_unlike 64 = .ok (.getfield 259, 3) := dk_180 1 3 (dk_at dksX1_unlike_2 18 rfl rfl)
theorem dX1_unlike_67 : decode cX1_unlike 67 = .ok (.idiv, 1) := dk_108 (dk_at dksX1_unlike_2 21 rfl rfl)
theorem dX1_unlike_68 : decode cX1_unlike 68 = .ok (.istore 5, 2) := dk_54 5 (dk_at dksX1_unlike_2 22 rfl rfl)
theorem dX1_unlike_70 : decode cX1_unlike 70 = .ok (.goto (-62), 3) := dk_167 255 194 (dk_at dksX1_unlike_3 0 rfl rfl)
theorem dX1_unlike_73 : decode cX1_unlike 73 = .ok (.iload_n 3, 1) := dk_29 (dk_at dksX1_unlike_3 3 rfl rfl)
theorem dX1_unlike_74 : decode cX1_unlike 74 = .ok (.ireturn, 1) := dk_172 (dk_at dksX1_unlike_3 4 rfl rfl)
abbrev cX1_near : ByteArray := prog_1_method_47_code
def yX1_near : MethodName := ⟨RX1, "nea\x72", "(I)I"⟩
def dkwX1_near_1 : List UInt8 := [182, 0, 65, 172]
abbrev dktX1_near_1 : List UInt8 := dkwX1_near_1 ++ []
def dkwX1_near_0 : List UInt8 := [42, 27, 182, 0, 168, 153, 0, 15, 42, 42, 27, 182, 1, 27, 182, 0, 69, 167, 0, 8, 42, 4]
abbrev dktX1_near_0 : List UInt8 := dkwX1_near_0 ++ dktX1_near_1
theorem dksX1_near_0 : cX1_near.data.toList.drop 0 = dktX1_near_0 := by decide +kernel
theorem dksX1_near_1 : cX1_near.data.toList.drop 22 = dktX1_near_1 := dk_seg dksX1_near_0 22 rfl rfl
theorem dX1_near_0 : decode cX1_near 0 = .ok (.aload_n 0, 1) := dk_42 (dk_at dksX1_near_0 0 rfl rfl)
theorem dX1_near_1 : decode cX1_near 1 = .ok (.iload_n 1, 1) := dk_27 (dk_at dksX1_near_0 1 rfl rfl)
theorem dX1_near_2 : decode cX1_near 2 = .ok (.invokevirtual 168, 3) := dk_182 0 168 (dk_at dksX1_near_0 2 rfl rfl)
theorem dX1_near_5 : decode cX1_near 5 = .ok (.ifCond .eq 15, 3) := dk_153 0 15 (dk_at dksX1_near_0 5 rfl rfl)
theorem dX1_near_8 : decode cX1_near 8 = .ok (.aload_n 0, 1) := dk_42 (dk_at dksX1_near_0 8 rfl rfl)
theorem dX1_near_9 : decode cX1_near 9 = .ok (.aload_n 0, 1) := dk_42 (dk_at dksX1_near_0 9 rfl rfl)
theorem dX1_near_10 : decode cX1_near 10 = .ok (.iload_n 1, 1) := dk_27 (dk_at dksX1_near_0 10 rfl rfl)
theorem dX1_near_11 : decode cX1_near 11 = .ok (.invokevirtual 283, 3) := dk_182 1 27 (dk_at dksX1_near_0 11 rfl rfl)
theorem dX1_near_14 : decode cX1_near 14 = .ok (.invokevirtual 69, 3) := dk_182 0 69 (dk_at dksX1_near_0 14 rfl rfl)
theorem dX1_near_17 : decode cX1_near 17 = .ok (.goto 8, 3) := dk_167 0 8 (dk_at dksX1_near_0 17 rfl rfl)
theorem dX1_near_20 : decode cX1_near 20 = .ok (.aload_n 0, 1) := dk_42 (dk_at dksX1_near_0 20 rfl rfl)
theorem dX1_near_21 : decode cX1_near 21 = .ok (.iconst 1, 1) := dk_4 (dk_at dksX1_near_0 21 rfl rfl)
theorem dX1_near_22 : decode cX1_near 22 = .ok (.invokevirtual 65, 3) := dk_182 0 65 (dk_at dksX1_near_1 0 rfl rfl)
theorem dX1_near_25 : decode cX1_near 25 = .ok (.ireturn, 1) := dk_172 (dk_at dksX1_near_1 3 rfl rfl)
abbrev cX1_nearest : ByteArray := prog_1_method_46_code
def yX1_nearest : MethodName := ⟨RX1, "nearest", "(I)I"⟩
def dkwX1_nearest_1 : List UInt8 := [182, 1, 24, 184, 0, 251, 61, 132, 3, 1, 167, 255, 228, 28, 172]
abbrev dktX1_nearest_1 : List UInt8 := dkwX1_nearest_1 ++ []
def dkwX1_nearest_0 : List UInt8 := [16, 7, 61, 3, 62, 29, 42, 180, 0, 104, 180, 0, 122, 182, 0, 127, 162, 0, 20, 28, 42, 27, 29]
abbrev dktX1_nearest_0 : List UInt8 := dkwX1_nearest_0 ++ dktX1_nearest_1
theorem dksX1_nearest_0 : cX1_nearest.data.toList.drop 0 = dktX1_nearest_0 := by decide +kernel
theorem dksX1_nearest_1 : cX1_nearest.data.toList.drop 23 = dktX1_nearest_1 := dk_seg dksX1_nearest_0 23 rfl rfl
theorem dX1_nearest_0 : decode cX1_nearest 0 = .ok (.bipush 7, 2) := dk_16 7 (dk_at dksX1_nearest_0 0 rfl rfl)
theorem dX1_nearest_2 : decode cX1_nearest 2 = .ok (.istore_n 2, 1) := dk_61 (dk_at dksX1_nearest_0 2 rfl rfl)
theorem dX1_nearest_3 : decode cX1_nearest 3 = .ok (.iconst 0, 1) := dk_3 (dk_at dksX1_nearest_0 3 rfl rfl)
theorem dX1_nearest_4 : decode cX1_nearest 4 = .ok (.istore_n 3, 1) := dk_62 (dk_at dksX1_nearest_0 4 rfl rfl)
theorem dX1_nearest_5 : decode cX1_nearest 5 = .ok (.iload_n 3, 1) := dk_29 (dk_at dksX1_nearest_0 5 rfl rfl)
theorem dX1_nearest_6 : decode cX1_nearest 6 = .ok (.aload_n 0, 1) := dk_42 (dk_at dksX1_nearest_0 6 rfl rfl)
theorem dX1_nearest_7 : decode cX1_nearest 7 = .ok (.getfield 104, 3) := dk_180 0 104 (dk_at dksX1_nearest_0 7 rfl rfl)
theorem dX1_nearest_10 : decode cX1_nearest 10 = .ok (.getfield 122, 3) := dk_180 0 122 (dk_at dksX1_nearest_0 10 rfl rfl)
theorem dX1_nearest_13 : decode cX1_nearest 13 = .ok (.invokevirtual 127, 3) := dk_182 0 127 (dk_at dksX1_nearest_0 13 rfl rfl)
theorem dX1_nearest_16 : decode cX1_nearest 16 = .ok (.if_icmp .ge 20, 3) := dk_162 0 20 (dk_at dksX1_nearest_0 16 rfl rfl)
theorem dX1_nearest_19 : decode cX1_nearest 19 = .ok (.iload_n 2, 1) := dk_28 (dk_at dksX1_nearest_0 19 rfl rfl)
theorem dX1_nearest_20 : decode cX1_nearest 20 = .ok (.aload_n 0, 1) := dk_42 (dk_at dksX1_nearest_0 20 rfl rfl)
theorem dX1_nearest_21 : decode cX1_nearest 21 = .ok (.iload_n 1, 1) := dk_27 (dk_at dksX1_nearest_0 21 rfl rfl)
theorem dX1_nearest_22 : decode cX1_nearest 22 = .ok (.iload_n 3, 1) := dk_29 (dk_at dksX1_nearest_0 22 rfl rfl)
theorem dX1_nearest_23 : decode cX1_nearest 23 = .ok (.invokevirtual 280, 3) := dk_182 1 24 (dk_at dksX1_nearest_1 0 rfl rfl)
theorem dX1_nearest_26 : decode cX1_nearest 26 = .ok (.invokestatic 251, 3) := dk_184 0 251 (dk_at dksX1_nearest_1 3 rfl rfl)
theorem dX1_nearest_29 : decode cX1_nearest 29 = .ok (.istore_n 2, 1) := dk_61 (dk_at dksX1_nearest_1 6 rfl rfl)
theorem dX1_nearest_30 : decode cX1_nearest 30 = .ok (.iinc 3 1, 3) := dk_132 3 1 (dk_at dksX1_nearest_1 7 rfl rfl)
theorem dX1_nearest_33 : decode cX1_nearest 33 = .ok (.goto (-28), 3) := dk_167 255 228 (dk_at dksX1_nearest_1 10 rfl rfl)
theorem dX1_nearest_36 : decode cX1_nearest 36 = .ok (.iload_n 2, 1) := dk_28 (dk_at dksX1_nearest_1 13 rfl rfl)
theorem dX1_nearest_37 : decode cX1_nearest 37 = .ok (.ireturn, 1) := dk_172 (dk_at dksX1_nearest_1 14 rfl rfl)
abbrev cX1_unlikeNow : ByteArray := prog_1_method_45_code
def yX1_unlikeNow : MethodName := ⟨RX1, "unlikeNow", "(II)I"⟩
def dkwX1_unlikeNow_1 : List UInt8 := [180, 0, 209, 16, 6, 27, 104, 28, 42, 180, 0, 111, 180, 0, 199, 182, 1, 10, 167, 0, 5, 16, 7, 172]
abbrev dktX1_unlikeNow_1 : List UInt8 := dkwX1_unlikeNow_1 ++ []
def dkwX1_unlikeNow_0 : List UInt8 := [42, 180, 0, 104, 28, 182, 0, 196, 42, 27, 182, 0, 206, 160, 0, 32, 42, 180, 0, 104, 42, 180, 0, 111]
abbrev dktX1_unlikeNow_0 : List UInt8 := dkwX1_unlikeNow_0 ++ dktX1_unlikeNow_1
theorem dksX1_unlikeNow_0 : cX1_unlikeNow.data.toList.drop 0 = dktX1_unlikeNow_0 := by decide +kernel
theorem dksX1_unlikeNow_1 : cX1_unlikeNow.data.toList.drop 24 = dktX1_unlikeNow_1 := dk_seg dksX1_unlikeNow_0 24 rfl rfl
theorem dX1_unlikeNow_0 : decode cX1_unlikeNow 0 = .ok (.aload_n 0, 1) := dk_42 (dk_at dksX1_unlikeNow_0 0 rfl rfl)
theorem dX1_unlikeNow_1 : decode cX1_unlikeNow 1 = .ok (.getfield 104, 3) := dk_180 0 104 (dk_at dksX1_unlikeNow_0 1 rfl rfl)
theorem dX1_unlikeNow_4 : decode cX1_unlikeNow 4 = .ok (.iload_n 2, 1) := dk_28 (dk_at dksX1_unlikeNow_0 4 rfl rfl)
theorem dX1_unlikeNow_5 : decode cX1_unlikeNow 5 = .ok (.invokevirtual 196, 3) := dk_182 0 196 (dk_at dksX1_unlikeNow_0 5 rfl rfl)
theorem dX1_unlikeNow_8 : decode cX1_unlikeNow 8 = .ok (.aload_n 0, 1) := dk_42 (dk_at dksX1_unlikeNow_0 8 rfl rfl)
theorem dX1_unlikeNow_9 : decode cX1_unlikeNow 9 = .ok (.iload_n 1, 1) := dk_27 (dk_at dksX1_unlikeNow_0 9 rfl rfl)
theorem dX1_unlikeNow_10 : decode cX1_unlikeNow 10 = .ok (.invokevirtual 206, 3) := dk_182 0 206 (dk_at dksX1_unlikeNow_0 10 rfl rfl)
theorem dX1_unlikeNow_13 : decode cX1_unlikeNow 13 = .ok (.if_icmp .ne 32, 3) := dk_160 0 32 (dk_at dksX1_unlikeNow_0 13 rfl rfl)
theorem dX1_unlikeNow_16 : decode cX1_unlikeNow 16 = .ok (.aload_n 0, 1) := dk_42 (dk_at dksX1_unlikeNow_0 16 rfl rfl)
theorem dX1_unlikeNow_17 : decode cX1_unlikeNow 17 = .ok (.getfield 104, 3) := dk_180 0 104 (dk_at dksX1_unlikeNow_0 17 rfl rfl)
theorem dX1_unlikeNow_20 : decode cX1_unlikeNow 20 = .ok (.aload_n 0, 1) := dk_42 (dk_at dksX1_unlikeNow_0 20 rfl rfl)
theorem dX1_unlikeNow_21 : decode cX1_unlikeNow 21 = .ok (.getfield 111, 3) := dk_180 0 111 (dk_at dksX1_unlikeNow_0 21 rfl rfl)
theorem dX1_unlikeNow_24 : decode cX1_unlikeNow 24 = .ok (.getfield 209, 3) := dk_180 0 209 (dk_at dksX1_unlikeNow_1 0 rfl rfl)
theorem dX1_unlikeNow_27 : decode cX1_unlikeNow 27 = .ok (.bipush 6, 2) := dk_16 6 (dk_at dksX1_unlikeNow_1 3 rfl rfl)
theorem dX1_unlikeNow_29 : decode cX1_unlikeNow 29 = .ok (.iload_n 1, 1) := dk_27 (dk_at dksX1_unlikeNow_1 5 rfl rfl)
theorem dX1_unlikeNow_30 : decode cX1_unlikeNow 30 = .ok (.imul, 1) := dk_104 (dk_at dksX1_unlikeNow_1 6 rfl rfl)
theorem dX1_unlikeNow_31 : decode cX1_unlikeNow 31 = .ok (.iload_n 2, 1) := dk_28 (dk_at dksX1_unlikeNow_1 7 rfl rfl)
theorem dX1_unlikeNow_32 : decode cX1_unlikeNow 32 = .ok (.aload_n 0, 1) := dk_42 (dk_at dksX1_unlikeNow_1 8 rfl rfl)
theorem dX1_unlikeNow_33 : decode cX1_unlikeNow 33 = .ok (.getfield 111, 3) := dk_180 0 111 (dk_at dksX1_unlikeNow_1 9 rfl rfl)
theorem dX1_unlikeNow_36 : decode cX1_unlikeNow 36 = .ok (.getfield 199, 3) := dk_180 0 199 (dk_at dksX1_unlikeNow_1 12 rfl rfl)
theorem dX1_unlikeNow_39 : decode cX1_unlikeNow 39 = .ok (.invokevirtual 266, 3) := dk_182 1 10 (dk_at dksX1_unlikeNow_1 15 rfl rfl)
theorem dX1_unlikeNow_42 : decode cX1_unlikeNow 42 = .ok (.goto 5, 3) := dk_167 0 5 (dk_at dksX1_unlikeNow_1 18 rfl rfl)
theorem dX1_unlikeNow_45 : decode cX1_unlikeNow 45 = .ok (.bipush 7, 2) := dk_16 7 (dk_at dksX1_unlikeNow_1 21 rfl rfl)
theorem dX1_unlikeNow_47 : decode cX1_unlikeNow 47 = .ok (.ireturn, 1) := dk_172 (dk_at dksX1_unlikeNow_1 23 rfl rfl)
abbrev cX1_asNear : ByteArray := prog_1_method_48_code
def yX1_asNear : MethodName := ⟨RX1, "asNea\x72", "(I)I"⟩
def dkwX1_asNear_2 : List UInt8 := [4, 167, 0, 4, 3, 96, 61, 132, 3, 1, 167, 255, 217, 42, 28, 182, 0, 69, 172]
abbrev dktX1_asNear_2 : List UInt8 := dkwX1_asNear_2 ++ []
def dkwX1_asNear_1 : List UInt8 := [180, 0, 122, 182, 0, 127, 162, 0, 31, 28, 42, 27, 29, 182, 1, 24, 42, 27, 182, 1, 27, 160, 0, 7]
abbrev dktX1_asNear_1 : List UInt8 := dkwX1_asNear_1 ++ dktX1_asNear_2
def dkwX1_asNear_0 : List UInt8 := [42, 27, 182, 0, 168, 154, 0, 9, 42, 4, 182, 0, 65, 172, 3, 61, 3, 62, 29, 42, 180, 0, 104]
abbrev dktX1_asNear_0 : List UInt8 := dkwX1_asNear_0 ++ dktX1_asNear_1
theorem dksX1_asNear_0 : cX1_asNear.data.toList.drop 0 = dktX1_asNear_0 := by decide +kernel
theorem dksX1_asNear_1 : cX1_asNear.data.toList.drop 23 = dktX1_asNear_1 := dk_seg dksX1_asNear_0 23 rfl rfl
theorem dksX1_asNear_2 : cX1_asNear.data.toList.drop 47 = dktX1_asNear_2 := dk_seg dksX1_asNear_1 24 rfl rfl
theorem dX1_asNear_0 : decode cX1_asNear 0 = .ok (.aload_n 0, 1) := dk_42 (dk_at dksX1_asNear_0 0 rfl rfl)
theorem dX1_asNear_1 : decode cX1_asNear 1 = .ok (.iload_n 1, 1) := dk_27 (dk_at dksX1_asNear_0 1 rfl rfl)
theorem dX1_asNear_2 : decode cX1_asNear 2 = .ok (.invokevirtual 168, 3) := dk_182 0 168 (dk_at dksX1_asNear_0 2 rfl rfl)
theorem dX1_asNear_5 : decode cX1_asNear 5 = .ok (.ifCond .ne 9, 3) := dk_154 0 9 (dk_at dksX1_asNear_0 5 rfl rfl)
theorem dX1_asNear_8 : decode cX1_asNear 8 = .ok (.aload_n 0, 1) := dk_42 (dk_at dksX1_asNear_0 8 rfl rfl)
theorem dX1_asNear_9 : decode cX1_asNear 9 = .ok (.iconst 1, 1) := dk_4 (dk_at dksX1_asNear_0 9 rfl rfl)
theorem dX1_asNear_10 : decode cX1_asNear 10 = .ok (.invokevirtual 65, 3) := dk_182 0 65 (dk_at dksX1_asNear_0 10 rfl rfl)
theorem dX1_asNear_13 : decode cX1_asNear 13 = .ok (.ireturn, 1) := dk_172 (dk_at dksX1_asNear_0 13 rfl rfl)
theorem dX1_asNear_14 : decode cX1_asNear 14 = .ok (.iconst 0, 1) := dk_3 (dk_at dksX1_asNear_0 14 rfl rfl)
theorem dX1_asNear_15 : decode cX1_asNear 15 = .ok (.istore_n 2, 1) := dk_61 (dk_at dksX1_asNear_0 15 rfl rfl)
theorem dX1_asNear_16 : decode cX1_asNear 16 = .ok (.iconst 0, 1) := dk_3 (dk_at dksX1_asNear_0 16 rfl rfl)
theorem dX1_asNear_17 : decode cX1_asNear 17 = .ok (.istore_n 3, 1) := dk_62 (dk_at dksX1_asNear_0 17 rfl rfl)
theorem dX1_asNear_18 : decode cX1_asNear 18 = .ok (.iload_n 3, 1) := dk_29 (dk_at dksX1_asNear_0 18 rfl rfl)
theorem dX1_asNear_19 : decode cX1_asNear 19 = .ok (.aload_n 0, 1) := dk_42 (dk_at dksX1_asNear_0 19 rfl rfl)
theorem dX1_asNear_20 : decode cX1_asNear 20 = .ok (.getfield 104, 3) := dk_180 0 104 (dk_at dksX1_asNear_0 20 rfl rfl)
theorem dX1_asNear_23 : decode cX1_asNear 23 = .ok (.getfield 122, 3) := dk_180 0 122 (dk_at dksX1_asNear_1 0 rfl rfl)
theorem dX1_asNear_26 : decode cX1_asNear 26 = .ok (.invokevirtual 127, 3) := dk_182 0 127 (dk_at dksX1_asNear_1 3 rfl rfl)
theorem dX1_asNear_29 : decode cX1_asNear 29 = .ok (.if_icmp .ge 31, 3) := dk_162 0 31 (dk_at dksX1_asNear_1 6 rfl rfl)
theorem dX1_asNear_32 : decode cX1_asNear 32 = .ok (.iload_n 2, 1) := dk_28 (dk_at dksX1_asNear_1 9 rfl rfl)
theorem dX1_asNear_33 : decode cX1_asNear 33 = .ok (.aload_n 0, 1) := dk_42 (dk_at dksX1_asNear_1 10 rfl rfl)
theorem dX1_asNear_34 : decode cX1_asNear 34 = .ok (.iload_n 1, 1) := dk_27 (dk_at dksX1_asNear_1 11 rfl rfl)
theorem dX1_asNear_35 : decode cX1_asNear 35 = .ok (.iload_n 3, 1) := dk_29 (dk_at dksX1_asNear_1 12 rfl rfl)
theorem dX1_asNear_36 : decode cX1_asNear 36 = .ok (.invokevirtual 280, 3) := dk_182 1 24 (dk_at dksX1_asNear_1 13 rfl rfl)
theorem dX1_asNear_39 : decode cX1_asNear 39 = .ok (.aload_n 0, 1) := dk_42 (dk_at dksX1_asNear_1 16 rfl rfl)
theorem dX1_asNear_40 : decode cX1_asNear 40 = .ok (.iload_n 1, 1) := dk_27 (dk_at dksX1_asNear_1 17 rfl rfl)
theorem dX1_asNear_41 : decode cX1_asNear 41 = .ok (.invokevirtual 283, 3) := dk_182 1 27 (dk_at dksX1_asNear_1 18 rfl rfl)
theorem dX1_asNear_44 : decode cX1_asNear 44 = .ok (.if_icmp .ne 7, 3) := dk_160 0 7 (dk_at dksX1_asNear_1 21 rfl rfl)
theorem dX1_asNear_47 : decode cX1_asNear 47 = .ok (.iconst 1, 1) := dk_4 (dk_at dksX1_asNear_2 0 rfl rfl)
theorem dX1_asNear_48 : decode cX1_asNear 48 = .ok (.goto 4, 3) := dk_167 0 4 (dk_at dksX1_asNear_2 1 rfl rfl)
theorem dX1_asNear_51 : decode cX1_asNear 51 = .ok (.iconst 0, 1) := dk_3 (dk_at dksX1_asNear_2 4 rfl rfl)
theorem dX1_asNear_52 : decode cX1_asNear 52 = .ok (.iadd, 1) := dk_96 (dk_at dksX1_asNear_2 5 rfl rfl)
theorem dX1_asNear_53 : decode cX1_asNear 53 = .ok (.istore_n 2, 1) := dk_61 (dk_at dksX1_asNear_2 6 rfl rfl)
theorem dX1_asNear_54 : decode cX1_asNear 54 = .ok (.iinc 3 1, 3) := dk_132 3 1 (dk_at dksX1_asNear_2 7 rfl rfl)
theorem dX1_asNear_57 : decode cX1_asNear 57 = .ok (.goto (-39), 3) := dk_167 255 217 (dk_at dksX1_asNear_2 10 rfl rfl)
theorem dX1_asNear_60 : decode cX1_asNear 60 = .ok (.aload_n 0, 1) := dk_42 (dk_at dksX1_asNear_2 13 rfl rfl)
theorem dX1_asNear_61 : decode cX1_asNear 61 = .ok (.iload_n 2, 1) := dk_28 (dk_at dksX1_asNear_2 14 rfl rfl)
theorem dX1_asNear_62 : decode cX1_asNear 62 = .ok (.invokevirtual 69, 3) := dk_182 0 69 (dk_at dksX1_asNear_2 15 rfl rfl)
theorem dX1_asNear_65 : decode cX1_asNear 65 = .ok (.ireturn, 1) := dk_172 (dk_at dksX1_asNear_2 18 rfl rfl)
abbrev cX1_heardIn : ByteArray := prog_1_method_49_code
def yX1_heardIn : MethodName := ⟨RX1, "heardIn", "(II)I"⟩
def dkwX1_heardIn_2 : List UInt8 := [180, 0, 111, 180, 0, 199, 28, 96, 182, 0, 212, 182, 0, 69, 167, 0, 8, 42, 5, 182, 0, 65, 172]
abbrev dktX1_heardIn_2 : List UInt8 := dkwX1_heardIn_2 ++ []
def dkwX1_heardIn_1 : List UInt8 := [42, 42, 180, 0, 104, 42, 180, 0, 111, 180, 0, 209, 16, 6, 27, 104, 42, 27, 182, 0, 206, 42]
abbrev dktX1_heardIn_1 : List UInt8 := dkwX1_heardIn_1 ++ dktX1_heardIn_2
def dkwX1_heardIn_0 : List UInt8 := [42, 27, 182, 0, 168, 154, 0, 9, 42, 4, 182, 0, 65, 172, 28, 3, 16, 99, 184, 0, 79, 153, 0, 42]
abbrev dktX1_heardIn_0 : List UInt8 := dkwX1_heardIn_0 ++ dktX1_heardIn_1
theorem dksX1_heardIn_0 : cX1_heardIn.data.toList.drop 0 = dktX1_heardIn_0 := by decide +kernel
theorem dksX1_heardIn_1 : cX1_heardIn.data.toList.drop 24 = dktX1_heardIn_1 := dk_seg dksX1_heardIn_0 24 rfl rfl
theorem dksX1_heardIn_2 : cX1_heardIn.data.toList.drop 46 = dktX1_heardIn_2 := dk_seg dksX1_heardIn_1 22 rfl rfl
theorem dX1_heardIn_0 : decode cX1_heardIn 0 = .ok (.aload_n 0, 1) := dk_42 (dk_at dksX1_heardIn_0 0 rfl rfl)
theorem dX1_heardIn_1 : decode cX1_heardIn 1 = .ok (.iload_n 1, 1) := dk_27 (dk_at dksX1_heardIn_0 1 rfl rfl)
theorem dX1_heardIn_2 : decode cX1_heardIn 2 = .ok (.invokevirtual 168, 3) := dk_182 0 168 (dk_at dksX1_heardIn_0 2 rfl rfl)
theorem dX1_heardIn_5 : decode cX1_heardIn 5 = .ok (.ifCond .ne 9, 3) := dk_154 0 9 (dk_at dksX1_heardIn_0 5 rfl rfl)
theorem dX1_heardIn_8 : decode cX1_heardIn 8 = .ok (.aload_n 0, 1) := dk_42 (dk_at dksX1_heardIn_0 8 rfl rfl)
theorem dX1_heardIn_9 : decode cX1_heardIn 9 = .ok (.iconst 1, 1) := dk_4 (dk_at dksX1_heardIn_0 9 rfl rfl)
theorem dX1_heardIn_10 : decode cX1_heardIn 10 = .ok (.invokevirtual 65, 3) := dk_182 0 65 (dk_at dksX1_heardIn_0 10 rfl rfl)
theorem dX1_heardIn_13 : decode cX1_heardIn 13 = .ok (.ireturn, 1) := dk_172 (dk_at dksX1_heardIn_0 13 rfl rfl)
theorem dX1_heardIn_14 : decode cX1_heardIn 14 = .ok (.iload_n 2, 1) := dk_28 (dk_at dksX1_heardIn_0 14 rfl rfl)
theorem dX1_heardIn_15 : decode cX1_heardIn 15 = .ok (.iconst 0, 1) := dk_3 (dk_at dksX1_heardIn_0 15 rfl rfl)
theorem dX1_heardIn_16 : decode cX1_heardIn 16 = .ok (.bipush 99, 2) := dk_16 99 (dk_at dksX1_heardIn_0 16 rfl rfl)
theorem dX1_heardIn_18 : decode cX1_heardIn 18 = .ok (.invokestatic 79, 3) := dk_184 0 79 (dk_at dksX1_heardIn_0 18 rfl rfl)
theorem dX1_heardIn_21 : decode cX1_heardIn 21 = .ok (.ifCond .eq 42, 3) := dk_153 0 42 (dk_at dksX1_heardIn_0 21 rfl rfl)
theorem dX1_heardIn_24 : decode cX1_heardIn 24 = .ok (.aload_n 0, 1) := dk_42 (dk_at dksX1_heardIn_1 0 rfl rfl)
theorem dX1_heardIn_25 : decode cX1_heardIn 25 = .ok (.aload_n 0, 1) := dk_42 (dk_at dksX1_heardIn_1 1 rfl rfl)
theorem dX1_heardIn_26 : decode cX1_heardIn 26 = .ok (.getfield 104, 3) := dk_180 0 104 (dk_at dksX1_heardIn_1 2 rfl rfl)
theorem dX1_heardIn_29 : decode cX1_heardIn 29 = .ok (.aload_n 0, 1) := dk_42 (dk_at dksX1_heardIn_1 5 rfl rfl)
theorem dX1_heardIn_30 : decode cX1_heardIn 30 = .ok (.getfield 111, 3) := dk_180 0 111 (dk_at dksX1_heardIn_1 6 rfl rfl)
theorem dX1_heardIn_33 : decode cX1_heardIn 33 = .ok (.getfield 209, 3) := dk_180 0 209 (dk_at dksX1_heardIn_1 9 rfl rfl)
theorem dX1_heardIn_36 : decode cX1_heardIn 36 = .ok (.bipush 6, 2) := dk_16 6 (dk_at dksX1_heardIn_1 12 rfl rfl)
theorem dX1_heardIn_38 : decode cX1_heardIn 38 = .ok (.iload_n 1, 1) := dk_27 (dk_at dksX1_heardIn_1 14 rfl rfl)
theorem dX1_heardIn_39 : decode cX1_heardIn 39 = .ok (.imul, 1) := dk_104 (dk_at dksX1_heardIn_1 15 rfl rfl)
theorem dX1_heardIn_40 : decode cX1_heardIn 40 = .ok (.aload_n 0, 1) := dk_42 (dk_at dksX1_heardIn_1 16 rfl rfl)
theorem dX1_heardIn_41 : decode cX1_heardIn 41 = .ok (.iload_n 1, 1) := dk_27 (dk_at dksX1_heardIn_1 17 rfl rfl)
theorem dX1_heardIn_42 : decode cX1_heardIn 42 = .ok (.invokevirtual 206, 3) := dk_182 0 206 (dk_at dksX1_heardIn_1 18 rfl rfl)
theorem dX1_heardIn_45 : decode cX1_heardIn 45 = .ok (.aload_n 0, 1) := dk_42 (dk_at dksX1_heardIn_1 21 rfl rfl)
theorem dX1_heardIn_46 : decode cX1_heardIn 46 = .ok (.getfield 111, 3) := dk_180 0 111 (dk_at dksX1_heardIn_2 0 rfl rfl)
theorem dX1_heardIn_49 : decode cX1_heardIn 49 = .ok (.getfield 199, 3) := dk_180 0 199 (dk_at dksX1_heardIn_2 3 rfl rfl)
theorem dX1_heardIn_52 : decode cX1_heardIn 52 = .ok (.iload_n 2, 1) := dk_28 (dk_at dksX1_heardIn_2 6 rfl rfl)
theorem dX1_heardIn_53 : decode cX1_heardIn 53 = .ok (.iadd, 1) := dk_96 (dk_at dksX1_heardIn_2 7 rfl rfl)
theorem dX1_heardIn_54 : decode cX1_heardIn 54 = .ok (.invokevirtual 212, 3) := dk_182 0 212 (dk_at dksX1_heardIn_2 8 rfl rfl)
theorem dX1_heardIn_57 : decode cX1_heardIn 57 = .ok (.invokevirtual 69, 3) := dk_182 0 69 (dk_at dksX1_heardIn_2 11 rfl rfl)
theorem dX1_heardIn_60 : decode cX1_heardIn 60 = .ok (.goto 8, 3) := dk_167 0 8 (dk_at dksX1_heardIn_2 14 rfl rfl)
theorem dX1_heardIn_63 : decode cX1_heardIn 63 = .ok (.aload_n 0, 1) := dk_42 (dk_at dksX1_heardIn_2 17 rfl rfl)
theorem dX1_heardIn_64 : decode cX1_heardIn 64 = .ok (.iconst 2, 1) := dk_5 (dk_at dksX1_heardIn_2 18 rfl rfl)
theorem dX1_heardIn_65 : decode cX1_heardIn 65 = .ok (.invokevirtual 65, 3) := dk_182 0 65 (dk_at dksX1_heardIn_2 19 rfl rfl)
theorem dX1_heardIn_68 : decode cX1_heardIn 68 = .ok (.ireturn, 1) := dk_172 (dk_at dksX1_heardIn_2 22 rfl rfl)
abbrev cX1_strange : ByteArray := prog_1_method_50_code
def yX1_strange : MethodName := ⟨RX1, "strange", "(I)I"⟩
def dkwX1_strange_3 : List UInt8 := [28, 182, 0, 69, 172, 132, 2, 1, 167, 255, 195, 42, 16, 254, 182, 0, 69, 172]
abbrev dktX1_strange_3 : List UInt8 := dkwX1_strange_3 ++ []
def dkwX1_strange_2 : List UInt8 := [180, 0, 104, 27, 182, 0, 196, 42, 180, 0, 111, 180, 0, 199, 28, 96, 182, 0, 212, 27, 159, 0, 9, 42]
abbrev dktX1_strange_2 : List UInt8 := dkwX1_strange_2 ++ dktX1_strange_3
def dkwX1_strange_1 : List UInt8 := [180, 0, 104, 42, 180, 0, 104, 180, 0, 122, 27, 182, 0, 137, 192, 1, 30, 180, 1, 32, 3, 42]
abbrev dktX1_strange_1 : List UInt8 := dkwX1_strange_1 ++ dktX1_strange_2
def dkwX1_strange_0 : List UInt8 := [42, 27, 182, 0, 193, 154, 0, 9, 42, 4, 182, 0, 65, 172, 3, 61, 28, 16, 99, 163, 0, 61, 42]
abbrev dktX1_strange_0 : List UInt8 := dkwX1_strange_0 ++ dktX1_strange_1
theorem dksX1_strange_0 : cX1_strange.data.toList.drop 0 = dktX1_strange_0 := by decide +kernel
theorem dksX1_strange_1 : cX1_strange.data.toList.drop 23 = dktX1_strange_1 := dk_seg dksX1_strange_0 23 rfl rfl
theorem dksX1_strange_2 : cX1_strange.data.toList.drop 45 = dktX1_strange_2 := dk_seg dksX1_strange_1 22 rfl rfl
theorem dksX1_strange_3 : cX1_strange.data.toList.drop 69 = dktX1_strange_3 := dk_seg dksX1_strange_2 24 rfl rfl
theorem dX1_strange_0 : decode cX1_strange 0 = .ok (.aload_n 0, 1) := dk_42 (dk_at dksX1_strange_0 0 rfl rfl)
theorem dX1_strange_1 : decode cX1_strange 1 = .ok (.iload_n 1, 1) := dk_27 (dk_at dksX1_strange_0 1 rfl rfl)
theorem dX1_strange_2 : decode cX1_strange 2 = .ok (.invokevirtual 193, 3) := dk_182 0 193 (dk_at dksX1_strange_0 2 rfl rfl)
theorem dX1_strange_5 : decode cX1_strange 5 = .ok (.ifCond .ne 9, 3) := dk_154 0 9 (dk_at dksX1_strange_0 5 rfl rfl)
theorem dX1_strange_8 : decode cX1_strange 8 = .ok (.aload_n 0, 1) := dk_42 (dk_at dksX1_strange_0 8 rfl rfl)
theorem dX1_strange_9 : decode cX1_strange 9 = .ok (.iconst 1, 1) := dk_4 (dk_at dksX1_strange_0 9 rfl rfl)
theorem dX1_strange_10 : decode cX1_strange 10 = .ok (.invokevirtual 65, 3) := dk_182 0 65 (dk_at dksX1_strange_0 10 rfl rfl)
theorem dX1_strange_13 : decode cX1_strange 13 = .ok (.ireturn, 1) := dk_172 (dk_at dksX1_strange_0 13 rfl rfl)
theorem dX1_strange_14 : decode cX1_strange 14 = .ok (.iconst 0, 1) := dk_3 (dk_at dksX1_strange_0 14 rfl rfl)
theorem dX1_strange_15 : decode cX1_strange 15 = .ok (.istore_n 2, 1) := dk_61 (dk_at dksX1_strange_0 15 rfl rfl)
theorem dX1_strange_16 : decode cX1_strange 16 = .ok (.iload_n 2, 1) := dk_28 (dk_at dksX1_strange_0 16 rfl rfl)
theorem dX1_strange_17 : decode cX1_strange 17 = .ok (.bipush 99, 2) := dk_16 99 (dk_at dksX1_strange_0 17 rfl rfl)
theorem dX1_strange_19 : decode cX1_strange 19 = .ok (.if_icmp .gt 61, 3) := dk_163 0 61 (dk_at dksX1_strange_0 19 rfl rfl)
theorem dX1_strange_22 : decode cX1_strange 22 = .ok (.aload_n 0, 1) := dk_42 (dk_at dksX1_strange_0 22 rfl rfl)
theorem dX1_strange_23 : decode cX1_strange 23 = .ok (.getfield 104, 3) := dk_180 0 104 (dk_at dksX1_strange_1 0 rfl rfl)
theorem dX1_strange_26 : decode cX1_strange 26 = .ok (.aload_n 0, 1) := dk_42 (dk_at dksX1_strange_1 3 rfl rfl)
theorem dX1_strange_27 : decode cX1_strange 27 = .ok (.getfield 104, 3) := dk_180 0 104 (dk_at dksX1_strange_1 4 rfl rfl)
theorem dX1_strange_30 : decode cX1_strange 30 = .ok (.getfield 122, 3) := dk_180 0 122 (dk_at dksX1_strange_1 7 rfl rfl)
theorem dX1_strange_33 : decode cX1_strange 33 = .ok (.iload_n 1, 1) := dk_27 (dk_at dksX1_strange_1 10 rfl rfl)
theorem dX1_strange_34 : decode cX1_strange 34 = .ok (.invokevirtual 137, 3) := dk_182 0 137 (dk_at dksX1_strange_1 11 rfl rfl)
theorem dX1_strange_37 : decode cX1_strange 37 = .ok (.checkcast 286, 3) := dk_192 1 30 (dk_at dksX1_strange_1 14 rfl rfl)
theorem dX1_strange_40 : decode cX1_strange 40 = .ok (.getfield 288, 3) := dk_180 1 32 (dk_at dksX1_strange_1 17 rfl rfl)
theorem dX1_strange_43 : decode cX1_strange 43 = .ok (.iconst 0, 1) := dk_3 (dk_at dksX1_strange_1 20 rfl rfl)
theorem dX1_strange_44 : decode cX1_strange 44 = .ok (.aload_n 0, 1) := dk_42 (dk_at dksX1_strange_1 21 rfl rfl)
theorem dX1_strange_45 : decode cX1_strange 45 = .ok (.getfield 104, 3) := dk_180 0 104 (dk_at dksX1_strange_2 0 rfl rfl)
theorem dX1_strange_48 : decode cX1_strange 48 = .ok (.iload_n 1, 1) := dk_27 (dk_at dksX1_strange_2 3 rfl rfl)
theorem dX1_strange_49 : decode cX1_strange 49 = .ok (.invokevirtual 196, 3) := dk_182 0 196 (dk_at dksX1_strange_2 4 rfl rfl)
theorem dX1_strange_52 : decode cX1_strange 52 = .ok (.aload_n 0, 1) := dk_42 (dk_at dksX1_strange_2 7 rfl rfl)
theorem dX1_strange_53 : decode cX1_strange 53 = .ok (.getfield 111, 3) := dk_180 0 111 (dk_at dksX1_strange_2 8 rfl rfl)
theorem dX1_strange_56 : decode cX1_strange 56 = .ok (.getfield 199, 3) := dk_180 0 199 (dk_at dksX1_strange_2 11 rfl rfl)
theorem dX1_strange_59 : decode cX1_strange 59 = .ok (.iload_n 2, 1) := dk_28 (dk_at dksX1_strange_2 14 rfl rfl)
theorem dX1_strange_60 : decode cX1_strange 60 = .ok (.iadd, 1) := dk_96 (dk_at dksX1_strange_2 15 rfl rfl)
theorem dX1_strange_61 : decode cX1_strange 61 = .ok (.invokevirtual 212, 3) := dk_182 0 212 (dk_at dksX1_strange_2 16 rfl rfl)
theorem dX1_strange_64 : decode cX1_strange 64 = .ok (.iload_n 1, 1) := dk_27 (dk_at dksX1_strange_2 19 rfl rfl)
theorem dX1_strange_65 : decode cX1_strange 65 = .ok (.if_icmp .eq 9, 3) := dk_159 0 9 (dk_at dksX1_strange_2 20 rfl rfl)
theorem dX1_strange_68 : decode cX1_strange 68 = .ok (.aload_n 0, 1) := dk_42 (dk_at dksX1_strange_2 23 rfl rfl)
theorem dX1_strange_69 : decode cX1_strange 69 = .ok (.iload_n 2, 1) := dk_28 (dk_at dksX1_strange_3 0 rfl rfl)
theorem dX1_strange_70 : decode cX1_strange 70 = .ok (.invokevirtual 69, 3) := dk_182 0 69 (dk_at dksX1_strange_3 1 rfl rfl)
theorem dX1_strange_73 : decode cX1_strange 73 = .ok (.ireturn, 1) := dk_172 (dk_at dksX1_strange_3 4 rfl rfl)
theorem dX1_strange_74 : decode cX1_strange 74 = .ok (.iinc 2 1, 3) := dk_132 2 1 (dk_at dksX1_strange_3 5 rfl rfl)
theorem dX1_strange_77 : decode cX1_strange 77 = .ok (.goto (-61), 3) := dk_167 255 195 (dk_at dksX1_strange_3 8 rfl rfl)
theorem dX1_strange_80 : decode cX1_strange 80 = .ok (.aload_n 0, 1) := dk_42 (dk_at dksX1_strange_3 11 rfl rfl)
theorem dX1_strange_81 : decode cX1_strange 81 = .ok (.bipush (-2), 2) := dk_16 254 (dk_at dksX1_strange_3 12 rfl rfl)
theorem dX1_strange_83 : decode cX1_strange 83 = .ok (.invokevirtual 69, 3) := dk_182 0 69 (dk_at dksX1_strange_3 14 rfl rfl)
theorem dX1_strange_86 : decode cX1_strange 86 = .ok (.ireturn, 1) := dk_172 (dk_at dksX1_strange_3 17 rfl rfl)
abbrev cX1_arrival : ByteArray := prog_1_method_54_code
def yX1_arrival : MethodName := ⟨RX1, "arrival", "(IIII)I"⟩
def dkwX1_arrival_2 : List UInt8 := [182, 0, 149, 28, 29, 21, 4, 182, 1, 62, 182, 0, 69, 167, 0, 8, 42, 5, 182, 0, 65, 172]
abbrev dktX1_arrival_2 : List UInt8 := dkwX1_arrival_2 ++ []
def dkwX1_arrival_1 : List UInt8 := [42, 4, 182, 0, 65, 172, 21, 4, 3, 17, 39, 15, 184, 0, 79, 153, 0, 23, 42, 42, 42, 27]
abbrev dktX1_arrival_1 : List UInt8 := dkwX1_arrival_1 ++ dktX1_arrival_2
def dkwX1_arrival_0 : List UInt8 := [42, 27, 182, 0, 145, 153, 0, 19, 42, 28, 182, 0, 193, 153, 0, 11, 42, 29, 182, 0, 193, 154, 0, 9]
abbrev dktX1_arrival_0 : List UInt8 := dkwX1_arrival_0 ++ dktX1_arrival_1
theorem dksX1_arrival_0 : cX1_arrival.data.toList.drop 0 = dktX1_arrival_0 := by decide +kernel
theorem dksX1_arrival_1 : cX1_arrival.data.toList.drop 24 = dktX1_arrival_1 := dk_seg dksX1_arrival_0 24 rfl rfl
theorem dksX1_arrival_2 : cX1_arrival.data.toList.drop 46 = dktX1_arrival_2 := dk_seg dksX1_arrival_1 22 rfl rfl
theorem dX1_arrival_0 : decode cX1_arrival 0 = .ok (.aload_n 0, 1) := dk_42 (dk_at dksX1_arrival_0 0 rfl rfl)
theorem dX1_arrival_1 : decode cX1_arrival 1 = .ok (.iload_n 1, 1) := dk_27 (dk_at dksX1_arrival_0 1 rfl rfl)
theorem dX1_arrival_2 : decode cX1_arrival 2 = .ok (.invokevirtual 145, 3) := dk_182 0 145 (dk_at dksX1_arrival_0 2 rfl rfl)
theorem dX1_arrival_5 : decode cX1_arrival 5 = .ok (.ifCond .eq 19, 3) := dk_153 0 19 (dk_at dksX1_arrival_0 5 rfl rfl)
theorem dX1_arrival_8 : decode cX1_arrival 8 = .ok (.aload_n 0, 1) := dk_42 (dk_at dksX1_arrival_0 8 rfl rfl)
theorem dX1_arrival_9 : decode cX1_arrival 9 = .ok (.iload_n 2, 1) := dk_28 (dk_at dksX1_arrival_0 9 rfl rfl)
theorem dX1_arrival_10 : decode cX1_arrival 10 = .ok (.invokevirtual 193, 3) := dk_182 0 193 (dk_at dksX1_arrival_0 10 rfl rfl)
theorem dX1_arrival_13 : decode cX1_arrival 13 = .ok (.ifCond .eq 11, 3) := dk_153 0 11 (dk_at dksX1_arrival_0 13 rfl rfl)
theorem dX1_arrival_16 : decode cX1_arrival 16 = .ok (.aload_n 0, 1) := dk_42 (dk_at dksX1_arrival_0 16 rfl rfl)
theorem dX1_arrival_17 : decode cX1_arrival 17 = .ok (.iload_n 3, 1) := dk_29 (dk_at dksX1_arrival_0 17 rfl rfl)
theorem dX1_arrival_18 : decode cX1_arrival 18 = .ok (.invokevirtual 193, 3) := dk_182 0 193 (dk_at dksX1_arrival_0 18 rfl rfl)
theorem dX1_arrival_21 : decode cX1_arrival 21 = .ok (.ifCond .ne 9, 3) := dk_154 0 9 (dk_at dksX1_arrival_0 21 rfl rfl)
theorem dX1_arrival_24 : decode cX1_arrival 24 = .ok (.aload_n 0, 1) := dk_42 (dk_at dksX1_arrival_1 0 rfl rfl)
theorem dX1_arrival_25 : decode cX1_arrival 25 = .ok (.iconst 1, 1) := dk_4 (dk_at dksX1_arrival_1 1 rfl rfl)
theorem dX1_arrival_26 : decode cX1_arrival 26 = .ok (.invokevirtual 65, 3) := dk_182 0 65 (dk_at dksX1_arrival_1 2 rfl rfl)
theorem dX1_arrival_29 : decode cX1_arrival 29 = .ok (.ireturn, 1) := dk_172 (dk_at dksX1_arrival_1 5 rfl rfl)
theorem dX1_arrival_30 : decode cX1_arrival 30 = .ok (.iload 4, 2) := dk_21 4 (dk_at dksX1_arrival_1 6 rfl rfl)
theorem dX1_arrival_32 : decode cX1_arrival 32 = .ok (.iconst 0, 1) := dk_3 (dk_at dksX1_arrival_1 8 rfl rfl)
theorem dX1_arrival_33 : decode cX1_arrival 33 = .ok (.sipush 9999, 3) := dk_17 39 15 (dk_at dksX1_arrival_1 9 rfl rfl)
theorem dX1_arrival_36 : decode cX1_arrival 36 = .ok (.invokestatic 79, 3) := dk_184 0 79 (dk_at dksX1_arrival_1 12 rfl rfl)
theorem dX1_arrival_39 : decode cX1_arrival 39 = .ok (.ifCond .eq 23, 3) := dk_153 0 23 (dk_at dksX1_arrival_1 15 rfl rfl)
theorem dX1_arrival_42 : decode cX1_arrival 42 = .ok (.aload_n 0, 1) := dk_42 (dk_at dksX1_arrival_1 18 rfl rfl)
theorem dX1_arrival_43 : decode cX1_arrival 43 = .ok (.aload_n 0, 1) := dk_42 (dk_at dksX1_arrival_1 19 rfl rfl)
theorem dX1_arrival_44 : decode cX1_arrival 44 = .ok (.aload_n 0, 1) := dk_42 (dk_at dksX1_arrival_1 20 rfl rfl)
theorem dX1_arrival_45 : decode cX1_arrival 45 = .ok (.iload_n 1, 1) := dk_27 (dk_at dksX1_arrival_1 21 rfl rfl)
theorem dX1_arrival_46 : decode cX1_arrival 46 = .ok (.invokevirtual 149, 3) := dk_182 0 149 (dk_at dksX1_arrival_2 0 rfl rfl)
theorem dX1_arrival_49 : decode cX1_arrival 49 = .ok (.iload_n 2, 1) := dk_28 (dk_at dksX1_arrival_2 3 rfl rfl)
theorem dX1_arrival_50 : decode cX1_arrival 50 = .ok (.iload_n 3, 1) := dk_29 (dk_at dksX1_arrival_2 4 rfl rfl)
theorem dX1_arrival_51 : decode cX1_arrival 51 = .ok (.iload 4, 2) := dk_21 4 (dk_at dksX1_arrival_2 5 rfl rfl)
theorem dX1_arrival_53 : decode cX1_arrival 53 = .ok (.invokevirtual 318, 3) := dk_182 1 62 (dk_at dksX1_arrival_2 7 rfl rfl)
theorem dX1_arrival_56 : decode cX1_arrival 56 = .ok (.invokevirtual 69, 3) := dk_182 0 69 (dk_at dksX1_arrival_2 10 rfl rfl)
theorem dX1_arrival_59 : decode cX1_arrival 59 = .ok (.goto 8, 3) := dk_167 0 8 (dk_at dksX1_arrival_2 13 rfl rfl)
theorem dX1_arrival_62 : decode cX1_arrival 62 = .ok (.aload_n 0, 1) := dk_42 (dk_at dksX1_arrival_2 16 rfl rfl)
theorem dX1_arrival_63 : decode cX1_arrival 63 = .ok (.iconst 2, 1) := dk_5 (dk_at dksX1_arrival_2 17 rfl rfl)
theorem dX1_arrival_64 : decode cX1_arrival 64 = .ok (.invokevirtual 65, 3) := dk_182 0 65 (dk_at dksX1_arrival_2 18 rfl rfl)
theorem dX1_arrival_67 : decode cX1_arrival 67 = .ok (.ireturn, 1) := dk_172 (dk_at dksX1_arrival_2 21 rfl rfl)
abbrev cX1_arrives : ByteArray := prog_1_method_53_code
def yX1_arrives : MethodName := ⟨RX1, "arrives", "(LWhalePost$Whale;III)I"⟩
def dkwX1_arrives_1 : List UInt8 := [167, 0, 9, 42, 180, 0, 34, 29, 46, 172]
abbrev dktX1_arrives_1 : List UInt8 := dkwX1_arrives_1 ++ []
def dkwX1_arrives_0 : List UInt8 := [42, 43, 28, 21, 4, 182, 1, 59, 42, 180, 0, 34, 29, 46, 19, 1, 35, 160, 0, 8, 16, 254]
abbrev dktX1_arrives_0 : List UInt8 := dkwX1_arrives_0 ++ dktX1_arrives_1
theorem dksX1_arrives_0 : cX1_arrives.data.toList.drop 0 = dktX1_arrives_0 := by decide +kernel
theorem dksX1_arrives_1 : cX1_arrives.data.toList.drop 22 = dktX1_arrives_1 := dk_seg dksX1_arrives_0 22 rfl rfl
theorem dX1_arrives_0 : decode cX1_arrives 0 = .ok (.aload_n 0, 1) := dk_42 (dk_at dksX1_arrives_0 0 rfl rfl)
theorem dX1_arrives_1 : decode cX1_arrives 1 = .ok (.aload_n 1, 1) := dk_43 (dk_at dksX1_arrives_0 1 rfl rfl)
theorem dX1_arrives_2 : decode cX1_arrives 2 = .ok (.iload_n 2, 1) := dk_28 (dk_at dksX1_arrives_0 2 rfl rfl)
theorem dX1_arrives_3 : decode cX1_arrives 3 = .ok (.iload 4, 2) := dk_21 4 (dk_at dksX1_arrives_0 3 rfl rfl)
theorem dX1_arrives_5 : decode cX1_arrives 5 = .ok (.invokevirtual 315, 3) := dk_182 1 59 (dk_at dksX1_arrives_0 5 rfl rfl)
theorem dX1_arrives_8 : decode cX1_arrives 8 = .ok (.aload_n 0, 1) := dk_42 (dk_at dksX1_arrives_0 8 rfl rfl)
theorem dX1_arrives_9 : decode cX1_arrives 9 = .ok (.getfield 34, 3) := dk_180 0 34 (dk_at dksX1_arrives_0 9 rfl rfl)
theorem dX1_arrives_12 : decode cX1_arrives 12 = .ok (.iload_n 3, 1) := dk_29 (dk_at dksX1_arrives_0 12 rfl rfl)
theorem dX1_arrives_13 : decode cX1_arrives 13 = .ok (.iaload, 1) := dk_46 (dk_at dksX1_arrives_0 13 rfl rfl)
theorem dX1_arrives_14 : decode cX1_arrives 14 = .ok (.ldc_w 291, 3) := dk_19 1 35 (dk_at dksX1_arrives_0 14 rfl rfl)
theorem dX1_arrives_17 : decode cX1_arrives 17 = .ok (.if_icmp .ne 8, 3) := dk_160 0 8 (dk_at dksX1_arrives_0 17 rfl rfl)
theorem dX1_arrives_20 : decode cX1_arrives 20 = .ok (.bipush (-2), 2) := dk_16 254 (dk_at dksX1_arrives_0 20 rfl rfl)
theorem dX1_arrives_22 : decode cX1_arrives 22 = .ok (.goto 9, 3) := dk_167 0 9 (dk_at dksX1_arrives_1 0 rfl rfl)
theorem dX1_arrives_25 : decode cX1_arrives 25 = .ok (.aload_n 0, 1) := dk_42 (dk_at dksX1_arrives_1 3 rfl rfl)
theorem dX1_arrives_26 : decode cX1_arrives 26 = .ok (.getfield 34, 3) := dk_180 0 34 (dk_at dksX1_arrives_1 4 rfl rfl)
theorem dX1_arrives_29 : decode cX1_arrives 29 = .ok (.iload_n 3, 1) := dk_29 (dk_at dksX1_arrives_1 7 rfl rfl)
theorem dX1_arrives_30 : decode cX1_arrives 30 = .ok (.iaload, 1) := dk_46 (dk_at dksX1_arrives_1 8 rfl rfl)
theorem dX1_arrives_31 : decode cX1_arrives 31 = .ok (.ireturn, 1) := dk_172 (dk_at dksX1_arrives_1 9 rfl rfl)
abbrev cX1_goes : ByteArray := prog_1_method_51_code
def yX1_goes : MethodName := ⟨RX1, "goes", "(LWhalePost$Whale;II)V"⟩
def dkwX1_goes_7 : List UInt8 := [177]
abbrev dktX1_goes_7 : List UInt8 := dkwX1_goes_7 ++ []
def dkwX1_goes_6 : List UInt8 := [167, 255, 194, 42, 180, 0, 37, 3, 42, 180, 0, 34, 3, 16, 7, 184, 1, 38, 132, 5, 1, 167, 255, 138]
abbrev dktX1_goes_6 : List UInt8 := dkwX1_goes_6 ++ dktX1_goes_7
def dkwX1_goes_5 : List UInt8 := [192, 0, 229, 182, 1, 44, 154, 0, 8, 21, 4, 153, 0, 7, 4, 167, 0, 4, 3, 54, 4, 132, 6, 1]
abbrev dktX1_goes_5 : List UInt8 := dkwX1_goes_5 ++ dktX1_goes_6
def dkwX1_goes_4 : List UInt8 := [42, 21, 6, 182, 0, 234, 154, 0, 38, 42, 43, 42, 180, 0, 104, 180, 0, 226, 21, 6, 182, 0, 137]
abbrev dktX1_goes_4 : List UInt8 := dkwX1_goes_4 ++ dktX1_goes_5
def dkwX1_goes_3 : List UInt8 := [184, 1, 38, 3, 54, 4, 3, 54, 6, 21, 6, 42, 180, 0, 104, 180, 0, 226, 182, 0, 127, 162, 0, 53]
abbrev dktX1_goes_3 : List UInt8 := dkwX1_goes_3 ++ dktX1_goes_4
def dkwX1_goes_2 : List UInt8 := [182, 1, 36, 162, 0, 115, 21, 4, 153, 0, 110, 42, 180, 0, 34, 3, 42, 180, 0, 37, 3, 16, 7]
abbrev dktX1_goes_2 : List UInt8 := dkwX1_goes_2 ++ dktX1_goes_3
def dkwX1_goes_1 : List UInt8 := [167, 0, 6, 19, 1, 35, 79, 132, 4, 1, 167, 255, 226, 4, 54, 4, 3, 54, 5, 21, 5, 43]
abbrev dktX1_goes_1 : List UInt8 := dkwX1_goes_1 ++ dktX1_goes_2
def dkwX1_goes_0 : List UInt8 := [3, 54, 4, 21, 4, 16, 7, 162, 0, 29, 42, 180, 0, 34, 21, 4, 21, 4, 28, 160, 0, 7, 29]
abbrev dktX1_goes_0 : List UInt8 := dkwX1_goes_0 ++ dktX1_goes_1
theorem dksX1_goes_0 : cX1_goes.data.toList.drop 0 = dktX1_goes_0 := by decide +kernel
theorem dksX1_goes_1 : cX1_goes.data.toList.drop 23 = dktX1_goes_1 := dk_seg dksX1_goes_0 23 rfl rfl
theorem dksX1_goes_2 : cX1_goes.data.toList.drop 45 = dktX1_goes_2 := dk_seg dksX1_goes_1 22 rfl rfl
theorem dksX1_goes_3 : cX1_goes.data.toList.drop 68 = dktX1_goes_3 := dk_seg dksX1_goes_2 23 rfl rfl
theorem dksX1_goes_4 : cX1_goes.data.toList.drop 92 = dktX1_goes_4 := dk_seg dksX1_goes_3 24 rfl rfl
theorem dksX1_goes_5 : cX1_goes.data.toList.drop 115 = dktX1_goes_5 := dk_seg dksX1_goes_4 23 rfl rfl
theorem dksX1_goes_6 : cX1_goes.data.toList.drop 139 = dktX1_goes_6 := dk_seg dksX1_goes_5 24 rfl rfl
theorem dksX1_goes_7 : cX1_goes.data.toList.drop 163 = dktX1_goes_7 := dk_seg dksX1_goes_6 24 rfl rfl
theorem dX1_goes_0 : decode cX1_goes 0 = .ok (.iconst 0, 1) := dk_3 (dk_at dksX1_goes_0 0 rfl rfl)
theorem dX1_goes_1 : decode cX1_goes 1 = .ok (.istore 4, 2) := dk_54 4 (dk_at dksX1_goes_0 1 rfl rfl)
theorem dX1_goes_3 : decode cX1_goes 3 = .ok (.iload 4, 2) := dk_21 4 (dk_at dksX1_goes_0 3 rfl rfl)
theorem dX1_goes_5 : decode cX1_goes 5 = .ok (.bipush 7, 2) := dk_16 7 (dk_at dksX1_goes_0 5 rfl rfl)
theorem dX1_goes_7 : decode cX1_goes 7 = .ok (.if_icmp .ge 29, 3) := dk_162 0 29 (dk_at dksX1_goes_0 7 rfl rfl)
theorem dX1_goes_10 : decode cX1_goes 10 = .ok (.aload_n 0, 1) := dk_42 (dk_at dksX1_goes_0 10 rfl rfl)
theorem dX1_goes_11 : decode cX1_goes 11 = .ok (.getfield 34, 3) := dk_180 0 34 (dk_at dksX1_goes_0 11 rfl rfl)
theorem dX1_goes_14 : decode cX1_goes 14 = .ok (.iload 4, 2) := dk_21 4 (dk_at dksX1_goes_0 14 rfl rfl)
theorem dX1_goes_16 : decode cX1_goes 16 = .ok (.iload 4, 2) := dk_21 4 (dk_at dksX1_goes_0 16 rfl rfl)
theorem dX1_goes_18 : decode cX1_goes 18 = .ok (.iload_n 2, 1) := dk_28 (dk_at dksX1_goes_0 18 rfl rfl)
theorem dX1_goes_19 : decode cX1_goes 19 = .ok (.if_icmp .ne 7, 3) := dk_160 0 7 (dk_at dksX1_goes_0 19 rfl rfl)
theorem dX1_goes_22 : decode cX1_goes 22 = .ok (.iload_n 3, 1) := dk_29 (dk_at dksX1_goes_0 22 rfl rfl)
theorem dX1_goes_23 : decode cX1_goes 23 = .ok (.goto 6, 3) := dk_167 0 6 (dk_at dksX1_goes_1 0 rfl rfl)
theorem dX1_goes_26 : decode cX1_goes 26 = .ok (.ldc_w 291, 3) := dk_19 1 35 (dk_at dksX1_goes_1 3 rfl rfl)
theorem dX1_goes_29 : decode cX1_goes 29 = .ok (.iastore, 1) := dk_79 (dk_at dksX1_goes_1 6 rfl rfl)
theorem dX1_goes_30 : decode cX1_goes 30 = .ok (.iinc 4 1, 3) := dk_132 4 1 (dk_at dksX1_goes_1 7 rfl rfl)
theorem dX1_goes_33 : decode cX1_goes 33 = .ok (.goto (-30), 3) := dk_167 255 226 (dk_at dksX1_goes_1 10 rfl rfl)
theorem dX1_goes_36 : decode cX1_goes 36 = .ok (.iconst 1, 1) := dk_4 (dk_at dksX1_goes_1 13 rfl rfl)
theorem dX1_goes_37 : decode cX1_goes 37 = .ok (.istore 4, 2) := dk_54 4 (dk_at dksX1_goes_1 14 rfl rfl)
theorem dX1_goes_39 : decode cX1_goes 39 = .ok (.iconst 0, 1) := dk_3 (dk_at dksX1_goes_1 16 rfl rfl)
theorem dX1_goes_40 : decode cX1_goes 40 = .ok (.istore 5, 2) := dk_54 5 (dk_at dksX1_goes_1 17 rfl rfl)
theorem dX1_goes_42 : decode cX1_goes 42 = .ok (.iload 5, 2) := dk_21 5 (dk_at dksX1_goes_1 19 rfl rfl)
theorem dX1_goes_44 : decode cX1_goes 44 = .ok (.aload_n 1, 1) := dk_43 (dk_at dksX1_goes_1 21 rfl rfl)
theorem dX1_goes_45 : decode cX1_goes 45 = .ok (.invokevirtual 292, 3) := dk_182 1 36 (dk_at dksX1_goes_2 0 rfl rfl)
theorem dX1_goes_48 : decode cX1_goes 48 = .ok (.if_icmp .ge 115, 3) := dk_162 0 115 (dk_at dksX1_goes_2 3 rfl rfl)
theorem dX1_goes_51 : decode cX1_goes 51 = .ok (.iload 4, 2) := dk_21 4 (dk_at dksX1_goes_2 6 rfl rfl)
theorem dX1_goes_53 : decode cX1_goes 53 = .ok (.ifCond .eq 110, 3) := dk_153 0 110 (dk_at dksX1_goes_2 8 rfl rfl)
theorem dX1_goes_56 : decode cX1_goes 56 = .ok (.aload_n 0, 1) := dk_42 (dk_at dksX1_goes_2 11 rfl rfl)
theorem dX1_goes_57 : decode cX1_goes 57 = .ok (.getfield 34, 3) := dk_180 0 34 (dk_at dksX1_goes_2 12 rfl rfl)
theorem dX1_goes_60 : decode cX1_goes 60 = .ok (.iconst 0, 1) := dk_3 (dk_at dksX1_goes_2 15 rfl rfl)
theorem dX1_goes_61 : decode cX1_goes 61 = .ok (.aload_n 0, 1) := dk_42 (dk_at dksX1_goes_2 16 rfl rfl)
theorem dX1_goes_62 : decode cX1_goes 62 = .ok (.getfield 37, 3) := dk_180 0 37 (dk_at dksX1_goes_2 17 rfl rfl)
theorem dX1_goes_65 : decode cX1_goes 65 = .ok (.iconst 0, 1) := dk_3 (dk_at dksX1_goes_2 20 rfl rfl)
theorem dX1_goes_66 : decode cX1_goes 66 = .ok (.bipush 7, 2) := dk_16 7 (dk_at dksX1_goes_2 21 rfl rfl)
theorem dX1_goes_68 : decode cX1_goes 68 = .ok (.invokestatic 294, 3) := dk_184 1 38 (dk_at dksX1_goes_3 0 rfl rfl)
theorem dX1_goes_71 : decode cX1_goes 71 = .ok (.iconst 0, 1) := dk_3 (dk_at dksX1_goes_3 3 rfl rfl)
theorem dX1_goes_72 : decode cX1_goes 72 = .ok (.istore 4, 2) := dk_54 4 (dk_at dksX1_goes_3 4 rfl rfl)
theorem dX1_goes_74 : decode cX1_goes 74 = .ok (.iconst 0, 1) := dk_3 (dk_at dksX1_goes_3 6 rfl rfl)
theorem dX1_goes_75 : decode cX1_goes 75 = .ok (.istore 6, 2) := dk_54 6 (dk_at dksX1_goes_3 7 rfl rfl)
theorem dX1_goes_77 : decode cX1_goes 77 = .ok (.iload 6, 2) := dk_21 6 (dk_at dksX1_goes_3 9 rfl rfl)
theorem dX1_goes_79 : decode cX1_goes 79 = .ok (.aload_n 0, 1) := dk_42 (dk_at dksX1_goes_3 11 rfl rfl)
theorem dX1_goes_80 : decode cX1_goes 80 = .ok (.getfield 104, 3) := dk_180 0 104 (dk_at dksX1_goes_3 12 rfl rfl)
theorem dX1_goes_83 : decode cX1_goes 83 = .ok (.getfield 226, 3) := dk_180 0 226 (dk_at dksX1_goes_3 15 rfl rfl)
theorem dX1_goes_86 : decode cX1_goes 86 = .ok (.invokevirtual 127, 3) := dk_182 0 127 (dk_at dksX1_goes_3 18 rfl rfl)
theorem dX1_goes_89 : decode cX1_goes 89 = .ok (.if_icmp .ge 53, 3) := dk_162 0 53 (dk_at dksX1_goes_3 21 rfl rfl)
theorem dX1_goes_92 : decode cX1_goes 92 = .ok (.aload_n 0, 1) := dk_42 (dk_at dksX1_goes_4 0 rfl rfl)
theorem dX1_goes_93 : decode cX1_goes 93 = .ok (.iload 6, 2) := dk_21 6 (dk_at dksX1_goes_4 1 rfl rfl)
theorem dX1_goes_95 : decode cX1_goes 95 = .ok (.invokevirtual 234, 3) := dk_182 0 234 (dk_at dksX1_goes_4 3 rfl rfl)
theorem dX1_goes_98 : decode cX1_goes 98 = .ok (.ifCond .ne 38, 3) := dk_154 0 38 (dk_at dksX1_goes_4 6 rfl rfl)
theorem dX1_goes_101 : decode cX1_goes 101 = .ok (.aload_n 0, 1) := dk_42 (dk_at dksX1_goes_4 9 rfl rfl)
theorem dX1_goes_102 : decode cX1_goes 102 = .ok (.aload_n 1, 1) := dk_43 (dk_at dksX1_goes_4 10 rfl rfl)
theorem dX1_goes_103 : decode cX1_goes 103 = .ok (.aload_n 0, 1) := dk_42 (dk_at dksX1_goes_4 11 rfl rfl)
theorem dX1_goes_104 : decode cX1_goes 104 = .ok (.getfield 104, 3) := dk_180 0 104 (dk_at dksX1_goes_4 12 rfl rfl)
theorem dX1_goes_107 : decode cX1_goes 107 = .ok (.getfield 226, 3) := dk_180 0 226 (dk_at dksX1_goes_4 15 rfl rfl)
theorem dX1_goes_110 : decode cX1_goes 110 = .ok (.iload 6, 2) := dk_21 6 (dk_at dksX1_goes_4 18 rfl rfl)
theorem dX1_goes_112 : decode cX1_goes 112 = .ok (.invokevirtual 137, 3) := dk_182 0 137 (dk_at dksX1_goes_4 20 rfl rfl)
theorem dX1_goes_115 : decode cX1_goes 115 = .ok (.checkcast 229, 3) := dk_192 0 229 (dk_at dksX1_goes_5 0 rfl rfl)
theorem dX1_goes_118 : decode cX1_goes 118 = .ok (.invokevirtual 300, 3) := dk_182 1 44 (dk_at dksX1_goes_5 3 rfl rfl)
theorem dX1_goes_121 : decode cX1_goes 121 = .ok (.ifCond .ne 8, 3) := dk_154 0 8 (dk_at dksX1_goes_5 6 rfl rfl)
theorem dX1_goes_124 : decode cX1_goes 124 = .ok (.iload 4, 2) := dk_21 4 (dk_at dksX1_goes_5 9 rfl rfl)
theorem dX1_goes_126 : decode cX1_goes 126 = .ok (.ifCond .eq 7, 3) := dk_153 0 7 (dk_at dksX1_goes_5 11 rfl rfl)
theorem dX1_goes_129 : decode cX1_goes 129 = .ok (.iconst 1, 1) := dk_4 (dk_at dksX1_goes_5 14 rfl rfl)
theorem dX1_goes_130 : decode cX1_goes 130 = .ok (.goto 4, 3) := dk_167 0 4 (dk_at dksX1_goes_5 15 rfl rfl)
theorem dX1_goes_133 : decode cX1_goes 133 = .ok (.iconst 0, 1) := dk_3 (dk_at dksX1_goes_5 18 rfl rfl)
theorem dX1_goes_134 : decode cX1_goes 134 = .ok (.istore 4, 2) := dk_54 4 (dk_at dksX1_goes_5 19 rfl rfl)
theorem dX1_goes_136 : decode cX1_goes 136 = .ok (.iinc 6 1, 3) := dk_132 6 1 (dk_at dksX1_goes_5 21 rfl rfl)
theorem dX1_goes_139 : decode cX1_goes 139 = .ok (.goto (-62), 3) := dk_167 255 194 (dk_at dksX1_goes_6 0 rfl rfl)
theorem dX1_goes_142 : decode cX1_goes 142 = .ok (.aload_n 0, 1) := dk_42 (dk_at dksX1_goes_6 3 rfl rfl)
theorem dX1_goes_143 : decode cX1_goes 143 = .ok (.getfield 37, 3) := dk_180 0 37 (dk_at dksX1_goes_6 4 rfl rfl)
theorem dX1_goes_146 : decode cX1_goes 146 = .ok (.iconst 0, 1) := dk_3 (dk_at dksX1_goes_6 7 rfl rfl)
theorem dX1_goes_147 : decode cX1_goes 147 = .ok (.aload_n 0, 1) := dk_42 (dk_at dksX1_goes_6 8 rfl rfl)
theorem dX1_goes_148 : decode cX1_goes 148 = .ok (.getfield 34, 3) := dk_180 0 34 (dk_at dksX1_goes_6 9 rfl rfl)
theorem dX1_goes_151 : decode cX1_goes 151 = .ok (.iconst 0, 1) := dk_3 (dk_at dksX1_goes_6 12 rfl rfl)
theorem dX1_goes_152 : decode cX1_goes 152 = .ok (.bipush 7, 2) := dk_16 7 (dk_at dksX1_goes_6 13 rfl rfl)
theorem dX1_goes_154 : decode cX1_goes 154 = .ok (.invokestatic 294, 3) := dk_184 1 38 (dk_at dksX1_goes_6 15 rfl rfl)
theorem dX1_goes_157 : decode cX1_goes 157 = .ok (.iinc 5 1, 3) := dk_132 5 1 (dk_at dksX1_goes_6 18 rfl rfl)
theorem dX1_goes_160 : decode cX1_goes 160 = .ok (.goto (-118), 3) := dk_167 255 138 (dk_at dksX1_goes_6 21 rfl rfl)
theorem dX1_goes_163 : decode cX1_goes 163 = .ok (.return_, 1) := dk_177 (dk_at dksX1_goes_7 0 rfl rfl)
abbrev cX1_goesBy : ByteArray := prog_1_method_52_code
def yX1_goesBy : MethodName := ⟨RX1, "goesBy", "(LWhalePost$Whale;LWhalePost$Way;)Z"⟩
def dkwX1_goesBy_4 : List UInt8 := [182, 1, 57, 21, 6, 79, 4, 62, 132, 4, 1, 167, 255, 156, 29, 172]
abbrev dktX1_goesBy_4 : List UInt8 := dkwX1_goesBy_4 ++ []
def dkwX1_goesBy_3 : List UInt8 := [180, 0, 37, 44, 21, 5, 182, 1, 57, 46, 161, 0, 6, 167, 0, 18, 42, 180, 0, 37, 44, 21, 5]
abbrev dktX1_goesBy_3 : List UInt8 := dkwX1_goesBy_3 ++ dktX1_goesBy_4
def dkwX1_goesBy_2 : List UInt8 := [180, 0, 34, 21, 5, 46, 182, 0, 243, 43, 44, 180, 0, 237, 182, 1, 54, 96, 54, 6, 21, 6, 42]
abbrev dktX1_goesBy_2 : List UInt8 := dkwX1_goesBy_2 ++ dktX1_goesBy_3
def dkwX1_goesBy_1 : List UInt8 := [180, 1, 51, 54, 5, 42, 180, 0, 34, 21, 5, 46, 19, 1, 35, 160, 0, 6, 167, 0, 60, 43, 44, 42]
abbrev dktX1_goesBy_1 : List UInt8 := dkwX1_goesBy_1 ++ dktX1_goesBy_2
def dkwX1_goesBy_0 : List UInt8 := [3, 62, 3, 54, 4, 21, 4, 5, 162, 0, 100, 21, 4, 154, 0, 10, 44, 180, 1, 48, 167, 0, 7, 44]
abbrev dktX1_goesBy_0 : List UInt8 := dkwX1_goesBy_0 ++ dktX1_goesBy_1
theorem dksX1_goesBy_0 : cX1_goesBy.data.toList.drop 0 = dktX1_goesBy_0 := by decide +kernel
theorem dksX1_goesBy_1 : cX1_goesBy.data.toList.drop 24 = dktX1_goesBy_1 := dk_seg dksX1_goesBy_0 24 rfl rfl
theorem dksX1_goesBy_2 : cX1_goesBy.data.toList.drop 48 = dktX1_goesBy_2 := dk_seg dksX1_goesBy_1 24 rfl rfl
theorem dksX1_goesBy_3 : cX1_goesBy.data.toList.drop 71 = dktX1_goesBy_3 := dk_seg dksX1_goesBy_2 23 rfl rfl
theorem dksX1_goesBy_4 : cX1_goesBy.data.toList.drop 94 = dktX1_goesBy_4 := dk_seg dksX1_goesBy_3 23 rfl rfl
theorem dX1_goesBy_0 : decode cX1_goesBy 0 = .ok (.iconst 0, 1) := dk_3 (dk_at dksX1_goesBy_0 0 rfl rfl)
theorem dX1_goesBy_1 : decode cX1_goesBy 1 = .ok (.istore_n 3, 1) := dk_62 (dk_at dksX1_goesBy_0 1 rfl rfl)
theorem dX1_goesBy_2 : decode cX1_goesBy 2 = .ok (.iconst 0, 1) := dk_3 (dk_at dksX1_goesBy_0 2 rfl rfl)
theorem dX1_goesBy_3 : decode cX1_goesBy 3 = .ok (.istore 4, 2) := dk_54 4 (dk_at dksX1_goesBy_0 3 rfl rfl)
theorem dX1_goesBy_5 : decode cX1_goesBy 5 = .ok (.iload 4, 2) := dk_21 4 (dk_at dksX1_goesBy_0 5 rfl rfl)
theorem dX1_goesBy_7 : decode cX1_goesBy 7 = .ok (.iconst 2, 1) := dk_5 (dk_at dksX1_goesBy_0 7 rfl rfl)
theorem dX1_goesBy_8 : decode cX1_goesBy 8 = .ok (.if_icmp .ge 100, 3) := dk_162 0 100 (dk_at dksX1_goesBy_0 8 rfl rfl)
theorem dX1_goesBy_11 : decode cX1_goesBy 11 = .ok (.iload 4, 2) := dk_21 4 (dk_at dksX1_goesBy_0 11 rfl rfl)
theorem dX1_goesBy_13 : decode cX1_goesBy 13 = .ok (.ifCond .ne 10, 3) := dk_154 0 10 (dk_at dksX1_goesBy_0 13 rfl rfl)
theorem dX1_goesBy_16 : decode cX1_goesBy 16 = .ok (.aload_n 2, 1) := dk_44 (dk_at dksX1_goesBy_0 16 rfl rfl)
theorem dX1_goesBy_17 : decode cX1_goesBy 17 = .ok (.getfield 304, 3) := dk_180 1 48 (dk_at dksX1_goesBy_0 17 rfl rfl)
theorem dX1_goesBy_20 : decode cX1_goesBy 20 = .ok (.goto 7, 3) := dk_167 0 7 (dk_at dksX1_goesBy_0 20 rfl rfl)
theorem dX1_goesBy_23 : decode cX1_goesBy 23 = .ok (.aload_n 2, 1) := dk_44 (dk_at dksX1_goesBy_0 23 rfl rfl)
theorem dX1_goesBy_24 : decode cX1_goesBy 24 = .ok (.getfield 307, 3) := dk_180 1 51 (dk_at dksX1_goesBy_1 0 rfl rfl)
theorem dX1_goesBy_27 : decode cX1_goesBy 27 = .ok (.istore 5, 2) := dk_54 5 (dk_at dksX1_goesBy_1 3 rfl rfl)
theorem dX1_goesBy_29 : decode cX1_goesBy 29 = .ok (.aload_n 0, 1) := dk_42 (dk_at dksX1_goesBy_1 5 rfl rfl)
theorem dX1_goesBy_30 : decode cX1_goesBy 30 = .ok (.getfield 34, 3) := dk_180 0 34 (dk_at dksX1_goesBy_1 6 rfl rfl)
theorem dX1_goesBy_33 : decode cX1_goesBy 33 = .ok (.iload 5, 2) := dk_21 5 (dk_at dksX1_goesBy_1 9 rfl rfl)
theorem dX1_goesBy_35 : decode cX1_goesBy 35 = .ok (.iaload, 1) := dk_46 (dk_at dksX1_goesBy_1 11 rfl rfl)
theorem dX1_goesBy_36 : decode cX1_goesBy 36 = .ok (.ldc_w 291, 3) := dk_19 1 35 (dk_at dksX1_goesBy_1 12 rfl rfl)
theorem dX1_goesBy_39 : decode cX1_goesBy 39 = .ok (.if_icmp .ne 6, 3) := dk_160 0 6 (dk_at dksX1_goesBy_1 15 rfl rfl)
theorem dX1_goesBy_42 : decode cX1_goesBy 42 = .ok (.goto 60, 3) := dk_167 0 60 (dk_at dksX1_goesBy_1 18 rfl rfl)
theorem dX1_goesBy_45 : decode cX1_goesBy 45 = .ok (.aload_n 1, 1) := dk_43 (dk_at dksX1_goesBy_1 21 rfl rfl)
theorem dX1_goesBy_46 : decode cX1_goesBy 46 = .ok (.aload_n 2, 1) := dk_44 (dk_at dksX1_goesBy_1 22 rfl rfl)
theorem dX1_goesBy_47 : decode cX1_goesBy 47 = .ok (.aload_n 0, 1) := dk_42 (dk_at dksX1_goesBy_1 23 rfl rfl)
theorem dX1_goesBy_48 : decode cX1_goesBy 48 = .ok (.getfield 34, 3) := dk_180 0 34 (dk_at dksX1_goesBy_2 0 rfl rfl)
theorem dX1_goesBy_51 : decode cX1_goesBy 51 = .ok (.iload 5, 2) := dk_21 5 (dk_at dksX1_goesBy_2 3 rfl rfl)
theorem dX1_goesBy_53 : decode cX1_goesBy 53 = .ok (.iaload, 1) := dk_46 (dk_at dksX1_goesBy_2 5 rfl rfl)
theorem dX1_goesBy_54 : decode cX1_goesBy 54 = .ok (.invokevirtual 243, 3) := dk_182 0 243 (dk_at dksX1_goesBy_2 6 rfl rfl)
theorem dX1_goesBy_57 : decode cX1_goesBy 57 = .ok (.aload_n 1, 1) := dk_43 (dk_at dksX1_goesBy_2 9 rfl rfl)
theorem dX1_goesBy_58 : decode cX1_goesBy 58 = .ok (.aload_n 2, 1) := dk_44 (dk_at dksX1_goesBy_2 10 rfl rfl)
theorem dX1_goesBy_59 : decode cX1_goesBy 59 = .ok (.getfield 237, 3) := dk_180 0 237 (dk_at dksX1_goesBy_2 11 rfl rfl)
theorem dX1_goesBy_62 : decode cX1_goesBy 62 = .ok (.invokevirtual 310, 3) := dk_182 1 54 (dk_at dksX1_goesBy_2 14 rfl rfl)
theorem dX1_goesBy_65 : decode cX1_goesBy 65 = .ok (.iadd, 1) := dk_96 (dk_at dksX1_goesBy_2 17 rfl rfl)
theorem dX1_goesBy_66 : decode cX1_goesBy 66 = .ok (.istore 6, 2) := dk_54 6 (dk_at dksX1_goesBy_2 18 rfl rfl)
theorem dX1_goesBy_68 : decode cX1_goesBy 68 = .ok (.iload 6, 2) := dk_21 6 (dk_at dksX1_goesBy_2 20 rfl rfl)
theorem dX1_goesBy_70 : decode cX1_goesBy 70 = .ok (.aload_n 0, 1) := dk_42 (dk_at dksX1_goesBy_2 22 rfl rfl)
theorem dX1_goesBy_71 : decode cX1_goesBy 71 = .ok (.getfield 37, 3) := dk_180 0 37 (dk_at dksX1_goesBy_3 0 rfl rfl)
theorem dX1_goesBy_74 : decode cX1_goesBy 74 = .ok (.aload_n 2, 1) := dk_44 (dk_at dksX1_goesBy_3 3 rfl rfl)
theorem dX1_goesBy_75 : decode cX1_goesBy 75 = .ok (.iload 5, 2) := dk_21 5 (dk_at dksX1_goesBy_3 4 rfl rfl)
theorem dX1_goesBy_77 : decode cX1_goesBy 77 = .ok (.invokevirtual 313, 3) := dk_182 1 57 (dk_at dksX1_goesBy_3 6 rfl rfl)
theorem dX1_goesBy_80 : decode cX1_goesBy 80 = .ok (.iaload, 1) := dk_46 (dk_at dksX1_goesBy_3 9 rfl rfl)
theorem dX1_goesBy_81 : decode cX1_goesBy 81 = .ok (.if_icmp .lt 6, 3) := dk_161 0 6 (dk_at dksX1_goesBy_3 10 rfl rfl)
theorem dX1_goesBy_84 : decode cX1_goesBy 84 = .ok (.goto 18, 3) := dk_167 0 18 (dk_at dksX1_goesBy_3 13 rfl rfl)
theorem dX1_goesBy_87 : decode cX1_goesBy 87 = .ok (.aload_n 0, 1) := dk_42 (dk_at dksX1_goesBy_3 16 rfl rfl)
theorem dX1_goesBy_88 : decode cX1_goesBy 88 = .ok (.getfield 37, 3) := dk_180 0 37 (dk_at dksX1_goesBy_3 17 rfl rfl)
theorem dX1_goesBy_91 : decode cX1_goesBy 91 = .ok (.aload_n 2, 1) := dk_44 (dk_at dksX1_goesBy_3 20 rfl rfl)
theorem dX1_goesBy_92 : decode cX1_goesBy 92 = .ok (.iload 5, 2) := dk_21 5 (dk_at dksX1_goesBy_3 21 rfl rfl)
theorem dX1_goesBy_94 : decode cX1_goesBy 94 = .ok (.invokevirtual 313, 3) := dk_182 1 57 (dk_at dksX1_goesBy_4 0 rfl rfl)
theorem dX1_goesBy_97 : decode cX1_goesBy 97 = .ok (.iload 6, 2) := dk_21 6 (dk_at dksX1_goesBy_4 3 rfl rfl)
theorem dX1_goesBy_99 : decode cX1_goesBy 99 = .ok (.iastore, 1) := dk_79 (dk_at dksX1_goesBy_4 5 rfl rfl)
theorem dX1_goesBy_100 : decode cX1_goesBy 100 = .ok (.iconst 1, 1) := dk_4 (dk_at dksX1_goesBy_4 6 rfl rfl)
theorem dX1_goesBy_101 : decode cX1_goesBy 101 = .ok (.istore_n 3, 1) := dk_62 (dk_at dksX1_goesBy_4 7 rfl rfl)
theorem dX1_goesBy_102 : decode cX1_goesBy 102 = .ok (.iinc 4 1, 3) := dk_132 4 1 (dk_at dksX1_goesBy_4 8 rfl rfl)
theorem dX1_goesBy_105 : decode cX1_goesBy 105 = .ok (.goto (-100), 3) := dk_167 255 156 (dk_at dksX1_goesBy_4 11 rfl rfl)
theorem dX1_goesBy_108 : decode cX1_goesBy 108 = .ok (.iload_n 3, 1) := dk_29 (dk_at dksX1_goesBy_4 14 rfl rfl)
theorem dX1_goesBy_109 : decode cX1_goesBy 109 = .ok (.ireturn, 1) := dk_172 (dk_at dksX1_goesBy_4 15 rfl rfl)
abbrev cX1_brings : ByteArray := prog_1_method_58_code
def yX1_brings : MethodName := ⟨RX1, "brings", "(II)I"⟩
def dkwX1_brings_1 : List UInt8 := [182, 0, 69, 167, 0, 8, 42, 4, 182, 0, 65, 172]
abbrev dktX1_brings_1 : List UInt8 := dkwX1_brings_1 ++ []
def dkwX1_brings_0 : List UInt8 := [42, 27, 182, 0, 145, 153, 0, 24, 42, 28, 182, 0, 168, 153, 0, 16, 42, 42, 27, 28, 182, 1, 78]
abbrev dktX1_brings_0 : List UInt8 := dkwX1_brings_0 ++ dktX1_brings_1
theorem dksX1_brings_0 : cX1_brings.data.toList.drop 0 = dktX1_brings_0 := by decide +kernel
theorem dksX1_brings_1 : cX1_brings.data.toList.drop 23 = dktX1_brings_1 := dk_seg dksX1_brings_0 23 rfl rfl
theorem dX1_brings_0 : decode cX1_brings 0 = .ok (.aload_n 0, 1) := dk_42 (dk_at dksX1_brings_0 0 rfl rfl)
theorem dX1_brings_1 : decode cX1_brings 1 = .ok (.iload_n 1, 1) := dk_27 (dk_at dksX1_brings_0 1 rfl rfl)
theorem dX1_brings_2 : decode cX1_brings 2 = .ok (.invokevirtual 145, 3) := dk_182 0 145 (dk_at dksX1_brings_0 2 rfl rfl)
theorem dX1_brings_5 : decode cX1_brings 5 = .ok (.ifCond .eq 24, 3) := dk_153 0 24 (dk_at dksX1_brings_0 5 rfl rfl)
theorem dX1_brings_8 : decode cX1_brings 8 = .ok (.aload_n 0, 1) := dk_42 (dk_at dksX1_brings_0 8 rfl rfl)
theorem dX1_brings_9 : decode cX1_brings 9 = .ok (.iload_n 2, 1) := dk_28 (dk_at dksX1_brings_0 9 rfl rfl)
theorem dX1_brings_10 : decode cX1_brings 10 = .ok (.invokevirtual 168, 3) := dk_182 0 168 (dk_at dksX1_brings_0 10 rfl rfl)
theorem dX1_brings_13 : decode cX1_brings 13 = .ok (.ifCond .eq 16, 3) := dk_153 0 16 (dk_at dksX1_brings_0 13 rfl rfl)
theorem dX1_brings_16 : decode cX1_brings 16 = .ok (.aload_n 0, 1) := dk_42 (dk_at dksX1_brings_0 16 rfl rfl)
theorem dX1_brings_17 : decode cX1_brings 17 = .ok (.aload_n 0, 1) := dk_42 (dk_at dksX1_brings_0 17 rfl rfl)
theorem dX1_brings_18 : decode cX1_brings 18 = .ok (.iload_n 1, 1) := dk_27 (dk_at dksX1_brings_0 18 rfl rfl)
theorem dX1_brings_19 : decode cX1_brings 19 = .ok (.iload_n 2, 1) := dk_28 (dk_at dksX1_brings_0 19 rfl rfl)
theorem dX1_brings_20 : decode cX1_brings 20 = .ok (.invokevirtual 334, 3) := dk_182 1 78 (dk_at dksX1_brings_0 20 rfl rfl)
theorem dX1_brings_23 : decode cX1_brings 23 = .ok (.invokevirtual 69, 3) := dk_182 0 69 (dk_at dksX1_brings_1 0 rfl rfl)
theorem dX1_brings_26 : decode cX1_brings 26 = .ok (.goto 8, 3) := dk_167 0 8 (dk_at dksX1_brings_1 3 rfl rfl)
theorem dX1_brings_29 : decode cX1_brings 29 = .ok (.aload_n 0, 1) := dk_42 (dk_at dksX1_brings_1 6 rfl rfl)
theorem dX1_brings_30 : decode cX1_brings 30 = .ok (.iconst 1, 1) := dk_4 (dk_at dksX1_brings_1 7 rfl rfl)
theorem dX1_brings_31 : decode cX1_brings 31 = .ok (.invokevirtual 65, 3) := dk_182 0 65 (dk_at dksX1_brings_1 8 rfl rfl)
theorem dX1_brings_34 : decode cX1_brings 34 = .ok (.ireturn, 1) := dk_172 (dk_at dksX1_brings_1 11 rfl rfl)
abbrev cX1_broughtBy : ByteArray := prog_1_method_57_code
def yX1_broughtBy : MethodName := ⟨RX1, "broughtBy", "(II)I"⟩
def dkwX1_broughtBy_1 : List UInt8 := [180, 0, 162, 96, 172]
abbrev dktX1_broughtBy_1 : List UInt8 := dkwX1_broughtBy_1 ++ []
def dkwX1_broughtBy_0 : List UInt8 := [42, 27, 28, 182, 1, 75, 62, 29, 16, 254, 160, 0, 8, 16, 254, 167, 0, 13, 29, 42, 27, 182, 0, 149]
abbrev dktX1_broughtBy_0 : List UInt8 := dkwX1_broughtBy_0 ++ dktX1_broughtBy_1
theorem dksX1_broughtBy_0 : cX1_broughtBy.data.toList.drop 0 = dktX1_broughtBy_0 := by decide +kernel
theorem dksX1_broughtBy_1 : cX1_broughtBy.data.toList.drop 24 = dktX1_broughtBy_1 := dk_seg dksX1_broughtBy_0 24 rfl rfl
theorem dX1_broughtBy_0 : decode cX1_broughtBy 0 = .ok (.aload_n 0, 1) := dk_42 (dk_at dksX1_broughtBy_0 0 rfl rfl)
theorem dX1_broughtBy_1 : decode cX1_broughtBy 1 = .ok (.iload_n 1, 1) := dk_27 (dk_at dksX1_broughtBy_0 1 rfl rfl)
theorem dX1_broughtBy_2 : decode cX1_broughtBy 2 = .ok (.iload_n 2, 1) := dk_28 (dk_at dksX1_broughtBy_0 2 rfl rfl)
theorem dX1_broughtBy_3 : decode cX1_broughtBy 3 = .ok (.invokevirtual 331, 3) := dk_182 1 75 (dk_at dksX1_broughtBy_0 3 rfl rfl)
theorem dX1_broughtBy_6 : decode cX1_broughtBy 6 = .ok (.istore_n 3, 1) := dk_62 (dk_at dksX1_broughtBy_0 6 rfl rfl)
theorem dX1_broughtBy_7 : decode cX1_broughtBy 7 = .ok (.iload_n 3, 1) := dk_29 (dk_at dksX1_broughtBy_0 7 rfl rfl)
theorem dX1_broughtBy_8 : decode cX1_broughtBy 8 = .ok (.bipush (-2), 2) := dk_16 254 (dk_at dksX1_broughtBy_0 8 rfl rfl)
theorem dX1_broughtBy_10 : decode cX1_broughtBy 10 = .ok (.if_icmp .ne 8, 3) := dk_160 0 8 (dk_at dksX1_broughtBy_0 10 rfl rfl)
theorem dX1_broughtBy_13 : decode cX1_broughtBy 13 = .ok (.bipush (-2), 2) := dk_16 254 (dk_at dksX1_broughtBy_0 13 rfl rfl)
theorem dX1_broughtBy_15 : decode cX1_broughtBy 15 = .ok (.goto 13, 3) := dk_167 0 13 (dk_at dksX1_broughtBy_0 15 rfl rfl)
theorem dX1_broughtBy_18 : decode cX1_broughtBy 18 = .ok (.iload_n 3, 1) := dk_29 (dk_at dksX1_broughtBy_0 18 rfl rfl)
theorem dX1_broughtBy_19 : decode cX1_broughtBy 19 = .ok (.aload_n 0, 1) := dk_42 (dk_at dksX1_broughtBy_0 19 rfl rfl)
theorem dX1_broughtBy_20 : decode cX1_broughtBy 20 = .ok (.iload_n 1, 1) := dk_27 (dk_at dksX1_broughtBy_0 20 rfl rfl)
theorem dX1_broughtBy_21 : decode cX1_broughtBy 21 = .ok (.invokevirtual 149, 3) := dk_182 0 149 (dk_at dksX1_broughtBy_0 21 rfl rfl)
theorem dX1_broughtBy_24 : decode cX1_broughtBy 24 = .ok (.getfield 162, 3) := dk_180 0 162 (dk_at dksX1_broughtBy_1 0 rfl rfl)
theorem dX1_broughtBy_27 : decode cX1_broughtBy 27 = .ok (.iadd, 1) := dk_96 (dk_at dksX1_broughtBy_1 3 rfl rfl)
theorem dX1_broughtBy_28 : decode cX1_broughtBy 28 = .ok (.ireturn, 1) := dk_172 (dk_at dksX1_broughtBy_1 4 rfl rfl)
abbrev cX1_comes : ByteArray := prog_1_method_56_code
def yX1_comes : MethodName := ⟨RX1, "comes", "(II)I"⟩
def dkwX1_comes_1 : List UInt8 := [42, 28, 182, 0, 171, 180, 0, 175, 42, 28, 182, 0, 216, 29, 182, 1, 62, 172]
abbrev dktX1_comes_1 : List UInt8 := dkwX1_comes_1 ++ []
def dkwX1_comes_0 : List UInt8 := [42, 27, 28, 182, 1, 72, 62, 29, 16, 254, 160, 0, 8, 16, 254, 167, 0, 26, 42, 42, 27, 182, 0, 149]
abbrev dktX1_comes_0 : List UInt8 := dkwX1_comes_0 ++ dktX1_comes_1
theorem dksX1_comes_0 : cX1_comes.data.toList.drop 0 = dktX1_comes_0 := by decide +kernel
theorem dksX1_comes_1 : cX1_comes.data.toList.drop 24 = dktX1_comes_1 := dk_seg dksX1_comes_0 24 rfl rfl
theorem dX1_comes_0 : decode cX1_comes 0 = .ok (.aload_n 0, 1) := dk_42 (dk_at dksX1_comes_0 0 rfl rfl)
theorem dX1_comes_1 : decode cX1_comes 1 = .ok (.iload_n 1, 1) := dk_27 (dk_at dksX1_comes_0 1 rfl rfl)
theorem dX1_comes_2 : decode cX1_comes 2 = .ok (.iload_n 2, 1) := dk_28 (dk_at dksX1_comes_0 2 rfl rfl)
theorem dX1_comes_3 : decode cX1_comes 3 = .ok (.invokevirtual 328, 3) := dk_182 1 72 (dk_at dksX1_comes_0 3 rfl rfl)
theorem dX1_comes_6 : decode cX1_comes 6 = .ok (.istore_n 3, 1) := dk_62 (dk_at dksX1_comes_0 6 rfl rfl)
theorem dX1_comes_7 : decode cX1_comes 7 = .ok (.iload_n 3, 1) := dk_29 (dk_at dksX1_comes_0 7 rfl rfl)
theorem dX1_comes_8 : decode cX1_comes 8 = .ok (.bipush (-2), 2) := dk_16 254 (dk_at dksX1_comes_0 8 rfl rfl)
theorem dX1_comes_10 : decode cX1_comes 10 = .ok (.if_icmp .ne 8, 3) := dk_160 0 8 (dk_at dksX1_comes_0 10 rfl rfl)
theorem dX1_comes_13 : decode cX1_comes 13 = .ok (.bipush (-2), 2) := dk_16 254 (dk_at dksX1_comes_0 13 rfl rfl)
theorem dX1_comes_15 : decode cX1_comes 15 = .ok (.goto 26, 3) := dk_167 0 26 (dk_at dksX1_comes_0 15 rfl rfl)
theorem dX1_comes_18 : decode cX1_comes 18 = .ok (.aload_n 0, 1) := dk_42 (dk_at dksX1_comes_0 18 rfl rfl)
theorem dX1_comes_19 : decode cX1_comes 19 = .ok (.aload_n 0, 1) := dk_42 (dk_at dksX1_comes_0 19 rfl rfl)
theorem dX1_comes_20 : decode cX1_comes 20 = .ok (.iload_n 1, 1) := dk_27 (dk_at dksX1_comes_0 20 rfl rfl)
theorem dX1_comes_21 : decode cX1_comes 21 = .ok (.invokevirtual 149, 3) := dk_182 0 149 (dk_at dksX1_comes_0 21 rfl rfl)
theorem dX1_comes_24 : decode cX1_comes 24 = .ok (.aload_n 0, 1) := dk_42 (dk_at dksX1_comes_1 0 rfl rfl)
theorem dX1_comes_25 : decode cX1_comes 25 = .ok (.iload_n 2, 1) := dk_28 (dk_at dksX1_comes_1 1 rfl rfl)
theorem dX1_comes_26 : decode cX1_comes 26 = .ok (.invokevirtual 171, 3) := dk_182 0 171 (dk_at dksX1_comes_1 2 rfl rfl)
theorem dX1_comes_29 : decode cX1_comes 29 = .ok (.getfield 175, 3) := dk_180 0 175 (dk_at dksX1_comes_1 5 rfl rfl)
theorem dX1_comes_32 : decode cX1_comes 32 = .ok (.aload_n 0, 1) := dk_42 (dk_at dksX1_comes_1 8 rfl rfl)
theorem dX1_comes_33 : decode cX1_comes 33 = .ok (.iload_n 2, 1) := dk_28 (dk_at dksX1_comes_1 9 rfl rfl)
theorem dX1_comes_34 : decode cX1_comes 34 = .ok (.invokevirtual 216, 3) := dk_182 0 216 (dk_at dksX1_comes_1 10 rfl rfl)
theorem dX1_comes_37 : decode cX1_comes 37 = .ok (.iload_n 3, 1) := dk_29 (dk_at dksX1_comes_1 13 rfl rfl)
theorem dX1_comes_38 : decode cX1_comes 38 = .ok (.invokevirtual 318, 3) := dk_182 1 62 (dk_at dksX1_comes_1 14 rfl rfl)
theorem dX1_comes_41 : decode cX1_comes 41 = .ok (.ireturn, 1) := dk_172 (dk_at dksX1_comes_1 17 rfl rfl)
abbrev cX1_takes : ByteArray := prog_1_method_55_code
def yX1_takes : MethodName := ⟨RX1, "takes", "(II)I"⟩
def dkwX1_takes_4 : List UInt8 := [167, 0, 12, 21, 4, 45, 180, 0, 184, 184, 1, 69, 172]
abbrev dktX1_takes_4 : List UInt8 := dkwX1_takes_4 ++ []
def dkwX1_takes_3 : List UInt8 := [180, 0, 111, 180, 0, 159, 27, 46, 182, 1, 62, 54, 4, 21, 4, 16, 254, 160, 0, 8, 16, 254]
abbrev dktX1_takes_3 : List UInt8 := dkwX1_takes_3 ++ dktX1_takes_4
def dkwX1_takes_2 : List UInt8 := [16, 254, 172, 42, 42, 27, 182, 0, 149, 42, 180, 0, 111, 180, 0, 156, 27, 46, 45, 180, 0, 175, 42]
abbrev dktX1_takes_2 : List UInt8 := dkwX1_takes_2 ++ dktX1_takes_3
def dkwX1_takes_1 : List UInt8 := [180, 0, 111, 180, 0, 187, 28, 46, 16, 254, 160, 0, 13, 42, 28, 182, 0, 216, 16, 254, 160, 0, 6]
abbrev dktX1_takes_1 : List UInt8 := dkwX1_takes_1 ++ dktX1_takes_2
def dkwX1_takes_0 : List UInt8 := [42, 28, 182, 0, 171, 78, 45, 180, 0, 181, 42, 27, 182, 0, 149, 182, 1, 66, 163, 0, 27, 42]
abbrev dktX1_takes_0 : List UInt8 := dkwX1_takes_0 ++ dktX1_takes_1
theorem dksX1_takes_0 : cX1_takes.data.toList.drop 0 = dktX1_takes_0 := by decide +kernel
theorem dksX1_takes_1 : cX1_takes.data.toList.drop 22 = dktX1_takes_1 := dk_seg dksX1_takes_0 22 rfl rfl
theorem dksX1_takes_2 : cX1_takes.data.toList.drop 45 = dktX1_takes_2 := dk_seg dksX1_takes_1 23 rfl rfl
theorem dksX1_takes_3 : cX1_takes.data.toList.drop 68 = dktX1_takes_3 := dk_seg dksX1_takes_2 23 rfl rfl
theorem dksX1_takes_4 : cX1_takes.data.toList.drop 90 = dktX1_takes_4 := dk_seg dksX1_takes_3 22 rfl rfl
theorem dX1_takes_0 : decode cX1_takes 0 = .ok (.aload_n 0, 1) := dk_42 (dk_at dksX1_takes_0 0 rfl rfl)
theorem dX1_takes_1 : decode cX1_takes 1 = .ok (.iload_n 2, 1) := dk_28 (dk_at dksX1_takes_0 1 rfl rfl)
theorem dX1_takes_2 : decode cX1_takes 2 = .ok (.invokevirtual 171, 3) := dk_182 0 171 (dk_at dksX1_takes_0 2 rfl rfl)
theorem dX1_takes_5 : decode cX1_takes 5 = .ok (.astore_n 3, 1) := dk_78 (dk_at dksX1_takes_0 5 rfl rfl)
theorem dX1_takes_6 : decode cX1_takes 6 = .ok (.aload_n 3, 1) := dk_45 (dk_at dksX1_takes_0 6 rfl rfl)
theorem dX1_takes_7 : decode cX1_takes 7 = .ok (.getfield 181, 3) := dk_180 0 181 (dk_at dksX1_takes_0 7 rfl rfl)
theorem dX1_takes_10 : decode cX1_takes 10 = .ok (.aload_n 0, 1) := dk_42 (dk_at dksX1_takes_0 10 rfl rfl)
theorem dX1_takes_11 : decode cX1_takes 11 = .ok (.iload_n 1, 1) := dk_27 (dk_at dksX1_takes_0 11 rfl rfl)
theorem dX1_takes_12 : decode cX1_takes 12 = .ok (.invokevirtual 149, 3) := dk_182 0 149 (dk_at dksX1_takes_0 12 rfl rfl)
theorem dX1_takes_15 : decode cX1_takes 15 = .ok (.invokevirtual 322, 3) := dk_182 1 66 (dk_at dksX1_takes_0 15 rfl rfl)
theorem dX1_takes_18 : decode cX1_takes 18 = .ok (.if_icmp .gt 27, 3) := dk_163 0 27 (dk_at dksX1_takes_0 18 rfl rfl)
theorem dX1_takes_21 : decode cX1_takes 21 = .ok (.aload_n 0, 1) := dk_42 (dk_at dksX1_takes_0 21 rfl rfl)
theorem dX1_takes_22 : decode cX1_takes 22 = .ok (.getfield 111, 3) := dk_180 0 111 (dk_at dksX1_takes_1 0 rfl rfl)
theorem dX1_takes_25 : decode cX1_takes 25 = .ok (.getfield 187, 3) := dk_180 0 187 (dk_at dksX1_takes_1 3 rfl rfl)
theorem dX1_takes_28 : decode cX1_takes 28 = .ok (.iload_n 2, 1) := dk_28 (dk_at dksX1_takes_1 6 rfl rfl)
theorem dX1_takes_29 : decode cX1_takes 29 = .ok (.iaload, 1) := dk_46 (dk_at dksX1_takes_1 7 rfl rfl)
theorem dX1_takes_30 : decode cX1_takes 30 = .ok (.bipush (-2), 2) := dk_16 254 (dk_at dksX1_takes_1 8 rfl rfl)
theorem dX1_takes_32 : decode cX1_takes 32 = .ok (.if_icmp .ne 13, 3) := dk_160 0 13 (dk_at dksX1_takes_1 10 rfl rfl)
theorem dX1_takes_35 : decode cX1_takes 35 = .ok (.aload_n 0, 1) := dk_42 (dk_at dksX1_takes_1 13 rfl rfl)
theorem dX1_takes_36 : decode cX1_takes 36 = .ok (.iload_n 2, 1) := dk_28 (dk_at dksX1_takes_1 14 rfl rfl)
theorem dX1_takes_37 : decode cX1_takes 37 = .ok (.invokevirtual 216, 3) := dk_182 0 216 (dk_at dksX1_takes_1 15 rfl rfl)
theorem dX1_takes_40 : decode cX1_takes 40 = .ok (.bipush (-2), 2) := dk_16 254 (dk_at dksX1_takes_1 18 rfl rfl)
theorem dX1_takes_42 : decode cX1_takes 42 = .ok (.if_icmp .ne 6, 3) := dk_160 0 6 (dk_at dksX1_takes_1 20 rfl rfl)
theorem dX1_takes_45 : decode cX1_takes 45 = .ok (.bipush (-2), 2) := dk_16 254 (dk_at dksX1_takes_2 0 rfl rfl)
theorem dX1_takes_47 : decode cX1_takes 47 = .ok (.ireturn, 1) := dk_172 (dk_at dksX1_takes_2 2 rfl rfl)
theorem dX1_takes_48 : decode cX1_takes 48 = .ok (.aload_n 0, 1) := dk_42 (dk_at dksX1_takes_2 3 rfl rfl)
theorem dX1_takes_49 : decode cX1_takes 49 = .ok (.aload_n 0, 1) := dk_42 (dk_at dksX1_takes_2 4 rfl rfl)
theorem dX1_takes_50 : decode cX1_takes 50 = .ok (.iload_n 1, 1) := dk_27 (dk_at dksX1_takes_2 5 rfl rfl)
theorem dX1_takes_51 : decode cX1_takes 51 = .ok (.invokevirtual 149, 3) := dk_182 0 149 (dk_at dksX1_takes_2 6 rfl rfl)
theorem dX1_takes_54 : decode cX1_takes 54 = .ok (.aload_n 0, 1) := dk_42 (dk_at dksX1_takes_2 9 rfl rfl)
theorem dX1_takes_55 : decode cX1_takes 55 = .ok (.getfield 111, 3) := dk_180 0 111 (dk_at dksX1_takes_2 10 rfl rfl)
theorem dX1_takes_58 : decode cX1_takes 58 = .ok (.getfield 156, 3) := dk_180 0 156 (dk_at dksX1_takes_2 13 rfl rfl)
theorem dX1_takes_61 : decode cX1_takes 61 = .ok (.iload_n 1, 1) := dk_27 (dk_at dksX1_takes_2 16 rfl rfl)
theorem dX1_takes_62 : decode cX1_takes 62 = .ok (.iaload, 1) := dk_46 (dk_at dksX1_takes_2 17 rfl rfl)
theorem dX1_takes_63 : decode cX1_takes 63 = .ok (.aload_n 3, 1) := dk_45 (dk_at dksX1_takes_2 18 rfl rfl)
theorem dX1_takes_64 : decode cX1_takes 64 = .ok (.getfield 175, 3) := dk_180 0 175 (dk_at dksX1_takes_2 19 rfl rfl)
theorem dX1_takes_67 : decode cX1_takes 67 = .ok (.aload_n 0, 1) := dk_42 (dk_at dksX1_takes_2 22 rfl rfl)
theorem dX1_takes_68 : decode cX1_takes 68 = .ok (.getfield 111, 3) := dk_180 0 111 (dk_at dksX1_takes_3 0 rfl rfl)
theorem dX1_takes_71 : decode cX1_takes 71 = .ok (.getfield 159, 3) := dk_180 0 159 (dk_at dksX1_takes_3 3 rfl rfl)
theorem dX1_takes_74 : decode cX1_takes 74 = .ok (.iload_n 1, 1) := dk_27 (dk_at dksX1_takes_3 6 rfl rfl)
theorem dX1_takes_75 : decode cX1_takes 75 = .ok (.iaload, 1) := dk_46 (dk_at dksX1_takes_3 7 rfl rfl)
theorem dX1_takes_76 : decode cX1_takes 76 = .ok (.invokevirtual 318, 3) := dk_182 1 62 (dk_at dksX1_takes_3 8 rfl rfl)
theorem dX1_takes_79 : decode cX1_takes 79 = .ok (.istore 4, 2) := dk_54 4 (dk_at dksX1_takes_3 11 rfl rfl)
theorem dX1_takes_81 : decode cX1_takes 81 = .ok (.iload 4, 2) := dk_21 4 (dk_at dksX1_takes_3 13 rfl rfl)
theorem dX1_takes_83 : decode cX1_takes 83 = .ok (.bipush (-2), 2) := dk_16 254 (dk_at dksX1_takes_3 15 rfl rfl)
theorem dX1_takes_85 : decode cX1_takes 85 = .ok (.if_icmp .ne 8, 3) := dk_160 0 8 (dk_at dksX1_takes_3 17 rfl rfl)
theorem dX1_takes_88 : decode cX1_takes 88 = .ok (.bipush (-2), 2) := dk_16 254 (dk_at dksX1_takes_3 20 rfl rfl)
theorem dX1_takes_90 : decode cX1_takes 90 = .ok (.goto 12, 3) := dk_167 0 12 (dk_at dksX1_takes_4 0 rfl rfl)
theorem dX1_takes_93 : decode cX1_takes 93 = .ok (.iload 4, 2) := dk_21 4 (dk_at dksX1_takes_4 3 rfl rfl)
theorem dX1_takes_95 : decode cX1_takes 95 = .ok (.aload_n 3, 1) := dk_45 (dk_at dksX1_takes_4 5 rfl rfl)
theorem dX1_takes_96 : decode cX1_takes 96 = .ok (.getfield 184, 3) := dk_180 0 184 (dk_at dksX1_takes_4 6 rfl rfl)
theorem dX1_takes_99 : decode cX1_takes 99 = .ok (.invokestatic 325, 3) := dk_184 1 69 (dk_at dksX1_takes_4 9 rfl rfl)
theorem dX1_takes_102 : decode cX1_takes 102 = .ok (.ireturn, 1) := dk_172 (dk_at dksX1_takes_4 12 rfl rfl)
abbrev cX1_soonest : ByteArray := prog_1_method_59_code
def yX1_soonest : MethodName := ⟨RX1, "soonest", "(I)I"⟩
def dkwX1_soonest_3 : List UInt8 := [167, 255, 205, 42, 28, 182, 0, 69, 172]
abbrev dktX1_soonest_3 : List UInt8 := dkwX1_soonest_3 ++ []
def dkwX1_soonest_2 : List UInt8 := [28, 16, 254, 159, 0, 14, 21, 4, 42, 28, 27, 182, 1, 78, 162, 0, 5, 29, 61, 132, 3, 1]
abbrev dktX1_soonest_2 : List UInt8 := dkwX1_soonest_2 ++ dktX1_soonest_3
def dkwX1_soonest_1 : List UInt8 := [180, 0, 131, 182, 0, 127, 162, 0, 43, 42, 29, 27, 182, 1, 78, 54, 4, 21, 4, 16, 254, 159, 0, 22]
abbrev dktX1_soonest_1 : List UInt8 := dkwX1_soonest_1 ++ dktX1_soonest_2
def dkwX1_soonest_0 : List UInt8 := [42, 27, 182, 0, 168, 154, 0, 9, 42, 4, 182, 0, 65, 172, 16, 254, 61, 3, 62, 29, 42, 180, 0, 104]
abbrev dktX1_soonest_0 : List UInt8 := dkwX1_soonest_0 ++ dktX1_soonest_1
theorem dksX1_soonest_0 : cX1_soonest.data.toList.drop 0 = dktX1_soonest_0 := by decide +kernel
theorem dksX1_soonest_1 : cX1_soonest.data.toList.drop 24 = dktX1_soonest_1 := dk_seg dksX1_soonest_0 24 rfl rfl
theorem dksX1_soonest_2 : cX1_soonest.data.toList.drop 48 = dktX1_soonest_2 := dk_seg dksX1_soonest_1 24 rfl rfl
theorem dksX1_soonest_3 : cX1_soonest.data.toList.drop 70 = dktX1_soonest_3 := dk_seg dksX1_soonest_2 22 rfl rfl
theorem dX1_soonest_0 : decode cX1_soonest 0 = .ok (.aload_n 0, 1) := dk_42 (dk_at dksX1_soonest_0 0 rfl rfl)
theorem dX1_soonest_1 : decode cX1_soonest 1 = .ok (.iload_n 1, 1) := dk_27 (dk_at dksX1_soonest_0 1 rfl rfl)
theorem dX1_soonest_2 : decode cX1_soonest 2 = .ok (.invokevirtual 168, 3) := dk_182 0 168 (dk_at dksX1_soonest_0 2 rfl rfl)
theorem dX1_soonest_5 : decode cX1_soonest 5 = .ok (.ifCond .ne 9, 3) := dk_154 0 9 (dk_at dksX1_soonest_0 5 rfl rfl)
theorem dX1_soonest_8 : decode cX1_soonest 8 = .ok (.aload_n 0, 1) := dk_42 (dk_at dksX1_soonest_0 8 rfl rfl)
theorem dX1_soonest_9 : decode cX1_soonest 9 = .ok (.iconst 1, 1) := dk_4 (dk_at dksX1_soonest_0 9 rfl rfl)
theorem dX1_soonest_10 : decode cX1_soonest 10 = .ok (.invokevirtual 65, 3) := dk_182 0 65 (dk_at dksX1_soonest_0 10 rfl rfl)
theorem dX1_soonest_13 : decode cX1_soonest 13 = .ok (.ireturn, 1) := dk_172 (dk_at dksX1_soonest_0 13 rfl rfl)
theorem dX1_soonest_14 : decode cX1_soonest 14 = .ok (.bipush (-2), 2) := dk_16 254 (dk_at dksX1_soonest_0 14 rfl rfl)
theorem dX1_soonest_16 : decode cX1_soonest 16 = .ok (.istore_n 2, 1) := dk_61 (dk_at dksX1_soonest_0 16 rfl rfl)
theorem dX1_soonest_17 : decode cX1_soonest 17 = .ok (.iconst 0, 1) := dk_3 (dk_at dksX1_soonest_0 17 rfl rfl)
theorem dX1_soonest_18 : decode cX1_soonest 18 = .ok (.istore_n 3, 1) := dk_62 (dk_at dksX1_soonest_0 18 rfl rfl)
theorem dX1_soonest_19 : decode cX1_soonest 19 = .ok (.iload_n 3, 1) := dk_29 (dk_at dksX1_soonest_0 19 rfl rfl)
theorem dX1_soonest_20 : decode cX1_soonest 20 = .ok (.aload_n 0, 1) := dk_42 (dk_at dksX1_soonest_0 20 rfl rfl)
theorem dX1_soonest_21 : decode cX1_soonest 21 = .ok (.getfield 104, 3) := dk_180 0 104 (dk_at dksX1_soonest_0 21 rfl rfl)
theorem dX1_soonest_24 : decode cX1_soonest 24 = .ok (.getfield 131, 3) := dk_180 0 131 (dk_at dksX1_soonest_1 0 rfl rfl)
theorem dX1_soonest_27 : decode cX1_soonest 27 = .ok (.invokevirtual 127, 3) := dk_182 0 127 (dk_at dksX1_soonest_1 3 rfl rfl)
theorem dX1_soonest_30 : decode cX1_soonest 30 = .ok (.if_icmp .ge 43, 3) := dk_162 0 43 (dk_at dksX1_soonest_1 6 rfl rfl)
theorem dX1_soonest_33 : decode cX1_soonest 33 = .ok (.aload_n 0, 1) := dk_42 (dk_at dksX1_soonest_1 9 rfl rfl)
theorem dX1_soonest_34 : decode cX1_soonest 34 = .ok (.iload_n 3, 1) := dk_29 (dk_at dksX1_soonest_1 10 rfl rfl)
theorem dX1_soonest_35 : decode cX1_soonest 35 = .ok (.iload_n 1, 1) := dk_27 (dk_at dksX1_soonest_1 11 rfl rfl)
theorem dX1_soonest_36 : decode cX1_soonest 36 = .ok (.invokevirtual 334, 3) := dk_182 1 78 (dk_at dksX1_soonest_1 12 rfl rfl)
theorem dX1_soonest_39 : decode cX1_soonest 39 = .ok (.istore 4, 2) := dk_54 4 (dk_at dksX1_soonest_1 15 rfl rfl)
theorem dX1_soonest_41 : decode cX1_soonest 41 = .ok (.iload 4, 2) := dk_21 4 (dk_at dksX1_soonest_1 17 rfl rfl)
theorem dX1_soonest_43 : decode cX1_soonest 43 = .ok (.bipush (-2), 2) := dk_16 254 (dk_at dksX1_soonest_1 19 rfl rfl)
theorem dX1_soonest_45 : decode cX1_soonest 45 = .ok (.if_icmp .eq 22, 3) := dk_159 0 22 (dk_at dksX1_soonest_1 21 rfl rfl)
theorem dX1_soonest_48 : decode cX1_soonest 48 = .ok (.iload_n 2, 1) := dk_28 (dk_at dksX1_soonest_2 0 rfl rfl)
theorem dX1_soonest_49 : decode cX1_soonest 49 = .ok (.bipush (-2), 2) := dk_16 254 (dk_at dksX1_soonest_2 1 rfl rfl)
theorem dX1_soonest_51 : decode cX1_soonest 51 = .ok (.if_icmp .eq 14, 3) := dk_159 0 14 (dk_at dksX1_soonest_2 3 rfl rfl)
theorem dX1_soonest_54 : decode cX1_soonest 54 = .ok (.iload 4, 2) := dk_21 4 (dk_at dksX1_soonest_2 6 rfl rfl)
theorem dX1_soonest_56 : decode cX1_soonest 56 = .ok (.aload_n 0, 1) := dk_42 (dk_at dksX1_soonest_2 8 rfl rfl)
theorem dX1_soonest_57 : decode cX1_soonest 57 = .ok (.iload_n 2, 1) := dk_28 (dk_at dksX1_soonest_2 9 rfl rfl)
theorem dX1_soonest_58 : decode cX1_soonest 58 = .ok (.iload_n 1, 1) := dk_27 (dk_at dksX1_soonest_2 10 rfl rfl)
theorem dX1_soonest_59 : decode cX1_soonest 59 = .ok (.invokevirtual 334, 3) := dk_182 1 78 (dk_at dksX1_soonest_2 11 rfl rfl)
theorem dX1_soonest_62 : decode cX1_soonest 62 = .ok (.if_icmp .ge 5, 3) := dk_162 0 5 (dk_at dksX1_soonest_2 14 rfl rfl)
theorem dX1_soonest_65 : decode cX1_soonest 65 = .ok (.iload_n 3, 1) := dk_29 (dk_at dksX1_soonest_2 17 rfl rfl)
theorem dX1_soonest_66 : decode cX1_soonest 66 = .ok (.istore_n 2, 1) := dk_61 (dk_at dksX1_soonest_2 18 rfl rfl)
theorem dX1_soonest_67 : decode cX1_soonest 67 = .ok (.iinc 3 1, 3) := dk_132 3 1 (dk_at dksX1_soonest_2 19 rfl rfl)
theorem dX1_soonest_70 : decode cX1_soonest 70 = .ok (.goto (-51), 3) := dk_167 255 205 (dk_at dksX1_soonest_3 0 rfl rfl)
theorem dX1_soonest_73 : decode cX1_soonest 73 = .ok (.aload_n 0, 1) := dk_42 (dk_at dksX1_soonest_3 3 rfl rfl)
theorem dX1_soonest_74 : decode cX1_soonest 74 = .ok (.iload_n 2, 1) := dk_28 (dk_at dksX1_soonest_3 4 rfl rfl)
theorem dX1_soonest_75 : decode cX1_soonest 75 = .ok (.invokevirtual 69, 3) := dk_182 0 69 (dk_at dksX1_soonest_3 5 rfl rfl)
theorem dX1_soonest_78 : decode cX1_soonest 78 = .ok (.ireturn, 1) := dk_172 (dk_at dksX1_soonest_3 8 rfl rfl)
abbrev cX1_surest : ByteArray := prog_1_method_61_code
def yX1_surest : MethodName := ⟨RX1, "surest", "(I)I"⟩
def dkwX1_surest_1 : List UInt8 := [182, 0, 65, 172]
abbrev dktX1_surest_1 : List UInt8 := dkwX1_surest_1 ++ []
def dkwX1_surest_0 : List UInt8 := [42, 27, 182, 0, 168, 153, 0, 17, 42, 42, 27, 16, 254, 182, 1, 81, 182, 0, 69, 167, 0, 8, 42, 4]
abbrev dktX1_surest_0 : List UInt8 := dkwX1_surest_0 ++ dktX1_surest_1
theorem dksX1_surest_0 : cX1_surest.data.toList.drop 0 = dktX1_surest_0 := by decide +kernel
theorem dksX1_surest_1 : cX1_surest.data.toList.drop 24 = dktX1_surest_1 := dk_seg dksX1_surest_0 24 rfl rfl
theorem dX1_surest_0 : decode cX1_surest 0 = .ok (.aload_n 0, 1) := dk_42 (dk_at dksX1_surest_0 0 rfl rfl)
theorem dX1_surest_1 : decode cX1_surest 1 = .ok (.iload_n 1, 1) := dk_27 (dk_at dksX1_surest_0 1 rfl rfl)
theorem dX1_surest_2 : decode cX1_surest 2 = .ok (.invokevirtual 168, 3) := dk_182 0 168 (dk_at dksX1_surest_0 2 rfl rfl)
theorem dX1_surest_5 : decode cX1_surest 5 = .ok (.ifCond .eq 17, 3) := dk_153 0 17 (dk_at dksX1_surest_0 5 rfl rfl)
theorem dX1_surest_8 : decode cX1_surest 8 = .ok (.aload_n 0, 1) := dk_42 (dk_at dksX1_surest_0 8 rfl rfl)
theorem dX1_surest_9 : decode cX1_surest 9 = .ok (.aload_n 0, 1) := dk_42 (dk_at dksX1_surest_0 9 rfl rfl)
theorem dX1_surest_10 : decode cX1_surest 10 = .ok (.iload_n 1, 1) := dk_27 (dk_at dksX1_surest_0 10 rfl rfl)
theorem dX1_surest_11 : decode cX1_surest 11 = .ok (.bipush (-2), 2) := dk_16 254 (dk_at dksX1_surest_0 11 rfl rfl)
theorem dX1_surest_13 : decode cX1_surest 13 = .ok (.invokevirtual 337, 3) := dk_182 1 81 (dk_at dksX1_surest_0 13 rfl rfl)
theorem dX1_surest_16 : decode cX1_surest 16 = .ok (.invokevirtual 69, 3) := dk_182 0 69 (dk_at dksX1_surest_0 16 rfl rfl)
theorem dX1_surest_19 : decode cX1_surest 19 = .ok (.goto 8, 3) := dk_167 0 8 (dk_at dksX1_surest_0 19 rfl rfl)
theorem dX1_surest_22 : decode cX1_surest 22 = .ok (.aload_n 0, 1) := dk_42 (dk_at dksX1_surest_0 22 rfl rfl)
theorem dX1_surest_23 : decode cX1_surest 23 = .ok (.iconst 1, 1) := dk_4 (dk_at dksX1_surest_0 23 rfl rfl)
theorem dX1_surest_24 : decode cX1_surest 24 = .ok (.invokevirtual 65, 3) := dk_182 0 65 (dk_at dksX1_surest_1 0 rfl rfl)
theorem dX1_surest_27 : decode cX1_surest 27 = .ok (.ireturn, 1) := dk_172 (dk_at dksX1_surest_1 3 rfl rfl)
abbrev cX1_surestBut : ByteArray := prog_1_method_60_code
def yX1_surestBut : MethodName := ⟨RX1, "surestBut", "(II)I"⟩
def dkwX1_surestBut_3 : List UInt8 := [167, 255, 191, 29, 172]
abbrev dktX1_surestBut_3 : List UInt8 := dkwX1_surestBut_3 ++ []
def dkwX1_surestBut_2 : List UInt8 := [182, 0, 149, 180, 0, 165, 42, 29, 182, 0, 149, 180, 0, 165, 162, 0, 6, 21, 4, 62, 132, 4, 1]
abbrev dktX1_surestBut_2 : List UInt8 := dkwX1_surestBut_2 ++ dktX1_surestBut_3
def dkwX1_surestBut_1 : List UInt8 := [159, 0, 44, 42, 21, 4, 27, 182, 1, 78, 16, 254, 159, 0, 32, 29, 16, 254, 159, 0, 23, 42, 21, 4]
abbrev dktX1_surestBut_1 : List UInt8 := dkwX1_surestBut_1 ++ dktX1_surestBut_2
def dkwX1_surestBut_0 : List UInt8 := [16, 254, 62, 3, 54, 4, 21, 4, 42, 180, 0, 104, 180, 0, 131, 182, 0, 127, 162, 0, 56, 21, 4, 28]
abbrev dktX1_surestBut_0 : List UInt8 := dkwX1_surestBut_0 ++ dktX1_surestBut_1
theorem dksX1_surestBut_0 : cX1_surestBut.data.toList.drop 0 = dktX1_surestBut_0 := by decide +kernel
theorem dksX1_surestBut_1 : cX1_surestBut.data.toList.drop 24 = dktX1_surestBut_1 := dk_seg dksX1_surestBut_0 24 rfl rfl
theorem dksX1_surestBut_2 : cX1_surestBut.data.toList.drop 48 = dktX1_surestBut_2 := dk_seg dksX1_surestBut_1 24 rfl rfl
theorem dksX1_surestBut_3 : cX1_surestBut.data.toList.drop 71 = dktX1_surestBut_3 := dk_seg dksX1_surestBut_2 23 rfl rfl
theorem dX1_surestBut_0 : decode cX1_surestBut 0 = .ok (.bipush (-2), 2) := dk_16 254 (dk_at dksX1_surestBut_0 0 rfl rfl)
theorem dX1_surestBut_2 : decode cX1_surestBut 2 = .ok (.istore_n 3, 1) := dk_62 (dk_at dksX1_surestBut_0 2 rfl rfl)
theorem dX1_surestBut_3 : decode cX1_surestBut 3 = .ok (.iconst 0, 1) := dk_3 (dk_at dksX1_surestBut_0 3 rfl rfl)
theorem dX1_surestBut_4 : decode cX1_surestBut 4 = .ok (.istore 4, 2) := dk_54 4 (dk_at dksX1_surestBut_0 4 rfl rfl)
theorem dX1_surestBut_6 : decode cX1_surestBut 6 = .ok (.iload 4, 2) := dk_21 4 (dk_at dksX1_surestBut_0 6 rfl rfl)
theorem dX1_surestBut_8 : decode cX1_surestBut 8 = .ok (.aload_n 0, 1) := dk_42 (dk_at dksX1_surestBut_0 8 rfl rfl)
theorem dX1_surestBut_9 : decode cX1_surestBut 9 = .ok (.getfield 104, 3) := dk_180 0 104 (dk_at dksX1_surestBut_0 9 rfl rfl)
theorem dX1_surestBut_12 : decode cX1_surestBut 12 = .ok (.getfield 131, 3) := dk_180 0 131 (dk_at dksX1_surestBut_0 12 rfl rfl)
theorem dX1_surestBut_15 : decode cX1_surestBut 15 = .ok (.invokevirtual 127, 3) := dk_182 0 127 (dk_at dksX1_surestBut_0 15 rfl rfl)
theorem dX1_surestBut_18 : decode cX1_surestBut 18 = .ok (.if_icmp .ge 56, 3) := dk_162 0 56 (dk_at dksX1_surestBut_0 18 rfl rfl)
theorem dX1_surestBut_21 : decode cX1_surestBut 21 = .ok (.iload 4, 2) := dk_21 4 (dk_at dksX1_surestBut_0 21 rfl rfl)
theorem dX1_surestBut_23 : decode cX1_surestBut 23 = .ok (.iload_n 2, 1) := dk_28 (dk_at dksX1_surestBut_0 23 rfl rfl)
theorem dX1_surestBut_24 : decode cX1_surestBut 24 = .ok (.if_icmp .eq 44, 3) := dk_159 0 44 (dk_at dksX1_surestBut_1 0 rfl rfl)
theorem dX1_surestBut_27 : decode cX1_surestBut 27 = .ok (.aload_n 0, 1) := dk_42 (dk_at dksX1_surestBut_1 3 rfl rfl)
theorem dX1_surestBut_28 : decode cX1_surestBut 28 = .ok (.iload 4, 2) := dk_21 4 (dk_at dksX1_surestBut_1 4 rfl rfl)
theorem dX1_surestBut_30 : decode cX1_surestBut 30 = .ok (.iload_n 1, 1) := dk_27 (dk_at dksX1_surestBut_1 6 rfl rfl)
theorem dX1_surestBut_31 : decode cX1_surestBut 31 = .ok (.invokevirtual 334, 3) := dk_182 1 78 (dk_at dksX1_surestBut_1 7 rfl rfl)
theorem dX1_surestBut_34 : decode cX1_surestBut 34 = .ok (.bipush (-2), 2) := dk_16 254 (dk_at dksX1_surestBut_1 10 rfl rfl)
theorem dX1_surestBut_36 : decode cX1_surestBut 36 = .ok (.if_icmp .eq 32, 3) := dk_159 0 32 (dk_at dksX1_surestBut_1 12 rfl rfl)
theorem dX1_surestBut_39 : decode cX1_surestBut 39 = .ok (.iload_n 3, 1) := dk_29 (dk_at dksX1_surestBut_1 15 rfl rfl)
theorem dX1_surestBut_40 : decode cX1_surestBut 40 = .ok (.bipush (-2), 2) := dk_16 254 (dk_at dksX1_surestBut_1 16 rfl rfl)
theorem dX1_surestBut_42 : decode cX1_surestBut 42 = .ok (.if_icmp .eq 23, 3) := dk_159 0 23 (dk_at dksX1_surestBut_1 18 rfl rfl)
theorem dX1_surestBut_45 : decode cX1_surestBut 45 = .ok (.aload_n 0, 1) := dk_42 (dk_at dksX1_surestBut_1 21 rfl rfl)
theorem dX1_surestBut_46 : decode cX1_surestBut 46 = .ok (.iload 4, 2) := dk_21 4 (dk_at dksX1_surestBut_1 22 rfl rfl)
theorem dX1_surestBut_48 : decode cX1_surestBut 48 = .ok (.invokevirtual 149, 3) := dk_182 0 149 (dk_at dksX1_surestBut_2 0 rfl rfl)
theorem dX1_surestBut_51 : decode cX1_surestBut 51 = .ok (.getfield 165, 3) := dk_180 0 165 (dk_at dksX1_surestBut_2 3 rfl rfl)
theorem dX1_surestBut_54 : decode cX1_surestBut 54 = .ok (.aload_n 0, 1) := dk_42 (dk_at dksX1_surestBut_2 6 rfl rfl)
theorem dX1_surestBut_55 : decode cX1_surestBut 55 = .ok (.iload_n 3, 1) := dk_29 (dk_at dksX1_surestBut_2 7 rfl rfl)
theorem dX1_surestBut_56 : decode cX1_surestBut 56 = .ok (.invokevirtual 149, 3) := dk_182 0 149 (dk_at dksX1_surestBut_2 8 rfl rfl)
theorem dX1_surestBut_59 : decode cX1_surestBut 59 = .ok (.getfield 165, 3) := dk_180 0 165 (dk_at dksX1_surestBut_2 11 rfl rfl)
theorem dX1_surestBut_62 : decode cX1_surestBut 62 = .ok (.if_icmp .ge 6, 3) := dk_162 0 6 (dk_at dksX1_surestBut_2 14 rfl rfl)
theorem dX1_surestBut_65 : decode cX1_surestBut 65 = .ok (.iload 4, 2) := dk_21 4 (dk_at dksX1_surestBut_2 17 rfl rfl)
theorem dX1_surestBut_67 : decode cX1_surestBut 67 = .ok (.istore_n 3, 1) := dk_62 (dk_at dksX1_surestBut_2 19 rfl rfl)
theorem dX1_surestBut_68 : decode cX1_surestBut 68 = .ok (.iinc 4 1, 3) := dk_132 4 1 (dk_at dksX1_surestBut_2 20 rfl rfl)
theorem dX1_surestBut_71 : decode cX1_surestBut 71 = .ok (.goto (-65), 3) := dk_167 255 191 (dk_at dksX1_surestBut_3 0 rfl rfl)
theorem dX1_surestBut_74 : decode cX1_surestBut 74 = .ok (.iload_n 3, 1) := dk_29 (dk_at dksX1_surestBut_3 3 rfl rfl)
theorem dX1_surestBut_75 : decode cX1_surestBut 75 = .ok (.ireturn, 1) := dk_172 (dk_at dksX1_surestBut_3 4 rfl rfl)
abbrev cX1_by : ByteArray := prog_1_method_62_code
def yX1_by : MethodName := ⟨RX1, "by", "(II)I"⟩
def dkwX1_by_4 : List UInt8 := [172]
abbrev dktX1_by_4 : List UInt8 := dkwX1_by_4 ++ []
def dkwX1_by_3 : List UInt8 := [163, 0, 10, 4, 21, 4, 120, 167, 0, 4, 3, 128, 62, 132, 4, 1, 167, 255, 204, 42, 29, 182, 0, 69]
abbrev dktX1_by_3 : List UInt8 := dkwX1_by_3 ++ dktX1_by_4
def dkwX1_by_2 : List UInt8 := [162, 0, 43, 29, 42, 21, 4, 27, 182, 1, 78, 16, 254, 159, 0, 21, 42, 21, 4, 27, 182, 1, 78, 28]
abbrev dktX1_by_2 : List UInt8 := dkwX1_by_2 ++ dktX1_by_3
def dkwX1_by_1 : List UInt8 := [42, 5, 182, 0, 65, 172, 3, 62, 3, 54, 4, 21, 4, 42, 180, 0, 104, 180, 0, 131, 182, 0, 127]
abbrev dktX1_by_1 : List UInt8 := dkwX1_by_1 ++ dktX1_by_2
def dkwX1_by_0 : List UInt8 := [42, 27, 182, 0, 168, 154, 0, 9, 42, 4, 182, 0, 65, 172, 28, 3, 18, 239, 184, 0, 79, 154, 0, 9]
abbrev dktX1_by_0 : List UInt8 := dkwX1_by_0 ++ dktX1_by_1
theorem dksX1_by_0 : cX1_by.data.toList.drop 0 = dktX1_by_0 := by decide +kernel
theorem dksX1_by_1 : cX1_by.data.toList.drop 24 = dktX1_by_1 := dk_seg dksX1_by_0 24 rfl rfl
theorem dksX1_by_2 : cX1_by.data.toList.drop 47 = dktX1_by_2 := dk_seg dksX1_by_1 23 rfl rfl
theorem dksX1_by_3 : cX1_by.data.toList.drop 71 = dktX1_by_3 := dk_seg dksX1_by_2 24 rfl rfl
theorem dksX1_by_4 : cX1_by.data.toList.drop 95 = dktX1_by_4 := dk_seg dksX1_by_3 24 rfl rfl
theorem dX1_by_0 : decode cX1_by 0 = .ok (.aload_n 0, 1) := dk_42 (dk_at dksX1_by_0 0 rfl rfl)
theorem dX1_by_1 : decode cX1_by 1 = .ok (.iload_n 1, 1) := dk_27 (dk_at dksX1_by_0 1 rfl rfl)
theorem dX1_by_2 : decode cX1_by 2 = .ok (.invokevirtual 168, 3) := dk_182 0 168 (dk_at dksX1_by_0 2 rfl rfl)
theorem dX1_by_5 : decode cX1_by 5 = .ok (.ifCond .ne 9, 3) := dk_154 0 9 (dk_at dksX1_by_0 5 rfl rfl)
theorem dX1_by_8 : decode cX1_by 8 = .ok (.aload_n 0, 1) := dk_42 (dk_at dksX1_by_0 8 rfl rfl)
theorem dX1_by_9 : decode cX1_by 9 = .ok (.iconst 1, 1) := dk_4 (dk_at dksX1_by_0 9 rfl rfl)
theorem dX1_by_10 : decode cX1_by 10 = .ok (.invokevirtual 65, 3) := dk_182 0 65 (dk_at dksX1_by_0 10 rfl rfl)
theorem dX1_by_13 : decode cX1_by 13 = .ok (.ireturn, 1) := dk_172 (dk_at dksX1_by_0 13 rfl rfl)
theorem dX1_by_14 : decode cX1_by 14 = .ok (.iload_n 2, 1) := dk_28 (dk_at dksX1_by_0 14 rfl rfl)
theorem dX1_by_15 : decode cX1_by 15 = .ok (.iconst 0, 1) := dk_3 (dk_at dksX1_by_0 15 rfl rfl)
theorem dX1_by_16 : decode cX1_by 16 = .ok (.ldc 239, 2) := dk_18 239 (dk_at dksX1_by_0 16 rfl rfl)
theorem dX1_by_18 : decode cX1_by 18 = .ok (.invokestatic 79, 3) := dk_184 0 79 (dk_at dksX1_by_0 18 rfl rfl)
theorem dX1_by_21 : decode cX1_by 21 = .ok (.ifCond .ne 9, 3) := dk_154 0 9 (dk_at dksX1_by_0 21 rfl rfl)
theorem dX1_by_24 : decode cX1_by 24 = .ok (.aload_n 0, 1) := dk_42 (dk_at dksX1_by_1 0 rfl rfl)
theorem dX1_by_25 : decode cX1_by 25 = .ok (.iconst 2, 1) := dk_5 (dk_at dksX1_by_1 1 rfl rfl)
theorem dX1_by_26 : decode cX1_by 26 = .ok (.invokevirtual 65, 3) := dk_182 0 65 (dk_at dksX1_by_1 2 rfl rfl)
theorem dX1_by_29 : decode cX1_by 29 = .ok (.ireturn, 1) := dk_172 (dk_at dksX1_by_1 5 rfl rfl)
theorem dX1_by_30 : decode cX1_by 30 = .ok (.iconst 0, 1) := dk_3 (dk_at dksX1_by_1 6 rfl rfl)
theorem dX1_by_31 : decode cX1_by 31 = .ok (.istore_n 3, 1) := dk_62 (dk_at dksX1_by_1 7 rfl rfl)
theorem dX1_by_32 : decode cX1_by 32 = .ok (.iconst 0, 1) := dk_3 (dk_at dksX1_by_1 8 rfl rfl)
theorem dX1_by_33 : decode cX1_by 33 = .ok (.istore 4, 2) := dk_54 4 (dk_at dksX1_by_1 9 rfl rfl)
theorem dX1_by_35 : decode cX1_by 35 = .ok (.iload 4, 2) := dk_21 4 (dk_at dksX1_by_1 11 rfl rfl)
theorem dX1_by_37 : decode cX1_by 37 = .ok (.aload_n 0, 1) := dk_42 (dk_at dksX1_by_1 13 rfl rfl)
theorem dX1_by_38 : decode cX1_by 38 = .ok (.getfield 104, 3) := dk_180 0 104 (dk_at dksX1_by_1 14 rfl rfl)
theorem dX1_by_41 : decode cX1_by 41 = .ok (.getfield 131, 3) := dk_180 0 131 (dk_at dksX1_by_1 17 rfl rfl)
theorem dX1_by_44 : decode cX1_by 44 = .ok (.invokevirtual 127, 3) := dk_182 0 127 (dk_at dksX1_by_1 20 rfl rfl)
theorem dX1_by_47 : decode cX1_by 47 = .ok (.if_icmp .ge 43, 3) := dk_162 0 43 (dk_at dksX1_by_2 0 rfl rfl)
theorem dX1_by_50 : decode cX1_by 50 = .ok (.iload_n 3, 1) := dk_29 (dk_at dksX1_by_2 3 rfl rfl)
theorem dX1_by_51 : decode cX1_by 51 = .ok (.aload_n 0, 1) := dk_42 (dk_at dksX1_by_2 4 rfl rfl)
theorem dX1_by_52 : decode cX1_by 52 = .ok (.iload 4, 2) := dk_21 4 (dk_at dksX1_by_2 5 rfl rfl)
theorem dX1_by_54 : decode cX1_by 54 = .ok (.iload_n 1, 1) := dk_27 (dk_at dksX1_by_2 7 rfl rfl)
theorem dX1_by_55 : decode cX1_by 55 = .ok (.invokevirtual 334, 3) := dk_182 1 78 (dk_at dksX1_by_2 8 rfl rfl)
theorem dX1_by_58 : decode cX1_by 58 = .ok (.bipush (-2), 2) := dk_16 254 (dk_at dksX1_by_2 11 rfl rfl)
theorem dX1_by_60 : decode cX1_by 60 = .ok (.if_icmp .eq 21, 3) := dk_159 0 21 (dk_at dksX1_by_2 13 rfl rfl)
theorem dX1_by_63 : decode cX1_by 63 = .ok (.aload_n 0, 1) := dk_42 (dk_at dksX1_by_2 16 rfl rfl)
theorem dX1_by_64 : decode cX1_by 64 = .ok (.iload 4, 2) := dk_21 4 (dk_at dksX1_by_2 17 rfl rfl)
theorem dX1_by_66 : decode cX1_by 66 = .ok (.iload_n 1, 1) := dk_27 (dk_at dksX1_by_2 19 rfl rfl)
theorem dX1_by_67 : decode cX1_by 67 = .ok (.invokevirtual 334, 3) := dk_182 1 78 (dk_at dksX1_by_2 20 rfl rfl)
theorem dX1_by_70 : decode cX1_by 70 = .ok (.iload_n 2, 1) := dk_28 (dk_at dksX1_by_2 23 rfl rfl)
theorem dX1_by_71 : decode cX1_by 71 = .ok (.if_icmp .gt 10, 3) := dk_163 0 10 (dk_at dksX1_by_3 0 rfl rfl)
theorem dX1_by_74 : decode cX1_by 74 = .ok (.iconst 1, 1) := dk_4 (dk_at dksX1_by_3 3 rfl rfl)
theorem dX1_by_75 : decode cX1_by 75 = .ok (.iload 4, 2) := dk_21 4 (dk_at dksX1_by_3 4 rfl rfl)
theorem dX1_by_77 : decode cX1_by 77 = .ok (.ishl, 1) := dk_120 (dk_at dksX1_by_3 6 rfl rfl)
theorem dX1_by_78 : decode cX1_by 78 = .ok (.goto 4, 3) := dk_167 0 4 (dk_at dksX1_by_3 7 rfl rfl)
theorem dX1_by_81 : decode cX1_by 81 = .ok (.iconst 0, 1) := dk_3 (dk_at dksX1_by_3 10 rfl rfl)
theorem dX1_by_82 : decode cX1_by 82 = .ok (.ior, 1) := dk_128 (dk_at dksX1_by_3 11 rfl rfl)
theorem dX1_by_83 : decode cX1_by 83 = .ok (.istore_n 3, 1) := dk_62 (dk_at dksX1_by_3 12 rfl rfl)
theorem dX1_by_84 : decode cX1_by 84 = .ok (.iinc 4 1, 3) := dk_132 4 1 (dk_at dksX1_by_3 13 rfl rfl)
theorem dX1_by_87 : decode cX1_by 87 = .ok (.goto (-52), 3) := dk_167 255 204 (dk_at dksX1_by_3 16 rfl rfl)
theorem dX1_by_90 : decode cX1_by 90 = .ok (.aload_n 0, 1) := dk_42 (dk_at dksX1_by_3 19 rfl rfl)
theorem dX1_by_91 : decode cX1_by 91 = .ok (.iload_n 3, 1) := dk_29 (dk_at dksX1_by_3 20 rfl rfl)
theorem dX1_by_92 : decode cX1_by 92 = .ok (.invokevirtual 69, 3) := dk_182 0 69 (dk_at dksX1_by_3 21 rfl rfl)
theorem dX1_by_95 : decode cX1_by 95 = .ok (.ireturn, 1) := dk_172 (dk_at dksX1_by_4 0 rfl rfl)
abbrev cX1_registered : ByteArray := prog_1_method_63_code
def yX1_registered : MethodName := ⟨RX1, "registered", "(IZ)J"⟩
def dkwX1_registered_4 : List UInt8 := [22, 5, 101, 20, 1, 86, 28, 182, 1, 88, 173]
abbrev dktX1_registered_4 : List UInt8 := dkwX1_registered_4 ++ []
def dkwX1_registered_3 : List UInt8 := [182, 0, 149, 180, 0, 165, 133, 42, 21, 4, 182, 0, 149, 180, 0, 165, 133, 105, 55, 5, 42, 20, 1, 86]
abbrev dktX1_registered_3 : List UInt8 := dkwX1_registered_3 ++ dktX1_registered_4
def dkwX1_registered_2 : List UInt8 := [16, 254, 160, 0, 19, 20, 1, 84, 42, 29, 182, 0, 149, 180, 0, 165, 133, 105, 167, 0, 23, 42, 29]
abbrev dktX1_registered_2 : List UInt8 := dkwX1_registered_2 ++ dktX1_registered_3
def dkwX1_registered_1 : List UInt8 := [16, 254, 160, 0, 11, 42, 16, 6, 182, 0, 65, 133, 173, 42, 27, 29, 182, 1, 81, 54, 4, 21, 4]
abbrev dktX1_registered_1 : List UInt8 := dkwX1_registered_1 ++ dktX1_registered_2
def dkwX1_registered_0 : List UInt8 := [42, 27, 182, 0, 168, 154, 0, 10, 42, 4, 182, 0, 65, 133, 173, 42, 27, 16, 254, 182, 1, 81, 62, 29]
abbrev dktX1_registered_0 : List UInt8 := dkwX1_registered_0 ++ dktX1_registered_1
theorem dksX1_registered_0 : cX1_registered.data.toList.drop 0 = dktX1_registered_0 := by decide +kernel
theorem dksX1_registered_1 : cX1_registered.data.toList.drop 24 = dktX1_registered_1 := dk_seg dksX1_registered_0 24 rfl rfl
theorem dksX1_registered_2 : cX1_registered.data.toList.drop 47 = dktX1_registered_2 := dk_seg dksX1_registered_1 23 rfl rfl
theorem dksX1_registered_3 : cX1_registered.data.toList.drop 70 = dktX1_registered_3 := dk_seg dksX1_registered_2 23 rfl rfl
theorem dksX1_registered_4 : cX1_registered.data.toList.drop 94 = dktX1_registered_4 := dk_seg dksX1_registered_3 24 rfl rfl
theorem dX1_registered_0 : decode cX1_registered 0 = .ok (.aload_n 0, 1) := dk_42 (dk_at dksX1_registered_0 0 rfl rfl)
theorem dX1_registered_1 : decode cX1_registered 1 = .ok (.iload_n 1, 1) := dk_27 (dk_at dksX1_registered_0 1 rfl rfl)
theorem dX1_registered_2 : decode cX1_registered 2 = .ok (.invokevirtual 168, 3) := dk_182 0 168 (dk_at dksX1_registered_0 2 rfl rfl)
theorem dX1_registered_5 : decode cX1_registered 5 = .ok (.ifCond .ne 10, 3) := dk_154 0 10 (dk_at dksX1_registered_0 5 rfl rfl)
theorem dX1_registered_8 : decode cX1_registered 8 = .ok (.aload_n 0, 1) := dk_42 (dk_at dksX1_registered_0 8 rfl rfl)
theorem dX1_registered_9 : decode cX1_registered 9 = .ok (.iconst 1, 1) := dk_4 (dk_at dksX1_registered_0 9 rfl rfl)
theorem dX1_registered_10 : decode cX1_registered 10 = .ok (.invokevirtual 65, 3) := dk_182 0 65 (dk_at dksX1_registered_0 10 rfl rfl)
theorem dX1_registered_13 : decode cX1_registered 13 = .ok (.i2l, 1) := dk_133 (dk_at dksX1_registered_0 13 rfl rfl)
theorem dX1_registered_14 : decode cX1_registered 14 = .ok (.lreturn, 1) := dk_173 (dk_at dksX1_registered_0 14 rfl rfl)
theorem dX1_registered_15 : decode cX1_registered 15 = .ok (.aload_n 0, 1) := dk_42 (dk_at dksX1_registered_0 15 rfl rfl)
theorem dX1_registered_16 : decode cX1_registered 16 = .ok (.iload_n 1, 1) := dk_27 (dk_at dksX1_registered_0 16 rfl rfl)
theorem dX1_registered_17 : decode cX1_registered 17 = .ok (.bipush (-2), 2) := dk_16 254 (dk_at dksX1_registered_0 17 rfl rfl)
theorem dX1_registered_19 : decode cX1_registered 19 = .ok (.invokevirtual 337, 3) := dk_182 1 81 (dk_at dksX1_registered_0 19 rfl rfl)
theorem dX1_registered_22 : decode cX1_registered 22 = .ok (.istore_n 3, 1) := dk_62 (dk_at dksX1_registered_0 22 rfl rfl)
theorem dX1_registered_23 : decode cX1_registered 23 = .ok (.iload_n 3, 1) := dk_29 (dk_at dksX1_registered_0 23 rfl rfl)
theorem dX1_registered_24 : decode cX1_registered 24 = .ok (.bipush (-2), 2) := dk_16 254 (dk_at dksX1_registered_1 0 rfl rfl)
theorem dX1_registered_26 : decode cX1_registered 26 = .ok (.if_icmp .ne 11, 3) := dk_160 0 11 (dk_at dksX1_registered_1 2 rfl rfl)
theorem dX1_registered_29 : decode cX1_registered 29 = .ok (.aload_n 0, 1) := dk_42 (dk_at dksX1_registered_1 5 rfl rfl)
theorem dX1_registered_30 : decode cX1_registered 30 = .ok (.bipush 6, 2) := dk_16 6 (dk_at dksX1_registered_1 6 rfl rfl)
theorem dX1_registered_32 : decode cX1_registered 32 = .ok (.invokevirtual 65, 3) := dk_182 0 65 (dk_at dksX1_registered_1 8 rfl rfl)
theorem dX1_registered_35 : decode cX1_registered 35 = .ok (.i2l, 1) := dk_133 (dk_at dksX1_registered_1 11 rfl rfl)
theorem dX1_registered_36 : decode cX1_registered 36 = .ok (.lreturn, 1) := dk_173 (dk_at dksX1_registered_1 12 rfl rfl)
theorem dX1_registered_37 : decode cX1_registered 37 = .ok (.aload_n 0, 1) := dk_42 (dk_at dksX1_registered_1 13 rfl rfl)
theorem dX1_registered_38 : decode cX1_registered 38 = .ok (.iload_n 1, 1) := dk_27 (dk_at dksX1_registered_1 14 rfl rfl)
theorem dX1_registered_39 : decode cX1_registered 39 = .ok (.iload_n 3, 1) := dk_29 (dk_at dksX1_registered_1 15 rfl rfl)
theorem dX1_registered_40 : decode cX1_registered 40 = .ok (.invokevirtual 337, 3) := dk_182 1 81 (dk_at dksX1_registered_1 16 rfl rfl)
theorem dX1_registered_43 : decode cX1_registered 43 = .ok (.istore 4, 2) := dk_54 4 (dk_at dksX1_registered_1 19 rfl rfl)
theorem dX1_registered_45 : decode cX1_registered 45 = .ok (.iload 4, 2) := dk_21 4 (dk_at dksX1_registered_1 21 rfl rfl)
theorem dX1_registered_47 : decode cX1_registered 47 = .ok (.bipush (-2), 2) := dk_16 254 (dk_at dksX1_registered_2 0 rfl rfl)
theorem dX1_registered_49 : decode cX1_registered 49 = .ok (.if_icmp .ne 19, 3) := dk_160 0 19 (dk_at dksX1_registered_2 2 rfl rfl)
theorem dX1_registered_52 : decode cX1_registered 52 = .ok (.ldc2_w 340, 3) := dk_20 1 84 (dk_at dksX1_registered_2 5 rfl rfl)
theorem dX1_registered_55 : decode cX1_registered 55 = .ok (.aload_n 0, 1) := dk_42 (dk_at dksX1_registered_2 8 rfl rfl)
theorem dX1_registered_56 : decode cX1_registered 56 = .ok (.iload_n 3, 1) := dk_29 (dk_at dksX1_registered_2 9 rfl rfl)
theorem dX1_registered_57 : decode cX1_registered 57 = .ok (.invokevirtual 149, 3) := dk_182 0 149 (dk_at dksX1_registered_2 10 rfl rfl)
theorem dX1_registered_60 : decode cX1_registered 60 = .ok (.getfield 165, 3) := dk_180 0 165 (dk_at dksX1_registered_2 13 rfl rfl)
theorem dX1_registered_63 : decode cX1_registered 63 = .ok (.i2l, 1) := dk_133 (dk_at dksX1_registered_2 16 rfl rfl)
theorem dX1_registered_64 : decode cX1_registered 64 = .ok (.lmul, 1) := dk_105 (dk_at dksX1_registered_2 17 rfl rfl)
theorem dX1_registered_65 : decode cX1_registered 65 = .ok (.goto 23, 3) := dk_167 0 23 (dk_at dksX1_registered_2 18 rfl rfl)
theorem dX1_registered_68 : decode cX1_registered 68 = .ok (.aload_n 0, 1) := dk_42 (dk_at dksX1_registered_2 21 rfl rfl)
theorem dX1_registered_69 : decode cX1_registered 69 = .ok (.iload_n 3, 1) := dk_29 (dk_at dksX1_registered_2 22 rfl rfl)
theorem dX1_registered_70 : decode cX1_registered 70 = .ok (.invokevirtual 149, 3) := dk_182 0 149 (dk_at dksX1_registered_3 0 rfl rfl)
theorem dX1_registered_73 : decode cX1_registered 73 = .ok (.getfield 165, 3) := dk_180 0 165 (dk_at dksX1_registered_3 3 rfl rfl)
theorem dX1_registered_76 : decode cX1_registered 76 = .ok (.i2l, 1) := dk_133 (dk_at dksX1_registered_3 6 rfl rfl)
theorem dX1_registered_77 : decode cX1_registered 77 = .ok (.aload_n 0, 1) := dk_42 (dk_at dksX1_registered_3 7 rfl rfl)
theorem dX1_registered_78 : decode cX1_registered 78 = .ok (.iload 4, 2) := dk_21 4 (dk_at dksX1_registered_3 8 rfl rfl)
theorem dX1_registered_80 : decode cX1_registered 80 = .ok (.invokevirtual 149, 3) := dk_182 0 149 (dk_at dksX1_registered_3 10 rfl rfl)
theorem dX1_registered_83 : decode cX1_registered 83 = .ok (.getfield 165, 3) := dk_180 0 165 (dk_at dksX1_registered_3 13 rfl rfl)
theorem dX1_registered_86 : decode cX1_registered 86 = .ok (.i2l, 1) := dk_133 (dk_at dksX1_registered_3 16 rfl rfl)
theorem dX1_registered_87 : decode cX1_registered 87 = .ok (.lmul, 1) := dk_105 (dk_at dksX1_registered_3 17 rfl rfl)
theorem dX1_registered_88 : decode cX1_registered 88 = .ok (.lstore 5, 2) := dk_55 5 (dk_at dksX1_registered_3 18 rfl rfl)
theorem dX1_registered_90 : decode cX1_registered 90 = .ok (.aload_n 0, 1) := dk_42 (dk_at dksX1_registered_3 20 rfl rfl)
theorem dX1_registered_91 : decode cX1_registered 91 = .ok (.ldc2_w 342, 3) := dk_20 1 86 (dk_at dksX1_registered_3 21 rfl rfl)
theorem dX1_registered_94 : decode cX1_registered 94 = .ok (.lload 5, 2) := dk_22 5 (dk_at dksX1_registered_4 0 rfl rfl)
theorem dX1_registered_96 : decode cX1_registered 96 = .ok (.lsub, 1) := dk_101 (dk_at dksX1_registered_4 2 rfl rfl)
theorem dX1_registered_97 : decode cX1_registered 97 = .ok (.ldc2_w 342, 3) := dk_20 1 86 (dk_at dksX1_registered_4 3 rfl rfl)
theorem dX1_registered_100 : decode cX1_registered 100 = .ok (.iload_n 2, 1) := dk_28 (dk_at dksX1_registered_4 6 rfl rfl)
theorem dX1_registered_101 : decode cX1_registered 101 = .ok (.invokevirtual 344, 3) := dk_182 1 88 (dk_at dksX1_registered_4 7 rfl rfl)
theorem dX1_registered_104 : decode cX1_registered 104 = .ok (.lreturn, 1) := dk_173 (dk_at dksX1_registered_4 10 rfl rfl)
abbrev cX1_fraction : ByteArray := prog_1_method_11_code
def yX1_fraction : MethodName := ⟨RX1, "fraction", "(JJZ)J"⟩
def dkwX1_fraction_0 : List UInt8 := [42, 3, 182, 0, 69, 87, 21, 5, 153, 0, 7, 33, 167, 0, 4, 31, 31, 33, 184, 0, 72, 109, 173]
abbrev dktX1_fraction_0 : List UInt8 := dkwX1_fraction_0 ++ []
theorem dksX1_fraction_0 : cX1_fraction.data.toList.drop 0 = dktX1_fraction_0 := by decide +kernel
theorem dX1_fraction_0 : decode cX1_fraction 0 = .ok (.aload_n 0, 1) := dk_42 (dk_at dksX1_fraction_0 0 rfl rfl)
theorem dX1_fraction_1 : decode cX1_fraction 1 = .ok (.iconst 0, 1) := dk_3 (dk_at dksX1_fraction_0 1 rfl rfl)
theorem dX1_fraction_2 : decode cX1_fraction 2 = .ok (.invokevirtual 69, 3) := dk_182 0 69 (dk_at dksX1_fraction_0 2 rfl rfl)
theorem dX1_fraction_5 : decode cX1_fraction 5 = .ok (.pop, 1) := dk_87 (dk_at dksX1_fraction_0 5 rfl rfl)
theorem dX1_fraction_6 : decode cX1_fraction 6 = .ok (.iload 5, 2) := dk_21 5 (dk_at dksX1_fraction_0 6 rfl rfl)
theorem dX1_fraction_8 : decode cX1_fraction 8 = .ok (.ifCond .eq 7, 3) := dk_153 0 7 (dk_at dksX1_fraction_0 8 rfl rfl)
theorem dX1_fraction_11 : decode cX1_fraction 11 = .ok (.lload_n 3, 1) := dk_33 (dk_at dksX1_fraction_0 11 rfl rfl)
theorem dX1_fraction_12 : decode cX1_fraction 12 = .ok (.goto 4, 3) := dk_167 0 4 (dk_at dksX1_fraction_0 12 rfl rfl)
theorem dX1_fraction_15 : decode cX1_fraction 15 = .ok (.lload_n 1, 1) := dk_31 (dk_at dksX1_fraction_0 15 rfl rfl)
theorem dX1_fraction_16 : decode cX1_fraction 16 = .ok (.lload_n 1, 1) := dk_31 (dk_at dksX1_fraction_0 16 rfl rfl)
theorem dX1_fraction_17 : decode cX1_fraction 17 = .ok (.lload_n 3, 1) := dk_33 (dk_at dksX1_fraction_0 17 rfl rfl)
theorem dX1_fraction_18 : decode cX1_fraction 18 = .ok (.invokestatic 72, 3) := dk_184 0 72 (dk_at dksX1_fraction_0 18 rfl rfl)
theorem dX1_fraction_21 : decode cX1_fraction 21 = .ok (.ldiv, 1) := dk_109 (dk_at dksX1_fraction_0 21 rfl rfl)
theorem dX1_fraction_22 : decode cX1_fraction 22 = .ok (.lreturn, 1) := dk_173 (dk_at dksX1_fraction_0 22 rfl rfl)
abbrev cX1_common : ByteArray := prog_1_method_5_code
def yX1_common : MethodName := ⟨RX1, "common", "(JJ)J"⟩
def dkwX1_common_1 : List UInt8 := [22, 8, 55, 6, 167, 255, 234, 22, 4, 173]
abbrev dktX1_common_1 : List UInt8 := dkwX1_common_1 ++ []
def dkwX1_common_0 : List UInt8 := [30, 55, 4, 32, 55, 6, 22, 6, 9, 148, 153, 0, 21, 22, 4, 22, 6, 113, 55, 8, 22, 6, 55, 4]
abbrev dktX1_common_0 : List UInt8 := dkwX1_common_0 ++ dktX1_common_1
theorem dksX1_common_0 : cX1_common.data.toList.drop 0 = dktX1_common_0 := by decide +kernel
theorem dksX1_common_1 : cX1_common.data.toList.drop 24 = dktX1_common_1 := dk_seg dksX1_common_0 24 rfl rfl
theorem dX1_common_0 : decode cX1_common 0 = .ok (.lload_n 0, 1) := dk_30 (dk_at dksX1_common_0 0 rfl rfl)
theorem dX1_common_1 : decode cX1_common 1 = .ok (.lstore 4, 2) := dk_55 4 (dk_at dksX1_common_0 1 rfl rfl)
theorem dX1_common_3 : decode cX1_common 3 = .ok (.lload_n 2, 1) := dk_32 (dk_at dksX1_common_0 3 rfl rfl)
theorem dX1_common_4 : decode cX1_common 4 = .ok (.lstore 6, 2) := dk_55 6 (dk_at dksX1_common_0 4 rfl rfl)
theorem dX1_common_6 : decode cX1_common 6 = .ok (.lload 6, 2) := dk_22 6 (dk_at dksX1_common_0 6 rfl rfl)
theorem dX1_common_8 : decode cX1_common 8 = .ok (.lconst 0, 1) := dk_9 (dk_at dksX1_common_0 8 rfl rfl)
theorem dX1_common_9 : decode cX1_common 9 = .ok (.lcmp, 1) := dk_148 (dk_at dksX1_common_0 9 rfl rfl)
theorem dX1_common_10 : decode cX1_common 10 = .ok (.ifCond .eq 21, 3) := dk_153 0 21 (dk_at dksX1_common_0 10 rfl rfl)
theorem dX1_common_13 : decode cX1_common 13 = .ok (.lload 4, 2) := dk_22 4 (dk_at dksX1_common_0 13 rfl rfl)
theorem dX1_common_15 : decode cX1_common 15 = .ok (.lload 6, 2) := dk_22 6 (dk_at dksX1_common_0 15 rfl rfl)
theorem dX1_common_17 : decode cX1_common 17 = .ok (.lrem, 1) := dk_113 (dk_at dksX1_common_0 17 rfl rfl)
theorem dX1_common_18 : decode cX1_common 18 = .ok (.lstore 8, 2) := dk_55 8 (dk_at dksX1_common_0 18 rfl rfl)
theorem dX1_common_20 : decode cX1_common 20 = .ok (.lload 6, 2) := dk_22 6 (dk_at dksX1_common_0 20 rfl rfl)
theorem dX1_common_22 : decode cX1_common 22 = .ok (.lstore 4, 2) := dk_55 4 (dk_at dksX1_common_0 22 rfl rfl)
theorem dX1_common_24 : decode cX1_common 24 = .ok (.lload 8, 2) := dk_22 8 (dk_at dksX1_common_1 0 rfl rfl)
theorem dX1_common_26 : decode cX1_common 26 = .ok (.lstore 6, 2) := dk_55 6 (dk_at dksX1_common_1 2 rfl rfl)
theorem dX1_common_28 : decode cX1_common 28 = .ok (.goto (-22), 3) := dk_167 255 234 (dk_at dksX1_common_1 4 rfl rfl)
theorem dX1_common_31 : decode cX1_common 31 = .ok (.lload 4, 2) := dk_22 4 (dk_at dksX1_common_1 7 rfl rfl)
theorem dX1_common_33 : decode cX1_common 33 = .ok (.lreturn, 1) := dk_173 (dk_at dksX1_common_1 9 rfl rfl)
abbrev cX1_match : ByteArray := prog_1_method_68_code
def yX1_match : MethodName := ⟨RX1, "match", "()I"⟩
def dkwX1_match_1 : List UInt8 := [172]
abbrev dktX1_match_1 : List UInt8 := dkwX1_match_1 ++ []
def dkwX1_match_0 : List UInt8 := [42, 180, 0, 104, 199, 0, 11, 42, 4, 182, 0, 65, 167, 0, 12, 42, 42, 2, 182, 1, 106, 182, 0, 69]
abbrev dktX1_match_0 : List UInt8 := dkwX1_match_0 ++ dktX1_match_1
theorem dksX1_match_0 : cX1_match.data.toList.drop 0 = dktX1_match_0 := by decide +kernel
theorem dksX1_match_1 : cX1_match.data.toList.drop 24 = dktX1_match_1 := dk_seg dksX1_match_0 24 rfl rfl
theorem dX1_match_0 : decode cX1_match 0 = .ok (.aload_n 0, 1) := dk_42 (dk_at dksX1_match_0 0 rfl rfl)
theorem dX1_match_1 : decode cX1_match 1 = .ok (.getfield 104, 3) := dk_180 0 104 (dk_at dksX1_match_0 1 rfl rfl)
theorem dX1_match_4 : decode cX1_match 4 = .ok (.ifnonnull 11, 3) := dk_199 0 11 (dk_at dksX1_match_0 4 rfl rfl)
theorem dX1_match_7 : decode cX1_match 7 = .ok (.aload_n 0, 1) := dk_42 (dk_at dksX1_match_0 7 rfl rfl)
theorem dX1_match_8 : decode cX1_match 8 = .ok (.iconst 1, 1) := dk_4 (dk_at dksX1_match_0 8 rfl rfl)
theorem dX1_match_9 : decode cX1_match 9 = .ok (.invokevirtual 65, 3) := dk_182 0 65 (dk_at dksX1_match_0 9 rfl rfl)
theorem dX1_match_12 : decode cX1_match 12 = .ok (.goto 12, 3) := dk_167 0 12 (dk_at dksX1_match_0 12 rfl rfl)
theorem dX1_match_15 : decode cX1_match 15 = .ok (.aload_n 0, 1) := dk_42 (dk_at dksX1_match_0 15 rfl rfl)
theorem dX1_match_16 : decode cX1_match 16 = .ok (.aload_n 0, 1) := dk_42 (dk_at dksX1_match_0 16 rfl rfl)
theorem dX1_match_17 : decode cX1_match 17 = .ok (.iconst (-1), 1) := dk_2 (dk_at dksX1_match_0 17 rfl rfl)
theorem dX1_match_18 : decode cX1_match 18 = .ok (.invokevirtual 362, 3) := dk_182 1 106 (dk_at dksX1_match_0 18 rfl rfl)
theorem dX1_match_21 : decode cX1_match 21 = .ok (.invokevirtual 69, 3) := dk_182 0 69 (dk_at dksX1_match_0 21 rfl rfl)
theorem dX1_match_24 : decode cX1_match 24 = .ok (.ireturn, 1) := dk_172 (dk_at dksX1_match_1 0 rfl rfl)
abbrev cX1_matched : ByteArray := prog_1_method_67_code
def yX1_matched : MethodName := ⟨RX1, "matched", "(I)I"⟩
def dkwX1_matched_3 : List UInt8 := [132, 4, 1, 167, 255, 195, 29, 172]
abbrev dktX1_matched_3 : List UInt8 := dkwX1_matched_3 ++ []
def dkwX1_matched_2 : List UInt8 := [21, 5, 172, 21, 5, 16, 254, 160, 0, 6, 167, 0, 13, 28, 4, 21, 5, 120, 128, 61, 132, 3, 1]
abbrev dktX1_matched_2 : List UInt8 := dkwX1_matched_2 ++ dktX1_matched_3
def dkwX1_matched_1 : List UInt8 := [162, 0, 52, 42, 180, 0, 44, 16, 32, 21, 4, 104, 28, 96, 46, 54, 5, 21, 4, 27, 160, 0, 6]
abbrev dktX1_matched_1 : List UInt8 := dkwX1_matched_1 ++ dktX1_matched_2
def dkwX1_matched_0 : List UInt8 := [42, 182, 1, 103, 3, 61, 3, 62, 3, 54, 4, 21, 4, 42, 180, 0, 104, 180, 0, 134, 182, 0, 127]
abbrev dktX1_matched_0 : List UInt8 := dkwX1_matched_0 ++ dktX1_matched_1
theorem dksX1_matched_0 : cX1_matched.data.toList.drop 0 = dktX1_matched_0 := by decide +kernel
theorem dksX1_matched_1 : cX1_matched.data.toList.drop 23 = dktX1_matched_1 := dk_seg dksX1_matched_0 23 rfl rfl
theorem dksX1_matched_2 : cX1_matched.data.toList.drop 46 = dktX1_matched_2 := dk_seg dksX1_matched_1 23 rfl rfl
theorem dksX1_matched_3 : cX1_matched.data.toList.drop 69 = dktX1_matched_3 := dk_seg dksX1_matched_2 23 rfl rfl
theorem dX1_matched_0 : decode cX1_matched 0 = .ok (.aload_n 0, 1) := dk_42 (dk_at dksX1_matched_0 0 rfl rfl)
theorem dX1_matched_1 : decode cX1_matched 1 = .ok (.invokevirtual 359, 3) := dk_182 1 103 (dk_at dksX1_matched_0 1 rfl rfl)
theorem dX1_matched_4 : decode cX1_matched 4 = .ok (.iconst 0, 1) := dk_3 (dk_at dksX1_matched_0 4 rfl rfl)
theorem dX1_matched_5 : decode cX1_matched 5 = .ok (.istore_n 2, 1) := dk_61 (dk_at dksX1_matched_0 5 rfl rfl)
theorem dX1_matched_6 : decode cX1_matched 6 = .ok (.iconst 0, 1) := dk_3 (dk_at dksX1_matched_0 6 rfl rfl)
theorem dX1_matched_7 : decode cX1_matched 7 = .ok (.istore_n 3, 1) := dk_62 (dk_at dksX1_matched_0 7 rfl rfl)
theorem dX1_matched_8 : decode cX1_matched 8 = .ok (.iconst 0, 1) := dk_3 (dk_at dksX1_matched_0 8 rfl rfl)
theorem dX1_matched_9 : decode cX1_matched 9 = .ok (.istore 4, 2) := dk_54 4 (dk_at dksX1_matched_0 9 rfl rfl)
theorem dX1_matched_11 : decode cX1_matched 11 = .ok (.iload 4, 2) := dk_21 4 (dk_at dksX1_matched_0 11 rfl rfl)
theorem dX1_matched_13 : decode cX1_matched 13 = .ok (.aload_n 0, 1) := dk_42 (dk_at dksX1_matched_0 13 rfl rfl)
theorem dX1_matched_14 : decode cX1_matched 14 = .ok (.getfield 104, 3) := dk_180 0 104 (dk_at dksX1_matched_0 14 rfl rfl)
theorem dX1_matched_17 : decode cX1_matched 17 = .ok (.getfield 134, 3) := dk_180 0 134 (dk_at dksX1_matched_0 17 rfl rfl)
theorem dX1_matched_20 : decode cX1_matched 20 = .ok (.invokevirtual 127, 3) := dk_182 0 127 (dk_at dksX1_matched_0 20 rfl rfl)
theorem dX1_matched_23 : decode cX1_matched 23 = .ok (.if_icmp .ge 52, 3) := dk_162 0 52 (dk_at dksX1_matched_1 0 rfl rfl)
theorem dX1_matched_26 : decode cX1_matched 26 = .ok (.aload_n 0, 1) := dk_42 (dk_at dksX1_matched_1 3 rfl rfl)
theorem dX1_matched_27 : decode cX1_matched 27 = .ok (.getfield 44, 3) := dk_180 0 44 (dk_at dksX1_matched_1 4 rfl rfl)
theorem dX1_matched_30 : decode cX1_matched 30 = .ok (.bipush 32, 2) := dk_16 32 (dk_at dksX1_matched_1 7 rfl rfl)
theorem dX1_matched_32 : decode cX1_matched 32 = .ok (.iload 4, 2) := dk_21 4 (dk_at dksX1_matched_1 9 rfl rfl)
theorem dX1_matched_34 : decode cX1_matched 34 = .ok (.imul, 1) := dk_104 (dk_at dksX1_matched_1 11 rfl rfl)
theorem dX1_matched_35 : decode cX1_matched 35 = .ok (.iload_n 2, 1) := dk_28 (dk_at dksX1_matched_1 12 rfl rfl)
theorem dX1_matched_36 : decode cX1_matched 36 = .ok (.iadd, 1) := dk_96 (dk_at dksX1_matched_1 13 rfl rfl)
theorem dX1_matched_37 : decode cX1_matched 37 = .ok (.iaload, 1) := dk_46 (dk_at dksX1_matched_1 14 rfl rfl)
theorem dX1_matched_38 : decode cX1_matched 38 = .ok (.istore 5, 2) := dk_54 5 (dk_at dksX1_matched_1 15 rfl rfl)
theorem dX1_matched_40 : decode cX1_matched 40 = .ok (.iload 4, 2) := dk_21 4 (dk_at dksX1_matched_1 17 rfl rfl)
theorem dX1_matched_42 : decode cX1_matched 42 = .ok (.iload_n 1, 1) := dk_27 (dk_at dksX1_matched_1 19 rfl rfl)
theorem dX1_matched_43 : decode cX1_matched 43 = .ok (.if_icmp .ne 6, 3) := dk_160 0 6 (dk_at dksX1_matched_1 20 rfl rfl)
theorem dX1_matched_46 : decode cX1_matched 46 = .ok (.iload 5, 2) := dk_21 5 (dk_at dksX1_matched_2 0 rfl rfl)
theorem dX1_matched_48 : decode cX1_matched 48 = .ok (.ireturn, 1) := dk_172 (dk_at dksX1_matched_2 2 rfl rfl)
theorem dX1_matched_49 : decode cX1_matched 49 = .ok (.iload 5, 2) := dk_21 5 (dk_at dksX1_matched_2 3 rfl rfl)
theorem dX1_matched_51 : decode cX1_matched 51 = .ok (.bipush (-2), 2) := dk_16 254 (dk_at dksX1_matched_2 5 rfl rfl)
theorem dX1_matched_53 : decode cX1_matched 53 = .ok (.if_icmp .ne 6, 3) := dk_160 0 6 (dk_at dksX1_matched_2 7 rfl rfl)
theorem dX1_matched_56 : decode cX1_matched 56 = .ok (.goto 13, 3) := dk_167 0 13 (dk_at dksX1_matched_2 10 rfl rfl)
theorem dX1_matched_59 : decode cX1_matched 59 = .ok (.iload_n 2, 1) := dk_28 (dk_at dksX1_matched_2 13 rfl rfl)
theorem dX1_matched_60 : decode cX1_matched 60 = .ok (.iconst 1, 1) := dk_4 (dk_at dksX1_matched_2 14 rfl rfl)
theorem dX1_matched_61 : decode cX1_matched 61 = .ok (.iload 5, 2) := dk_21 5 (dk_at dksX1_matched_2 15 rfl rfl)
theorem dX1_matched_63 : decode cX1_matched 63 = .ok (.ishl, 1) := dk_120 (dk_at dksX1_matched_2 17 rfl rfl)
theorem dX1_matched_64 : decode cX1_matched 64 = .ok (.ior, 1) := dk_128 (dk_at dksX1_matched_2 18 rfl rfl)
theorem dX1_matched_65 : decode cX1_matched 65 = .ok (.istore_n 2, 1) := dk_61 (dk_at dksX1_matched_2 19 rfl rfl)
theorem dX1_matched_66 : decode cX1_matched 66 = .ok (.iinc 3 1, 3) := dk_132 3 1 (dk_at dksX1_matched_2 20 rfl rfl)
theorem dX1_matched_69 : decode cX1_matched 69 = .ok (.iinc 4 1, 3) := dk_132 4 1 (dk_at dksX1_matched_3 0 rfl rfl)
theorem dX1_matched_72 : decode cX1_matched 72 = .ok (.goto (-61), 3) := dk_167 255 195 (dk_at dksX1_matched_3 3 rfl rfl)
theorem dX1_matched_75 : decode cX1_matched 75 = .ok (.iload_n 3, 1) := dk_29 (dk_at dksX1_matched_3 6 rfl rfl)
theorem dX1_matched_76 : decode cX1_matched 76 = .ok (.ireturn, 1) := dk_172 (dk_at dksX1_matched_3 7 rfl rfl)
abbrev cX1_matches : ByteArray := prog_1_method_64_code
def yX1_matches : MethodName := ⟨RX1, "matches", "()V"⟩
def dkwX1_matches_3 : List UInt8 := [182, 1, 96, 132, 3, 1, 167, 255, 242, 132, 2, 255, 167, 255, 225, 177]
abbrev dktX1_matches_3 : List UInt8 := dkwX1_matches_3 ++ []
def dkwX1_matches_2 : List UInt8 := [4, 100, 61, 28, 155, 0, 33, 42, 28, 182, 1, 92, 3, 62, 29, 27, 162, 0, 15, 42, 28, 29]
abbrev dktX1_matches_2 : List UInt8 := dkwX1_matches_2 ++ dktX1_matches_3
def dkwX1_matches_1 : List UInt8 := [182, 0, 127, 104, 28, 96, 9, 80, 132, 2, 1, 167, 255, 228, 42, 180, 0, 104, 180, 0, 134, 182, 0, 127]
abbrev dktX1_matches_1 : List UInt8 := dkwX1_matches_1 ++ dktX1_matches_2
def dkwX1_matches_0 : List UInt8 := [16, 32, 60, 3, 61, 28, 27, 162, 0, 29, 42, 180, 0, 40, 27, 42, 180, 0, 104, 180, 0, 134]
abbrev dktX1_matches_0 : List UInt8 := dkwX1_matches_0 ++ dktX1_matches_1
theorem dksX1_matches_0 : cX1_matches.data.toList.drop 0 = dktX1_matches_0 := by decide +kernel
theorem dksX1_matches_1 : cX1_matches.data.toList.drop 22 = dktX1_matches_1 := dk_seg dksX1_matches_0 22 rfl rfl
theorem dksX1_matches_2 : cX1_matches.data.toList.drop 46 = dktX1_matches_2 := dk_seg dksX1_matches_1 24 rfl rfl
theorem dksX1_matches_3 : cX1_matches.data.toList.drop 68 = dktX1_matches_3 := dk_seg dksX1_matches_2 22 rfl rfl
theorem dX1_matches_0 : decode cX1_matches 0 = .ok (.bipush 32, 2) := dk_16 32 (dk_at dksX1_matches_0 0 rfl rfl)
theorem dX1_matches_2 : decode cX1_matches 2 = .ok (.istore_n 1, 1) := dk_60 (dk_at dksX1_matches_0 2 rfl rfl)
theorem dX1_matches_3 : decode cX1_matches 3 = .ok (.iconst 0, 1) := dk_3 (dk_at dksX1_matches_0 3 rfl rfl)
theorem dX1_matches_4 : decode cX1_matches 4 = .ok (.istore_n 2, 1) := dk_61 (dk_at dksX1_matches_0 4 rfl rfl)
theorem dX1_matches_5 : decode cX1_matches 5 = .ok (.iload_n 2, 1) := dk_28 (dk_at dksX1_matches_0 5 rfl rfl)
theorem dX1_matches_6 : decode cX1_matches 6 = .ok (.iload_n 1, 1) := dk_27 (dk_at dksX1_matches_0 6 rfl rfl)
theorem dX1_matches_7 : decode cX1_matches 7 = .ok (.if_icmp .ge 29, 3) := dk_162 0 29 (dk_at dksX1_matches_0 7 rfl rfl)
theorem dX1_matches_10 : decode cX1_matches 10 = .ok (.aload_n 0, 1) := dk_42 (dk_at dksX1_matches_0 10 rfl rfl)
theorem dX1_matches_11 : decode cX1_matches 11 = .ok (.getfield 40, 3) := dk_180 0 40 (dk_at dksX1_matches_0 11 rfl rfl)
theorem dX1_matches_14 : decode cX1_matches 14 = .ok (.iload_n 1, 1) := dk_27 (dk_at dksX1_matches_0 14 rfl rfl)
theorem dX1_matches_15 : decode cX1_matches 15 = .ok (.aload_n 0, 1) := dk_42 (dk_at dksX1_matches_0 15 rfl rfl)
theorem dX1_matches_16 : decode cX1_matches 16 = .ok (.getfield 104, 3) := dk_180 0 104 (dk_at dksX1_matches_0 16 rfl rfl)
theorem dX1_matches_19 : decode cX1_matches 19 = .ok (.getfield 134, 3) := dk_180 0 134 (dk_at dksX1_matches_0 19 rfl rfl)
theorem dX1_matches_22 : decode cX1_matches 22 = .ok (.invokevirtual 127, 3) := dk_182 0 127 (dk_at dksX1_matches_1 0 rfl rfl)
theorem dX1_matches_25 : decode cX1_matches 25 = .ok (.imul, 1) := dk_104 (dk_at dksX1_matches_1 3 rfl rfl)
theorem dX1_matches_26 : decode cX1_matches 26 = .ok (.iload_n 2, 1) := dk_28 (dk_at dksX1_matches_1 4 rfl rfl)
theorem dX1_matches_27 : decode cX1_matches 27 = .ok (.iadd, 1) := dk_96 (dk_at dksX1_matches_1 5 rfl rfl)
theorem dX1_matches_28 : decode cX1_matches 28 = .ok (.lconst 0, 1) := dk_9 (dk_at dksX1_matches_1 6 rfl rfl)
theorem dX1_matches_29 : decode cX1_matches 29 = .ok (.lastore, 1) := dk_80 (dk_at dksX1_matches_1 7 rfl rfl)
theorem dX1_matches_30 : decode cX1_matches 30 = .ok (.iinc 2 1, 3) := dk_132 2 1 (dk_at dksX1_matches_1 8 rfl rfl)
theorem dX1_matches_33 : decode cX1_matches 33 = .ok (.goto (-28), 3) := dk_167 255 228 (dk_at dksX1_matches_1 11 rfl rfl)
theorem dX1_matches_36 : decode cX1_matches 36 = .ok (.aload_n 0, 1) := dk_42 (dk_at dksX1_matches_1 14 rfl rfl)
theorem dX1_matches_37 : decode cX1_matches 37 = .ok (.getfield 104, 3) := dk_180 0 104 (dk_at dksX1_matches_1 15 rfl rfl)
theorem dX1_matches_40 : decode cX1_matches 40 = .ok (.getfield 134, 3) := dk_180 0 134 (dk_at dksX1_matches_1 18 rfl rfl)
theorem dX1_matches_43 : decode cX1_matches 43 = .ok (.invokevirtual 127, 3) := dk_182 0 127 (dk_at dksX1_matches_1 21 rfl rfl)
theorem dX1_matches_46 : decode cX1_matches 46 = .ok (.iconst 1, 1) := dk_4 (dk_at dksX1_matches_2 0 rfl rfl)
theorem dX1_matches_47 : decode cX1_matches 47 = .ok (.isub, 1) := dk_100 (dk_at dksX1_matches_2 1 rfl rfl)
theorem dX1_matches_48 : decode cX1_matches 48 = .ok (.istore_n 2, 1) := dk_61 (dk_at dksX1_matches_2 2 rfl rfl)
theorem dX1_matches_49 : decode cX1_matches 49 = .ok (.iload_n 2, 1) := dk_28 (dk_at dksX1_matches_2 3 rfl rfl)
theorem dX1_matches_50 : decode cX1_matches 50 = .ok (.ifCond .lt 33, 3) := dk_155 0 33 (dk_at dksX1_matches_2 4 rfl rfl)
theorem dX1_matches_53 : decode cX1_matches 53 = .ok (.aload_n 0, 1) := dk_42 (dk_at dksX1_matches_2 7 rfl rfl)
theorem dX1_matches_54 : decode cX1_matches 54 = .ok (.iload_n 2, 1) := dk_28 (dk_at dksX1_matches_2 8 rfl rfl)
theorem dX1_matches_55 : decode cX1_matches 55 = .ok (.invokevirtual 348, 3) := dk_182 1 92 (dk_at dksX1_matches_2 9 rfl rfl)
theorem dX1_matches_58 : decode cX1_matches 58 = .ok (.iconst 0, 1) := dk_3 (dk_at dksX1_matches_2 12 rfl rfl)
theorem dX1_matches_59 : decode cX1_matches 59 = .ok (.istore_n 3, 1) := dk_62 (dk_at dksX1_matches_2 13 rfl rfl)
theorem dX1_matches_60 : decode cX1_matches 60 = .ok (.iload_n 3, 1) := dk_29 (dk_at dksX1_matches_2 14 rfl rfl)
theorem dX1_matches_61 : decode cX1_matches 61 = .ok (.iload_n 1, 1) := dk_27 (dk_at dksX1_matches_2 15 rfl rfl)
theorem dX1_matches_62 : decode cX1_matches 62 = .ok (.if_icmp .ge 15, 3) := dk_162 0 15 (dk_at dksX1_matches_2 16 rfl rfl)
theorem dX1_matches_65 : decode cX1_matches 65 = .ok (.aload_n 0, 1) := dk_42 (dk_at dksX1_matches_2 19 rfl rfl)
theorem dX1_matches_66 : decode cX1_matches 66 = .ok (.iload_n 2, 1) := dk_28 (dk_at dksX1_matches_2 20 rfl rfl)
theorem dX1_matches_67 : decode cX1_matches 67 = .ok (.iload_n 3, 1) := dk_29 (dk_at dksX1_matches_2 21 rfl rfl)
theorem dX1_matches_68 : decode cX1_matches 68 = .ok (.invokevirtual 352, 3) := dk_182 1 96 (dk_at dksX1_matches_3 0 rfl rfl)
theorem dX1_matches_71 : decode cX1_matches 71 = .ok (.iinc 3 1, 3) := dk_132 3 1 (dk_at dksX1_matches_3 3 rfl rfl)
theorem dX1_matches_74 : decode cX1_matches 74 = .ok (.goto (-14), 3) := dk_167 255 242 (dk_at dksX1_matches_3 6 rfl rfl)
theorem dX1_matches_77 : decode cX1_matches 77 = .ok (.iinc 2 (-1), 3) := dk_132 2 255 (dk_at dksX1_matches_3 9 rfl rfl)
theorem dX1_matches_80 : decode cX1_matches 80 = .ok (.goto (-31), 3) := dk_167 255 225 (dk_at dksX1_matches_3 12 rfl rfl)
theorem dX1_matches_83 : decode cX1_matches 83 = .ok (.return_, 1) := dk_177 (dk_at dksX1_matches_3 15 rfl rfl)
abbrev cX1_laysBrought : ByteArray := prog_1_method_65_code
def yX1_laysBrought : MethodName := ⟨RX1, "laysBrought", "(I)V"⟩
def dkwX1_laysBrought_1 : List UInt8 := [162, 0, 12, 42, 28, 27, 182, 1, 78, 167, 0, 5, 16, 254, 79, 132, 2, 1, 167, 255, 217, 177]
abbrev dktX1_laysBrought_1 : List UInt8 := dkwX1_laysBrought_1 ++ []
def dkwX1_laysBrought_0 : List UInt8 := [3, 61, 28, 8, 162, 0, 40, 42, 180, 0, 47, 28, 28, 42, 180, 0, 104, 180, 0, 131, 182, 0, 127]
abbrev dktX1_laysBrought_0 : List UInt8 := dkwX1_laysBrought_0 ++ dktX1_laysBrought_1
theorem dksX1_laysBrought_0 : cX1_laysBrought.data.toList.drop 0 = dktX1_laysBrought_0 := by decide +kernel
theorem dksX1_laysBrought_1 : cX1_laysBrought.data.toList.drop 23 = dktX1_laysBrought_1 := dk_seg dksX1_laysBrought_0 23 rfl rfl
theorem dX1_laysBrought_0 : decode cX1_laysBrought 0 = .ok (.iconst 0, 1) := dk_3 (dk_at dksX1_laysBrought_0 0 rfl rfl)
theorem dX1_laysBrought_1 : decode cX1_laysBrought 1 = .ok (.istore_n 2, 1) := dk_61 (dk_at dksX1_laysBrought_0 1 rfl rfl)
theorem dX1_laysBrought_2 : decode cX1_laysBrought 2 = .ok (.iload_n 2, 1) := dk_28 (dk_at dksX1_laysBrought_0 2 rfl rfl)
theorem dX1_laysBrought_3 : decode cX1_laysBrought 3 = .ok (.iconst 5, 1) := dk_8 (dk_at dksX1_laysBrought_0 3 rfl rfl)
theorem dX1_laysBrought_4 : decode cX1_laysBrought 4 = .ok (.if_icmp .ge 40, 3) := dk_162 0 40 (dk_at dksX1_laysBrought_0 4 rfl rfl)
theorem dX1_laysBrought_7 : decode cX1_laysBrought 7 = .ok (.aload_n 0, 1) := dk_42 (dk_at dksX1_laysBrought_0 7 rfl rfl)
theorem dX1_laysBrought_8 : decode cX1_laysBrought 8 = .ok (.getfield 47, 3) := dk_180 0 47 (dk_at dksX1_laysBrought_0 8 rfl rfl)
theorem dX1_laysBrought_11 : decode cX1_laysBrought 11 = .ok (.iload_n 2, 1) := dk_28 (dk_at dksX1_laysBrought_0 11 rfl rfl)
theorem dX1_laysBrought_12 : decode cX1_laysBrought 12 = .ok (.iload_n 2, 1) := dk_28 (dk_at dksX1_laysBrought_0 12 rfl rfl)
theorem dX1_laysBrought_13 : decode cX1_laysBrought 13 = .ok (.aload_n 0, 1) := dk_42 (dk_at dksX1_laysBrought_0 13 rfl rfl)
theorem dX1_laysBrought_14 : decode cX1_laysBrought 14 = .ok (.getfield 104, 3) := dk_180 0 104 (dk_at dksX1_laysBrought_0 14 rfl rfl)
theorem dX1_laysBrought_17 : decode cX1_laysBrought 17 = .ok (.getfield 131, 3) := dk_180 0 131 (dk_at dksX1_laysBrought_0 17 rfl rfl)
theorem dX1_laysBrought_20 : decode cX1_laysBrought 20 = .ok (.invokevirtual 127, 3) := dk_182 0 127 (dk_at dksX1_laysBrought_0 20 rfl rfl)
theorem dX1_laysBrought_23 : decode cX1_laysBrought 23 = .ok (.if_icmp .ge 12, 3) := dk_162 0 12 (dk_at dksX1_laysBrought_1 0 rfl rfl)
theorem dX1_laysBrought_26 : decode cX1_laysBrought 26 = .ok (.aload_n 0, 1) := dk_42 (dk_at dksX1_laysBrought_1 3 rfl rfl)
theorem dX1_laysBrought_27 : decode cX1_laysBrought 27 = .ok (.iload_n 2, 1) := dk_28 (dk_at dksX1_laysBrought_1 4 rfl rfl)
theorem dX1_laysBrought_28 : decode cX1_laysBrought 28 = .ok (.iload_n 1, 1) := dk_27 (dk_at dksX1_laysBrought_1 5 rfl rfl)
theorem dX1_laysBrought_29 : decode cX1_laysBrought 29 = .ok (.invokevirtual 334, 3) := dk_182 1 78 (dk_at dksX1_laysBrought_1 6 rfl rfl)
theorem dX1_laysBrought_32 : decode cX1_laysBrought 32 = .ok (.goto 5, 3) := dk_167 0 5 (dk_at dksX1_laysBrought_1 9 rfl rfl)
theorem dX1_laysBrought_35 : decode cX1_laysBrought 35 = .ok (.bipush (-2), 2) := dk_16 254 (dk_at dksX1_laysBrought_1 12 rfl rfl)
theorem dX1_laysBrought_37 : decode cX1_laysBrought 37 = .ok (.iastore, 1) := dk_79 (dk_at dksX1_laysBrought_1 14 rfl rfl)
theorem dX1_laysBrought_38 : decode cX1_laysBrought 38 = .ok (.iinc 2 1, 3) := dk_132 2 1 (dk_at dksX1_laysBrought_1 15 rfl rfl)
theorem dX1_laysBrought_41 : decode cX1_laysBrought 41 = .ok (.goto (-39), 3) := dk_167 255 217 (dk_at dksX1_laysBrought_1 18 rfl rfl)
theorem dX1_laysBrought_44 : decode cX1_laysBrought 44 = .ok (.return_, 1) := dk_177 (dk_at dksX1_laysBrought_1 21 rfl rfl)
abbrev cX1_matchesBox : ByteArray := prog_1_method_66_code
def yX1_matchesBox : MethodName := ⟨RX1, "matchesBox", "(II)V"⟩
def dkwX1_matchesBox_6 : List UInt8 := [104, 28, 96, 22, 4, 80, 42, 180, 0, 44, 29, 27, 104, 28, 96, 21, 6, 79, 177]
abbrev dktX1_matchesBox_6 : List UInt8 := dkwX1_matchesBox_6 ++ []
def dkwX1_matchesBox_5 : List UInt8 := [42, 180, 0, 40, 29, 27, 4, 96, 104, 28, 96, 47, 55, 4, 16, 254, 54, 6, 42, 180, 0, 40, 29, 27]
abbrev dktX1_matchesBox_5 : List UInt8 := dkwX1_matchesBox_5 ++ dktX1_matchesBox_6
def dkwX1_matchesBox_4 : List UInt8 := [132, 7, 1, 167, 255, 172, 42, 180, 0, 40, 29, 27, 4, 96, 104, 28, 96, 47, 22, 4, 148, 158, 0, 21]
abbrev dktX1_matchesBox_4 : List UInt8 := dkwX1_matchesBox_4 ++ dktX1_matchesBox_5
def dkwX1_matchesBox_3 : List UInt8 := [96, 47, 97, 55, 8, 22, 8, 22, 4, 148, 157, 0, 6, 167, 0, 11, 22, 8, 55, 4, 21, 7, 54, 6]
abbrev dktX1_matchesBox_3 : List UInt8 := dkwX1_matchesBox_3 ++ dktX1_matchesBox_4
def dkwX1_matchesBox_2 : List UInt8 := [42, 180, 0, 47, 21, 7, 46, 133, 101, 42, 180, 0, 40, 29, 27, 4, 96, 104, 28, 4, 21, 7, 120, 128]
abbrev dktX1_matchesBox_2 : List UInt8 := dkwX1_matchesBox_2 ++ dktX1_matchesBox_3
def dkwX1_matchesBox_1 : List UInt8 := [184, 0, 222, 154, 0, 69, 42, 180, 0, 47, 21, 7, 46, 16, 254, 160, 0, 6, 167, 0, 54, 20, 1, 101]
abbrev dktX1_matchesBox_1 : List UInt8 := dkwX1_matchesBox_1 ++ dktX1_matchesBox_2
def dkwX1_matchesBox_0 : List UInt8 := [16, 32, 62, 20, 1, 99, 55, 4, 16, 254, 54, 6, 3, 54, 7, 21, 7, 8, 162, 0, 84, 28, 21, 7]
abbrev dktX1_matchesBox_0 : List UInt8 := dkwX1_matchesBox_0 ++ dktX1_matchesBox_1
theorem dksX1_matchesBox_0 : cX1_matchesBox.data.toList.drop 0 = dktX1_matchesBox_0 := by decide +kernel
theorem dksX1_matchesBox_1 : cX1_matchesBox.data.toList.drop 24 = dktX1_matchesBox_1 := dk_seg dksX1_matchesBox_0 24 rfl rfl
theorem dksX1_matchesBox_2 : cX1_matchesBox.data.toList.drop 48 = dktX1_matchesBox_2 := dk_seg dksX1_matchesBox_1 24 rfl rfl
theorem dksX1_matchesBox_3 : cX1_matchesBox.data.toList.drop 72 = dktX1_matchesBox_3 := dk_seg dksX1_matchesBox_2 24 rfl rfl
theorem dksX1_matchesBox_4 : cX1_matchesBox.data.toList.drop 96 = dktX1_matchesBox_4 := dk_seg dksX1_matchesBox_3 24 rfl rfl
theorem dksX1_matchesBox_5 : cX1_matchesBox.data.toList.drop 120 = dktX1_matchesBox_5 := dk_seg dksX1_matchesBox_4 24 rfl rfl
theorem dksX1_matchesBox_6 : cX1_matchesBox.data.toList.drop 144 = dktX1_matchesBox_6 := dk_seg dksX1_matchesBox_5 24 rfl rfl
theorem dX1_matchesBox_0 : decode cX1_matchesBox 0 = .ok (.bipush 32, 2) := dk_16 32 (dk_at dksX1_matchesBox_0 0 rfl rfl)
theorem dX1_matchesBox_2 : decode cX1_matchesBox 2 = .ok (.istore_n 3, 1) := dk_62 (dk_at dksX1_matchesBox_0 2 rfl rfl)
theorem dX1_matchesBox_3 : decode cX1_matchesBox 3 = .ok (.ldc2_w 355, 3) := dk_20 1 99 (dk_at dksX1_matchesBox_0 3 rfl rfl)
theorem dX1_matchesBox_6 : decode cX1_matchesBox 6 = .ok (.lstore 4, 2) := dk_55 4 (dk_at dksX1_matchesBox_0 6 rfl rfl)
theorem dX1_matchesBox_8 : decode cX1_matchesBox 8 = .ok (.bipush (-2), 2) := dk_16 254 (dk_at dksX1_matchesBox_0 8 rfl rfl)
theorem dX1_matchesBox_10 : decode cX1_matchesBox 10 = .ok (.istore 6, 2) := dk_54 6 (dk_at dksX1_matchesBox_0 10 rfl rfl)
theorem dX1_matchesBox_12 : decode cX1_matchesBox 12 = .ok (.iconst 0, 1) := dk_3 (dk_at dksX1_matchesBox_0 12 rfl rfl)
theorem dX1_matchesBox_13 : decode cX1_matchesBox 13 = .ok (.istore 7, 2) := dk_54 7 (dk_at dksX1_matchesBox_0 13 rfl rfl)
theorem dX1_matchesBox_15 : decode cX1_matchesBox 15 = .ok (.iload 7, 2) := dk_21 7 (dk_at dksX1_matchesBox_0 15 rfl rfl)
theorem dX1_matchesBox_17 : decode cX1_matchesBox 17 = .ok (.iconst 5, 1) := dk_8 (dk_at dksX1_matchesBox_0 17 rfl rfl)
theorem dX1_matchesBox_18 : decode cX1_matchesBox 18 = .ok (.if_icmp .ge 84, 3) := dk_162 0 84 (dk_at dksX1_matchesBox_0 18 rfl rfl)
theorem dX1_matchesBox_21 : decode cX1_matchesBox 21 = .ok (.iload_n 2, 1) := dk_28 (dk_at dksX1_matchesBox_0 21 rfl rfl)
theorem dX1_matchesBox_22 : decode cX1_matchesBox 22 = .ok (.iload 7, 2) := dk_21 7 (dk_at dksX1_matchesBox_0 22 rfl rfl)
theorem dX1_matchesBox_24 : decode cX1_matchesBox 24 = .ok (.invokestatic 222, 3) := dk_184 0 222 (dk_at dksX1_matchesBox_1 0 rfl rfl)
theorem dX1_matchesBox_27 : decode cX1_matchesBox 27 = .ok (.ifCond .ne 69, 3) := dk_154 0 69 (dk_at dksX1_matchesBox_1 3 rfl rfl)
theorem dX1_matchesBox_30 : decode cX1_matchesBox 30 = .ok (.aload_n 0, 1) := dk_42 (dk_at dksX1_matchesBox_1 6 rfl rfl)
theorem dX1_matchesBox_31 : decode cX1_matchesBox 31 = .ok (.getfield 47, 3) := dk_180 0 47 (dk_at dksX1_matchesBox_1 7 rfl rfl)
theorem dX1_matchesBox_34 : decode cX1_matchesBox 34 = .ok (.iload 7, 2) := dk_21 7 (dk_at dksX1_matchesBox_1 10 rfl rfl)
theorem dX1_matchesBox_36 : decode cX1_matchesBox 36 = .ok (.iaload, 1) := dk_46 (dk_at dksX1_matchesBox_1 12 rfl rfl)
theorem dX1_matchesBox_37 : decode cX1_matchesBox 37 = .ok (.bipush (-2), 2) := dk_16 254 (dk_at dksX1_matchesBox_1 13 rfl rfl)
theorem dX1_matchesBox_39 : decode cX1_matchesBox 39 = .ok (.if_icmp .ne 6, 3) := dk_160 0 6 (dk_at dksX1_matchesBox_1 15 rfl rfl)
theorem dX1_matchesBox_42 : decode cX1_matchesBox 42 = .ok (.goto 54, 3) := dk_167 0 54 (dk_at dksX1_matchesBox_1 18 rfl rfl)
theorem dX1_matchesBox_45 : decode cX1_matchesBox 45 = .ok (.ldc2_w 357, 3) := dk_20 1 101 (dk_at dksX1_matchesBox_1 21 rfl rfl)
theorem dX1_matchesBox_48 : decode cX1_matchesBox 48 = .ok (.aload_n 0, 1) := dk_42 (dk_at dksX1_matchesBox_2 0 rfl rfl)
theorem dX1_matchesBox_49 : decode cX1_matchesBox 49 = .ok (.getfield 47, 3) := dk_180 0 47 (dk_at dksX1_matchesBox_2 1 rfl rfl)
theorem dX1_matchesBox_52 : decode cX1_matchesBox 52 = .ok (.iload 7, 2) := dk_21 7 (dk_at dksX1_matchesBox_2 4 rfl rfl)
theorem dX1_matchesBox_54 : decode cX1_matchesBox 54 = .ok (.iaload, 1) := dk_46 (dk_at dksX1_matchesBox_2 6 rfl rfl)
theorem dX1_matchesBox_55 : decode cX1_matchesBox 55 = .ok (.i2l, 1) := dk_133 (dk_at dksX1_matchesBox_2 7 rfl rfl)
theorem dX1_matchesBox_56 : decode cX1_matchesBox 56 = .ok (.lsub, 1) := dk_101 (dk_at dksX1_matchesBox_2 8 rfl rfl)
theorem dX1_matchesBox_57 : decode cX1_matchesBox 57 = .ok (.aload_n 0, 1) := dk_42 (dk_at dksX1_matchesBox_2 9 rfl rfl)
theorem dX1_matchesBox_58 : decode cX1_matchesBox 58 = .ok (.getfield 40, 3) := dk_180 0 40 (dk_at dksX1_matchesBox_2 10 rfl rfl)
theorem dX1_matchesBox_61 : decode cX1_matchesBox 61 = .ok (.iload_n 3, 1) := dk_29 (dk_at dksX1_matchesBox_2 13 rfl rfl)
theorem dX1_matchesBox_62 : decode cX1_matchesBox 62 = .ok (.iload_n 1, 1) := dk_27 (dk_at dksX1_matchesBox_2 14 rfl rfl)
theorem dX1_matchesBox_63 : decode cX1_matchesBox 63 = .ok (.iconst 1, 1) := dk_4 (dk_at dksX1_matchesBox_2 15 rfl rfl)
theorem dX1_matchesBox_64 : decode cX1_matchesBox 64 = .ok (.iadd, 1) := dk_96 (dk_at dksX1_matchesBox_2 16 rfl rfl)
theorem dX1_matchesBox_65 : decode cX1_matchesBox 65 = .ok (.imul, 1) := dk_104 (dk_at dksX1_matchesBox_2 17 rfl rfl)
theorem dX1_matchesBox_66 : decode cX1_matchesBox 66 = .ok (.iload_n 2, 1) := dk_28 (dk_at dksX1_matchesBox_2 18 rfl rfl)
theorem dX1_matchesBox_67 : decode cX1_matchesBox 67 = .ok (.iconst 1, 1) := dk_4 (dk_at dksX1_matchesBox_2 19 rfl rfl)
theorem dX1_matchesBox_68 : decode cX1_matchesBox 68 = .ok (.iload 7, 2) := dk_21 7 (dk_at dksX1_matchesBox_2 20 rfl rfl)
theorem dX1_matchesBox_70 : decode cX1_matchesBox 70 = .ok (.ishl, 1) := dk_120 (dk_at dksX1_matchesBox_2 22 rfl rfl)
theorem dX1_matchesBox_71 : decode cX1_matchesBox 71 = .ok (.ior, 1) := dk_128 (dk_at dksX1_matchesBox_2 23 rfl rfl)
theorem dX1_matchesBox_72 : decode cX1_matchesBox 72 = .ok (.iadd, 1) := dk_96 (dk_at dksX1_matchesBox_3 0 rfl rfl)
theorem dX1_matchesBox_73 : decode cX1_matchesBox 73 = .ok (.laload, 1) := dk_47 (dk_at dksX1_matchesBox_3 1 rfl rfl)
theorem dX1_matchesBox_74 : decode cX1_matchesBox 74 = .ok (.ladd, 1) := dk_97 (dk_at dksX1_matchesBox_3 2 rfl rfl)
theorem dX1_matchesBox_75 : decode cX1_matchesBox 75 = .ok (.lstore 8, 2) := dk_55 8 (dk_at dksX1_matchesBox_3 3 rfl rfl)
theorem dX1_matchesBox_77 : decode cX1_matchesBox 77 = .ok (.lload 8, 2) := dk_22 8 (dk_at dksX1_matchesBox_3 5 rfl rfl)
theorem dX1_matchesBox_79 : decode cX1_matchesBox 79 = .ok (.lload 4, 2) := dk_22 4 (dk_at dksX1_matchesBox_3 7 rfl rfl)
theorem dX1_matchesBox_81 : decode cX1_matchesBox 81 = .ok (.lcmp, 1) := dk_148 (dk_at dksX1_matchesBox_3 9 rfl rfl)
theorem dX1_matchesBox_82 : decode cX1_matchesBox 82 = .ok (.ifCond .gt 6, 3) := dk_157 0 6 (dk_at dksX1_matchesBox_3 10 rfl rfl)
theorem dX1_matchesBox_85 : decode cX1_matchesBox 85 = .ok (.goto 11, 3) := dk_167 0 11 (dk_at dksX1_matchesBox_3 13 rfl rfl)
theorem dX1_matchesBox_88 : decode cX1_matchesBox 88 = .ok (.lload 8, 2) := dk_22 8 (dk_at dksX1_matchesBox_3 16 rfl rfl)
theorem dX1_matchesBox_90 : decode cX1_matchesBox 90 = .ok (.lstore 4, 2) := dk_55 4 (dk_at dksX1_matchesBox_3 18 rfl rfl)
theorem dX1_matchesBox_92 : decode cX1_matchesBox 92 = .ok (.iload 7, 2) := dk_21 7 (dk_at dksX1_matchesBox_3 20 rfl rfl)
theorem dX1_matchesBox_94 : decode cX1_matchesBox 94 = .ok (.istore 6, 2) := dk_54 6 (dk_at dksX1_matchesBox_3 22 rfl rfl)
theorem dX1_matchesBox_96 : decode cX1_matchesBox 96 = .ok (.iinc 7 1, 3) := dk_132 7 1 (dk_at dksX1_matchesBox_4 0 rfl rfl)
theorem dX1_matchesBox_99 : decode cX1_matchesBox 99 = .ok (.goto (-84), 3) := dk_167 255 172 (dk_at dksX1_matchesBox_4 3 rfl rfl)
theorem dX1_matchesBox_102 : decode cX1_matchesBox 102 = .ok (.aload_n 0, 1) := dk_42 (dk_at dksX1_matchesBox_4 6 rfl rfl)
theorem dX1_matchesBox_103 : decode cX1_matchesBox 103 = .ok (.getfield 40, 3) := dk_180 0 40 (dk_at dksX1_matchesBox_4 7 rfl rfl)
theorem dX1_matchesBox_106 : decode cX1_matchesBox 106 = .ok (.iload_n 3, 1) := dk_29 (dk_at dksX1_matchesBox_4 10 rfl rfl)
theorem dX1_matchesBox_107 : decode cX1_matchesBox 107 = .ok (.iload_n 1, 1) := dk_27 (dk_at dksX1_matchesBox_4 11 rfl rfl)
theorem dX1_matchesBox_108 : decode cX1_matchesBox 108 = .ok (.iconst 1, 1) := dk_4 (dk_at dksX1_matchesBox_4 12 rfl rfl)
theorem dX1_matchesBox_109 : decode cX1_matchesBox 109 = .ok (.iadd, 1) := dk_96 (dk_at dksX1_matchesBox_4 13 rfl rfl)
theorem dX1_matchesBox_110 : decode cX1_matchesBox 110 = .ok (.imul, 1) := dk_104 (dk_at dksX1_matchesBox_4 14 rfl rfl)
theorem dX1_matchesBox_111 : decode cX1_matchesBox 111 = .ok (.iload_n 2, 1) := dk_28 (dk_at dksX1_matchesBox_4 15 rfl rfl)
theorem dX1_matchesBox_112 : decode cX1_matchesBox 112 = .ok (.iadd, 1) := dk_96 (dk_at dksX1_matchesBox_4 16 rfl rfl)
theorem dX1_matchesBox_113 : decode cX1_matchesBox 113 = .ok (.laload, 1) := dk_47 (dk_at dksX1_matchesBox_4 17 rfl rfl)
theorem dX1_matchesBox_114 : decode cX1_matchesBox 114 = .ok (.lload 4, 2) := dk_22 4 (dk_at dksX1_matchesBox_4 18 rfl rfl)
theorem dX1_matchesBox_116 : decode cX1_matchesBox 116 = .ok (.lcmp, 1) := dk_148 (dk_at dksX1_matchesBox_4 20 rfl rfl)
theorem dX1_matchesBox_117 : decode cX1_matchesBox 117 = .ok (.ifCond .le 21, 3) := dk_158 0 21 (dk_at dksX1_matchesBox_4 21 rfl rfl)
theorem dX1_matchesBox_120 : decode cX1_matchesBox 120 = .ok (.aload_n 0, 1) := dk_42 (dk_at dksX1_matchesBox_5 0 rfl rfl)
theorem dX1_matchesBox_121 : decode cX1_matchesBox 121 = .ok (.getfield 40, 3) := dk_180 0 40 (dk_at dksX1_matchesBox_5 1 rfl rfl)
theorem dX1_matchesBox_124 : decode cX1_matchesBox 124 = .ok (.iload_n 3, 1) := dk_29 (dk_at dksX1_matchesBox_5 4 rfl rfl)
theorem dX1_matchesBox_125 : decode cX1_matchesBox 125 = .ok (.iload_n 1, 1) := dk_27 (dk_at dksX1_matchesBox_5 5 rfl rfl)
theorem dX1_matchesBox_126 : decode cX1_matchesBox 126 = .ok (.iconst 1, 1) := dk_4 (dk_at dksX1_matchesBox_5 6 rfl rfl)
theorem dX1_matchesBox_127 : decode cX1_matchesBox 127 = .ok (.iadd, 1) := dk_96 (dk_at dksX1_matchesBox_5 7 rfl rfl)
theorem dX1_matchesBox_128 : decode cX1_matchesBox 128 = .ok (.imul, 1) := dk_104 (dk_at dksX1_matchesBox_5 8 rfl rfl)
theorem dX1_matchesBox_129 : decode cX1_matchesBox 129 = .ok (.iload_n 2, 1) := dk_28 (dk_at dksX1_matchesBox_5 9 rfl rfl)
theorem dX1_matchesBox_130 : decode cX1_matchesBox 130 = .ok (.iadd, 1) := dk_96 (dk_at dksX1_matchesBox_5 10 rfl rfl)
theorem dX1_matchesBox_131 : decode cX1_matchesBox 131 = .ok (.laload, 1) := dk_47 (dk_at dksX1_matchesBox_5 11 rfl rfl)
theorem dX1_matchesBox_132 : decode cX1_matchesBox 132 = .ok (.lstore 4, 2) := dk_55 4 (dk_at dksX1_matchesBox_5 12 rfl rfl)
theorem dX1_matchesBox_134 : decode cX1_matchesBox 134 = .ok (.bipush (-2), 2) := dk_16 254 (dk_at dksX1_matchesBox_5 14 rfl rfl)
theorem dX1_matchesBox_136 : decode cX1_matchesBox 136 = .ok (.istore 6, 2) := dk_54 6 (dk_at dksX1_matchesBox_5 16 rfl rfl)
theorem dX1_matchesBox_138 : decode cX1_matchesBox 138 = .ok (.aload_n 0, 1) := dk_42 (dk_at dksX1_matchesBox_5 18 rfl rfl)
theorem dX1_matchesBox_139 : decode cX1_matchesBox 139 = .ok (.getfield 40, 3) := dk_180 0 40 (dk_at dksX1_matchesBox_5 19 rfl rfl)
theorem dX1_matchesBox_142 : decode cX1_matchesBox 142 = .ok (.iload_n 3, 1) := dk_29 (dk_at dksX1_matchesBox_5 22 rfl rfl)
theorem dX1_matchesBox_143 : decode cX1_matchesBox 143 = .ok (.iload_n 1, 1) := dk_27 (dk_at dksX1_matchesBox_5 23 rfl rfl)
theorem dX1_matchesBox_144 : decode cX1_matchesBox 144 = .ok (.imul, 1) := dk_104 (dk_at dksX1_matchesBox_6 0 rfl rfl)
theorem dX1_matchesBox_145 : decode cX1_matchesBox 145 = .ok (.iload_n 2, 1) := dk_28 (dk_at dksX1_matchesBox_6 1 rfl rfl)
theorem dX1_matchesBox_146 : decode cX1_matchesBox 146 = .ok (.iadd, 1) := dk_96 (dk_at dksX1_matchesBox_6 2 rfl rfl)
theorem dX1_matchesBox_147 : decode cX1_matchesBox 147 = .ok (.lload 4, 2) := dk_22 4 (dk_at dksX1_matchesBox_6 3 rfl rfl)
theorem dX1_matchesBox_149 : decode cX1_matchesBox 149 = .ok (.lastore, 1) := dk_80 (dk_at dksX1_matchesBox_6 5 rfl rfl)
theorem dX1_matchesBox_150 : decode cX1_matchesBox 150 = .ok (.aload_n 0, 1) := dk_42 (dk_at dksX1_matchesBox_6 6 rfl rfl)
theorem dX1_matchesBox_151 : decode cX1_matchesBox 151 = .ok (.getfield 44, 3) := dk_180 0 44 (dk_at dksX1_matchesBox_6 7 rfl rfl)
theorem dX1_matchesBox_154 : decode cX1_matchesBox 154 = .ok (.iload_n 3, 1) := dk_29 (dk_at dksX1_matchesBox_6 10 rfl rfl)
theorem dX1_matchesBox_155 : decode cX1_matchesBox 155 = .ok (.iload_n 1, 1) := dk_27 (dk_at dksX1_matchesBox_6 11 rfl rfl)
theorem dX1_matchesBox_156 : decode cX1_matchesBox 156 = .ok (.imul, 1) := dk_104 (dk_at dksX1_matchesBox_6 12 rfl rfl)
theorem dX1_matchesBox_157 : decode cX1_matchesBox 157 = .ok (.iload_n 2, 1) := dk_28 (dk_at dksX1_matchesBox_6 13 rfl rfl)
theorem dX1_matchesBox_158 : decode cX1_matchesBox 158 = .ok (.iadd, 1) := dk_96 (dk_at dksX1_matchesBox_6 14 rfl rfl)
theorem dX1_matchesBox_159 : decode cX1_matchesBox 159 = .ok (.iload 6, 2) := dk_21 6 (dk_at dksX1_matchesBox_6 15 rfl rfl)
theorem dX1_matchesBox_161 : decode cX1_matchesBox 161 = .ok (.iastore, 1) := dk_79 (dk_at dksX1_matchesBox_6 17 rfl rfl)
theorem dX1_matchesBox_162 : decode cX1_matchesBox 162 = .ok (.return_, 1) := dk_177 (dk_at dksX1_matchesBox_6 18 rfl rfl)
abbrev cX1_matchDays : ByteArray := prog_1_method_69_code
def yX1_matchDays : MethodName := ⟨RX1, "matchDays", "()I"⟩
def dkwX1_matchDays_1 : List UInt8 := [20, 1, 101, 105, 42, 180, 0, 40, 3, 47, 101, 136, 182, 0, 69, 172]
abbrev dktX1_matchDays_1 : List UInt8 := dkwX1_matchDays_1 ++ []
def dkwX1_matchDays_0 : List UInt8 := [42, 180, 0, 104, 199, 0, 9, 42, 4, 182, 0, 65, 172, 42, 2, 182, 1, 106, 60, 42, 27, 133]
abbrev dktX1_matchDays_0 : List UInt8 := dkwX1_matchDays_0 ++ dktX1_matchDays_1
theorem dksX1_matchDays_0 : cX1_matchDays.data.toList.drop 0 = dktX1_matchDays_0 := by decide +kernel
theorem dksX1_matchDays_1 : cX1_matchDays.data.toList.drop 22 = dktX1_matchDays_1 := dk_seg dksX1_matchDays_0 22 rfl rfl
theorem dX1_matchDays_0 : decode cX1_matchDays 0 = .ok (.aload_n 0, 1) := dk_42 (dk_at dksX1_matchDays_0 0 rfl rfl)
theorem dX1_matchDays_1 : decode cX1_matchDays 1 = .ok (.getfield 104, 3) := dk_180 0 104 (dk_at dksX1_matchDays_0 1 rfl rfl)
theorem dX1_matchDays_4 : decode cX1_matchDays 4 = .ok (.ifnonnull 9, 3) := dk_199 0 9 (dk_at dksX1_matchDays_0 4 rfl rfl)
theorem dX1_matchDays_7 : decode cX1_matchDays 7 = .ok (.aload_n 0, 1) := dk_42 (dk_at dksX1_matchDays_0 7 rfl rfl)
theorem dX1_matchDays_8 : decode cX1_matchDays 8 = .ok (.iconst 1, 1) := dk_4 (dk_at dksX1_matchDays_0 8 rfl rfl)
theorem dX1_matchDays_9 : decode cX1_matchDays 9 = .ok (.invokevirtual 65, 3) := dk_182 0 65 (dk_at dksX1_matchDays_0 9 rfl rfl)
theorem dX1_matchDays_12 : decode cX1_matchDays 12 = .ok (.ireturn, 1) := dk_172 (dk_at dksX1_matchDays_0 12 rfl rfl)
theorem dX1_matchDays_13 : decode cX1_matchDays 13 = .ok (.aload_n 0, 1) := dk_42 (dk_at dksX1_matchDays_0 13 rfl rfl)
theorem dX1_matchDays_14 : decode cX1_matchDays 14 = .ok (.iconst (-1), 1) := dk_2 (dk_at dksX1_matchDays_0 14 rfl rfl)
theorem dX1_matchDays_15 : decode cX1_matchDays 15 = .ok (.invokevirtual 362, 3) := dk_182 1 106 (dk_at dksX1_matchDays_0 15 rfl rfl)
theorem dX1_matchDays_18 : decode cX1_matchDays 18 = .ok (.istore_n 1, 1) := dk_60 (dk_at dksX1_matchDays_0 18 rfl rfl)
theorem dX1_matchDays_19 : decode cX1_matchDays 19 = .ok (.aload_n 0, 1) := dk_42 (dk_at dksX1_matchDays_0 19 rfl rfl)
theorem dX1_matchDays_20 : decode cX1_matchDays 20 = .ok (.iload_n 1, 1) := dk_27 (dk_at dksX1_matchDays_0 20 rfl rfl)
theorem dX1_matchDays_21 : decode cX1_matchDays 21 = .ok (.i2l, 1) := dk_133 (dk_at dksX1_matchDays_0 21 rfl rfl)
theorem dX1_matchDays_22 : decode cX1_matchDays 22 = .ok (.ldc2_w 357, 3) := dk_20 1 101 (dk_at dksX1_matchDays_1 0 rfl rfl)
theorem dX1_matchDays_25 : decode cX1_matchDays 25 = .ok (.lmul, 1) := dk_105 (dk_at dksX1_matchDays_1 3 rfl rfl)
theorem dX1_matchDays_26 : decode cX1_matchDays 26 = .ok (.aload_n 0, 1) := dk_42 (dk_at dksX1_matchDays_1 4 rfl rfl)
theorem dX1_matchDays_27 : decode cX1_matchDays 27 = .ok (.getfield 40, 3) := dk_180 0 40 (dk_at dksX1_matchDays_1 5 rfl rfl)
theorem dX1_matchDays_30 : decode cX1_matchDays 30 = .ok (.iconst 0, 1) := dk_3 (dk_at dksX1_matchDays_1 8 rfl rfl)
theorem dX1_matchDays_31 : decode cX1_matchDays 31 = .ok (.laload, 1) := dk_47 (dk_at dksX1_matchDays_1 9 rfl rfl)
theorem dX1_matchDays_32 : decode cX1_matchDays 32 = .ok (.lsub, 1) := dk_101 (dk_at dksX1_matchDays_1 10 rfl rfl)
theorem dX1_matchDays_33 : decode cX1_matchDays 33 = .ok (.l2i, 1) := dk_136 (dk_at dksX1_matchDays_1 11 rfl rfl)
theorem dX1_matchDays_34 : decode cX1_matchDays 34 = .ok (.invokevirtual 69, 3) := dk_182 0 69 (dk_at dksX1_matchDays_1 12 rfl rfl)
theorem dX1_matchDays_37 : decode cX1_matchDays 37 = .ok (.ireturn, 1) := dk_172 (dk_at dksX1_matchDays_1 15 rfl rfl)
abbrev cX1_matchOf : ByteArray := prog_1_method_70_code
def yX1_matchOf : MethodName := ⟨RX1, "matchOf", "(I)I"⟩
def dkwX1_matchOf_1 : List UInt8 := [182, 0, 65, 172]
abbrev dktX1_matchOf_1 : List UInt8 := dkwX1_matchOf_1 ++ []
def dkwX1_matchOf_0 : List UInt8 := [42, 27, 182, 0, 168, 153, 0, 15, 42, 42, 27, 182, 1, 106, 182, 0, 69, 167, 0, 8, 42, 4]
abbrev dktX1_matchOf_0 : List UInt8 := dkwX1_matchOf_0 ++ dktX1_matchOf_1
theorem dksX1_matchOf_0 : cX1_matchOf.data.toList.drop 0 = dktX1_matchOf_0 := by decide +kernel
theorem dksX1_matchOf_1 : cX1_matchOf.data.toList.drop 22 = dktX1_matchOf_1 := dk_seg dksX1_matchOf_0 22 rfl rfl
theorem dX1_matchOf_0 : decode cX1_matchOf 0 = .ok (.aload_n 0, 1) := dk_42 (dk_at dksX1_matchOf_0 0 rfl rfl)
theorem dX1_matchOf_1 : decode cX1_matchOf 1 = .ok (.iload_n 1, 1) := dk_27 (dk_at dksX1_matchOf_0 1 rfl rfl)
theorem dX1_matchOf_2 : decode cX1_matchOf 2 = .ok (.invokevirtual 168, 3) := dk_182 0 168 (dk_at dksX1_matchOf_0 2 rfl rfl)
theorem dX1_matchOf_5 : decode cX1_matchOf 5 = .ok (.ifCond .eq 15, 3) := dk_153 0 15 (dk_at dksX1_matchOf_0 5 rfl rfl)
theorem dX1_matchOf_8 : decode cX1_matchOf 8 = .ok (.aload_n 0, 1) := dk_42 (dk_at dksX1_matchOf_0 8 rfl rfl)
theorem dX1_matchOf_9 : decode cX1_matchOf 9 = .ok (.aload_n 0, 1) := dk_42 (dk_at dksX1_matchOf_0 9 rfl rfl)
theorem dX1_matchOf_10 : decode cX1_matchOf 10 = .ok (.iload_n 1, 1) := dk_27 (dk_at dksX1_matchOf_0 10 rfl rfl)
theorem dX1_matchOf_11 : decode cX1_matchOf 11 = .ok (.invokevirtual 362, 3) := dk_182 1 106 (dk_at dksX1_matchOf_0 11 rfl rfl)
theorem dX1_matchOf_14 : decode cX1_matchOf 14 = .ok (.invokevirtual 69, 3) := dk_182 0 69 (dk_at dksX1_matchOf_0 14 rfl rfl)
theorem dX1_matchOf_17 : decode cX1_matchOf 17 = .ok (.goto 8, 3) := dk_167 0 8 (dk_at dksX1_matchOf_0 17 rfl rfl)
theorem dX1_matchOf_20 : decode cX1_matchOf 20 = .ok (.aload_n 0, 1) := dk_42 (dk_at dksX1_matchOf_0 20 rfl rfl)
theorem dX1_matchOf_21 : decode cX1_matchOf 21 = .ok (.iconst 1, 1) := dk_4 (dk_at dksX1_matchOf_0 21 rfl rfl)
theorem dX1_matchOf_22 : decode cX1_matchOf 22 = .ok (.invokevirtual 65, 3) := dk_182 0 65 (dk_at dksX1_matchOf_1 0 rfl rfl)
theorem dX1_matchOf_25 : decode cX1_matchOf 25 = .ok (.ireturn, 1) := dk_172 (dk_at dksX1_matchOf_1 3 rfl rfl)
abbrev cX1_meet : ByteArray := prog_1_method_71_code
def yX1_meet : MethodName := ⟨RX1, "meet", "(IIII)I"⟩
def dkwX1_meet_6 : List UInt8 := [42, 21, 7, 21, 5, 21, 6, 184, 0, 251, 162, 0, 8, 21, 7, 167, 0, 5, 16, 254, 182, 0, 69, 172]
abbrev dktX1_meet_6 : List UInt8 := dkwX1_meet_6 ++ []
def dkwX1_meet_5 : List UInt8 := [16, 254, 182, 0, 69, 172, 42, 28, 27, 182, 1, 72, 42, 21, 4, 29, 182, 1, 72, 184, 1, 69, 54, 7]
abbrev dktX1_meet_5 : List UInt8 := dkwX1_meet_5 ++ dktX1_meet_6
def dkwX1_meet_4 : List UInt8 := [180, 0, 175, 160, 0, 19, 42, 29, 182, 0, 216, 42, 27, 182, 0, 171, 180, 0, 175, 159, 0, 10, 42]
abbrev dktX1_meet_4 : List UInt8 := dkwX1_meet_4 ++ dktX1_meet_5
def dkwX1_meet_3 : List UInt8 := [16, 254, 159, 0, 42, 21, 6, 16, 254, 159, 0, 35, 42, 27, 182, 0, 216, 42, 29, 182, 0, 171]
abbrev dktX1_meet_3 : List UInt8 := dkwX1_meet_3 ++ dktX1_meet_4
def dkwX1_meet_2 : List UInt8 := [182, 0, 65, 172, 42, 28, 27, 182, 1, 75, 54, 5, 42, 21, 4, 29, 182, 1, 75, 54, 6, 21, 5]
abbrev dktX1_meet_2 : List UInt8 := dkwX1_meet_2 ++ dktX1_meet_3
def dkwX1_meet_1 : List UInt8 := [42, 21, 4, 182, 0, 145, 153, 0, 14, 27, 29, 159, 0, 9, 28, 21, 4, 160, 0, 9, 42, 4]
abbrev dktX1_meet_1 : List UInt8 := dkwX1_meet_1 ++ dktX1_meet_2
def dkwX1_meet_0 : List UInt8 := [42, 27, 182, 0, 168, 153, 0, 39, 42, 29, 182, 0, 168, 153, 0, 31, 42, 28, 182, 0, 145, 153, 0, 23]
abbrev dktX1_meet_0 : List UInt8 := dkwX1_meet_0 ++ dktX1_meet_1
theorem dksX1_meet_0 : cX1_meet.data.toList.drop 0 = dktX1_meet_0 := by decide +kernel
theorem dksX1_meet_1 : cX1_meet.data.toList.drop 24 = dktX1_meet_1 := dk_seg dksX1_meet_0 24 rfl rfl
theorem dksX1_meet_2 : cX1_meet.data.toList.drop 46 = dktX1_meet_2 := dk_seg dksX1_meet_1 22 rfl rfl
theorem dksX1_meet_3 : cX1_meet.data.toList.drop 69 = dktX1_meet_3 := dk_seg dksX1_meet_2 23 rfl rfl
theorem dksX1_meet_4 : cX1_meet.data.toList.drop 91 = dktX1_meet_4 := dk_seg dksX1_meet_3 22 rfl rfl
theorem dksX1_meet_5 : cX1_meet.data.toList.drop 114 = dktX1_meet_5 := dk_seg dksX1_meet_4 23 rfl rfl
theorem dksX1_meet_6 : cX1_meet.data.toList.drop 138 = dktX1_meet_6 := dk_seg dksX1_meet_5 24 rfl rfl
theorem dX1_meet_0 : decode cX1_meet 0 = .ok (.aload_n 0, 1) := dk_42 (dk_at dksX1_meet_0 0 rfl rfl)
theorem dX1_meet_1 : decode cX1_meet 1 = .ok (.iload_n 1, 1) := dk_27 (dk_at dksX1_meet_0 1 rfl rfl)
theorem dX1_meet_2 : decode cX1_meet 2 = .ok (.invokevirtual 168, 3) := dk_182 0 168 (dk_at dksX1_meet_0 2 rfl rfl)
theorem dX1_meet_5 : decode cX1_meet 5 = .ok (.ifCond .eq 39, 3) := dk_153 0 39 (dk_at dksX1_meet_0 5 rfl rfl)
theorem dX1_meet_8 : decode cX1_meet 8 = .ok (.aload_n 0, 1) := dk_42 (dk_at dksX1_meet_0 8 rfl rfl)
theorem dX1_meet_9 : decode cX1_meet 9 = .ok (.iload_n 3, 1) := dk_29 (dk_at dksX1_meet_0 9 rfl rfl)
theorem dX1_meet_10 : decode cX1_meet 10 = .ok (.invokevirtual 168, 3) := dk_182 0 168 (dk_at dksX1_meet_0 10 rfl rfl)
theorem dX1_meet_13 : decode cX1_meet 13 = .ok (.ifCond .eq 31, 3) := dk_153 0 31 (dk_at dksX1_meet_0 13 rfl rfl)
theorem dX1_meet_16 : decode cX1_meet 16 = .ok (.aload_n 0, 1) := dk_42 (dk_at dksX1_meet_0 16 rfl rfl)
theorem dX1_meet_17 : decode cX1_meet 17 = .ok (.iload_n 2, 1) := dk_28 (dk_at dksX1_meet_0 17 rfl rfl)
theorem dX1_meet_18 : decode cX1_meet 18 = .ok (.invokevirtual 145, 3) := dk_182 0 145 (dk_at dksX1_meet_0 18 rfl rfl)
theorem dX1_meet_21 : decode cX1_meet 21 = .ok (.ifCond .eq 23, 3) := dk_153 0 23 (dk_at dksX1_meet_0 21 rfl rfl)
theorem dX1_meet_24 : decode cX1_meet 24 = .ok (.aload_n 0, 1) := dk_42 (dk_at dksX1_meet_1 0 rfl rfl)
theorem dX1_meet_25 : decode cX1_meet 25 = .ok (.iload 4, 2) := dk_21 4 (dk_at dksX1_meet_1 1 rfl rfl)
theorem dX1_meet_27 : decode cX1_meet 27 = .ok (.invokevirtual 145, 3) := dk_182 0 145 (dk_at dksX1_meet_1 3 rfl rfl)
theorem dX1_meet_30 : decode cX1_meet 30 = .ok (.ifCond .eq 14, 3) := dk_153 0 14 (dk_at dksX1_meet_1 6 rfl rfl)
theorem dX1_meet_33 : decode cX1_meet 33 = .ok (.iload_n 1, 1) := dk_27 (dk_at dksX1_meet_1 9 rfl rfl)
theorem dX1_meet_34 : decode cX1_meet 34 = .ok (.iload_n 3, 1) := dk_29 (dk_at dksX1_meet_1 10 rfl rfl)
theorem dX1_meet_35 : decode cX1_meet 35 = .ok (.if_icmp .eq 9, 3) := dk_159 0 9 (dk_at dksX1_meet_1 11 rfl rfl)
theorem dX1_meet_38 : decode cX1_meet 38 = .ok (.iload_n 2, 1) := dk_28 (dk_at dksX1_meet_1 14 rfl rfl)
theorem dX1_meet_39 : decode cX1_meet 39 = .ok (.iload 4, 2) := dk_21 4 (dk_at dksX1_meet_1 15 rfl rfl)
theorem dX1_meet_41 : decode cX1_meet 41 = .ok (.if_icmp .ne 9, 3) := dk_160 0 9 (dk_at dksX1_meet_1 17 rfl rfl)
theorem dX1_meet_44 : decode cX1_meet 44 = .ok (.aload_n 0, 1) := dk_42 (dk_at dksX1_meet_1 20 rfl rfl)
theorem dX1_meet_45 : decode cX1_meet 45 = .ok (.iconst 1, 1) := dk_4 (dk_at dksX1_meet_1 21 rfl rfl)
theorem dX1_meet_46 : decode cX1_meet 46 = .ok (.invokevirtual 65, 3) := dk_182 0 65 (dk_at dksX1_meet_2 0 rfl rfl)
theorem dX1_meet_49 : decode cX1_meet 49 = .ok (.ireturn, 1) := dk_172 (dk_at dksX1_meet_2 3 rfl rfl)
theorem dX1_meet_50 : decode cX1_meet 50 = .ok (.aload_n 0, 1) := dk_42 (dk_at dksX1_meet_2 4 rfl rfl)
theorem dX1_meet_51 : decode cX1_meet 51 = .ok (.iload_n 2, 1) := dk_28 (dk_at dksX1_meet_2 5 rfl rfl)
theorem dX1_meet_52 : decode cX1_meet 52 = .ok (.iload_n 1, 1) := dk_27 (dk_at dksX1_meet_2 6 rfl rfl)
theorem dX1_meet_53 : decode cX1_meet 53 = .ok (.invokevirtual 331, 3) := dk_182 1 75 (dk_at dksX1_meet_2 7 rfl rfl)
theorem dX1_meet_56 : decode cX1_meet 56 = .ok (.istore 5, 2) := dk_54 5 (dk_at dksX1_meet_2 10 rfl rfl)
theorem dX1_meet_58 : decode cX1_meet 58 = .ok (.aload_n 0, 1) := dk_42 (dk_at dksX1_meet_2 12 rfl rfl)
theorem dX1_meet_59 : decode cX1_meet 59 = .ok (.iload 4, 2) := dk_21 4 (dk_at dksX1_meet_2 13 rfl rfl)
theorem dX1_meet_61 : decode cX1_meet 61 = .ok (.iload_n 3, 1) := dk_29 (dk_at dksX1_meet_2 15 rfl rfl)
theorem dX1_meet_62 : decode cX1_meet 62 = .ok (.invokevirtual 331, 3) := dk_182 1 75 (dk_at dksX1_meet_2 16 rfl rfl)
theorem dX1_meet_65 : decode cX1_meet 65 = .ok (.istore 6, 2) := dk_54 6 (dk_at dksX1_meet_2 19 rfl rfl)
theorem dX1_meet_67 : decode cX1_meet 67 = .ok (.iload 5, 2) := dk_21 5 (dk_at dksX1_meet_2 21 rfl rfl)
theorem dX1_meet_69 : decode cX1_meet 69 = .ok (.bipush (-2), 2) := dk_16 254 (dk_at dksX1_meet_3 0 rfl rfl)
theorem dX1_meet_71 : decode cX1_meet 71 = .ok (.if_icmp .eq 42, 3) := dk_159 0 42 (dk_at dksX1_meet_3 2 rfl rfl)
theorem dX1_meet_74 : decode cX1_meet 74 = .ok (.iload 6, 2) := dk_21 6 (dk_at dksX1_meet_3 5 rfl rfl)
theorem dX1_meet_76 : decode cX1_meet 76 = .ok (.bipush (-2), 2) := dk_16 254 (dk_at dksX1_meet_3 7 rfl rfl)
theorem dX1_meet_78 : decode cX1_meet 78 = .ok (.if_icmp .eq 35, 3) := dk_159 0 35 (dk_at dksX1_meet_3 9 rfl rfl)
theorem dX1_meet_81 : decode cX1_meet 81 = .ok (.aload_n 0, 1) := dk_42 (dk_at dksX1_meet_3 12 rfl rfl)
theorem dX1_meet_82 : decode cX1_meet 82 = .ok (.iload_n 1, 1) := dk_27 (dk_at dksX1_meet_3 13 rfl rfl)
theorem dX1_meet_83 : decode cX1_meet 83 = .ok (.invokevirtual 216, 3) := dk_182 0 216 (dk_at dksX1_meet_3 14 rfl rfl)
theorem dX1_meet_86 : decode cX1_meet 86 = .ok (.aload_n 0, 1) := dk_42 (dk_at dksX1_meet_3 17 rfl rfl)
theorem dX1_meet_87 : decode cX1_meet 87 = .ok (.iload_n 3, 1) := dk_29 (dk_at dksX1_meet_3 18 rfl rfl)
theorem dX1_meet_88 : decode cX1_meet 88 = .ok (.invokevirtual 171, 3) := dk_182 0 171 (dk_at dksX1_meet_3 19 rfl rfl)
theorem dX1_meet_91 : decode cX1_meet 91 = .ok (.getfield 175, 3) := dk_180 0 175 (dk_at dksX1_meet_4 0 rfl rfl)
theorem dX1_meet_94 : decode cX1_meet 94 = .ok (.if_icmp .ne 19, 3) := dk_160 0 19 (dk_at dksX1_meet_4 3 rfl rfl)
theorem dX1_meet_97 : decode cX1_meet 97 = .ok (.aload_n 0, 1) := dk_42 (dk_at dksX1_meet_4 6 rfl rfl)
theorem dX1_meet_98 : decode cX1_meet 98 = .ok (.iload_n 3, 1) := dk_29 (dk_at dksX1_meet_4 7 rfl rfl)
theorem dX1_meet_99 : decode cX1_meet 99 = .ok (.invokevirtual 216, 3) := dk_182 0 216 (dk_at dksX1_meet_4 8 rfl rfl)
theorem dX1_meet_102 : decode cX1_meet 102 = .ok (.aload_n 0, 1) := dk_42 (dk_at dksX1_meet_4 11 rfl rfl)
theorem dX1_meet_103 : decode cX1_meet 103 = .ok (.iload_n 1, 1) := dk_27 (dk_at dksX1_meet_4 12 rfl rfl)
theorem dX1_meet_104 : decode cX1_meet 104 = .ok (.invokevirtual 171, 3) := dk_182 0 171 (dk_at dksX1_meet_4 13 rfl rfl)
theorem dX1_meet_107 : decode cX1_meet 107 = .ok (.getfield 175, 3) := dk_180 0 175 (dk_at dksX1_meet_4 16 rfl rfl)
theorem dX1_meet_110 : decode cX1_meet 110 = .ok (.if_icmp .eq 10, 3) := dk_159 0 10 (dk_at dksX1_meet_4 19 rfl rfl)
theorem dX1_meet_113 : decode cX1_meet 113 = .ok (.aload_n 0, 1) := dk_42 (dk_at dksX1_meet_4 22 rfl rfl)
theorem dX1_meet_114 : decode cX1_meet 114 = .ok (.bipush (-2), 2) := dk_16 254 (dk_at dksX1_meet_5 0 rfl rfl)
theorem dX1_meet_116 : decode cX1_meet 116 = .ok (.invokevirtual 69, 3) := dk_182 0 69 (dk_at dksX1_meet_5 2 rfl rfl)
theorem dX1_meet_119 : decode cX1_meet 119 = .ok (.ireturn, 1) := dk_172 (dk_at dksX1_meet_5 5 rfl rfl)
theorem dX1_meet_120 : decode cX1_meet 120 = .ok (.aload_n 0, 1) := dk_42 (dk_at dksX1_meet_5 6 rfl rfl)
theorem dX1_meet_121 : decode cX1_meet 121 = .ok (.iload_n 2, 1) := dk_28 (dk_at dksX1_meet_5 7 rfl rfl)
theorem dX1_meet_122 : decode cX1_meet 122 = .ok (.iload_n 1, 1) := dk_27 (dk_at dksX1_meet_5 8 rfl rfl)
theorem dX1_meet_123 : decode cX1_meet 123 = .ok (.invokevirtual 328, 3) := dk_182 1 72 (dk_at dksX1_meet_5 9 rfl rfl)
theorem dX1_meet_126 : decode cX1_meet 126 = .ok (.aload_n 0, 1) := dk_42 (dk_at dksX1_meet_5 12 rfl rfl)
theorem dX1_meet_127 : decode cX1_meet 127 = .ok (.iload 4, 2) := dk_21 4 (dk_at dksX1_meet_5 13 rfl rfl)
theorem dX1_meet_129 : decode cX1_meet 129 = .ok (.iload_n 3, 1) := dk_29 (dk_at dksX1_meet_5 15 rfl rfl)
theorem dX1_meet_130 : decode cX1_meet 130 = .ok (.invokevirtual 328, 3) := dk_182 1 72 (dk_at dksX1_meet_5 16 rfl rfl)
theorem dX1_meet_133 : decode cX1_meet 133 = .ok (.invokestatic 325, 3) := dk_184 1 69 (dk_at dksX1_meet_5 19 rfl rfl)
theorem dX1_meet_136 : decode cX1_meet 136 = .ok (.istore 7, 2) := dk_54 7 (dk_at dksX1_meet_5 22 rfl rfl)
theorem dX1_meet_138 : decode cX1_meet 138 = .ok (.aload_n 0, 1) := dk_42 (dk_at dksX1_meet_6 0 rfl rfl)
theorem dX1_meet_139 : decode cX1_meet 139 = .ok (.iload 7, 2) := dk_21 7 (dk_at dksX1_meet_6 1 rfl rfl)
theorem dX1_meet_141 : decode cX1_meet 141 = .ok (.iload 5, 2) := dk_21 5 (dk_at dksX1_meet_6 3 rfl rfl)
theorem dX1_meet_143 : decode cX1_meet 143 = .ok (.iload 6, 2) := dk_21 6 (dk_at dksX1_meet_6 5 rfl rfl)
theorem dX1_meet_145 : decode cX1_meet 145 = .ok (.invokestatic 251, 3) := dk_184 0 251 (dk_at dksX1_meet_6 7 rfl rfl)
theorem dX1_meet_148 : decode cX1_meet 148 = .ok (.if_icmp .ge 8, 3) := dk_162 0 8 (dk_at dksX1_meet_6 10 rfl rfl)
theorem dX1_meet_151 : decode cX1_meet 151 = .ok (.iload 7, 2) := dk_21 7 (dk_at dksX1_meet_6 13 rfl rfl)
theorem dX1_meet_153 : decode cX1_meet 153 = .ok (.goto 5, 3) := dk_167 0 5 (dk_at dksX1_meet_6 15 rfl rfl)
theorem dX1_meet_156 : decode cX1_meet 156 = .ok (.bipush (-2), 2) := dk_16 254 (dk_at dksX1_meet_6 18 rfl rfl)
theorem dX1_meet_158 : decode cX1_meet 158 = .ok (.invokevirtual 69, 3) := dk_182 0 69 (dk_at dksX1_meet_6 20 rfl rfl)
theorem dX1_meet_161 : decode cX1_meet 161 = .ok (.ireturn, 1) := dk_172 (dk_at dksX1_meet_6 23 rfl rfl)
abbrev cX1_fits : ByteArray := prog_1_method_73_code
def yX1_fits : MethodName := ⟨RX1, "fits", "()I"⟩
def dkwX1_fits_2 : List UInt8 := [3, 128, 60, 132, 2, 1, 167, 255, 221, 42, 27, 182, 0, 69, 172]
abbrev dktX1_fits_2 : List UInt8 := dkwX1_fits_2 ++ []
def dkwX1_fits_1 : List UInt8 := [180, 0, 131, 182, 0, 127, 162, 0, 27, 27, 42, 28, 182, 1, 127, 153, 0, 9, 4, 28, 120, 167, 0, 4]
abbrev dktX1_fits_1 : List UInt8 := dkwX1_fits_1 ++ dktX1_fits_2
def dkwX1_fits_0 : List UInt8 := [42, 180, 0, 104, 199, 0, 9, 42, 4, 182, 0, 65, 172, 3, 60, 3, 61, 28, 42, 180, 0, 104]
abbrev dktX1_fits_0 : List UInt8 := dkwX1_fits_0 ++ dktX1_fits_1
theorem dksX1_fits_0 : cX1_fits.data.toList.drop 0 = dktX1_fits_0 := by decide +kernel
theorem dksX1_fits_1 : cX1_fits.data.toList.drop 22 = dktX1_fits_1 := dk_seg dksX1_fits_0 22 rfl rfl
theorem dksX1_fits_2 : cX1_fits.data.toList.drop 46 = dktX1_fits_2 := dk_seg dksX1_fits_1 24 rfl rfl
theorem dX1_fits_0 : decode cX1_fits 0 = .ok (.aload_n 0, 1) := dk_42 (dk_at dksX1_fits_0 0 rfl rfl)
theorem dX1_fits_1 : decode cX1_fits 1 = .ok (.getfield 104, 3) := dk_180 0 104 (dk_at dksX1_fits_0 1 rfl rfl)
theorem dX1_fits_4 : decode cX1_fits 4 = .ok (.ifnonnull 9, 3) := dk_199 0 9 (dk_at dksX1_fits_0 4 rfl rfl)
theorem dX1_fits_7 : decode cX1_fits 7 = .ok (.aload_n 0, 1) := dk_42 (dk_at dksX1_fits_0 7 rfl rfl)
theorem dX1_fits_8 : decode cX1_fits 8 = .ok (.iconst 1, 1) := dk_4 (dk_at dksX1_fits_0 8 rfl rfl)
theorem dX1_fits_9 : decode cX1_fits 9 = .ok (.invokevirtual 65, 3) := dk_182 0 65 (dk_at dksX1_fits_0 9 rfl rfl)
theorem dX1_fits_12 : decode cX1_fits 12 = .ok (.ireturn, 1) := dk_172 (dk_at dksX1_fits_0 12 rfl rfl)
theorem dX1_fits_13 : decode cX1_fits 13 = .ok (.iconst 0, 1) := dk_3 (dk_at dksX1_fits_0 13 rfl rfl)
theorem dX1_fits_14 : decode cX1_fits 14 = .ok (.istore_n 1, 1) := dk_60 (dk_at dksX1_fits_0 14 rfl rfl)
theorem dX1_fits_15 : decode cX1_fits 15 = .ok (.iconst 0, 1) := dk_3 (dk_at dksX1_fits_0 15 rfl rfl)
theorem dX1_fits_16 : decode cX1_fits 16 = .ok (.istore_n 2, 1) := dk_61 (dk_at dksX1_fits_0 16 rfl rfl)
theorem dX1_fits_17 : decode cX1_fits 17 = .ok (.iload_n 2, 1) := dk_28 (dk_at dksX1_fits_0 17 rfl rfl)
theorem dX1_fits_18 : decode cX1_fits 18 = .ok (.aload_n 0, 1) := dk_42 (dk_at dksX1_fits_0 18 rfl rfl)
theorem dX1_fits_19 : decode cX1_fits 19 = .ok (.getfield 104, 3) := dk_180 0 104 (dk_at dksX1_fits_0 19 rfl rfl)
theorem dX1_fits_22 : decode cX1_fits 22 = .ok (.getfield 131, 3) := dk_180 0 131 (dk_at dksX1_fits_1 0 rfl rfl)
theorem dX1_fits_25 : decode cX1_fits 25 = .ok (.invokevirtual 127, 3) := dk_182 0 127 (dk_at dksX1_fits_1 3 rfl rfl)
theorem dX1_fits_28 : decode cX1_fits 28 = .ok (.if_icmp .ge 27, 3) := dk_162 0 27 (dk_at dksX1_fits_1 6 rfl rfl)
theorem dX1_fits_31 : decode cX1_fits 31 = .ok (.iload_n 1, 1) := dk_27 (dk_at dksX1_fits_1 9 rfl rfl)
theorem dX1_fits_32 : decode cX1_fits 32 = .ok (.aload_n 0, 1) := dk_42 (dk_at dksX1_fits_1 10 rfl rfl)
theorem dX1_fits_33 : decode cX1_fits 33 = .ok (.iload_n 2, 1) := dk_28 (dk_at dksX1_fits_1 11 rfl rfl)
theorem dX1_fits_34 : decode cX1_fits 34 = .ok (.invokevirtual 383, 3) := dk_182 1 127 (dk_at dksX1_fits_1 12 rfl rfl)
theorem dX1_fits_37 : decode cX1_fits 37 = .ok (.ifCond .eq 9, 3) := dk_153 0 9 (dk_at dksX1_fits_1 15 rfl rfl)
theorem dX1_fits_40 : decode cX1_fits 40 = .ok (.iconst 1, 1) := dk_4 (dk_at dksX1_fits_1 18 rfl rfl)
theorem dX1_fits_41 : decode cX1_fits 41 = .ok (.iload_n 2, 1) := dk_28 (dk_at dksX1_fits_1 19 rfl rfl)
theorem dX1_fits_42 : decode cX1_fits 42 = .ok (.ishl, 1) := dk_120 (dk_at dksX1_fits_1 20 rfl rfl)
theorem dX1_fits_43 : decode cX1_fits 43 = .ok (.goto 4, 3) := dk_167 0 4 (dk_at dksX1_fits_1 21 rfl rfl)
theorem dX1_fits_46 : decode cX1_fits 46 = .ok (.iconst 0, 1) := dk_3 (dk_at dksX1_fits_2 0 rfl rfl)
theorem dX1_fits_47 : decode cX1_fits 47 = .ok (.ior, 1) := dk_128 (dk_at dksX1_fits_2 1 rfl rfl)
theorem dX1_fits_48 : decode cX1_fits 48 = .ok (.istore_n 1, 1) := dk_60 (dk_at dksX1_fits_2 2 rfl rfl)
theorem dX1_fits_49 : decode cX1_fits 49 = .ok (.iinc 2 1, 3) := dk_132 2 1 (dk_at dksX1_fits_2 3 rfl rfl)
theorem dX1_fits_52 : decode cX1_fits 52 = .ok (.goto (-35), 3) := dk_167 255 221 (dk_at dksX1_fits_2 6 rfl rfl)
theorem dX1_fits_55 : decode cX1_fits 55 = .ok (.aload_n 0, 1) := dk_42 (dk_at dksX1_fits_2 9 rfl rfl)
theorem dX1_fits_56 : decode cX1_fits 56 = .ok (.iload_n 1, 1) := dk_27 (dk_at dksX1_fits_2 10 rfl rfl)
theorem dX1_fits_57 : decode cX1_fits 57 = .ok (.invokevirtual 69, 3) := dk_182 0 69 (dk_at dksX1_fits_2 11 rfl rfl)
theorem dX1_fits_60 : decode cX1_fits 60 = .ok (.ireturn, 1) := dk_172 (dk_at dksX1_fits_2 14 rfl rfl)
abbrev cX1_isFit : ByteArray := prog_1_method_72_code
def yX1_isFit : MethodName := ⟨RX1, "isFit", "(I)Z"⟩
def dkwX1_isFit_5 : List UInt8 := [132, 2, 1, 167, 255, 156, 4, 172]
abbrev dktX1_isFit_5 : List UInt8 := dkwX1_isFit_5 ++ []
def dkwX1_isFit_4 : List UInt8 := [180, 1, 126, 164, 0, 5, 3, 172, 42, 45, 180, 1, 125, 181, 1, 111, 42, 45, 180, 1, 126, 181, 1, 114]
abbrev dktX1_isFit_4 : List UInt8 := dkwX1_isFit_4 ++ dktX1_isFit_5
def dkwX1_isFit_3 : List UInt8 := [180, 1, 125, 42, 180, 1, 114, 182, 1, 62, 54, 4, 21, 4, 16, 254, 159, 0, 12, 21, 4, 45]
abbrev dktX1_isFit_3 : List UInt8 := dkwX1_isFit_3 ++ dktX1_isFit_4
def dkwX1_isFit_2 : List UInt8 := [45, 180, 1, 122, 27, 159, 0, 6, 167, 0, 60, 42, 42, 27, 182, 0, 149, 42, 180, 1, 111, 45]
abbrev dktX1_isFit_2 : List UInt8 := dkwX1_isFit_2 ++ dktX1_isFit_3
def dkwX1_isFit_1 : List UInt8 := [180, 1, 117, 182, 0, 127, 162, 0, 92, 42, 180, 0, 104, 180, 1, 117, 28, 182, 0, 137, 192, 1, 120, 78]
abbrev dktX1_isFit_1 : List UInt8 := dkwX1_isFit_1 ++ dktX1_isFit_2
def dkwX1_isFit_0 : List UInt8 := [42, 42, 27, 182, 0, 149, 180, 1, 109, 181, 1, 111, 42, 3, 181, 1, 114, 3, 61, 28, 42, 180, 0, 104]
abbrev dktX1_isFit_0 : List UInt8 := dkwX1_isFit_0 ++ dktX1_isFit_1
theorem dksX1_isFit_0 : cX1_isFit.data.toList.drop 0 = dktX1_isFit_0 := by decide +kernel
theorem dksX1_isFit_1 : cX1_isFit.data.toList.drop 24 = dktX1_isFit_1 := dk_seg dksX1_isFit_0 24 rfl rfl
theorem dksX1_isFit_2 : cX1_isFit.data.toList.drop 48 = dktX1_isFit_2 := dk_seg dksX1_isFit_1 24 rfl rfl
theorem dksX1_isFit_3 : cX1_isFit.data.toList.drop 70 = dktX1_isFit_3 := dk_seg dksX1_isFit_2 22 rfl rfl
theorem dksX1_isFit_4 : cX1_isFit.data.toList.drop 92 = dktX1_isFit_4 := dk_seg dksX1_isFit_3 22 rfl rfl
theorem dksX1_isFit_5 : cX1_isFit.data.toList.drop 116 = dktX1_isFit_5 := dk_seg dksX1_isFit_4 24 rfl rfl
theorem dX1_isFit_0 : decode cX1_isFit 0 = .ok (.aload_n 0, 1) := dk_42 (dk_at dksX1_isFit_0 0 rfl rfl)
theorem dX1_isFit_1 : decode cX1_isFit 1 = .ok (.aload_n 0, 1) := dk_42 (dk_at dksX1_isFit_0 1 rfl rfl)
theorem dX1_isFit_2 : decode cX1_isFit 2 = .ok (.iload_n 1, 1) := dk_27 (dk_at dksX1_isFit_0 2 rfl rfl)
theorem dX1_isFit_3 : decode cX1_isFit 3 = .ok (.invokevirtual 149, 3) := dk_182 0 149 (dk_at dksX1_isFit_0 3 rfl rfl)
theorem dX1_isFit_6 : decode cX1_isFit 6 = .ok (.getfield 365, 3) := dk_180 1 109 (dk_at dksX1_isFit_0 6 rfl rfl)
theorem dX1_isFit_9 : decode cX1_isFit 9 = .ok (.putfield 367, 3) := dk_181 1 111 (dk_at dksX1_isFit_0 9 rfl rfl)
theorem dX1_isFit_12 : decode cX1_isFit 12 = .ok (.aload_n 0, 1) := dk_42 (dk_at dksX1_isFit_0 12 rfl rfl)
theorem dX1_isFit_13 : decode cX1_isFit 13 = .ok (.iconst 0, 1) := dk_3 (dk_at dksX1_isFit_0 13 rfl rfl)
theorem dX1_isFit_14 : decode cX1_isFit 14 = .ok (.putfield 370, 3) := dk_181 1 114 (dk_at dksX1_isFit_0 14 rfl rfl)
theorem dX1_isFit_17 : decode cX1_isFit 17 = .ok (.iconst 0, 1) := dk_3 (dk_at dksX1_isFit_0 17 rfl rfl)
theorem dX1_isFit_18 : decode cX1_isFit 18 = .ok (.istore_n 2, 1) := dk_61 (dk_at dksX1_isFit_0 18 rfl rfl)
theorem dX1_isFit_19 : decode cX1_isFit 19 = .ok (.iload_n 2, 1) := dk_28 (dk_at dksX1_isFit_0 19 rfl rfl)
theorem dX1_isFit_20 : decode cX1_isFit 20 = .ok (.aload_n 0, 1) := dk_42 (dk_at dksX1_isFit_0 20 rfl rfl)
theorem dX1_isFit_21 : decode cX1_isFit 21 = .ok (.getfield 104, 3) := dk_180 0 104 (dk_at dksX1_isFit_0 21 rfl rfl)
theorem dX1_isFit_24 : decode cX1_isFit 24 = .ok (.getfield 373, 3) := dk_180 1 117 (dk_at dksX1_isFit_1 0 rfl rfl)
theorem dX1_isFit_27 : decode cX1_isFit 27 = .ok (.invokevirtual 127, 3) := dk_182 0 127 (dk_at dksX1_isFit_1 3 rfl rfl)
theorem dX1_isFit_30 : decode cX1_isFit 30 = .ok (.if_icmp .ge 92, 3) := dk_162 0 92 (dk_at dksX1_isFit_1 6 rfl rfl)
theorem dX1_isFit_33 : decode cX1_isFit 33 = .ok (.aload_n 0, 1) := dk_42 (dk_at dksX1_isFit_1 9 rfl rfl)
theorem dX1_isFit_34 : decode cX1_isFit 34 = .ok (.getfield 104, 3) := dk_180 0 104 (dk_at dksX1_isFit_1 10 rfl rfl)
theorem dX1_isFit_37 : decode cX1_isFit 37 = .ok (.getfield 373, 3) := dk_180 1 117 (dk_at dksX1_isFit_1 13 rfl rfl)
theorem dX1_isFit_40 : decode cX1_isFit 40 = .ok (.iload_n 2, 1) := dk_28 (dk_at dksX1_isFit_1 16 rfl rfl)
theorem dX1_isFit_41 : decode cX1_isFit 41 = .ok (.invokevirtual 137, 3) := dk_182 0 137 (dk_at dksX1_isFit_1 17 rfl rfl)
theorem dX1_isFit_44 : decode cX1_isFit 44 = .ok (.checkcast 376, 3) := dk_192 1 120 (dk_at dksX1_isFit_1 20 rfl rfl)
theorem dX1_isFit_47 : decode cX1_isFit 47 = .ok (.astore_n 3, 1) := dk_78 (dk_at dksX1_isFit_1 23 rfl rfl)
theorem dX1_isFit_48 : decode cX1_isFit 48 = .ok (.aload_n 3, 1) := dk_45 (dk_at dksX1_isFit_2 0 rfl rfl)
theorem dX1_isFit_49 : decode cX1_isFit 49 = .ok (.getfield 378, 3) := dk_180 1 122 (dk_at dksX1_isFit_2 1 rfl rfl)
theorem dX1_isFit_52 : decode cX1_isFit 52 = .ok (.iload_n 1, 1) := dk_27 (dk_at dksX1_isFit_2 4 rfl rfl)
theorem dX1_isFit_53 : decode cX1_isFit 53 = .ok (.if_icmp .eq 6, 3) := dk_159 0 6 (dk_at dksX1_isFit_2 5 rfl rfl)
theorem dX1_isFit_56 : decode cX1_isFit 56 = .ok (.goto 60, 3) := dk_167 0 60 (dk_at dksX1_isFit_2 8 rfl rfl)
theorem dX1_isFit_59 : decode cX1_isFit 59 = .ok (.aload_n 0, 1) := dk_42 (dk_at dksX1_isFit_2 11 rfl rfl)
theorem dX1_isFit_60 : decode cX1_isFit 60 = .ok (.aload_n 0, 1) := dk_42 (dk_at dksX1_isFit_2 12 rfl rfl)
theorem dX1_isFit_61 : decode cX1_isFit 61 = .ok (.iload_n 1, 1) := dk_27 (dk_at dksX1_isFit_2 13 rfl rfl)
theorem dX1_isFit_62 : decode cX1_isFit 62 = .ok (.invokevirtual 149, 3) := dk_182 0 149 (dk_at dksX1_isFit_2 14 rfl rfl)
theorem dX1_isFit_65 : decode cX1_isFit 65 = .ok (.aload_n 0, 1) := dk_42 (dk_at dksX1_isFit_2 17 rfl rfl)
theorem dX1_isFit_66 : decode cX1_isFit 66 = .ok (.getfield 367, 3) := dk_180 1 111 (dk_at dksX1_isFit_2 18 rfl rfl)
theorem dX1_isFit_69 : decode cX1_isFit 69 = .ok (.aload_n 3, 1) := dk_45 (dk_at dksX1_isFit_2 21 rfl rfl)
theorem dX1_isFit_70 : decode cX1_isFit 70 = .ok (.getfield 381, 3) := dk_180 1 125 (dk_at dksX1_isFit_3 0 rfl rfl)
theorem dX1_isFit_73 : decode cX1_isFit 73 = .ok (.aload_n 0, 1) := dk_42 (dk_at dksX1_isFit_3 3 rfl rfl)
theorem dX1_isFit_74 : decode cX1_isFit 74 = .ok (.getfield 370, 3) := dk_180 1 114 (dk_at dksX1_isFit_3 4 rfl rfl)
theorem dX1_isFit_77 : decode cX1_isFit 77 = .ok (.invokevirtual 318, 3) := dk_182 1 62 (dk_at dksX1_isFit_3 7 rfl rfl)
theorem dX1_isFit_80 : decode cX1_isFit 80 = .ok (.istore 4, 2) := dk_54 4 (dk_at dksX1_isFit_3 10 rfl rfl)
theorem dX1_isFit_82 : decode cX1_isFit 82 = .ok (.iload 4, 2) := dk_21 4 (dk_at dksX1_isFit_3 12 rfl rfl)
theorem dX1_isFit_84 : decode cX1_isFit 84 = .ok (.bipush (-2), 2) := dk_16 254 (dk_at dksX1_isFit_3 14 rfl rfl)
theorem dX1_isFit_86 : decode cX1_isFit 86 = .ok (.if_icmp .eq 12, 3) := dk_159 0 12 (dk_at dksX1_isFit_3 16 rfl rfl)
theorem dX1_isFit_89 : decode cX1_isFit 89 = .ok (.iload 4, 2) := dk_21 4 (dk_at dksX1_isFit_3 19 rfl rfl)
theorem dX1_isFit_91 : decode cX1_isFit 91 = .ok (.aload_n 3, 1) := dk_45 (dk_at dksX1_isFit_3 21 rfl rfl)
theorem dX1_isFit_92 : decode cX1_isFit 92 = .ok (.getfield 382, 3) := dk_180 1 126 (dk_at dksX1_isFit_4 0 rfl rfl)
theorem dX1_isFit_95 : decode cX1_isFit 95 = .ok (.if_icmp .le 5, 3) := dk_164 0 5 (dk_at dksX1_isFit_4 3 rfl rfl)
theorem dX1_isFit_98 : decode cX1_isFit 98 = .ok (.iconst 0, 1) := dk_3 (dk_at dksX1_isFit_4 6 rfl rfl)
theorem dX1_isFit_99 : decode cX1_isFit 99 = .ok (.ireturn, 1) := dk_172 (dk_at dksX1_isFit_4 7 rfl rfl)
theorem dX1_isFit_100 : decode cX1_isFit 100 = .ok (.aload_n 0, 1) := dk_42 (dk_at dksX1_isFit_4 8 rfl rfl)
theorem dX1_isFit_101 : decode cX1_isFit 101 = .ok (.aload_n 3, 1) := dk_45 (dk_at dksX1_isFit_4 9 rfl rfl)
theorem dX1_isFit_102 : decode cX1_isFit 102 = .ok (.getfield 381, 3) := dk_180 1 125 (dk_at dksX1_isFit_4 10 rfl rfl)
theorem dX1_isFit_105 : decode cX1_isFit 105 = .ok (.putfield 367, 3) := dk_181 1 111 (dk_at dksX1_isFit_4 13 rfl rfl)
theorem dX1_isFit_108 : decode cX1_isFit 108 = .ok (.aload_n 0, 1) := dk_42 (dk_at dksX1_isFit_4 16 rfl rfl)
theorem dX1_isFit_109 : decode cX1_isFit 109 = .ok (.aload_n 3, 1) := dk_45 (dk_at dksX1_isFit_4 17 rfl rfl)
theorem dX1_isFit_110 : decode cX1_isFit 110 = .ok (.getfield 382, 3) := dk_180 1 126 (dk_at dksX1_isFit_4 18 rfl rfl)
theorem dX1_isFit_113 : decode cX1_isFit 113 = .ok (.putfield 370, 3) := dk_181 1 114 (dk_at dksX1_isFit_4 21 rfl rfl)
theorem dX1_isFit_116 : decode cX1_isFit 116 = .ok (.iinc 2 1, 3) := dk_132 2 1 (dk_at dksX1_isFit_5 0 rfl rfl)
theorem dX1_isFit_119 : decode cX1_isFit 119 = .ok (.goto (-100), 3) := dk_167 255 156 (dk_at dksX1_isFit_5 3 rfl rfl)
theorem dX1_isFit_122 : decode cX1_isFit 122 = .ok (.iconst 1, 1) := dk_4 (dk_at dksX1_isFit_5 6 rfl rfl)
theorem dX1_isFit_123 : decode cX1_isFit 123 = .ok (.ireturn, 1) := dk_172 (dk_at dksX1_isFit_5 7 rfl rfl)
abbrev cX1_reach : ByteArray := prog_1_method_75_code
def yX1_reach : MethodName := ⟨RX1, "reach", "(II)I"⟩
def dkwX1_reach_1 : List UInt8 := [42, 42, 27, 28, 182, 1, 130, 182, 0, 69, 167, 0, 8, 42, 5, 182, 0, 65, 172]
abbrev dktX1_reach_1 : List UInt8 := dkwX1_reach_1 ++ []
def dkwX1_reach_0 : List UInt8 := [42, 27, 182, 0, 145, 154, 0, 9, 42, 4, 182, 0, 65, 172, 28, 3, 18, 239, 184, 0, 79, 153, 0, 16]
abbrev dktX1_reach_0 : List UInt8 := dkwX1_reach_0 ++ dktX1_reach_1
theorem dksX1_reach_0 : cX1_reach.data.toList.drop 0 = dktX1_reach_0 := by decide +kernel
theorem dksX1_reach_1 : cX1_reach.data.toList.drop 24 = dktX1_reach_1 := dk_seg dksX1_reach_0 24 rfl rfl
theorem dX1_reach_0 : decode cX1_reach 0 = .ok (.aload_n 0, 1) := dk_42 (dk_at dksX1_reach_0 0 rfl rfl)
theorem dX1_reach_1 : decode cX1_reach 1 = .ok (.iload_n 1, 1) := dk_27 (dk_at dksX1_reach_0 1 rfl rfl)
theorem dX1_reach_2 : decode cX1_reach 2 = .ok (.invokevirtual 145, 3) := dk_182 0 145 (dk_at dksX1_reach_0 2 rfl rfl)
theorem dX1_reach_5 : decode cX1_reach 5 = .ok (.ifCond .ne 9, 3) := dk_154 0 9 (dk_at dksX1_reach_0 5 rfl rfl)
theorem dX1_reach_8 : decode cX1_reach 8 = .ok (.aload_n 0, 1) := dk_42 (dk_at dksX1_reach_0 8 rfl rfl)
theorem dX1_reach_9 : decode cX1_reach 9 = .ok (.iconst 1, 1) := dk_4 (dk_at dksX1_reach_0 9 rfl rfl)
theorem dX1_reach_10 : decode cX1_reach 10 = .ok (.invokevirtual 65, 3) := dk_182 0 65 (dk_at dksX1_reach_0 10 rfl rfl)
theorem dX1_reach_13 : decode cX1_reach 13 = .ok (.ireturn, 1) := dk_172 (dk_at dksX1_reach_0 13 rfl rfl)
theorem dX1_reach_14 : decode cX1_reach 14 = .ok (.iload_n 2, 1) := dk_28 (dk_at dksX1_reach_0 14 rfl rfl)
theorem dX1_reach_15 : decode cX1_reach 15 = .ok (.iconst 0, 1) := dk_3 (dk_at dksX1_reach_0 15 rfl rfl)
theorem dX1_reach_16 : decode cX1_reach 16 = .ok (.ldc 239, 2) := dk_18 239 (dk_at dksX1_reach_0 16 rfl rfl)
theorem dX1_reach_18 : decode cX1_reach 18 = .ok (.invokestatic 79, 3) := dk_184 0 79 (dk_at dksX1_reach_0 18 rfl rfl)
theorem dX1_reach_21 : decode cX1_reach 21 = .ok (.ifCond .eq 16, 3) := dk_153 0 16 (dk_at dksX1_reach_0 21 rfl rfl)
theorem dX1_reach_24 : decode cX1_reach 24 = .ok (.aload_n 0, 1) := dk_42 (dk_at dksX1_reach_1 0 rfl rfl)
theorem dX1_reach_25 : decode cX1_reach 25 = .ok (.aload_n 0, 1) := dk_42 (dk_at dksX1_reach_1 1 rfl rfl)
theorem dX1_reach_26 : decode cX1_reach 26 = .ok (.iload_n 1, 1) := dk_27 (dk_at dksX1_reach_1 2 rfl rfl)
theorem dX1_reach_27 : decode cX1_reach 27 = .ok (.iload_n 2, 1) := dk_28 (dk_at dksX1_reach_1 3 rfl rfl)
theorem dX1_reach_28 : decode cX1_reach 28 = .ok (.invokevirtual 386, 3) := dk_182 1 130 (dk_at dksX1_reach_1 4 rfl rfl)
theorem dX1_reach_31 : decode cX1_reach 31 = .ok (.invokevirtual 69, 3) := dk_182 0 69 (dk_at dksX1_reach_1 7 rfl rfl)
theorem dX1_reach_34 : decode cX1_reach 34 = .ok (.goto 8, 3) := dk_167 0 8 (dk_at dksX1_reach_1 10 rfl rfl)
theorem dX1_reach_37 : decode cX1_reach 37 = .ok (.aload_n 0, 1) := dk_42 (dk_at dksX1_reach_1 13 rfl rfl)
theorem dX1_reach_38 : decode cX1_reach 38 = .ok (.iconst 2, 1) := dk_5 (dk_at dksX1_reach_1 14 rfl rfl)
theorem dX1_reach_39 : decode cX1_reach 39 = .ok (.invokevirtual 65, 3) := dk_182 0 65 (dk_at dksX1_reach_1 15 rfl rfl)
theorem dX1_reach_42 : decode cX1_reach 42 = .ok (.ireturn, 1) := dk_172 (dk_at dksX1_reach_1 18 rfl rfl)
abbrev cX1_reached : ByteArray := prog_1_method_74_code
def yX1_reached : MethodName := ⟨RX1, "reached", "(II)I"⟩
def dkwX1_reached_7 : List UInt8 := [62, 132, 4, 1, 167, 255, 216, 29, 172]
abbrev dktX1_reached_7 : List UInt8 := dkwX1_reached_7 ++ []
def dkwX1_reached_6 : List UInt8 := [162, 0, 31, 29, 42, 180, 0, 34, 21, 4, 46, 28, 163, 0, 10, 4, 21, 4, 120, 167, 0, 4, 3, 128]
abbrev dktX1_reached_6 : List UInt8 := dkwX1_reached_6 ++ dktX1_reached_7
def dkwX1_reached_5 : List UInt8 := [180, 1, 114, 182, 1, 59, 3, 62, 3, 54, 4, 21, 4, 42, 180, 0, 104, 180, 0, 122, 182, 0, 127]
abbrev dktX1_reached_5 : List UInt8 := dkwX1_reached_5 ++ dktX1_reached_6
def dkwX1_reached_4 : List UInt8 := [180, 1, 126, 181, 1, 114, 132, 3, 1, 167, 255, 173, 42, 42, 27, 182, 0, 149, 42, 180, 1, 111, 42]
abbrev dktX1_reached_4 : List UInt8 := dkwX1_reached_4 ++ dktX1_reached_5
def dkwX1_reached_3 : List UInt8 := [192, 1, 120, 180, 1, 125, 181, 1, 111, 42, 42, 180, 0, 104, 180, 1, 117, 29, 182, 0, 137, 192, 1, 120]
abbrev dktX1_reached_3 : List UInt8 := dkwX1_reached_3 ++ dktX1_reached_4
def dkwX1_reached_2 : List UInt8 := [180, 1, 122, 27, 159, 0, 6, 167, 0, 45, 42, 42, 180, 0, 104, 180, 1, 117, 29, 182, 0, 137]
abbrev dktX1_reached_2 : List UInt8 := dkwX1_reached_2 ++ dktX1_reached_3
def dkwX1_reached_1 : List UInt8 := [180, 1, 117, 182, 0, 127, 162, 0, 75, 42, 180, 0, 104, 180, 1, 117, 29, 182, 0, 137, 192, 1, 120]
abbrev dktX1_reached_1 : List UInt8 := dkwX1_reached_1 ++ dktX1_reached_2
def dkwX1_reached_0 : List UInt8 := [42, 42, 27, 182, 0, 149, 180, 1, 109, 181, 1, 111, 42, 3, 181, 1, 114, 3, 62, 29, 42, 180, 0, 104]
abbrev dktX1_reached_0 : List UInt8 := dkwX1_reached_0 ++ dktX1_reached_1
theorem dksX1_reached_0 : cX1_reached.data.toList.drop 0 = dktX1_reached_0 := by decide +kernel
theorem dksX1_reached_1 : cX1_reached.data.toList.drop 24 = dktX1_reached_1 := dk_seg dksX1_reached_0 24 rfl rfl
theorem dksX1_reached_2 : cX1_reached.data.toList.drop 47 = dktX1_reached_2 := dk_seg dksX1_reached_1 23 rfl rfl
theorem dksX1_reached_3 : cX1_reached.data.toList.drop 69 = dktX1_reached_3 := dk_seg dksX1_reached_2 22 rfl rfl
theorem dksX1_reached_4 : cX1_reached.data.toList.drop 93 = dktX1_reached_4 := dk_seg dksX1_reached_3 24 rfl rfl
theorem dksX1_reached_5 : cX1_reached.data.toList.drop 116 = dktX1_reached_5 := dk_seg dksX1_reached_4 23 rfl rfl
theorem dksX1_reached_6 : cX1_reached.data.toList.drop 139 = dktX1_reached_6 := dk_seg dksX1_reached_5 23 rfl rfl
theorem dksX1_reached_7 : cX1_reached.data.toList.drop 163 = dktX1_reached_7 := dk_seg dksX1_reached_6 24 rfl rfl
theorem dX1_reached_0 : decode cX1_reached 0 = .ok (.aload_n 0, 1) := dk_42 (dk_at dksX1_reached_0 0 rfl rfl)
theorem dX1_reached_1 : decode cX1_reached 1 = .ok (.aload_n 0, 1) := dk_42 (dk_at dksX1_reached_0 1 rfl rfl)
theorem dX1_reached_2 : decode cX1_reached 2 = .ok (.iload_n 1, 1) := dk_27 (dk_at dksX1_reached_0 2 rfl rfl)
theorem dX1_reached_3 : decode cX1_reached 3 = .ok (.invokevirtual 149, 3) := dk_182 0 149 (dk_at dksX1_reached_0 3 rfl rfl)
theorem dX1_reached_6 : decode cX1_reached 6 = .ok (.getfield 365, 3) := dk_180 1 109 (dk_at dksX1_reached_0 6 rfl rfl)
theorem dX1_reached_9 : decode cX1_reached 9 = .ok (.putfield 367, 3) := dk_181 1 111 (dk_at dksX1_reached_0 9 rfl rfl)
theorem dX1_reached_12 : decode cX1_reached 12 = .ok (.aload_n 0, 1) := dk_42 (dk_at dksX1_reached_0 12 rfl rfl)
theorem dX1_reached_13 : decode cX1_reached 13 = .ok (.iconst 0, 1) := dk_3 (dk_at dksX1_reached_0 13 rfl rfl)
theorem dX1_reached_14 : decode cX1_reached 14 = .ok (.putfield 370, 3) := dk_181 1 114 (dk_at dksX1_reached_0 14 rfl rfl)
theorem dX1_reached_17 : decode cX1_reached 17 = .ok (.iconst 0, 1) := dk_3 (dk_at dksX1_reached_0 17 rfl rfl)
theorem dX1_reached_18 : decode cX1_reached 18 = .ok (.istore_n 3, 1) := dk_62 (dk_at dksX1_reached_0 18 rfl rfl)
theorem dX1_reached_19 : decode cX1_reached 19 = .ok (.iload_n 3, 1) := dk_29 (dk_at dksX1_reached_0 19 rfl rfl)
theorem dX1_reached_20 : decode cX1_reached 20 = .ok (.aload_n 0, 1) := dk_42 (dk_at dksX1_reached_0 20 rfl rfl)
theorem dX1_reached_21 : decode cX1_reached 21 = .ok (.getfield 104, 3) := dk_180 0 104 (dk_at dksX1_reached_0 21 rfl rfl)
theorem dX1_reached_24 : decode cX1_reached 24 = .ok (.getfield 373, 3) := dk_180 1 117 (dk_at dksX1_reached_1 0 rfl rfl)
theorem dX1_reached_27 : decode cX1_reached 27 = .ok (.invokevirtual 127, 3) := dk_182 0 127 (dk_at dksX1_reached_1 3 rfl rfl)
theorem dX1_reached_30 : decode cX1_reached 30 = .ok (.if_icmp .ge 75, 3) := dk_162 0 75 (dk_at dksX1_reached_1 6 rfl rfl)
theorem dX1_reached_33 : decode cX1_reached 33 = .ok (.aload_n 0, 1) := dk_42 (dk_at dksX1_reached_1 9 rfl rfl)
theorem dX1_reached_34 : decode cX1_reached 34 = .ok (.getfield 104, 3) := dk_180 0 104 (dk_at dksX1_reached_1 10 rfl rfl)
theorem dX1_reached_37 : decode cX1_reached 37 = .ok (.getfield 373, 3) := dk_180 1 117 (dk_at dksX1_reached_1 13 rfl rfl)
theorem dX1_reached_40 : decode cX1_reached 40 = .ok (.iload_n 3, 1) := dk_29 (dk_at dksX1_reached_1 16 rfl rfl)
theorem dX1_reached_41 : decode cX1_reached 41 = .ok (.invokevirtual 137, 3) := dk_182 0 137 (dk_at dksX1_reached_1 17 rfl rfl)
theorem dX1_reached_44 : decode cX1_reached 44 = .ok (.checkcast 376, 3) := dk_192 1 120 (dk_at dksX1_reached_1 20 rfl rfl)
theorem dX1_reached_47 : decode cX1_reached 47 = .ok (.getfield 378, 3) := dk_180 1 122 (dk_at dksX1_reached_2 0 rfl rfl)
theorem dX1_reached_50 : decode cX1_reached 50 = .ok (.iload_n 1, 1) := dk_27 (dk_at dksX1_reached_2 3 rfl rfl)
theorem dX1_reached_51 : decode cX1_reached 51 = .ok (.if_icmp .eq 6, 3) := dk_159 0 6 (dk_at dksX1_reached_2 4 rfl rfl)
theorem dX1_reached_54 : decode cX1_reached 54 = .ok (.goto 45, 3) := dk_167 0 45 (dk_at dksX1_reached_2 7 rfl rfl)
theorem dX1_reached_57 : decode cX1_reached 57 = .ok (.aload_n 0, 1) := dk_42 (dk_at dksX1_reached_2 10 rfl rfl)
theorem dX1_reached_58 : decode cX1_reached 58 = .ok (.aload_n 0, 1) := dk_42 (dk_at dksX1_reached_2 11 rfl rfl)
theorem dX1_reached_59 : decode cX1_reached 59 = .ok (.getfield 104, 3) := dk_180 0 104 (dk_at dksX1_reached_2 12 rfl rfl)
theorem dX1_reached_62 : decode cX1_reached 62 = .ok (.getfield 373, 3) := dk_180 1 117 (dk_at dksX1_reached_2 15 rfl rfl)
theorem dX1_reached_65 : decode cX1_reached 65 = .ok (.iload_n 3, 1) := dk_29 (dk_at dksX1_reached_2 18 rfl rfl)
theorem dX1_reached_66 : decode cX1_reached 66 = .ok (.invokevirtual 137, 3) := dk_182 0 137 (dk_at dksX1_reached_2 19 rfl rfl)
theorem dX1_reached_69 : decode cX1_reached 69 = .ok (.checkcast 376, 3) := dk_192 1 120 (dk_at dksX1_reached_3 0 rfl rfl)
theorem dX1_reached_72 : decode cX1_reached 72 = .ok (.getfield 381, 3) := dk_180 1 125 (dk_at dksX1_reached_3 3 rfl rfl)
theorem dX1_reached_75 : decode cX1_reached 75 = .ok (.putfield 367, 3) := dk_181 1 111 (dk_at dksX1_reached_3 6 rfl rfl)
theorem dX1_reached_78 : decode cX1_reached 78 = .ok (.aload_n 0, 1) := dk_42 (dk_at dksX1_reached_3 9 rfl rfl)
theorem dX1_reached_79 : decode cX1_reached 79 = .ok (.aload_n 0, 1) := dk_42 (dk_at dksX1_reached_3 10 rfl rfl)
theorem dX1_reached_80 : decode cX1_reached 80 = .ok (.getfield 104, 3) := dk_180 0 104 (dk_at dksX1_reached_3 11 rfl rfl)
theorem dX1_reached_83 : decode cX1_reached 83 = .ok (.getfield 373, 3) := dk_180 1 117 (dk_at dksX1_reached_3 14 rfl rfl)
theorem dX1_reached_86 : decode cX1_reached 86 = .ok (.iload_n 3, 1) := dk_29 (dk_at dksX1_reached_3 17 rfl rfl)
theorem dX1_reached_87 : decode cX1_reached 87 = .ok (.invokevirtual 137, 3) := dk_182 0 137 (dk_at dksX1_reached_3 18 rfl rfl)
theorem dX1_reached_90 : decode cX1_reached 90 = .ok (.checkcast 376, 3) := dk_192 1 120 (dk_at dksX1_reached_3 21 rfl rfl)
theorem dX1_reached_93 : decode cX1_reached 93 = .ok (.getfield 382, 3) := dk_180 1 126 (dk_at dksX1_reached_4 0 rfl rfl)
theorem dX1_reached_96 : decode cX1_reached 96 = .ok (.putfield 370, 3) := dk_181 1 114 (dk_at dksX1_reached_4 3 rfl rfl)
theorem dX1_reached_99 : decode cX1_reached 99 = .ok (.iinc 3 1, 3) := dk_132 3 1 (dk_at dksX1_reached_4 6 rfl rfl)
theorem dX1_reached_102 : decode cX1_reached 102 = .ok (.goto (-83), 3) := dk_167 255 173 (dk_at dksX1_reached_4 9 rfl rfl)
theorem dX1_reached_105 : decode cX1_reached 105 = .ok (.aload_n 0, 1) := dk_42 (dk_at dksX1_reached_4 12 rfl rfl)
theorem dX1_reached_106 : decode cX1_reached 106 = .ok (.aload_n 0, 1) := dk_42 (dk_at dksX1_reached_4 13 rfl rfl)
theorem dX1_reached_107 : decode cX1_reached 107 = .ok (.iload_n 1, 1) := dk_27 (dk_at dksX1_reached_4 14 rfl rfl)
theorem dX1_reached_108 : decode cX1_reached 108 = .ok (.invokevirtual 149, 3) := dk_182 0 149 (dk_at dksX1_reached_4 15 rfl rfl)
theorem dX1_reached_111 : decode cX1_reached 111 = .ok (.aload_n 0, 1) := dk_42 (dk_at dksX1_reached_4 18 rfl rfl)
theorem dX1_reached_112 : decode cX1_reached 112 = .ok (.getfield 367, 3) := dk_180 1 111 (dk_at dksX1_reached_4 19 rfl rfl)
theorem dX1_reached_115 : decode cX1_reached 115 = .ok (.aload_n 0, 1) := dk_42 (dk_at dksX1_reached_4 22 rfl rfl)
theorem dX1_reached_116 : decode cX1_reached 116 = .ok (.getfield 370, 3) := dk_180 1 114 (dk_at dksX1_reached_5 0 rfl rfl)
theorem dX1_reached_119 : decode cX1_reached 119 = .ok (.invokevirtual 315, 3) := dk_182 1 59 (dk_at dksX1_reached_5 3 rfl rfl)
theorem dX1_reached_122 : decode cX1_reached 122 = .ok (.iconst 0, 1) := dk_3 (dk_at dksX1_reached_5 6 rfl rfl)
theorem dX1_reached_123 : decode cX1_reached 123 = .ok (.istore_n 3, 1) := dk_62 (dk_at dksX1_reached_5 7 rfl rfl)
theorem dX1_reached_124 : decode cX1_reached 124 = .ok (.iconst 0, 1) := dk_3 (dk_at dksX1_reached_5 8 rfl rfl)
theorem dX1_reached_125 : decode cX1_reached 125 = .ok (.istore 4, 2) := dk_54 4 (dk_at dksX1_reached_5 9 rfl rfl)
theorem dX1_reached_127 : decode cX1_reached 127 = .ok (.iload 4, 2) := dk_21 4 (dk_at dksX1_reached_5 11 rfl rfl)
theorem dX1_reached_129 : decode cX1_reached 129 = .ok (.aload_n 0, 1) := dk_42 (dk_at dksX1_reached_5 13 rfl rfl)
theorem dX1_reached_130 : decode cX1_reached 130 = .ok (.getfield 104, 3) := dk_180 0 104 (dk_at dksX1_reached_5 14 rfl rfl)
theorem dX1_reached_133 : decode cX1_reached 133 = .ok (.getfield 122, 3) := dk_180 0 122 (dk_at dksX1_reached_5 17 rfl rfl)
theorem dX1_reached_136 : decode cX1_reached 136 = .ok (.invokevirtual 127, 3) := dk_182 0 127 (dk_at dksX1_reached_5 20 rfl rfl)
theorem dX1_reached_139 : decode cX1_reached 139 = .ok (.if_icmp .ge 31, 3) := dk_162 0 31 (dk_at dksX1_reached_6 0 rfl rfl)
theorem dX1_reached_142 : decode cX1_reached 142 = .ok (.iload_n 3, 1) := dk_29 (dk_at dksX1_reached_6 3 rfl rfl)
theorem dX1_reached_143 : decode cX1_reached 143 = .ok (.aload_n 0, 1) := dk_42 (dk_at dksX1_reached_6 4 rfl rfl)
theorem dX1_reached_144 : decode cX1_reached 144 = .ok (.getfield 34, 3) := dk_180 0 34 (dk_at dksX1_reached_6 5 rfl rfl)
theorem dX1_reached_147 : decode cX1_reached 147 = .ok (.iload 4, 2) := dk_21 4 (dk_at dksX1_reached_6 8 rfl rfl)
theorem dX1_reached_149 : decode cX1_reached 149 = .ok (.iaload, 1) := dk_46 (dk_at dksX1_reached_6 10 rfl rfl)
theorem dX1_reached_150 : decode cX1_reached 150 = .ok (.iload_n 2, 1) := dk_28 (dk_at dksX1_reached_6 11 rfl rfl)
theorem dX1_reached_151 : decode cX1_reached 151 = .ok (.if_icmp .gt 10, 3) := dk_163 0 10 (dk_at dksX1_reached_6 12 rfl rfl)
theorem dX1_reached_154 : decode cX1_reached 154 = .ok (.iconst 1, 1) := dk_4 (dk_at dksX1_reached_6 15 rfl rfl)
theorem dX1_reached_155 : decode cX1_reached 155 = .ok (.iload 4, 2) := dk_21 4 (dk_at dksX1_reached_6 16 rfl rfl)
theorem dX1_reached_157 : decode cX1_reached 157 = .ok (.ishl, 1) := dk_120 (dk_at dksX1_reached_6 18 rfl rfl)
theorem dX1_reached_158 : decode cX1_reached 158 = .ok (.goto 4, 3) := dk_167 0 4 (dk_at dksX1_reached_6 19 rfl rfl)
theorem dX1_reached_161 : decode cX1_reached 161 = .ok (.iconst 0, 1) := dk_3 (dk_at dksX1_reached_6 22 rfl rfl)
theorem dX1_reached_162 : decode cX1_reached 162 = .ok (.ior, 1) := dk_128 (dk_at dksX1_reached_6 23 rfl rfl)
theorem dX1_reached_163 : decode cX1_reached 163 = .ok (.istore_n 3, 1) := dk_62 (dk_at dksX1_reached_7 0 rfl rfl)
theorem dX1_reached_164 : decode cX1_reached 164 = .ok (.iinc 4 1, 3) := dk_132 4 1 (dk_at dksX1_reached_7 1 rfl rfl)
theorem dX1_reached_167 : decode cX1_reached 167 = .ok (.goto (-40), 3) := dk_167 255 216 (dk_at dksX1_reached_7 4 rfl rfl)
theorem dX1_reached_170 : decode cX1_reached 170 = .ok (.iload_n 3, 1) := dk_29 (dk_at dksX1_reached_7 7 rfl rfl)
theorem dX1_reached_171 : decode cX1_reached 171 = .ok (.ireturn, 1) := dk_172 (dk_at dksX1_reached_7 8 rfl rfl)
abbrev cX1_pier : ByteArray := prog_1_method_76_code
def yX1_pier : MethodName := ⟨RX1, "pie\x72", "(I)I"⟩
def dkwX1_pier_7 : List UInt8 := [162, 0, 7, 21, 5, 54, 4, 132, 5, 1, 167, 255, 209, 42, 21, 4, 182, 0, 69, 172]
abbrev dktX1_pier_7 : List UInt8 := dkwX1_pier_7 ++ []
def dkwX1_pier_6 : List UInt8 := [5, 45, 21, 5, 46, 104, 28, 100, 184, 1, 133, 5, 45, 21, 4, 46, 104, 28, 100, 184, 1, 133]
abbrev dktX1_pier_6 : List UInt8 := dkwX1_pier_6 ++ dktX1_pier_7
def dkwX1_pier_5 : List UInt8 := [167, 255, 176, 3, 54, 4, 4, 54, 5, 21, 5, 42, 180, 0, 104, 180, 0, 122, 182, 0, 127, 162, 0, 38]
abbrev dktX1_pier_5 : List UInt8 := dkwX1_pier_5 ++ dktX1_pier_6
def dkwX1_pier_4 : List UInt8 := [21, 6, 184, 0, 222, 153, 0, 7, 4, 167, 0, 4, 3, 96, 79, 132, 6, 1, 167, 255, 224, 132, 4, 1]
abbrev dktX1_pier_4 : List UInt8 := dkwX1_pier_4 ++ dktX1_pier_5
def dkwX1_pier_3 : List UInt8 := [27, 182, 1, 130, 54, 5, 3, 54, 6, 21, 6, 16, 7, 162, 0, 31, 45, 21, 6, 92, 46, 21, 5]
abbrev dktX1_pier_3 : List UInt8 := dkwX1_pier_3 ++ dktX1_pier_4
def dkwX1_pier_2 : List UInt8 := [182, 0, 127, 162, 0, 71, 42, 21, 4, 182, 1, 127, 154, 0, 6, 167, 0, 53, 132, 2, 1, 42, 21, 4]
abbrev dktX1_pier_2 : List UInt8 := dkwX1_pier_2 ++ dktX1_pier_3
def dkwX1_pier_1 : List UInt8 := [5, 182, 0, 65, 172, 3, 61, 16, 7, 188, 10, 78, 3, 54, 4, 21, 4, 42, 180, 0, 104, 180, 0, 131]
abbrev dktX1_pier_1 : List UInt8 := dkwX1_pier_1 ++ dktX1_pier_2
def dkwX1_pier_0 : List UInt8 := [42, 180, 0, 104, 199, 0, 9, 42, 4, 182, 0, 65, 172, 27, 3, 18, 239, 184, 0, 79, 154, 0, 9, 42]
abbrev dktX1_pier_0 : List UInt8 := dkwX1_pier_0 ++ dktX1_pier_1
theorem dksX1_pier_0 : cX1_pier.data.toList.drop 0 = dktX1_pier_0 := by decide +kernel
theorem dksX1_pier_1 : cX1_pier.data.toList.drop 24 = dktX1_pier_1 := dk_seg dksX1_pier_0 24 rfl rfl
theorem dksX1_pier_2 : cX1_pier.data.toList.drop 48 = dktX1_pier_2 := dk_seg dksX1_pier_1 24 rfl rfl
theorem dksX1_pier_3 : cX1_pier.data.toList.drop 72 = dktX1_pier_3 := dk_seg dksX1_pier_2 24 rfl rfl
theorem dksX1_pier_4 : cX1_pier.data.toList.drop 95 = dktX1_pier_4 := dk_seg dksX1_pier_3 23 rfl rfl
theorem dksX1_pier_5 : cX1_pier.data.toList.drop 119 = dktX1_pier_5 := dk_seg dksX1_pier_4 24 rfl rfl
theorem dksX1_pier_6 : cX1_pier.data.toList.drop 143 = dktX1_pier_6 := dk_seg dksX1_pier_5 24 rfl rfl
theorem dksX1_pier_7 : cX1_pier.data.toList.drop 165 = dktX1_pier_7 := dk_seg dksX1_pier_6 22 rfl rfl
theorem dX1_pier_0 : decode cX1_pier 0 = .ok (.aload_n 0, 1) := dk_42 (dk_at dksX1_pier_0 0 rfl rfl)
theorem dX1_pier_1 : decode cX1_pier 1 = .ok (.getfield 104, 3) := dk_180 0 104 (dk_at dksX1_pier_0 1 rfl rfl)
theorem dX1_pier_4 : decode cX1_pier 4 = .ok (.ifnonnull 9, 3) := dk_199 0 9 (dk_at dksX1_pier_0 4 rfl rfl)
theorem dX1_pier_7 : decode cX1_pier 7 = .ok (.aload_n 0, 1) := dk_42 (dk_at dksX1_pier_0 7 rfl rfl)
theorem dX1_pier_8 : decode cX1_pier 8 = .ok (.iconst 1, 1) := dk_4 (dk_at dksX1_pier_0 8 rfl rfl)
theorem dX1_pier_9 : decode cX1_pier 9 = .ok (.invokevirtual 65, 3) := dk_182 0 65 (dk_at dksX1_pier_0 9 rfl rfl)
theorem dX1_pier_12 : decode cX1_pier 12 = .ok (.ireturn, 1) := dk_172 (dk_at dksX1_pier_0 12 rfl rfl)
theorem dX1_pier_13 : decode cX1_pier 13 = .ok (.iload_n 1, 1) := dk_27 (dk_at dksX1_pier_0 13 rfl rfl)
theorem dX1_pier_14 : decode cX1_pier 14 = .ok (.iconst 0, 1) := dk_3 (dk_at dksX1_pier_0 14 rfl rfl)
theorem dX1_pier_15 : decode cX1_pier 15 = .ok (.ldc 239, 2) := dk_18 239 (dk_at dksX1_pier_0 15 rfl rfl)
theorem dX1_pier_17 : decode cX1_pier 17 = .ok (.invokestatic 79, 3) := dk_184 0 79 (dk_at dksX1_pier_0 17 rfl rfl)
theorem dX1_pier_20 : decode cX1_pier 20 = .ok (.ifCond .ne 9, 3) := dk_154 0 9 (dk_at dksX1_pier_0 20 rfl rfl)
theorem dX1_pier_23 : decode cX1_pier 23 = .ok (.aload_n 0, 1) := dk_42 (dk_at dksX1_pier_0 23 rfl rfl)
theorem dX1_pier_24 : decode cX1_pier 24 = .ok (.iconst 2, 1) := dk_5 (dk_at dksX1_pier_1 0 rfl rfl)
theorem dX1_pier_25 : decode cX1_pier 25 = .ok (.invokevirtual 65, 3) := dk_182 0 65 (dk_at dksX1_pier_1 1 rfl rfl)
theorem dX1_pier_28 : decode cX1_pier 28 = .ok (.ireturn, 1) := dk_172 (dk_at dksX1_pier_1 4 rfl rfl)
theorem dX1_pier_29 : decode cX1_pier 29 = .ok (.iconst 0, 1) := dk_3 (dk_at dksX1_pier_1 5 rfl rfl)
theorem dX1_pier_30 : decode cX1_pier 30 = .ok (.istore_n 2, 1) := dk_61 (dk_at dksX1_pier_1 6 rfl rfl)
theorem dX1_pier_31 : decode cX1_pier 31 = .ok (.bipush 7, 2) := dk_16 7 (dk_at dksX1_pier_1 7 rfl rfl)
theorem dX1_pier_33 : decode cX1_pier 33 = .ok (.newarray .int, 2) := dk_188_10 (dk_at dksX1_pier_1 9 rfl rfl)
theorem dX1_pier_35 : decode cX1_pier 35 = .ok (.astore_n 3, 1) := dk_78 (dk_at dksX1_pier_1 11 rfl rfl)
theorem dX1_pier_36 : decode cX1_pier 36 = .ok (.iconst 0, 1) := dk_3 (dk_at dksX1_pier_1 12 rfl rfl)
theorem dX1_pier_37 : decode cX1_pier 37 = .ok (.istore 4, 2) := dk_54 4 (dk_at dksX1_pier_1 13 rfl rfl)
theorem dX1_pier_39 : decode cX1_pier 39 = .ok (.iload 4, 2) := dk_21 4 (dk_at dksX1_pier_1 15 rfl rfl)
theorem dX1_pier_41 : decode cX1_pier 41 = .ok (.aload_n 0, 1) := dk_42 (dk_at dksX1_pier_1 17 rfl rfl)
theorem dX1_pier_42 : decode cX1_pier 42 = .ok (.getfield 104, 3) := dk_180 0 104 (dk_at dksX1_pier_1 18 rfl rfl)
theorem dX1_pier_45 : decode cX1_pier 45 = .ok (.getfield 131, 3) := dk_180 0 131 (dk_at dksX1_pier_1 21 rfl rfl)
theorem dX1_pier_48 : decode cX1_pier 48 = .ok (.invokevirtual 127, 3) := dk_182 0 127 (dk_at dksX1_pier_2 0 rfl rfl)
theorem dX1_pier_51 : decode cX1_pier 51 = .ok (.if_icmp .ge 71, 3) := dk_162 0 71 (dk_at dksX1_pier_2 3 rfl rfl)
theorem dX1_pier_54 : decode cX1_pier 54 = .ok (.aload_n 0, 1) := dk_42 (dk_at dksX1_pier_2 6 rfl rfl)
theorem dX1_pier_55 : decode cX1_pier 55 = .ok (.iload 4, 2) := dk_21 4 (dk_at dksX1_pier_2 7 rfl rfl)
theorem dX1_pier_57 : decode cX1_pier 57 = .ok (.invokevirtual 383, 3) := dk_182 1 127 (dk_at dksX1_pier_2 9 rfl rfl)
theorem dX1_pier_60 : decode cX1_pier 60 = .ok (.ifCond .ne 6, 3) := dk_154 0 6 (dk_at dksX1_pier_2 12 rfl rfl)
theorem dX1_pier_63 : decode cX1_pier 63 = .ok (.goto 53, 3) := dk_167 0 53 (dk_at dksX1_pier_2 15 rfl rfl)
theorem dX1_pier_66 : decode cX1_pier 66 = .ok (.iinc 2 1, 3) := dk_132 2 1 (dk_at dksX1_pier_2 18 rfl rfl)
theorem dX1_pier_69 : decode cX1_pier 69 = .ok (.aload_n 0, 1) := dk_42 (dk_at dksX1_pier_2 21 rfl rfl)
theorem dX1_pier_70 : decode cX1_pier 70 = .ok (.iload 4, 2) := dk_21 4 (dk_at dksX1_pier_2 22 rfl rfl)
theorem dX1_pier_72 : decode cX1_pier 72 = .ok (.iload_n 1, 1) := dk_27 (dk_at dksX1_pier_3 0 rfl rfl)
theorem dX1_pier_73 : decode cX1_pier 73 = .ok (.invokevirtual 386, 3) := dk_182 1 130 (dk_at dksX1_pier_3 1 rfl rfl)
theorem dX1_pier_76 : decode cX1_pier 76 = .ok (.istore 5, 2) := dk_54 5 (dk_at dksX1_pier_3 4 rfl rfl)
theorem dX1_pier_78 : decode cX1_pier 78 = .ok (.iconst 0, 1) := dk_3 (dk_at dksX1_pier_3 6 rfl rfl)
theorem dX1_pier_79 : decode cX1_pier 79 = .ok (.istore 6, 2) := dk_54 6 (dk_at dksX1_pier_3 7 rfl rfl)
theorem dX1_pier_81 : decode cX1_pier 81 = .ok (.iload 6, 2) := dk_21 6 (dk_at dksX1_pier_3 9 rfl rfl)
theorem dX1_pier_83 : decode cX1_pier 83 = .ok (.bipush 7, 2) := dk_16 7 (dk_at dksX1_pier_3 11 rfl rfl)
theorem dX1_pier_85 : decode cX1_pier 85 = .ok (.if_icmp .ge 31, 3) := dk_162 0 31 (dk_at dksX1_pier_3 13 rfl rfl)
theorem dX1_pier_88 : decode cX1_pier 88 = .ok (.aload_n 3, 1) := dk_45 (dk_at dksX1_pier_3 16 rfl rfl)
theorem dX1_pier_89 : decode cX1_pier 89 = .ok (.iload 6, 2) := dk_21 6 (dk_at dksX1_pier_3 17 rfl rfl)
theorem dX1_pier_91 : decode cX1_pier 91 = .ok (.dup2, 1) := dk_92 (dk_at dksX1_pier_3 19 rfl rfl)
theorem dX1_pier_92 : decode cX1_pier 92 = .ok (.iaload, 1) := dk_46 (dk_at dksX1_pier_3 20 rfl rfl)
theorem dX1_pier_93 : decode cX1_pier 93 = .ok (.iload 5, 2) := dk_21 5 (dk_at dksX1_pier_3 21 rfl rfl)
theorem dX1_pier_95 : decode cX1_pier 95 = .ok (.iload 6, 2) := dk_21 6 (dk_at dksX1_pier_4 0 rfl rfl)
theorem dX1_pier_97 : decode cX1_pier 97 = .ok (.invokestatic 222, 3) := dk_184 0 222 (dk_at dksX1_pier_4 2 rfl rfl)
theorem dX1_pier_100 : decode cX1_pier 100 = .ok (.ifCond .eq 7, 3) := dk_153 0 7 (dk_at dksX1_pier_4 5 rfl rfl)
theorem dX1_pier_103 : decode cX1_pier 103 = .ok (.iconst 1, 1) := dk_4 (dk_at dksX1_pier_4 8 rfl rfl)
theorem dX1_pier_104 : decode cX1_pier 104 = .ok (.goto 4, 3) := dk_167 0 4 (dk_at dksX1_pier_4 9 rfl rfl)
theorem dX1_pier_107 : decode cX1_pier 107 = .ok (.iconst 0, 1) := dk_3 (dk_at dksX1_pier_4 12 rfl rfl)
theorem dX1_pier_108 : decode cX1_pier 108 = .ok (.iadd, 1) := dk_96 (dk_at dksX1_pier_4 13 rfl rfl)
theorem dX1_pier_109 : decode cX1_pier 109 = .ok (.iastore, 1) := dk_79 (dk_at dksX1_pier_4 14 rfl rfl)
theorem dX1_pier_110 : decode cX1_pier 110 = .ok (.iinc 6 1, 3) := dk_132 6 1 (dk_at dksX1_pier_4 15 rfl rfl)
theorem dX1_pier_113 : decode cX1_pier 113 = .ok (.goto (-32), 3) := dk_167 255 224 (dk_at dksX1_pier_4 18 rfl rfl)
theorem dX1_pier_116 : decode cX1_pier 116 = .ok (.iinc 4 1, 3) := dk_132 4 1 (dk_at dksX1_pier_4 21 rfl rfl)
theorem dX1_pier_119 : decode cX1_pier 119 = .ok (.goto (-80), 3) := dk_167 255 176 (dk_at dksX1_pier_5 0 rfl rfl)
theorem dX1_pier_122 : decode cX1_pier 122 = .ok (.iconst 0, 1) := dk_3 (dk_at dksX1_pier_5 3 rfl rfl)
theorem dX1_pier_123 : decode cX1_pier 123 = .ok (.istore 4, 2) := dk_54 4 (dk_at dksX1_pier_5 4 rfl rfl)
theorem dX1_pier_125 : decode cX1_pier 125 = .ok (.iconst 1, 1) := dk_4 (dk_at dksX1_pier_5 6 rfl rfl)
theorem dX1_pier_126 : decode cX1_pier 126 = .ok (.istore 5, 2) := dk_54 5 (dk_at dksX1_pier_5 7 rfl rfl)
theorem dX1_pier_128 : decode cX1_pier 128 = .ok (.iload 5, 2) := dk_21 5 (dk_at dksX1_pier_5 9 rfl rfl)
theorem dX1_pier_130 : decode cX1_pier 130 = .ok (.aload_n 0, 1) := dk_42 (dk_at dksX1_pier_5 11 rfl rfl)
theorem dX1_pier_131 : decode cX1_pier 131 = .ok (.getfield 104, 3) := dk_180 0 104 (dk_at dksX1_pier_5 12 rfl rfl)
theorem dX1_pier_134 : decode cX1_pier 134 = .ok (.getfield 122, 3) := dk_180 0 122 (dk_at dksX1_pier_5 15 rfl rfl)
theorem dX1_pier_137 : decode cX1_pier 137 = .ok (.invokevirtual 127, 3) := dk_182 0 127 (dk_at dksX1_pier_5 18 rfl rfl)
theorem dX1_pier_140 : decode cX1_pier 140 = .ok (.if_icmp .ge 38, 3) := dk_162 0 38 (dk_at dksX1_pier_5 21 rfl rfl)
theorem dX1_pier_143 : decode cX1_pier 143 = .ok (.iconst 2, 1) := dk_5 (dk_at dksX1_pier_6 0 rfl rfl)
theorem dX1_pier_144 : decode cX1_pier 144 = .ok (.aload_n 3, 1) := dk_45 (dk_at dksX1_pier_6 1 rfl rfl)
theorem dX1_pier_145 : decode cX1_pier 145 = .ok (.iload 5, 2) := dk_21 5 (dk_at dksX1_pier_6 2 rfl rfl)
theorem dX1_pier_147 : decode cX1_pier 147 = .ok (.iaload, 1) := dk_46 (dk_at dksX1_pier_6 4 rfl rfl)
theorem dX1_pier_148 : decode cX1_pier 148 = .ok (.imul, 1) := dk_104 (dk_at dksX1_pier_6 5 rfl rfl)
theorem dX1_pier_149 : decode cX1_pier 149 = .ok (.iload_n 2, 1) := dk_28 (dk_at dksX1_pier_6 6 rfl rfl)
theorem dX1_pier_150 : decode cX1_pier 150 = .ok (.isub, 1) := dk_100 (dk_at dksX1_pier_6 7 rfl rfl)
theorem dX1_pier_151 : decode cX1_pier 151 = .ok (.invokestatic 389, 3) := dk_184 1 133 (dk_at dksX1_pier_6 8 rfl rfl)
theorem dX1_pier_154 : decode cX1_pier 154 = .ok (.iconst 2, 1) := dk_5 (dk_at dksX1_pier_6 11 rfl rfl)
theorem dX1_pier_155 : decode cX1_pier 155 = .ok (.aload_n 3, 1) := dk_45 (dk_at dksX1_pier_6 12 rfl rfl)
theorem dX1_pier_156 : decode cX1_pier 156 = .ok (.iload 4, 2) := dk_21 4 (dk_at dksX1_pier_6 13 rfl rfl)
theorem dX1_pier_158 : decode cX1_pier 158 = .ok (.iaload, 1) := dk_46 (dk_at dksX1_pier_6 15 rfl rfl)
theorem dX1_pier_159 : decode cX1_pier 159 = .ok (.imul, 1) := dk_104 (dk_at dksX1_pier_6 16 rfl rfl)
theorem dX1_pier_160 : decode cX1_pier 160 = .ok (.iload_n 2, 1) := dk_28 (dk_at dksX1_pier_6 17 rfl rfl)
theorem dX1_pier_161 : decode cX1_pier 161 = .ok (.isub, 1) := dk_100 (dk_at dksX1_pier_6 18 rfl rfl)
theorem dX1_pier_162 : decode cX1_pier 162 = .ok (.invokestatic 389, 3) := dk_184 1 133 (dk_at dksX1_pier_6 19 rfl rfl)
theorem dX1_pier_165 : decode cX1_pier 165 = .ok (.if_icmp .ge 7, 3) := dk_162 0 7 (dk_at dksX1_pier_7 0 rfl rfl)
theorem dX1_pier_168 : decode cX1_pier 168 = .ok (.iload 5, 2) := dk_21 5 (dk_at dksX1_pier_7 3 rfl rfl)
theorem dX1_pier_170 : decode cX1_pier 170 = .ok (.istore 4, 2) := dk_54 4 (dk_at dksX1_pier_7 5 rfl rfl)
theorem dX1_pier_172 : decode cX1_pier 172 = .ok (.iinc 5 1, 3) := dk_132 5 1 (dk_at dksX1_pier_7 7 rfl rfl)
theorem dX1_pier_175 : decode cX1_pier 175 = .ok (.goto (-47), 3) := dk_167 255 209 (dk_at dksX1_pier_7 10 rfl rfl)
theorem dX1_pier_178 : decode cX1_pier 178 = .ok (.aload_n 0, 1) := dk_42 (dk_at dksX1_pier_7 13 rfl rfl)
theorem dX1_pier_179 : decode cX1_pier 179 = .ok (.iload 4, 2) := dk_21 4 (dk_at dksX1_pier_7 14 rfl rfl)
theorem dX1_pier_181 : decode cX1_pier 181 = .ok (.invokevirtual 69, 3) := dk_182 0 69 (dk_at dksX1_pier_7 16 rfl rfl)
theorem dX1_pier_184 : decode cX1_pier 184 = .ok (.ireturn, 1) := dk_172 (dk_at dksX1_pier_7 19 rfl rfl)
abbrev cX1_watch : ByteArray := prog_1_method_78_code
def yX1_watch : MethodName := ⟨RX1, "watch", "(II)I"⟩
def dkwX1_watch_4 : List UInt8 := [154, 0, 6, 21, 4, 62, 132, 4, 255, 167, 255, 209, 42, 29, 182, 0, 69, 172]
abbrev dktX1_watch_4 : List UInt8 := dkwX1_watch_4 ++ []
def dkwX1_watch_3 : List UInt8 := [126, 154, 0, 29, 21, 4, 184, 1, 136, 29, 184, 1, 136, 163, 0, 17, 42, 27, 28, 21, 4, 182, 1, 139]
abbrev dktX1_watch_3 : List UInt8 := dkwX1_watch_3 ++ dktX1_watch_4
def dkwX1_watch_2 : List UInt8 := [180, 0, 219, 2, 130, 126, 62, 29, 54, 4, 21, 4, 155, 0, 48, 21, 4, 42, 180, 0, 111, 180, 0, 219]
abbrev dktX1_watch_2 : List UInt8 := dkwX1_watch_2 ++ dktX1_watch_3
def dkwX1_watch_1 : List UInt8 := [182, 0, 65, 172, 4, 42, 180, 0, 104, 180, 0, 226, 182, 0, 127, 120, 4, 100, 42, 180, 0, 111]
abbrev dktX1_watch_1 : List UInt8 := dkwX1_watch_1 ++ dktX1_watch_2
def dkwX1_watch_0 : List UInt8 := [42, 27, 182, 0, 193, 153, 0, 16, 42, 28, 182, 0, 193, 153, 0, 8, 27, 28, 160, 0, 9, 42, 4]
abbrev dktX1_watch_0 : List UInt8 := dkwX1_watch_0 ++ dktX1_watch_1
theorem dksX1_watch_0 : cX1_watch.data.toList.drop 0 = dktX1_watch_0 := by decide +kernel
theorem dksX1_watch_1 : cX1_watch.data.toList.drop 23 = dktX1_watch_1 := dk_seg dksX1_watch_0 23 rfl rfl
theorem dksX1_watch_2 : cX1_watch.data.toList.drop 45 = dktX1_watch_2 := dk_seg dksX1_watch_1 22 rfl rfl
theorem dksX1_watch_3 : cX1_watch.data.toList.drop 69 = dktX1_watch_3 := dk_seg dksX1_watch_2 24 rfl rfl
theorem dksX1_watch_4 : cX1_watch.data.toList.drop 93 = dktX1_watch_4 := dk_seg dksX1_watch_3 24 rfl rfl
theorem dX1_watch_0 : decode cX1_watch 0 = .ok (.aload_n 0, 1) := dk_42 (dk_at dksX1_watch_0 0 rfl rfl)
theorem dX1_watch_1 : decode cX1_watch 1 = .ok (.iload_n 1, 1) := dk_27 (dk_at dksX1_watch_0 1 rfl rfl)
theorem dX1_watch_2 : decode cX1_watch 2 = .ok (.invokevirtual 193, 3) := dk_182 0 193 (dk_at dksX1_watch_0 2 rfl rfl)
theorem dX1_watch_5 : decode cX1_watch 5 = .ok (.ifCond .eq 16, 3) := dk_153 0 16 (dk_at dksX1_watch_0 5 rfl rfl)
theorem dX1_watch_8 : decode cX1_watch 8 = .ok (.aload_n 0, 1) := dk_42 (dk_at dksX1_watch_0 8 rfl rfl)
theorem dX1_watch_9 : decode cX1_watch 9 = .ok (.iload_n 2, 1) := dk_28 (dk_at dksX1_watch_0 9 rfl rfl)
theorem dX1_watch_10 : decode cX1_watch 10 = .ok (.invokevirtual 193, 3) := dk_182 0 193 (dk_at dksX1_watch_0 10 rfl rfl)
theorem dX1_watch_13 : decode cX1_watch 13 = .ok (.ifCond .eq 8, 3) := dk_153 0 8 (dk_at dksX1_watch_0 13 rfl rfl)
theorem dX1_watch_16 : decode cX1_watch 16 = .ok (.iload_n 1, 1) := dk_27 (dk_at dksX1_watch_0 16 rfl rfl)
theorem dX1_watch_17 : decode cX1_watch 17 = .ok (.iload_n 2, 1) := dk_28 (dk_at dksX1_watch_0 17 rfl rfl)
theorem dX1_watch_18 : decode cX1_watch 18 = .ok (.if_icmp .ne 9, 3) := dk_160 0 9 (dk_at dksX1_watch_0 18 rfl rfl)
theorem dX1_watch_21 : decode cX1_watch 21 = .ok (.aload_n 0, 1) := dk_42 (dk_at dksX1_watch_0 21 rfl rfl)
theorem dX1_watch_22 : decode cX1_watch 22 = .ok (.iconst 1, 1) := dk_4 (dk_at dksX1_watch_0 22 rfl rfl)
theorem dX1_watch_23 : decode cX1_watch 23 = .ok (.invokevirtual 65, 3) := dk_182 0 65 (dk_at dksX1_watch_1 0 rfl rfl)
theorem dX1_watch_26 : decode cX1_watch 26 = .ok (.ireturn, 1) := dk_172 (dk_at dksX1_watch_1 3 rfl rfl)
theorem dX1_watch_27 : decode cX1_watch 27 = .ok (.iconst 1, 1) := dk_4 (dk_at dksX1_watch_1 4 rfl rfl)
theorem dX1_watch_28 : decode cX1_watch 28 = .ok (.aload_n 0, 1) := dk_42 (dk_at dksX1_watch_1 5 rfl rfl)
theorem dX1_watch_29 : decode cX1_watch 29 = .ok (.getfield 104, 3) := dk_180 0 104 (dk_at dksX1_watch_1 6 rfl rfl)
theorem dX1_watch_32 : decode cX1_watch 32 = .ok (.getfield 226, 3) := dk_180 0 226 (dk_at dksX1_watch_1 9 rfl rfl)
theorem dX1_watch_35 : decode cX1_watch 35 = .ok (.invokevirtual 127, 3) := dk_182 0 127 (dk_at dksX1_watch_1 12 rfl rfl)
theorem dX1_watch_38 : decode cX1_watch 38 = .ok (.ishl, 1) := dk_120 (dk_at dksX1_watch_1 15 rfl rfl)
theorem dX1_watch_39 : decode cX1_watch 39 = .ok (.iconst 1, 1) := dk_4 (dk_at dksX1_watch_1 16 rfl rfl)
theorem dX1_watch_40 : decode cX1_watch 40 = .ok (.isub, 1) := dk_100 (dk_at dksX1_watch_1 17 rfl rfl)
theorem dX1_watch_41 : decode cX1_watch 41 = .ok (.aload_n 0, 1) := dk_42 (dk_at dksX1_watch_1 18 rfl rfl)
theorem dX1_watch_42 : decode cX1_watch 42 = .ok (.getfield 111, 3) := dk_180 0 111 (dk_at dksX1_watch_1 19 rfl rfl)
theorem dX1_watch_45 : decode cX1_watch 45 = .ok (.getfield 219, 3) := dk_180 0 219 (dk_at dksX1_watch_2 0 rfl rfl)
theorem dX1_watch_48 : decode cX1_watch 48 = .ok (.iconst (-1), 1) := dk_2 (dk_at dksX1_watch_2 3 rfl rfl)
theorem dX1_watch_49 : decode cX1_watch 49 = .ok (.ixor, 1) := dk_130 (dk_at dksX1_watch_2 4 rfl rfl)
theorem dX1_watch_50 : decode cX1_watch 50 = .ok (.iand, 1) := dk_126 (dk_at dksX1_watch_2 5 rfl rfl)
theorem dX1_watch_51 : decode cX1_watch 51 = .ok (.istore_n 3, 1) := dk_62 (dk_at dksX1_watch_2 6 rfl rfl)
theorem dX1_watch_52 : decode cX1_watch 52 = .ok (.iload_n 3, 1) := dk_29 (dk_at dksX1_watch_2 7 rfl rfl)
theorem dX1_watch_53 : decode cX1_watch 53 = .ok (.istore 4, 2) := dk_54 4 (dk_at dksX1_watch_2 8 rfl rfl)
theorem dX1_watch_55 : decode cX1_watch 55 = .ok (.iload 4, 2) := dk_21 4 (dk_at dksX1_watch_2 10 rfl rfl)
theorem dX1_watch_57 : decode cX1_watch 57 = .ok (.ifCond .lt 48, 3) := dk_155 0 48 (dk_at dksX1_watch_2 12 rfl rfl)
theorem dX1_watch_60 : decode cX1_watch 60 = .ok (.iload 4, 2) := dk_21 4 (dk_at dksX1_watch_2 15 rfl rfl)
theorem dX1_watch_62 : decode cX1_watch 62 = .ok (.aload_n 0, 1) := dk_42 (dk_at dksX1_watch_2 17 rfl rfl)
theorem dX1_watch_63 : decode cX1_watch 63 = .ok (.getfield 111, 3) := dk_180 0 111 (dk_at dksX1_watch_2 18 rfl rfl)
theorem dX1_watch_66 : decode cX1_watch 66 = .ok (.getfield 219, 3) := dk_180 0 219 (dk_at dksX1_watch_2 21 rfl rfl)
theorem dX1_watch_69 : decode cX1_watch 69 = .ok (.iand, 1) := dk_126 (dk_at dksX1_watch_3 0 rfl rfl)
theorem dX1_watch_70 : decode cX1_watch 70 = .ok (.ifCond .ne 29, 3) := dk_154 0 29 (dk_at dksX1_watch_3 1 rfl rfl)
theorem dX1_watch_73 : decode cX1_watch 73 = .ok (.iload 4, 2) := dk_21 4 (dk_at dksX1_watch_3 4 rfl rfl)
theorem dX1_watch_75 : decode cX1_watch 75 = .ok (.invokestatic 392, 3) := dk_184 1 136 (dk_at dksX1_watch_3 6 rfl rfl)
theorem dX1_watch_78 : decode cX1_watch 78 = .ok (.iload_n 3, 1) := dk_29 (dk_at dksX1_watch_3 9 rfl rfl)
theorem dX1_watch_79 : decode cX1_watch 79 = .ok (.invokestatic 392, 3) := dk_184 1 136 (dk_at dksX1_watch_3 10 rfl rfl)
theorem dX1_watch_82 : decode cX1_watch 82 = .ok (.if_icmp .gt 17, 3) := dk_163 0 17 (dk_at dksX1_watch_3 13 rfl rfl)
theorem dX1_watch_85 : decode cX1_watch 85 = .ok (.aload_n 0, 1) := dk_42 (dk_at dksX1_watch_3 16 rfl rfl)
theorem dX1_watch_86 : decode cX1_watch 86 = .ok (.iload_n 1, 1) := dk_27 (dk_at dksX1_watch_3 17 rfl rfl)
theorem dX1_watch_87 : decode cX1_watch 87 = .ok (.iload_n 2, 1) := dk_28 (dk_at dksX1_watch_3 18 rfl rfl)
theorem dX1_watch_88 : decode cX1_watch 88 = .ok (.iload 4, 2) := dk_21 4 (dk_at dksX1_watch_3 19 rfl rfl)
theorem dX1_watch_90 : decode cX1_watch 90 = .ok (.invokevirtual 395, 3) := dk_182 1 139 (dk_at dksX1_watch_3 21 rfl rfl)
theorem dX1_watch_93 : decode cX1_watch 93 = .ok (.ifCond .ne 6, 3) := dk_154 0 6 (dk_at dksX1_watch_4 0 rfl rfl)
theorem dX1_watch_96 : decode cX1_watch 96 = .ok (.iload 4, 2) := dk_21 4 (dk_at dksX1_watch_4 3 rfl rfl)
theorem dX1_watch_98 : decode cX1_watch 98 = .ok (.istore_n 3, 1) := dk_62 (dk_at dksX1_watch_4 5 rfl rfl)
theorem dX1_watch_99 : decode cX1_watch 99 = .ok (.iinc 4 (-1), 3) := dk_132 4 255 (dk_at dksX1_watch_4 6 rfl rfl)
theorem dX1_watch_102 : decode cX1_watch 102 = .ok (.goto (-47), 3) := dk_167 255 209 (dk_at dksX1_watch_4 9 rfl rfl)
theorem dX1_watch_105 : decode cX1_watch 105 = .ok (.aload_n 0, 1) := dk_42 (dk_at dksX1_watch_4 12 rfl rfl)
theorem dX1_watch_106 : decode cX1_watch 106 = .ok (.iload_n 3, 1) := dk_29 (dk_at dksX1_watch_4 13 rfl rfl)
theorem dX1_watch_107 : decode cX1_watch 107 = .ok (.invokevirtual 69, 3) := dk_182 0 69 (dk_at dksX1_watch_4 14 rfl rfl)
theorem dX1_watch_110 : decode cX1_watch 110 = .ok (.ireturn, 1) := dk_172 (dk_at dksX1_watch_4 17 rfl rfl)
abbrev cX1_bits : ByteArray := prog_1_method_4_code
def yX1_bits : MethodName := ⟨RX1, "bits", "(I)I"⟩
def dkwX1_bits_0 : List UInt8 := [3, 60, 26, 61, 28, 153, 0, 15, 132, 1, 1, 28, 28, 4, 100, 126, 61, 167, 255, 243, 27, 172]
abbrev dktX1_bits_0 : List UInt8 := dkwX1_bits_0 ++ []
theorem dksX1_bits_0 : cX1_bits.data.toList.drop 0 = dktX1_bits_0 := by decide +kernel
theorem dX1_bits_0 : decode cX1_bits 0 = .ok (.iconst 0, 1) := dk_3 (dk_at dksX1_bits_0 0 rfl rfl)
theorem dX1_bits_1 : decode cX1_bits 1 = .ok (.istore_n 1, 1) := dk_60 (dk_at dksX1_bits_0 1 rfl rfl)
theorem dX1_bits_2 : decode cX1_bits 2 = .ok (.iload_n 0, 1) := dk_26 (dk_at dksX1_bits_0 2 rfl rfl)
theorem dX1_bits_3 : decode cX1_bits 3 = .ok (.istore_n 2, 1) := dk_61 (dk_at dksX1_bits_0 3 rfl rfl)
theorem dX1_bits_4 : decode cX1_bits 4 = .ok (.iload_n 2, 1) := dk_28 (dk_at dksX1_bits_0 4 rfl rfl)
theorem dX1_bits_5 : decode cX1_bits 5 = .ok (.ifCond .eq 15, 3) := dk_153 0 15 (dk_at dksX1_bits_0 5 rfl rfl)
theorem dX1_bits_8 : decode cX1_bits 8 = .ok (.iinc 1 1, 3) := dk_132 1 1 (dk_at dksX1_bits_0 8 rfl rfl)
theorem dX1_bits_11 : decode cX1_bits 11 = .ok (.iload_n 2, 1) := dk_28 (dk_at dksX1_bits_0 11 rfl rfl)
theorem dX1_bits_12 : decode cX1_bits 12 = .ok (.iload_n 2, 1) := dk_28 (dk_at dksX1_bits_0 12 rfl rfl)
theorem dX1_bits_13 : decode cX1_bits 13 = .ok (.iconst 1, 1) := dk_4 (dk_at dksX1_bits_0 13 rfl rfl)
theorem dX1_bits_14 : decode cX1_bits 14 = .ok (.isub, 1) := dk_100 (dk_at dksX1_bits_0 14 rfl rfl)
theorem dX1_bits_15 : decode cX1_bits 15 = .ok (.iand, 1) := dk_126 (dk_at dksX1_bits_0 15 rfl rfl)
theorem dX1_bits_16 : decode cX1_bits 16 = .ok (.istore_n 2, 1) := dk_61 (dk_at dksX1_bits_0 16 rfl rfl)
theorem dX1_bits_17 : decode cX1_bits 17 = .ok (.goto (-13), 3) := dk_167 255 243 (dk_at dksX1_bits_0 17 rfl rfl)
theorem dX1_bits_20 : decode cX1_bits 20 = .ok (.iload_n 1, 1) := dk_27 (dk_at dksX1_bits_0 20 rfl rfl)
theorem dX1_bits_21 : decode cX1_bits 21 = .ok (.ireturn, 1) := dk_172 (dk_at dksX1_bits_0 21 rfl rfl)
abbrev cX1_leads : ByteArray := prog_1_method_77_code
def yX1_leads : MethodName := ⟨RX1, "leads", "(III)Z"⟩
def dkwX1_leads_5 : List UInt8 := [132, 5, 1, 167, 255, 141, 21, 4, 28, 184, 0, 222, 172]
abbrev dktX1_leads_5 : List UInt8 := dkwX1_leads_5 ++ []
def dkwX1_leads_4 : List UInt8 := [4, 25, 7, 180, 1, 48, 120, 4, 25, 7, 180, 1, 51, 120, 128, 128, 54, 4, 132, 6, 1, 167, 255, 157]
abbrev dktX1_leads_4 : List UInt8 := dkwX1_leads_4 ++ dktX1_leads_5
def dkwX1_leads_3 : List UInt8 := [180, 1, 48, 184, 0, 222, 154, 0, 16, 21, 4, 25, 7, 180, 1, 51, 184, 0, 222, 153, 0, 23, 21, 4]
abbrev dktX1_leads_3 : List UInt8 := dkwX1_leads_3 ++ dktX1_leads_4
def dkwX1_leads_2 : List UInt8 := [58, 7, 42, 21, 6, 182, 0, 234, 154, 0, 58, 29, 21, 6, 184, 0, 222, 154, 0, 49, 21, 4, 25, 7]
abbrev dktX1_leads_2 : List UInt8 := dkwX1_leads_2 ++ dktX1_leads_3
def dkwX1_leads_1 : List UInt8 := [180, 0, 226, 182, 0, 127, 162, 0, 90, 42, 180, 0, 104, 180, 0, 226, 21, 6, 182, 0, 137, 192, 0, 229]
abbrev dktX1_leads_1 : List UInt8 := dkwX1_leads_1 ++ dktX1_leads_2
def dkwX1_leads_0 : List UInt8 := [4, 27, 120, 54, 4, 3, 54, 5, 21, 5, 16, 7, 162, 0, 114, 3, 54, 6, 21, 6, 42, 180, 0, 104]
abbrev dktX1_leads_0 : List UInt8 := dkwX1_leads_0 ++ dktX1_leads_1
theorem dksX1_leads_0 : cX1_leads.data.toList.drop 0 = dktX1_leads_0 := by decide +kernel
theorem dksX1_leads_1 : cX1_leads.data.toList.drop 24 = dktX1_leads_1 := dk_seg dksX1_leads_0 24 rfl rfl
theorem dksX1_leads_2 : cX1_leads.data.toList.drop 48 = dktX1_leads_2 := dk_seg dksX1_leads_1 24 rfl rfl
theorem dksX1_leads_3 : cX1_leads.data.toList.drop 72 = dktX1_leads_3 := dk_seg dksX1_leads_2 24 rfl rfl
theorem dksX1_leads_4 : cX1_leads.data.toList.drop 96 = dktX1_leads_4 := dk_seg dksX1_leads_3 24 rfl rfl
theorem dksX1_leads_5 : cX1_leads.data.toList.drop 120 = dktX1_leads_5 := dk_seg dksX1_leads_4 24 rfl rfl
theorem dX1_leads_0 : decode cX1_leads 0 = .ok (.iconst 1, 1) := dk_4 (dk_at dksX1_leads_0 0 rfl rfl)
theorem dX1_leads_1 : decode cX1_leads 1 = .ok (.iload_n 1, 1) := dk_27 (dk_at dksX1_leads_0 1 rfl rfl)
theorem dX1_leads_2 : decode cX1_leads 2 = .ok (.ishl, 1) := dk_120 (dk_at dksX1_leads_0 2 rfl rfl)
theorem dX1_leads_3 : decode cX1_leads 3 = .ok (.istore 4, 2) := dk_54 4 (dk_at dksX1_leads_0 3 rfl rfl)
theorem dX1_leads_5 : decode cX1_leads 5 = .ok (.iconst 0, 1) := dk_3 (dk_at dksX1_leads_0 5 rfl rfl)
theorem dX1_leads_6 : decode cX1_leads 6 = .ok (.istore 5, 2) := dk_54 5 (dk_at dksX1_leads_0 6 rfl rfl)
theorem dX1_leads_8 : decode cX1_leads 8 = .ok (.iload 5, 2) := dk_21 5 (dk_at dksX1_leads_0 8 rfl rfl)
theorem dX1_leads_10 : decode cX1_leads 10 = .ok (.bipush 7, 2) := dk_16 7 (dk_at dksX1_leads_0 10 rfl rfl)
theorem dX1_leads_12 : decode cX1_leads 12 = .ok (.if_icmp .ge 114, 3) := dk_162 0 114 (dk_at dksX1_leads_0 12 rfl rfl)
theorem dX1_leads_15 : decode cX1_leads 15 = .ok (.iconst 0, 1) := dk_3 (dk_at dksX1_leads_0 15 rfl rfl)
theorem dX1_leads_16 : decode cX1_leads 16 = .ok (.istore 6, 2) := dk_54 6 (dk_at dksX1_leads_0 16 rfl rfl)
theorem dX1_leads_18 : decode cX1_leads 18 = .ok (.iload 6, 2) := dk_21 6 (dk_at dksX1_leads_0 18 rfl rfl)
theorem dX1_leads_20 : decode cX1_leads 20 = .ok (.aload_n 0, 1) := dk_42 (dk_at dksX1_leads_0 20 rfl rfl)
theorem dX1_leads_21 : decode cX1_leads 21 = .ok (.getfield 104, 3) := dk_180 0 104 (dk_at dksX1_leads_0 21 rfl rfl)
theorem dX1_leads_24 : decode cX1_leads 24 = .ok (.getfield 226, 3) := dk_180 0 226 (dk_at dksX1_leads_1 0 rfl rfl)
theorem dX1_leads_27 : decode cX1_leads 27 = .ok (.invokevirtual 127, 3) := dk_182 0 127 (dk_at dksX1_leads_1 3 rfl rfl)
theorem dX1_leads_30 : decode cX1_leads 30 = .ok (.if_icmp .ge 90, 3) := dk_162 0 90 (dk_at dksX1_leads_1 6 rfl rfl)
theorem dX1_leads_33 : decode cX1_leads 33 = .ok (.aload_n 0, 1) := dk_42 (dk_at dksX1_leads_1 9 rfl rfl)
theorem dX1_leads_34 : decode cX1_leads 34 = .ok (.getfield 104, 3) := dk_180 0 104 (dk_at dksX1_leads_1 10 rfl rfl)
theorem dX1_leads_37 : decode cX1_leads 37 = .ok (.getfield 226, 3) := dk_180 0 226 (dk_at dksX1_leads_1 13 rfl rfl)
theorem dX1_leads_40 : decode cX1_leads 40 = .ok (.iload 6, 2) := dk_21 6 (dk_at dksX1_leads_1 16 rfl rfl)
theorem dX1_leads_42 : decode cX1_leads 42 = .ok (.invokevirtual 137, 3) := dk_182 0 137 (dk_at dksX1_leads_1 18 rfl rfl)
theorem dX1_leads_45 : decode cX1_leads 45 = .ok (.checkcast 229, 3) := dk_192 0 229 (dk_at dksX1_leads_1 21 rfl rfl)
theorem dX1_leads_48 : decode cX1_leads 48 = .ok (.astore 7, 2) := dk_58 7 (dk_at dksX1_leads_2 0 rfl rfl)
theorem dX1_leads_50 : decode cX1_leads 50 = .ok (.aload_n 0, 1) := dk_42 (dk_at dksX1_leads_2 2 rfl rfl)
theorem dX1_leads_51 : decode cX1_leads 51 = .ok (.iload 6, 2) := dk_21 6 (dk_at dksX1_leads_2 3 rfl rfl)
theorem dX1_leads_53 : decode cX1_leads 53 = .ok (.invokevirtual 234, 3) := dk_182 0 234 (dk_at dksX1_leads_2 5 rfl rfl)
theorem dX1_leads_56 : decode cX1_leads 56 = .ok (.ifCond .ne 58, 3) := dk_154 0 58 (dk_at dksX1_leads_2 8 rfl rfl)
theorem dX1_leads_59 : decode cX1_leads 59 = .ok (.iload_n 3, 1) := dk_29 (dk_at dksX1_leads_2 11 rfl rfl)
theorem dX1_leads_60 : decode cX1_leads 60 = .ok (.iload 6, 2) := dk_21 6 (dk_at dksX1_leads_2 12 rfl rfl)
theorem dX1_leads_62 : decode cX1_leads 62 = .ok (.invokestatic 222, 3) := dk_184 0 222 (dk_at dksX1_leads_2 14 rfl rfl)
theorem dX1_leads_65 : decode cX1_leads 65 = .ok (.ifCond .ne 49, 3) := dk_154 0 49 (dk_at dksX1_leads_2 17 rfl rfl)
theorem dX1_leads_68 : decode cX1_leads 68 = .ok (.iload 4, 2) := dk_21 4 (dk_at dksX1_leads_2 20 rfl rfl)
theorem dX1_leads_70 : decode cX1_leads 70 = .ok (.aload 7, 2) := dk_25 7 (dk_at dksX1_leads_2 22 rfl rfl)
theorem dX1_leads_72 : decode cX1_leads 72 = .ok (.getfield 304, 3) := dk_180 1 48 (dk_at dksX1_leads_3 0 rfl rfl)
theorem dX1_leads_75 : decode cX1_leads 75 = .ok (.invokestatic 222, 3) := dk_184 0 222 (dk_at dksX1_leads_3 3 rfl rfl)
theorem dX1_leads_78 : decode cX1_leads 78 = .ok (.ifCond .ne 16, 3) := dk_154 0 16 (dk_at dksX1_leads_3 6 rfl rfl)
theorem dX1_leads_81 : decode cX1_leads 81 = .ok (.iload 4, 2) := dk_21 4 (dk_at dksX1_leads_3 9 rfl rfl)
theorem dX1_leads_83 : decode cX1_leads 83 = .ok (.aload 7, 2) := dk_25 7 (dk_at dksX1_leads_3 11 rfl rfl)
theorem dX1_leads_85 : decode cX1_leads 85 = .ok (.getfield 307, 3) := dk_180 1 51 (dk_at dksX1_leads_3 13 rfl rfl)
theorem dX1_leads_88 : decode cX1_leads 88 = .ok (.invokestatic 222, 3) := dk_184 0 222 (dk_at dksX1_leads_3 16 rfl rfl)
theorem dX1_leads_91 : decode cX1_leads 91 = .ok (.ifCond .eq 23, 3) := dk_153 0 23 (dk_at dksX1_leads_3 19 rfl rfl)
theorem dX1_leads_94 : decode cX1_leads 94 = .ok (.iload 4, 2) := dk_21 4 (dk_at dksX1_leads_3 22 rfl rfl)
theorem dX1_leads_96 : decode cX1_leads 96 = .ok (.iconst 1, 1) := dk_4 (dk_at dksX1_leads_4 0 rfl rfl)
theorem dX1_leads_97 : decode cX1_leads 97 = .ok (.aload 7, 2) := dk_25 7 (dk_at dksX1_leads_4 1 rfl rfl)
theorem dX1_leads_99 : decode cX1_leads 99 = .ok (.getfield 304, 3) := dk_180 1 48 (dk_at dksX1_leads_4 3 rfl rfl)
theorem dX1_leads_102 : decode cX1_leads 102 = .ok (.ishl, 1) := dk_120 (dk_at dksX1_leads_4 6 rfl rfl)
theorem dX1_leads_103 : decode cX1_leads 103 = .ok (.iconst 1, 1) := dk_4 (dk_at dksX1_leads_4 7 rfl rfl)
theorem dX1_leads_104 : decode cX1_leads 104 = .ok (.aload 7, 2) := dk_25 7 (dk_at dksX1_leads_4 8 rfl rfl)
theorem dX1_leads_106 : decode cX1_leads 106 = .ok (.getfield 307, 3) := dk_180 1 51 (dk_at dksX1_leads_4 10 rfl rfl)
theorem dX1_leads_109 : decode cX1_leads 109 = .ok (.ishl, 1) := dk_120 (dk_at dksX1_leads_4 13 rfl rfl)
theorem dX1_leads_110 : decode cX1_leads 110 = .ok (.ior, 1) := dk_128 (dk_at dksX1_leads_4 14 rfl rfl)
theorem dX1_leads_111 : decode cX1_leads 111 = .ok (.ior, 1) := dk_128 (dk_at dksX1_leads_4 15 rfl rfl)
theorem dX1_leads_112 : decode cX1_leads 112 = .ok (.istore 4, 2) := dk_54 4 (dk_at dksX1_leads_4 16 rfl rfl)
theorem dX1_leads_114 : decode cX1_leads 114 = .ok (.iinc 6 1, 3) := dk_132 6 1 (dk_at dksX1_leads_4 18 rfl rfl)
theorem dX1_leads_117 : decode cX1_leads 117 = .ok (.goto (-99), 3) := dk_167 255 157 (dk_at dksX1_leads_4 21 rfl rfl)
theorem dX1_leads_120 : decode cX1_leads 120 = .ok (.iinc 5 1, 3) := dk_132 5 1 (dk_at dksX1_leads_5 0 rfl rfl)
theorem dX1_leads_123 : decode cX1_leads 123 = .ok (.goto (-115), 3) := dk_167 255 141 (dk_at dksX1_leads_5 3 rfl rfl)
theorem dX1_leads_126 : decode cX1_leads 126 = .ok (.iload 4, 2) := dk_21 4 (dk_at dksX1_leads_5 6 rfl rfl)
theorem dX1_leads_128 : decode cX1_leads 128 = .ok (.iload_n 2, 1) := dk_28 (dk_at dksX1_leads_5 8 rfl rfl)
theorem dX1_leads_129 : decode cX1_leads 129 = .ok (.invokestatic 222, 3) := dk_184 0 222 (dk_at dksX1_leads_5 9 rfl rfl)
theorem dX1_leads_132 : decode cX1_leads 132 = .ok (.ireturn, 1) := dk_172 (dk_at dksX1_leads_5 12 rfl rfl)
abbrev cX1_round : ByteArray := prog_1_method_82_code
def yX1_round : MethodName := ⟨RX1, "round", "(I)I"⟩
def dkwX1_round_1 : List UInt8 := [19, 1, 35, 161, 0, 8, 16, 254, 167, 0, 4, 28, 182, 0, 69, 172]
abbrev dktX1_round_1 : List UInt8 := dkwX1_round_1 ++ []
def dkwX1_round_0 : List UInt8 := [42, 27, 182, 0, 193, 154, 0, 9, 42, 4, 182, 0, 65, 172, 42, 27, 182, 1, 148, 61, 42, 28]
abbrev dktX1_round_0 : List UInt8 := dkwX1_round_0 ++ dktX1_round_1
theorem dksX1_round_0 : cX1_round.data.toList.drop 0 = dktX1_round_0 := by decide +kernel
theorem dksX1_round_1 : cX1_round.data.toList.drop 22 = dktX1_round_1 := dk_seg dksX1_round_0 22 rfl rfl
theorem dX1_round_0 : decode cX1_round 0 = .ok (.aload_n 0, 1) := dk_42 (dk_at dksX1_round_0 0 rfl rfl)
theorem dX1_round_1 : decode cX1_round 1 = .ok (.iload_n 1, 1) := dk_27 (dk_at dksX1_round_0 1 rfl rfl)
theorem dX1_round_2 : decode cX1_round 2 = .ok (.invokevirtual 193, 3) := dk_182 0 193 (dk_at dksX1_round_0 2 rfl rfl)
theorem dX1_round_5 : decode cX1_round 5 = .ok (.ifCond .ne 9, 3) := dk_154 0 9 (dk_at dksX1_round_0 5 rfl rfl)
theorem dX1_round_8 : decode cX1_round 8 = .ok (.aload_n 0, 1) := dk_42 (dk_at dksX1_round_0 8 rfl rfl)
theorem dX1_round_9 : decode cX1_round 9 = .ok (.iconst 1, 1) := dk_4 (dk_at dksX1_round_0 9 rfl rfl)
theorem dX1_round_10 : decode cX1_round 10 = .ok (.invokevirtual 65, 3) := dk_182 0 65 (dk_at dksX1_round_0 10 rfl rfl)
theorem dX1_round_13 : decode cX1_round 13 = .ok (.ireturn, 1) := dk_172 (dk_at dksX1_round_0 13 rfl rfl)
theorem dX1_round_14 : decode cX1_round 14 = .ok (.aload_n 0, 1) := dk_42 (dk_at dksX1_round_0 14 rfl rfl)
theorem dX1_round_15 : decode cX1_round 15 = .ok (.iload_n 1, 1) := dk_27 (dk_at dksX1_round_0 15 rfl rfl)
theorem dX1_round_16 : decode cX1_round 16 = .ok (.invokevirtual 404, 3) := dk_182 1 148 (dk_at dksX1_round_0 16 rfl rfl)
theorem dX1_round_19 : decode cX1_round 19 = .ok (.istore_n 2, 1) := dk_61 (dk_at dksX1_round_0 19 rfl rfl)
theorem dX1_round_20 : decode cX1_round 20 = .ok (.aload_n 0, 1) := dk_42 (dk_at dksX1_round_0 20 rfl rfl)
theorem dX1_round_21 : decode cX1_round 21 = .ok (.iload_n 2, 1) := dk_28 (dk_at dksX1_round_0 21 rfl rfl)
theorem dX1_round_22 : decode cX1_round 22 = .ok (.ldc_w 291, 3) := dk_19 1 35 (dk_at dksX1_round_1 0 rfl rfl)
theorem dX1_round_25 : decode cX1_round 25 = .ok (.if_icmp .lt 8, 3) := dk_161 0 8 (dk_at dksX1_round_1 3 rfl rfl)
theorem dX1_round_28 : decode cX1_round 28 = .ok (.bipush (-2), 2) := dk_16 254 (dk_at dksX1_round_1 6 rfl rfl)
theorem dX1_round_30 : decode cX1_round 30 = .ok (.goto 4, 3) := dk_167 0 4 (dk_at dksX1_round_1 8 rfl rfl)
theorem dX1_round_33 : decode cX1_round 33 = .ok (.iload_n 2, 1) := dk_28 (dk_at dksX1_round_1 11 rfl rfl)
theorem dX1_round_34 : decode cX1_round 34 = .ok (.invokevirtual 69, 3) := dk_182 0 69 (dk_at dksX1_round_1 12 rfl rfl)
theorem dX1_round_37 : decode cX1_round 37 = .ok (.ireturn, 1) := dk_172 (dk_at dksX1_round_1 15 rfl rfl)
abbrev cX1_rounded : ByteArray := prog_1_method_81_code
def yX1_rounded : MethodName := ⟨RX1, "rounded", "(I)I"⟩
def dkwX1_rounded_0 : List UInt8 := [42, 182, 1, 145, 42, 180, 0, 53, 16, 7, 4, 27, 120, 104, 27, 96, 46, 172]
abbrev dktX1_rounded_0 : List UInt8 := dkwX1_rounded_0 ++ []
theorem dksX1_rounded_0 : cX1_rounded.data.toList.drop 0 = dktX1_rounded_0 := by decide +kernel
theorem dX1_rounded_0 : decode cX1_rounded 0 = .ok (.aload_n 0, 1) := dk_42 (dk_at dksX1_rounded_0 0 rfl rfl)
theorem dX1_rounded_1 : decode cX1_rounded 1 = .ok (.invokevirtual 401, 3) := dk_182 1 145 (dk_at dksX1_rounded_0 1 rfl rfl)
theorem dX1_rounded_4 : decode cX1_rounded 4 = .ok (.aload_n 0, 1) := dk_42 (dk_at dksX1_rounded_0 4 rfl rfl)
theorem dX1_rounded_5 : decode cX1_rounded 5 = .ok (.getfield 53, 3) := dk_180 0 53 (dk_at dksX1_rounded_0 5 rfl rfl)
theorem dX1_rounded_8 : decode cX1_rounded 8 = .ok (.bipush 7, 2) := dk_16 7 (dk_at dksX1_rounded_0 8 rfl rfl)
theorem dX1_rounded_10 : decode cX1_rounded 10 = .ok (.iconst 1, 1) := dk_4 (dk_at dksX1_rounded_0 10 rfl rfl)
theorem dX1_rounded_11 : decode cX1_rounded 11 = .ok (.iload_n 1, 1) := dk_27 (dk_at dksX1_rounded_0 11 rfl rfl)
theorem dX1_rounded_12 : decode cX1_rounded 12 = .ok (.ishl, 1) := dk_120 (dk_at dksX1_rounded_0 12 rfl rfl)
theorem dX1_rounded_13 : decode cX1_rounded 13 = .ok (.imul, 1) := dk_104 (dk_at dksX1_rounded_0 13 rfl rfl)
theorem dX1_rounded_14 : decode cX1_rounded 14 = .ok (.iload_n 1, 1) := dk_27 (dk_at dksX1_rounded_0 14 rfl rfl)
theorem dX1_rounded_15 : decode cX1_rounded 15 = .ok (.iadd, 1) := dk_96 (dk_at dksX1_rounded_0 15 rfl rfl)
theorem dX1_rounded_16 : decode cX1_rounded 16 = .ok (.iaload, 1) := dk_46 (dk_at dksX1_rounded_0 16 rfl rfl)
theorem dX1_rounded_17 : decode cX1_rounded 17 = .ok (.ireturn, 1) := dk_172 (dk_at dksX1_rounded_0 17 rfl rfl)
abbrev cX1_rounds : ByteArray := prog_1_method_80_code
def yX1_rounds : MethodName := ⟨RX1, "rounds", "()V"⟩
def dkwX1_rounds_6 : List UInt8 := [167, 255, 138, 177]
abbrev dktX1_rounds_6 : List UInt8 := dkwX1_rounds_6 ++ []
def dkwX1_rounds_5 : List UInt8 := [104, 21, 4, 96, 21, 5, 19, 1, 35, 184, 0, 251, 79, 132, 4, 1, 167, 255, 151, 132, 3, 255]
abbrev dktX1_rounds_5 : List UInt8 := dkwX1_rounds_5 ++ dktX1_rounds_6
def dkwX1_rounds_4 : List UInt8 := [104, 21, 6, 96, 46, 96, 184, 0, 251, 54, 5, 132, 6, 1, 167, 255, 200, 42, 180, 0, 53, 16, 7, 29]
abbrev dktX1_rounds_4 : List UInt8 := dkwX1_rounds_4 ++ dktX1_rounds_5
def dkwX1_rounds_3 : List UInt8 := [180, 0, 50, 16, 7, 21, 4, 104, 21, 6, 96, 46, 42, 180, 0, 53, 16, 7, 29, 4, 21, 6, 120, 128]
abbrev dktX1_rounds_3 : List UInt8 := dkwX1_rounds_3 ++ dktX1_rounds_4
def dkwX1_rounds_2 : List UInt8 := [54, 5, 3, 54, 6, 21, 6, 27, 162, 0, 56, 29, 21, 6, 184, 0, 222, 154, 0, 41, 21, 5, 42]
abbrev dktX1_rounds_2 : List UInt8 := dkwX1_rounds_2 ++ dktX1_rounds_3
def dkwX1_rounds_1 : List UInt8 := [158, 0, 120, 3, 54, 4, 21, 4, 27, 162, 0, 105, 29, 28, 160, 0, 7, 3, 167, 0, 6, 19, 1, 35]
abbrev dktX1_rounds_1 : List UInt8 := dkwX1_rounds_1 ++ dktX1_rounds_2
def dkwX1_rounds_0 : List UInt8 := [42, 182, 1, 142, 42, 180, 0, 104, 180, 0, 122, 182, 0, 127, 60, 4, 27, 120, 4, 100, 61, 28, 62, 29]
abbrev dktX1_rounds_0 : List UInt8 := dkwX1_rounds_0 ++ dktX1_rounds_1
theorem dksX1_rounds_0 : cX1_rounds.data.toList.drop 0 = dktX1_rounds_0 := by decide +kernel
theorem dksX1_rounds_1 : cX1_rounds.data.toList.drop 24 = dktX1_rounds_1 := dk_seg dksX1_rounds_0 24 rfl rfl
theorem dksX1_rounds_2 : cX1_rounds.data.toList.drop 48 = dktX1_rounds_2 := dk_seg dksX1_rounds_1 24 rfl rfl
theorem dksX1_rounds_3 : cX1_rounds.data.toList.drop 71 = dktX1_rounds_3 := dk_seg dksX1_rounds_2 23 rfl rfl
theorem dksX1_rounds_4 : cX1_rounds.data.toList.drop 95 = dktX1_rounds_4 := dk_seg dksX1_rounds_3 24 rfl rfl
theorem dksX1_rounds_5 : cX1_rounds.data.toList.drop 119 = dktX1_rounds_5 := dk_seg dksX1_rounds_4 24 rfl rfl
theorem dksX1_rounds_6 : cX1_rounds.data.toList.drop 141 = dktX1_rounds_6 := dk_seg dksX1_rounds_5 22 rfl rfl
theorem dX1_rounds_0 : decode cX1_rounds 0 = .ok (.aload_n 0, 1) := dk_42 (dk_at dksX1_rounds_0 0 rfl rfl)
theorem dX1_rounds_1 : decode cX1_rounds 1 = .ok (.invokevirtual 398, 3) := dk_182 1 142 (dk_at dksX1_rounds_0 1 rfl rfl)
theorem dX1_rounds_4 : decode cX1_rounds 4 = .ok (.aload_n 0, 1) := dk_42 (dk_at dksX1_rounds_0 4 rfl rfl)
theorem dX1_rounds_5 : decode cX1_rounds 5 = .ok (.getfield 104, 3) := dk_180 0 104 (dk_at dksX1_rounds_0 5 rfl rfl)
theorem dX1_rounds_8 : decode cX1_rounds 8 = .ok (.getfield 122, 3) := dk_180 0 122 (dk_at dksX1_rounds_0 8 rfl rfl)
theorem dX1_rounds_11 : decode cX1_rounds 11 = .ok (.invokevirtual 127, 3) := dk_182 0 127 (dk_at dksX1_rounds_0 11 rfl rfl)
theorem dX1_rounds_14 : decode cX1_rounds 14 = .ok (.istore_n 1, 1) := dk_60 (dk_at dksX1_rounds_0 14 rfl rfl)
theorem dX1_rounds_15 : decode cX1_rounds 15 = .ok (.iconst 1, 1) := dk_4 (dk_at dksX1_rounds_0 15 rfl rfl)
theorem dX1_rounds_16 : decode cX1_rounds 16 = .ok (.iload_n 1, 1) := dk_27 (dk_at dksX1_rounds_0 16 rfl rfl)
theorem dX1_rounds_17 : decode cX1_rounds 17 = .ok (.ishl, 1) := dk_120 (dk_at dksX1_rounds_0 17 rfl rfl)
theorem dX1_rounds_18 : decode cX1_rounds 18 = .ok (.iconst 1, 1) := dk_4 (dk_at dksX1_rounds_0 18 rfl rfl)
theorem dX1_rounds_19 : decode cX1_rounds 19 = .ok (.isub, 1) := dk_100 (dk_at dksX1_rounds_0 19 rfl rfl)
theorem dX1_rounds_20 : decode cX1_rounds 20 = .ok (.istore_n 2, 1) := dk_61 (dk_at dksX1_rounds_0 20 rfl rfl)
theorem dX1_rounds_21 : decode cX1_rounds 21 = .ok (.iload_n 2, 1) := dk_28 (dk_at dksX1_rounds_0 21 rfl rfl)
theorem dX1_rounds_22 : decode cX1_rounds 22 = .ok (.istore_n 3, 1) := dk_62 (dk_at dksX1_rounds_0 22 rfl rfl)
theorem dX1_rounds_23 : decode cX1_rounds 23 = .ok (.iload_n 3, 1) := dk_29 (dk_at dksX1_rounds_0 23 rfl rfl)
theorem dX1_rounds_24 : decode cX1_rounds 24 = .ok (.ifCond .le 120, 3) := dk_158 0 120 (dk_at dksX1_rounds_1 0 rfl rfl)
theorem dX1_rounds_27 : decode cX1_rounds 27 = .ok (.iconst 0, 1) := dk_3 (dk_at dksX1_rounds_1 3 rfl rfl)
theorem dX1_rounds_28 : decode cX1_rounds 28 = .ok (.istore 4, 2) := dk_54 4 (dk_at dksX1_rounds_1 4 rfl rfl)
theorem dX1_rounds_30 : decode cX1_rounds 30 = .ok (.iload 4, 2) := dk_21 4 (dk_at dksX1_rounds_1 6 rfl rfl)
theorem dX1_rounds_32 : decode cX1_rounds 32 = .ok (.iload_n 1, 1) := dk_27 (dk_at dksX1_rounds_1 8 rfl rfl)
theorem dX1_rounds_33 : decode cX1_rounds 33 = .ok (.if_icmp .ge 105, 3) := dk_162 0 105 (dk_at dksX1_rounds_1 9 rfl rfl)
theorem dX1_rounds_36 : decode cX1_rounds 36 = .ok (.iload_n 3, 1) := dk_29 (dk_at dksX1_rounds_1 12 rfl rfl)
theorem dX1_rounds_37 : decode cX1_rounds 37 = .ok (.iload_n 2, 1) := dk_28 (dk_at dksX1_rounds_1 13 rfl rfl)
theorem dX1_rounds_38 : decode cX1_rounds 38 = .ok (.if_icmp .ne 7, 3) := dk_160 0 7 (dk_at dksX1_rounds_1 14 rfl rfl)
theorem dX1_rounds_41 : decode cX1_rounds 41 = .ok (.iconst 0, 1) := dk_3 (dk_at dksX1_rounds_1 17 rfl rfl)
theorem dX1_rounds_42 : decode cX1_rounds 42 = .ok (.goto 6, 3) := dk_167 0 6 (dk_at dksX1_rounds_1 18 rfl rfl)
theorem dX1_rounds_45 : decode cX1_rounds 45 = .ok (.ldc_w 291, 3) := dk_19 1 35 (dk_at dksX1_rounds_1 21 rfl rfl)
theorem dX1_rounds_48 : decode cX1_rounds 48 = .ok (.istore 5, 2) := dk_54 5 (dk_at dksX1_rounds_2 0 rfl rfl)
theorem dX1_rounds_50 : decode cX1_rounds 50 = .ok (.iconst 0, 1) := dk_3 (dk_at dksX1_rounds_2 2 rfl rfl)
theorem dX1_rounds_51 : decode cX1_rounds 51 = .ok (.istore 6, 2) := dk_54 6 (dk_at dksX1_rounds_2 3 rfl rfl)
theorem dX1_rounds_53 : decode cX1_rounds 53 = .ok (.iload 6, 2) := dk_21 6 (dk_at dksX1_rounds_2 5 rfl rfl)
theorem dX1_rounds_55 : decode cX1_rounds 55 = .ok (.iload_n 1, 1) := dk_27 (dk_at dksX1_rounds_2 7 rfl rfl)
theorem dX1_rounds_56 : decode cX1_rounds 56 = .ok (.if_icmp .ge 56, 3) := dk_162 0 56 (dk_at dksX1_rounds_2 8 rfl rfl)
theorem dX1_rounds_59 : decode cX1_rounds 59 = .ok (.iload_n 3, 1) := dk_29 (dk_at dksX1_rounds_2 11 rfl rfl)
theorem dX1_rounds_60 : decode cX1_rounds 60 = .ok (.iload 6, 2) := dk_21 6 (dk_at dksX1_rounds_2 12 rfl rfl)
theorem dX1_rounds_62 : decode cX1_rounds 62 = .ok (.invokestatic 222, 3) := dk_184 0 222 (dk_at dksX1_rounds_2 14 rfl rfl)
theorem dX1_rounds_65 : decode cX1_rounds 65 = .ok (.ifCond .ne 41, 3) := dk_154 0 41 (dk_at dksX1_rounds_2 17 rfl rfl)
theorem dX1_rounds_68 : decode cX1_rounds 68 = .ok (.iload 5, 2) := dk_21 5 (dk_at dksX1_rounds_2 20 rfl rfl)
theorem dX1_rounds_70 : decode cX1_rounds 70 = .ok (.aload_n 0, 1) := dk_42 (dk_at dksX1_rounds_2 22 rfl rfl)
theorem dX1_rounds_71 : decode cX1_rounds 71 = .ok (.getfield 50, 3) := dk_180 0 50 (dk_at dksX1_rounds_3 0 rfl rfl)
theorem dX1_rounds_74 : decode cX1_rounds 74 = .ok (.bipush 7, 2) := dk_16 7 (dk_at dksX1_rounds_3 3 rfl rfl)
theorem dX1_rounds_76 : decode cX1_rounds 76 = .ok (.iload 4, 2) := dk_21 4 (dk_at dksX1_rounds_3 5 rfl rfl)
theorem dX1_rounds_78 : decode cX1_rounds 78 = .ok (.imul, 1) := dk_104 (dk_at dksX1_rounds_3 7 rfl rfl)
theorem dX1_rounds_79 : decode cX1_rounds 79 = .ok (.iload 6, 2) := dk_21 6 (dk_at dksX1_rounds_3 8 rfl rfl)
theorem dX1_rounds_81 : decode cX1_rounds 81 = .ok (.iadd, 1) := dk_96 (dk_at dksX1_rounds_3 10 rfl rfl)
theorem dX1_rounds_82 : decode cX1_rounds 82 = .ok (.iaload, 1) := dk_46 (dk_at dksX1_rounds_3 11 rfl rfl)
theorem dX1_rounds_83 : decode cX1_rounds 83 = .ok (.aload_n 0, 1) := dk_42 (dk_at dksX1_rounds_3 12 rfl rfl)
theorem dX1_rounds_84 : decode cX1_rounds 84 = .ok (.getfield 53, 3) := dk_180 0 53 (dk_at dksX1_rounds_3 13 rfl rfl)
theorem dX1_rounds_87 : decode cX1_rounds 87 = .ok (.bipush 7, 2) := dk_16 7 (dk_at dksX1_rounds_3 16 rfl rfl)
theorem dX1_rounds_89 : decode cX1_rounds 89 = .ok (.iload_n 3, 1) := dk_29 (dk_at dksX1_rounds_3 18 rfl rfl)
theorem dX1_rounds_90 : decode cX1_rounds 90 = .ok (.iconst 1, 1) := dk_4 (dk_at dksX1_rounds_3 19 rfl rfl)
theorem dX1_rounds_91 : decode cX1_rounds 91 = .ok (.iload 6, 2) := dk_21 6 (dk_at dksX1_rounds_3 20 rfl rfl)
theorem dX1_rounds_93 : decode cX1_rounds 93 = .ok (.ishl, 1) := dk_120 (dk_at dksX1_rounds_3 22 rfl rfl)
theorem dX1_rounds_94 : decode cX1_rounds 94 = .ok (.ior, 1) := dk_128 (dk_at dksX1_rounds_3 23 rfl rfl)
theorem dX1_rounds_95 : decode cX1_rounds 95 = .ok (.imul, 1) := dk_104 (dk_at dksX1_rounds_4 0 rfl rfl)
theorem dX1_rounds_96 : decode cX1_rounds 96 = .ok (.iload 6, 2) := dk_21 6 (dk_at dksX1_rounds_4 1 rfl rfl)
theorem dX1_rounds_98 : decode cX1_rounds 98 = .ok (.iadd, 1) := dk_96 (dk_at dksX1_rounds_4 3 rfl rfl)
theorem dX1_rounds_99 : decode cX1_rounds 99 = .ok (.iaload, 1) := dk_46 (dk_at dksX1_rounds_4 4 rfl rfl)
theorem dX1_rounds_100 : decode cX1_rounds 100 = .ok (.iadd, 1) := dk_96 (dk_at dksX1_rounds_4 5 rfl rfl)
theorem dX1_rounds_101 : decode cX1_rounds 101 = .ok (.invokestatic 251, 3) := dk_184 0 251 (dk_at dksX1_rounds_4 6 rfl rfl)
theorem dX1_rounds_104 : decode cX1_rounds 104 = .ok (.istore 5, 2) := dk_54 5 (dk_at dksX1_rounds_4 9 rfl rfl)
theorem dX1_rounds_106 : decode cX1_rounds 106 = .ok (.iinc 6 1, 3) := dk_132 6 1 (dk_at dksX1_rounds_4 11 rfl rfl)
theorem dX1_rounds_109 : decode cX1_rounds 109 = .ok (.goto (-56), 3) := dk_167 255 200 (dk_at dksX1_rounds_4 14 rfl rfl)
theorem dX1_rounds_112 : decode cX1_rounds 112 = .ok (.aload_n 0, 1) := dk_42 (dk_at dksX1_rounds_4 17 rfl rfl)
theorem dX1_rounds_113 : decode cX1_rounds 113 = .ok (.getfield 53, 3) := dk_180 0 53 (dk_at dksX1_rounds_4 18 rfl rfl)
theorem dX1_rounds_116 : decode cX1_rounds 116 = .ok (.bipush 7, 2) := dk_16 7 (dk_at dksX1_rounds_4 21 rfl rfl)
theorem dX1_rounds_118 : decode cX1_rounds 118 = .ok (.iload_n 3, 1) := dk_29 (dk_at dksX1_rounds_4 23 rfl rfl)
theorem dX1_rounds_119 : decode cX1_rounds 119 = .ok (.imul, 1) := dk_104 (dk_at dksX1_rounds_5 0 rfl rfl)
theorem dX1_rounds_120 : decode cX1_rounds 120 = .ok (.iload 4, 2) := dk_21 4 (dk_at dksX1_rounds_5 1 rfl rfl)
theorem dX1_rounds_122 : decode cX1_rounds 122 = .ok (.iadd, 1) := dk_96 (dk_at dksX1_rounds_5 3 rfl rfl)
theorem dX1_rounds_123 : decode cX1_rounds 123 = .ok (.iload 5, 2) := dk_21 5 (dk_at dksX1_rounds_5 4 rfl rfl)
theorem dX1_rounds_125 : decode cX1_rounds 125 = .ok (.ldc_w 291, 3) := dk_19 1 35 (dk_at dksX1_rounds_5 6 rfl rfl)
theorem dX1_rounds_128 : decode cX1_rounds 128 = .ok (.invokestatic 251, 3) := dk_184 0 251 (dk_at dksX1_rounds_5 9 rfl rfl)
theorem dX1_rounds_131 : decode cX1_rounds 131 = .ok (.iastore, 1) := dk_79 (dk_at dksX1_rounds_5 12 rfl rfl)
theorem dX1_rounds_132 : decode cX1_rounds 132 = .ok (.iinc 4 1, 3) := dk_132 4 1 (dk_at dksX1_rounds_5 13 rfl rfl)
theorem dX1_rounds_135 : decode cX1_rounds 135 = .ok (.goto (-105), 3) := dk_167 255 151 (dk_at dksX1_rounds_5 16 rfl rfl)
theorem dX1_rounds_138 : decode cX1_rounds 138 = .ok (.iinc 3 (-1), 3) := dk_132 3 255 (dk_at dksX1_rounds_5 19 rfl rfl)
theorem dX1_rounds_141 : decode cX1_rounds 141 = .ok (.goto (-118), 3) := dk_167 255 138 (dk_at dksX1_rounds_6 0 rfl rfl)
theorem dX1_rounds_144 : decode cX1_rounds 144 = .ok (.return_, 1) := dk_177 (dk_at dksX1_rounds_6 3 rfl rfl)
abbrev cX1_walks : ByteArray := prog_1_method_79_code
def yX1_walks : MethodName := ⟨RX1, "walks", "()V"⟩
def dkwX1_walks_10 : List UInt8 := [132, 3, 1, 167, 255, 182, 132, 2, 1, 167, 255, 169, 177]
abbrev dktX1_walks_10 : List UInt8 := dkwX1_walks_10 ++ []
def dkwX1_walks_9 : List UInt8 := [180, 0, 50, 16, 7, 28, 104, 21, 4, 96, 46, 96, 184, 0, 251, 79, 132, 4, 1, 167, 255, 196]
abbrev dktX1_walks_9 : List UInt8 := dkwX1_walks_9 ++ dktX1_walks_10
def dkwX1_walks_8 : List UInt8 := [180, 0, 50, 16, 7, 29, 104, 21, 4, 96, 46, 42, 180, 0, 50, 16, 7, 29, 104, 28, 96, 46, 42]
abbrev dktX1_walks_8 : List UInt8 := dkwX1_walks_8 ++ dktX1_walks_9
def dkwX1_walks_7 : List UInt8 := [162, 0, 75, 3, 54, 4, 21, 4, 27, 162, 0, 60, 42, 180, 0, 50, 16, 7, 29, 104, 21, 4, 96, 42]
abbrev dktX1_walks_7 : List UInt8 := dkwX1_walks_7 ++ dktX1_walks_8
def dkwX1_walks_6 : List UInt8 := [96, 45, 180, 0, 237, 79, 132, 2, 1, 167, 255, 171, 3, 61, 28, 27, 162, 0, 88, 3, 62, 29, 27]
abbrev dktX1_walks_6 : List UInt8 := dkwX1_walks_6 ++ dktX1_walks_7
def dkwX1_walks_5 : List UInt8 := [180, 1, 51, 96, 45, 180, 0, 237, 79, 42, 180, 0, 50, 16, 7, 45, 180, 1, 51, 104, 45, 180, 1, 48]
abbrev dktX1_walks_5 : List UInt8 := dkwX1_walks_5 ++ dktX1_walks_6
def dkwX1_walks_4 : List UInt8 := [42, 28, 182, 0, 234, 153, 0, 6, 167, 0, 45, 42, 180, 0, 50, 16, 7, 45, 180, 1, 48, 104, 45]
abbrev dktX1_walks_4 : List UInt8 := dkwX1_walks_4 ++ dktX1_walks_5
def dkwX1_walks_3 : List UInt8 := [180, 0, 226, 182, 0, 127, 162, 0, 77, 42, 180, 0, 104, 180, 0, 226, 28, 182, 0, 137, 192, 0, 229, 78]
abbrev dktX1_walks_3 : List UInt8 := dkwX1_walks_3 ++ dktX1_walks_4
def dkwX1_walks_2 : List UInt8 := [19, 1, 35, 79, 132, 3, 1, 167, 255, 225, 132, 2, 1, 167, 255, 212, 3, 61, 28, 42, 180, 0, 104]
abbrev dktX1_walks_2 : List UInt8 := dkwX1_walks_2 ++ dktX1_walks_3
def dkwX1_walks_1 : List UInt8 := [162, 0, 32, 42, 180, 0, 50, 16, 7, 28, 104, 29, 96, 28, 29, 160, 0, 7, 3, 167, 0, 6]
abbrev dktX1_walks_1 : List UInt8 := dkwX1_walks_1 ++ dktX1_walks_2
def dkwX1_walks_0 : List UInt8 := [42, 180, 0, 104, 180, 0, 122, 182, 0, 127, 60, 3, 61, 28, 27, 162, 0, 45, 3, 62, 29, 27]
abbrev dktX1_walks_0 : List UInt8 := dkwX1_walks_0 ++ dktX1_walks_1
theorem dksX1_walks_0 : cX1_walks.data.toList.drop 0 = dktX1_walks_0 := by decide +kernel
theorem dksX1_walks_1 : cX1_walks.data.toList.drop 22 = dktX1_walks_1 := dk_seg dksX1_walks_0 22 rfl rfl
theorem dksX1_walks_2 : cX1_walks.data.toList.drop 44 = dktX1_walks_2 := dk_seg dksX1_walks_1 22 rfl rfl
theorem dksX1_walks_3 : cX1_walks.data.toList.drop 67 = dktX1_walks_3 := dk_seg dksX1_walks_2 23 rfl rfl
theorem dksX1_walks_4 : cX1_walks.data.toList.drop 91 = dktX1_walks_4 := dk_seg dksX1_walks_3 24 rfl rfl
theorem dksX1_walks_5 : cX1_walks.data.toList.drop 114 = dktX1_walks_5 := dk_seg dksX1_walks_4 23 rfl rfl
theorem dksX1_walks_6 : cX1_walks.data.toList.drop 138 = dktX1_walks_6 := dk_seg dksX1_walks_5 24 rfl rfl
theorem dksX1_walks_7 : cX1_walks.data.toList.drop 161 = dktX1_walks_7 := dk_seg dksX1_walks_6 23 rfl rfl
theorem dksX1_walks_8 : cX1_walks.data.toList.drop 185 = dktX1_walks_8 := dk_seg dksX1_walks_7 24 rfl rfl
theorem dksX1_walks_9 : cX1_walks.data.toList.drop 208 = dktX1_walks_9 := dk_seg dksX1_walks_8 23 rfl rfl
theorem dksX1_walks_10 : cX1_walks.data.toList.drop 230 = dktX1_walks_10 := dk_seg dksX1_walks_9 22 rfl rfl
theorem dX1_walks_0 : decode cX1_walks 0 = .ok (.aload_n 0, 1) := dk_42 (dk_at dksX1_walks_0 0 rfl rfl)
theorem dX1_walks_1 : decode cX1_walks 1 = .ok (.getfield 104, 3) := dk_180 0 104 (dk_at dksX1_walks_0 1 rfl rfl)
theorem dX1_walks_4 : decode cX1_walks 4 = .ok (.getfield 122, 3) := dk_180 0 122 (dk_at dksX1_walks_0 4 rfl rfl)
theorem dX1_walks_7 : decode cX1_walks 7 = .ok (.invokevirtual 127, 3) := dk_182 0 127 (dk_at dksX1_walks_0 7 rfl rfl)
theorem dX1_walks_10 : decode cX1_walks 10 = .ok (.istore_n 1, 1) := dk_60 (dk_at dksX1_walks_0 10 rfl rfl)
theorem dX1_walks_11 : decode cX1_walks 11 = .ok (.iconst 0, 1) := dk_3 (dk_at dksX1_walks_0 11 rfl rfl)
theorem dX1_walks_12 : decode cX1_walks 12 = .ok (.istore_n 2, 1) := dk_61 (dk_at dksX1_walks_0 12 rfl rfl)
theorem dX1_walks_13 : decode cX1_walks 13 = .ok (.iload_n 2, 1) := dk_28 (dk_at dksX1_walks_0 13 rfl rfl)
theorem dX1_walks_14 : decode cX1_walks 14 = .ok (.iload_n 1, 1) := dk_27 (dk_at dksX1_walks_0 14 rfl rfl)
theorem dX1_walks_15 : decode cX1_walks 15 = .ok (.if_icmp .ge 45, 3) := dk_162 0 45 (dk_at dksX1_walks_0 15 rfl rfl)
theorem dX1_walks_18 : decode cX1_walks 18 = .ok (.iconst 0, 1) := dk_3 (dk_at dksX1_walks_0 18 rfl rfl)
theorem dX1_walks_19 : decode cX1_walks 19 = .ok (.istore_n 3, 1) := dk_62 (dk_at dksX1_walks_0 19 rfl rfl)
theorem dX1_walks_20 : decode cX1_walks 20 = .ok (.iload_n 3, 1) := dk_29 (dk_at dksX1_walks_0 20 rfl rfl)
theorem dX1_walks_21 : decode cX1_walks 21 = .ok (.iload_n 1, 1) := dk_27 (dk_at dksX1_walks_0 21 rfl rfl)
theorem dX1_walks_22 : decode cX1_walks 22 = .ok (.if_icmp .ge 32, 3) := dk_162 0 32 (dk_at dksX1_walks_1 0 rfl rfl)
theorem dX1_walks_25 : decode cX1_walks 25 = .ok (.aload_n 0, 1) := dk_42 (dk_at dksX1_walks_1 3 rfl rfl)
theorem dX1_walks_26 : decode cX1_walks 26 = .ok (.getfield 50, 3) := dk_180 0 50 (dk_at dksX1_walks_1 4 rfl rfl)
theorem dX1_walks_29 : decode cX1_walks 29 = .ok (.bipush 7, 2) := dk_16 7 (dk_at dksX1_walks_1 7 rfl rfl)
theorem dX1_walks_31 : decode cX1_walks 31 = .ok (.iload_n 2, 1) := dk_28 (dk_at dksX1_walks_1 9 rfl rfl)
theorem dX1_walks_32 : decode cX1_walks 32 = .ok (.imul, 1) := dk_104 (dk_at dksX1_walks_1 10 rfl rfl)
theorem dX1_walks_33 : decode cX1_walks 33 = .ok (.iload_n 3, 1) := dk_29 (dk_at dksX1_walks_1 11 rfl rfl)
theorem dX1_walks_34 : decode cX1_walks 34 = .ok (.iadd, 1) := dk_96 (dk_at dksX1_walks_1 12 rfl rfl)
theorem dX1_walks_35 : decode cX1_walks 35 = .ok (.iload_n 2, 1) := dk_28 (dk_at dksX1_walks_1 13 rfl rfl)
theorem dX1_walks_36 : decode cX1_walks 36 = .ok (.iload_n 3, 1) := dk_29 (dk_at dksX1_walks_1 14 rfl rfl)
theorem dX1_walks_37 : decode cX1_walks 37 = .ok (.if_icmp .ne 7, 3) := dk_160 0 7 (dk_at dksX1_walks_1 15 rfl rfl)
theorem dX1_walks_40 : decode cX1_walks 40 = .ok (.iconst 0, 1) := dk_3 (dk_at dksX1_walks_1 18 rfl rfl)
theorem dX1_walks_41 : decode cX1_walks 41 = .ok (.goto 6, 3) := dk_167 0 6 (dk_at dksX1_walks_1 19 rfl rfl)
theorem dX1_walks_44 : decode cX1_walks 44 = .ok (.ldc_w 291, 3) := dk_19 1 35 (dk_at dksX1_walks_2 0 rfl rfl)
theorem dX1_walks_47 : decode cX1_walks 47 = .ok (.iastore, 1) := dk_79 (dk_at dksX1_walks_2 3 rfl rfl)
theorem dX1_walks_48 : decode cX1_walks 48 = .ok (.iinc 3 1, 3) := dk_132 3 1 (dk_at dksX1_walks_2 4 rfl rfl)
theorem dX1_walks_51 : decode cX1_walks 51 = .ok (.goto (-31), 3) := dk_167 255 225 (dk_at dksX1_walks_2 7 rfl rfl)
theorem dX1_walks_54 : decode cX1_walks 54 = .ok (.iinc 2 1, 3) := dk_132 2 1 (dk_at dksX1_walks_2 10 rfl rfl)
theorem dX1_walks_57 : decode cX1_walks 57 = .ok (.goto (-44), 3) := dk_167 255 212 (dk_at dksX1_walks_2 13 rfl rfl)
theorem dX1_walks_60 : decode cX1_walks 60 = .ok (.iconst 0, 1) := dk_3 (dk_at dksX1_walks_2 16 rfl rfl)
theorem dX1_walks_61 : decode cX1_walks 61 = .ok (.istore_n 2, 1) := dk_61 (dk_at dksX1_walks_2 17 rfl rfl)
theorem dX1_walks_62 : decode cX1_walks 62 = .ok (.iload_n 2, 1) := dk_28 (dk_at dksX1_walks_2 18 rfl rfl)
theorem dX1_walks_63 : decode cX1_walks 63 = .ok (.aload_n 0, 1) := dk_42 (dk_at dksX1_walks_2 19 rfl rfl)
theorem dX1_walks_64 : decode cX1_walks 64 = .ok (.getfield 104, 3) := dk_180 0 104 (dk_at dksX1_walks_2 20 rfl rfl)
theorem dX1_walks_67 : decode cX1_walks 67 = .ok (.getfield 226, 3) := dk_180 0 226 (dk_at dksX1_walks_3 0 rfl rfl)
theorem dX1_walks_70 : decode cX1_walks 70 = .ok (.invokevirtual 127, 3) := dk_182 0 127 (dk_at dksX1_walks_3 3 rfl rfl)
theorem dX1_walks_73 : decode cX1_walks 73 = .ok (.if_icmp .ge 77, 3) := dk_162 0 77 (dk_at dksX1_walks_3 6 rfl rfl)
theorem dX1_walks_76 : decode cX1_walks 76 = .ok (.aload_n 0, 1) := dk_42 (dk_at dksX1_walks_3 9 rfl rfl)
theorem dX1_walks_77 : decode cX1_walks 77 = .ok (.getfield 104, 3) := dk_180 0 104 (dk_at dksX1_walks_3 10 rfl rfl)
theorem dX1_walks_80 : decode cX1_walks 80 = .ok (.getfield 226, 3) := dk_180 0 226 (dk_at dksX1_walks_3 13 rfl rfl)
theorem dX1_walks_83 : decode cX1_walks 83 = .ok (.iload_n 2, 1) := dk_28 (dk_at dksX1_walks_3 16 rfl rfl)
theorem dX1_walks_84 : decode cX1_walks 84 = .ok (.invokevirtual 137, 3) := dk_182 0 137 (dk_at dksX1_walks_3 17 rfl rfl)
theorem dX1_walks_87 : decode cX1_walks 87 = .ok (.checkcast 229, 3) := dk_192 0 229 (dk_at dksX1_walks_3 20 rfl rfl)
theorem dX1_walks_90 : decode cX1_walks 90 = .ok (.astore_n 3, 1) := dk_78 (dk_at dksX1_walks_3 23 rfl rfl)
theorem dX1_walks_91 : decode cX1_walks 91 = .ok (.aload_n 0, 1) := dk_42 (dk_at dksX1_walks_4 0 rfl rfl)
theorem dX1_walks_92 : decode cX1_walks 92 = .ok (.iload_n 2, 1) := dk_28 (dk_at dksX1_walks_4 1 rfl rfl)
theorem dX1_walks_93 : decode cX1_walks 93 = .ok (.invokevirtual 234, 3) := dk_182 0 234 (dk_at dksX1_walks_4 2 rfl rfl)
theorem dX1_walks_96 : decode cX1_walks 96 = .ok (.ifCond .eq 6, 3) := dk_153 0 6 (dk_at dksX1_walks_4 5 rfl rfl)
theorem dX1_walks_99 : decode cX1_walks 99 = .ok (.goto 45, 3) := dk_167 0 45 (dk_at dksX1_walks_4 8 rfl rfl)
theorem dX1_walks_102 : decode cX1_walks 102 = .ok (.aload_n 0, 1) := dk_42 (dk_at dksX1_walks_4 11 rfl rfl)
theorem dX1_walks_103 : decode cX1_walks 103 = .ok (.getfield 50, 3) := dk_180 0 50 (dk_at dksX1_walks_4 12 rfl rfl)
theorem dX1_walks_106 : decode cX1_walks 106 = .ok (.bipush 7, 2) := dk_16 7 (dk_at dksX1_walks_4 15 rfl rfl)
theorem dX1_walks_108 : decode cX1_walks 108 = .ok (.aload_n 3, 1) := dk_45 (dk_at dksX1_walks_4 17 rfl rfl)
theorem dX1_walks_109 : decode cX1_walks 109 = .ok (.getfield 304, 3) := dk_180 1 48 (dk_at dksX1_walks_4 18 rfl rfl)
theorem dX1_walks_112 : decode cX1_walks 112 = .ok (.imul, 1) := dk_104 (dk_at dksX1_walks_4 21 rfl rfl)
theorem dX1_walks_113 : decode cX1_walks 113 = .ok (.aload_n 3, 1) := dk_45 (dk_at dksX1_walks_4 22 rfl rfl)
theorem dX1_walks_114 : decode cX1_walks 114 = .ok (.getfield 307, 3) := dk_180 1 51 (dk_at dksX1_walks_5 0 rfl rfl)
theorem dX1_walks_117 : decode cX1_walks 117 = .ok (.iadd, 1) := dk_96 (dk_at dksX1_walks_5 3 rfl rfl)
theorem dX1_walks_118 : decode cX1_walks 118 = .ok (.aload_n 3, 1) := dk_45 (dk_at dksX1_walks_5 4 rfl rfl)
theorem dX1_walks_119 : decode cX1_walks 119 = .ok (.getfield 237, 3) := dk_180 0 237 (dk_at dksX1_walks_5 5 rfl rfl)
theorem dX1_walks_122 : decode cX1_walks 122 = .ok (.iastore, 1) := dk_79 (dk_at dksX1_walks_5 8 rfl rfl)
theorem dX1_walks_123 : decode cX1_walks 123 = .ok (.aload_n 0, 1) := dk_42 (dk_at dksX1_walks_5 9 rfl rfl)
theorem dX1_walks_124 : decode cX1_walks 124 = .ok (.getfield 50, 3) := dk_180 0 50 (dk_at dksX1_walks_5 10 rfl rfl)
theorem dX1_walks_127 : decode cX1_walks 127 = .ok (.bipush 7, 2) := dk_16 7 (dk_at dksX1_walks_5 13 rfl rfl)
theorem dX1_walks_129 : decode cX1_walks 129 = .ok (.aload_n 3, 1) := dk_45 (dk_at dksX1_walks_5 15 rfl rfl)
theorem dX1_walks_130 : decode cX1_walks 130 = .ok (.getfield 307, 3) := dk_180 1 51 (dk_at dksX1_walks_5 16 rfl rfl)
theorem dX1_walks_133 : decode cX1_walks 133 = .ok (.imul, 1) := dk_104 (dk_at dksX1_walks_5 19 rfl rfl)
theorem dX1_walks_134 : decode cX1_walks 134 = .ok (.aload_n 3, 1) := dk_45 (dk_at dksX1_walks_5 20 rfl rfl)
theorem dX1_walks_135 : decode cX1_walks 135 = .ok (.getfield 304, 3) := dk_180 1 48 (dk_at dksX1_walks_5 21 rfl rfl)
theorem dX1_walks_138 : decode cX1_walks 138 = .ok (.iadd, 1) := dk_96 (dk_at dksX1_walks_6 0 rfl rfl)
theorem dX1_walks_139 : decode cX1_walks 139 = .ok (.aload_n 3, 1) := dk_45 (dk_at dksX1_walks_6 1 rfl rfl)
theorem dX1_walks_140 : decode cX1_walks 140 = .ok (.getfield 237, 3) := dk_180 0 237 (dk_at dksX1_walks_6 2 rfl rfl)
theorem dX1_walks_143 : decode cX1_walks 143 = .ok (.iastore, 1) := dk_79 (dk_at dksX1_walks_6 5 rfl rfl)
theorem dX1_walks_144 : decode cX1_walks 144 = .ok (.iinc 2 1, 3) := dk_132 2 1 (dk_at dksX1_walks_6 6 rfl rfl)
theorem dX1_walks_147 : decode cX1_walks 147 = .ok (.goto (-85), 3) := dk_167 255 171 (dk_at dksX1_walks_6 9 rfl rfl)
theorem dX1_walks_150 : decode cX1_walks 150 = .ok (.iconst 0, 1) := dk_3 (dk_at dksX1_walks_6 12 rfl rfl)
theorem dX1_walks_151 : decode cX1_walks 151 = .ok (.istore_n 2, 1) := dk_61 (dk_at dksX1_walks_6 13 rfl rfl)
theorem dX1_walks_152 : decode cX1_walks 152 = .ok (.iload_n 2, 1) := dk_28 (dk_at dksX1_walks_6 14 rfl rfl)
theorem dX1_walks_153 : decode cX1_walks 153 = .ok (.iload_n 1, 1) := dk_27 (dk_at dksX1_walks_6 15 rfl rfl)
theorem dX1_walks_154 : decode cX1_walks 154 = .ok (.if_icmp .ge 88, 3) := dk_162 0 88 (dk_at dksX1_walks_6 16 rfl rfl)
theorem dX1_walks_157 : decode cX1_walks 157 = .ok (.iconst 0, 1) := dk_3 (dk_at dksX1_walks_6 19 rfl rfl)
theorem dX1_walks_158 : decode cX1_walks 158 = .ok (.istore_n 3, 1) := dk_62 (dk_at dksX1_walks_6 20 rfl rfl)
theorem dX1_walks_159 : decode cX1_walks 159 = .ok (.iload_n 3, 1) := dk_29 (dk_at dksX1_walks_6 21 rfl rfl)
theorem dX1_walks_160 : decode cX1_walks 160 = .ok (.iload_n 1, 1) := dk_27 (dk_at dksX1_walks_6 22 rfl rfl)
theorem dX1_walks_161 : decode cX1_walks 161 = .ok (.if_icmp .ge 75, 3) := dk_162 0 75 (dk_at dksX1_walks_7 0 rfl rfl)
theorem dX1_walks_164 : decode cX1_walks 164 = .ok (.iconst 0, 1) := dk_3 (dk_at dksX1_walks_7 3 rfl rfl)
theorem dX1_walks_165 : decode cX1_walks 165 = .ok (.istore 4, 2) := dk_54 4 (dk_at dksX1_walks_7 4 rfl rfl)
theorem dX1_walks_167 : decode cX1_walks 167 = .ok (.iload 4, 2) := dk_21 4 (dk_at dksX1_walks_7 6 rfl rfl)
theorem dX1_walks_169 : decode cX1_walks 169 = .ok (.iload_n 1, 1) := dk_27 (dk_at dksX1_walks_7 8 rfl rfl)
theorem dX1_walks_170 : decode cX1_walks 170 = .ok (.if_icmp .ge 60, 3) := dk_162 0 60 (dk_at dksX1_walks_7 9 rfl rfl)
theorem dX1_walks_173 : decode cX1_walks 173 = .ok (.aload_n 0, 1) := dk_42 (dk_at dksX1_walks_7 12 rfl rfl)
theorem dX1_walks_174 : decode cX1_walks 174 = .ok (.getfield 50, 3) := dk_180 0 50 (dk_at dksX1_walks_7 13 rfl rfl)
theorem dX1_walks_177 : decode cX1_walks 177 = .ok (.bipush 7, 2) := dk_16 7 (dk_at dksX1_walks_7 16 rfl rfl)
theorem dX1_walks_179 : decode cX1_walks 179 = .ok (.iload_n 3, 1) := dk_29 (dk_at dksX1_walks_7 18 rfl rfl)
theorem dX1_walks_180 : decode cX1_walks 180 = .ok (.imul, 1) := dk_104 (dk_at dksX1_walks_7 19 rfl rfl)
theorem dX1_walks_181 : decode cX1_walks 181 = .ok (.iload 4, 2) := dk_21 4 (dk_at dksX1_walks_7 20 rfl rfl)
theorem dX1_walks_183 : decode cX1_walks 183 = .ok (.iadd, 1) := dk_96 (dk_at dksX1_walks_7 22 rfl rfl)
theorem dX1_walks_184 : decode cX1_walks 184 = .ok (.aload_n 0, 1) := dk_42 (dk_at dksX1_walks_7 23 rfl rfl)
theorem dX1_walks_185 : decode cX1_walks 185 = .ok (.getfield 50, 3) := dk_180 0 50 (dk_at dksX1_walks_8 0 rfl rfl)
theorem dX1_walks_188 : decode cX1_walks 188 = .ok (.bipush 7, 2) := dk_16 7 (dk_at dksX1_walks_8 3 rfl rfl)
theorem dX1_walks_190 : decode cX1_walks 190 = .ok (.iload_n 3, 1) := dk_29 (dk_at dksX1_walks_8 5 rfl rfl)
theorem dX1_walks_191 : decode cX1_walks 191 = .ok (.imul, 1) := dk_104 (dk_at dksX1_walks_8 6 rfl rfl)
theorem dX1_walks_192 : decode cX1_walks 192 = .ok (.iload 4, 2) := dk_21 4 (dk_at dksX1_walks_8 7 rfl rfl)
theorem dX1_walks_194 : decode cX1_walks 194 = .ok (.iadd, 1) := dk_96 (dk_at dksX1_walks_8 9 rfl rfl)
theorem dX1_walks_195 : decode cX1_walks 195 = .ok (.iaload, 1) := dk_46 (dk_at dksX1_walks_8 10 rfl rfl)
theorem dX1_walks_196 : decode cX1_walks 196 = .ok (.aload_n 0, 1) := dk_42 (dk_at dksX1_walks_8 11 rfl rfl)
theorem dX1_walks_197 : decode cX1_walks 197 = .ok (.getfield 50, 3) := dk_180 0 50 (dk_at dksX1_walks_8 12 rfl rfl)
theorem dX1_walks_200 : decode cX1_walks 200 = .ok (.bipush 7, 2) := dk_16 7 (dk_at dksX1_walks_8 15 rfl rfl)
theorem dX1_walks_202 : decode cX1_walks 202 = .ok (.iload_n 3, 1) := dk_29 (dk_at dksX1_walks_8 17 rfl rfl)
theorem dX1_walks_203 : decode cX1_walks 203 = .ok (.imul, 1) := dk_104 (dk_at dksX1_walks_8 18 rfl rfl)
theorem dX1_walks_204 : decode cX1_walks 204 = .ok (.iload_n 2, 1) := dk_28 (dk_at dksX1_walks_8 19 rfl rfl)
theorem dX1_walks_205 : decode cX1_walks 205 = .ok (.iadd, 1) := dk_96 (dk_at dksX1_walks_8 20 rfl rfl)
theorem dX1_walks_206 : decode cX1_walks 206 = .ok (.iaload, 1) := dk_46 (dk_at dksX1_walks_8 21 rfl rfl)
theorem dX1_walks_207 : decode cX1_walks 207 = .ok (.aload_n 0, 1) := dk_42 (dk_at dksX1_walks_8 22 rfl rfl)
theorem dX1_walks_208 : decode cX1_walks 208 = .ok (.getfield 50, 3) := dk_180 0 50 (dk_at dksX1_walks_9 0 rfl rfl)
theorem dX1_walks_211 : decode cX1_walks 211 = .ok (.bipush 7, 2) := dk_16 7 (dk_at dksX1_walks_9 3 rfl rfl)
theorem dX1_walks_213 : decode cX1_walks 213 = .ok (.iload_n 2, 1) := dk_28 (dk_at dksX1_walks_9 5 rfl rfl)
theorem dX1_walks_214 : decode cX1_walks 214 = .ok (.imul, 1) := dk_104 (dk_at dksX1_walks_9 6 rfl rfl)
theorem dX1_walks_215 : decode cX1_walks 215 = .ok (.iload 4, 2) := dk_21 4 (dk_at dksX1_walks_9 7 rfl rfl)
theorem dX1_walks_217 : decode cX1_walks 217 = .ok (.iadd, 1) := dk_96 (dk_at dksX1_walks_9 9 rfl rfl)
theorem dX1_walks_218 : decode cX1_walks 218 = .ok (.iaload, 1) := dk_46 (dk_at dksX1_walks_9 10 rfl rfl)
theorem dX1_walks_219 : decode cX1_walks 219 = .ok (.iadd, 1) := dk_96 (dk_at dksX1_walks_9 11 rfl rfl)
theorem dX1_walks_220 : decode cX1_walks 220 = .ok (.invokestatic 251, 3) := dk_184 0 251 (dk_at dksX1_walks_9 12 rfl rfl)
theorem dX1_walks_223 : decode cX1_walks 223 = .ok (.iastore, 1) := dk_79 (dk_at dksX1_walks_9 15 rfl rfl)
theorem dX1_walks_224 : decode cX1_walks 224 = .ok (.iinc 4 1, 3) := dk_132 4 1 (dk_at dksX1_walks_9 16 rfl rfl)
theorem dX1_walks_227 : decode cX1_walks 227 = .ok (.goto (-60), 3) := dk_167 255 196 (dk_at dksX1_walks_9 19 rfl rfl)
theorem dX1_walks_230 : decode cX1_walks 230 = .ok (.iinc 3 1, 3) := dk_132 3 1 (dk_at dksX1_walks_10 0 rfl rfl)
theorem dX1_walks_233 : decode cX1_walks 233 = .ok (.goto (-74), 3) := dk_167 255 182 (dk_at dksX1_walks_10 3 rfl rfl)
theorem dX1_walks_236 : decode cX1_walks 236 = .ok (.iinc 2 1, 3) := dk_132 2 1 (dk_at dksX1_walks_10 6 rfl rfl)
theorem dX1_walks_239 : decode cX1_walks 239 = .ok (.goto (-87), 3) := dk_167 255 169 (dk_at dksX1_walks_10 9 rfl rfl)
theorem dX1_walks_242 : decode cX1_walks 242 = .ok (.return_, 1) := dk_177 (dk_at dksX1_walks_10 12 rfl rfl)
abbrev cX1_roundAt : ByteArray := prog_1_method_83_code
def yX1_roundAt : MethodName := ⟨RX1, "roundAt", "(II)I"⟩
def dkwX1_roundAt_6 : List UInt8 := [54, 4, 21, 6, 62, 132, 5, 1, 167, 255, 170, 42, 29, 182, 0, 69, 172]
abbrev dktX1_roundAt_6 : List UInt8 := dkwX1_roundAt_6 ++ []
def dkwX1_roundAt_5 : List UInt8 := [16, 7, 21, 4, 104, 29, 96, 46, 159, 0, 9, 132, 6, 1, 167, 255, 197, 21, 4, 4, 21, 6, 120, 128]
abbrev dktX1_roundAt_5 : List UInt8 := dkwX1_roundAt_5 ++ dktX1_roundAt_6
def dkwX1_roundAt_4 : List UInt8 := [42, 180, 0, 53, 16, 7, 21, 4, 4, 21, 6, 120, 128, 104, 21, 6, 96, 46, 96, 42, 180, 0, 53]
abbrev dktX1_roundAt_4 : List UInt8 := dkwX1_roundAt_4 ++ dktX1_roundAt_5
def dkwX1_roundAt_3 : List UInt8 := [54, 6, 21, 4, 21, 6, 184, 0, 222, 154, 0, 49, 42, 180, 0, 50, 16, 7, 29, 104, 21, 6, 96, 46]
abbrev dktX1_roundAt_3 : List UInt8 := dkwX1_roundAt_3 ++ dktX1_roundAt_4
def dkwX1_roundAt_2 : List UInt8 := [16, 6, 182, 0, 65, 172, 27, 62, 4, 27, 120, 54, 4, 3, 54, 5, 21, 5, 28, 162, 0, 86, 3]
abbrev dktX1_roundAt_2 : List UInt8 := dkwX1_roundAt_2 ++ dktX1_roundAt_3
def dkwX1_roundAt_1 : List UInt8 := [184, 0, 79, 154, 0, 9, 42, 4, 182, 0, 65, 172, 42, 27, 182, 1, 148, 19, 1, 35, 161, 0, 10, 42]
abbrev dktX1_roundAt_1 : List UInt8 := dkwX1_roundAt_1 ++ dktX1_roundAt_2
def dkwX1_roundAt_0 : List UInt8 := [42, 27, 182, 0, 193, 153, 0, 23, 28, 3, 42, 180, 0, 104, 180, 0, 122, 182, 0, 127, 4, 100]
abbrev dktX1_roundAt_0 : List UInt8 := dkwX1_roundAt_0 ++ dktX1_roundAt_1
theorem dksX1_roundAt_0 : cX1_roundAt.data.toList.drop 0 = dktX1_roundAt_0 := by decide +kernel
theorem dksX1_roundAt_1 : cX1_roundAt.data.toList.drop 22 = dktX1_roundAt_1 := dk_seg dksX1_roundAt_0 22 rfl rfl
theorem dksX1_roundAt_2 : cX1_roundAt.data.toList.drop 46 = dktX1_roundAt_2 := dk_seg dksX1_roundAt_1 24 rfl rfl
theorem dksX1_roundAt_3 : cX1_roundAt.data.toList.drop 69 = dktX1_roundAt_3 := dk_seg dksX1_roundAt_2 23 rfl rfl
theorem dksX1_roundAt_4 : cX1_roundAt.data.toList.drop 93 = dktX1_roundAt_4 := dk_seg dksX1_roundAt_3 24 rfl rfl
theorem dksX1_roundAt_5 : cX1_roundAt.data.toList.drop 116 = dktX1_roundAt_5 := dk_seg dksX1_roundAt_4 23 rfl rfl
theorem dksX1_roundAt_6 : cX1_roundAt.data.toList.drop 140 = dktX1_roundAt_6 := dk_seg dksX1_roundAt_5 24 rfl rfl
theorem dX1_roundAt_0 : decode cX1_roundAt 0 = .ok (.aload_n 0, 1) := dk_42 (dk_at dksX1_roundAt_0 0 rfl rfl)
theorem dX1_roundAt_1 : decode cX1_roundAt 1 = .ok (.iload_n 1, 1) := dk_27 (dk_at dksX1_roundAt_0 1 rfl rfl)
theorem dX1_roundAt_2 : decode cX1_roundAt 2 = .ok (.invokevirtual 193, 3) := dk_182 0 193 (dk_at dksX1_roundAt_0 2 rfl rfl)
theorem dX1_roundAt_5 : decode cX1_roundAt 5 = .ok (.ifCond .eq 23, 3) := dk_153 0 23 (dk_at dksX1_roundAt_0 5 rfl rfl)
theorem dX1_roundAt_8 : decode cX1_roundAt 8 = .ok (.iload_n 2, 1) := dk_28 (dk_at dksX1_roundAt_0 8 rfl rfl)
theorem dX1_roundAt_9 : decode cX1_roundAt 9 = .ok (.iconst 0, 1) := dk_3 (dk_at dksX1_roundAt_0 9 rfl rfl)
theorem dX1_roundAt_10 : decode cX1_roundAt 10 = .ok (.aload_n 0, 1) := dk_42 (dk_at dksX1_roundAt_0 10 rfl rfl)
theorem dX1_roundAt_11 : decode cX1_roundAt 11 = .ok (.getfield 104, 3) := dk_180 0 104 (dk_at dksX1_roundAt_0 11 rfl rfl)
theorem dX1_roundAt_14 : decode cX1_roundAt 14 = .ok (.getfield 122, 3) := dk_180 0 122 (dk_at dksX1_roundAt_0 14 rfl rfl)
theorem dX1_roundAt_17 : decode cX1_roundAt 17 = .ok (.invokevirtual 127, 3) := dk_182 0 127 (dk_at dksX1_roundAt_0 17 rfl rfl)
theorem dX1_roundAt_20 : decode cX1_roundAt 20 = .ok (.iconst 1, 1) := dk_4 (dk_at dksX1_roundAt_0 20 rfl rfl)
theorem dX1_roundAt_21 : decode cX1_roundAt 21 = .ok (.isub, 1) := dk_100 (dk_at dksX1_roundAt_0 21 rfl rfl)
theorem dX1_roundAt_22 : decode cX1_roundAt 22 = .ok (.invokestatic 79, 3) := dk_184 0 79 (dk_at dksX1_roundAt_1 0 rfl rfl)
theorem dX1_roundAt_25 : decode cX1_roundAt 25 = .ok (.ifCond .ne 9, 3) := dk_154 0 9 (dk_at dksX1_roundAt_1 3 rfl rfl)
theorem dX1_roundAt_28 : decode cX1_roundAt 28 = .ok (.aload_n 0, 1) := dk_42 (dk_at dksX1_roundAt_1 6 rfl rfl)
theorem dX1_roundAt_29 : decode cX1_roundAt 29 = .ok (.iconst 1, 1) := dk_4 (dk_at dksX1_roundAt_1 7 rfl rfl)
theorem dX1_roundAt_30 : decode cX1_roundAt 30 = .ok (.invokevirtual 65, 3) := dk_182 0 65 (dk_at dksX1_roundAt_1 8 rfl rfl)
theorem dX1_roundAt_33 : decode cX1_roundAt 33 = .ok (.ireturn, 1) := dk_172 (dk_at dksX1_roundAt_1 11 rfl rfl)
theorem dX1_roundAt_34 : decode cX1_roundAt 34 = .ok (.aload_n 0, 1) := dk_42 (dk_at dksX1_roundAt_1 12 rfl rfl)
theorem dX1_roundAt_35 : decode cX1_roundAt 35 = .ok (.iload_n 1, 1) := dk_27 (dk_at dksX1_roundAt_1 13 rfl rfl)
theorem dX1_roundAt_36 : decode cX1_roundAt 36 = .ok (.invokevirtual 404, 3) := dk_182 1 148 (dk_at dksX1_roundAt_1 14 rfl rfl)
theorem dX1_roundAt_39 : decode cX1_roundAt 39 = .ok (.ldc_w 291, 3) := dk_19 1 35 (dk_at dksX1_roundAt_1 17 rfl rfl)
theorem dX1_roundAt_42 : decode cX1_roundAt 42 = .ok (.if_icmp .lt 10, 3) := dk_161 0 10 (dk_at dksX1_roundAt_1 20 rfl rfl)
theorem dX1_roundAt_45 : decode cX1_roundAt 45 = .ok (.aload_n 0, 1) := dk_42 (dk_at dksX1_roundAt_1 23 rfl rfl)
theorem dX1_roundAt_46 : decode cX1_roundAt 46 = .ok (.bipush 6, 2) := dk_16 6 (dk_at dksX1_roundAt_2 0 rfl rfl)
theorem dX1_roundAt_48 : decode cX1_roundAt 48 = .ok (.invokevirtual 65, 3) := dk_182 0 65 (dk_at dksX1_roundAt_2 2 rfl rfl)
theorem dX1_roundAt_51 : decode cX1_roundAt 51 = .ok (.ireturn, 1) := dk_172 (dk_at dksX1_roundAt_2 5 rfl rfl)
theorem dX1_roundAt_52 : decode cX1_roundAt 52 = .ok (.iload_n 1, 1) := dk_27 (dk_at dksX1_roundAt_2 6 rfl rfl)
theorem dX1_roundAt_53 : decode cX1_roundAt 53 = .ok (.istore_n 3, 1) := dk_62 (dk_at dksX1_roundAt_2 7 rfl rfl)
theorem dX1_roundAt_54 : decode cX1_roundAt 54 = .ok (.iconst 1, 1) := dk_4 (dk_at dksX1_roundAt_2 8 rfl rfl)
theorem dX1_roundAt_55 : decode cX1_roundAt 55 = .ok (.iload_n 1, 1) := dk_27 (dk_at dksX1_roundAt_2 9 rfl rfl)
theorem dX1_roundAt_56 : decode cX1_roundAt 56 = .ok (.ishl, 1) := dk_120 (dk_at dksX1_roundAt_2 10 rfl rfl)
theorem dX1_roundAt_57 : decode cX1_roundAt 57 = .ok (.istore 4, 2) := dk_54 4 (dk_at dksX1_roundAt_2 11 rfl rfl)
theorem dX1_roundAt_59 : decode cX1_roundAt 59 = .ok (.iconst 0, 1) := dk_3 (dk_at dksX1_roundAt_2 13 rfl rfl)
theorem dX1_roundAt_60 : decode cX1_roundAt 60 = .ok (.istore 5, 2) := dk_54 5 (dk_at dksX1_roundAt_2 14 rfl rfl)
theorem dX1_roundAt_62 : decode cX1_roundAt 62 = .ok (.iload 5, 2) := dk_21 5 (dk_at dksX1_roundAt_2 16 rfl rfl)
theorem dX1_roundAt_64 : decode cX1_roundAt 64 = .ok (.iload_n 2, 1) := dk_28 (dk_at dksX1_roundAt_2 18 rfl rfl)
theorem dX1_roundAt_65 : decode cX1_roundAt 65 = .ok (.if_icmp .ge 86, 3) := dk_162 0 86 (dk_at dksX1_roundAt_2 19 rfl rfl)
theorem dX1_roundAt_68 : decode cX1_roundAt 68 = .ok (.iconst 0, 1) := dk_3 (dk_at dksX1_roundAt_2 22 rfl rfl)
theorem dX1_roundAt_69 : decode cX1_roundAt 69 = .ok (.istore 6, 2) := dk_54 6 (dk_at dksX1_roundAt_3 0 rfl rfl)
theorem dX1_roundAt_71 : decode cX1_roundAt 71 = .ok (.iload 4, 2) := dk_21 4 (dk_at dksX1_roundAt_3 2 rfl rfl)
theorem dX1_roundAt_73 : decode cX1_roundAt 73 = .ok (.iload 6, 2) := dk_21 6 (dk_at dksX1_roundAt_3 4 rfl rfl)
theorem dX1_roundAt_75 : decode cX1_roundAt 75 = .ok (.invokestatic 222, 3) := dk_184 0 222 (dk_at dksX1_roundAt_3 6 rfl rfl)
theorem dX1_roundAt_78 : decode cX1_roundAt 78 = .ok (.ifCond .ne 49, 3) := dk_154 0 49 (dk_at dksX1_roundAt_3 9 rfl rfl)
theorem dX1_roundAt_81 : decode cX1_roundAt 81 = .ok (.aload_n 0, 1) := dk_42 (dk_at dksX1_roundAt_3 12 rfl rfl)
theorem dX1_roundAt_82 : decode cX1_roundAt 82 = .ok (.getfield 50, 3) := dk_180 0 50 (dk_at dksX1_roundAt_3 13 rfl rfl)
theorem dX1_roundAt_85 : decode cX1_roundAt 85 = .ok (.bipush 7, 2) := dk_16 7 (dk_at dksX1_roundAt_3 16 rfl rfl)
theorem dX1_roundAt_87 : decode cX1_roundAt 87 = .ok (.iload_n 3, 1) := dk_29 (dk_at dksX1_roundAt_3 18 rfl rfl)
theorem dX1_roundAt_88 : decode cX1_roundAt 88 = .ok (.imul, 1) := dk_104 (dk_at dksX1_roundAt_3 19 rfl rfl)
theorem dX1_roundAt_89 : decode cX1_roundAt 89 = .ok (.iload 6, 2) := dk_21 6 (dk_at dksX1_roundAt_3 20 rfl rfl)
theorem dX1_roundAt_91 : decode cX1_roundAt 91 = .ok (.iadd, 1) := dk_96 (dk_at dksX1_roundAt_3 22 rfl rfl)
theorem dX1_roundAt_92 : decode cX1_roundAt 92 = .ok (.iaload, 1) := dk_46 (dk_at dksX1_roundAt_3 23 rfl rfl)
theorem dX1_roundAt_93 : decode cX1_roundAt 93 = .ok (.aload_n 0, 1) := dk_42 (dk_at dksX1_roundAt_4 0 rfl rfl)
theorem dX1_roundAt_94 : decode cX1_roundAt 94 = .ok (.getfield 53, 3) := dk_180 0 53 (dk_at dksX1_roundAt_4 1 rfl rfl)
theorem dX1_roundAt_97 : decode cX1_roundAt 97 = .ok (.bipush 7, 2) := dk_16 7 (dk_at dksX1_roundAt_4 4 rfl rfl)
theorem dX1_roundAt_99 : decode cX1_roundAt 99 = .ok (.iload 4, 2) := dk_21 4 (dk_at dksX1_roundAt_4 6 rfl rfl)
theorem dX1_roundAt_101 : decode cX1_roundAt 101 = .ok (.iconst 1, 1) := dk_4 (dk_at dksX1_roundAt_4 8 rfl rfl)
theorem dX1_roundAt_102 : decode cX1_roundAt 102 = .ok (.iload 6, 2) := dk_21 6 (dk_at dksX1_roundAt_4 9 rfl rfl)
theorem dX1_roundAt_104 : decode cX1_roundAt 104 = .ok (.ishl, 1) := dk_120 (dk_at dksX1_roundAt_4 11 rfl rfl)
theorem dX1_roundAt_105 : decode cX1_roundAt 105 = .ok (.ior, 1) := dk_128 (dk_at dksX1_roundAt_4 12 rfl rfl)
theorem dX1_roundAt_106 : decode cX1_roundAt 106 = .ok (.imul, 1) := dk_104 (dk_at dksX1_roundAt_4 13 rfl rfl)
theorem dX1_roundAt_107 : decode cX1_roundAt 107 = .ok (.iload 6, 2) := dk_21 6 (dk_at dksX1_roundAt_4 14 rfl rfl)
theorem dX1_roundAt_109 : decode cX1_roundAt 109 = .ok (.iadd, 1) := dk_96 (dk_at dksX1_roundAt_4 16 rfl rfl)
theorem dX1_roundAt_110 : decode cX1_roundAt 110 = .ok (.iaload, 1) := dk_46 (dk_at dksX1_roundAt_4 17 rfl rfl)
theorem dX1_roundAt_111 : decode cX1_roundAt 111 = .ok (.iadd, 1) := dk_96 (dk_at dksX1_roundAt_4 18 rfl rfl)
theorem dX1_roundAt_112 : decode cX1_roundAt 112 = .ok (.aload_n 0, 1) := dk_42 (dk_at dksX1_roundAt_4 19 rfl rfl)
theorem dX1_roundAt_113 : decode cX1_roundAt 113 = .ok (.getfield 53, 3) := dk_180 0 53 (dk_at dksX1_roundAt_4 20 rfl rfl)
theorem dX1_roundAt_116 : decode cX1_roundAt 116 = .ok (.bipush 7, 2) := dk_16 7 (dk_at dksX1_roundAt_5 0 rfl rfl)
theorem dX1_roundAt_118 : decode cX1_roundAt 118 = .ok (.iload 4, 2) := dk_21 4 (dk_at dksX1_roundAt_5 2 rfl rfl)
theorem dX1_roundAt_120 : decode cX1_roundAt 120 = .ok (.imul, 1) := dk_104 (dk_at dksX1_roundAt_5 4 rfl rfl)
theorem dX1_roundAt_121 : decode cX1_roundAt 121 = .ok (.iload_n 3, 1) := dk_29 (dk_at dksX1_roundAt_5 5 rfl rfl)
theorem dX1_roundAt_122 : decode cX1_roundAt 122 = .ok (.iadd, 1) := dk_96 (dk_at dksX1_roundAt_5 6 rfl rfl)
theorem dX1_roundAt_123 : decode cX1_roundAt 123 = .ok (.iaload, 1) := dk_46 (dk_at dksX1_roundAt_5 7 rfl rfl)
theorem dX1_roundAt_124 : decode cX1_roundAt 124 = .ok (.if_icmp .eq 9, 3) := dk_159 0 9 (dk_at dksX1_roundAt_5 8 rfl rfl)
theorem dX1_roundAt_127 : decode cX1_roundAt 127 = .ok (.iinc 6 1, 3) := dk_132 6 1 (dk_at dksX1_roundAt_5 11 rfl rfl)
theorem dX1_roundAt_130 : decode cX1_roundAt 130 = .ok (.goto (-59), 3) := dk_167 255 197 (dk_at dksX1_roundAt_5 14 rfl rfl)
theorem dX1_roundAt_133 : decode cX1_roundAt 133 = .ok (.iload 4, 2) := dk_21 4 (dk_at dksX1_roundAt_5 17 rfl rfl)
theorem dX1_roundAt_135 : decode cX1_roundAt 135 = .ok (.iconst 1, 1) := dk_4 (dk_at dksX1_roundAt_5 19 rfl rfl)
theorem dX1_roundAt_136 : decode cX1_roundAt 136 = .ok (.iload 6, 2) := dk_21 6 (dk_at dksX1_roundAt_5 20 rfl rfl)
theorem dX1_roundAt_138 : decode cX1_roundAt 138 = .ok (.ishl, 1) := dk_120 (dk_at dksX1_roundAt_5 22 rfl rfl)
theorem dX1_roundAt_139 : decode cX1_roundAt 139 = .ok (.ior, 1) := dk_128 (dk_at dksX1_roundAt_5 23 rfl rfl)
theorem dX1_roundAt_140 : decode cX1_roundAt 140 = .ok (.istore 4, 2) := dk_54 4 (dk_at dksX1_roundAt_6 0 rfl rfl)
theorem dX1_roundAt_142 : decode cX1_roundAt 142 = .ok (.iload 6, 2) := dk_21 6 (dk_at dksX1_roundAt_6 2 rfl rfl)
theorem dX1_roundAt_144 : decode cX1_roundAt 144 = .ok (.istore_n 3, 1) := dk_62 (dk_at dksX1_roundAt_6 4 rfl rfl)
theorem dX1_roundAt_145 : decode cX1_roundAt 145 = .ok (.iinc 5 1, 3) := dk_132 5 1 (dk_at dksX1_roundAt_6 5 rfl rfl)
theorem dX1_roundAt_148 : decode cX1_roundAt 148 = .ok (.goto (-86), 3) := dk_167 255 170 (dk_at dksX1_roundAt_6 8 rfl rfl)
theorem dX1_roundAt_151 : decode cX1_roundAt 151 = .ok (.aload_n 0, 1) := dk_42 (dk_at dksX1_roundAt_6 11 rfl rfl)
theorem dX1_roundAt_152 : decode cX1_roundAt 152 = .ok (.iload_n 3, 1) := dk_29 (dk_at dksX1_roundAt_6 12 rfl rfl)
theorem dX1_roundAt_153 : decode cX1_roundAt 153 = .ok (.invokevirtual 69, 3) := dk_182 0 69 (dk_at dksX1_roundAt_6 13 rfl rfl)
theorem dX1_roundAt_156 : decode cX1_roundAt 156 = .ok (.ireturn, 1) := dk_172 (dk_at dksX1_roundAt_6 16 rfl rfl)
abbrev cX1_decade : ByteArray := prog_1_method_84_code
def yX1_decade : MethodName := ⟨RX1, "decade", "(II)I"⟩
def dkwX1_decade_9 : List UInt8 := [21, 4, 182, 0, 69, 172]
abbrev dktX1_decade_9 : List UInt8 := dkwX1_decade_9 ++ []
def dkwX1_decade_8 : List UInt8 := [160, 0, 7, 4, 167, 0, 4, 3, 96, 54, 4, 132, 6, 1, 167, 255, 111, 132, 5, 1, 167, 255, 96, 42]
abbrev dktX1_decade_8 : List UInt8 := dkwX1_decade_8 ++ dktX1_decade_9
def dkwX1_decade_7 : List UInt8 := [21, 7, 42, 180, 0, 111, 180, 0, 199, 21, 5, 96, 182, 0, 212, 42, 21, 6, 182, 0, 171, 180, 0, 178]
abbrev dktX1_decade_7 : List UInt8 := dkwX1_decade_7 ++ dktX1_decade_8
def dkwX1_decade_6 : List UInt8 := [21, 8, 29, 42, 180, 0, 104, 180, 1, 3, 112, 79, 21, 4, 42, 180, 0, 104, 42, 180, 0, 31, 3]
abbrev dktX1_decade_6 : List UInt8 := dkwX1_decade_6 ++ dktX1_decade_7
def dkwX1_decade_5 : List UInt8 := [162, 0, 35, 29, 184, 1, 152, 62, 29, 21, 7, 112, 54, 8, 29, 184, 1, 152, 62, 42, 180, 0, 31]
abbrev dktX1_decade_5 : List UInt8 := dkwX1_decade_5 ++ dktX1_decade_6
def dkwX1_decade_4 : List UInt8 := [3, 21, 7, 184, 1, 38, 29, 184, 1, 152, 62, 29, 16, 100, 112, 42, 180, 0, 104, 180, 1, 155]
abbrev dktX1_decade_4 : List UInt8 := dkwX1_decade_4 ++ dktX1_decade_5
def dkwX1_decade_3 : List UInt8 := [42, 21, 6, 182, 0, 206, 54, 7, 42, 180, 0, 111, 180, 0, 209, 16, 6, 21, 6, 104, 42, 180, 0, 31]
abbrev dktX1_decade_3 : List UInt8 := dkwX1_decade_3 ++ dktX1_decade_4
def dkwX1_decade_2 : List UInt8 := [21, 5, 28, 162, 0, 160, 3, 54, 6, 21, 6, 42, 180, 0, 104, 180, 0, 134, 182, 0, 127, 162, 0, 136]
abbrev dktX1_decade_2 : List UInt8 := dkwX1_decade_2 ++ dktX1_decade_3
def dkwX1_decade_1 : List UInt8 := [28, 3, 16, 50, 184, 0, 79, 154, 0, 9, 42, 5, 182, 0, 65, 172, 27, 62, 3, 54, 4, 3, 54, 5]
abbrev dktX1_decade_1 : List UInt8 := dkwX1_decade_1 ++ dktX1_decade_2
def dkwX1_decade_0 : List UInt8 := [42, 180, 0, 104, 199, 0, 9, 42, 4, 182, 0, 65, 172, 27, 3, 19, 1, 151, 184, 0, 79, 153, 0, 13]
abbrev dktX1_decade_0 : List UInt8 := dkwX1_decade_0 ++ dktX1_decade_1
theorem dksX1_decade_0 : cX1_decade.data.toList.drop 0 = dktX1_decade_0 := by decide +kernel
theorem dksX1_decade_1 : cX1_decade.data.toList.drop 24 = dktX1_decade_1 := dk_seg dksX1_decade_0 24 rfl rfl
theorem dksX1_decade_2 : cX1_decade.data.toList.drop 48 = dktX1_decade_2 := dk_seg dksX1_decade_1 24 rfl rfl
theorem dksX1_decade_3 : cX1_decade.data.toList.drop 72 = dktX1_decade_3 := dk_seg dksX1_decade_2 24 rfl rfl
theorem dksX1_decade_4 : cX1_decade.data.toList.drop 96 = dktX1_decade_4 := dk_seg dksX1_decade_3 24 rfl rfl
theorem dksX1_decade_5 : cX1_decade.data.toList.drop 118 = dktX1_decade_5 := dk_seg dksX1_decade_4 22 rfl rfl
theorem dksX1_decade_6 : cX1_decade.data.toList.drop 141 = dktX1_decade_6 := dk_seg dksX1_decade_5 23 rfl rfl
theorem dksX1_decade_7 : cX1_decade.data.toList.drop 164 = dktX1_decade_7 := dk_seg dksX1_decade_6 23 rfl rfl
theorem dksX1_decade_8 : cX1_decade.data.toList.drop 188 = dktX1_decade_8 := dk_seg dksX1_decade_7 24 rfl rfl
theorem dksX1_decade_9 : cX1_decade.data.toList.drop 212 = dktX1_decade_9 := dk_seg dksX1_decade_8 24 rfl rfl
theorem dX1_decade_0 : decode cX1_decade 0 = .ok (.aload_n 0, 1) := dk_42 (dk_at dksX1_decade_0 0 rfl rfl)
theorem dX1_decade_1 : decode cX1_decade 1 = .ok (.getfield 104, 3) := dk_180 0 104 (dk_at dksX1_decade_0 1 rfl rfl)
theorem dX1_decade_4 : decode cX1_decade 4 = .ok (.ifnonnull 9, 3) := dk_199 0 9 (dk_at dksX1_decade_0 4 rfl rfl)
theorem dX1_decade_7 : decode cX1_decade 7 = .ok (.aload_n 0, 1) := dk_42 (dk_at dksX1_decade_0 7 rfl rfl)
theorem dX1_decade_8 : decode cX1_decade 8 = .ok (.iconst 1, 1) := dk_4 (dk_at dksX1_decade_0 8 rfl rfl)
theorem dX1_decade_9 : decode cX1_decade 9 = .ok (.invokevirtual 65, 3) := dk_182 0 65 (dk_at dksX1_decade_0 9 rfl rfl)
theorem dX1_decade_12 : decode cX1_decade 12 = .ok (.ireturn, 1) := dk_172 (dk_at dksX1_decade_0 12 rfl rfl)
theorem dX1_decade_13 : decode cX1_decade 13 = .ok (.iload_n 1, 1) := dk_27 (dk_at dksX1_decade_0 13 rfl rfl)
theorem dX1_decade_14 : decode cX1_decade 14 = .ok (.iconst 0, 1) := dk_3 (dk_at dksX1_decade_0 14 rfl rfl)
theorem dX1_decade_15 : decode cX1_decade 15 = .ok (.ldc_w 407, 3) := dk_19 1 151 (dk_at dksX1_decade_0 15 rfl rfl)
theorem dX1_decade_18 : decode cX1_decade 18 = .ok (.invokestatic 79, 3) := dk_184 0 79 (dk_at dksX1_decade_0 18 rfl rfl)
theorem dX1_decade_21 : decode cX1_decade 21 = .ok (.ifCond .eq 13, 3) := dk_153 0 13 (dk_at dksX1_decade_0 21 rfl rfl)
theorem dX1_decade_24 : decode cX1_decade 24 = .ok (.iload_n 2, 1) := dk_28 (dk_at dksX1_decade_1 0 rfl rfl)
theorem dX1_decade_25 : decode cX1_decade 25 = .ok (.iconst 0, 1) := dk_3 (dk_at dksX1_decade_1 1 rfl rfl)
theorem dX1_decade_26 : decode cX1_decade 26 = .ok (.bipush 50, 2) := dk_16 50 (dk_at dksX1_decade_1 2 rfl rfl)
theorem dX1_decade_28 : decode cX1_decade 28 = .ok (.invokestatic 79, 3) := dk_184 0 79 (dk_at dksX1_decade_1 4 rfl rfl)
theorem dX1_decade_31 : decode cX1_decade 31 = .ok (.ifCond .ne 9, 3) := dk_154 0 9 (dk_at dksX1_decade_1 7 rfl rfl)
theorem dX1_decade_34 : decode cX1_decade 34 = .ok (.aload_n 0, 1) := dk_42 (dk_at dksX1_decade_1 10 rfl rfl)
theorem dX1_decade_35 : decode cX1_decade 35 = .ok (.iconst 2, 1) := dk_5 (dk_at dksX1_decade_1 11 rfl rfl)
theorem dX1_decade_36 : decode cX1_decade 36 = .ok (.invokevirtual 65, 3) := dk_182 0 65 (dk_at dksX1_decade_1 12 rfl rfl)
theorem dX1_decade_39 : decode cX1_decade 39 = .ok (.ireturn, 1) := dk_172 (dk_at dksX1_decade_1 15 rfl rfl)
theorem dX1_decade_40 : decode cX1_decade 40 = .ok (.iload_n 1, 1) := dk_27 (dk_at dksX1_decade_1 16 rfl rfl)
theorem dX1_decade_41 : decode cX1_decade 41 = .ok (.istore_n 3, 1) := dk_62 (dk_at dksX1_decade_1 17 rfl rfl)
theorem dX1_decade_42 : decode cX1_decade 42 = .ok (.iconst 0, 1) := dk_3 (dk_at dksX1_decade_1 18 rfl rfl)
theorem dX1_decade_43 : decode cX1_decade 43 = .ok (.istore 4, 2) := dk_54 4 (dk_at dksX1_decade_1 19 rfl rfl)
theorem dX1_decade_45 : decode cX1_decade 45 = .ok (.iconst 0, 1) := dk_3 (dk_at dksX1_decade_1 21 rfl rfl)
theorem dX1_decade_46 : decode cX1_decade 46 = .ok (.istore 5, 2) := dk_54 5 (dk_at dksX1_decade_1 22 rfl rfl)
theorem dX1_decade_48 : decode cX1_decade 48 = .ok (.iload 5, 2) := dk_21 5 (dk_at dksX1_decade_2 0 rfl rfl)
theorem dX1_decade_50 : decode cX1_decade 50 = .ok (.iload_n 2, 1) := dk_28 (dk_at dksX1_decade_2 2 rfl rfl)
theorem dX1_decade_51 : decode cX1_decade 51 = .ok (.if_icmp .ge 160, 3) := dk_162 0 160 (dk_at dksX1_decade_2 3 rfl rfl)
theorem dX1_decade_54 : decode cX1_decade 54 = .ok (.iconst 0, 1) := dk_3 (dk_at dksX1_decade_2 6 rfl rfl)
theorem dX1_decade_55 : decode cX1_decade 55 = .ok (.istore 6, 2) := dk_54 6 (dk_at dksX1_decade_2 7 rfl rfl)
theorem dX1_decade_57 : decode cX1_decade 57 = .ok (.iload 6, 2) := dk_21 6 (dk_at dksX1_decade_2 9 rfl rfl)
theorem dX1_decade_59 : decode cX1_decade 59 = .ok (.aload_n 0, 1) := dk_42 (dk_at dksX1_decade_2 11 rfl rfl)
theorem dX1_decade_60 : decode cX1_decade 60 = .ok (.getfield 104, 3) := dk_180 0 104 (dk_at dksX1_decade_2 12 rfl rfl)
theorem dX1_decade_63 : decode cX1_decade 63 = .ok (.getfield 134, 3) := dk_180 0 134 (dk_at dksX1_decade_2 15 rfl rfl)
theorem dX1_decade_66 : decode cX1_decade 66 = .ok (.invokevirtual 127, 3) := dk_182 0 127 (dk_at dksX1_decade_2 18 rfl rfl)
theorem dX1_decade_69 : decode cX1_decade 69 = .ok (.if_icmp .ge 136, 3) := dk_162 0 136 (dk_at dksX1_decade_2 21 rfl rfl)
theorem dX1_decade_72 : decode cX1_decade 72 = .ok (.aload_n 0, 1) := dk_42 (dk_at dksX1_decade_3 0 rfl rfl)
theorem dX1_decade_73 : decode cX1_decade 73 = .ok (.iload 6, 2) := dk_21 6 (dk_at dksX1_decade_3 1 rfl rfl)
theorem dX1_decade_75 : decode cX1_decade 75 = .ok (.invokevirtual 206, 3) := dk_182 0 206 (dk_at dksX1_decade_3 3 rfl rfl)
theorem dX1_decade_78 : decode cX1_decade 78 = .ok (.istore 7, 2) := dk_54 7 (dk_at dksX1_decade_3 6 rfl rfl)
theorem dX1_decade_80 : decode cX1_decade 80 = .ok (.aload_n 0, 1) := dk_42 (dk_at dksX1_decade_3 8 rfl rfl)
theorem dX1_decade_81 : decode cX1_decade 81 = .ok (.getfield 111, 3) := dk_180 0 111 (dk_at dksX1_decade_3 9 rfl rfl)
theorem dX1_decade_84 : decode cX1_decade 84 = .ok (.getfield 209, 3) := dk_180 0 209 (dk_at dksX1_decade_3 12 rfl rfl)
theorem dX1_decade_87 : decode cX1_decade 87 = .ok (.bipush 6, 2) := dk_16 6 (dk_at dksX1_decade_3 15 rfl rfl)
theorem dX1_decade_89 : decode cX1_decade 89 = .ok (.iload 6, 2) := dk_21 6 (dk_at dksX1_decade_3 17 rfl rfl)
theorem dX1_decade_91 : decode cX1_decade 91 = .ok (.imul, 1) := dk_104 (dk_at dksX1_decade_3 19 rfl rfl)
theorem dX1_decade_92 : decode cX1_decade 92 = .ok (.aload_n 0, 1) := dk_42 (dk_at dksX1_decade_3 20 rfl rfl)
theorem dX1_decade_93 : decode cX1_decade 93 = .ok (.getfield 31, 3) := dk_180 0 31 (dk_at dksX1_decade_3 21 rfl rfl)
theorem dX1_decade_96 : decode cX1_decade 96 = .ok (.iconst 0, 1) := dk_3 (dk_at dksX1_decade_4 0 rfl rfl)
theorem dX1_decade_97 : decode cX1_decade 97 = .ok (.iload 7, 2) := dk_21 7 (dk_at dksX1_decade_4 1 rfl rfl)
theorem dX1_decade_99 : decode cX1_decade 99 = .ok (.invokestatic 294, 3) := dk_184 1 38 (dk_at dksX1_decade_4 3 rfl rfl)
theorem dX1_decade_102 : decode cX1_decade 102 = .ok (.iload_n 3, 1) := dk_29 (dk_at dksX1_decade_4 6 rfl rfl)
theorem dX1_decade_103 : decode cX1_decade 103 = .ok (.invokestatic 408, 3) := dk_184 1 152 (dk_at dksX1_decade_4 7 rfl rfl)
theorem dX1_decade_106 : decode cX1_decade 106 = .ok (.istore_n 3, 1) := dk_62 (dk_at dksX1_decade_4 10 rfl rfl)
theorem dX1_decade_107 : decode cX1_decade 107 = .ok (.iload_n 3, 1) := dk_29 (dk_at dksX1_decade_4 11 rfl rfl)
theorem dX1_decade_108 : decode cX1_decade 108 = .ok (.bipush 100, 2) := dk_16 100 (dk_at dksX1_decade_4 12 rfl rfl)
theorem dX1_decade_110 : decode cX1_decade 110 = .ok (.irem, 1) := dk_112 (dk_at dksX1_decade_4 14 rfl rfl)
theorem dX1_decade_111 : decode cX1_decade 111 = .ok (.aload_n 0, 1) := dk_42 (dk_at dksX1_decade_4 15 rfl rfl)
theorem dX1_decade_112 : decode cX1_decade 112 = .ok (.getfield 104, 3) := dk_180 0 104 (dk_at dksX1_decade_4 16 rfl rfl)
theorem dX1_decade_115 : decode cX1_decade 115 = .ok (.getfield 411, 3) := dk_180 1 155 (dk_at dksX1_decade_4 19 rfl rfl)
theorem dX1_decade_118 : decode cX1_decade 118 = .ok (.if_icmp .ge 35, 3) := dk_162 0 35 (dk_at dksX1_decade_5 0 rfl rfl)
theorem dX1_decade_121 : decode cX1_decade 121 = .ok (.iload_n 3, 1) := dk_29 (dk_at dksX1_decade_5 3 rfl rfl)
theorem dX1_decade_122 : decode cX1_decade 122 = .ok (.invokestatic 408, 3) := dk_184 1 152 (dk_at dksX1_decade_5 4 rfl rfl)
theorem dX1_decade_125 : decode cX1_decade 125 = .ok (.istore_n 3, 1) := dk_62 (dk_at dksX1_decade_5 7 rfl rfl)
theorem dX1_decade_126 : decode cX1_decade 126 = .ok (.iload_n 3, 1) := dk_29 (dk_at dksX1_decade_5 8 rfl rfl)
theorem dX1_decade_127 : decode cX1_decade 127 = .ok (.iload 7, 2) := dk_21 7 (dk_at dksX1_decade_5 9 rfl rfl)
theorem dX1_decade_129 : decode cX1_decade 129 = .ok (.irem, 1) := dk_112 (dk_at dksX1_decade_5 11 rfl rfl)
theorem dX1_decade_130 : decode cX1_decade 130 = .ok (.istore 8, 2) := dk_54 8 (dk_at dksX1_decade_5 12 rfl rfl)
theorem dX1_decade_132 : decode cX1_decade 132 = .ok (.iload_n 3, 1) := dk_29 (dk_at dksX1_decade_5 14 rfl rfl)
theorem dX1_decade_133 : decode cX1_decade 133 = .ok (.invokestatic 408, 3) := dk_184 1 152 (dk_at dksX1_decade_5 15 rfl rfl)
theorem dX1_decade_136 : decode cX1_decade 136 = .ok (.istore_n 3, 1) := dk_62 (dk_at dksX1_decade_5 18 rfl rfl)
theorem dX1_decade_137 : decode cX1_decade 137 = .ok (.aload_n 0, 1) := dk_42 (dk_at dksX1_decade_5 19 rfl rfl)
theorem dX1_decade_138 : decode cX1_decade 138 = .ok (.getfield 31, 3) := dk_180 0 31 (dk_at dksX1_decade_5 20 rfl rfl)
theorem dX1_decade_141 : decode cX1_decade 141 = .ok (.iload 8, 2) := dk_21 8 (dk_at dksX1_decade_6 0 rfl rfl)
theorem dX1_decade_143 : decode cX1_decade 143 = .ok (.iload_n 3, 1) := dk_29 (dk_at dksX1_decade_6 2 rfl rfl)
theorem dX1_decade_144 : decode cX1_decade 144 = .ok (.aload_n 0, 1) := dk_42 (dk_at dksX1_decade_6 3 rfl rfl)
theorem dX1_decade_145 : decode cX1_decade 145 = .ok (.getfield 104, 3) := dk_180 0 104 (dk_at dksX1_decade_6 4 rfl rfl)
theorem dX1_decade_148 : decode cX1_decade 148 = .ok (.getfield 259, 3) := dk_180 1 3 (dk_at dksX1_decade_6 7 rfl rfl)
theorem dX1_decade_151 : decode cX1_decade 151 = .ok (.irem, 1) := dk_112 (dk_at dksX1_decade_6 10 rfl rfl)
theorem dX1_decade_152 : decode cX1_decade 152 = .ok (.iastore, 1) := dk_79 (dk_at dksX1_decade_6 11 rfl rfl)
theorem dX1_decade_153 : decode cX1_decade 153 = .ok (.iload 4, 2) := dk_21 4 (dk_at dksX1_decade_6 12 rfl rfl)
theorem dX1_decade_155 : decode cX1_decade 155 = .ok (.aload_n 0, 1) := dk_42 (dk_at dksX1_decade_6 14 rfl rfl)
theorem dX1_decade_156 : decode cX1_decade 156 = .ok (.getfield 104, 3) := dk_180 0 104 (dk_at dksX1_decade_6 15 rfl rfl)
theorem dX1_decade_159 : decode cX1_decade 159 = .ok (.aload_n 0, 1) := dk_42 (dk_at dksX1_decade_6 18 rfl rfl)
theorem dX1_decade_160 : decode cX1_decade 160 = .ok (.getfield 31, 3) := dk_180 0 31 (dk_at dksX1_decade_6 19 rfl rfl)
theorem dX1_decade_163 : decode cX1_decade 163 = .ok (.iconst 0, 1) := dk_3 (dk_at dksX1_decade_6 22 rfl rfl)
theorem dX1_decade_164 : decode cX1_decade 164 = .ok (.iload 7, 2) := dk_21 7 (dk_at dksX1_decade_7 0 rfl rfl)
theorem dX1_decade_166 : decode cX1_decade 166 = .ok (.aload_n 0, 1) := dk_42 (dk_at dksX1_decade_7 2 rfl rfl)
theorem dX1_decade_167 : decode cX1_decade 167 = .ok (.getfield 111, 3) := dk_180 0 111 (dk_at dksX1_decade_7 3 rfl rfl)
theorem dX1_decade_170 : decode cX1_decade 170 = .ok (.getfield 199, 3) := dk_180 0 199 (dk_at dksX1_decade_7 6 rfl rfl)
theorem dX1_decade_173 : decode cX1_decade 173 = .ok (.iload 5, 2) := dk_21 5 (dk_at dksX1_decade_7 9 rfl rfl)
theorem dX1_decade_175 : decode cX1_decade 175 = .ok (.iadd, 1) := dk_96 (dk_at dksX1_decade_7 11 rfl rfl)
theorem dX1_decade_176 : decode cX1_decade 176 = .ok (.invokevirtual 212, 3) := dk_182 0 212 (dk_at dksX1_decade_7 12 rfl rfl)
theorem dX1_decade_179 : decode cX1_decade 179 = .ok (.aload_n 0, 1) := dk_42 (dk_at dksX1_decade_7 15 rfl rfl)
theorem dX1_decade_180 : decode cX1_decade 180 = .ok (.iload 6, 2) := dk_21 6 (dk_at dksX1_decade_7 16 rfl rfl)
theorem dX1_decade_182 : decode cX1_decade 182 = .ok (.invokevirtual 171, 3) := dk_182 0 171 (dk_at dksX1_decade_7 18 rfl rfl)
theorem dX1_decade_185 : decode cX1_decade 185 = .ok (.getfield 178, 3) := dk_180 0 178 (dk_at dksX1_decade_7 21 rfl rfl)
theorem dX1_decade_188 : decode cX1_decade 188 = .ok (.if_icmp .ne 7, 3) := dk_160 0 7 (dk_at dksX1_decade_8 0 rfl rfl)
theorem dX1_decade_191 : decode cX1_decade 191 = .ok (.iconst 1, 1) := dk_4 (dk_at dksX1_decade_8 3 rfl rfl)
theorem dX1_decade_192 : decode cX1_decade 192 = .ok (.goto 4, 3) := dk_167 0 4 (dk_at dksX1_decade_8 4 rfl rfl)
theorem dX1_decade_195 : decode cX1_decade 195 = .ok (.iconst 0, 1) := dk_3 (dk_at dksX1_decade_8 7 rfl rfl)
theorem dX1_decade_196 : decode cX1_decade 196 = .ok (.iadd, 1) := dk_96 (dk_at dksX1_decade_8 8 rfl rfl)
theorem dX1_decade_197 : decode cX1_decade 197 = .ok (.istore 4, 2) := dk_54 4 (dk_at dksX1_decade_8 9 rfl rfl)
theorem dX1_decade_199 : decode cX1_decade 199 = .ok (.iinc 6 1, 3) := dk_132 6 1 (dk_at dksX1_decade_8 11 rfl rfl)
theorem dX1_decade_202 : decode cX1_decade 202 = .ok (.goto (-145), 3) := dk_167 255 111 (dk_at dksX1_decade_8 14 rfl rfl)
theorem dX1_decade_205 : decode cX1_decade 205 = .ok (.iinc 5 1, 3) := dk_132 5 1 (dk_at dksX1_decade_8 17 rfl rfl)
theorem dX1_decade_208 : decode cX1_decade 208 = .ok (.goto (-160), 3) := dk_167 255 96 (dk_at dksX1_decade_8 20 rfl rfl)
theorem dX1_decade_211 : decode cX1_decade 211 = .ok (.aload_n 0, 1) := dk_42 (dk_at dksX1_decade_8 23 rfl rfl)
theorem dX1_decade_212 : decode cX1_decade 212 = .ok (.iload 4, 2) := dk_21 4 (dk_at dksX1_decade_9 0 rfl rfl)
theorem dX1_decade_214 : decode cX1_decade 214 = .ok (.invokevirtual 69, 3) := dk_182 0 69 (dk_at dksX1_decade_9 2 rfl rfl)
theorem dX1_decade_217 : decode cX1_decade 217 = .ok (.ireturn, 1) := dk_172 (dk_at dksX1_decade_9 5 rfl rfl)
abbrev cX1_drawn : ByteArray := prog_1_method_6_code
def yX1_drawn : MethodName := ⟨RX1, "drawn", "(I)I"⟩
def dkwX1_drawn_0 : List UInt8 := [20, 0, 56, 26, 133, 105, 20, 0, 58, 97, 20, 0, 60, 113, 136, 172]
abbrev dktX1_drawn_0 : List UInt8 := dkwX1_drawn_0 ++ []
theorem dksX1_drawn_0 : cX1_drawn.data.toList.drop 0 = dktX1_drawn_0 := by decide +kernel
theorem dX1_drawn_0 : decode cX1_drawn 0 = .ok (.ldc2_w 56, 3) := dk_20 0 56 (dk_at dksX1_drawn_0 0 rfl rfl)
theorem dX1_drawn_3 : decode cX1_drawn 3 = .ok (.iload_n 0, 1) := dk_26 (dk_at dksX1_drawn_0 3 rfl rfl)
theorem dX1_drawn_4 : decode cX1_drawn 4 = .ok (.i2l, 1) := dk_133 (dk_at dksX1_drawn_0 4 rfl rfl)
theorem dX1_drawn_5 : decode cX1_drawn 5 = .ok (.lmul, 1) := dk_105 (dk_at dksX1_drawn_0 5 rfl rfl)
theorem dX1_drawn_6 : decode cX1_drawn 6 = .ok (.ldc2_w 58, 3) := dk_20 0 58 (dk_at dksX1_drawn_0 6 rfl rfl)
theorem dX1_drawn_9 : decode cX1_drawn 9 = .ok (.ladd, 1) := dk_97 (dk_at dksX1_drawn_0 9 rfl rfl)
theorem dX1_drawn_10 : decode cX1_drawn 10 = .ok (.ldc2_w 60, 3) := dk_20 0 60 (dk_at dksX1_drawn_0 10 rfl rfl)
theorem dX1_drawn_13 : decode cX1_drawn 13 = .ok (.lrem, 1) := dk_113 (dk_at dksX1_drawn_0 13 rfl rfl)
theorem dX1_drawn_14 : decode cX1_drawn 14 = .ok (.l2i, 1) := dk_136 (dk_at dksX1_drawn_0 14 rfl rfl)
theorem dX1_drawn_15 : decode cX1_drawn 15 = .ok (.ireturn, 1) := dk_172 (dk_at dksX1_drawn_0 15 rfl rfl)
abbrev cX1_send : ByteArray := prog_1_method_86_code
def yX1_send : MethodName := ⟨RX1, "send", "(II)I"⟩
def dkwX1_send_4 : List UInt8 := [182, 0, 69, 172]
abbrev dktX1_send_4 : List UInt8 := dkwX1_send_4 ++ []
def dkwX1_send_3 : List UInt8 := [79, 42, 180, 0, 111, 180, 0, 187, 28, 29, 79, 42, 180, 0, 111, 180, 0, 190, 28, 21, 4, 79, 42, 29]
abbrev dktX1_send_3 : List UInt8 := dkwX1_send_3 ++ dktX1_send_4
def dkwX1_send_2 : List UInt8 := [42, 182, 1, 169, 42, 180, 0, 111, 180, 0, 156, 27, 21, 4, 79, 42, 180, 0, 111, 180, 0, 159, 27, 29]
abbrev dktX1_send_2 : List UInt8 := dkwX1_send_2 ++ dktX1_send_3
def dkwX1_send_1 : List UInt8 := [28, 182, 1, 78, 62, 29, 16, 254, 160, 0, 9, 42, 8, 182, 0, 65, 172, 42, 28, 182, 0, 216, 54, 4]
abbrev dktX1_send_1 : List UInt8 := dkwX1_send_1 ++ dktX1_send_2
def dkwX1_send_0 : List UInt8 := [42, 27, 182, 0, 145, 153, 0, 11, 42, 28, 182, 0, 168, 154, 0, 9, 42, 4, 182, 0, 65, 172, 42, 27]
abbrev dktX1_send_0 : List UInt8 := dkwX1_send_0 ++ dktX1_send_1
theorem dksX1_send_0 : cX1_send.data.toList.drop 0 = dktX1_send_0 := by decide +kernel
theorem dksX1_send_1 : cX1_send.data.toList.drop 24 = dktX1_send_1 := dk_seg dksX1_send_0 24 rfl rfl
theorem dksX1_send_2 : cX1_send.data.toList.drop 48 = dktX1_send_2 := dk_seg dksX1_send_1 24 rfl rfl
theorem dksX1_send_3 : cX1_send.data.toList.drop 72 = dktX1_send_3 := dk_seg dksX1_send_2 24 rfl rfl
theorem dksX1_send_4 : cX1_send.data.toList.drop 96 = dktX1_send_4 := dk_seg dksX1_send_3 24 rfl rfl
theorem dX1_send_0 : decode cX1_send 0 = .ok (.aload_n 0, 1) := dk_42 (dk_at dksX1_send_0 0 rfl rfl)
theorem dX1_send_1 : decode cX1_send 1 = .ok (.iload_n 1, 1) := dk_27 (dk_at dksX1_send_0 1 rfl rfl)
theorem dX1_send_2 : decode cX1_send 2 = .ok (.invokevirtual 145, 3) := dk_182 0 145 (dk_at dksX1_send_0 2 rfl rfl)
theorem dX1_send_5 : decode cX1_send 5 = .ok (.ifCond .eq 11, 3) := dk_153 0 11 (dk_at dksX1_send_0 5 rfl rfl)
theorem dX1_send_8 : decode cX1_send 8 = .ok (.aload_n 0, 1) := dk_42 (dk_at dksX1_send_0 8 rfl rfl)
theorem dX1_send_9 : decode cX1_send 9 = .ok (.iload_n 2, 1) := dk_28 (dk_at dksX1_send_0 9 rfl rfl)
theorem dX1_send_10 : decode cX1_send 10 = .ok (.invokevirtual 168, 3) := dk_182 0 168 (dk_at dksX1_send_0 10 rfl rfl)
theorem dX1_send_13 : decode cX1_send 13 = .ok (.ifCond .ne 9, 3) := dk_154 0 9 (dk_at dksX1_send_0 13 rfl rfl)
theorem dX1_send_16 : decode cX1_send 16 = .ok (.aload_n 0, 1) := dk_42 (dk_at dksX1_send_0 16 rfl rfl)
theorem dX1_send_17 : decode cX1_send 17 = .ok (.iconst 1, 1) := dk_4 (dk_at dksX1_send_0 17 rfl rfl)
theorem dX1_send_18 : decode cX1_send 18 = .ok (.invokevirtual 65, 3) := dk_182 0 65 (dk_at dksX1_send_0 18 rfl rfl)
theorem dX1_send_21 : decode cX1_send 21 = .ok (.ireturn, 1) := dk_172 (dk_at dksX1_send_0 21 rfl rfl)
theorem dX1_send_22 : decode cX1_send 22 = .ok (.aload_n 0, 1) := dk_42 (dk_at dksX1_send_0 22 rfl rfl)
theorem dX1_send_23 : decode cX1_send 23 = .ok (.iload_n 1, 1) := dk_27 (dk_at dksX1_send_0 23 rfl rfl)
theorem dX1_send_24 : decode cX1_send 24 = .ok (.iload_n 2, 1) := dk_28 (dk_at dksX1_send_1 0 rfl rfl)
theorem dX1_send_25 : decode cX1_send 25 = .ok (.invokevirtual 334, 3) := dk_182 1 78 (dk_at dksX1_send_1 1 rfl rfl)
theorem dX1_send_28 : decode cX1_send 28 = .ok (.istore_n 3, 1) := dk_62 (dk_at dksX1_send_1 4 rfl rfl)
theorem dX1_send_29 : decode cX1_send 29 = .ok (.iload_n 3, 1) := dk_29 (dk_at dksX1_send_1 5 rfl rfl)
theorem dX1_send_30 : decode cX1_send 30 = .ok (.bipush (-2), 2) := dk_16 254 (dk_at dksX1_send_1 6 rfl rfl)
theorem dX1_send_32 : decode cX1_send 32 = .ok (.if_icmp .ne 9, 3) := dk_160 0 9 (dk_at dksX1_send_1 8 rfl rfl)
theorem dX1_send_35 : decode cX1_send 35 = .ok (.aload_n 0, 1) := dk_42 (dk_at dksX1_send_1 11 rfl rfl)
theorem dX1_send_36 : decode cX1_send 36 = .ok (.iconst 5, 1) := dk_8 (dk_at dksX1_send_1 12 rfl rfl)
theorem dX1_send_37 : decode cX1_send 37 = .ok (.invokevirtual 65, 3) := dk_182 0 65 (dk_at dksX1_send_1 13 rfl rfl)
theorem dX1_send_40 : decode cX1_send 40 = .ok (.ireturn, 1) := dk_172 (dk_at dksX1_send_1 16 rfl rfl)
theorem dX1_send_41 : decode cX1_send 41 = .ok (.aload_n 0, 1) := dk_42 (dk_at dksX1_send_1 17 rfl rfl)
theorem dX1_send_42 : decode cX1_send 42 = .ok (.iload_n 2, 1) := dk_28 (dk_at dksX1_send_1 18 rfl rfl)
theorem dX1_send_43 : decode cX1_send 43 = .ok (.invokevirtual 216, 3) := dk_182 0 216 (dk_at dksX1_send_1 19 rfl rfl)
theorem dX1_send_46 : decode cX1_send 46 = .ok (.istore 4, 2) := dk_54 4 (dk_at dksX1_send_1 22 rfl rfl)
theorem dX1_send_48 : decode cX1_send 48 = .ok (.aload_n 0, 1) := dk_42 (dk_at dksX1_send_2 0 rfl rfl)
theorem dX1_send_49 : decode cX1_send 49 = .ok (.invokevirtual 425, 3) := dk_182 1 169 (dk_at dksX1_send_2 1 rfl rfl)
theorem dX1_send_52 : decode cX1_send 52 = .ok (.aload_n 0, 1) := dk_42 (dk_at dksX1_send_2 4 rfl rfl)
theorem dX1_send_53 : decode cX1_send 53 = .ok (.getfield 111, 3) := dk_180 0 111 (dk_at dksX1_send_2 5 rfl rfl)
theorem dX1_send_56 : decode cX1_send 56 = .ok (.getfield 156, 3) := dk_180 0 156 (dk_at dksX1_send_2 8 rfl rfl)
theorem dX1_send_59 : decode cX1_send 59 = .ok (.iload_n 1, 1) := dk_27 (dk_at dksX1_send_2 11 rfl rfl)
theorem dX1_send_60 : decode cX1_send 60 = .ok (.iload 4, 2) := dk_21 4 (dk_at dksX1_send_2 12 rfl rfl)
theorem dX1_send_62 : decode cX1_send 62 = .ok (.iastore, 1) := dk_79 (dk_at dksX1_send_2 14 rfl rfl)
theorem dX1_send_63 : decode cX1_send 63 = .ok (.aload_n 0, 1) := dk_42 (dk_at dksX1_send_2 15 rfl rfl)
theorem dX1_send_64 : decode cX1_send 64 = .ok (.getfield 111, 3) := dk_180 0 111 (dk_at dksX1_send_2 16 rfl rfl)
theorem dX1_send_67 : decode cX1_send 67 = .ok (.getfield 159, 3) := dk_180 0 159 (dk_at dksX1_send_2 19 rfl rfl)
theorem dX1_send_70 : decode cX1_send 70 = .ok (.iload_n 1, 1) := dk_27 (dk_at dksX1_send_2 22 rfl rfl)
theorem dX1_send_71 : decode cX1_send 71 = .ok (.iload_n 3, 1) := dk_29 (dk_at dksX1_send_2 23 rfl rfl)
theorem dX1_send_72 : decode cX1_send 72 = .ok (.iastore, 1) := dk_79 (dk_at dksX1_send_3 0 rfl rfl)
theorem dX1_send_73 : decode cX1_send 73 = .ok (.aload_n 0, 1) := dk_42 (dk_at dksX1_send_3 1 rfl rfl)
theorem dX1_send_74 : decode cX1_send 74 = .ok (.getfield 111, 3) := dk_180 0 111 (dk_at dksX1_send_3 2 rfl rfl)
theorem dX1_send_77 : decode cX1_send 77 = .ok (.getfield 187, 3) := dk_180 0 187 (dk_at dksX1_send_3 5 rfl rfl)
theorem dX1_send_80 : decode cX1_send 80 = .ok (.iload_n 2, 1) := dk_28 (dk_at dksX1_send_3 8 rfl rfl)
theorem dX1_send_81 : decode cX1_send 81 = .ok (.iload_n 3, 1) := dk_29 (dk_at dksX1_send_3 9 rfl rfl)
theorem dX1_send_82 : decode cX1_send 82 = .ok (.iastore, 1) := dk_79 (dk_at dksX1_send_3 10 rfl rfl)
theorem dX1_send_83 : decode cX1_send 83 = .ok (.aload_n 0, 1) := dk_42 (dk_at dksX1_send_3 11 rfl rfl)
theorem dX1_send_84 : decode cX1_send 84 = .ok (.getfield 111, 3) := dk_180 0 111 (dk_at dksX1_send_3 12 rfl rfl)
theorem dX1_send_87 : decode cX1_send 87 = .ok (.getfield 190, 3) := dk_180 0 190 (dk_at dksX1_send_3 15 rfl rfl)
theorem dX1_send_90 : decode cX1_send 90 = .ok (.iload_n 2, 1) := dk_28 (dk_at dksX1_send_3 18 rfl rfl)
theorem dX1_send_91 : decode cX1_send 91 = .ok (.iload 4, 2) := dk_21 4 (dk_at dksX1_send_3 19 rfl rfl)
theorem dX1_send_93 : decode cX1_send 93 = .ok (.iastore, 1) := dk_79 (dk_at dksX1_send_3 21 rfl rfl)
theorem dX1_send_94 : decode cX1_send 94 = .ok (.aload_n 0, 1) := dk_42 (dk_at dksX1_send_3 22 rfl rfl)
theorem dX1_send_95 : decode cX1_send 95 = .ok (.iload_n 3, 1) := dk_29 (dk_at dksX1_send_3 23 rfl rfl)
theorem dX1_send_96 : decode cX1_send 96 = .ok (.invokevirtual 69, 3) := dk_182 0 69 (dk_at dksX1_send_4 0 rfl rfl)
theorem dX1_send_99 : decode cX1_send 99 = .ok (.ireturn, 1) := dk_172 (dk_at dksX1_send_4 3 rfl rfl)
abbrev cX1_remembers : ByteArray := prog_1_method_85_code
def yX1_remembers : MethodName := ⟨RX1, "remembers", "()V"⟩
def dkwX1_remembers_1 : List UInt8 := [180, 0, 20, 42, 180, 0, 111, 182, 1, 161, 87, 42, 42, 180, 0, 111, 182, 1, 165, 181, 0, 111, 177]
abbrev dktX1_remembers_1 : List UInt8 := dkwX1_remembers_1 ++ []
def dkwX1_remembers_0 : List UInt8 := [42, 180, 0, 20, 182, 0, 127, 16, 12, 160, 0, 12, 42, 180, 0, 20, 3, 182, 1, 158, 87, 42]
abbrev dktX1_remembers_0 : List UInt8 := dkwX1_remembers_0 ++ dktX1_remembers_1
theorem dksX1_remembers_0 : cX1_remembers.data.toList.drop 0 = dktX1_remembers_0 := by decide +kernel
theorem dksX1_remembers_1 : cX1_remembers.data.toList.drop 22 = dktX1_remembers_1 := dk_seg dksX1_remembers_0 22 rfl rfl
theorem dX1_remembers_0 : decode cX1_remembers 0 = .ok (.aload_n 0, 1) := dk_42 (dk_at dksX1_remembers_0 0 rfl rfl)
theorem dX1_remembers_1 : decode cX1_remembers 1 = .ok (.getfield 20, 3) := dk_180 0 20 (dk_at dksX1_remembers_0 1 rfl rfl)
theorem dX1_remembers_4 : decode cX1_remembers 4 = .ok (.invokevirtual 127, 3) := dk_182 0 127 (dk_at dksX1_remembers_0 4 rfl rfl)
theorem dX1_remembers_7 : decode cX1_remembers 7 = .ok (.bipush 12, 2) := dk_16 12 (dk_at dksX1_remembers_0 7 rfl rfl)
theorem dX1_remembers_9 : decode cX1_remembers 9 = .ok (.if_icmp .ne 12, 3) := dk_160 0 12 (dk_at dksX1_remembers_0 9 rfl rfl)
theorem dX1_remembers_12 : decode cX1_remembers 12 = .ok (.aload_n 0, 1) := dk_42 (dk_at dksX1_remembers_0 12 rfl rfl)
theorem dX1_remembers_13 : decode cX1_remembers 13 = .ok (.getfield 20, 3) := dk_180 0 20 (dk_at dksX1_remembers_0 13 rfl rfl)
theorem dX1_remembers_16 : decode cX1_remembers 16 = .ok (.iconst 0, 1) := dk_3 (dk_at dksX1_remembers_0 16 rfl rfl)
theorem dX1_remembers_17 : decode cX1_remembers 17 = .ok (.invokevirtual 414, 3) := dk_182 1 158 (dk_at dksX1_remembers_0 17 rfl rfl)
theorem dX1_remembers_20 : decode cX1_remembers 20 = .ok (.pop, 1) := dk_87 (dk_at dksX1_remembers_0 20 rfl rfl)
theorem dX1_remembers_21 : decode cX1_remembers 21 = .ok (.aload_n 0, 1) := dk_42 (dk_at dksX1_remembers_0 21 rfl rfl)
theorem dX1_remembers_22 : decode cX1_remembers 22 = .ok (.getfield 20, 3) := dk_180 0 20 (dk_at dksX1_remembers_1 0 rfl rfl)
theorem dX1_remembers_25 : decode cX1_remembers 25 = .ok (.aload_n 0, 1) := dk_42 (dk_at dksX1_remembers_1 3 rfl rfl)
theorem dX1_remembers_26 : decode cX1_remembers 26 = .ok (.getfield 111, 3) := dk_180 0 111 (dk_at dksX1_remembers_1 4 rfl rfl)
theorem dX1_remembers_29 : decode cX1_remembers 29 = .ok (.invokevirtual 417, 3) := dk_182 1 161 (dk_at dksX1_remembers_1 7 rfl rfl)
theorem dX1_remembers_32 : decode cX1_remembers 32 = .ok (.pop, 1) := dk_87 (dk_at dksX1_remembers_1 10 rfl rfl)
theorem dX1_remembers_33 : decode cX1_remembers 33 = .ok (.aload_n 0, 1) := dk_42 (dk_at dksX1_remembers_1 11 rfl rfl)
theorem dX1_remembers_34 : decode cX1_remembers 34 = .ok (.aload_n 0, 1) := dk_42 (dk_at dksX1_remembers_1 12 rfl rfl)
theorem dX1_remembers_35 : decode cX1_remembers 35 = .ok (.getfield 111, 3) := dk_180 0 111 (dk_at dksX1_remembers_1 13 rfl rfl)
theorem dX1_remembers_38 : decode cX1_remembers 38 = .ok (.invokevirtual 421, 3) := dk_182 1 165 (dk_at dksX1_remembers_1 16 rfl rfl)
theorem dX1_remembers_41 : decode cX1_remembers 41 = .ok (.putfield 111, 3) := dk_181 0 111 (dk_at dksX1_remembers_1 19 rfl rfl)
theorem dX1_remembers_44 : decode cX1_remembers 44 = .ok (.return_, 1) := dk_177 (dk_at dksX1_remembers_1 22 rfl rfl)
abbrev cX1_tune : ByteArray := prog_1_method_87_code
def yX1_tune : MethodName := ⟨RX1, "tune", "(III)Z"⟩
def dkwX1_tune_4 : List UInt8 := [42, 180, 0, 111, 180, 0, 209, 16, 6, 27, 104, 28, 96, 29, 79, 42, 182, 1, 175, 172]
abbrev dktX1_tune_4 : List UInt8 := dkwX1_tune_4 ++ []
def dkwX1_tune_3 : List UInt8 := [180, 0, 209, 16, 6, 27, 104, 28, 96, 46, 29, 160, 0, 9, 42, 8, 182, 1, 172, 172, 42, 182, 1, 169]
abbrev dktX1_tune_3 : List UInt8 := dkwX1_tune_3 ++ dktX1_tune_4
def dkwX1_tune_2 : List UInt8 := [182, 1, 172, 172, 42, 180, 0, 111, 180, 0, 187, 27, 46, 16, 254, 160, 0, 21, 42, 180, 0, 111]
abbrev dktX1_tune_2 : List UInt8 := dkwX1_tune_2 ++ dktX1_tune_3
def dkwX1_tune_1 : List UInt8 := [4, 182, 1, 172, 172, 29, 3, 42, 180, 0, 104, 180, 1, 3, 4, 100, 184, 0, 79, 154, 0, 9, 42, 5]
abbrev dktX1_tune_1 : List UInt8 := dkwX1_tune_1 ++ dktX1_tune_2
def dkwX1_tune_0 : List UInt8 := [42, 27, 182, 0, 168, 153, 0, 18, 28, 3, 42, 27, 182, 0, 206, 4, 100, 184, 0, 79, 154, 0, 9, 42]
abbrev dktX1_tune_0 : List UInt8 := dkwX1_tune_0 ++ dktX1_tune_1
theorem dksX1_tune_0 : cX1_tune.data.toList.drop 0 = dktX1_tune_0 := by decide +kernel
theorem dksX1_tune_1 : cX1_tune.data.toList.drop 24 = dktX1_tune_1 := dk_seg dksX1_tune_0 24 rfl rfl
theorem dksX1_tune_2 : cX1_tune.data.toList.drop 48 = dktX1_tune_2 := dk_seg dksX1_tune_1 24 rfl rfl
theorem dksX1_tune_3 : cX1_tune.data.toList.drop 70 = dktX1_tune_3 := dk_seg dksX1_tune_2 22 rfl rfl
theorem dksX1_tune_4 : cX1_tune.data.toList.drop 94 = dktX1_tune_4 := dk_seg dksX1_tune_3 24 rfl rfl
theorem dX1_tune_0 : decode cX1_tune 0 = .ok (.aload_n 0, 1) := dk_42 (dk_at dksX1_tune_0 0 rfl rfl)
theorem dX1_tune_1 : decode cX1_tune 1 = .ok (.iload_n 1, 1) := dk_27 (dk_at dksX1_tune_0 1 rfl rfl)
theorem dX1_tune_2 : decode cX1_tune 2 = .ok (.invokevirtual 168, 3) := dk_182 0 168 (dk_at dksX1_tune_0 2 rfl rfl)
theorem dX1_tune_5 : decode cX1_tune 5 = .ok (.ifCond .eq 18, 3) := dk_153 0 18 (dk_at dksX1_tune_0 5 rfl rfl)
theorem dX1_tune_8 : decode cX1_tune 8 = .ok (.iload_n 2, 1) := dk_28 (dk_at dksX1_tune_0 8 rfl rfl)
theorem dX1_tune_9 : decode cX1_tune 9 = .ok (.iconst 0, 1) := dk_3 (dk_at dksX1_tune_0 9 rfl rfl)
theorem dX1_tune_10 : decode cX1_tune 10 = .ok (.aload_n 0, 1) := dk_42 (dk_at dksX1_tune_0 10 rfl rfl)
theorem dX1_tune_11 : decode cX1_tune 11 = .ok (.iload_n 1, 1) := dk_27 (dk_at dksX1_tune_0 11 rfl rfl)
theorem dX1_tune_12 : decode cX1_tune 12 = .ok (.invokevirtual 206, 3) := dk_182 0 206 (dk_at dksX1_tune_0 12 rfl rfl)
theorem dX1_tune_15 : decode cX1_tune 15 = .ok (.iconst 1, 1) := dk_4 (dk_at dksX1_tune_0 15 rfl rfl)
theorem dX1_tune_16 : decode cX1_tune 16 = .ok (.isub, 1) := dk_100 (dk_at dksX1_tune_0 16 rfl rfl)
theorem dX1_tune_17 : decode cX1_tune 17 = .ok (.invokestatic 79, 3) := dk_184 0 79 (dk_at dksX1_tune_0 17 rfl rfl)
theorem dX1_tune_20 : decode cX1_tune 20 = .ok (.ifCond .ne 9, 3) := dk_154 0 9 (dk_at dksX1_tune_0 20 rfl rfl)
theorem dX1_tune_23 : decode cX1_tune 23 = .ok (.aload_n 0, 1) := dk_42 (dk_at dksX1_tune_0 23 rfl rfl)
theorem dX1_tune_24 : decode cX1_tune 24 = .ok (.iconst 1, 1) := dk_4 (dk_at dksX1_tune_1 0 rfl rfl)
theorem dX1_tune_25 : decode cX1_tune 25 = .ok (.invokevirtual 428, 3) := dk_182 1 172 (dk_at dksX1_tune_1 1 rfl rfl)
theorem dX1_tune_28 : decode cX1_tune 28 = .ok (.ireturn, 1) := dk_172 (dk_at dksX1_tune_1 4 rfl rfl)
theorem dX1_tune_29 : decode cX1_tune 29 = .ok (.iload_n 3, 1) := dk_29 (dk_at dksX1_tune_1 5 rfl rfl)
theorem dX1_tune_30 : decode cX1_tune 30 = .ok (.iconst 0, 1) := dk_3 (dk_at dksX1_tune_1 6 rfl rfl)
theorem dX1_tune_31 : decode cX1_tune 31 = .ok (.aload_n 0, 1) := dk_42 (dk_at dksX1_tune_1 7 rfl rfl)
theorem dX1_tune_32 : decode cX1_tune 32 = .ok (.getfield 104, 3) := dk_180 0 104 (dk_at dksX1_tune_1 8 rfl rfl)
theorem dX1_tune_35 : decode cX1_tune 35 = .ok (.getfield 259, 3) := dk_180 1 3 (dk_at dksX1_tune_1 11 rfl rfl)
theorem dX1_tune_38 : decode cX1_tune 38 = .ok (.iconst 1, 1) := dk_4 (dk_at dksX1_tune_1 14 rfl rfl)
theorem dX1_tune_39 : decode cX1_tune 39 = .ok (.isub, 1) := dk_100 (dk_at dksX1_tune_1 15 rfl rfl)
theorem dX1_tune_40 : decode cX1_tune 40 = .ok (.invokestatic 79, 3) := dk_184 0 79 (dk_at dksX1_tune_1 16 rfl rfl)
theorem dX1_tune_43 : decode cX1_tune 43 = .ok (.ifCond .ne 9, 3) := dk_154 0 9 (dk_at dksX1_tune_1 19 rfl rfl)
theorem dX1_tune_46 : decode cX1_tune 46 = .ok (.aload_n 0, 1) := dk_42 (dk_at dksX1_tune_1 22 rfl rfl)
theorem dX1_tune_47 : decode cX1_tune 47 = .ok (.iconst 2, 1) := dk_5 (dk_at dksX1_tune_1 23 rfl rfl)
theorem dX1_tune_48 : decode cX1_tune 48 = .ok (.invokevirtual 428, 3) := dk_182 1 172 (dk_at dksX1_tune_2 0 rfl rfl)
theorem dX1_tune_51 : decode cX1_tune 51 = .ok (.ireturn, 1) := dk_172 (dk_at dksX1_tune_2 3 rfl rfl)
theorem dX1_tune_52 : decode cX1_tune 52 = .ok (.aload_n 0, 1) := dk_42 (dk_at dksX1_tune_2 4 rfl rfl)
theorem dX1_tune_53 : decode cX1_tune 53 = .ok (.getfield 111, 3) := dk_180 0 111 (dk_at dksX1_tune_2 5 rfl rfl)
theorem dX1_tune_56 : decode cX1_tune 56 = .ok (.getfield 187, 3) := dk_180 0 187 (dk_at dksX1_tune_2 8 rfl rfl)
theorem dX1_tune_59 : decode cX1_tune 59 = .ok (.iload_n 1, 1) := dk_27 (dk_at dksX1_tune_2 11 rfl rfl)
theorem dX1_tune_60 : decode cX1_tune 60 = .ok (.iaload, 1) := dk_46 (dk_at dksX1_tune_2 12 rfl rfl)
theorem dX1_tune_61 : decode cX1_tune 61 = .ok (.bipush (-2), 2) := dk_16 254 (dk_at dksX1_tune_2 13 rfl rfl)
theorem dX1_tune_63 : decode cX1_tune 63 = .ok (.if_icmp .ne 21, 3) := dk_160 0 21 (dk_at dksX1_tune_2 15 rfl rfl)
theorem dX1_tune_66 : decode cX1_tune 66 = .ok (.aload_n 0, 1) := dk_42 (dk_at dksX1_tune_2 18 rfl rfl)
theorem dX1_tune_67 : decode cX1_tune 67 = .ok (.getfield 111, 3) := dk_180 0 111 (dk_at dksX1_tune_2 19 rfl rfl)
theorem dX1_tune_70 : decode cX1_tune 70 = .ok (.getfield 209, 3) := dk_180 0 209 (dk_at dksX1_tune_3 0 rfl rfl)
theorem dX1_tune_73 : decode cX1_tune 73 = .ok (.bipush 6, 2) := dk_16 6 (dk_at dksX1_tune_3 3 rfl rfl)
theorem dX1_tune_75 : decode cX1_tune 75 = .ok (.iload_n 1, 1) := dk_27 (dk_at dksX1_tune_3 5 rfl rfl)
theorem dX1_tune_76 : decode cX1_tune 76 = .ok (.imul, 1) := dk_104 (dk_at dksX1_tune_3 6 rfl rfl)
theorem dX1_tune_77 : decode cX1_tune 77 = .ok (.iload_n 2, 1) := dk_28 (dk_at dksX1_tune_3 7 rfl rfl)
theorem dX1_tune_78 : decode cX1_tune 78 = .ok (.iadd, 1) := dk_96 (dk_at dksX1_tune_3 8 rfl rfl)
theorem dX1_tune_79 : decode cX1_tune 79 = .ok (.iaload, 1) := dk_46 (dk_at dksX1_tune_3 9 rfl rfl)
theorem dX1_tune_80 : decode cX1_tune 80 = .ok (.iload_n 3, 1) := dk_29 (dk_at dksX1_tune_3 10 rfl rfl)
theorem dX1_tune_81 : decode cX1_tune 81 = .ok (.if_icmp .ne 9, 3) := dk_160 0 9 (dk_at dksX1_tune_3 11 rfl rfl)
theorem dX1_tune_84 : decode cX1_tune 84 = .ok (.aload_n 0, 1) := dk_42 (dk_at dksX1_tune_3 14 rfl rfl)
theorem dX1_tune_85 : decode cX1_tune 85 = .ok (.iconst 5, 1) := dk_8 (dk_at dksX1_tune_3 15 rfl rfl)
theorem dX1_tune_86 : decode cX1_tune 86 = .ok (.invokevirtual 428, 3) := dk_182 1 172 (dk_at dksX1_tune_3 16 rfl rfl)
theorem dX1_tune_89 : decode cX1_tune 89 = .ok (.ireturn, 1) := dk_172 (dk_at dksX1_tune_3 19 rfl rfl)
theorem dX1_tune_90 : decode cX1_tune 90 = .ok (.aload_n 0, 1) := dk_42 (dk_at dksX1_tune_3 20 rfl rfl)
theorem dX1_tune_91 : decode cX1_tune 91 = .ok (.invokevirtual 425, 3) := dk_182 1 169 (dk_at dksX1_tune_3 21 rfl rfl)
theorem dX1_tune_94 : decode cX1_tune 94 = .ok (.aload_n 0, 1) := dk_42 (dk_at dksX1_tune_4 0 rfl rfl)
theorem dX1_tune_95 : decode cX1_tune 95 = .ok (.getfield 111, 3) := dk_180 0 111 (dk_at dksX1_tune_4 1 rfl rfl)
theorem dX1_tune_98 : decode cX1_tune 98 = .ok (.getfield 209, 3) := dk_180 0 209 (dk_at dksX1_tune_4 4 rfl rfl)
theorem dX1_tune_101 : decode cX1_tune 101 = .ok (.bipush 6, 2) := dk_16 6 (dk_at dksX1_tune_4 7 rfl rfl)
theorem dX1_tune_103 : decode cX1_tune 103 = .ok (.iload_n 1, 1) := dk_27 (dk_at dksX1_tune_4 9 rfl rfl)
theorem dX1_tune_104 : decode cX1_tune 104 = .ok (.imul, 1) := dk_104 (dk_at dksX1_tune_4 10 rfl rfl)
theorem dX1_tune_105 : decode cX1_tune 105 = .ok (.iload_n 2, 1) := dk_28 (dk_at dksX1_tune_4 11 rfl rfl)
theorem dX1_tune_106 : decode cX1_tune 106 = .ok (.iadd, 1) := dk_96 (dk_at dksX1_tune_4 12 rfl rfl)
theorem dX1_tune_107 : decode cX1_tune 107 = .ok (.iload_n 3, 1) := dk_29 (dk_at dksX1_tune_4 13 rfl rfl)
theorem dX1_tune_108 : decode cX1_tune 108 = .ok (.iastore, 1) := dk_79 (dk_at dksX1_tune_4 14 rfl rfl)
theorem dX1_tune_109 : decode cX1_tune 109 = .ok (.aload_n 0, 1) := dk_42 (dk_at dksX1_tune_4 15 rfl rfl)
theorem dX1_tune_110 : decode cX1_tune 110 = .ok (.invokevirtual 431, 3) := dk_182 1 175 (dk_at dksX1_tune_4 16 rfl rfl)
theorem dX1_tune_113 : decode cX1_tune 113 = .ok (.ireturn, 1) := dk_172 (dk_at dksX1_tune_4 19 rfl rfl)
abbrev cX1_denied : ByteArray := prog_1_method_8_code
def yX1_denied : MethodName := ⟨RX1, "denied", "(I)Z"⟩
def dkwX1_denied_0 : List UInt8 := [42, 27, 182, 0, 65, 87, 3, 172]
abbrev dktX1_denied_0 : List UInt8 := dkwX1_denied_0 ++ []
theorem dksX1_denied_0 : cX1_denied.data.toList.drop 0 = dktX1_denied_0 := by decide +kernel
theorem dX1_denied_0 : decode cX1_denied 0 = .ok (.aload_n 0, 1) := dk_42 (dk_at dksX1_denied_0 0 rfl rfl)
theorem dX1_denied_1 : decode cX1_denied 1 = .ok (.iload_n 1, 1) := dk_27 (dk_at dksX1_denied_0 1 rfl rfl)
theorem dX1_denied_2 : decode cX1_denied 2 = .ok (.invokevirtual 65, 3) := dk_182 0 65 (dk_at dksX1_denied_0 2 rfl rfl)
theorem dX1_denied_5 : decode cX1_denied 5 = .ok (.pop, 1) := dk_87 (dk_at dksX1_denied_0 5 rfl rfl)
theorem dX1_denied_6 : decode cX1_denied 6 = .ok (.iconst 0, 1) := dk_3 (dk_at dksX1_denied_0 6 rfl rfl)
theorem dX1_denied_7 : decode cX1_denied 7 = .ok (.ireturn, 1) := dk_172 (dk_at dksX1_denied_0 7 rfl rfl)
abbrev cX1_granted : ByteArray := prog_1_method_10_code
def yX1_granted : MethodName := ⟨RX1, "granted", "()Z"⟩
def dkwX1_granted_0 : List UInt8 := [42, 3, 182, 0, 69, 87, 4, 172]
abbrev dktX1_granted_0 : List UInt8 := dkwX1_granted_0 ++ []
theorem dksX1_granted_0 : cX1_granted.data.toList.drop 0 = dktX1_granted_0 := by decide +kernel
theorem dX1_granted_0 : decode cX1_granted 0 = .ok (.aload_n 0, 1) := dk_42 (dk_at dksX1_granted_0 0 rfl rfl)
theorem dX1_granted_1 : decode cX1_granted 1 = .ok (.iconst 0, 1) := dk_3 (dk_at dksX1_granted_0 1 rfl rfl)
theorem dX1_granted_2 : decode cX1_granted 2 = .ok (.invokevirtual 69, 3) := dk_182 0 69 (dk_at dksX1_granted_0 2 rfl rfl)
theorem dX1_granted_5 : decode cX1_granted 5 = .ok (.pop, 1) := dk_87 (dk_at dksX1_granted_0 5 rfl rfl)
theorem dX1_granted_6 : decode cX1_granted 6 = .ok (.iconst 1, 1) := dk_4 (dk_at dksX1_granted_0 6 rfl rfl)
theorem dX1_granted_7 : decode cX1_granted 7 = .ok (.ireturn, 1) := dk_172 (dk_at dksX1_granted_0 7 rfl rfl)
abbrev cX1_years : ByteArray := prog_1_method_88_code
def yX1_years : MethodName := ⟨RX1, "years", "(I)I"⟩
def dkwX1_years_3 : List UInt8 := [180, 0, 111, 180, 0, 199, 182, 0, 69, 172]
abbrev dktX1_years_3 : List UInt8 := dkwX1_years_3 ++ []
def dkwX1_years_2 : List UInt8 := [182, 0, 65, 172, 42, 182, 1, 169, 42, 180, 0, 111, 89, 180, 0, 199, 27, 96, 181, 0, 199, 42, 42]
abbrev dktX1_years_2 : List UInt8 := dkwX1_years_2 ++ dktX1_years_3
def dkwX1_years_1 : List UInt8 := [5, 182, 0, 65, 172, 42, 180, 0, 111, 180, 0, 199, 27, 96, 17, 39, 15, 164, 0, 9, 42, 6]
abbrev dktX1_years_1 : List UInt8 := dkwX1_years_1 ++ dktX1_years_2
def dkwX1_years_0 : List UInt8 := [42, 180, 0, 104, 199, 0, 9, 42, 4, 182, 0, 65, 172, 27, 4, 16, 99, 184, 0, 79, 154, 0, 9, 42]
abbrev dktX1_years_0 : List UInt8 := dkwX1_years_0 ++ dktX1_years_1
theorem dksX1_years_0 : cX1_years.data.toList.drop 0 = dktX1_years_0 := by decide +kernel
theorem dksX1_years_1 : cX1_years.data.toList.drop 24 = dktX1_years_1 := dk_seg dksX1_years_0 24 rfl rfl
theorem dksX1_years_2 : cX1_years.data.toList.drop 46 = dktX1_years_2 := dk_seg dksX1_years_1 22 rfl rfl
theorem dksX1_years_3 : cX1_years.data.toList.drop 69 = dktX1_years_3 := dk_seg dksX1_years_2 23 rfl rfl
theorem dX1_years_0 : decode cX1_years 0 = .ok (.aload_n 0, 1) := dk_42 (dk_at dksX1_years_0 0 rfl rfl)
theorem dX1_years_1 : decode cX1_years 1 = .ok (.getfield 104, 3) := dk_180 0 104 (dk_at dksX1_years_0 1 rfl rfl)
theorem dX1_years_4 : decode cX1_years 4 = .ok (.ifnonnull 9, 3) := dk_199 0 9 (dk_at dksX1_years_0 4 rfl rfl)
theorem dX1_years_7 : decode cX1_years 7 = .ok (.aload_n 0, 1) := dk_42 (dk_at dksX1_years_0 7 rfl rfl)
theorem dX1_years_8 : decode cX1_years 8 = .ok (.iconst 1, 1) := dk_4 (dk_at dksX1_years_0 8 rfl rfl)
theorem dX1_years_9 : decode cX1_years 9 = .ok (.invokevirtual 65, 3) := dk_182 0 65 (dk_at dksX1_years_0 9 rfl rfl)
theorem dX1_years_12 : decode cX1_years 12 = .ok (.ireturn, 1) := dk_172 (dk_at dksX1_years_0 12 rfl rfl)
theorem dX1_years_13 : decode cX1_years 13 = .ok (.iload_n 1, 1) := dk_27 (dk_at dksX1_years_0 13 rfl rfl)
theorem dX1_years_14 : decode cX1_years 14 = .ok (.iconst 1, 1) := dk_4 (dk_at dksX1_years_0 14 rfl rfl)
theorem dX1_years_15 : decode cX1_years 15 = .ok (.bipush 99, 2) := dk_16 99 (dk_at dksX1_years_0 15 rfl rfl)
theorem dX1_years_17 : decode cX1_years 17 = .ok (.invokestatic 79, 3) := dk_184 0 79 (dk_at dksX1_years_0 17 rfl rfl)
theorem dX1_years_20 : decode cX1_years 20 = .ok (.ifCond .ne 9, 3) := dk_154 0 9 (dk_at dksX1_years_0 20 rfl rfl)
theorem dX1_years_23 : decode cX1_years 23 = .ok (.aload_n 0, 1) := dk_42 (dk_at dksX1_years_0 23 rfl rfl)
theorem dX1_years_24 : decode cX1_years 24 = .ok (.iconst 2, 1) := dk_5 (dk_at dksX1_years_1 0 rfl rfl)
theorem dX1_years_25 : decode cX1_years 25 = .ok (.invokevirtual 65, 3) := dk_182 0 65 (dk_at dksX1_years_1 1 rfl rfl)
theorem dX1_years_28 : decode cX1_years 28 = .ok (.ireturn, 1) := dk_172 (dk_at dksX1_years_1 4 rfl rfl)
theorem dX1_years_29 : decode cX1_years 29 = .ok (.aload_n 0, 1) := dk_42 (dk_at dksX1_years_1 5 rfl rfl)
theorem dX1_years_30 : decode cX1_years 30 = .ok (.getfield 111, 3) := dk_180 0 111 (dk_at dksX1_years_1 6 rfl rfl)
theorem dX1_years_33 : decode cX1_years 33 = .ok (.getfield 199, 3) := dk_180 0 199 (dk_at dksX1_years_1 9 rfl rfl)
theorem dX1_years_36 : decode cX1_years 36 = .ok (.iload_n 1, 1) := dk_27 (dk_at dksX1_years_1 12 rfl rfl)
theorem dX1_years_37 : decode cX1_years 37 = .ok (.iadd, 1) := dk_96 (dk_at dksX1_years_1 13 rfl rfl)
theorem dX1_years_38 : decode cX1_years 38 = .ok (.sipush 9999, 3) := dk_17 39 15 (dk_at dksX1_years_1 14 rfl rfl)
theorem dX1_years_41 : decode cX1_years 41 = .ok (.if_icmp .le 9, 3) := dk_164 0 9 (dk_at dksX1_years_1 17 rfl rfl)
theorem dX1_years_44 : decode cX1_years 44 = .ok (.aload_n 0, 1) := dk_42 (dk_at dksX1_years_1 20 rfl rfl)
theorem dX1_years_45 : decode cX1_years 45 = .ok (.iconst 3, 1) := dk_6 (dk_at dksX1_years_1 21 rfl rfl)
theorem dX1_years_46 : decode cX1_years 46 = .ok (.invokevirtual 65, 3) := dk_182 0 65 (dk_at dksX1_years_2 0 rfl rfl)
theorem dX1_years_49 : decode cX1_years 49 = .ok (.ireturn, 1) := dk_172 (dk_at dksX1_years_2 3 rfl rfl)
theorem dX1_years_50 : decode cX1_years 50 = .ok (.aload_n 0, 1) := dk_42 (dk_at dksX1_years_2 4 rfl rfl)
theorem dX1_years_51 : decode cX1_years 51 = .ok (.invokevirtual 425, 3) := dk_182 1 169 (dk_at dksX1_years_2 5 rfl rfl)
theorem dX1_years_54 : decode cX1_years 54 = .ok (.aload_n 0, 1) := dk_42 (dk_at dksX1_years_2 8 rfl rfl)
theorem dX1_years_55 : decode cX1_years 55 = .ok (.getfield 111, 3) := dk_180 0 111 (dk_at dksX1_years_2 9 rfl rfl)
theorem dX1_years_58 : decode cX1_years 58 = .ok (.dup, 1) := dk_89 (dk_at dksX1_years_2 12 rfl rfl)
theorem dX1_years_59 : decode cX1_years 59 = .ok (.getfield 199, 3) := dk_180 0 199 (dk_at dksX1_years_2 13 rfl rfl)
theorem dX1_years_62 : decode cX1_years 62 = .ok (.iload_n 1, 1) := dk_27 (dk_at dksX1_years_2 16 rfl rfl)
theorem dX1_years_63 : decode cX1_years 63 = .ok (.iadd, 1) := dk_96 (dk_at dksX1_years_2 17 rfl rfl)
theorem dX1_years_64 : decode cX1_years 64 = .ok (.putfield 199, 3) := dk_181 0 199 (dk_at dksX1_years_2 18 rfl rfl)
theorem dX1_years_67 : decode cX1_years 67 = .ok (.aload_n 0, 1) := dk_42 (dk_at dksX1_years_2 21 rfl rfl)
theorem dX1_years_68 : decode cX1_years 68 = .ok (.aload_n 0, 1) := dk_42 (dk_at dksX1_years_2 22 rfl rfl)
theorem dX1_years_69 : decode cX1_years 69 = .ok (.getfield 111, 3) := dk_180 0 111 (dk_at dksX1_years_3 0 rfl rfl)
theorem dX1_years_72 : decode cX1_years 72 = .ok (.getfield 199, 3) := dk_180 0 199 (dk_at dksX1_years_3 3 rfl rfl)
theorem dX1_years_75 : decode cX1_years 75 = .ok (.invokevirtual 69, 3) := dk_182 0 69 (dk_at dksX1_years_3 6 rfl rfl)
theorem dX1_years_78 : decode cX1_years 78 = .ok (.ireturn, 1) := dk_172 (dk_at dksX1_years_3 9 rfl rfl)
abbrev cX1_close : ByteArray := prog_1_method_89_code
def yX1_close : MethodName := ⟨RX1, "close", "(IZ)Z"⟩
def dkwX1_close_2 : List UInt8 := [42, 182, 1, 175, 172]
abbrev dktX1_close_2 : List UInt8 := dkwX1_close_2 ++ []
def dkwX1_close_1 : List UInt8 := [8, 182, 1, 172, 172, 42, 182, 1, 169, 42, 180, 0, 111, 89, 180, 0, 219, 4, 27, 120, 130, 181, 0, 219]
abbrev dktX1_close_1 : List UInt8 := dkwX1_close_1 ++ dktX1_close_2
def dkwX1_close_0 : List UInt8 := [42, 27, 182, 0, 240, 154, 0, 9, 42, 4, 182, 1, 172, 172, 42, 27, 182, 0, 234, 28, 160, 0, 9, 42]
abbrev dktX1_close_0 : List UInt8 := dkwX1_close_0 ++ dktX1_close_1
theorem dksX1_close_0 : cX1_close.data.toList.drop 0 = dktX1_close_0 := by decide +kernel
theorem dksX1_close_1 : cX1_close.data.toList.drop 24 = dktX1_close_1 := dk_seg dksX1_close_0 24 rfl rfl
theorem dksX1_close_2 : cX1_close.data.toList.drop 48 = dktX1_close_2 := dk_seg dksX1_close_1 24 rfl rfl
theorem dX1_close_0 : decode cX1_close 0 = .ok (.aload_n 0, 1) := dk_42 (dk_at dksX1_close_0 0 rfl rfl)
theorem dX1_close_1 : decode cX1_close 1 = .ok (.iload_n 1, 1) := dk_27 (dk_at dksX1_close_0 1 rfl rfl)
theorem dX1_close_2 : decode cX1_close 2 = .ok (.invokevirtual 240, 3) := dk_182 0 240 (dk_at dksX1_close_0 2 rfl rfl)
theorem dX1_close_5 : decode cX1_close 5 = .ok (.ifCond .ne 9, 3) := dk_154 0 9 (dk_at dksX1_close_0 5 rfl rfl)
theorem dX1_close_8 : decode cX1_close 8 = .ok (.aload_n 0, 1) := dk_42 (dk_at dksX1_close_0 8 rfl rfl)
theorem dX1_close_9 : decode cX1_close 9 = .ok (.iconst 1, 1) := dk_4 (dk_at dksX1_close_0 9 rfl rfl)
theorem dX1_close_10 : decode cX1_close 10 = .ok (.invokevirtual 428, 3) := dk_182 1 172 (dk_at dksX1_close_0 10 rfl rfl)
theorem dX1_close_13 : decode cX1_close 13 = .ok (.ireturn, 1) := dk_172 (dk_at dksX1_close_0 13 rfl rfl)
theorem dX1_close_14 : decode cX1_close 14 = .ok (.aload_n 0, 1) := dk_42 (dk_at dksX1_close_0 14 rfl rfl)
theorem dX1_close_15 : decode cX1_close 15 = .ok (.iload_n 1, 1) := dk_27 (dk_at dksX1_close_0 15 rfl rfl)
theorem dX1_close_16 : decode cX1_close 16 = .ok (.invokevirtual 234, 3) := dk_182 0 234 (dk_at dksX1_close_0 16 rfl rfl)
theorem dX1_close_19 : decode cX1_close 19 = .ok (.iload_n 2, 1) := dk_28 (dk_at dksX1_close_0 19 rfl rfl)
theorem dX1_close_20 : decode cX1_close 20 = .ok (.if_icmp .ne 9, 3) := dk_160 0 9 (dk_at dksX1_close_0 20 rfl rfl)
theorem dX1_close_23 : decode cX1_close 23 = .ok (.aload_n 0, 1) := dk_42 (dk_at dksX1_close_0 23 rfl rfl)
theorem dX1_close_24 : decode cX1_close 24 = .ok (.iconst 5, 1) := dk_8 (dk_at dksX1_close_1 0 rfl rfl)
theorem dX1_close_25 : decode cX1_close 25 = .ok (.invokevirtual 428, 3) := dk_182 1 172 (dk_at dksX1_close_1 1 rfl rfl)
theorem dX1_close_28 : decode cX1_close 28 = .ok (.ireturn, 1) := dk_172 (dk_at dksX1_close_1 4 rfl rfl)
theorem dX1_close_29 : decode cX1_close 29 = .ok (.aload_n 0, 1) := dk_42 (dk_at dksX1_close_1 5 rfl rfl)
theorem dX1_close_30 : decode cX1_close 30 = .ok (.invokevirtual 425, 3) := dk_182 1 169 (dk_at dksX1_close_1 6 rfl rfl)
theorem dX1_close_33 : decode cX1_close 33 = .ok (.aload_n 0, 1) := dk_42 (dk_at dksX1_close_1 9 rfl rfl)
theorem dX1_close_34 : decode cX1_close 34 = .ok (.getfield 111, 3) := dk_180 0 111 (dk_at dksX1_close_1 10 rfl rfl)
theorem dX1_close_37 : decode cX1_close 37 = .ok (.dup, 1) := dk_89 (dk_at dksX1_close_1 13 rfl rfl)
theorem dX1_close_38 : decode cX1_close 38 = .ok (.getfield 219, 3) := dk_180 0 219 (dk_at dksX1_close_1 14 rfl rfl)
theorem dX1_close_41 : decode cX1_close 41 = .ok (.iconst 1, 1) := dk_4 (dk_at dksX1_close_1 17 rfl rfl)
theorem dX1_close_42 : decode cX1_close 42 = .ok (.iload_n 1, 1) := dk_27 (dk_at dksX1_close_1 18 rfl rfl)
theorem dX1_close_43 : decode cX1_close 43 = .ok (.ishl, 1) := dk_120 (dk_at dksX1_close_1 19 rfl rfl)
theorem dX1_close_44 : decode cX1_close 44 = .ok (.ixor, 1) := dk_130 (dk_at dksX1_close_1 20 rfl rfl)
theorem dX1_close_45 : decode cX1_close 45 = .ok (.putfield 219, 3) := dk_181 0 219 (dk_at dksX1_close_1 21 rfl rfl)
theorem dX1_close_48 : decode cX1_close 48 = .ok (.aload_n 0, 1) := dk_42 (dk_at dksX1_close_2 0 rfl rfl)
theorem dX1_close_49 : decode cX1_close 49 = .ok (.invokevirtual 431, 3) := dk_182 1 175 (dk_at dksX1_close_2 1 rfl rfl)
theorem dX1_close_52 : decode cX1_close 52 = .ok (.ireturn, 1) := dk_172 (dk_at dksX1_close_2 4 rfl rfl)
abbrev cX1_undo : ByteArray := prog_1_method_90_code
def yX1_undo : MethodName := ⟨RX1, "undo", "()Z"⟩
def dkwX1_undo_1 : List UInt8 := [180, 0, 20, 182, 0, 127, 4, 100, 182, 1, 158, 192, 0, 108, 181, 0, 111, 42, 182, 1, 175, 172]
abbrev dktX1_undo_1 : List UInt8 := dkwX1_undo_1 ++ []
def dkwX1_undo_0 : List UInt8 := [42, 180, 0, 20, 182, 1, 179, 153, 0, 10, 42, 16, 6, 182, 1, 172, 172, 42, 42, 180, 0, 20, 42]
abbrev dktX1_undo_0 : List UInt8 := dkwX1_undo_0 ++ dktX1_undo_1
theorem dksX1_undo_0 : cX1_undo.data.toList.drop 0 = dktX1_undo_0 := by decide +kernel
theorem dksX1_undo_1 : cX1_undo.data.toList.drop 23 = dktX1_undo_1 := dk_seg dksX1_undo_0 23 rfl rfl
theorem dX1_undo_0 : decode cX1_undo 0 = .ok (.aload_n 0, 1) := dk_42 (dk_at dksX1_undo_0 0 rfl rfl)
theorem dX1_undo_1 : decode cX1_undo 1 = .ok (.getfield 20, 3) := dk_180 0 20 (dk_at dksX1_undo_0 1 rfl rfl)
theorem dX1_undo_4 : decode cX1_undo 4 = .ok (.invokevirtual 435, 3) := dk_182 1 179 (dk_at dksX1_undo_0 4 rfl rfl)
theorem dX1_undo_7 : decode cX1_undo 7 = .ok (.ifCond .eq 10, 3) := dk_153 0 10 (dk_at dksX1_undo_0 7 rfl rfl)
theorem dX1_undo_10 : decode cX1_undo 10 = .ok (.aload_n 0, 1) := dk_42 (dk_at dksX1_undo_0 10 rfl rfl)
theorem dX1_undo_11 : decode cX1_undo 11 = .ok (.bipush 6, 2) := dk_16 6 (dk_at dksX1_undo_0 11 rfl rfl)
theorem dX1_undo_13 : decode cX1_undo 13 = .ok (.invokevirtual 428, 3) := dk_182 1 172 (dk_at dksX1_undo_0 13 rfl rfl)
theorem dX1_undo_16 : decode cX1_undo 16 = .ok (.ireturn, 1) := dk_172 (dk_at dksX1_undo_0 16 rfl rfl)
theorem dX1_undo_17 : decode cX1_undo 17 = .ok (.aload_n 0, 1) := dk_42 (dk_at dksX1_undo_0 17 rfl rfl)
theorem dX1_undo_18 : decode cX1_undo 18 = .ok (.aload_n 0, 1) := dk_42 (dk_at dksX1_undo_0 18 rfl rfl)
theorem dX1_undo_19 : decode cX1_undo 19 = .ok (.getfield 20, 3) := dk_180 0 20 (dk_at dksX1_undo_0 19 rfl rfl)
theorem dX1_undo_22 : decode cX1_undo 22 = .ok (.aload_n 0, 1) := dk_42 (dk_at dksX1_undo_0 22 rfl rfl)
theorem dX1_undo_23 : decode cX1_undo 23 = .ok (.getfield 20, 3) := dk_180 0 20 (dk_at dksX1_undo_1 0 rfl rfl)
theorem dX1_undo_26 : decode cX1_undo 26 = .ok (.invokevirtual 127, 3) := dk_182 0 127 (dk_at dksX1_undo_1 3 rfl rfl)
theorem dX1_undo_29 : decode cX1_undo 29 = .ok (.iconst 1, 1) := dk_4 (dk_at dksX1_undo_1 6 rfl rfl)
theorem dX1_undo_30 : decode cX1_undo 30 = .ok (.isub, 1) := dk_100 (dk_at dksX1_undo_1 7 rfl rfl)
theorem dX1_undo_31 : decode cX1_undo 31 = .ok (.invokevirtual 414, 3) := dk_182 1 158 (dk_at dksX1_undo_1 8 rfl rfl)
theorem dX1_undo_34 : decode cX1_undo 34 = .ok (.checkcast 108, 3) := dk_192 0 108 (dk_at dksX1_undo_1 11 rfl rfl)
theorem dX1_undo_37 : decode cX1_undo 37 = .ok (.putfield 111, 3) := dk_181 0 111 (dk_at dksX1_undo_1 14 rfl rfl)
theorem dX1_undo_40 : decode cX1_undo 40 = .ok (.aload_n 0, 1) := dk_42 (dk_at dksX1_undo_1 17 rfl rfl)
theorem dX1_undo_41 : decode cX1_undo 41 = .ok (.invokevirtual 431, 3) := dk_182 1 175 (dk_at dksX1_undo_1 18 rfl rfl)
theorem dX1_undo_44 : decode cX1_undo 44 = .ok (.ireturn, 1) := dk_172 (dk_at dksX1_undo_1 21 rfl rfl)
abbrev cX1_image : ByteArray := prog_1_method_91_code
def yX1_image : MethodName := ⟨RX1, "image", "()I"⟩
def dkwX1_image_2 : List UInt8 := [180, 0, 24, 182, 0, 127, 4, 100, 182, 0, 69, 172]
abbrev dktX1_image_2 : List UInt8 := dkwX1_image_2 ++ []
def dkwX1_image_1 : List UInt8 := [42, 6, 182, 0, 65, 172, 42, 180, 0, 24, 42, 180, 0, 111, 182, 1, 165, 182, 1, 161, 87, 42, 42]
abbrev dktX1_image_1 : List UInt8 := dkwX1_image_1 ++ dktX1_image_2
def dkwX1_image_0 : List UInt8 := [42, 180, 0, 104, 199, 0, 9, 42, 4, 182, 0, 65, 172, 42, 180, 0, 24, 182, 0, 127, 6, 160, 0, 9]
abbrev dktX1_image_0 : List UInt8 := dkwX1_image_0 ++ dktX1_image_1
theorem dksX1_image_0 : cX1_image.data.toList.drop 0 = dktX1_image_0 := by decide +kernel
theorem dksX1_image_1 : cX1_image.data.toList.drop 24 = dktX1_image_1 := dk_seg dksX1_image_0 24 rfl rfl
theorem dksX1_image_2 : cX1_image.data.toList.drop 47 = dktX1_image_2 := dk_seg dksX1_image_1 23 rfl rfl
theorem dX1_image_0 : decode cX1_image 0 = .ok (.aload_n 0, 1) := dk_42 (dk_at dksX1_image_0 0 rfl rfl)
theorem dX1_image_1 : decode cX1_image 1 = .ok (.getfield 104, 3) := dk_180 0 104 (dk_at dksX1_image_0 1 rfl rfl)
theorem dX1_image_4 : decode cX1_image 4 = .ok (.ifnonnull 9, 3) := dk_199 0 9 (dk_at dksX1_image_0 4 rfl rfl)
theorem dX1_image_7 : decode cX1_image 7 = .ok (.aload_n 0, 1) := dk_42 (dk_at dksX1_image_0 7 rfl rfl)
theorem dX1_image_8 : decode cX1_image 8 = .ok (.iconst 1, 1) := dk_4 (dk_at dksX1_image_0 8 rfl rfl)
theorem dX1_image_9 : decode cX1_image 9 = .ok (.invokevirtual 65, 3) := dk_182 0 65 (dk_at dksX1_image_0 9 rfl rfl)
theorem dX1_image_12 : decode cX1_image 12 = .ok (.ireturn, 1) := dk_172 (dk_at dksX1_image_0 12 rfl rfl)
theorem dX1_image_13 : decode cX1_image 13 = .ok (.aload_n 0, 1) := dk_42 (dk_at dksX1_image_0 13 rfl rfl)
theorem dX1_image_14 : decode cX1_image 14 = .ok (.getfield 24, 3) := dk_180 0 24 (dk_at dksX1_image_0 14 rfl rfl)
theorem dX1_image_17 : decode cX1_image 17 = .ok (.invokevirtual 127, 3) := dk_182 0 127 (dk_at dksX1_image_0 17 rfl rfl)
theorem dX1_image_20 : decode cX1_image 20 = .ok (.iconst 3, 1) := dk_6 (dk_at dksX1_image_0 20 rfl rfl)
theorem dX1_image_21 : decode cX1_image 21 = .ok (.if_icmp .ne 9, 3) := dk_160 0 9 (dk_at dksX1_image_0 21 rfl rfl)
theorem dX1_image_24 : decode cX1_image 24 = .ok (.aload_n 0, 1) := dk_42 (dk_at dksX1_image_1 0 rfl rfl)
theorem dX1_image_25 : decode cX1_image 25 = .ok (.iconst 3, 1) := dk_6 (dk_at dksX1_image_1 1 rfl rfl)
theorem dX1_image_26 : decode cX1_image 26 = .ok (.invokevirtual 65, 3) := dk_182 0 65 (dk_at dksX1_image_1 2 rfl rfl)
theorem dX1_image_29 : decode cX1_image 29 = .ok (.ireturn, 1) := dk_172 (dk_at dksX1_image_1 5 rfl rfl)
theorem dX1_image_30 : decode cX1_image 30 = .ok (.aload_n 0, 1) := dk_42 (dk_at dksX1_image_1 6 rfl rfl)
theorem dX1_image_31 : decode cX1_image 31 = .ok (.getfield 24, 3) := dk_180 0 24 (dk_at dksX1_image_1 7 rfl rfl)
theorem dX1_image_34 : decode cX1_image 34 = .ok (.aload_n 0, 1) := dk_42 (dk_at dksX1_image_1 10 rfl rfl)
theorem dX1_image_35 : decode cX1_image 35 = .ok (.getfield 111, 3) := dk_180 0 111 (dk_at dksX1_image_1 11 rfl rfl)
theorem dX1_image_38 : decode cX1_image 38 = .ok (.invokevirtual 421, 3) := dk_182 1 165 (dk_at dksX1_image_1 14 rfl rfl)
theorem dX1_image_41 : decode cX1_image 41 = .ok (.invokevirtual 417, 3) := dk_182 1 161 (dk_at dksX1_image_1 17 rfl rfl)
theorem dX1_image_44 : decode cX1_image 44 = .ok (.pop, 1) := dk_87 (dk_at dksX1_image_1 20 rfl rfl)
theorem dX1_image_45 : decode cX1_image 45 = .ok (.aload_n 0, 1) := dk_42 (dk_at dksX1_image_1 21 rfl rfl)
theorem dX1_image_46 : decode cX1_image 46 = .ok (.aload_n 0, 1) := dk_42 (dk_at dksX1_image_1 22 rfl rfl)
theorem dX1_image_47 : decode cX1_image 47 = .ok (.getfield 24, 3) := dk_180 0 24 (dk_at dksX1_image_2 0 rfl rfl)
theorem dX1_image_50 : decode cX1_image 50 = .ok (.invokevirtual 127, 3) := dk_182 0 127 (dk_at dksX1_image_2 3 rfl rfl)
theorem dX1_image_53 : decode cX1_image 53 = .ok (.iconst 1, 1) := dk_4 (dk_at dksX1_image_2 6 rfl rfl)
theorem dX1_image_54 : decode cX1_image 54 = .ok (.isub, 1) := dk_100 (dk_at dksX1_image_2 7 rfl rfl)
theorem dX1_image_55 : decode cX1_image 55 = .ok (.invokevirtual 69, 3) := dk_182 0 69 (dk_at dksX1_image_2 8 rfl rfl)
theorem dX1_image_58 : decode cX1_image 58 = .ok (.ireturn, 1) := dk_172 (dk_at dksX1_image_2 11 rfl rfl)
abbrev cX1_back : ByteArray := prog_1_method_92_code
def yX1_back : MethodName := ⟨RX1, "back", "(I)Z"⟩
def dkwX1_back_2 : List UInt8 := [42, 182, 1, 175, 172]
abbrev dktX1_back_2 : List UInt8 := dkwX1_back_2 ++ []
def dkwX1_back_1 : List UInt8 := [42, 180, 0, 24, 27, 182, 0, 137, 192, 0, 108, 182, 1, 165, 181, 0, 111, 42, 180, 0, 20, 182, 0, 119]
abbrev dktX1_back_1 : List UInt8 := dkwX1_back_1 ++ dktX1_back_2
def dkwX1_back_0 : List UInt8 := [27, 3, 42, 180, 0, 24, 182, 0, 127, 4, 100, 184, 0, 79, 154, 0, 9, 42, 4, 182, 1, 172, 172, 42]
abbrev dktX1_back_0 : List UInt8 := dkwX1_back_0 ++ dktX1_back_1
theorem dksX1_back_0 : cX1_back.data.toList.drop 0 = dktX1_back_0 := by decide +kernel
theorem dksX1_back_1 : cX1_back.data.toList.drop 24 = dktX1_back_1 := dk_seg dksX1_back_0 24 rfl rfl
theorem dksX1_back_2 : cX1_back.data.toList.drop 48 = dktX1_back_2 := dk_seg dksX1_back_1 24 rfl rfl
theorem dX1_back_0 : decode cX1_back 0 = .ok (.iload_n 1, 1) := dk_27 (dk_at dksX1_back_0 0 rfl rfl)
theorem dX1_back_1 : decode cX1_back 1 = .ok (.iconst 0, 1) := dk_3 (dk_at dksX1_back_0 1 rfl rfl)
theorem dX1_back_2 : decode cX1_back 2 = .ok (.aload_n 0, 1) := dk_42 (dk_at dksX1_back_0 2 rfl rfl)
theorem dX1_back_3 : decode cX1_back 3 = .ok (.getfield 24, 3) := dk_180 0 24 (dk_at dksX1_back_0 3 rfl rfl)
theorem dX1_back_6 : decode cX1_back 6 = .ok (.invokevirtual 127, 3) := dk_182 0 127 (dk_at dksX1_back_0 6 rfl rfl)
theorem dX1_back_9 : decode cX1_back 9 = .ok (.iconst 1, 1) := dk_4 (dk_at dksX1_back_0 9 rfl rfl)
theorem dX1_back_10 : decode cX1_back 10 = .ok (.isub, 1) := dk_100 (dk_at dksX1_back_0 10 rfl rfl)
theorem dX1_back_11 : decode cX1_back 11 = .ok (.invokestatic 79, 3) := dk_184 0 79 (dk_at dksX1_back_0 11 rfl rfl)
theorem dX1_back_14 : decode cX1_back 14 = .ok (.ifCond .ne 9, 3) := dk_154 0 9 (dk_at dksX1_back_0 14 rfl rfl)
theorem dX1_back_17 : decode cX1_back 17 = .ok (.aload_n 0, 1) := dk_42 (dk_at dksX1_back_0 17 rfl rfl)
theorem dX1_back_18 : decode cX1_back 18 = .ok (.iconst 1, 1) := dk_4 (dk_at dksX1_back_0 18 rfl rfl)
theorem dX1_back_19 : decode cX1_back 19 = .ok (.invokevirtual 428, 3) := dk_182 1 172 (dk_at dksX1_back_0 19 rfl rfl)
theorem dX1_back_22 : decode cX1_back 22 = .ok (.ireturn, 1) := dk_172 (dk_at dksX1_back_0 22 rfl rfl)
theorem dX1_back_23 : decode cX1_back 23 = .ok (.aload_n 0, 1) := dk_42 (dk_at dksX1_back_0 23 rfl rfl)
theorem dX1_back_24 : decode cX1_back 24 = .ok (.aload_n 0, 1) := dk_42 (dk_at dksX1_back_1 0 rfl rfl)
theorem dX1_back_25 : decode cX1_back 25 = .ok (.getfield 24, 3) := dk_180 0 24 (dk_at dksX1_back_1 1 rfl rfl)
theorem dX1_back_28 : decode cX1_back 28 = .ok (.iload_n 1, 1) := dk_27 (dk_at dksX1_back_1 4 rfl rfl)
theorem dX1_back_29 : decode cX1_back 29 = .ok (.invokevirtual 137, 3) := dk_182 0 137 (dk_at dksX1_back_1 5 rfl rfl)
theorem dX1_back_32 : decode cX1_back 32 = .ok (.checkcast 108, 3) := dk_192 0 108 (dk_at dksX1_back_1 8 rfl rfl)
theorem dX1_back_35 : decode cX1_back 35 = .ok (.invokevirtual 421, 3) := dk_182 1 165 (dk_at dksX1_back_1 11 rfl rfl)
theorem dX1_back_38 : decode cX1_back 38 = .ok (.putfield 111, 3) := dk_181 0 111 (dk_at dksX1_back_1 14 rfl rfl)
theorem dX1_back_41 : decode cX1_back 41 = .ok (.aload_n 0, 1) := dk_42 (dk_at dksX1_back_1 17 rfl rfl)
theorem dX1_back_42 : decode cX1_back 42 = .ok (.getfield 20, 3) := dk_180 0 20 (dk_at dksX1_back_1 18 rfl rfl)
theorem dX1_back_45 : decode cX1_back 45 = .ok (.invokevirtual 119, 3) := dk_182 0 119 (dk_at dksX1_back_1 21 rfl rfl)
theorem dX1_back_48 : decode cX1_back 48 = .ok (.aload_n 0, 1) := dk_42 (dk_at dksX1_back_2 0 rfl rfl)
theorem dX1_back_49 : decode cX1_back 49 = .ok (.invokevirtual 431, 3) := dk_182 1 175 (dk_at dksX1_back_2 1 rfl rfl)
theorem dX1_back_52 : decode cX1_back 52 = .ok (.ireturn, 1) := dk_172 (dk_at dksX1_back_2 4 rfl rfl)
abbrev cX1_size : ByteArray := prog_1_method_94_code
def yX1_size : MethodName := ⟨RX1, "size", "(I)I"⟩
def dkwX1_size_7 : List UInt8 := [180, 0, 199, 172, 42, 180, 0, 20, 182, 0, 127, 172, 42, 180, 0, 24, 182, 0, 127, 172]
abbrev dktX1_size_7 : List UInt8 := dkwX1_size_7 ++ []
def dkwX1_size_6 : List UInt8 := [180, 0, 134, 182, 0, 127, 172, 42, 180, 0, 104, 180, 1, 117, 182, 0, 127, 172, 42, 180, 0, 111]
abbrev dktX1_size_6 : List UInt8 := dkwX1_size_6 ++ dktX1_size_7
def dkwX1_size_5 : List UInt8 := [180, 0, 226, 182, 0, 127, 172, 42, 180, 0, 104, 180, 0, 131, 182, 0, 127, 172, 42, 180, 0, 104]
abbrev dktX1_size_5 : List UInt8 := dkwX1_size_5 ++ dktX1_size_6
def dkwX1_size_4 : List UInt8 := [42, 180, 0, 104, 180, 1, 155, 172, 42, 180, 0, 104, 180, 0, 122, 182, 0, 127, 172, 42, 180, 0, 104]
abbrev dktX1_size_4 : List UInt8 := dkwX1_size_4 ++ dktX1_size_5
def dkwX1_size_3 : List UInt8 := [42, 180, 0, 104, 180, 1, 3, 172, 42, 180, 0, 104, 180, 1, 0, 172, 42, 180, 0, 104, 180, 1, 185, 172]
abbrev dktX1_size_3 : List UInt8 := dkwX1_size_3 ++ dktX1_size_4
def dkwX1_size_2 : List UInt8 := [170, 0, 0, 0, 0, 0, 162, 0, 0, 0, 0, 0, 0, 0, 10, 0, 0, 0, 59, 0, 0, 0, 67, 0, 0, 0, 75, 0, 0, 0, 83, 0, 0, 0, 91, 0, 0, 0, 102, 0, 0, 0, 113, 0, 0, 0, 124, 0, 0, 0, 135, 0, 0, 0, 146, 0, 0, 0, 154]
abbrev dktX1_size_2 : List UInt8 := dkwX1_size_2 ++ dktX1_size_3
def dkwX1_size_1 : List UInt8 := [180, 0, 104, 199, 0, 5, 3, 172, 27]
abbrev dktX1_size_1 : List UInt8 := dkwX1_size_1 ++ dktX1_size_2
def dkwX1_size_0 : List UInt8 := [27, 16, 12, 160, 0, 8, 42, 180, 0, 76, 172, 27, 3, 16, 11, 184, 0, 79, 154, 0, 5, 2, 172, 42]
abbrev dktX1_size_0 : List UInt8 := dkwX1_size_0 ++ dktX1_size_1
theorem dksX1_size_0 : cX1_size.data.toList.drop 0 = dktX1_size_0 := by decide +kernel
theorem dksX1_size_1 : cX1_size.data.toList.drop 24 = dktX1_size_1 := dk_seg dksX1_size_0 24 rfl rfl
theorem dksX1_size_2 : cX1_size.data.toList.drop 33 = dktX1_size_2 := dk_seg dksX1_size_1 9 rfl rfl
theorem dksX1_size_3 : cX1_size.data.toList.drop 92 = dktX1_size_3 := dk_seg dksX1_size_2 59 rfl rfl
theorem dksX1_size_4 : cX1_size.data.toList.drop 116 = dktX1_size_4 := dk_seg dksX1_size_3 24 rfl rfl
theorem dksX1_size_5 : cX1_size.data.toList.drop 139 = dktX1_size_5 := dk_seg dksX1_size_4 23 rfl rfl
theorem dksX1_size_6 : cX1_size.data.toList.drop 161 = dktX1_size_6 := dk_seg dksX1_size_5 22 rfl rfl
theorem dksX1_size_7 : cX1_size.data.toList.drop 183 = dktX1_size_7 := dk_seg dksX1_size_6 22 rfl rfl
theorem dX1_size_0 : decode cX1_size 0 = .ok (.iload_n 1, 1) := dk_27 (dk_at dksX1_size_0 0 rfl rfl)
theorem dX1_size_1 : decode cX1_size 1 = .ok (.bipush 12, 2) := dk_16 12 (dk_at dksX1_size_0 1 rfl rfl)
theorem dX1_size_3 : decode cX1_size 3 = .ok (.if_icmp .ne 8, 3) := dk_160 0 8 (dk_at dksX1_size_0 3 rfl rfl)
theorem dX1_size_6 : decode cX1_size 6 = .ok (.aload_n 0, 1) := dk_42 (dk_at dksX1_size_0 6 rfl rfl)
theorem dX1_size_7 : decode cX1_size 7 = .ok (.getfield 76, 3) := dk_180 0 76 (dk_at dksX1_size_0 7 rfl rfl)
theorem dX1_size_10 : decode cX1_size 10 = .ok (.ireturn, 1) := dk_172 (dk_at dksX1_size_0 10 rfl rfl)
theorem dX1_size_11 : decode cX1_size 11 = .ok (.iload_n 1, 1) := dk_27 (dk_at dksX1_size_0 11 rfl rfl)
theorem dX1_size_12 : decode cX1_size 12 = .ok (.iconst 0, 1) := dk_3 (dk_at dksX1_size_0 12 rfl rfl)
theorem dX1_size_13 : decode cX1_size 13 = .ok (.bipush 11, 2) := dk_16 11 (dk_at dksX1_size_0 13 rfl rfl)
theorem dX1_size_15 : decode cX1_size 15 = .ok (.invokestatic 79, 3) := dk_184 0 79 (dk_at dksX1_size_0 15 rfl rfl)
theorem dX1_size_18 : decode cX1_size 18 = .ok (.ifCond .ne 5, 3) := dk_154 0 5 (dk_at dksX1_size_0 18 rfl rfl)
theorem dX1_size_21 : decode cX1_size 21 = .ok (.iconst (-1), 1) := dk_2 (dk_at dksX1_size_0 21 rfl rfl)
theorem dX1_size_22 : decode cX1_size 22 = .ok (.ireturn, 1) := dk_172 (dk_at dksX1_size_0 22 rfl rfl)
theorem dX1_size_23 : decode cX1_size 23 = .ok (.aload_n 0, 1) := dk_42 (dk_at dksX1_size_0 23 rfl rfl)
theorem dX1_size_24 : decode cX1_size 24 = .ok (.getfield 104, 3) := dk_180 0 104 (dk_at dksX1_size_1 0 rfl rfl)
theorem dX1_size_27 : decode cX1_size 27 = .ok (.ifnonnull 5, 3) := dk_199 0 5 (dk_at dksX1_size_1 3 rfl rfl)
theorem dX1_size_30 : decode cX1_size 30 = .ok (.iconst 0, 1) := dk_3 (dk_at dksX1_size_1 6 rfl rfl)
theorem dX1_size_31 : decode cX1_size 31 = .ok (.ireturn, 1) := dk_172 (dk_at dksX1_size_1 7 rfl rfl)
theorem dX1_size_32 : decode cX1_size 32 = .ok (.iload_n 1, 1) := dk_27 (dk_at dksX1_size_1 8 rfl rfl)
theorem dX1_size_33 : decode cX1_size 33 = .ok (.tableswitch 162 0 10 #[59, 67, 75, 83, 91, 102, 113, 124, 135, 146, 154], 59) := by decide +kernel
theorem dX1_size_92 : decode cX1_size 92 = .ok (.aload_n 0, 1) := dk_42 (dk_at dksX1_size_3 0 rfl rfl)
theorem dX1_size_93 : decode cX1_size 93 = .ok (.getfield 104, 3) := dk_180 0 104 (dk_at dksX1_size_3 1 rfl rfl)
theorem dX1_size_96 : decode cX1_size 96 = .ok (.getfield 259, 3) := dk_180 1 3 (dk_at dksX1_size_3 4 rfl rfl)
theorem dX1_size_99 : decode cX1_size 99 = .ok (.ireturn, 1) := dk_172 (dk_at dksX1_size_3 7 rfl rfl)
theorem dX1_size_100 : decode cX1_size 100 = .ok (.aload_n 0, 1) := dk_42 (dk_at dksX1_size_3 8 rfl rfl)
theorem dX1_size_101 : decode cX1_size 101 = .ok (.getfield 104, 3) := dk_180 0 104 (dk_at dksX1_size_3 9 rfl rfl)
theorem dX1_size_104 : decode cX1_size 104 = .ok (.getfield 256, 3) := dk_180 1 0 (dk_at dksX1_size_3 12 rfl rfl)
theorem dX1_size_107 : decode cX1_size 107 = .ok (.ireturn, 1) := dk_172 (dk_at dksX1_size_3 15 rfl rfl)
theorem dX1_size_108 : decode cX1_size 108 = .ok (.aload_n 0, 1) := dk_42 (dk_at dksX1_size_3 16 rfl rfl)
theorem dX1_size_109 : decode cX1_size 109 = .ok (.getfield 104, 3) := dk_180 0 104 (dk_at dksX1_size_3 17 rfl rfl)
theorem dX1_size_112 : decode cX1_size 112 = .ok (.getfield 441, 3) := dk_180 1 185 (dk_at dksX1_size_3 20 rfl rfl)
theorem dX1_size_115 : decode cX1_size 115 = .ok (.ireturn, 1) := dk_172 (dk_at dksX1_size_3 23 rfl rfl)
theorem dX1_size_116 : decode cX1_size 116 = .ok (.aload_n 0, 1) := dk_42 (dk_at dksX1_size_4 0 rfl rfl)
theorem dX1_size_117 : decode cX1_size 117 = .ok (.getfield 104, 3) := dk_180 0 104 (dk_at dksX1_size_4 1 rfl rfl)
theorem dX1_size_120 : decode cX1_size 120 = .ok (.getfield 411, 3) := dk_180 1 155 (dk_at dksX1_size_4 4 rfl rfl)
theorem dX1_size_123 : decode cX1_size 123 = .ok (.ireturn, 1) := dk_172 (dk_at dksX1_size_4 7 rfl rfl)
theorem dX1_size_124 : decode cX1_size 124 = .ok (.aload_n 0, 1) := dk_42 (dk_at dksX1_size_4 8 rfl rfl)
theorem dX1_size_125 : decode cX1_size 125 = .ok (.getfield 104, 3) := dk_180 0 104 (dk_at dksX1_size_4 9 rfl rfl)
theorem dX1_size_128 : decode cX1_size 128 = .ok (.getfield 122, 3) := dk_180 0 122 (dk_at dksX1_size_4 12 rfl rfl)
theorem dX1_size_131 : decode cX1_size 131 = .ok (.invokevirtual 127, 3) := dk_182 0 127 (dk_at dksX1_size_4 15 rfl rfl)
theorem dX1_size_134 : decode cX1_size 134 = .ok (.ireturn, 1) := dk_172 (dk_at dksX1_size_4 18 rfl rfl)
theorem dX1_size_135 : decode cX1_size 135 = .ok (.aload_n 0, 1) := dk_42 (dk_at dksX1_size_4 19 rfl rfl)
theorem dX1_size_136 : decode cX1_size 136 = .ok (.getfield 104, 3) := dk_180 0 104 (dk_at dksX1_size_4 20 rfl rfl)
theorem dX1_size_139 : decode cX1_size 139 = .ok (.getfield 226, 3) := dk_180 0 226 (dk_at dksX1_size_5 0 rfl rfl)
theorem dX1_size_142 : decode cX1_size 142 = .ok (.invokevirtual 127, 3) := dk_182 0 127 (dk_at dksX1_size_5 3 rfl rfl)
theorem dX1_size_145 : decode cX1_size 145 = .ok (.ireturn, 1) := dk_172 (dk_at dksX1_size_5 6 rfl rfl)
theorem dX1_size_146 : decode cX1_size 146 = .ok (.aload_n 0, 1) := dk_42 (dk_at dksX1_size_5 7 rfl rfl)
theorem dX1_size_147 : decode cX1_size 147 = .ok (.getfield 104, 3) := dk_180 0 104 (dk_at dksX1_size_5 8 rfl rfl)
theorem dX1_size_150 : decode cX1_size 150 = .ok (.getfield 131, 3) := dk_180 0 131 (dk_at dksX1_size_5 11 rfl rfl)
theorem dX1_size_153 : decode cX1_size 153 = .ok (.invokevirtual 127, 3) := dk_182 0 127 (dk_at dksX1_size_5 14 rfl rfl)
theorem dX1_size_156 : decode cX1_size 156 = .ok (.ireturn, 1) := dk_172 (dk_at dksX1_size_5 17 rfl rfl)
theorem dX1_size_157 : decode cX1_size 157 = .ok (.aload_n 0, 1) := dk_42 (dk_at dksX1_size_5 18 rfl rfl)
theorem dX1_size_158 : decode cX1_size 158 = .ok (.getfield 104, 3) := dk_180 0 104 (dk_at dksX1_size_5 19 rfl rfl)
theorem dX1_size_161 : decode cX1_size 161 = .ok (.getfield 134, 3) := dk_180 0 134 (dk_at dksX1_size_6 0 rfl rfl)
theorem dX1_size_164 : decode cX1_size 164 = .ok (.invokevirtual 127, 3) := dk_182 0 127 (dk_at dksX1_size_6 3 rfl rfl)
theorem dX1_size_167 : decode cX1_size 167 = .ok (.ireturn, 1) := dk_172 (dk_at dksX1_size_6 6 rfl rfl)
theorem dX1_size_168 : decode cX1_size 168 = .ok (.aload_n 0, 1) := dk_42 (dk_at dksX1_size_6 7 rfl rfl)
theorem dX1_size_169 : decode cX1_size 169 = .ok (.getfield 104, 3) := dk_180 0 104 (dk_at dksX1_size_6 8 rfl rfl)
theorem dX1_size_172 : decode cX1_size 172 = .ok (.getfield 373, 3) := dk_180 1 117 (dk_at dksX1_size_6 11 rfl rfl)
theorem dX1_size_175 : decode cX1_size 175 = .ok (.invokevirtual 127, 3) := dk_182 0 127 (dk_at dksX1_size_6 14 rfl rfl)
theorem dX1_size_178 : decode cX1_size 178 = .ok (.ireturn, 1) := dk_172 (dk_at dksX1_size_6 17 rfl rfl)
theorem dX1_size_179 : decode cX1_size 179 = .ok (.aload_n 0, 1) := dk_42 (dk_at dksX1_size_6 18 rfl rfl)
theorem dX1_size_180 : decode cX1_size 180 = .ok (.getfield 111, 3) := dk_180 0 111 (dk_at dksX1_size_6 19 rfl rfl)
theorem dX1_size_183 : decode cX1_size 183 = .ok (.getfield 199, 3) := dk_180 0 199 (dk_at dksX1_size_7 0 rfl rfl)
theorem dX1_size_186 : decode cX1_size 186 = .ok (.ireturn, 1) := dk_172 (dk_at dksX1_size_7 3 rfl rfl)
theorem dX1_size_187 : decode cX1_size 187 = .ok (.aload_n 0, 1) := dk_42 (dk_at dksX1_size_7 4 rfl rfl)
theorem dX1_size_188 : decode cX1_size 188 = .ok (.getfield 20, 3) := dk_180 0 20 (dk_at dksX1_size_7 5 rfl rfl)
theorem dX1_size_191 : decode cX1_size 191 = .ok (.invokevirtual 127, 3) := dk_182 0 127 (dk_at dksX1_size_7 8 rfl rfl)
theorem dX1_size_194 : decode cX1_size 194 = .ok (.ireturn, 1) := dk_172 (dk_at dksX1_size_7 11 rfl rfl)
theorem dX1_size_195 : decode cX1_size 195 = .ok (.aload_n 0, 1) := dk_42 (dk_at dksX1_size_7 12 rfl rfl)
theorem dX1_size_196 : decode cX1_size 196 = .ok (.getfield 24, 3) := dk_180 0 24 (dk_at dksX1_size_7 13 rfl rfl)
theorem dX1_size_199 : decode cX1_size 199 = .ok (.invokevirtual 127, 3) := dk_182 0 127 (dk_at dksX1_size_7 16 rfl rfl)
theorem dX1_size_202 : decode cX1_size 202 = .ok (.ireturn, 1) := dk_172 (dk_at dksX1_size_7 19 rfl rfl)
abbrev cX1_trouble : ByteArray := prog_1_method_95_code
def yX1_trouble : MethodName := ⟨RX1, "trouble", "()I"⟩
theorem dX1_trouble_0 : decode cX1_trouble 0 = .ok (.aload_n 0, 1) := by decide +kernel
theorem dX1_trouble_1 : decode cX1_trouble 1 = .ok (.getfield 62, 3) := by decide +kernel
theorem dX1_trouble_4 : decode cX1_trouble 4 = .ok (.ireturn, 1) := by decide +kernel
abbrev cX1_led : ByteArray := prog_1_method_93_code
def yX1_led : MethodName := ⟨RX1, "led", "(I)I"⟩
def dkwX1_led_2 : List UInt8 := [160, 0, 5, 29, 172, 132, 2, 1, 132, 3, 1, 167, 255, 205, 187, 1, 182, 89, 183, 1, 184, 191]
abbrev dktX1_led_2 : List UInt8 := dkwX1_led_2 ++ []
def dkwX1_led_1 : List UInt8 := [162, 0, 36, 42, 180, 0, 111, 180, 0, 187, 29, 46, 16, 254, 159, 0, 6, 167, 0, 13, 28, 27]
abbrev dktX1_led_1 : List UInt8 := dkwX1_led_1 ++ dktX1_led_2
def dkwX1_led_0 : List UInt8 := [3, 61, 3, 62, 42, 180, 0, 104, 198, 0, 50, 29, 42, 180, 0, 104, 180, 0, 134, 182, 0, 127]
abbrev dktX1_led_0 : List UInt8 := dkwX1_led_0 ++ dktX1_led_1
theorem dksX1_led_0 : cX1_led.data.toList.drop 0 = dktX1_led_0 := by decide +kernel
theorem dksX1_led_1 : cX1_led.data.toList.drop 22 = dktX1_led_1 := dk_seg dksX1_led_0 22 rfl rfl
theorem dksX1_led_2 : cX1_led.data.toList.drop 44 = dktX1_led_2 := dk_seg dksX1_led_1 22 rfl rfl
theorem dX1_led_0 : decode cX1_led 0 = .ok (.iconst 0, 1) := dk_3 (dk_at dksX1_led_0 0 rfl rfl)
theorem dX1_led_1 : decode cX1_led 1 = .ok (.istore_n 2, 1) := dk_61 (dk_at dksX1_led_0 1 rfl rfl)
theorem dX1_led_2 : decode cX1_led 2 = .ok (.iconst 0, 1) := dk_3 (dk_at dksX1_led_0 2 rfl rfl)
theorem dX1_led_3 : decode cX1_led 3 = .ok (.istore_n 3, 1) := dk_62 (dk_at dksX1_led_0 3 rfl rfl)
theorem dX1_led_4 : decode cX1_led 4 = .ok (.aload_n 0, 1) := dk_42 (dk_at dksX1_led_0 4 rfl rfl)
theorem dX1_led_5 : decode cX1_led 5 = .ok (.getfield 104, 3) := dk_180 0 104 (dk_at dksX1_led_0 5 rfl rfl)
theorem dX1_led_8 : decode cX1_led 8 = .ok (.ifnull 50, 3) := dk_198 0 50 (dk_at dksX1_led_0 8 rfl rfl)
theorem dX1_led_11 : decode cX1_led 11 = .ok (.iload_n 3, 1) := dk_29 (dk_at dksX1_led_0 11 rfl rfl)
theorem dX1_led_12 : decode cX1_led 12 = .ok (.aload_n 0, 1) := dk_42 (dk_at dksX1_led_0 12 rfl rfl)
theorem dX1_led_13 : decode cX1_led 13 = .ok (.getfield 104, 3) := dk_180 0 104 (dk_at dksX1_led_0 13 rfl rfl)
theorem dX1_led_16 : decode cX1_led 16 = .ok (.getfield 134, 3) := dk_180 0 134 (dk_at dksX1_led_0 16 rfl rfl)
theorem dX1_led_19 : decode cX1_led 19 = .ok (.invokevirtual 127, 3) := dk_182 0 127 (dk_at dksX1_led_0 19 rfl rfl)
theorem dX1_led_22 : decode cX1_led 22 = .ok (.if_icmp .ge 36, 3) := dk_162 0 36 (dk_at dksX1_led_1 0 rfl rfl)
theorem dX1_led_25 : decode cX1_led 25 = .ok (.aload_n 0, 1) := dk_42 (dk_at dksX1_led_1 3 rfl rfl)
theorem dX1_led_26 : decode cX1_led 26 = .ok (.getfield 111, 3) := dk_180 0 111 (dk_at dksX1_led_1 4 rfl rfl)
theorem dX1_led_29 : decode cX1_led 29 = .ok (.getfield 187, 3) := dk_180 0 187 (dk_at dksX1_led_1 7 rfl rfl)
theorem dX1_led_32 : decode cX1_led 32 = .ok (.iload_n 3, 1) := dk_29 (dk_at dksX1_led_1 10 rfl rfl)
theorem dX1_led_33 : decode cX1_led 33 = .ok (.iaload, 1) := dk_46 (dk_at dksX1_led_1 11 rfl rfl)
theorem dX1_led_34 : decode cX1_led 34 = .ok (.bipush (-2), 2) := dk_16 254 (dk_at dksX1_led_1 12 rfl rfl)
theorem dX1_led_36 : decode cX1_led 36 = .ok (.if_icmp .eq 6, 3) := dk_159 0 6 (dk_at dksX1_led_1 14 rfl rfl)
theorem dX1_led_39 : decode cX1_led 39 = .ok (.goto 13, 3) := dk_167 0 13 (dk_at dksX1_led_1 17 rfl rfl)
theorem dX1_led_42 : decode cX1_led 42 = .ok (.iload_n 2, 1) := dk_28 (dk_at dksX1_led_1 20 rfl rfl)
theorem dX1_led_43 : decode cX1_led 43 = .ok (.iload_n 1, 1) := dk_27 (dk_at dksX1_led_1 21 rfl rfl)
theorem dX1_led_44 : decode cX1_led 44 = .ok (.if_icmp .ne 5, 3) := dk_160 0 5 (dk_at dksX1_led_2 0 rfl rfl)
theorem dX1_led_47 : decode cX1_led 47 = .ok (.iload_n 3, 1) := dk_29 (dk_at dksX1_led_2 3 rfl rfl)
theorem dX1_led_48 : decode cX1_led 48 = .ok (.ireturn, 1) := dk_172 (dk_at dksX1_led_2 4 rfl rfl)
theorem dX1_led_49 : decode cX1_led 49 = .ok (.iinc 2 1, 3) := dk_132 2 1 (dk_at dksX1_led_2 5 rfl rfl)
theorem dX1_led_52 : decode cX1_led 52 = .ok (.iinc 3 1, 3) := dk_132 3 1 (dk_at dksX1_led_2 8 rfl rfl)
theorem dX1_led_55 : decode cX1_led 55 = .ok (.goto (-51), 3) := dk_167 255 205 (dk_at dksX1_led_2 11 rfl rfl)
theorem dX1_led_58 : decode cX1_led 58 = .ok (.new 438, 3) := dk_187 1 182 (dk_at dksX1_led_2 14 rfl rfl)
theorem dX1_led_61 : decode cX1_led 61 = .ok (.dup, 1) := dk_89 (dk_at dksX1_led_2 17 rfl rfl)
theorem dX1_led_62 : decode cX1_led 62 = .ok (.invokespecial 440, 3) := dk_183 1 184 (dk_at dksX1_led_2 18 rfl rfl)
theorem dX1_led_65 : decode cX1_led 65 = .ok (.athrow, 1) := dk_191 (dk_at dksX1_led_2 21 rfl rfl)
theorem q131 : (Jvm.Cond.initialized "WhalePost") ∈ lw_all := lw_g (lw_at lw_m1 1 rfl) rfl
theorem q165 : (Jvm.Cond.instantiable "WhalePost" (20 : Nat)) ∈ lw_all := lw_g (lw_at lw_m1 35 rfl) rfl
theorem q167 : (Jvm.Cond.instanceMethod ({ cls := "WhalePost", name := "<init>", desc := "()V" } : Jvm.MethodName)) ∈ lw_all := lw_g (lw_at lw_m1 37 rfl) rfl
theorem q168 : (Jvm.Cond.code ({ cls := "WhalePost", name := "<init>", desc := "()V" } : Jvm.MethodName) prog_1_method_1_code (1 : Nat) (Option.none : Option Jvm.ClassFile.FieldType)) ∈ lw_all := lw_g (lw_at lw_m1 38 rfl) rfl
theorem q169 : (Jvm.Cond.methodLink "WhalePost" (1 : Nat) ({ cls := "java/lang/Object", name := "<init>", desc := "()V" } : Jvm.MethodName)) ∈ lw_all := lw_g (lw_at lw_m1 39 rfl) rfl
theorem q172 : (Jvm.Cond.classLink "WhalePost" (17 : Nat) "java/util/ArrayList") ∈ lw_all := lw_g (lw_at lw_m1 42 rfl) rfl
theorem q174 : (Jvm.Cond.methodLink "WhalePost" (19 : Nat) ({ cls := "java/util/ArrayList", name := "<init>", desc := "()V" } : Jvm.MethodName)) ∈ lw_all := lw_g (lw_at lw_m1 44 rfl) rfl
theorem q199 : (Jvm.Cond.fieldLink "WhalePost" (9 : Nat) "WhalePost" "tape" "[B") ∈ lw_all := lw_g (lw_at lw_m1 69 rfl) rfl
theorem q200 : (Jvm.Cond.fieldLink "WhalePost" (76 : Nat) "WhalePost" "taped" "I") ∈ lw_all := lw_g (lw_at lw_m1 70 rfl) rfl
theorem q201 : (Jvm.Cond.fieldLink "WhalePost" (100 : Nat) "WhalePost" "fault" "I") ∈ lw_all := lw_g (lw_at lw_m1 71 rfl) rfl
theorem q202 : (Jvm.Cond.fieldLink "WhalePost" (13 : Nat) "WhalePost" "where" "I") ∈ lw_all := lw_g (lw_at lw_m1 72 rfl) rfl
theorem q203 : (Jvm.Cond.fieldLink "WhalePost" (62 : Nat) "WhalePost" "trouble" "I") ∈ lw_all := lw_g (lw_at lw_m1 73 rfl) rfl
theorem q204 : (Jvm.Cond.fieldLink "WhalePost" (104 : Nat) "WhalePost" "post" "LWhalePost$Post;") ∈ lw_all := lw_g (lw_at lw_m1 74 rfl) rfl
theorem q205 : (Jvm.Cond.fieldLink "WhalePost" (111 : Nat) "WhalePost" "desk" "LWhalePost$Desk;") ∈ lw_all := lw_g (lw_at lw_m1 75 rfl) rfl
theorem q206 : (Jvm.Cond.fieldLink "WhalePost" (20 : Nat) "WhalePost" "past" "Ljava/util/ArrayList;") ∈ lw_all := lw_g (lw_at lw_m1 76 rfl) rfl
theorem q207 : (Jvm.Cond.fieldLink "WhalePost" (24 : Nat) "WhalePost" "images" "Ljava/util/ArrayList;") ∈ lw_all := lw_g (lw_at lw_m1 77 rfl) rfl
theorem q208 : (Jvm.Cond.fieldLink "WhalePost" (27 : Nat) "WhalePost" "taken" "[I") ∈ lw_all := lw_g (lw_at lw_m1 78 rfl) rfl
theorem q209 : (Jvm.Cond.fieldLink "WhalePost" (31 : Nat) "WhalePost" "row" "[I") ∈ lw_all := lw_g (lw_at lw_m1 79 rfl) rfl
theorem q210 : (Jvm.Cond.fieldLink "WhalePost" (34 : Nat) "WhalePost" "days" "[I") ∈ lw_all := lw_g (lw_at lw_m1 80 rfl) rfl
theorem q211 : (Jvm.Cond.fieldLink "WhalePost" (37 : Nat) "WhalePost" "then" "[I") ∈ lw_all := lw_g (lw_at lw_m1 81 rfl) rfl
theorem q212 : (Jvm.Cond.fieldLink "WhalePost" (40 : Nat) "WhalePost" "worth" "[J") ∈ lw_all := lw_g (lw_at lw_m1 82 rfl) rfl
theorem q213 : (Jvm.Cond.fieldLink "WhalePost" (44 : Nat) "WhalePost" "chosen" "[I") ∈ lw_all := lw_g (lw_at lw_m1 83 rfl) rfl
theorem q214 : (Jvm.Cond.fieldLink "WhalePost" (47 : Nat) "WhalePost" "brought" "[I") ∈ lw_all := lw_g (lw_at lw_m1 84 rfl) rfl
theorem q215 : (Jvm.Cond.fieldLink "WhalePost" (367 : Nat) "WhalePost" "island" "I") ∈ lw_all := lw_g (lw_at lw_m1 85 rfl) rfl
theorem q216 : (Jvm.Cond.fieldLink "WhalePost" (370 : Nat) "WhalePost" "since" "I") ∈ lw_all := lw_g (lw_at lw_m1 86 rfl) rfl
theorem q217 : (Jvm.Cond.fieldLink "WhalePost" (50 : Nat) "WhalePost" "fa\x72" "[I") ∈ lw_all := lw_g (lw_at lw_m1 87 rfl) rfl
theorem q218 : (Jvm.Cond.fieldLink "WhalePost" (53 : Nat) "WhalePost" "rest" "[I") ∈ lw_all := lw_g (lw_at lw_m1 88 rfl) rfl
theorem q219 : (Jvm.Cond.laysFinal "WhalePost" "WhalePost" "tape" "[B") ∈ lw_all := lw_g (lw_at lw_m1 89 rfl) rfl
theorem q220 : (Jvm.Cond.soleField "WhalePost" "tape") ∈ lw_all := lw_g (lw_at lw_m1 90 rfl) rfl
theorem q221 : (Jvm.Cond.lays "WhalePost" "WhalePost" "taped" "I") ∈ lw_all := lw_g (lw_at lw_m1 91 rfl) rfl
theorem q222 : (Jvm.Cond.soleField "WhalePost" "taped") ∈ lw_all := lw_g (lw_at lw_m1 92 rfl) rfl
theorem q223 : (Jvm.Cond.lays "WhalePost" "WhalePost" "fault" "I") ∈ lw_all := lw_g (lw_at lw_m1 93 rfl) rfl
theorem q224 : (Jvm.Cond.soleField "WhalePost" "fault") ∈ lw_all := lw_g (lw_at lw_m1 94 rfl) rfl
theorem q225 : (Jvm.Cond.lays "WhalePost" "WhalePost" "where" "I") ∈ lw_all := lw_g (lw_at lw_m1 95 rfl) rfl
theorem q226 : (Jvm.Cond.soleField "WhalePost" "where") ∈ lw_all := lw_g (lw_at lw_m1 96 rfl) rfl
theorem q227 : (Jvm.Cond.lays "WhalePost" "WhalePost" "trouble" "I") ∈ lw_all := lw_g (lw_at lw_m1 97 rfl) rfl
theorem q228 : (Jvm.Cond.soleField "WhalePost" "trouble") ∈ lw_all := lw_g (lw_at lw_m1 98 rfl) rfl
theorem q229 : (Jvm.Cond.lays "WhalePost" "WhalePost" "post" "LWhalePost$Post;") ∈ lw_all := lw_g (lw_at lw_m1 99 rfl) rfl
theorem q230 : (Jvm.Cond.soleField "WhalePost" "post") ∈ lw_all := lw_g (lw_at lw_m1 100 rfl) rfl
theorem q231 : (Jvm.Cond.lays "WhalePost" "WhalePost" "desk" "LWhalePost$Desk;") ∈ lw_all := lw_g (lw_at lw_m1 101 rfl) rfl
theorem q232 : (Jvm.Cond.soleField "WhalePost" "desk") ∈ lw_all := lw_g (lw_at lw_m1 102 rfl) rfl
theorem q233 : (Jvm.Cond.laysFinal "WhalePost" "WhalePost" "past" "Ljava/util/ArrayList;") ∈ lw_all := lw_g (lw_at lw_m1 103 rfl) rfl
theorem q234 : (Jvm.Cond.soleField "WhalePost" "past") ∈ lw_all := lw_g (lw_at lw_m1 104 rfl) rfl
theorem q235 : (Jvm.Cond.laysFinal "WhalePost" "WhalePost" "images" "Ljava/util/ArrayList;") ∈ lw_all := lw_g (lw_at lw_m1 105 rfl) rfl
theorem q236 : (Jvm.Cond.soleField "WhalePost" "images") ∈ lw_all := lw_g (lw_at lw_m1 106 rfl) rfl
theorem q237 : (Jvm.Cond.laysFinal "WhalePost" "WhalePost" "taken" "[I") ∈ lw_all := lw_g (lw_at lw_m1 107 rfl) rfl
theorem q238 : (Jvm.Cond.soleField "WhalePost" "taken") ∈ lw_all := lw_g (lw_at lw_m1 108 rfl) rfl
theorem q239 : (Jvm.Cond.laysFinal "WhalePost" "WhalePost" "row" "[I") ∈ lw_all := lw_g (lw_at lw_m1 109 rfl) rfl
theorem q240 : (Jvm.Cond.soleField "WhalePost" "row") ∈ lw_all := lw_g (lw_at lw_m1 110 rfl) rfl
theorem q241 : (Jvm.Cond.laysFinal "WhalePost" "WhalePost" "days" "[I") ∈ lw_all := lw_g (lw_at lw_m1 111 rfl) rfl
theorem q242 : (Jvm.Cond.soleField "WhalePost" "days") ∈ lw_all := lw_g (lw_at lw_m1 112 rfl) rfl
theorem q243 : (Jvm.Cond.laysFinal "WhalePost" "WhalePost" "then" "[I") ∈ lw_all := lw_g (lw_at lw_m1 113 rfl) rfl
theorem q244 : (Jvm.Cond.soleField "WhalePost" "then") ∈ lw_all := lw_g (lw_at lw_m1 114 rfl) rfl
theorem q245 : (Jvm.Cond.laysFinal "WhalePost" "WhalePost" "worth" "[J") ∈ lw_all := lw_g (lw_at lw_m1 115 rfl) rfl
theorem q246 : (Jvm.Cond.soleField "WhalePost" "worth") ∈ lw_all := lw_g (lw_at lw_m1 116 rfl) rfl
theorem q247 : (Jvm.Cond.laysFinal "WhalePost" "WhalePost" "chosen" "[I") ∈ lw_all := lw_g (lw_at lw_m1 117 rfl) rfl
theorem q248 : (Jvm.Cond.soleField "WhalePost" "chosen") ∈ lw_all := lw_g (lw_at lw_m1 118 rfl) rfl
theorem q249 : (Jvm.Cond.laysFinal "WhalePost" "WhalePost" "brought" "[I") ∈ lw_all := lw_g (lw_at lw_m1 119 rfl) rfl
theorem q250 : (Jvm.Cond.soleField "WhalePost" "brought") ∈ lw_all := lw_g (lw_at lw_m1 120 rfl) rfl
theorem q251 : (Jvm.Cond.lays "WhalePost" "WhalePost" "island" "I") ∈ lw_all := lw_g (lw_at lw_m1 121 rfl) rfl
theorem q252 : (Jvm.Cond.soleField "WhalePost" "island") ∈ lw_all := lw_g (lw_at lw_m1 122 rfl) rfl
theorem q253 : (Jvm.Cond.lays "WhalePost" "WhalePost" "since" "I") ∈ lw_all := lw_g (lw_at lw_m1 123 rfl) rfl
theorem q254 : (Jvm.Cond.soleField "WhalePost" "since") ∈ lw_all := lw_g (lw_at lw_m1 124 rfl) rfl
theorem q255 : (Jvm.Cond.laysFinal "WhalePost" "WhalePost" "fa\x72" "[I") ∈ lw_all := lw_g (lw_at lw_m1 125 rfl) rfl
theorem q256 : (Jvm.Cond.soleField "WhalePost" "fa\x72") ∈ lw_all := lw_g (lw_at lw_m1 126 rfl) rfl
theorem q257 : (Jvm.Cond.laysFinal "WhalePost" "WhalePost" "rest" "[I") ∈ lw_all := lw_g (lw_at lw_m1 127 rfl) rfl
theorem q258 : (Jvm.Cond.soleField "WhalePost" "rest") ∈ lw_all := lw_g (lw_at lw_m1 128 rfl) rfl
theorem q259 : (Jvm.Cond.superclass "WhalePost" "java/lang/Object") ∈ lw_all := lw_g (lw_at lw_m1 129 rfl) rfl
theorem q263 : (Jvm.Cond.instanceMethod ({ cls := "WhalePost", name := "feed", desc := "(IIIII)I" } : Jvm.MethodName)) ∈ lw_all := lw_g (lw_at lw_m1 133 rfl) rfl
theorem q264 : (Jvm.Cond.selects "WhalePost" ({ cls := "WhalePost", name := "feed", desc := "(IIIII)I" } : Jvm.MethodName) ({ cls := "WhalePost", name := "feed", desc := "(IIIII)I" } : Jvm.MethodName)) ∈ lw_all := lw_g (lw_at lw_m1 134 rfl) rfl
theorem q265 : (Jvm.Cond.code ({ cls := "WhalePost", name := "feed", desc := "(IIIII)I" } : Jvm.MethodName) prog_1_method_12_code (8 : Nat) (Option.some Jvm.ClassFile.FieldType.int)) ∈ lw_all := lw_g (lw_at lw_m1 135 rfl) rfl
theorem q267 : (Jvm.Cond.instanceMethod ({ cls := "WhalePost", name := "post", desc := "(I)I" } : Jvm.MethodName)) ∈ lw_all := lw_g (lw_at lw_m1 137 rfl) rfl
theorem q268 : (Jvm.Cond.selects "WhalePost" ({ cls := "WhalePost", name := "post", desc := "(I)I" } : Jvm.MethodName) ({ cls := "WhalePost", name := "post", desc := "(I)I" } : Jvm.MethodName)) ∈ lw_all := lw_g (lw_at lw_m1 138 rfl) rfl
theorem q269 : (Jvm.Cond.code ({ cls := "WhalePost", name := "post", desc := "(I)I" } : Jvm.MethodName) prog_1_method_13_code (4 : Nat) (Option.some Jvm.ClassFile.FieldType.int)) ∈ lw_all := lw_g (lw_at lw_m1 139 rfl) rfl
theorem q270 : (Jvm.Cond.methodLink "WhalePost" (79 : Nat) ({ cls := "WhalePost", name := "in", desc := "(III)Z" } : Jvm.MethodName)) ∈ lw_all := lw_g (lw_at lw_m1 140 rfl) rfl
theorem q271 : (Jvm.Cond.static ({ cls := "WhalePost", name := "in", desc := "(III)Z" } : Jvm.MethodName)) ∈ lw_all := lw_g (lw_at lw_m1 141 rfl) rfl
theorem q272 : (Jvm.Cond.code ({ cls := "WhalePost", name := "in", desc := "(III)Z" } : Jvm.MethodName) prog_1_method_2_code (3 : Nat) (Option.some Jvm.ClassFile.FieldType.boolean)) ∈ lw_all := lw_g (lw_at lw_m1 142 rfl) rfl
theorem q273 : (Jvm.Cond.methodLink "WhalePost" (65 : Nat) ({ cls := "WhalePost", name := "refused", desc := "(I)I" } : Jvm.MethodName)) ∈ lw_all := lw_g (lw_at lw_m1 143 rfl) rfl
theorem q274 : (Jvm.Cond.privateMethod ({ cls := "WhalePost", name := "refused", desc := "(I)I" } : Jvm.MethodName)) ∈ lw_tbl := lw_at lw_m1 144 rfl
theorem q275 : (Jvm.Cond.instanceMethod ({ cls := "WhalePost", name := "refused", desc := "(I)I" } : Jvm.MethodName)) ∈ lw_all := lw_g (lw_at lw_m1 145 rfl) rfl
theorem q276 : (Jvm.Cond.code ({ cls := "WhalePost", name := "refused", desc := "(I)I" } : Jvm.MethodName) prog_1_method_7_code (2 : Nat) (Option.some Jvm.ClassFile.FieldType.int)) ∈ lw_all := lw_g (lw_at lw_m1 146 rfl) rfl
theorem q277 : (Jvm.Cond.classLink "WhalePost" (83 : Nat) "WhalePost$Reade\x72") ∈ lw_all := lw_g (lw_at lw_m1 147 rfl) rfl
theorem q279 : (Jvm.Cond.classLink "WhalePost" (85 : Nat) "WhalePost$Tokens") ∈ lw_all := lw_g (lw_at lw_m1 149 rfl) rfl
theorem q281 : (Jvm.Cond.methodLink "WhalePost" (87 : Nat) ({ cls := "WhalePost$Tokens", name := "<init>", desc := "([BI)V" } : Jvm.MethodName)) ∈ lw_all := lw_g (lw_at lw_m1 151 rfl) rfl
theorem q295 : (Jvm.Cond.methodLink "WhalePost" (90 : Nat) ({ cls := "WhalePost$Reade\x72", name := "<init>", desc := "(LWhalePost$Tokens;)V" } : Jvm.MethodName)) ∈ lw_all := lw_g (lw_at lw_m1 165 rfl) rfl
theorem q309 : (Jvm.Cond.fieldLink "WhalePost" (259 : Nat) "WhalePost$Post" "notes" "I") ∈ lw_all := lw_g (lw_at lw_m1 179 rfl) rfl
theorem q312 : (Jvm.Cond.fieldLink "WhalePost" (256 : Nat) "WhalePost$Post" "errors" "I") ∈ lw_all := lw_g (lw_at lw_m1 182 rfl) rfl
theorem q315 : (Jvm.Cond.fieldLink "WhalePost" (441 : Nat) "WhalePost$Post" "drift" "I") ∈ lw_all := lw_g (lw_at lw_m1 185 rfl) rfl
theorem q317 : (Jvm.Cond.fieldLink "WhalePost" (411 : Nat) "WhalePost$Post" "slip" "I") ∈ lw_all := lw_g (lw_at lw_m1 187 rfl) rfl
theorem q321 : (Jvm.Cond.fieldLink "WhalePost" (122 : Nat) "WhalePost$Post" "islands" "Ljava/util/ArrayList;") ∈ lw_all := lw_g (lw_at lw_m1 191 rfl) rfl
theorem q324 : (Jvm.Cond.fieldLink "WhalePost" (226 : Nat) "WhalePost$Post" "ways" "Ljava/util/ArrayList;") ∈ lw_all := lw_g (lw_at lw_m1 194 rfl) rfl
theorem q327 : (Jvm.Cond.fieldLink "WhalePost" (131 : Nat) "WhalePost$Post" "whales" "Ljava/util/ArrayList;") ∈ lw_all := lw_g (lw_at lw_m1 197 rfl) rfl
theorem q331 : (Jvm.Cond.fieldLink "WhalePost" (134 : Nat) "WhalePost$Post" "boxes" "Ljava/util/ArrayList;") ∈ lw_all := lw_g (lw_at lw_m1 201 rfl) rfl
theorem q335 : (Jvm.Cond.fieldLink "WhalePost" (373 : Nat) "WhalePost$Post" "spouts" "Ljava/util/ArrayList;") ∈ lw_all := lw_g (lw_at lw_m1 205 rfl) rfl
theorem q581 : (Jvm.Cond.fieldLinkNest "WhalePost" (97 : Nat) "WhalePost$Reade\x72" "fault" "I" "WhalePost") ∈ lw_tbl := lw_at lw_m2 211 rfl
theorem q583 : (Jvm.Cond.fieldLinkNest "WhalePost" (101 : Nat) "WhalePost$Reade\x72" "place" "I" "WhalePost") ∈ lw_tbl := lw_at lw_m2 213 rfl
theorem q595 : (Jvm.Cond.methodLink "WhalePost" (93 : Nat) ({ cls := "WhalePost$Reade\x72", name := "read", desc := "()LWhalePost$Post;" } : Jvm.MethodName)) ∈ lw_all := lw_g (lw_at lw_m2 225 rfl) rfl
theorem q817 : (Jvm.Cond.fieldLink "WhalePost" (288 : Nat) "WhalePost$Island" "song" "[I") ∈ lw_all := lw_g (lw_at lw_m3 207 rfl) rfl
theorem q846 : (Jvm.Cond.selects "WhalePost" ({ cls := "java/lang/Object", name := "getClass", desc := "()Ljava/lang/Class;" } : Jvm.MethodName) ({ cls := "java/lang/Object", name := "getClass", desc := "()Ljava/lang/Class;" } : Jvm.MethodName)) ∈ lw_all := lw_g (lw_at lw_m3 236 rfl) rfl
theorem q904 : (Jvm.Cond.fieldLink "WhalePost" (304 : Nat) "WhalePost$Way" "one" "I") ∈ lw_all := lw_g (lw_at lw_m4 54 rfl) rfl
theorem q906 : (Jvm.Cond.fieldLink "WhalePost" (307 : Nat) "WhalePost$Way" "othe\x72" "I") ∈ lw_all := lw_g (lw_at lw_m4 56 rfl) rfl
theorem q908 : (Jvm.Cond.fieldLink "WhalePost" (237 : Nat) "WhalePost$Way" "days" "I") ∈ lw_all := lw_g (lw_at lw_m4 58 rfl) rfl
theorem q947 : (Jvm.Cond.fieldLink "WhalePost" (365 : Nat) "WhalePost$Whale" "at" "I") ∈ lw_all := lw_g (lw_at lw_m4 97 rfl) rfl
theorem q948 : (Jvm.Cond.fieldLink "WhalePost" (162 : Nat) "WhalePost$Whale" "keeps" "I") ∈ lw_all := lw_g (lw_at lw_m4 98 rfl) rfl
theorem q950 : (Jvm.Cond.fieldLink "WhalePost" (165 : Nat) "WhalePost$Whale" "lost" "I") ∈ lw_all := lw_g (lw_at lw_m4 100 rfl) rfl
theorem q1010 : (Jvm.Cond.fieldLink "WhalePost" (175 : Nat) "WhalePost$Box" "from" "I") ∈ lw_all := lw_g (lw_at lw_m4 160 rfl) rfl
theorem q1013 : (Jvm.Cond.fieldLink "WhalePost" (178 : Nat) "WhalePost$Box" "to" "I") ∈ lw_all := lw_g (lw_at lw_m4 163 rfl) rfl
theorem q1015 : (Jvm.Cond.fieldLink "WhalePost" (181 : Nat) "WhalePost$Box" "weighs" "I") ∈ lw_all := lw_g (lw_at lw_m4 165 rfl) rfl
theorem q1017 : (Jvm.Cond.fieldLink "WhalePost" (184 : Nat) "WhalePost$Box" "day" "I") ∈ lw_all := lw_g (lw_at lw_m4 167 rfl) rfl
theorem q1052 : (Jvm.Cond.fieldLink "WhalePost" (378 : Nat) "WhalePost$Spout" "whale" "I") ∈ lw_all := lw_g (lw_at lw_m4 202 rfl) rfl
theorem q1054 : (Jvm.Cond.fieldLink "WhalePost" (381 : Nat) "WhalePost$Spout" "island" "I") ∈ lw_all := lw_g (lw_at lw_m4 204 rfl) rfl
theorem q1057 : (Jvm.Cond.fieldLink "WhalePost" (382 : Nat) "WhalePost$Spout" "day" "I") ∈ lw_all := lw_g (lw_at lw_m4 207 rfl) rfl
theorem q1073 : (Jvm.Cond.classLink "WhalePost" (108 : Nat) "WhalePost$Desk") ∈ lw_all := lw_g (lw_at lw_m4 223 rfl) rfl
theorem q1075 : (Jvm.Cond.methodLinkNest "WhalePost" (110 : Nat) ({ cls := "WhalePost$Desk", name := "<init>", desc := "()V" } : Jvm.MethodName) "WhalePost") ∈ lw_tbl := lw_at lw_m4 225 rfl
theorem q1080 : (Jvm.Cond.fieldLink "WhalePost" (156 : Nat) "WhalePost$Desk" "at" "[I") ∈ lw_all := lw_g (lw_at lw_m4 230 rfl) rfl
theorem q1082 : (Jvm.Cond.fieldLink "WhalePost" (159 : Nat) "WhalePost$Desk" "free" "[I") ∈ lw_all := lw_g (lw_at lw_m4 232 rfl) rfl
theorem q1084 : (Jvm.Cond.fieldLink "WhalePost" (187 : Nat) "WhalePost$Desk" "came" "[I") ∈ lw_all := lw_g (lw_at lw_m4 234 rfl) rfl
theorem q1086 : (Jvm.Cond.fieldLink "WhalePost" (190 : Nat) "WhalePost$Desk" "got" "[I") ∈ lw_all := lw_g (lw_at lw_m4 236 rfl) rfl
theorem q1088 : (Jvm.Cond.fieldLink "WhalePost" (209 : Nat) "WhalePost$Desk" "songs" "[I") ∈ lw_all := lw_g (lw_at lw_m4 238 rfl) rfl
theorem q1090 : (Jvm.Cond.fieldLink "WhalePost" (199 : Nat) "WhalePost$Desk" "yea\x72" "I") ∈ lw_all := lw_g (lw_at lw_m5 0 rfl) rfl
theorem q1092 : (Jvm.Cond.fieldLink "WhalePost" (219 : Nat) "WhalePost$Desk" "closed" "I") ∈ lw_all := lw_g (lw_at lw_m5 2 rfl) rfl
theorem q1108 : (Jvm.Cond.methodLink "WhalePost" (115 : Nat) ({ cls := "WhalePost$Desk", name := "begins", desc := "(LWhalePost$Post;)V" } : Jvm.MethodName)) ∈ lw_all := lw_g (lw_at lw_m5 18 rfl) rfl
theorem q1118 : (Jvm.Cond.methodLink "WhalePost" (119 : Nat) ({ cls := "java/util/ArrayList", name := "clea\x72", desc := "()V" } : Jvm.MethodName)) ∈ lw_all := lw_g (lw_at lw_m5 28 rfl) rfl
theorem q1122 : (Jvm.Cond.methodLink "WhalePost" (127 : Nat) ({ cls := "java/util/ArrayList", name := "size", desc := "()I" } : Jvm.MethodName)) ∈ lw_all := lw_g (lw_at lw_m5 32 rfl) rfl
theorem q1123 : (Jvm.Cond.methodLink "WhalePost" (69 : Nat) ({ cls := "WhalePost", name := "well", desc := "(I)I" } : Jvm.MethodName)) ∈ lw_all := lw_g (lw_at lw_m5 33 rfl) rfl
theorem q1124 : (Jvm.Cond.privateMethod ({ cls := "WhalePost", name := "well", desc := "(I)I" } : Jvm.MethodName)) ∈ lw_tbl := lw_at lw_m5 34 rfl
theorem q1125 : (Jvm.Cond.instanceMethod ({ cls := "WhalePost", name := "well", desc := "(I)I" } : Jvm.MethodName)) ∈ lw_all := lw_g (lw_at lw_m5 35 rfl) rfl
theorem q1126 : (Jvm.Cond.code ({ cls := "WhalePost", name := "well", desc := "(I)I" } : Jvm.MethodName) prog_1_method_9_code (2 : Nat) (Option.some Jvm.ClassFile.FieldType.int)) ∈ lw_all := lw_g (lw_at lw_m5 36 rfl) rfl
theorem q1128 : (Jvm.Cond.instanceMethod ({ cls := "WhalePost", name := "fault", desc := "()I" } : Jvm.MethodName)) ∈ lw_all := lw_g (lw_at lw_m5 38 rfl) rfl
theorem q1129 : (Jvm.Cond.selects "WhalePost" ({ cls := "WhalePost", name := "fault", desc := "()I" } : Jvm.MethodName) ({ cls := "WhalePost", name := "fault", desc := "()I" } : Jvm.MethodName)) ∈ lw_all := lw_g (lw_at lw_m5 39 rfl) rfl
theorem q1130 : (Jvm.Cond.code ({ cls := "WhalePost", name := "fault", desc := "()I" } : Jvm.MethodName) prog_1_method_14_code (1 : Nat) (Option.some Jvm.ClassFile.FieldType.int)) ∈ lw_all := lw_g (lw_at lw_m5 40 rfl) rfl
theorem q1132 : (Jvm.Cond.instanceMethod ({ cls := "WhalePost", name := "where", desc := "()I" } : Jvm.MethodName)) ∈ lw_all := lw_g (lw_at lw_m5 42 rfl) rfl
theorem q1133 : (Jvm.Cond.selects "WhalePost" ({ cls := "WhalePost", name := "where", desc := "()I" } : Jvm.MethodName) ({ cls := "WhalePost", name := "where", desc := "()I" } : Jvm.MethodName)) ∈ lw_all := lw_g (lw_at lw_m5 43 rfl) rfl
theorem q1134 : (Jvm.Cond.code ({ cls := "WhalePost", name := "where", desc := "()I" } : Jvm.MethodName) prog_1_method_15_code (1 : Nat) (Option.some Jvm.ClassFile.FieldType.int)) ∈ lw_all := lw_g (lw_at lw_m5 44 rfl) rfl
theorem q1136 : (Jvm.Cond.instanceMethod ({ cls := "WhalePost", name := "whale", desc := "(II)I" } : Jvm.MethodName)) ∈ lw_all := lw_g (lw_at lw_m5 46 rfl) rfl
theorem q1137 : (Jvm.Cond.selects "WhalePost" ({ cls := "WhalePost", name := "whale", desc := "(II)I" } : Jvm.MethodName) ({ cls := "WhalePost", name := "whale", desc := "(II)I" } : Jvm.MethodName)) ∈ lw_all := lw_g (lw_at lw_m5 47 rfl) rfl
theorem q1138 : (Jvm.Cond.code ({ cls := "WhalePost", name := "whale", desc := "(II)I" } : Jvm.MethodName) prog_1_method_21_code (4 : Nat) (Option.some Jvm.ClassFile.FieldType.int)) ∈ lw_all := lw_g (lw_at lw_m5 48 rfl) rfl
theorem q1139 : (Jvm.Cond.methodLink "WhalePost" (145 : Nat) ({ cls := "WhalePost", name := "isWhale", desc := "(I)Z" } : Jvm.MethodName)) ∈ lw_all := lw_g (lw_at lw_m5 49 rfl) rfl
theorem q1140 : (Jvm.Cond.privateMethod ({ cls := "WhalePost", name := "isWhale", desc := "(I)Z" } : Jvm.MethodName)) ∈ lw_tbl := lw_at lw_m5 50 rfl
theorem q1141 : (Jvm.Cond.instanceMethod ({ cls := "WhalePost", name := "isWhale", desc := "(I)Z" } : Jvm.MethodName)) ∈ lw_all := lw_g (lw_at lw_m5 51 rfl) rfl
theorem q1142 : (Jvm.Cond.code ({ cls := "WhalePost", name := "isWhale", desc := "(I)Z" } : Jvm.MethodName) prog_1_method_17_code (2 : Nat) (Option.some Jvm.ClassFile.FieldType.boolean)) ∈ lw_all := lw_g (lw_at lw_m5 52 rfl) rfl
theorem q1143 : (Jvm.Cond.methodLink "WhalePost" (149 : Nat) ({ cls := "WhalePost", name := "whaleOf", desc := "(I)LWhalePost$Whale;" } : Jvm.MethodName)) ∈ lw_all := lw_g (lw_at lw_m5 53 rfl) rfl
theorem q1144 : (Jvm.Cond.privateMethod ({ cls := "WhalePost", name := "whaleOf", desc := "(I)LWhalePost$Whale;" } : Jvm.MethodName)) ∈ lw_tbl := lw_at lw_m5 54 rfl
theorem q1145 : (Jvm.Cond.instanceMethod ({ cls := "WhalePost", name := "whaleOf", desc := "(I)LWhalePost$Whale;" } : Jvm.MethodName)) ∈ lw_all := lw_g (lw_at lw_m5 55 rfl) rfl
theorem q1146 : (Jvm.Cond.code ({ cls := "WhalePost", name := "whaleOf", desc := "(I)LWhalePost$Whale;" } : Jvm.MethodName) prog_1_method_19_code (2 : Nat) (Option.some (Jvm.ClassFile.FieldType.object "WhalePost$Whale"))) ∈ lw_all := lw_g (lw_at lw_m5 56 rfl) rfl
theorem q1147 : (Jvm.Cond.methodLink "WhalePost" (137 : Nat) ({ cls := "java/util/ArrayList", name := "get", desc := "(I)Ljava/lang/Object;" } : Jvm.MethodName)) ∈ lw_all := lw_g (lw_at lw_m5 57 rfl) rfl
theorem q1148 : (Jvm.Cond.classLink "WhalePost" (141 : Nat) "WhalePost$Whale") ∈ lw_all := lw_g (lw_at lw_m5 58 rfl) rfl
theorem q1149 : (Jvm.Cond.methodLink "WhalePost" (153 : Nat) ({ cls := "WhalePost$Whale", name := "kind", desc := "()I" } : Jvm.MethodName)) ∈ lw_all := lw_g (lw_at lw_m5 59 rfl) rfl
theorem q1164 : (Jvm.Cond.instanceMethod ({ cls := "WhalePost", name := "box", desc := "(II)I" } : Jvm.MethodName)) ∈ lw_all := lw_g (lw_at lw_m5 74 rfl) rfl
theorem q1165 : (Jvm.Cond.selects "WhalePost" ({ cls := "WhalePost", name := "box", desc := "(II)I" } : Jvm.MethodName) ({ cls := "WhalePost", name := "box", desc := "(II)I" } : Jvm.MethodName)) ∈ lw_all := lw_g (lw_at lw_m5 75 rfl) rfl
theorem q1166 : (Jvm.Cond.code ({ cls := "WhalePost", name := "box", desc := "(II)I" } : Jvm.MethodName) prog_1_method_22_code (4 : Nat) (Option.some Jvm.ClassFile.FieldType.int)) ∈ lw_all := lw_g (lw_at lw_m5 76 rfl) rfl
theorem q1167 : (Jvm.Cond.methodLink "WhalePost" (168 : Nat) ({ cls := "WhalePost", name := "isBox", desc := "(I)Z" } : Jvm.MethodName)) ∈ lw_all := lw_g (lw_at lw_m5 77 rfl) rfl
theorem q1168 : (Jvm.Cond.privateMethod ({ cls := "WhalePost", name := "isBox", desc := "(I)Z" } : Jvm.MethodName)) ∈ lw_tbl := lw_at lw_m5 78 rfl
theorem q1169 : (Jvm.Cond.instanceMethod ({ cls := "WhalePost", name := "isBox", desc := "(I)Z" } : Jvm.MethodName)) ∈ lw_all := lw_g (lw_at lw_m5 79 rfl) rfl
theorem q1170 : (Jvm.Cond.code ({ cls := "WhalePost", name := "isBox", desc := "(I)Z" } : Jvm.MethodName) prog_1_method_18_code (2 : Nat) (Option.some Jvm.ClassFile.FieldType.boolean)) ∈ lw_all := lw_g (lw_at lw_m5 80 rfl) rfl
theorem q1171 : (Jvm.Cond.methodLink "WhalePost" (171 : Nat) ({ cls := "WhalePost", name := "boxOf", desc := "(I)LWhalePost$Box;" } : Jvm.MethodName)) ∈ lw_all := lw_g (lw_at lw_m5 81 rfl) rfl
theorem q1172 : (Jvm.Cond.privateMethod ({ cls := "WhalePost", name := "boxOf", desc := "(I)LWhalePost$Box;" } : Jvm.MethodName)) ∈ lw_tbl := lw_at lw_m5 82 rfl
theorem q1173 : (Jvm.Cond.instanceMethod ({ cls := "WhalePost", name := "boxOf", desc := "(I)LWhalePost$Box;" } : Jvm.MethodName)) ∈ lw_all := lw_g (lw_at lw_m5 83 rfl) rfl
theorem q1174 : (Jvm.Cond.code ({ cls := "WhalePost", name := "boxOf", desc := "(I)LWhalePost$Box;" } : Jvm.MethodName) prog_1_method_20_code (2 : Nat) (Option.some (Jvm.ClassFile.FieldType.object "WhalePost$Box"))) ∈ lw_all := lw_g (lw_at lw_m5 84 rfl) rfl
theorem q1175 : (Jvm.Cond.classLink "WhalePost" (143 : Nat) "WhalePost$Box") ∈ lw_all := lw_g (lw_at lw_m5 85 rfl) rfl
theorem q1177 : (Jvm.Cond.instanceMethod ({ cls := "WhalePost", name := "length", desc := "(I)I" } : Jvm.MethodName)) ∈ lw_all := lw_g (lw_at lw_m5 87 rfl) rfl
theorem q1178 : (Jvm.Cond.selects "WhalePost" ({ cls := "WhalePost", name := "length", desc := "(I)I" } : Jvm.MethodName) ({ cls := "WhalePost", name := "length", desc := "(I)I" } : Jvm.MethodName)) ∈ lw_all := lw_g (lw_at lw_m5 88 rfl) rfl
theorem q1179 : (Jvm.Cond.code ({ cls := "WhalePost", name := "length", desc := "(I)I" } : Jvm.MethodName) prog_1_method_23_code (2 : Nat) (Option.some Jvm.ClassFile.FieldType.int)) ∈ lw_all := lw_g (lw_at lw_m5 89 rfl) rfl
theorem q1180 : (Jvm.Cond.methodLink "WhalePost" (193 : Nat) ({ cls := "WhalePost", name := "isIsland", desc := "(I)Z" } : Jvm.MethodName)) ∈ lw_all := lw_g (lw_at lw_m5 90 rfl) rfl
theorem q1181 : (Jvm.Cond.privateMethod ({ cls := "WhalePost", name := "isIsland", desc := "(I)Z" } : Jvm.MethodName)) ∈ lw_tbl := lw_at lw_m5 91 rfl
theorem q1182 : (Jvm.Cond.instanceMethod ({ cls := "WhalePost", name := "isIsland", desc := "(I)Z" } : Jvm.MethodName)) ∈ lw_all := lw_g (lw_at lw_m5 92 rfl) rfl
theorem q1183 : (Jvm.Cond.code ({ cls := "WhalePost", name := "isIsland", desc := "(I)Z" } : Jvm.MethodName) prog_1_method_16_code (2 : Nat) (Option.some Jvm.ClassFile.FieldType.boolean)) ∈ lw_all := lw_g (lw_at lw_m5 93 rfl) rfl
theorem q1184 : (Jvm.Cond.methodLink "WhalePost" (196 : Nat) ({ cls := "WhalePost$Post", name := "length", desc := "(I)I" } : Jvm.MethodName)) ∈ lw_all := lw_g (lw_at lw_m5 94 rfl) rfl
theorem q1186 : (Jvm.Cond.instanceMethod ({ cls := "WhalePost", name := "note", desc := "(II)I" } : Jvm.MethodName)) ∈ lw_all := lw_g (lw_at lw_m5 96 rfl) rfl
theorem q1187 : (Jvm.Cond.selects "WhalePost" ({ cls := "WhalePost", name := "note", desc := "(II)I" } : Jvm.MethodName) ({ cls := "WhalePost", name := "note", desc := "(II)I" } : Jvm.MethodName)) ∈ lw_all := lw_g (lw_at lw_m5 97 rfl) rfl
theorem q1188 : (Jvm.Cond.code ({ cls := "WhalePost", name := "note", desc := "(II)I" } : Jvm.MethodName) prog_1_method_24_code (3 : Nat) (Option.some Jvm.ClassFile.FieldType.int)) ∈ lw_all := lw_g (lw_at lw_m5 98 rfl) rfl
theorem q1189 : (Jvm.Cond.methodLink "WhalePost" (202 : Nat) ({ cls := "WhalePost$Post", name := "note", desc := "(III)I" } : Jvm.MethodName)) ∈ lw_all := lw_g (lw_at lw_m5 99 rfl) rfl
theorem q1191 : (Jvm.Cond.instanceMethod ({ cls := "WhalePost", name := "sung", desc := "(II)I" } : Jvm.MethodName)) ∈ lw_all := lw_g (lw_at lw_m5 101 rfl) rfl
theorem q1192 : (Jvm.Cond.selects "WhalePost" ({ cls := "WhalePost", name := "sung", desc := "(II)I" } : Jvm.MethodName) ({ cls := "WhalePost", name := "sung", desc := "(II)I" } : Jvm.MethodName)) ∈ lw_all := lw_g (lw_at lw_m5 102 rfl) rfl
theorem q1193 : (Jvm.Cond.code ({ cls := "WhalePost", name := "sung", desc := "(II)I" } : Jvm.MethodName) prog_1_method_26_code (3 : Nat) (Option.some Jvm.ClassFile.FieldType.int)) ∈ lw_all := lw_g (lw_at lw_m5 103 rfl) rfl
theorem q1194 : (Jvm.Cond.methodLink "WhalePost" (206 : Nat) ({ cls := "WhalePost", name := "sungNotes", desc := "(I)I" } : Jvm.MethodName)) ∈ lw_all := lw_g (lw_at lw_m5 104 rfl) rfl
theorem q1195 : (Jvm.Cond.privateMethod ({ cls := "WhalePost", name := "sungNotes", desc := "(I)I" } : Jvm.MethodName)) ∈ lw_tbl := lw_at lw_m5 105 rfl
theorem q1196 : (Jvm.Cond.instanceMethod ({ cls := "WhalePost", name := "sungNotes", desc := "(I)I" } : Jvm.MethodName)) ∈ lw_all := lw_g (lw_at lw_m5 106 rfl) rfl
theorem q1197 : (Jvm.Cond.code ({ cls := "WhalePost", name := "sungNotes", desc := "(I)I" } : Jvm.MethodName) prog_1_method_25_code (2 : Nat) (Option.some Jvm.ClassFile.FieldType.int)) ∈ lw_all := lw_g (lw_at lw_m5 107 rfl) rfl
theorem q1199 : (Jvm.Cond.instanceMethod ({ cls := "WhalePost", name := "heard", desc := "(I)I" } : Jvm.MethodName)) ∈ lw_all := lw_g (lw_at lw_m5 109 rfl) rfl
theorem q1200 : (Jvm.Cond.selects "WhalePost" ({ cls := "WhalePost", name := "heard", desc := "(I)I" } : Jvm.MethodName) ({ cls := "WhalePost", name := "heard", desc := "(I)I" } : Jvm.MethodName)) ∈ lw_all := lw_g (lw_at lw_m5 110 rfl) rfl
theorem q1201 : (Jvm.Cond.code ({ cls := "WhalePost", name := "heard", desc := "(I)I" } : Jvm.MethodName) prog_1_method_28_code (2 : Nat) (Option.some Jvm.ClassFile.FieldType.int)) ∈ lw_all := lw_g (lw_at lw_m5 111 rfl) rfl
theorem q1202 : (Jvm.Cond.methodLink "WhalePost" (216 : Nat) ({ cls := "WhalePost", name := "heardNow", desc := "(I)I" } : Jvm.MethodName)) ∈ lw_all := lw_g (lw_at lw_m5 112 rfl) rfl
theorem q1203 : (Jvm.Cond.privateMethod ({ cls := "WhalePost", name := "heardNow", desc := "(I)I" } : Jvm.MethodName)) ∈ lw_tbl := lw_at lw_m5 113 rfl
theorem q1204 : (Jvm.Cond.instanceMethod ({ cls := "WhalePost", name := "heardNow", desc := "(I)I" } : Jvm.MethodName)) ∈ lw_all := lw_g (lw_at lw_m5 114 rfl) rfl
theorem q1205 : (Jvm.Cond.code ({ cls := "WhalePost", name := "heardNow", desc := "(I)I" } : Jvm.MethodName) prog_1_method_27_code (2 : Nat) (Option.some Jvm.ClassFile.FieldType.int)) ∈ lw_all := lw_g (lw_at lw_m5 115 rfl) rfl
theorem q1206 : (Jvm.Cond.methodLink "WhalePost" (212 : Nat) ({ cls := "WhalePost$Post", name := "heard", desc := "([IIII)I" } : Jvm.MethodName)) ∈ lw_all := lw_g (lw_at lw_m5 116 rfl) rfl
theorem q1212 : (Jvm.Cond.instanceMethod ({ cls := "WhalePost", name := "way", desc := "(II)I" } : Jvm.MethodName)) ∈ lw_all := lw_g (lw_at lw_m5 122 rfl) rfl
theorem q1213 : (Jvm.Cond.selects "WhalePost" ({ cls := "WhalePost", name := "way", desc := "(II)I" } : Jvm.MethodName) ({ cls := "WhalePost", name := "way", desc := "(II)I" } : Jvm.MethodName)) ∈ lw_all := lw_g (lw_at lw_m5 123 rfl) rfl
theorem q1214 : (Jvm.Cond.code ({ cls := "WhalePost", name := "way", desc := "(II)I" } : Jvm.MethodName) prog_1_method_30_code (4 : Nat) (Option.some Jvm.ClassFile.FieldType.int)) ∈ lw_all := lw_g (lw_at lw_m5 124 rfl) rfl
theorem q1215 : (Jvm.Cond.classLink "WhalePost" (229 : Nat) "WhalePost$Way") ∈ lw_all := lw_g (lw_at lw_m5 125 rfl) rfl
theorem q1216 : (Jvm.Cond.methodLink "WhalePost" (231 : Nat) ({ cls := "WhalePost$Way", name := "is", desc := "(II)Z" } : Jvm.MethodName)) ∈ lw_all := lw_g (lw_at lw_m5 126 rfl) rfl
theorem q1217 : (Jvm.Cond.methodLink "WhalePost" (234 : Nat) ({ cls := "WhalePost", name := "isClosed", desc := "(I)Z" } : Jvm.MethodName)) ∈ lw_all := lw_g (lw_at lw_m5 127 rfl) rfl
theorem q1218 : (Jvm.Cond.privateMethod ({ cls := "WhalePost", name := "isClosed", desc := "(I)Z" } : Jvm.MethodName)) ∈ lw_tbl := lw_at lw_m5 128 rfl
theorem q1219 : (Jvm.Cond.instanceMethod ({ cls := "WhalePost", name := "isClosed", desc := "(I)Z" } : Jvm.MethodName)) ∈ lw_all := lw_g (lw_at lw_m5 129 rfl) rfl
theorem q1220 : (Jvm.Cond.code ({ cls := "WhalePost", name := "isClosed", desc := "(I)Z" } : Jvm.MethodName) prog_1_method_29_code (2 : Nat) (Option.some Jvm.ClassFile.FieldType.boolean)) ∈ lw_all := lw_g (lw_at lw_m5 130 rfl) rfl
theorem q1221 : (Jvm.Cond.methodLink "WhalePost" (222 : Nat) ({ cls := "WhalePost", name := "has", desc := "(II)Z" } : Jvm.MethodName)) ∈ lw_all := lw_g (lw_at lw_m5 131 rfl) rfl
theorem q1222 : (Jvm.Cond.static ({ cls := "WhalePost", name := "has", desc := "(II)Z" } : Jvm.MethodName)) ∈ lw_all := lw_g (lw_at lw_m5 132 rfl) rfl
theorem q1223 : (Jvm.Cond.code ({ cls := "WhalePost", name := "has", desc := "(II)Z" } : Jvm.MethodName) prog_1_method_3_code (2 : Nat) (Option.some Jvm.ClassFile.FieldType.boolean)) ∈ lw_all := lw_g (lw_at lw_m5 133 rfl) rfl
theorem q1225 : (Jvm.Cond.instanceMethod ({ cls := "WhalePost", name := "season", desc := "(I)I" } : Jvm.MethodName)) ∈ lw_all := lw_g (lw_at lw_m5 135 rfl) rfl
theorem q1226 : (Jvm.Cond.selects "WhalePost" ({ cls := "WhalePost", name := "season", desc := "(I)I" } : Jvm.MethodName) ({ cls := "WhalePost", name := "season", desc := "(I)I" } : Jvm.MethodName)) ∈ lw_all := lw_g (lw_at lw_m5 136 rfl) rfl
theorem q1227 : (Jvm.Cond.code ({ cls := "WhalePost", name := "season", desc := "(I)I" } : Jvm.MethodName) prog_1_method_31_code (2 : Nat) (Option.some Jvm.ClassFile.FieldType.int)) ∈ lw_all := lw_g (lw_at lw_m5 137 rfl) rfl
theorem q1228 : (Jvm.Cond.constant "WhalePost" (239 : Nat) (99999 : Int32)) ∈ lw_all := lw_g (lw_at lw_m5 138 rfl) rfl
theorem q1230 : (Jvm.Cond.instanceMethod ({ cls := "WhalePost", name := "sets", desc := "(III)I" } : Jvm.MethodName)) ∈ lw_all := lw_g (lw_at lw_m5 140 rfl) rfl
theorem q1231 : (Jvm.Cond.selects "WhalePost" ({ cls := "WhalePost", name := "sets", desc := "(III)I" } : Jvm.MethodName) ({ cls := "WhalePost", name := "sets", desc := "(III)I" } : Jvm.MethodName)) ∈ lw_all := lw_g (lw_at lw_m5 141 rfl) rfl
theorem q1232 : (Jvm.Cond.code ({ cls := "WhalePost", name := "sets", desc := "(III)I" } : Jvm.MethodName) prog_1_method_33_code (4 : Nat) (Option.some Jvm.ClassFile.FieldType.int)) ∈ lw_all := lw_g (lw_at lw_m5 142 rfl) rfl
theorem q1233 : (Jvm.Cond.methodLink "WhalePost" (240 : Nat) ({ cls := "WhalePost", name := "isWay", desc := "(I)Z" } : Jvm.MethodName)) ∈ lw_all := lw_g (lw_at lw_m5 143 rfl) rfl
theorem q1234 : (Jvm.Cond.privateMethod ({ cls := "WhalePost", name := "isWay", desc := "(I)Z" } : Jvm.MethodName)) ∈ lw_tbl := lw_at lw_m5 144 rfl
theorem q1235 : (Jvm.Cond.instanceMethod ({ cls := "WhalePost", name := "isWay", desc := "(I)Z" } : Jvm.MethodName)) ∈ lw_all := lw_g (lw_at lw_m5 145 rfl) rfl
theorem q1236 : (Jvm.Cond.code ({ cls := "WhalePost", name := "isWay", desc := "(I)Z" } : Jvm.MethodName) prog_1_method_32_code (2 : Nat) (Option.some Jvm.ClassFile.FieldType.boolean)) ∈ lw_all := lw_g (lw_at lw_m5 146 rfl) rfl
theorem q1237 : (Jvm.Cond.methodLink "WhalePost" (243 : Nat) ({ cls := "WhalePost$Whale", name := "sets", desc := "(LWhalePost$Way;I)I" } : Jvm.MethodName)) ∈ lw_all := lw_g (lw_at lw_m5 147 rfl) rfl
theorem q1257 : (Jvm.Cond.instanceMethod ({ cls := "WhalePost", name := "sent", desc := "(I)I" } : Jvm.MethodName)) ∈ lw_all := lw_g (lw_at lw_m5 167 rfl) rfl
theorem q1258 : (Jvm.Cond.selects "WhalePost" ({ cls := "WhalePost", name := "sent", desc := "(I)I" } : Jvm.MethodName) ({ cls := "WhalePost", name := "sent", desc := "(I)I" } : Jvm.MethodName)) ∈ lw_all := lw_g (lw_at lw_m5 168 rfl) rfl
theorem q1259 : (Jvm.Cond.code ({ cls := "WhalePost", name := "sent", desc := "(I)I" } : Jvm.MethodName) prog_1_method_34_code (4 : Nat) (Option.some Jvm.ClassFile.FieldType.int)) ∈ lw_all := lw_g (lw_at lw_m5 169 rfl) rfl
theorem q1261 : (Jvm.Cond.instanceMethod ({ cls := "WhalePost", name := "apart", desc := "(II)I" } : Jvm.MethodName)) ∈ lw_all := lw_g (lw_at lw_m5 171 rfl) rfl
theorem q1262 : (Jvm.Cond.selects "WhalePost" ({ cls := "WhalePost", name := "apart", desc := "(II)I" } : Jvm.MethodName) ({ cls := "WhalePost", name := "apart", desc := "(II)I" } : Jvm.MethodName)) ∈ lw_all := lw_g (lw_at lw_m5 172 rfl) rfl
theorem q1263 : (Jvm.Cond.code ({ cls := "WhalePost", name := "apart", desc := "(II)I" } : Jvm.MethodName) prog_1_method_35_code (3 : Nat) (Option.some Jvm.ClassFile.FieldType.int)) ∈ lw_all := lw_g (lw_at lw_m5 173 rfl) rfl
theorem q1264 : (Jvm.Cond.methodLink "WhalePost" (247 : Nat) ({ cls := "WhalePost$Post", name := "apart", desc := "(II)I" } : Jvm.MethodName)) ∈ lw_all := lw_g (lw_at lw_m5 174 rfl) rfl
theorem q1269 : (Jvm.Cond.instanceMethod ({ cls := "WhalePost", name := "bea\x72", desc := "()I" } : Jvm.MethodName)) ∈ lw_all := lw_g (lw_at lw_m5 179 rfl) rfl
theorem q1270 : (Jvm.Cond.selects "WhalePost" ({ cls := "WhalePost", name := "bea\x72", desc := "()I" } : Jvm.MethodName) ({ cls := "WhalePost", name := "bea\x72", desc := "()I" } : Jvm.MethodName)) ∈ lw_all := lw_g (lw_at lw_m5 180 rfl) rfl
theorem q1271 : (Jvm.Cond.code ({ cls := "WhalePost", name := "bea\x72", desc := "()I" } : Jvm.MethodName) prog_1_method_36_code (4 : Nat) (Option.some Jvm.ClassFile.FieldType.int)) ∈ lw_all := lw_g (lw_at lw_m5 181 rfl) rfl
theorem q1272 : (Jvm.Cond.methodLink "WhalePost" (251 : Nat) ({ cls := "java/lang/Math", name := "min", desc := "(II)I" } : Jvm.MethodName)) ∈ lw_all := lw_g (lw_at lw_m5 182 rfl) rfl
theorem q1274 : (Jvm.Cond.instanceMethod ({ cls := "WhalePost", name := "mixed", desc := "()I" } : Jvm.MethodName)) ∈ lw_all := lw_g (lw_at lw_m5 184 rfl) rfl
theorem q1275 : (Jvm.Cond.selects "WhalePost" ({ cls := "WhalePost", name := "mixed", desc := "()I" } : Jvm.MethodName) ({ cls := "WhalePost", name := "mixed", desc := "()I" } : Jvm.MethodName)) ∈ lw_all := lw_g (lw_at lw_m5 185 rfl) rfl
theorem q1276 : (Jvm.Cond.code ({ cls := "WhalePost", name := "mixed", desc := "()I" } : Jvm.MethodName) prog_1_method_37_code (4 : Nat) (Option.some Jvm.ClassFile.FieldType.int)) ∈ lw_all := lw_g (lw_at lw_m5 186 rfl) rfl
theorem q1278 : (Jvm.Cond.instanceMethod ({ cls := "WhalePost", name := "fresh", desc := "(II)I" } : Jvm.MethodName)) ∈ lw_all := lw_g (lw_at lw_m5 188 rfl) rfl
theorem q1279 : (Jvm.Cond.selects "WhalePost" ({ cls := "WhalePost", name := "fresh", desc := "(II)I" } : Jvm.MethodName) ({ cls := "WhalePost", name := "fresh", desc := "(II)I" } : Jvm.MethodName)) ∈ lw_all := lw_g (lw_at lw_m5 189 rfl) rfl
theorem q1280 : (Jvm.Cond.code ({ cls := "WhalePost", name := "fresh", desc := "(II)I" } : Jvm.MethodName) prog_1_method_43_code (5 : Nat) (Option.some Jvm.ClassFile.FieldType.int)) ∈ lw_all := lw_g (lw_at lw_m5 190 rfl) rfl
theorem q1281 : (Jvm.Cond.methodLink "WhalePost" (269 : Nat) ({ cls := "WhalePost", name := "refusesSongs", desc := "(II)I" } : Jvm.MethodName)) ∈ lw_all := lw_g (lw_at lw_m5 191 rfl) rfl
theorem q1282 : (Jvm.Cond.privateMethod ({ cls := "WhalePost", name := "refusesSongs", desc := "(II)I" } : Jvm.MethodName)) ∈ lw_tbl := lw_at lw_m5 192 rfl
theorem q1283 : (Jvm.Cond.instanceMethod ({ cls := "WhalePost", name := "refusesSongs", desc := "(II)I" } : Jvm.MethodName)) ∈ lw_all := lw_g (lw_at lw_m5 193 rfl) rfl
theorem q1284 : (Jvm.Cond.code ({ cls := "WhalePost", name := "refusesSongs", desc := "(II)I" } : Jvm.MethodName) prog_1_method_42_code (3 : Nat) (Option.some Jvm.ClassFile.FieldType.int)) ∈ lw_all := lw_g (lw_at lw_m5 194 rfl) rfl
theorem q1285 : (Jvm.Cond.methodLink "WhalePost" (272 : Nat) ({ cls := "WhalePost", name := "powe\x72", desc := "(I)I" } : Jvm.MethodName)) ∈ lw_all := lw_g (lw_at lw_m5 195 rfl) rfl
theorem q1286 : (Jvm.Cond.privateMethod ({ cls := "WhalePost", name := "powe\x72", desc := "(I)I" } : Jvm.MethodName)) ∈ lw_tbl := lw_at lw_m5 196 rfl
theorem q1287 : (Jvm.Cond.instanceMethod ({ cls := "WhalePost", name := "powe\x72", desc := "(I)I" } : Jvm.MethodName)) ∈ lw_all := lw_g (lw_at lw_m5 197 rfl) rfl
theorem q1288 : (Jvm.Cond.code ({ cls := "WhalePost", name := "powe\x72", desc := "(I)I" } : Jvm.MethodName) prog_1_method_38_code (4 : Nat) (Option.some Jvm.ClassFile.FieldType.int)) ∈ lw_all := lw_g (lw_at lw_m5 198 rfl) rfl
theorem q1289 : (Jvm.Cond.methodLink "WhalePost" (275 : Nat) ({ cls := "WhalePost", name := "isNew", desc := "(III)Z" } : Jvm.MethodName)) ∈ lw_all := lw_g (lw_at lw_m5 199 rfl) rfl
theorem q1290 : (Jvm.Cond.privateMethod ({ cls := "WhalePost", name := "isNew", desc := "(III)Z" } : Jvm.MethodName)) ∈ lw_tbl := lw_at lw_m5 200 rfl
theorem q1291 : (Jvm.Cond.instanceMethod ({ cls := "WhalePost", name := "isNew", desc := "(III)Z" } : Jvm.MethodName)) ∈ lw_all := lw_g (lw_at lw_m5 201 rfl) rfl
theorem q1292 : (Jvm.Cond.code ({ cls := "WhalePost", name := "isNew", desc := "(III)Z" } : Jvm.MethodName) prog_1_method_41_code (5 : Nat) (Option.some Jvm.ClassFile.FieldType.boolean)) ∈ lw_all := lw_g (lw_at lw_m5 202 rfl) rfl
theorem q1293 : (Jvm.Cond.methodLink "WhalePost" (262 : Nat) ({ cls := "WhalePost", name := "rows", desc := "(II)V" } : Jvm.MethodName)) ∈ lw_all := lw_g (lw_at lw_m5 203 rfl) rfl
theorem q1294 : (Jvm.Cond.privateMethod ({ cls := "WhalePost", name := "rows", desc := "(II)V" } : Jvm.MethodName)) ∈ lw_tbl := lw_at lw_m5 204 rfl
theorem q1295 : (Jvm.Cond.instanceMethod ({ cls := "WhalePost", name := "rows", desc := "(II)V" } : Jvm.MethodName)) ∈ lw_all := lw_g (lw_at lw_m5 205 rfl) rfl
theorem q1296 : (Jvm.Cond.code ({ cls := "WhalePost", name := "rows", desc := "(II)V" } : Jvm.MethodName) prog_1_method_39_code (5 : Nat) (Option.none : Option Jvm.ClassFile.FieldType)) ∈ lw_all := lw_g (lw_at lw_m5 206 rfl) rfl
theorem q1297 : (Jvm.Cond.methodLink "WhalePost" (266 : Nat) ({ cls := "WhalePost$Post", name := "unlike", desc := "([IIII)I" } : Jvm.MethodName)) ∈ lw_all := lw_g (lw_at lw_m5 207 rfl) rfl
theorem q1299 : (Jvm.Cond.instanceMethod ({ cls := "WhalePost", name := "byTurns", desc := "(II)I" } : Jvm.MethodName)) ∈ lw_all := lw_g (lw_at lw_m5 209 rfl) rfl
theorem q1300 : (Jvm.Cond.selects "WhalePost" ({ cls := "WhalePost", name := "byTurns", desc := "(II)I" } : Jvm.MethodName) ({ cls := "WhalePost", name := "byTurns", desc := "(II)I" } : Jvm.MethodName)) ∈ lw_all := lw_g (lw_at lw_m5 210 rfl) rfl
theorem q1301 : (Jvm.Cond.code ({ cls := "WhalePost", name := "byTurns", desc := "(II)I" } : Jvm.MethodName) prog_1_method_44_code (8 : Nat) (Option.some Jvm.ClassFile.FieldType.int)) ∈ lw_all := lw_g (lw_at lw_m5 211 rfl) rfl
theorem q1302 : (Jvm.Cond.methodLink "WhalePost" (278 : Nat) ({ cls := "WhalePost", name := "unlike", desc := "(II)I" } : Jvm.MethodName)) ∈ lw_all := lw_g (lw_at lw_m5 212 rfl) rfl
theorem q1303 : (Jvm.Cond.privateMethod ({ cls := "WhalePost", name := "unlike", desc := "(II)I" } : Jvm.MethodName)) ∈ lw_tbl := lw_at lw_m5 213 rfl
theorem q1304 : (Jvm.Cond.instanceMethod ({ cls := "WhalePost", name := "unlike", desc := "(II)I" } : Jvm.MethodName)) ∈ lw_all := lw_g (lw_at lw_m5 214 rfl) rfl
theorem q1305 : (Jvm.Cond.code ({ cls := "WhalePost", name := "unlike", desc := "(II)I" } : Jvm.MethodName) prog_1_method_40_code (6 : Nat) (Option.some Jvm.ClassFile.FieldType.int)) ∈ lw_all := lw_g (lw_at lw_m5 215 rfl) rfl
theorem q1307 : (Jvm.Cond.instanceMethod ({ cls := "WhalePost", name := "nea\x72", desc := "(I)I" } : Jvm.MethodName)) ∈ lw_all := lw_g (lw_at lw_m5 217 rfl) rfl
theorem q1308 : (Jvm.Cond.selects "WhalePost" ({ cls := "WhalePost", name := "nea\x72", desc := "(I)I" } : Jvm.MethodName) ({ cls := "WhalePost", name := "nea\x72", desc := "(I)I" } : Jvm.MethodName)) ∈ lw_all := lw_g (lw_at lw_m5 218 rfl) rfl
theorem q1309 : (Jvm.Cond.code ({ cls := "WhalePost", name := "nea\x72", desc := "(I)I" } : Jvm.MethodName) prog_1_method_47_code (2 : Nat) (Option.some Jvm.ClassFile.FieldType.int)) ∈ lw_all := lw_g (lw_at lw_m5 219 rfl) rfl
theorem q1310 : (Jvm.Cond.methodLink "WhalePost" (283 : Nat) ({ cls := "WhalePost", name := "nearest", desc := "(I)I" } : Jvm.MethodName)) ∈ lw_all := lw_g (lw_at lw_m5 220 rfl) rfl
theorem q1311 : (Jvm.Cond.privateMethod ({ cls := "WhalePost", name := "nearest", desc := "(I)I" } : Jvm.MethodName)) ∈ lw_tbl := lw_at lw_m5 221 rfl
theorem q1312 : (Jvm.Cond.instanceMethod ({ cls := "WhalePost", name := "nearest", desc := "(I)I" } : Jvm.MethodName)) ∈ lw_all := lw_g (lw_at lw_m5 222 rfl) rfl
theorem q1313 : (Jvm.Cond.code ({ cls := "WhalePost", name := "nearest", desc := "(I)I" } : Jvm.MethodName) prog_1_method_46_code (4 : Nat) (Option.some Jvm.ClassFile.FieldType.int)) ∈ lw_all := lw_g (lw_at lw_m5 223 rfl) rfl
theorem q1314 : (Jvm.Cond.methodLink "WhalePost" (280 : Nat) ({ cls := "WhalePost", name := "unlikeNow", desc := "(II)I" } : Jvm.MethodName)) ∈ lw_all := lw_g (lw_at lw_m5 224 rfl) rfl
theorem q1315 : (Jvm.Cond.privateMethod ({ cls := "WhalePost", name := "unlikeNow", desc := "(II)I" } : Jvm.MethodName)) ∈ lw_tbl := lw_at lw_m5 225 rfl
theorem q1316 : (Jvm.Cond.instanceMethod ({ cls := "WhalePost", name := "unlikeNow", desc := "(II)I" } : Jvm.MethodName)) ∈ lw_all := lw_g (lw_at lw_m5 226 rfl) rfl
theorem q1317 : (Jvm.Cond.code ({ cls := "WhalePost", name := "unlikeNow", desc := "(II)I" } : Jvm.MethodName) prog_1_method_45_code (3 : Nat) (Option.some Jvm.ClassFile.FieldType.int)) ∈ lw_all := lw_g (lw_at lw_m5 227 rfl) rfl
theorem q1319 : (Jvm.Cond.instanceMethod ({ cls := "WhalePost", name := "asNea\x72", desc := "(I)I" } : Jvm.MethodName)) ∈ lw_all := lw_g (lw_at lw_m5 229 rfl) rfl
theorem q1320 : (Jvm.Cond.selects "WhalePost" ({ cls := "WhalePost", name := "asNea\x72", desc := "(I)I" } : Jvm.MethodName) ({ cls := "WhalePost", name := "asNea\x72", desc := "(I)I" } : Jvm.MethodName)) ∈ lw_all := lw_g (lw_at lw_m5 230 rfl) rfl
theorem q1321 : (Jvm.Cond.code ({ cls := "WhalePost", name := "asNea\x72", desc := "(I)I" } : Jvm.MethodName) prog_1_method_48_code (4 : Nat) (Option.some Jvm.ClassFile.FieldType.int)) ∈ lw_all := lw_g (lw_at lw_m5 231 rfl) rfl
theorem q1323 : (Jvm.Cond.instanceMethod ({ cls := "WhalePost", name := "heardIn", desc := "(II)I" } : Jvm.MethodName)) ∈ lw_all := lw_g (lw_at lw_m5 233 rfl) rfl
theorem q1324 : (Jvm.Cond.selects "WhalePost" ({ cls := "WhalePost", name := "heardIn", desc := "(II)I" } : Jvm.MethodName) ({ cls := "WhalePost", name := "heardIn", desc := "(II)I" } : Jvm.MethodName)) ∈ lw_all := lw_g (lw_at lw_m5 234 rfl) rfl
theorem q1325 : (Jvm.Cond.code ({ cls := "WhalePost", name := "heardIn", desc := "(II)I" } : Jvm.MethodName) prog_1_method_49_code (3 : Nat) (Option.some Jvm.ClassFile.FieldType.int)) ∈ lw_all := lw_g (lw_at lw_m5 235 rfl) rfl
theorem q1327 : (Jvm.Cond.instanceMethod ({ cls := "WhalePost", name := "strange", desc := "(I)I" } : Jvm.MethodName)) ∈ lw_all := lw_g (lw_at lw_m5 237 rfl) rfl
theorem q1328 : (Jvm.Cond.selects "WhalePost" ({ cls := "WhalePost", name := "strange", desc := "(I)I" } : Jvm.MethodName) ({ cls := "WhalePost", name := "strange", desc := "(I)I" } : Jvm.MethodName)) ∈ lw_all := lw_g (lw_at lw_m5 238 rfl) rfl
theorem q1329 : (Jvm.Cond.code ({ cls := "WhalePost", name := "strange", desc := "(I)I" } : Jvm.MethodName) prog_1_method_50_code (3 : Nat) (Option.some Jvm.ClassFile.FieldType.int)) ∈ lw_all := lw_g (lw_at lw_m5 239 rfl) rfl
theorem q1330 : (Jvm.Cond.classLink "WhalePost" (286 : Nat) "WhalePost$Island") ∈ lw_all := lw_g (lw_at lw_m6 0 rfl) rfl
theorem q1332 : (Jvm.Cond.instanceMethod ({ cls := "WhalePost", name := "arrival", desc := "(IIII)I" } : Jvm.MethodName)) ∈ lw_all := lw_g (lw_at lw_m6 2 rfl) rfl
theorem q1333 : (Jvm.Cond.selects "WhalePost" ({ cls := "WhalePost", name := "arrival", desc := "(IIII)I" } : Jvm.MethodName) ({ cls := "WhalePost", name := "arrival", desc := "(IIII)I" } : Jvm.MethodName)) ∈ lw_all := lw_g (lw_at lw_m6 3 rfl) rfl
theorem q1334 : (Jvm.Cond.code ({ cls := "WhalePost", name := "arrival", desc := "(IIII)I" } : Jvm.MethodName) prog_1_method_54_code (5 : Nat) (Option.some Jvm.ClassFile.FieldType.int)) ∈ lw_all := lw_g (lw_at lw_m6 4 rfl) rfl
theorem q1335 : (Jvm.Cond.methodLink "WhalePost" (318 : Nat) ({ cls := "WhalePost", name := "arrives", desc := "(LWhalePost$Whale;III)I" } : Jvm.MethodName)) ∈ lw_all := lw_g (lw_at lw_m6 5 rfl) rfl
theorem q1336 : (Jvm.Cond.privateMethod ({ cls := "WhalePost", name := "arrives", desc := "(LWhalePost$Whale;III)I" } : Jvm.MethodName)) ∈ lw_tbl := lw_at lw_m6 6 rfl
theorem q1337 : (Jvm.Cond.instanceMethod ({ cls := "WhalePost", name := "arrives", desc := "(LWhalePost$Whale;III)I" } : Jvm.MethodName)) ∈ lw_all := lw_g (lw_at lw_m6 7 rfl) rfl
theorem q1338 : (Jvm.Cond.code ({ cls := "WhalePost", name := "arrives", desc := "(LWhalePost$Whale;III)I" } : Jvm.MethodName) prog_1_method_53_code (5 : Nat) (Option.some Jvm.ClassFile.FieldType.int)) ∈ lw_all := lw_g (lw_at lw_m6 8 rfl) rfl
theorem q1339 : (Jvm.Cond.methodLink "WhalePost" (315 : Nat) ({ cls := "WhalePost", name := "goes", desc := "(LWhalePost$Whale;II)V" } : Jvm.MethodName)) ∈ lw_all := lw_g (lw_at lw_m6 9 rfl) rfl
theorem q1340 : (Jvm.Cond.privateMethod ({ cls := "WhalePost", name := "goes", desc := "(LWhalePost$Whale;II)V" } : Jvm.MethodName)) ∈ lw_tbl := lw_at lw_m6 10 rfl
theorem q1341 : (Jvm.Cond.instanceMethod ({ cls := "WhalePost", name := "goes", desc := "(LWhalePost$Whale;II)V" } : Jvm.MethodName)) ∈ lw_all := lw_g (lw_at lw_m6 11 rfl) rfl
theorem q1342 : (Jvm.Cond.code ({ cls := "WhalePost", name := "goes", desc := "(LWhalePost$Whale;II)V" } : Jvm.MethodName) prog_1_method_51_code (7 : Nat) (Option.none : Option Jvm.ClassFile.FieldType)) ∈ lw_all := lw_g (lw_at lw_m6 12 rfl) rfl
theorem q1343 : (Jvm.Cond.constant "WhalePost" (291 : Nat) (9999999 : Int32)) ∈ lw_all := lw_g (lw_at lw_m6 13 rfl) rfl
theorem q1344 : (Jvm.Cond.methodLink "WhalePost" (292 : Nat) ({ cls := "WhalePost$Whale", name := "ways", desc := "()I" } : Jvm.MethodName)) ∈ lw_all := lw_g (lw_at lw_m6 14 rfl) rfl
theorem q1354 : (Jvm.Cond.methodLink "WhalePost" (294 : Nat) ({ cls := "java/lang/System", name := "arraycopy", desc := "(Ljava/lang/Object;ILjava/lang/Object;II)V" } : Jvm.MethodName)) ∈ lw_all := lw_g (lw_at lw_m6 24 rfl) rfl
theorem q1355 : (Jvm.Cond.methodLink "WhalePost" (300 : Nat) ({ cls := "WhalePost", name := "goesBy", desc := "(LWhalePost$Whale;LWhalePost$Way;)Z" } : Jvm.MethodName)) ∈ lw_all := lw_g (lw_at lw_m6 25 rfl) rfl
theorem q1356 : (Jvm.Cond.privateMethod ({ cls := "WhalePost", name := "goesBy", desc := "(LWhalePost$Whale;LWhalePost$Way;)Z" } : Jvm.MethodName)) ∈ lw_tbl := lw_at lw_m6 26 rfl
theorem q1357 : (Jvm.Cond.instanceMethod ({ cls := "WhalePost", name := "goesBy", desc := "(LWhalePost$Whale;LWhalePost$Way;)Z" } : Jvm.MethodName)) ∈ lw_all := lw_g (lw_at lw_m6 27 rfl) rfl
theorem q1358 : (Jvm.Cond.code ({ cls := "WhalePost", name := "goesBy", desc := "(LWhalePost$Whale;LWhalePost$Way;)Z" } : Jvm.MethodName) prog_1_method_52_code (7 : Nat) (Option.some Jvm.ClassFile.FieldType.boolean)) ∈ lw_all := lw_g (lw_at lw_m6 28 rfl) rfl
theorem q1359 : (Jvm.Cond.methodLink "WhalePost" (310 : Nat) ({ cls := "WhalePost$Whale", name := "goes", desc := "(I)I" } : Jvm.MethodName)) ∈ lw_all := lw_g (lw_at lw_m6 29 rfl) rfl
theorem q1370 : (Jvm.Cond.methodLink "WhalePost" (313 : Nat) ({ cls := "WhalePost$Way", name := "from", desc := "(I)I" } : Jvm.MethodName)) ∈ lw_all := lw_g (lw_at lw_m6 40 rfl) rfl
theorem q1375 : (Jvm.Cond.instanceMethod ({ cls := "WhalePost", name := "brings", desc := "(II)I" } : Jvm.MethodName)) ∈ lw_all := lw_g (lw_at lw_m6 45 rfl) rfl
theorem q1376 : (Jvm.Cond.selects "WhalePost" ({ cls := "WhalePost", name := "brings", desc := "(II)I" } : Jvm.MethodName) ({ cls := "WhalePost", name := "brings", desc := "(II)I" } : Jvm.MethodName)) ∈ lw_all := lw_g (lw_at lw_m6 46 rfl) rfl
theorem q1377 : (Jvm.Cond.code ({ cls := "WhalePost", name := "brings", desc := "(II)I" } : Jvm.MethodName) prog_1_method_58_code (3 : Nat) (Option.some Jvm.ClassFile.FieldType.int)) ∈ lw_all := lw_g (lw_at lw_m6 47 rfl) rfl
theorem q1378 : (Jvm.Cond.methodLink "WhalePost" (334 : Nat) ({ cls := "WhalePost", name := "broughtBy", desc := "(II)I" } : Jvm.MethodName)) ∈ lw_all := lw_g (lw_at lw_m6 48 rfl) rfl
theorem q1379 : (Jvm.Cond.privateMethod ({ cls := "WhalePost", name := "broughtBy", desc := "(II)I" } : Jvm.MethodName)) ∈ lw_tbl := lw_at lw_m6 49 rfl
theorem q1380 : (Jvm.Cond.instanceMethod ({ cls := "WhalePost", name := "broughtBy", desc := "(II)I" } : Jvm.MethodName)) ∈ lw_all := lw_g (lw_at lw_m6 50 rfl) rfl
theorem q1381 : (Jvm.Cond.code ({ cls := "WhalePost", name := "broughtBy", desc := "(II)I" } : Jvm.MethodName) prog_1_method_57_code (4 : Nat) (Option.some Jvm.ClassFile.FieldType.int)) ∈ lw_all := lw_g (lw_at lw_m6 51 rfl) rfl
theorem q1382 : (Jvm.Cond.methodLink "WhalePost" (331 : Nat) ({ cls := "WhalePost", name := "comes", desc := "(II)I" } : Jvm.MethodName)) ∈ lw_all := lw_g (lw_at lw_m6 52 rfl) rfl
theorem q1383 : (Jvm.Cond.privateMethod ({ cls := "WhalePost", name := "comes", desc := "(II)I" } : Jvm.MethodName)) ∈ lw_tbl := lw_at lw_m6 53 rfl
theorem q1384 : (Jvm.Cond.instanceMethod ({ cls := "WhalePost", name := "comes", desc := "(II)I" } : Jvm.MethodName)) ∈ lw_all := lw_g (lw_at lw_m6 54 rfl) rfl
theorem q1385 : (Jvm.Cond.code ({ cls := "WhalePost", name := "comes", desc := "(II)I" } : Jvm.MethodName) prog_1_method_56_code (4 : Nat) (Option.some Jvm.ClassFile.FieldType.int)) ∈ lw_all := lw_g (lw_at lw_m6 55 rfl) rfl
theorem q1386 : (Jvm.Cond.methodLink "WhalePost" (328 : Nat) ({ cls := "WhalePost", name := "takes", desc := "(II)I" } : Jvm.MethodName)) ∈ lw_all := lw_g (lw_at lw_m6 56 rfl) rfl
theorem q1387 : (Jvm.Cond.privateMethod ({ cls := "WhalePost", name := "takes", desc := "(II)I" } : Jvm.MethodName)) ∈ lw_tbl := lw_at lw_m6 57 rfl
theorem q1388 : (Jvm.Cond.instanceMethod ({ cls := "WhalePost", name := "takes", desc := "(II)I" } : Jvm.MethodName)) ∈ lw_all := lw_g (lw_at lw_m6 58 rfl) rfl
theorem q1389 : (Jvm.Cond.code ({ cls := "WhalePost", name := "takes", desc := "(II)I" } : Jvm.MethodName) prog_1_method_55_code (5 : Nat) (Option.some Jvm.ClassFile.FieldType.int)) ∈ lw_all := lw_g (lw_at lw_m6 59 rfl) rfl
theorem q1390 : (Jvm.Cond.methodLink "WhalePost" (322 : Nat) ({ cls := "WhalePost$Whale", name := "carries", desc := "()I" } : Jvm.MethodName)) ∈ lw_all := lw_g (lw_at lw_m6 60 rfl) rfl
theorem q1402 : (Jvm.Cond.methodLink "WhalePost" (325 : Nat) ({ cls := "java/lang/Math", name := "max", desc := "(II)I" } : Jvm.MethodName)) ∈ lw_all := lw_g (lw_at lw_m6 72 rfl) rfl
theorem q1404 : (Jvm.Cond.instanceMethod ({ cls := "WhalePost", name := "soonest", desc := "(I)I" } : Jvm.MethodName)) ∈ lw_all := lw_g (lw_at lw_m6 74 rfl) rfl
theorem q1405 : (Jvm.Cond.selects "WhalePost" ({ cls := "WhalePost", name := "soonest", desc := "(I)I" } : Jvm.MethodName) ({ cls := "WhalePost", name := "soonest", desc := "(I)I" } : Jvm.MethodName)) ∈ lw_all := lw_g (lw_at lw_m6 75 rfl) rfl
theorem q1406 : (Jvm.Cond.code ({ cls := "WhalePost", name := "soonest", desc := "(I)I" } : Jvm.MethodName) prog_1_method_59_code (5 : Nat) (Option.some Jvm.ClassFile.FieldType.int)) ∈ lw_all := lw_g (lw_at lw_m6 76 rfl) rfl
theorem q1408 : (Jvm.Cond.instanceMethod ({ cls := "WhalePost", name := "surest", desc := "(I)I" } : Jvm.MethodName)) ∈ lw_all := lw_g (lw_at lw_m6 78 rfl) rfl
theorem q1409 : (Jvm.Cond.selects "WhalePost" ({ cls := "WhalePost", name := "surest", desc := "(I)I" } : Jvm.MethodName) ({ cls := "WhalePost", name := "surest", desc := "(I)I" } : Jvm.MethodName)) ∈ lw_all := lw_g (lw_at lw_m6 79 rfl) rfl
theorem q1410 : (Jvm.Cond.code ({ cls := "WhalePost", name := "surest", desc := "(I)I" } : Jvm.MethodName) prog_1_method_61_code (2 : Nat) (Option.some Jvm.ClassFile.FieldType.int)) ∈ lw_all := lw_g (lw_at lw_m6 80 rfl) rfl
theorem q1411 : (Jvm.Cond.methodLink "WhalePost" (337 : Nat) ({ cls := "WhalePost", name := "surestBut", desc := "(II)I" } : Jvm.MethodName)) ∈ lw_all := lw_g (lw_at lw_m6 81 rfl) rfl
theorem q1412 : (Jvm.Cond.privateMethod ({ cls := "WhalePost", name := "surestBut", desc := "(II)I" } : Jvm.MethodName)) ∈ lw_tbl := lw_at lw_m6 82 rfl
theorem q1413 : (Jvm.Cond.instanceMethod ({ cls := "WhalePost", name := "surestBut", desc := "(II)I" } : Jvm.MethodName)) ∈ lw_all := lw_g (lw_at lw_m6 83 rfl) rfl
theorem q1414 : (Jvm.Cond.code ({ cls := "WhalePost", name := "surestBut", desc := "(II)I" } : Jvm.MethodName) prog_1_method_60_code (5 : Nat) (Option.some Jvm.ClassFile.FieldType.int)) ∈ lw_all := lw_g (lw_at lw_m6 84 rfl) rfl
theorem q1416 : (Jvm.Cond.instanceMethod ({ cls := "WhalePost", name := "by", desc := "(II)I" } : Jvm.MethodName)) ∈ lw_all := lw_g (lw_at lw_m6 86 rfl) rfl
theorem q1417 : (Jvm.Cond.selects "WhalePost" ({ cls := "WhalePost", name := "by", desc := "(II)I" } : Jvm.MethodName) ({ cls := "WhalePost", name := "by", desc := "(II)I" } : Jvm.MethodName)) ∈ lw_all := lw_g (lw_at lw_m6 87 rfl) rfl
theorem q1418 : (Jvm.Cond.code ({ cls := "WhalePost", name := "by", desc := "(II)I" } : Jvm.MethodName) prog_1_method_62_code (5 : Nat) (Option.some Jvm.ClassFile.FieldType.int)) ∈ lw_all := lw_g (lw_at lw_m6 88 rfl) rfl
theorem q1420 : (Jvm.Cond.instanceMethod ({ cls := "WhalePost", name := "registered", desc := "(IZ)J" } : Jvm.MethodName)) ∈ lw_all := lw_g (lw_at lw_m6 90 rfl) rfl
theorem q1421 : (Jvm.Cond.selects "WhalePost" ({ cls := "WhalePost", name := "registered", desc := "(IZ)J" } : Jvm.MethodName) ({ cls := "WhalePost", name := "registered", desc := "(IZ)J" } : Jvm.MethodName)) ∈ lw_all := lw_g (lw_at lw_m6 91 rfl) rfl
theorem q1422 : (Jvm.Cond.code ({ cls := "WhalePost", name := "registered", desc := "(IZ)J" } : Jvm.MethodName) prog_1_method_63_code (7 : Nat) (Option.some Jvm.ClassFile.FieldType.long)) ∈ lw_all := lw_g (lw_at lw_m6 92 rfl) rfl
theorem q1423 : (Jvm.Cond.constantLong "WhalePost" (340 : Nat) (100 : Int64)) ∈ lw_all := lw_g (lw_at lw_m6 93 rfl) rfl
theorem q1424 : (Jvm.Cond.constantLong "WhalePost" (342 : Nat) (10000 : Int64)) ∈ lw_all := lw_g (lw_at lw_m6 94 rfl) rfl
theorem q1425 : (Jvm.Cond.methodLink "WhalePost" (344 : Nat) ({ cls := "WhalePost", name := "fraction", desc := "(JJZ)J" } : Jvm.MethodName)) ∈ lw_all := lw_g (lw_at lw_m6 95 rfl) rfl
theorem q1426 : (Jvm.Cond.privateMethod ({ cls := "WhalePost", name := "fraction", desc := "(JJZ)J" } : Jvm.MethodName)) ∈ lw_tbl := lw_at lw_m6 96 rfl
theorem q1427 : (Jvm.Cond.instanceMethod ({ cls := "WhalePost", name := "fraction", desc := "(JJZ)J" } : Jvm.MethodName)) ∈ lw_all := lw_g (lw_at lw_m6 97 rfl) rfl
theorem q1428 : (Jvm.Cond.code ({ cls := "WhalePost", name := "fraction", desc := "(JJZ)J" } : Jvm.MethodName) prog_1_method_11_code (6 : Nat) (Option.some Jvm.ClassFile.FieldType.long)) ∈ lw_all := lw_g (lw_at lw_m6 98 rfl) rfl
theorem q1429 : (Jvm.Cond.methodLink "WhalePost" (72 : Nat) ({ cls := "WhalePost", name := "common", desc := "(JJ)J" } : Jvm.MethodName)) ∈ lw_all := lw_g (lw_at lw_m6 99 rfl) rfl
theorem q1430 : (Jvm.Cond.static ({ cls := "WhalePost", name := "common", desc := "(JJ)J" } : Jvm.MethodName)) ∈ lw_all := lw_g (lw_at lw_m6 100 rfl) rfl
theorem q1431 : (Jvm.Cond.code ({ cls := "WhalePost", name := "common", desc := "(JJ)J" } : Jvm.MethodName) prog_1_method_5_code (10 : Nat) (Option.some Jvm.ClassFile.FieldType.long)) ∈ lw_all := lw_g (lw_at lw_m6 101 rfl) rfl
theorem q1433 : (Jvm.Cond.instanceMethod ({ cls := "WhalePost", name := "match", desc := "()I" } : Jvm.MethodName)) ∈ lw_all := lw_g (lw_at lw_m6 103 rfl) rfl
theorem q1434 : (Jvm.Cond.selects "WhalePost" ({ cls := "WhalePost", name := "match", desc := "()I" } : Jvm.MethodName) ({ cls := "WhalePost", name := "match", desc := "()I" } : Jvm.MethodName)) ∈ lw_all := lw_g (lw_at lw_m6 104 rfl) rfl
theorem q1435 : (Jvm.Cond.code ({ cls := "WhalePost", name := "match", desc := "()I" } : Jvm.MethodName) prog_1_method_68_code (1 : Nat) (Option.some Jvm.ClassFile.FieldType.int)) ∈ lw_all := lw_g (lw_at lw_m6 105 rfl) rfl
theorem q1436 : (Jvm.Cond.methodLink "WhalePost" (362 : Nat) ({ cls := "WhalePost", name := "matched", desc := "(I)I" } : Jvm.MethodName)) ∈ lw_all := lw_g (lw_at lw_m6 106 rfl) rfl
theorem q1437 : (Jvm.Cond.privateMethod ({ cls := "WhalePost", name := "matched", desc := "(I)I" } : Jvm.MethodName)) ∈ lw_tbl := lw_at lw_m6 107 rfl
theorem q1438 : (Jvm.Cond.instanceMethod ({ cls := "WhalePost", name := "matched", desc := "(I)I" } : Jvm.MethodName)) ∈ lw_all := lw_g (lw_at lw_m6 108 rfl) rfl
theorem q1439 : (Jvm.Cond.code ({ cls := "WhalePost", name := "matched", desc := "(I)I" } : Jvm.MethodName) prog_1_method_67_code (6 : Nat) (Option.some Jvm.ClassFile.FieldType.int)) ∈ lw_all := lw_g (lw_at lw_m6 109 rfl) rfl
theorem q1440 : (Jvm.Cond.methodLink "WhalePost" (359 : Nat) ({ cls := "WhalePost", name := "matches", desc := "()V" } : Jvm.MethodName)) ∈ lw_all := lw_g (lw_at lw_m6 110 rfl) rfl
theorem q1441 : (Jvm.Cond.privateMethod ({ cls := "WhalePost", name := "matches", desc := "()V" } : Jvm.MethodName)) ∈ lw_tbl := lw_at lw_m6 111 rfl
theorem q1442 : (Jvm.Cond.instanceMethod ({ cls := "WhalePost", name := "matches", desc := "()V" } : Jvm.MethodName)) ∈ lw_all := lw_g (lw_at lw_m6 112 rfl) rfl
theorem q1443 : (Jvm.Cond.code ({ cls := "WhalePost", name := "matches", desc := "()V" } : Jvm.MethodName) prog_1_method_64_code (4 : Nat) (Option.none : Option Jvm.ClassFile.FieldType)) ∈ lw_all := lw_g (lw_at lw_m6 113 rfl) rfl
theorem q1444 : (Jvm.Cond.methodLink "WhalePost" (348 : Nat) ({ cls := "WhalePost", name := "laysBrought", desc := "(I)V" } : Jvm.MethodName)) ∈ lw_all := lw_g (lw_at lw_m6 114 rfl) rfl
theorem q1445 : (Jvm.Cond.privateMethod ({ cls := "WhalePost", name := "laysBrought", desc := "(I)V" } : Jvm.MethodName)) ∈ lw_tbl := lw_at lw_m6 115 rfl
theorem q1446 : (Jvm.Cond.instanceMethod ({ cls := "WhalePost", name := "laysBrought", desc := "(I)V" } : Jvm.MethodName)) ∈ lw_all := lw_g (lw_at lw_m6 116 rfl) rfl
theorem q1447 : (Jvm.Cond.code ({ cls := "WhalePost", name := "laysBrought", desc := "(I)V" } : Jvm.MethodName) prog_1_method_65_code (3 : Nat) (Option.none : Option Jvm.ClassFile.FieldType)) ∈ lw_all := lw_g (lw_at lw_m6 117 rfl) rfl
theorem q1448 : (Jvm.Cond.methodLink "WhalePost" (352 : Nat) ({ cls := "WhalePost", name := "matchesBox", desc := "(II)V" } : Jvm.MethodName)) ∈ lw_all := lw_g (lw_at lw_m6 118 rfl) rfl
theorem q1449 : (Jvm.Cond.privateMethod ({ cls := "WhalePost", name := "matchesBox", desc := "(II)V" } : Jvm.MethodName)) ∈ lw_tbl := lw_at lw_m6 119 rfl
theorem q1450 : (Jvm.Cond.instanceMethod ({ cls := "WhalePost", name := "matchesBox", desc := "(II)V" } : Jvm.MethodName)) ∈ lw_all := lw_g (lw_at lw_m6 120 rfl) rfl
theorem q1451 : (Jvm.Cond.code ({ cls := "WhalePost", name := "matchesBox", desc := "(II)V" } : Jvm.MethodName) prog_1_method_66_code (10 : Nat) (Option.none : Option Jvm.ClassFile.FieldType)) ∈ lw_all := lw_g (lw_at lw_m6 121 rfl) rfl
theorem q1452 : (Jvm.Cond.constantLong "WhalePost" (355 : Nat) (-1 : Int64)) ∈ lw_all := lw_g (lw_at lw_m6 122 rfl) rfl
theorem q1453 : (Jvm.Cond.constantLong "WhalePost" (357 : Nat) (10000000 : Int64)) ∈ lw_all := lw_g (lw_at lw_m6 123 rfl) rfl
theorem q1455 : (Jvm.Cond.instanceMethod ({ cls := "WhalePost", name := "matchDays", desc := "()I" } : Jvm.MethodName)) ∈ lw_all := lw_g (lw_at lw_m6 125 rfl) rfl
theorem q1456 : (Jvm.Cond.selects "WhalePost" ({ cls := "WhalePost", name := "matchDays", desc := "()I" } : Jvm.MethodName) ({ cls := "WhalePost", name := "matchDays", desc := "()I" } : Jvm.MethodName)) ∈ lw_all := lw_g (lw_at lw_m6 126 rfl) rfl
theorem q1457 : (Jvm.Cond.code ({ cls := "WhalePost", name := "matchDays", desc := "()I" } : Jvm.MethodName) prog_1_method_69_code (2 : Nat) (Option.some Jvm.ClassFile.FieldType.int)) ∈ lw_all := lw_g (lw_at lw_m6 127 rfl) rfl
theorem q1459 : (Jvm.Cond.instanceMethod ({ cls := "WhalePost", name := "matchOf", desc := "(I)I" } : Jvm.MethodName)) ∈ lw_all := lw_g (lw_at lw_m6 129 rfl) rfl
theorem q1460 : (Jvm.Cond.selects "WhalePost" ({ cls := "WhalePost", name := "matchOf", desc := "(I)I" } : Jvm.MethodName) ({ cls := "WhalePost", name := "matchOf", desc := "(I)I" } : Jvm.MethodName)) ∈ lw_all := lw_g (lw_at lw_m6 130 rfl) rfl
theorem q1461 : (Jvm.Cond.code ({ cls := "WhalePost", name := "matchOf", desc := "(I)I" } : Jvm.MethodName) prog_1_method_70_code (2 : Nat) (Option.some Jvm.ClassFile.FieldType.int)) ∈ lw_all := lw_g (lw_at lw_m6 131 rfl) rfl
theorem q1463 : (Jvm.Cond.instanceMethod ({ cls := "WhalePost", name := "meet", desc := "(IIII)I" } : Jvm.MethodName)) ∈ lw_all := lw_g (lw_at lw_m6 133 rfl) rfl
theorem q1464 : (Jvm.Cond.selects "WhalePost" ({ cls := "WhalePost", name := "meet", desc := "(IIII)I" } : Jvm.MethodName) ({ cls := "WhalePost", name := "meet", desc := "(IIII)I" } : Jvm.MethodName)) ∈ lw_all := lw_g (lw_at lw_m6 134 rfl) rfl
theorem q1465 : (Jvm.Cond.code ({ cls := "WhalePost", name := "meet", desc := "(IIII)I" } : Jvm.MethodName) prog_1_method_71_code (8 : Nat) (Option.some Jvm.ClassFile.FieldType.int)) ∈ lw_all := lw_g (lw_at lw_m6 135 rfl) rfl
theorem q1467 : (Jvm.Cond.instanceMethod ({ cls := "WhalePost", name := "fits", desc := "()I" } : Jvm.MethodName)) ∈ lw_all := lw_g (lw_at lw_m6 137 rfl) rfl
theorem q1468 : (Jvm.Cond.selects "WhalePost" ({ cls := "WhalePost", name := "fits", desc := "()I" } : Jvm.MethodName) ({ cls := "WhalePost", name := "fits", desc := "()I" } : Jvm.MethodName)) ∈ lw_all := lw_g (lw_at lw_m6 138 rfl) rfl
theorem q1469 : (Jvm.Cond.code ({ cls := "WhalePost", name := "fits", desc := "()I" } : Jvm.MethodName) prog_1_method_73_code (3 : Nat) (Option.some Jvm.ClassFile.FieldType.int)) ∈ lw_all := lw_g (lw_at lw_m6 139 rfl) rfl
theorem q1470 : (Jvm.Cond.methodLink "WhalePost" (383 : Nat) ({ cls := "WhalePost", name := "isFit", desc := "(I)Z" } : Jvm.MethodName)) ∈ lw_all := lw_g (lw_at lw_m6 140 rfl) rfl
theorem q1471 : (Jvm.Cond.privateMethod ({ cls := "WhalePost", name := "isFit", desc := "(I)Z" } : Jvm.MethodName)) ∈ lw_tbl := lw_at lw_m6 141 rfl
theorem q1472 : (Jvm.Cond.instanceMethod ({ cls := "WhalePost", name := "isFit", desc := "(I)Z" } : Jvm.MethodName)) ∈ lw_all := lw_g (lw_at lw_m6 142 rfl) rfl
theorem q1473 : (Jvm.Cond.code ({ cls := "WhalePost", name := "isFit", desc := "(I)Z" } : Jvm.MethodName) prog_1_method_72_code (5 : Nat) (Option.some Jvm.ClassFile.FieldType.boolean)) ∈ lw_all := lw_g (lw_at lw_m6 143 rfl) rfl
theorem q1474 : (Jvm.Cond.classLink "WhalePost" (376 : Nat) "WhalePost$Spout") ∈ lw_all := lw_g (lw_at lw_m6 144 rfl) rfl
theorem q1476 : (Jvm.Cond.instanceMethod ({ cls := "WhalePost", name := "reach", desc := "(II)I" } : Jvm.MethodName)) ∈ lw_all := lw_g (lw_at lw_m6 146 rfl) rfl
theorem q1477 : (Jvm.Cond.selects "WhalePost" ({ cls := "WhalePost", name := "reach", desc := "(II)I" } : Jvm.MethodName) ({ cls := "WhalePost", name := "reach", desc := "(II)I" } : Jvm.MethodName)) ∈ lw_all := lw_g (lw_at lw_m6 147 rfl) rfl
theorem q1478 : (Jvm.Cond.code ({ cls := "WhalePost", name := "reach", desc := "(II)I" } : Jvm.MethodName) prog_1_method_75_code (3 : Nat) (Option.some Jvm.ClassFile.FieldType.int)) ∈ lw_all := lw_g (lw_at lw_m6 148 rfl) rfl
theorem q1479 : (Jvm.Cond.methodLink "WhalePost" (386 : Nat) ({ cls := "WhalePost", name := "reached", desc := "(II)I" } : Jvm.MethodName)) ∈ lw_all := lw_g (lw_at lw_m6 149 rfl) rfl
theorem q1480 : (Jvm.Cond.privateMethod ({ cls := "WhalePost", name := "reached", desc := "(II)I" } : Jvm.MethodName)) ∈ lw_tbl := lw_at lw_m6 150 rfl
theorem q1481 : (Jvm.Cond.instanceMethod ({ cls := "WhalePost", name := "reached", desc := "(II)I" } : Jvm.MethodName)) ∈ lw_all := lw_g (lw_at lw_m6 151 rfl) rfl
theorem q1482 : (Jvm.Cond.code ({ cls := "WhalePost", name := "reached", desc := "(II)I" } : Jvm.MethodName) prog_1_method_74_code (5 : Nat) (Option.some Jvm.ClassFile.FieldType.int)) ∈ lw_all := lw_g (lw_at lw_m6 152 rfl) rfl
theorem q1484 : (Jvm.Cond.instanceMethod ({ cls := "WhalePost", name := "pie\x72", desc := "(I)I" } : Jvm.MethodName)) ∈ lw_all := lw_g (lw_at lw_m6 154 rfl) rfl
theorem q1485 : (Jvm.Cond.selects "WhalePost" ({ cls := "WhalePost", name := "pie\x72", desc := "(I)I" } : Jvm.MethodName) ({ cls := "WhalePost", name := "pie\x72", desc := "(I)I" } : Jvm.MethodName)) ∈ lw_all := lw_g (lw_at lw_m6 155 rfl) rfl
theorem q1486 : (Jvm.Cond.code ({ cls := "WhalePost", name := "pie\x72", desc := "(I)I" } : Jvm.MethodName) prog_1_method_76_code (7 : Nat) (Option.some Jvm.ClassFile.FieldType.int)) ∈ lw_all := lw_g (lw_at lw_m6 156 rfl) rfl
theorem q1487 : (Jvm.Cond.methodLink "WhalePost" (389 : Nat) ({ cls := "java/lang/Math", name := "abs", desc := "(I)I" } : Jvm.MethodName)) ∈ lw_all := lw_g (lw_at lw_m6 157 rfl) rfl
theorem q1491 : (Jvm.Cond.instanceMethod ({ cls := "WhalePost", name := "watch", desc := "(II)I" } : Jvm.MethodName)) ∈ lw_all := lw_g (lw_at lw_m6 161 rfl) rfl
theorem q1492 : (Jvm.Cond.selects "WhalePost" ({ cls := "WhalePost", name := "watch", desc := "(II)I" } : Jvm.MethodName) ({ cls := "WhalePost", name := "watch", desc := "(II)I" } : Jvm.MethodName)) ∈ lw_all := lw_g (lw_at lw_m6 162 rfl) rfl
theorem q1493 : (Jvm.Cond.code ({ cls := "WhalePost", name := "watch", desc := "(II)I" } : Jvm.MethodName) prog_1_method_78_code (5 : Nat) (Option.some Jvm.ClassFile.FieldType.int)) ∈ lw_all := lw_g (lw_at lw_m6 163 rfl) rfl
theorem q1494 : (Jvm.Cond.methodLink "WhalePost" (392 : Nat) ({ cls := "WhalePost", name := "bits", desc := "(I)I" } : Jvm.MethodName)) ∈ lw_all := lw_g (lw_at lw_m6 164 rfl) rfl
theorem q1495 : (Jvm.Cond.static ({ cls := "WhalePost", name := "bits", desc := "(I)I" } : Jvm.MethodName)) ∈ lw_all := lw_g (lw_at lw_m6 165 rfl) rfl
theorem q1496 : (Jvm.Cond.code ({ cls := "WhalePost", name := "bits", desc := "(I)I" } : Jvm.MethodName) prog_1_method_4_code (3 : Nat) (Option.some Jvm.ClassFile.FieldType.int)) ∈ lw_all := lw_g (lw_at lw_m6 166 rfl) rfl
theorem q1497 : (Jvm.Cond.methodLink "WhalePost" (395 : Nat) ({ cls := "WhalePost", name := "leads", desc := "(III)Z" } : Jvm.MethodName)) ∈ lw_all := lw_g (lw_at lw_m6 167 rfl) rfl
theorem q1498 : (Jvm.Cond.privateMethod ({ cls := "WhalePost", name := "leads", desc := "(III)Z" } : Jvm.MethodName)) ∈ lw_tbl := lw_at lw_m6 168 rfl
theorem q1499 : (Jvm.Cond.instanceMethod ({ cls := "WhalePost", name := "leads", desc := "(III)Z" } : Jvm.MethodName)) ∈ lw_all := lw_g (lw_at lw_m6 169 rfl) rfl
theorem q1500 : (Jvm.Cond.code ({ cls := "WhalePost", name := "leads", desc := "(III)Z" } : Jvm.MethodName) prog_1_method_77_code (8 : Nat) (Option.some Jvm.ClassFile.FieldType.boolean)) ∈ lw_all := lw_g (lw_at lw_m6 170 rfl) rfl
theorem q1502 : (Jvm.Cond.instanceMethod ({ cls := "WhalePost", name := "round", desc := "(I)I" } : Jvm.MethodName)) ∈ lw_all := lw_g (lw_at lw_m6 172 rfl) rfl
theorem q1503 : (Jvm.Cond.selects "WhalePost" ({ cls := "WhalePost", name := "round", desc := "(I)I" } : Jvm.MethodName) ({ cls := "WhalePost", name := "round", desc := "(I)I" } : Jvm.MethodName)) ∈ lw_all := lw_g (lw_at lw_m6 173 rfl) rfl
theorem q1504 : (Jvm.Cond.code ({ cls := "WhalePost", name := "round", desc := "(I)I" } : Jvm.MethodName) prog_1_method_82_code (3 : Nat) (Option.some Jvm.ClassFile.FieldType.int)) ∈ lw_all := lw_g (lw_at lw_m6 174 rfl) rfl
theorem q1505 : (Jvm.Cond.methodLink "WhalePost" (404 : Nat) ({ cls := "WhalePost", name := "rounded", desc := "(I)I" } : Jvm.MethodName)) ∈ lw_all := lw_g (lw_at lw_m6 175 rfl) rfl
theorem q1506 : (Jvm.Cond.privateMethod ({ cls := "WhalePost", name := "rounded", desc := "(I)I" } : Jvm.MethodName)) ∈ lw_tbl := lw_at lw_m6 176 rfl
theorem q1507 : (Jvm.Cond.instanceMethod ({ cls := "WhalePost", name := "rounded", desc := "(I)I" } : Jvm.MethodName)) ∈ lw_all := lw_g (lw_at lw_m6 177 rfl) rfl
theorem q1508 : (Jvm.Cond.code ({ cls := "WhalePost", name := "rounded", desc := "(I)I" } : Jvm.MethodName) prog_1_method_81_code (2 : Nat) (Option.some Jvm.ClassFile.FieldType.int)) ∈ lw_all := lw_g (lw_at lw_m6 178 rfl) rfl
theorem q1509 : (Jvm.Cond.methodLink "WhalePost" (401 : Nat) ({ cls := "WhalePost", name := "rounds", desc := "()V" } : Jvm.MethodName)) ∈ lw_all := lw_g (lw_at lw_m6 179 rfl) rfl
theorem q1510 : (Jvm.Cond.privateMethod ({ cls := "WhalePost", name := "rounds", desc := "()V" } : Jvm.MethodName)) ∈ lw_tbl := lw_at lw_m6 180 rfl
theorem q1511 : (Jvm.Cond.instanceMethod ({ cls := "WhalePost", name := "rounds", desc := "()V" } : Jvm.MethodName)) ∈ lw_all := lw_g (lw_at lw_m6 181 rfl) rfl
theorem q1512 : (Jvm.Cond.code ({ cls := "WhalePost", name := "rounds", desc := "()V" } : Jvm.MethodName) prog_1_method_80_code (7 : Nat) (Option.none : Option Jvm.ClassFile.FieldType)) ∈ lw_all := lw_g (lw_at lw_m6 182 rfl) rfl
theorem q1513 : (Jvm.Cond.methodLink "WhalePost" (398 : Nat) ({ cls := "WhalePost", name := "walks", desc := "()V" } : Jvm.MethodName)) ∈ lw_all := lw_g (lw_at lw_m6 183 rfl) rfl
theorem q1514 : (Jvm.Cond.privateMethod ({ cls := "WhalePost", name := "walks", desc := "()V" } : Jvm.MethodName)) ∈ lw_tbl := lw_at lw_m6 184 rfl
theorem q1515 : (Jvm.Cond.instanceMethod ({ cls := "WhalePost", name := "walks", desc := "()V" } : Jvm.MethodName)) ∈ lw_all := lw_g (lw_at lw_m6 185 rfl) rfl
theorem q1516 : (Jvm.Cond.code ({ cls := "WhalePost", name := "walks", desc := "()V" } : Jvm.MethodName) prog_1_method_79_code (5 : Nat) (Option.none : Option Jvm.ClassFile.FieldType)) ∈ lw_all := lw_g (lw_at lw_m6 186 rfl) rfl
theorem q1518 : (Jvm.Cond.instanceMethod ({ cls := "WhalePost", name := "roundAt", desc := "(II)I" } : Jvm.MethodName)) ∈ lw_all := lw_g (lw_at lw_m6 188 rfl) rfl
theorem q1519 : (Jvm.Cond.selects "WhalePost" ({ cls := "WhalePost", name := "roundAt", desc := "(II)I" } : Jvm.MethodName) ({ cls := "WhalePost", name := "roundAt", desc := "(II)I" } : Jvm.MethodName)) ∈ lw_all := lw_g (lw_at lw_m6 189 rfl) rfl
theorem q1520 : (Jvm.Cond.code ({ cls := "WhalePost", name := "roundAt", desc := "(II)I" } : Jvm.MethodName) prog_1_method_83_code (7 : Nat) (Option.some Jvm.ClassFile.FieldType.int)) ∈ lw_all := lw_g (lw_at lw_m6 190 rfl) rfl
theorem q1522 : (Jvm.Cond.instanceMethod ({ cls := "WhalePost", name := "decade", desc := "(II)I" } : Jvm.MethodName)) ∈ lw_all := lw_g (lw_at lw_m6 192 rfl) rfl
theorem q1523 : (Jvm.Cond.selects "WhalePost" ({ cls := "WhalePost", name := "decade", desc := "(II)I" } : Jvm.MethodName) ({ cls := "WhalePost", name := "decade", desc := "(II)I" } : Jvm.MethodName)) ∈ lw_all := lw_g (lw_at lw_m6 193 rfl) rfl
theorem q1524 : (Jvm.Cond.code ({ cls := "WhalePost", name := "decade", desc := "(II)I" } : Jvm.MethodName) prog_1_method_84_code (9 : Nat) (Option.some Jvm.ClassFile.FieldType.int)) ∈ lw_all := lw_g (lw_at lw_m6 194 rfl) rfl
theorem q1525 : (Jvm.Cond.constant "WhalePost" (407 : Nat) (65536 : Int32)) ∈ lw_all := lw_g (lw_at lw_m6 195 rfl) rfl
theorem q1526 : (Jvm.Cond.methodLink "WhalePost" (408 : Nat) ({ cls := "WhalePost", name := "drawn", desc := "(I)I" } : Jvm.MethodName)) ∈ lw_all := lw_g (lw_at lw_m6 196 rfl) rfl
theorem q1527 : (Jvm.Cond.static ({ cls := "WhalePost", name := "drawn", desc := "(I)I" } : Jvm.MethodName)) ∈ lw_all := lw_g (lw_at lw_m6 197 rfl) rfl
theorem q1528 : (Jvm.Cond.code ({ cls := "WhalePost", name := "drawn", desc := "(I)I" } : Jvm.MethodName) prog_1_method_6_code (1 : Nat) (Option.some Jvm.ClassFile.FieldType.int)) ∈ lw_all := lw_g (lw_at lw_m6 198 rfl) rfl
theorem q1529 : (Jvm.Cond.constantLong "WhalePost" (56 : Nat) (75 : Int64)) ∈ lw_all := lw_g (lw_at lw_m6 199 rfl) rfl
theorem q1530 : (Jvm.Cond.constantLong "WhalePost" (58 : Nat) (74 : Int64)) ∈ lw_all := lw_g (lw_at lw_m6 200 rfl) rfl
theorem q1531 : (Jvm.Cond.constantLong "WhalePost" (60 : Nat) (65537 : Int64)) ∈ lw_all := lw_g (lw_at lw_m6 201 rfl) rfl
theorem q1533 : (Jvm.Cond.instanceMethod ({ cls := "WhalePost", name := "send", desc := "(II)I" } : Jvm.MethodName)) ∈ lw_all := lw_g (lw_at lw_m6 203 rfl) rfl
theorem q1534 : (Jvm.Cond.selects "WhalePost" ({ cls := "WhalePost", name := "send", desc := "(II)I" } : Jvm.MethodName) ({ cls := "WhalePost", name := "send", desc := "(II)I" } : Jvm.MethodName)) ∈ lw_all := lw_g (lw_at lw_m6 204 rfl) rfl
theorem q1535 : (Jvm.Cond.code ({ cls := "WhalePost", name := "send", desc := "(II)I" } : Jvm.MethodName) prog_1_method_86_code (5 : Nat) (Option.some Jvm.ClassFile.FieldType.int)) ∈ lw_all := lw_g (lw_at lw_m6 205 rfl) rfl
theorem q1536 : (Jvm.Cond.methodLink "WhalePost" (425 : Nat) ({ cls := "WhalePost", name := "remembers", desc := "()V" } : Jvm.MethodName)) ∈ lw_all := lw_g (lw_at lw_m6 206 rfl) rfl
theorem q1537 : (Jvm.Cond.privateMethod ({ cls := "WhalePost", name := "remembers", desc := "()V" } : Jvm.MethodName)) ∈ lw_tbl := lw_at lw_m6 207 rfl
theorem q1538 : (Jvm.Cond.instanceMethod ({ cls := "WhalePost", name := "remembers", desc := "()V" } : Jvm.MethodName)) ∈ lw_all := lw_g (lw_at lw_m6 208 rfl) rfl
theorem q1539 : (Jvm.Cond.code ({ cls := "WhalePost", name := "remembers", desc := "()V" } : Jvm.MethodName) prog_1_method_85_code (1 : Nat) (Option.none : Option Jvm.ClassFile.FieldType)) ∈ lw_all := lw_g (lw_at lw_m6 209 rfl) rfl
theorem q1540 : (Jvm.Cond.methodLink "WhalePost" (414 : Nat) ({ cls := "java/util/ArrayList", name := "remove", desc := "(I)Ljava/lang/Object;" } : Jvm.MethodName)) ∈ lw_all := lw_g (lw_at lw_m6 210 rfl) rfl
theorem q1549 : (Jvm.Cond.methodLink "WhalePost" (417 : Nat) ({ cls := "java/util/ArrayList", name := "add", desc := "(Ljava/lang/Object;)Z" } : Jvm.MethodName)) ∈ lw_all := lw_g (lw_at lw_m6 219 rfl) rfl
theorem q1550 : (Jvm.Cond.methodLink "WhalePost" (421 : Nat) ({ cls := "WhalePost$Desk", name := "copy", desc := "()LWhalePost$Desk;" } : Jvm.MethodName)) ∈ lw_all := lw_g (lw_at lw_m6 220 rfl) rfl
theorem q1558 : (Jvm.Cond.instanceMethod ({ cls := "WhalePost", name := "tune", desc := "(III)Z" } : Jvm.MethodName)) ∈ lw_all := lw_g (lw_at lw_m6 228 rfl) rfl
theorem q1559 : (Jvm.Cond.selects "WhalePost" ({ cls := "WhalePost", name := "tune", desc := "(III)Z" } : Jvm.MethodName) ({ cls := "WhalePost", name := "tune", desc := "(III)Z" } : Jvm.MethodName)) ∈ lw_all := lw_g (lw_at lw_m6 229 rfl) rfl
theorem q1560 : (Jvm.Cond.code ({ cls := "WhalePost", name := "tune", desc := "(III)Z" } : Jvm.MethodName) prog_1_method_87_code (4 : Nat) (Option.some Jvm.ClassFile.FieldType.boolean)) ∈ lw_all := lw_g (lw_at lw_m6 230 rfl) rfl
theorem q1561 : (Jvm.Cond.methodLink "WhalePost" (428 : Nat) ({ cls := "WhalePost", name := "denied", desc := "(I)Z" } : Jvm.MethodName)) ∈ lw_all := lw_g (lw_at lw_m6 231 rfl) rfl
theorem q1562 : (Jvm.Cond.privateMethod ({ cls := "WhalePost", name := "denied", desc := "(I)Z" } : Jvm.MethodName)) ∈ lw_tbl := lw_at lw_m6 232 rfl
theorem q1563 : (Jvm.Cond.instanceMethod ({ cls := "WhalePost", name := "denied", desc := "(I)Z" } : Jvm.MethodName)) ∈ lw_all := lw_g (lw_at lw_m6 233 rfl) rfl
theorem q1564 : (Jvm.Cond.code ({ cls := "WhalePost", name := "denied", desc := "(I)Z" } : Jvm.MethodName) prog_1_method_8_code (2 : Nat) (Option.some Jvm.ClassFile.FieldType.boolean)) ∈ lw_all := lw_g (lw_at lw_m6 234 rfl) rfl
theorem q1565 : (Jvm.Cond.methodLink "WhalePost" (431 : Nat) ({ cls := "WhalePost", name := "granted", desc := "()Z" } : Jvm.MethodName)) ∈ lw_all := lw_g (lw_at lw_m6 235 rfl) rfl
theorem q1566 : (Jvm.Cond.privateMethod ({ cls := "WhalePost", name := "granted", desc := "()Z" } : Jvm.MethodName)) ∈ lw_tbl := lw_at lw_m6 236 rfl
theorem q1567 : (Jvm.Cond.instanceMethod ({ cls := "WhalePost", name := "granted", desc := "()Z" } : Jvm.MethodName)) ∈ lw_all := lw_g (lw_at lw_m6 237 rfl) rfl
theorem q1568 : (Jvm.Cond.code ({ cls := "WhalePost", name := "granted", desc := "()Z" } : Jvm.MethodName) prog_1_method_10_code (1 : Nat) (Option.some Jvm.ClassFile.FieldType.boolean)) ∈ lw_all := lw_g (lw_at lw_m6 238 rfl) rfl
theorem q1570 : (Jvm.Cond.instanceMethod ({ cls := "WhalePost", name := "years", desc := "(I)I" } : Jvm.MethodName)) ∈ lw_all := lw_g (lw_at lw_m7 0 rfl) rfl
theorem q1571 : (Jvm.Cond.selects "WhalePost" ({ cls := "WhalePost", name := "years", desc := "(I)I" } : Jvm.MethodName) ({ cls := "WhalePost", name := "years", desc := "(I)I" } : Jvm.MethodName)) ∈ lw_all := lw_g (lw_at lw_m7 1 rfl) rfl
theorem q1572 : (Jvm.Cond.code ({ cls := "WhalePost", name := "years", desc := "(I)I" } : Jvm.MethodName) prog_1_method_88_code (2 : Nat) (Option.some Jvm.ClassFile.FieldType.int)) ∈ lw_all := lw_g (lw_at lw_m7 2 rfl) rfl
theorem q1574 : (Jvm.Cond.instanceMethod ({ cls := "WhalePost", name := "close", desc := "(IZ)Z" } : Jvm.MethodName)) ∈ lw_all := lw_g (lw_at lw_m7 4 rfl) rfl
theorem q1575 : (Jvm.Cond.selects "WhalePost" ({ cls := "WhalePost", name := "close", desc := "(IZ)Z" } : Jvm.MethodName) ({ cls := "WhalePost", name := "close", desc := "(IZ)Z" } : Jvm.MethodName)) ∈ lw_all := lw_g (lw_at lw_m7 5 rfl) rfl
theorem q1576 : (Jvm.Cond.code ({ cls := "WhalePost", name := "close", desc := "(IZ)Z" } : Jvm.MethodName) prog_1_method_89_code (3 : Nat) (Option.some Jvm.ClassFile.FieldType.boolean)) ∈ lw_all := lw_g (lw_at lw_m7 6 rfl) rfl
theorem q1578 : (Jvm.Cond.instanceMethod ({ cls := "WhalePost", name := "undo", desc := "()Z" } : Jvm.MethodName)) ∈ lw_all := lw_g (lw_at lw_m7 8 rfl) rfl
theorem q1579 : (Jvm.Cond.selects "WhalePost" ({ cls := "WhalePost", name := "undo", desc := "()Z" } : Jvm.MethodName) ({ cls := "WhalePost", name := "undo", desc := "()Z" } : Jvm.MethodName)) ∈ lw_all := lw_g (lw_at lw_m7 9 rfl) rfl
theorem q1580 : (Jvm.Cond.code ({ cls := "WhalePost", name := "undo", desc := "()Z" } : Jvm.MethodName) prog_1_method_90_code (1 : Nat) (Option.some Jvm.ClassFile.FieldType.boolean)) ∈ lw_all := lw_g (lw_at lw_m7 10 rfl) rfl
theorem q1581 : (Jvm.Cond.methodLink "WhalePost" (435 : Nat) ({ cls := "java/util/ArrayList", name := "isEmpty", desc := "()Z" } : Jvm.MethodName)) ∈ lw_all := lw_g (lw_at lw_m7 11 rfl) rfl
theorem q1583 : (Jvm.Cond.instanceMethod ({ cls := "WhalePost", name := "image", desc := "()I" } : Jvm.MethodName)) ∈ lw_all := lw_g (lw_at lw_m7 13 rfl) rfl
theorem q1584 : (Jvm.Cond.selects "WhalePost" ({ cls := "WhalePost", name := "image", desc := "()I" } : Jvm.MethodName) ({ cls := "WhalePost", name := "image", desc := "()I" } : Jvm.MethodName)) ∈ lw_all := lw_g (lw_at lw_m7 14 rfl) rfl
theorem q1585 : (Jvm.Cond.code ({ cls := "WhalePost", name := "image", desc := "()I" } : Jvm.MethodName) prog_1_method_91_code (1 : Nat) (Option.some Jvm.ClassFile.FieldType.int)) ∈ lw_all := lw_g (lw_at lw_m7 15 rfl) rfl
theorem q1587 : (Jvm.Cond.instanceMethod ({ cls := "WhalePost", name := "back", desc := "(I)Z" } : Jvm.MethodName)) ∈ lw_all := lw_g (lw_at lw_m7 17 rfl) rfl
theorem q1588 : (Jvm.Cond.selects "WhalePost" ({ cls := "WhalePost", name := "back", desc := "(I)Z" } : Jvm.MethodName) ({ cls := "WhalePost", name := "back", desc := "(I)Z" } : Jvm.MethodName)) ∈ lw_all := lw_g (lw_at lw_m7 18 rfl) rfl
theorem q1589 : (Jvm.Cond.code ({ cls := "WhalePost", name := "back", desc := "(I)Z" } : Jvm.MethodName) prog_1_method_92_code (2 : Nat) (Option.some Jvm.ClassFile.FieldType.boolean)) ∈ lw_all := lw_g (lw_at lw_m7 19 rfl) rfl
theorem q1591 : (Jvm.Cond.instanceMethod ({ cls := "WhalePost", name := "size", desc := "(I)I" } : Jvm.MethodName)) ∈ lw_all := lw_g (lw_at lw_m7 21 rfl) rfl
theorem q1592 : (Jvm.Cond.selects "WhalePost" ({ cls := "WhalePost", name := "size", desc := "(I)I" } : Jvm.MethodName) ({ cls := "WhalePost", name := "size", desc := "(I)I" } : Jvm.MethodName)) ∈ lw_all := lw_g (lw_at lw_m7 22 rfl) rfl
theorem q1593 : (Jvm.Cond.code ({ cls := "WhalePost", name := "size", desc := "(I)I" } : Jvm.MethodName) prog_1_method_94_code (2 : Nat) (Option.some Jvm.ClassFile.FieldType.int)) ∈ lw_all := lw_g (lw_at lw_m7 23 rfl) rfl
theorem q1595 : (Jvm.Cond.instanceMethod ({ cls := "WhalePost", name := "trouble", desc := "()I" } : Jvm.MethodName)) ∈ lw_all := lw_g (lw_at lw_m7 25 rfl) rfl
theorem q1596 : (Jvm.Cond.selects "WhalePost" ({ cls := "WhalePost", name := "trouble", desc := "()I" } : Jvm.MethodName) ({ cls := "WhalePost", name := "trouble", desc := "()I" } : Jvm.MethodName)) ∈ lw_all := lw_g (lw_at lw_m7 26 rfl) rfl
theorem q1597 : (Jvm.Cond.code ({ cls := "WhalePost", name := "trouble", desc := "()I" } : Jvm.MethodName) prog_1_method_95_code (1 : Nat) (Option.some Jvm.ClassFile.FieldType.int)) ∈ lw_all := lw_g (lw_at lw_m7 27 rfl) rfl
theorem q1603 : (Jvm.Cond.instanceMethod ({ cls := "WhalePost", name := "led", desc := "(I)I" } : Jvm.MethodName)) ∈ lw_all := lw_g (lw_at lw_m7 33 rfl) rfl
theorem q1604 : (Jvm.Cond.selects "WhalePost" ({ cls := "WhalePost", name := "led", desc := "(I)I" } : Jvm.MethodName) ({ cls := "WhalePost", name := "led", desc := "(I)I" } : Jvm.MethodName)) ∈ lw_all := lw_g (lw_at lw_m7 34 rfl) rfl
theorem q1605 : (Jvm.Cond.code ({ cls := "WhalePost", name := "led", desc := "(I)I" } : Jvm.MethodName) prog_1_method_93_code (4 : Nat) (Option.some Jvm.ClassFile.FieldType.int)) ∈ lw_all := lw_g (lw_at lw_m7 35 rfl) rfl
theorem q1606 : (Jvm.Cond.classLink "WhalePost" (438 : Nat) "java/util/NoSuchElementException") ∈ lw_all := lw_g (lw_at lw_m7 36 rfl) rfl
theorem q1645 : (Jvm.Cond.methodLink "WhalePost" (440 : Nat) ({ cls := "java/util/NoSuchElementException", name := "<init>", desc := "()V" } : Jvm.MethodName)) ∈ lw_all := lw_g (lw_at lw_m7 75 rfl) rfl
theorem q2316 : (Jvm.Cond.castable "WhalePost" "java/lang/Object") ∈ lw_tbl := lw_at lw_m10 26 rfl
theorem in_X1 : ∀ w ∈ wsX10, w ∈ lw_all := lw_in wsX10 [219, 221, 223, 225, 227, 229, 231, 233, 235, 237, 239, 241, 243, 245, 247, 249, 251, 253, 255, 257] (by decide +kernel) (by decide +kernel)

