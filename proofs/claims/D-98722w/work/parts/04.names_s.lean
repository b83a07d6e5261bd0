/-! WhalePost$Reader -/
set_option maxRecDepth 100000
def RX3 : String := "WhalePost$Reade\x72"
def TX3 : u_T := fun k => match k with
  | 0 => ("WhalePost$Reade\x72", "tokens", "LWhalePost$Tokens;", true)
  | 1 => ("WhalePost$Reade\x72", "post", "LWhalePost$Post;", true)
  | 2 => ("WhalePost$Reade\x72", "now", "LWhalePost$Token;", false)
  | 3 => ("WhalePost$Reade\x72", "fault", "I", false)
  | _ => ("WhalePost$Reade\x72", "place", "I", false)
def tyX3 : Nat → FieldType := fun k => match k with
  | 0 => .object "WhalePost$Tokens"
  | 1 => .object "WhalePost$Post"
  | 2 => .object "WhalePost$Token"
  | 3 => .int
  | _ => .int
abbrev wsX30 : List Cond := u_ws RX3 TX3 5
theorem nmX3 : ∀ a, a < 5 → ∀ b, b < 5 → a ≠ b → (TX3 a).2.1 ≠ (TX3 b).2.1 := by decide +kernel
theorem tyX3_ok : ∀ k, k < 5 → parseFieldDescriptor (TX3 k).2.2.1 = some (tyX3 k) := by decide +kernel
abbrev cX3_init : ByteArray := prog_9_method_1_code
def yX3_init : MethodName := ⟨RX3, "<init>", "(LWhalePost$Tokens;)V"⟩
def dkwX3_init_1 : List UInt8 := [182, 0, 22, 181, 0, 28, 177]
abbrev dktX3_init_1 : List UInt8 := dkwX3_init_1 ++ []
def dkwX3_init_0 : List UInt8 := [42, 183, 0, 3, 42, 187, 0, 9, 89, 183, 0, 11, 181, 0, 12, 42, 43, 181, 0, 18, 42, 43]
abbrev dktX3_init_0 : List UInt8 := dkwX3_init_0 ++ dktX3_init_1
theorem dksX3_init_0 : cX3_init.data.toList.drop 0 = dktX3_init_0 := by decide +kernel
theorem dksX3_init_1 : cX3_init.data.toList.drop 22 = dktX3_init_1 := dk_seg dksX3_init_0 22 rfl rfl
theorem dX3_init_0 : decode cX3_init 0 = .ok (.aload_n 0, 1) := dk_42 (dk_at dksX3_init_0 0 rfl rfl)
theorem dX3_init_1 : decode cX3_init 1 = .ok (.invokespecial 3, 3) := dk_183 0 3 (dk_at dksX3_init_0 1 rfl rfl)
theorem dX3_init_4 : decode cX3_init 4 = .ok (.aload_n 0, 1) := dk_42 (dk_at dksX3_init_0 4 rfl rfl)
theorem dX3_init_5 : decode cX3_init 5 = .ok (.new 9, 3) := dk_187 0 9 (dk_at dksX3_init_0 5 rfl rfl)
theorem dX3_init_8 : decode cX3_init 8 = .ok (.dup, 1) := dk_89 (dk_at dksX3_init_0 8 rfl rfl)
theorem dX3_init_9 : decode cX3_init 9 = .ok (.invokespecial 11, 3) := dk_183 0 11 (dk_at dksX3_init_0 9 rfl rfl)
theorem dX3_init_12 : decode cX3_init 12 = .ok (.putfield 12, 3) := dk_181 0 12 (dk_at dksX3_init_0 12 rfl rfl)
theorem dX3_init_15 : decode cX3_init 15 = .ok (.aload_n 0, 1) := dk_42 (dk_at dksX3_init_0 15 rfl rfl)
theorem dX3_init_16 : decode cX3_init 16 = .ok (.aload_n 1, 1) := dk_43 (dk_at dksX3_init_0 16 rfl rfl)
theorem dX3_init_17 : decode cX3_init 17 = .ok (.putfield 18, 3) := dk_181 0 18 (dk_at dksX3_init_0 17 rfl rfl)
theorem dX3_init_20 : decode cX3_init 20 = .ok (.aload_n 0, 1) := dk_42 (dk_at dksX3_init_0 20 rfl rfl)
theorem dX3_init_21 : decode cX3_init 21 = .ok (.aload_n 1, 1) := dk_43 (dk_at dksX3_init_0 21 rfl rfl)
theorem dX3_init_22 : decode cX3_init 22 = .ok (.invokevirtual 22, 3) := dk_182 0 22 (dk_at dksX3_init_1 0 rfl rfl)
theorem dX3_init_25 : decode cX3_init 25 = .ok (.putfield 28, 3) := dk_181 0 28 (dk_at dksX3_init_1 3 rfl rfl)
theorem dX3_init_28 : decode cX3_init 28 = .ok (.return_, 1) := dk_177 (dk_at dksX3_init_1 6 rfl rfl)
abbrev cX3_read : ByteArray := prog_9_method_13_code
def yX3_read : MethodName := ⟨RX3, "read", "()LWhalePost$Post;"⟩
def dkwX3_read_3 : List UInt8 := [176]
abbrev dktX3_read_3 : List UInt8 := dkwX3_read_3 ++ []
def dkwX3_read_2 : List UInt8 := [153, 0, 9, 42, 16, 6, 182, 0, 56, 42, 182, 0, 36, 153, 0, 7, 1, 167, 0, 7, 42, 180, 0, 12]
abbrev dktX3_read_2 : List UInt8 := dkwX3_read_2 ++ dktX3_read_3
def dkwX3_read_1 : List UInt8 := [182, 0, 56, 42, 180, 0, 12, 180, 0, 101, 153, 0, 16, 42, 180, 0, 12, 180, 0, 104, 182, 0, 108]
abbrev dktX3_read_1 : List UInt8 := dkwX3_read_1 ++ dktX3_read_2
def dkwX3_read_0 : List UInt8 := [42, 182, 0, 95, 42, 182, 0, 98, 154, 255, 248, 42, 180, 0, 28, 180, 0, 46, 4, 159, 0, 8, 42, 4]
abbrev dktX3_read_0 : List UInt8 := dkwX3_read_0 ++ dktX3_read_1
theorem dksX3_read_0 : cX3_read.data.toList.drop 0 = dktX3_read_0 := by decide +kernel
theorem dksX3_read_1 : cX3_read.data.toList.drop 24 = dktX3_read_1 := dk_seg dksX3_read_0 24 rfl rfl
theorem dksX3_read_2 : cX3_read.data.toList.drop 47 = dktX3_read_2 := dk_seg dksX3_read_1 23 rfl rfl
theorem dksX3_read_3 : cX3_read.data.toList.drop 71 = dktX3_read_3 := dk_seg dksX3_read_2 24 rfl rfl
theorem dX3_read_0 : decode cX3_read 0 = .ok (.aload_n 0, 1) := dk_42 (dk_at dksX3_read_0 0 rfl rfl)
theorem dX3_read_1 : decode cX3_read 1 = .ok (.invokevirtual 95, 3) := dk_182 0 95 (dk_at dksX3_read_0 1 rfl rfl)
theorem dX3_read_4 : decode cX3_read 4 = .ok (.aload_n 0, 1) := dk_42 (dk_at dksX3_read_0 4 rfl rfl)
theorem dX3_read_5 : decode cX3_read 5 = .ok (.invokevirtual 98, 3) := dk_182 0 98 (dk_at dksX3_read_0 5 rfl rfl)
theorem dX3_read_8 : decode cX3_read 8 = .ok (.ifCond .ne (-8), 3) := dk_154 255 248 (dk_at dksX3_read_0 8 rfl rfl)
theorem dX3_read_11 : decode cX3_read 11 = .ok (.aload_n 0, 1) := dk_42 (dk_at dksX3_read_0 11 rfl rfl)
theorem dX3_read_12 : decode cX3_read 12 = .ok (.getfield 28, 3) := dk_180 0 28 (dk_at dksX3_read_0 12 rfl rfl)
theorem dX3_read_15 : decode cX3_read 15 = .ok (.getfield 46, 3) := dk_180 0 46 (dk_at dksX3_read_0 15 rfl rfl)
theorem dX3_read_18 : decode cX3_read 18 = .ok (.iconst 1, 1) := dk_4 (dk_at dksX3_read_0 18 rfl rfl)
theorem dX3_read_19 : decode cX3_read 19 = .ok (.if_icmp .eq 8, 3) := dk_159 0 8 (dk_at dksX3_read_0 19 rfl rfl)
theorem dX3_read_22 : decode cX3_read 22 = .ok (.aload_n 0, 1) := dk_42 (dk_at dksX3_read_0 22 rfl rfl)
theorem dX3_read_23 : decode cX3_read 23 = .ok (.iconst 1, 1) := dk_4 (dk_at dksX3_read_0 23 rfl rfl)
theorem dX3_read_24 : decode cX3_read 24 = .ok (.invokevirtual 56, 3) := dk_182 0 56 (dk_at dksX3_read_1 0 rfl rfl)
theorem dX3_read_27 : decode cX3_read 27 = .ok (.aload_n 0, 1) := dk_42 (dk_at dksX3_read_1 3 rfl rfl)
theorem dX3_read_28 : decode cX3_read 28 = .ok (.getfield 12, 3) := dk_180 0 12 (dk_at dksX3_read_1 4 rfl rfl)
theorem dX3_read_31 : decode cX3_read 31 = .ok (.getfield 101, 3) := dk_180 0 101 (dk_at dksX3_read_1 7 rfl rfl)
theorem dX3_read_34 : decode cX3_read 34 = .ok (.ifCond .eq 16, 3) := dk_153 0 16 (dk_at dksX3_read_1 10 rfl rfl)
theorem dX3_read_37 : decode cX3_read 37 = .ok (.aload_n 0, 1) := dk_42 (dk_at dksX3_read_1 13 rfl rfl)
theorem dX3_read_38 : decode cX3_read 38 = .ok (.getfield 12, 3) := dk_180 0 12 (dk_at dksX3_read_1 14 rfl rfl)
theorem dX3_read_41 : decode cX3_read 41 = .ok (.getfield 104, 3) := dk_180 0 104 (dk_at dksX3_read_1 17 rfl rfl)
theorem dX3_read_44 : decode cX3_read 44 = .ok (.invokevirtual 108, 3) := dk_182 0 108 (dk_at dksX3_read_1 20 rfl rfl)
theorem dX3_read_47 : decode cX3_read 47 = .ok (.ifCond .eq 9, 3) := dk_153 0 9 (dk_at dksX3_read_2 0 rfl rfl)
theorem dX3_read_50 : decode cX3_read 50 = .ok (.aload_n 0, 1) := dk_42 (dk_at dksX3_read_2 3 rfl rfl)
theorem dX3_read_51 : decode cX3_read 51 = .ok (.bipush 6, 2) := dk_16 6 (dk_at dksX3_read_2 4 rfl rfl)
theorem dX3_read_53 : decode cX3_read 53 = .ok (.invokevirtual 56, 3) := dk_182 0 56 (dk_at dksX3_read_2 6 rfl rfl)
theorem dX3_read_56 : decode cX3_read 56 = .ok (.aload_n 0, 1) := dk_42 (dk_at dksX3_read_2 9 rfl rfl)
theorem dX3_read_57 : decode cX3_read 57 = .ok (.invokevirtual 36, 3) := dk_182 0 36 (dk_at dksX3_read_2 10 rfl rfl)
theorem dX3_read_60 : decode cX3_read 60 = .ok (.ifCond .eq 7, 3) := dk_153 0 7 (dk_at dksX3_read_2 13 rfl rfl)
theorem dX3_read_63 : decode cX3_read 63 = .ok (.aconst_null, 1) := dk_1 (dk_at dksX3_read_2 16 rfl rfl)
theorem dX3_read_64 : decode cX3_read 64 = .ok (.goto 7, 3) := dk_167 0 7 (dk_at dksX3_read_2 17 rfl rfl)
theorem dX3_read_67 : decode cX3_read 67 = .ok (.aload_n 0, 1) := dk_42 (dk_at dksX3_read_2 20 rfl rfl)
theorem dX3_read_68 : decode cX3_read 68 = .ok (.getfield 12, 3) := dk_180 0 12 (dk_at dksX3_read_2 21 rfl rfl)
theorem dX3_read_71 : decode cX3_read 71 = .ok (.areturn, 1) := dk_176 (dk_at dksX3_read_3 0 rfl rfl)
abbrev cX3_line : ByteArray := prog_9_method_14_code
def yX3_line : MethodName := ⟨RX3, "line", "()V"⟩
def dkwX3_line_10 : List UInt8 := [182, 0, 56, 177]
abbrev dktX3_line_10 : List UInt8 := dkwX3_line_10 ++ []
def dkwX3_line_9 : List UInt8 := [182, 0, 142, 167, 0, 22, 42, 182, 0, 144, 167, 0, 15, 42, 182, 0, 146, 167, 0, 8, 42, 4]
abbrev dktX3_line_9 : List UInt8 := dkwX3_line_9 ++ dktX3_line_10
def dkwX3_line_8 : List UInt8 := [42, 182, 0, 134, 167, 0, 43, 42, 182, 0, 137, 167, 0, 36, 42, 182, 0, 140, 167, 0, 29, 42]
abbrev dktX3_line_8 : List UInt8 := dkwX3_line_8 ++ dktX3_line_9
def dkwX3_line_7 : List UInt8 := [170, 0, 0, 0, 0, 80, 0, 0, 0, 0, 0, 0, 0, 5, 0, 0, 0, 38, 0, 0, 0, 45, 0, 0, 0, 52, 0, 0, 0, 59, 0, 0, 0, 66, 0, 0, 0, 73]
abbrev dktX3_line_7 : List UInt8 := dkwX3_line_7 ++ dktX3_line_8
def dkwX3_line_6 : List UInt8 := [18, 132, 182, 0, 121, 153, 0, 5, 8, 61, 28]
abbrev dktX3_line_6 : List UInt8 := dkwX3_line_6 ++ dktX3_line_7
def dkwX3_line_5 : List UInt8 := [153, 0, 33, 6, 61, 167, 0, 28, 43, 18, 130, 182, 0, 121, 153, 0, 19, 7, 61, 167, 0, 14, 43]
abbrev dktX3_line_5 : List UInt8 := dkwX3_line_5 ++ dktX3_line_6
def dkwX3_line_4 : List UInt8 := [61, 167, 0, 56, 43, 18, 126, 182, 0, 121, 153, 0, 47, 5, 61, 167, 0, 42, 43, 18, 128, 182, 0, 121]
abbrev dktX3_line_4 : List UInt8 := dkwX3_line_4 ++ dktX3_line_5
def dkwX3_line_3 : List UInt8 := [43, 18, 120, 182, 0, 121, 153, 0, 75, 3, 61, 167, 0, 70, 43, 18, 125, 182, 0, 121, 153, 0, 61, 4]
abbrev dktX3_line_3 : List UInt8 := dkwX3_line_3 ++ dktX3_line_4
def dkwX3_line_2 : List UInt8 := [171, 0, 0, 0, 0, 139, 0, 0, 0, 6, 185, 179, 250, 21, 0, 0, 0, 72, 0, 1, 125, 203, 0, 0, 0, 114, 0, 1, 202, 239, 0, 0, 0, 86, 0, 52, 152, 160, 0, 0, 0, 58, 6, 137, 39, 209, 0, 0, 0, 128, 6, 189, 173, 41, 0, 0, 0, 100]
abbrev dktX3_line_2 : List UInt8 := dkwX3_line_2 ++ dktX3_line_3
def dkwX3_line_1 : List UInt8 := [2, 61, 43, 182, 0, 115]
abbrev dktX3_line_1 : List UInt8 := dkwX3_line_1 ++ dktX3_line_2
def dkwX3_line_0 : List UInt8 := [42, 180, 0, 28, 180, 0, 46, 5, 160, 0, 13, 42, 180, 0, 28, 180, 0, 78, 167, 0, 5, 18, 113, 76]
abbrev dktX3_line_0 : List UInt8 := dkwX3_line_0 ++ dktX3_line_1
theorem dksX3_line_0 : cX3_line.data.toList.drop 0 = dktX3_line_0 := by decide +kernel
theorem dksX3_line_1 : cX3_line.data.toList.drop 24 = dktX3_line_1 := dk_seg dksX3_line_0 24 rfl rfl
theorem dksX3_line_2 : cX3_line.data.toList.drop 30 = dktX3_line_2 := dk_seg dksX3_line_1 6 rfl rfl
theorem dksX3_line_3 : cX3_line.data.toList.drop 88 = dktX3_line_3 := dk_seg dksX3_line_2 58 rfl rfl
theorem dksX3_line_4 : cX3_line.data.toList.drop 112 = dktX3_line_4 := dk_seg dksX3_line_3 24 rfl rfl
theorem dksX3_line_5 : cX3_line.data.toList.drop 136 = dktX3_line_5 := dk_seg dksX3_line_4 24 rfl rfl
theorem dksX3_line_6 : cX3_line.data.toList.drop 159 = dktX3_line_6 := dk_seg dksX3_line_5 23 rfl rfl
theorem dksX3_line_7 : cX3_line.data.toList.drop 170 = dktX3_line_7 := dk_seg dksX3_line_6 11 rfl rfl
theorem dksX3_line_8 : cX3_line.data.toList.drop 208 = dktX3_line_8 := dk_seg dksX3_line_7 38 rfl rfl
theorem dksX3_line_9 : cX3_line.data.toList.drop 230 = dktX3_line_9 := dk_seg dksX3_line_8 22 rfl rfl
theorem dksX3_line_10 : cX3_line.data.toList.drop 252 = dktX3_line_10 := dk_seg dksX3_line_9 22 rfl rfl
theorem dX3_line_0 : decode cX3_line 0 = .ok (.aload_n 0, 1) := dk_42 (dk_at dksX3_line_0 0 rfl rfl)
theorem dX3_line_1 : decode cX3_line 1 = .ok (.getfield 28, 3) := dk_180 0 28 (dk_at dksX3_line_0 1 rfl rfl)
theorem dX3_line_4 : decode cX3_line 4 = .ok (.getfield 46, 3) := dk_180 0 46 (dk_at dksX3_line_0 4 rfl rfl)
theorem dX3_line_7 : decode cX3_line 7 = .ok (.iconst 2, 1) := dk_5 (dk_at dksX3_line_0 7 rfl rfl)
theorem dX3_line_8 : decode cX3_line 8 = .ok (.if_icmp .ne 13, 3) := dk_160 0 13 (dk_at dksX3_line_0 8 rfl rfl)
theorem dX3_line_11 : decode cX3_line 11 = .ok (.aload_n 0, 1) := dk_42 (dk_at dksX3_line_0 11 rfl rfl)
theorem dX3_line_12 : decode cX3_line 12 = .ok (.getfield 28, 3) := dk_180 0 28 (dk_at dksX3_line_0 12 rfl rfl)
theorem dX3_line_15 : decode cX3_line 15 = .ok (.getfield 78, 3) := dk_180 0 78 (dk_at dksX3_line_0 15 rfl rfl)
theorem dX3_line_18 : decode cX3_line 18 = .ok (.goto 5, 3) := dk_167 0 5 (dk_at dksX3_line_0 18 rfl rfl)
theorem dX3_line_21 : decode cX3_line 21 = .ok (.ldc 113, 2) := dk_18 113 (dk_at dksX3_line_0 21 rfl rfl)
theorem dX3_line_23 : decode cX3_line 23 = .ok (.astore_n 1, 1) := dk_76 (dk_at dksX3_line_0 23 rfl rfl)
theorem dX3_line_24 : decode cX3_line 24 = .ok (.iconst (-1), 1) := dk_2 (dk_at dksX3_line_1 0 rfl rfl)
theorem dX3_line_25 : decode cX3_line 25 = .ok (.istore_n 2, 1) := dk_61 (dk_at dksX3_line_1 1 rfl rfl)
theorem dX3_line_26 : decode cX3_line 26 = .ok (.aload_n 1, 1) := dk_43 (dk_at dksX3_line_1 2 rfl rfl)
theorem dX3_line_27 : decode cX3_line 27 = .ok (.invokevirtual 115, 3) := dk_182 0 115 (dk_at dksX3_line_1 3 rfl rfl)
theorem dX3_line_30 : decode cX3_line 30 = .ok (.lookupswitch 139 #[(-1179387371, 72), (97739, 114), (117487, 86), (3446944, 58), (109651921, 128), (113093929, 100)], 58) := by decide +kernel
theorem dX3_line_88 : decode cX3_line 88 = .ok (.aload_n 1, 1) := dk_43 (dk_at dksX3_line_3 0 rfl rfl)
theorem dX3_line_89 : decode cX3_line 89 = .ok (.ldc 120, 2) := dk_18 120 (dk_at dksX3_line_3 1 rfl rfl)
theorem dX3_line_91 : decode cX3_line 91 = .ok (.invokevirtual 121, 3) := dk_182 0 121 (dk_at dksX3_line_3 3 rfl rfl)
theorem dX3_line_94 : decode cX3_line 94 = .ok (.ifCond .eq 75, 3) := dk_153 0 75 (dk_at dksX3_line_3 6 rfl rfl)
theorem dX3_line_97 : decode cX3_line 97 = .ok (.iconst 0, 1) := dk_3 (dk_at dksX3_line_3 9 rfl rfl)
theorem dX3_line_98 : decode cX3_line 98 = .ok (.istore_n 2, 1) := dk_61 (dk_at dksX3_line_3 10 rfl rfl)
theorem dX3_line_99 : decode cX3_line 99 = .ok (.goto 70, 3) := dk_167 0 70 (dk_at dksX3_line_3 11 rfl rfl)
theorem dX3_line_102 : decode cX3_line 102 = .ok (.aload_n 1, 1) := dk_43 (dk_at dksX3_line_3 14 rfl rfl)
theorem dX3_line_103 : decode cX3_line 103 = .ok (.ldc 125, 2) := dk_18 125 (dk_at dksX3_line_3 15 rfl rfl)
theorem dX3_line_105 : decode cX3_line 105 = .ok (.invokevirtual 121, 3) := dk_182 0 121 (dk_at dksX3_line_3 17 rfl rfl)
theorem dX3_line_108 : decode cX3_line 108 = .ok (.ifCond .eq 61, 3) := dk_153 0 61 (dk_at dksX3_line_3 20 rfl rfl)
theorem dX3_line_111 : decode cX3_line 111 = .ok (.iconst 1, 1) := dk_4 (dk_at dksX3_line_3 23 rfl rfl)
theorem dX3_line_112 : decode cX3_line 112 = .ok (.istore_n 2, 1) := dk_61 (dk_at dksX3_line_4 0 rfl rfl)
theorem dX3_line_113 : decode cX3_line 113 = .ok (.goto 56, 3) := dk_167 0 56 (dk_at dksX3_line_4 1 rfl rfl)
theorem dX3_line_116 : decode cX3_line 116 = .ok (.aload_n 1, 1) := dk_43 (dk_at dksX3_line_4 4 rfl rfl)
theorem dX3_line_117 : decode cX3_line 117 = .ok (.ldc 126, 2) := dk_18 126 (dk_at dksX3_line_4 5 rfl rfl)
theorem dX3_line_119 : decode cX3_line 119 = .ok (.invokevirtual 121, 3) := dk_182 0 121 (dk_at dksX3_line_4 7 rfl rfl)
theorem dX3_line_122 : decode cX3_line 122 = .ok (.ifCond .eq 47, 3) := dk_153 0 47 (dk_at dksX3_line_4 10 rfl rfl)
theorem dX3_line_125 : decode cX3_line 125 = .ok (.iconst 2, 1) := dk_5 (dk_at dksX3_line_4 13 rfl rfl)
theorem dX3_line_126 : decode cX3_line 126 = .ok (.istore_n 2, 1) := dk_61 (dk_at dksX3_line_4 14 rfl rfl)
theorem dX3_line_127 : decode cX3_line 127 = .ok (.goto 42, 3) := dk_167 0 42 (dk_at dksX3_line_4 15 rfl rfl)
theorem dX3_line_130 : decode cX3_line 130 = .ok (.aload_n 1, 1) := dk_43 (dk_at dksX3_line_4 18 rfl rfl)
theorem dX3_line_131 : decode cX3_line 131 = .ok (.ldc 128, 2) := dk_18 128 (dk_at dksX3_line_4 19 rfl rfl)
theorem dX3_line_133 : decode cX3_line 133 = .ok (.invokevirtual 121, 3) := dk_182 0 121 (dk_at dksX3_line_4 21 rfl rfl)
theorem dX3_line_136 : decode cX3_line 136 = .ok (.ifCond .eq 33, 3) := dk_153 0 33 (dk_at dksX3_line_5 0 rfl rfl)
theorem dX3_line_139 : decode cX3_line 139 = .ok (.iconst 3, 1) := dk_6 (dk_at dksX3_line_5 3 rfl rfl)
theorem dX3_line_140 : decode cX3_line 140 = .ok (.istore_n 2, 1) := dk_61 (dk_at dksX3_line_5 4 rfl rfl)
theorem dX3_line_141 : decode cX3_line 141 = .ok (.goto 28, 3) := dk_167 0 28 (dk_at dksX3_line_5 5 rfl rfl)
theorem dX3_line_144 : decode cX3_line 144 = .ok (.aload_n 1, 1) := dk_43 (dk_at dksX3_line_5 8 rfl rfl)
theorem dX3_line_145 : decode cX3_line 145 = .ok (.ldc 130, 2) := dk_18 130 (dk_at dksX3_line_5 9 rfl rfl)
theorem dX3_line_147 : decode cX3_line 147 = .ok (.invokevirtual 121, 3) := dk_182 0 121 (dk_at dksX3_line_5 11 rfl rfl)
theorem dX3_line_150 : decode cX3_line 150 = .ok (.ifCond .eq 19, 3) := dk_153 0 19 (dk_at dksX3_line_5 14 rfl rfl)
theorem dX3_line_153 : decode cX3_line 153 = .ok (.iconst 4, 1) := dk_7 (dk_at dksX3_line_5 17 rfl rfl)
theorem dX3_line_154 : decode cX3_line 154 = .ok (.istore_n 2, 1) := dk_61 (dk_at dksX3_line_5 18 rfl rfl)
theorem dX3_line_155 : decode cX3_line 155 = .ok (.goto 14, 3) := dk_167 0 14 (dk_at dksX3_line_5 19 rfl rfl)
theorem dX3_line_158 : decode cX3_line 158 = .ok (.aload_n 1, 1) := dk_43 (dk_at dksX3_line_5 22 rfl rfl)
theorem dX3_line_159 : decode cX3_line 159 = .ok (.ldc 132, 2) := dk_18 132 (dk_at dksX3_line_6 0 rfl rfl)
theorem dX3_line_161 : decode cX3_line 161 = .ok (.invokevirtual 121, 3) := dk_182 0 121 (dk_at dksX3_line_6 2 rfl rfl)
theorem dX3_line_164 : decode cX3_line 164 = .ok (.ifCond .eq 5, 3) := dk_153 0 5 (dk_at dksX3_line_6 5 rfl rfl)
theorem dX3_line_167 : decode cX3_line 167 = .ok (.iconst 5, 1) := dk_8 (dk_at dksX3_line_6 8 rfl rfl)
theorem dX3_line_168 : decode cX3_line 168 = .ok (.istore_n 2, 1) := dk_61 (dk_at dksX3_line_6 9 rfl rfl)
theorem dX3_line_169 : decode cX3_line 169 = .ok (.iload_n 2, 1) := dk_28 (dk_at dksX3_line_6 10 rfl rfl)
theorem dX3_line_170 : decode cX3_line 170 = .ok (.tableswitch 80 0 5 #[38, 45, 52, 59, 66, 73], 38) := by decide +kernel
theorem dX3_line_208 : decode cX3_line 208 = .ok (.aload_n 0, 1) := dk_42 (dk_at dksX3_line_8 0 rfl rfl)
theorem dX3_line_209 : decode cX3_line 209 = .ok (.invokevirtual 134, 3) := dk_182 0 134 (dk_at dksX3_line_8 1 rfl rfl)
theorem dX3_line_212 : decode cX3_line 212 = .ok (.goto 43, 3) := dk_167 0 43 (dk_at dksX3_line_8 4 rfl rfl)
theorem dX3_line_215 : decode cX3_line 215 = .ok (.aload_n 0, 1) := dk_42 (dk_at dksX3_line_8 7 rfl rfl)
theorem dX3_line_216 : decode cX3_line 216 = .ok (.invokevirtual 137, 3) := dk_182 0 137 (dk_at dksX3_line_8 8 rfl rfl)
theorem dX3_line_219 : decode cX3_line 219 = .ok (.goto 36, 3) := dk_167 0 36 (dk_at dksX3_line_8 11 rfl rfl)
theorem dX3_line_222 : decode cX3_line 222 = .ok (.aload_n 0, 1) := dk_42 (dk_at dksX3_line_8 14 rfl rfl)
theorem dX3_line_223 : decode cX3_line 223 = .ok (.invokevirtual 140, 3) := dk_182 0 140 (dk_at dksX3_line_8 15 rfl rfl)
theorem dX3_line_226 : decode cX3_line 226 = .ok (.goto 29, 3) := dk_167 0 29 (dk_at dksX3_line_8 18 rfl rfl)
theorem dX3_line_229 : decode cX3_line 229 = .ok (.aload_n 0, 1) := dk_42 (dk_at dksX3_line_8 21 rfl rfl)
theorem dX3_line_230 : decode cX3_line 230 = .ok (.invokevirtual 142, 3) := dk_182 0 142 (dk_at dksX3_line_9 0 rfl rfl)
theorem dX3_line_233 : decode cX3_line 233 = .ok (.goto 22, 3) := dk_167 0 22 (dk_at dksX3_line_9 3 rfl rfl)
theorem dX3_line_236 : decode cX3_line 236 = .ok (.aload_n 0, 1) := dk_42 (dk_at dksX3_line_9 6 rfl rfl)
theorem dX3_line_237 : decode cX3_line 237 = .ok (.invokevirtual 144, 3) := dk_182 0 144 (dk_at dksX3_line_9 7 rfl rfl)
theorem dX3_line_240 : decode cX3_line 240 = .ok (.goto 15, 3) := dk_167 0 15 (dk_at dksX3_line_9 10 rfl rfl)
theorem dX3_line_243 : decode cX3_line 243 = .ok (.aload_n 0, 1) := dk_42 (dk_at dksX3_line_9 13 rfl rfl)
theorem dX3_line_244 : decode cX3_line 244 = .ok (.invokevirtual 146, 3) := dk_182 0 146 (dk_at dksX3_line_9 14 rfl rfl)
theorem dX3_line_247 : decode cX3_line 247 = .ok (.goto 8, 3) := dk_167 0 8 (dk_at dksX3_line_9 17 rfl rfl)
theorem dX3_line_250 : decode cX3_line 250 = .ok (.aload_n 0, 1) := dk_42 (dk_at dksX3_line_9 20 rfl rfl)
theorem dX3_line_251 : decode cX3_line 251 = .ok (.iconst 1, 1) := dk_4 (dk_at dksX3_line_9 21 rfl rfl)
theorem dX3_line_252 : decode cX3_line 252 = .ok (.invokevirtual 56, 3) := dk_182 0 56 (dk_at dksX3_line_10 0 rfl rfl)
theorem dX3_line_255 : decode cX3_line 255 = .ok (.return_, 1) := dk_177 (dk_at dksX3_line_10 3 rfl rfl)
abbrev cX3_postLine : ByteArray := prog_9_method_16_code
def yX3_postLine : MethodName := ⟨RX3, "postLine", "()V"⟩
def dkwX3_postLine_4 : List UInt8 := [21, 4, 181, 0, 163, 177]
abbrev dktX3_postLine_4 : List UInt8 := dkwX3_postLine_4 ++ []
def dkwX3_postLine_3 : List UInt8 := [181, 0, 101, 42, 180, 0, 12, 28, 181, 0, 159, 42, 180, 0, 12, 29, 181, 0, 161, 42, 180, 0, 12]
abbrev dktX3_postLine_3 : List UInt8 := dkwX3_postLine_3 ++ dktX3_postLine_4
def dkwX3_postLine_2 : List UInt8 := [18, 157, 3, 16, 100, 182, 0, 149, 54, 4, 42, 182, 0, 36, 153, 0, 4, 177, 42, 180, 0, 12, 27]
abbrev dktX3_postLine_2 : List UInt8 := dkwX3_postLine_2 ++ dktX3_postLine_3
def dkwX3_postLine_1 : List UInt8 := [182, 0, 149, 60, 42, 18, 153, 3, 6, 182, 0, 149, 61, 42, 18, 155, 3, 16, 50, 182, 0, 149, 62, 42]
abbrev dktX3_postLine_1 : List UInt8 := dkwX3_postLine_1 ++ dktX3_postLine_2
def dkwX3_postLine_0 : List UInt8 := [42, 180, 0, 12, 180, 0, 101, 158, 0, 8, 42, 6, 182, 0, 56, 42, 182, 0, 49, 42, 18, 148, 5, 7]
abbrev dktX3_postLine_0 : List UInt8 := dkwX3_postLine_0 ++ dktX3_postLine_1
theorem dksX3_postLine_0 : cX3_postLine.data.toList.drop 0 = dktX3_postLine_0 := by decide +kernel
theorem dksX3_postLine_1 : cX3_postLine.data.toList.drop 24 = dktX3_postLine_1 := dk_seg dksX3_postLine_0 24 rfl rfl
theorem dksX3_postLine_2 : cX3_postLine.data.toList.drop 48 = dktX3_postLine_2 := dk_seg dksX3_postLine_1 24 rfl rfl
theorem dksX3_postLine_3 : cX3_postLine.data.toList.drop 71 = dktX3_postLine_3 := dk_seg dksX3_postLine_2 23 rfl rfl
theorem dksX3_postLine_4 : cX3_postLine.data.toList.drop 94 = dktX3_postLine_4 := dk_seg dksX3_postLine_3 23 rfl rfl
theorem dX3_postLine_0 : decode cX3_postLine 0 = .ok (.aload_n 0, 1) := dk_42 (dk_at dksX3_postLine_0 0 rfl rfl)
theorem dX3_postLine_1 : decode cX3_postLine 1 = .ok (.getfield 12, 3) := dk_180 0 12 (dk_at dksX3_postLine_0 1 rfl rfl)
theorem dX3_postLine_4 : decode cX3_postLine 4 = .ok (.getfield 101, 3) := dk_180 0 101 (dk_at dksX3_postLine_0 4 rfl rfl)
theorem dX3_postLine_7 : decode cX3_postLine 7 = .ok (.ifCond .le 8, 3) := dk_158 0 8 (dk_at dksX3_postLine_0 7 rfl rfl)
theorem dX3_postLine_10 : decode cX3_postLine 10 = .ok (.aload_n 0, 1) := dk_42 (dk_at dksX3_postLine_0 10 rfl rfl)
theorem dX3_postLine_11 : decode cX3_postLine 11 = .ok (.iconst 3, 1) := dk_6 (dk_at dksX3_postLine_0 11 rfl rfl)
theorem dX3_postLine_12 : decode cX3_postLine 12 = .ok (.invokevirtual 56, 3) := dk_182 0 56 (dk_at dksX3_postLine_0 12 rfl rfl)
theorem dX3_postLine_15 : decode cX3_postLine 15 = .ok (.aload_n 0, 1) := dk_42 (dk_at dksX3_postLine_0 15 rfl rfl)
theorem dX3_postLine_16 : decode cX3_postLine 16 = .ok (.invokevirtual 49, 3) := dk_182 0 49 (dk_at dksX3_postLine_0 16 rfl rfl)
theorem dX3_postLine_19 : decode cX3_postLine 19 = .ok (.aload_n 0, 1) := dk_42 (dk_at dksX3_postLine_0 19 rfl rfl)
theorem dX3_postLine_20 : decode cX3_postLine 20 = .ok (.ldc 148, 2) := dk_18 148 (dk_at dksX3_postLine_0 20 rfl rfl)
theorem dX3_postLine_22 : decode cX3_postLine 22 = .ok (.iconst 2, 1) := dk_5 (dk_at dksX3_postLine_0 22 rfl rfl)
theorem dX3_postLine_23 : decode cX3_postLine 23 = .ok (.iconst 4, 1) := dk_7 (dk_at dksX3_postLine_0 23 rfl rfl)
theorem dX3_postLine_24 : decode cX3_postLine 24 = .ok (.invokevirtual 149, 3) := dk_182 0 149 (dk_at dksX3_postLine_1 0 rfl rfl)
theorem dX3_postLine_27 : decode cX3_postLine 27 = .ok (.istore_n 1, 1) := dk_60 (dk_at dksX3_postLine_1 3 rfl rfl)
theorem dX3_postLine_28 : decode cX3_postLine 28 = .ok (.aload_n 0, 1) := dk_42 (dk_at dksX3_postLine_1 4 rfl rfl)
theorem dX3_postLine_29 : decode cX3_postLine 29 = .ok (.ldc 153, 2) := dk_18 153 (dk_at dksX3_postLine_1 5 rfl rfl)
theorem dX3_postLine_31 : decode cX3_postLine 31 = .ok (.iconst 0, 1) := dk_3 (dk_at dksX3_postLine_1 7 rfl rfl)
theorem dX3_postLine_32 : decode cX3_postLine 32 = .ok (.iconst 3, 1) := dk_6 (dk_at dksX3_postLine_1 8 rfl rfl)
theorem dX3_postLine_33 : decode cX3_postLine 33 = .ok (.invokevirtual 149, 3) := dk_182 0 149 (dk_at dksX3_postLine_1 9 rfl rfl)
theorem dX3_postLine_36 : decode cX3_postLine 36 = .ok (.istore_n 2, 1) := dk_61 (dk_at dksX3_postLine_1 12 rfl rfl)
theorem dX3_postLine_37 : decode cX3_postLine 37 = .ok (.aload_n 0, 1) := dk_42 (dk_at dksX3_postLine_1 13 rfl rfl)
theorem dX3_postLine_38 : decode cX3_postLine 38 = .ok (.ldc 155, 2) := dk_18 155 (dk_at dksX3_postLine_1 14 rfl rfl)
theorem dX3_postLine_40 : decode cX3_postLine 40 = .ok (.iconst 0, 1) := dk_3 (dk_at dksX3_postLine_1 16 rfl rfl)
theorem dX3_postLine_41 : decode cX3_postLine 41 = .ok (.bipush 50, 2) := dk_16 50 (dk_at dksX3_postLine_1 17 rfl rfl)
theorem dX3_postLine_43 : decode cX3_postLine 43 = .ok (.invokevirtual 149, 3) := dk_182 0 149 (dk_at dksX3_postLine_1 19 rfl rfl)
theorem dX3_postLine_46 : decode cX3_postLine 46 = .ok (.istore_n 3, 1) := dk_62 (dk_at dksX3_postLine_1 22 rfl rfl)
theorem dX3_postLine_47 : decode cX3_postLine 47 = .ok (.aload_n 0, 1) := dk_42 (dk_at dksX3_postLine_1 23 rfl rfl)
theorem dX3_postLine_48 : decode cX3_postLine 48 = .ok (.ldc 157, 2) := dk_18 157 (dk_at dksX3_postLine_2 0 rfl rfl)
theorem dX3_postLine_50 : decode cX3_postLine 50 = .ok (.iconst 0, 1) := dk_3 (dk_at dksX3_postLine_2 2 rfl rfl)
theorem dX3_postLine_51 : decode cX3_postLine 51 = .ok (.bipush 100, 2) := dk_16 100 (dk_at dksX3_postLine_2 3 rfl rfl)
theorem dX3_postLine_53 : decode cX3_postLine 53 = .ok (.invokevirtual 149, 3) := dk_182 0 149 (dk_at dksX3_postLine_2 5 rfl rfl)
theorem dX3_postLine_56 : decode cX3_postLine 56 = .ok (.istore 4, 2) := dk_54 4 (dk_at dksX3_postLine_2 8 rfl rfl)
theorem dX3_postLine_58 : decode cX3_postLine 58 = .ok (.aload_n 0, 1) := dk_42 (dk_at dksX3_postLine_2 10 rfl rfl)
theorem dX3_postLine_59 : decode cX3_postLine 59 = .ok (.invokevirtual 36, 3) := dk_182 0 36 (dk_at dksX3_postLine_2 11 rfl rfl)
theorem dX3_postLine_62 : decode cX3_postLine 62 = .ok (.ifCond .eq 4, 3) := dk_153 0 4 (dk_at dksX3_postLine_2 14 rfl rfl)
theorem dX3_postLine_65 : decode cX3_postLine 65 = .ok (.return_, 1) := dk_177 (dk_at dksX3_postLine_2 17 rfl rfl)
theorem dX3_postLine_66 : decode cX3_postLine 66 = .ok (.aload_n 0, 1) := dk_42 (dk_at dksX3_postLine_2 18 rfl rfl)
theorem dX3_postLine_67 : decode cX3_postLine 67 = .ok (.getfield 12, 3) := dk_180 0 12 (dk_at dksX3_postLine_2 19 rfl rfl)
theorem dX3_postLine_70 : decode cX3_postLine 70 = .ok (.iload_n 1, 1) := dk_27 (dk_at dksX3_postLine_2 22 rfl rfl)
theorem dX3_postLine_71 : decode cX3_postLine 71 = .ok (.putfield 101, 3) := dk_181 0 101 (dk_at dksX3_postLine_3 0 rfl rfl)
theorem dX3_postLine_74 : decode cX3_postLine 74 = .ok (.aload_n 0, 1) := dk_42 (dk_at dksX3_postLine_3 3 rfl rfl)
theorem dX3_postLine_75 : decode cX3_postLine 75 = .ok (.getfield 12, 3) := dk_180 0 12 (dk_at dksX3_postLine_3 4 rfl rfl)
theorem dX3_postLine_78 : decode cX3_postLine 78 = .ok (.iload_n 2, 1) := dk_28 (dk_at dksX3_postLine_3 7 rfl rfl)
theorem dX3_postLine_79 : decode cX3_postLine 79 = .ok (.putfield 159, 3) := dk_181 0 159 (dk_at dksX3_postLine_3 8 rfl rfl)
theorem dX3_postLine_82 : decode cX3_postLine 82 = .ok (.aload_n 0, 1) := dk_42 (dk_at dksX3_postLine_3 11 rfl rfl)
theorem dX3_postLine_83 : decode cX3_postLine 83 = .ok (.getfield 12, 3) := dk_180 0 12 (dk_at dksX3_postLine_3 12 rfl rfl)
theorem dX3_postLine_86 : decode cX3_postLine 86 = .ok (.iload_n 3, 1) := dk_29 (dk_at dksX3_postLine_3 15 rfl rfl)
theorem dX3_postLine_87 : decode cX3_postLine 87 = .ok (.putfield 161, 3) := dk_181 0 161 (dk_at dksX3_postLine_3 16 rfl rfl)
theorem dX3_postLine_90 : decode cX3_postLine 90 = .ok (.aload_n 0, 1) := dk_42 (dk_at dksX3_postLine_3 19 rfl rfl)
theorem dX3_postLine_91 : decode cX3_postLine 91 = .ok (.getfield 12, 3) := dk_180 0 12 (dk_at dksX3_postLine_3 20 rfl rfl)
theorem dX3_postLine_94 : decode cX3_postLine 94 = .ok (.iload 4, 2) := dk_21 4 (dk_at dksX3_postLine_4 0 rfl rfl)
theorem dX3_postLine_96 : decode cX3_postLine 96 = .ok (.putfield 163, 3) := dk_181 0 163 (dk_at dksX3_postLine_4 2 rfl rfl)
theorem dX3_postLine_99 : decode cX3_postLine 99 = .ok (.return_, 1) := dk_177 (dk_at dksX3_postLine_4 5 rfl rfl)
abbrev cX3_wrong : ByteArray := prog_9_method_3_code
def yX3_wrong : MethodName := ⟨RX3, "wrong", "(I)V"⟩
def dkwX3_wrong_1 : List UInt8 := [177]
abbrev dktX3_wrong_1 : List UInt8 := dkwX3_wrong_1 ++ []
def dkwX3_wrong_0 : List UInt8 := [42, 182, 0, 36, 153, 0, 4, 177, 42, 27, 181, 0, 32, 42, 42, 180, 0, 28, 180, 0, 40, 181, 0, 45]
abbrev dktX3_wrong_0 : List UInt8 := dkwX3_wrong_0 ++ dktX3_wrong_1
theorem dksX3_wrong_0 : cX3_wrong.data.toList.drop 0 = dktX3_wrong_0 := by decide +kernel
theorem dksX3_wrong_1 : cX3_wrong.data.toList.drop 24 = dktX3_wrong_1 := dk_seg dksX3_wrong_0 24 rfl rfl
theorem dX3_wrong_0 : decode cX3_wrong 0 = .ok (.aload_n 0, 1) := dk_42 (dk_at dksX3_wrong_0 0 rfl rfl)
theorem dX3_wrong_1 : decode cX3_wrong 1 = .ok (.invokevirtual 36, 3) := dk_182 0 36 (dk_at dksX3_wrong_0 1 rfl rfl)
theorem dX3_wrong_4 : decode cX3_wrong 4 = .ok (.ifCond .eq 4, 3) := dk_153 0 4 (dk_at dksX3_wrong_0 4 rfl rfl)
theorem dX3_wrong_7 : decode cX3_wrong 7 = .ok (.return_, 1) := dk_177 (dk_at dksX3_wrong_0 7 rfl rfl)
theorem dX3_wrong_8 : decode cX3_wrong 8 = .ok (.aload_n 0, 1) := dk_42 (dk_at dksX3_wrong_0 8 rfl rfl)
theorem dX3_wrong_9 : decode cX3_wrong 9 = .ok (.iload_n 1, 1) := dk_27 (dk_at dksX3_wrong_0 9 rfl rfl)
theorem dX3_wrong_10 : decode cX3_wrong 10 = .ok (.putfield 32, 3) := dk_181 0 32 (dk_at dksX3_wrong_0 10 rfl rfl)
theorem dX3_wrong_13 : decode cX3_wrong 13 = .ok (.aload_n 0, 1) := dk_42 (dk_at dksX3_wrong_0 13 rfl rfl)
theorem dX3_wrong_14 : decode cX3_wrong 14 = .ok (.aload_n 0, 1) := dk_42 (dk_at dksX3_wrong_0 14 rfl rfl)
theorem dX3_wrong_15 : decode cX3_wrong 15 = .ok (.getfield 28, 3) := dk_180 0 28 (dk_at dksX3_wrong_0 15 rfl rfl)
theorem dX3_wrong_18 : decode cX3_wrong 18 = .ok (.getfield 40, 3) := dk_180 0 40 (dk_at dksX3_wrong_0 18 rfl rfl)
theorem dX3_wrong_21 : decode cX3_wrong 21 = .ok (.putfield 45, 3) := dk_181 0 45 (dk_at dksX3_wrong_0 21 rfl rfl)
theorem dX3_wrong_24 : decode cX3_wrong 24 = .ok (.return_, 1) := dk_177 (dk_at dksX3_wrong_1 0 rfl rfl)
abbrev cX3_isOver : ByteArray := prog_9_method_2_code
def yX3_isOver : MethodName := ⟨RX3, "isOve\x72", "()Z"⟩
def dkwX3_isOver_0 : List UInt8 := [42, 180, 0, 32, 158, 0, 7, 4, 167, 0, 4, 3, 172]
abbrev dktX3_isOver_0 : List UInt8 := dkwX3_isOver_0 ++ []
theorem dksX3_isOver_0 : cX3_isOver.data.toList.drop 0 = dktX3_isOver_0 := by decide +kernel
theorem dX3_isOver_0 : decode cX3_isOver 0 = .ok (.aload_n 0, 1) := dk_42 (dk_at dksX3_isOver_0 0 rfl rfl)
theorem dX3_isOver_1 : decode cX3_isOver 1 = .ok (.getfield 32, 3) := dk_180 0 32 (dk_at dksX3_isOver_0 1 rfl rfl)
theorem dX3_isOver_4 : decode cX3_isOver 4 = .ok (.ifCond .le 7, 3) := dk_158 0 7 (dk_at dksX3_isOver_0 4 rfl rfl)
theorem dX3_isOver_7 : decode cX3_isOver 7 = .ok (.iconst 1, 1) := dk_4 (dk_at dksX3_isOver_0 7 rfl rfl)
theorem dX3_isOver_8 : decode cX3_isOver 8 = .ok (.goto 4, 3) := dk_167 0 4 (dk_at dksX3_isOver_0 8 rfl rfl)
theorem dX3_isOver_11 : decode cX3_isOver 11 = .ok (.iconst 0, 1) := dk_3 (dk_at dksX3_isOver_0 11 rfl rfl)
theorem dX3_isOver_12 : decode cX3_isOver 12 = .ok (.ireturn, 1) := dk_172 (dk_at dksX3_isOver_0 12 rfl rfl)
abbrev cX3_on : ByteArray := prog_9_method_4_code
def yX3_on : MethodName := ⟨RX3, "on", "()V"⟩
def dkwX3_on_1 : List UInt8 := [182, 0, 22, 181, 0, 28, 177]
abbrev dktX3_on_1 : List UInt8 := dkwX3_on_1 ++ []
def dkwX3_on_0 : List UInt8 := [42, 182, 0, 36, 154, 0, 25, 42, 180, 0, 28, 180, 0, 46, 4, 159, 0, 14, 42, 42, 180, 0, 18]
abbrev dktX3_on_0 : List UInt8 := dkwX3_on_0 ++ dktX3_on_1
theorem dksX3_on_0 : cX3_on.data.toList.drop 0 = dktX3_on_0 := by decide +kernel
theorem dksX3_on_1 : cX3_on.data.toList.drop 23 = dktX3_on_1 := dk_seg dksX3_on_0 23 rfl rfl
theorem dX3_on_0 : decode cX3_on 0 = .ok (.aload_n 0, 1) := dk_42 (dk_at dksX3_on_0 0 rfl rfl)
theorem dX3_on_1 : decode cX3_on 1 = .ok (.invokevirtual 36, 3) := dk_182 0 36 (dk_at dksX3_on_0 1 rfl rfl)
theorem dX3_on_4 : decode cX3_on 4 = .ok (.ifCond .ne 25, 3) := dk_154 0 25 (dk_at dksX3_on_0 4 rfl rfl)
theorem dX3_on_7 : decode cX3_on 7 = .ok (.aload_n 0, 1) := dk_42 (dk_at dksX3_on_0 7 rfl rfl)
theorem dX3_on_8 : decode cX3_on 8 = .ok (.getfield 28, 3) := dk_180 0 28 (dk_at dksX3_on_0 8 rfl rfl)
theorem dX3_on_11 : decode cX3_on 11 = .ok (.getfield 46, 3) := dk_180 0 46 (dk_at dksX3_on_0 11 rfl rfl)
theorem dX3_on_14 : decode cX3_on 14 = .ok (.iconst 1, 1) := dk_4 (dk_at dksX3_on_0 14 rfl rfl)
theorem dX3_on_15 : decode cX3_on 15 = .ok (.if_icmp .eq 14, 3) := dk_159 0 14 (dk_at dksX3_on_0 15 rfl rfl)
theorem dX3_on_18 : decode cX3_on 18 = .ok (.aload_n 0, 1) := dk_42 (dk_at dksX3_on_0 18 rfl rfl)
theorem dX3_on_19 : decode cX3_on 19 = .ok (.aload_n 0, 1) := dk_42 (dk_at dksX3_on_0 19 rfl rfl)
theorem dX3_on_20 : decode cX3_on 20 = .ok (.getfield 18, 3) := dk_180 0 18 (dk_at dksX3_on_0 20 rfl rfl)
theorem dX3_on_23 : decode cX3_on 23 = .ok (.invokevirtual 22, 3) := dk_182 0 22 (dk_at dksX3_on_1 0 rfl rfl)
theorem dX3_on_26 : decode cX3_on 26 = .ok (.putfield 28, 3) := dk_181 0 28 (dk_at dksX3_on_1 3 rfl rfl)
theorem dX3_on_29 : decode cX3_on 29 = .ok (.return_, 1) := dk_177 (dk_at dksX3_on_1 6 rfl rfl)
abbrev cX3_part : ByteArray := prog_9_method_8_code
def yX3_part : MethodName := ⟨RX3, "part", "(Ljava/lang/String;II)I"⟩
def dkwX3_part_0 : List UInt8 := [42, 43, 182, 0, 67, 42, 28, 29, 182, 0, 71, 172]
abbrev dktX3_part_0 : List UInt8 := dkwX3_part_0 ++ []
theorem dksX3_part_0 : cX3_part.data.toList.drop 0 = dktX3_part_0 := by decide +kernel
theorem dX3_part_0 : decode cX3_part 0 = .ok (.aload_n 0, 1) := dk_42 (dk_at dksX3_part_0 0 rfl rfl)
theorem dX3_part_1 : decode cX3_part 1 = .ok (.aload_n 1, 1) := dk_43 (dk_at dksX3_part_0 1 rfl rfl)
theorem dX3_part_2 : decode cX3_part 2 = .ok (.invokevirtual 67, 3) := dk_182 0 67 (dk_at dksX3_part_0 2 rfl rfl)
theorem dX3_part_5 : decode cX3_part 5 = .ok (.aload_n 0, 1) := dk_42 (dk_at dksX3_part_0 5 rfl rfl)
theorem dX3_part_6 : decode cX3_part 6 = .ok (.iload_n 2, 1) := dk_28 (dk_at dksX3_part_0 6 rfl rfl)
theorem dX3_part_7 : decode cX3_part 7 = .ok (.iload_n 3, 1) := dk_29 (dk_at dksX3_part_0 7 rfl rfl)
theorem dX3_part_8 : decode cX3_part 8 = .ok (.invokevirtual 71, 3) := dk_182 0 71 (dk_at dksX3_part_0 8 rfl rfl)
theorem dX3_part_11 : decode cX3_part 11 = .ok (.ireturn, 1) := dk_172 (dk_at dksX3_part_0 11 rfl rfl)
abbrev cX3_needs : ByteArray := prog_9_method_6_code
def yX3_needs : MethodName := ⟨RX3, "needs", "(Ljava/lang/String;)V"⟩
def dkwX3_needs_0 : List UInt8 := [42, 180, 0, 28, 43, 182, 0, 52, 154, 0, 8, 42, 4, 182, 0, 56, 42, 182, 0, 49, 177]
abbrev dktX3_needs_0 : List UInt8 := dkwX3_needs_0 ++ []
theorem dksX3_needs_0 : cX3_needs.data.toList.drop 0 = dktX3_needs_0 := by decide +kernel
theorem dX3_needs_0 : decode cX3_needs 0 = .ok (.aload_n 0, 1) := dk_42 (dk_at dksX3_needs_0 0 rfl rfl)
theorem dX3_needs_1 : decode cX3_needs 1 = .ok (.getfield 28, 3) := dk_180 0 28 (dk_at dksX3_needs_0 1 rfl rfl)
theorem dX3_needs_4 : decode cX3_needs 4 = .ok (.aload_n 1, 1) := dk_43 (dk_at dksX3_needs_0 4 rfl rfl)
theorem dX3_needs_5 : decode cX3_needs 5 = .ok (.invokevirtual 52, 3) := dk_182 0 52 (dk_at dksX3_needs_0 5 rfl rfl)
theorem dX3_needs_8 : decode cX3_needs 8 = .ok (.ifCond .ne 8, 3) := dk_154 0 8 (dk_at dksX3_needs_0 8 rfl rfl)
theorem dX3_needs_11 : decode cX3_needs 11 = .ok (.aload_n 0, 1) := dk_42 (dk_at dksX3_needs_0 11 rfl rfl)
theorem dX3_needs_12 : decode cX3_needs 12 = .ok (.iconst 1, 1) := dk_4 (dk_at dksX3_needs_0 12 rfl rfl)
theorem dX3_needs_13 : decode cX3_needs 13 = .ok (.invokevirtual 56, 3) := dk_182 0 56 (dk_at dksX3_needs_0 13 rfl rfl)
theorem dX3_needs_16 : decode cX3_needs 16 = .ok (.aload_n 0, 1) := dk_42 (dk_at dksX3_needs_0 16 rfl rfl)
theorem dX3_needs_17 : decode cX3_needs 17 = .ok (.invokevirtual 49, 3) := dk_182 0 49 (dk_at dksX3_needs_0 17 rfl rfl)
theorem dX3_needs_20 : decode cX3_needs 20 = .ok (.return_, 1) := dk_177 (dk_at dksX3_needs_0 20 rfl rfl)
abbrev cX3_whole : ByteArray := prog_9_method_7_code
def yX3_whole : MethodName := ⟨RX3, "whole", "(II)I"⟩
def dkwX3_whole_2 : List UInt8 := [172]
abbrev dktX3_whole_2 : List UInt8 := dkwX3_whole_2 ++ []
def dkwX3_whole_1 : List UInt8 := [180, 0, 60, 27, 28, 184, 0, 63, 154, 0, 8, 42, 7, 182, 0, 56, 42, 182, 0, 49, 45, 180, 0, 60]
abbrev dktX3_whole_1 : List UInt8 := dkwX3_whole_1 ++ dktX3_whole_2
def dkwX3_whole_0 : List UInt8 := [42, 180, 0, 28, 78, 45, 180, 0, 46, 6, 159, 0, 11, 42, 4, 182, 0, 56, 167, 0, 20, 45]
abbrev dktX3_whole_0 : List UInt8 := dkwX3_whole_0 ++ dktX3_whole_1
theorem dksX3_whole_0 : cX3_whole.data.toList.drop 0 = dktX3_whole_0 := by decide +kernel
theorem dksX3_whole_1 : cX3_whole.data.toList.drop 22 = dktX3_whole_1 := dk_seg dksX3_whole_0 22 rfl rfl
theorem dksX3_whole_2 : cX3_whole.data.toList.drop 46 = dktX3_whole_2 := dk_seg dksX3_whole_1 24 rfl rfl
theorem dX3_whole_0 : decode cX3_whole 0 = .ok (.aload_n 0, 1) := dk_42 (dk_at dksX3_whole_0 0 rfl rfl)
theorem dX3_whole_1 : decode cX3_whole 1 = .ok (.getfield 28, 3) := dk_180 0 28 (dk_at dksX3_whole_0 1 rfl rfl)
theorem dX3_whole_4 : decode cX3_whole 4 = .ok (.astore_n 3, 1) := dk_78 (dk_at dksX3_whole_0 4 rfl rfl)
theorem dX3_whole_5 : decode cX3_whole 5 = .ok (.aload_n 3, 1) := dk_45 (dk_at dksX3_whole_0 5 rfl rfl)
theorem dX3_whole_6 : decode cX3_whole 6 = .ok (.getfield 46, 3) := dk_180 0 46 (dk_at dksX3_whole_0 6 rfl rfl)
theorem dX3_whole_9 : decode cX3_whole 9 = .ok (.iconst 3, 1) := dk_6 (dk_at dksX3_whole_0 9 rfl rfl)
theorem dX3_whole_10 : decode cX3_whole 10 = .ok (.if_icmp .eq 11, 3) := dk_159 0 11 (dk_at dksX3_whole_0 10 rfl rfl)
theorem dX3_whole_13 : decode cX3_whole 13 = .ok (.aload_n 0, 1) := dk_42 (dk_at dksX3_whole_0 13 rfl rfl)
theorem dX3_whole_14 : decode cX3_whole 14 = .ok (.iconst 1, 1) := dk_4 (dk_at dksX3_whole_0 14 rfl rfl)
theorem dX3_whole_15 : decode cX3_whole 15 = .ok (.invokevirtual 56, 3) := dk_182 0 56 (dk_at dksX3_whole_0 15 rfl rfl)
theorem dX3_whole_18 : decode cX3_whole 18 = .ok (.goto 20, 3) := dk_167 0 20 (dk_at dksX3_whole_0 18 rfl rfl)
theorem dX3_whole_21 : decode cX3_whole 21 = .ok (.aload_n 3, 1) := dk_45 (dk_at dksX3_whole_0 21 rfl rfl)
theorem dX3_whole_22 : decode cX3_whole 22 = .ok (.getfield 60, 3) := dk_180 0 60 (dk_at dksX3_whole_1 0 rfl rfl)
theorem dX3_whole_25 : decode cX3_whole 25 = .ok (.iload_n 1, 1) := dk_27 (dk_at dksX3_whole_1 3 rfl rfl)
theorem dX3_whole_26 : decode cX3_whole 26 = .ok (.iload_n 2, 1) := dk_28 (dk_at dksX3_whole_1 4 rfl rfl)
theorem dX3_whole_27 : decode cX3_whole 27 = .ok (.invokestatic 63, 3) := dk_184 0 63 (dk_at dksX3_whole_1 5 rfl rfl)
theorem dX3_whole_30 : decode cX3_whole 30 = .ok (.ifCond .ne 8, 3) := dk_154 0 8 (dk_at dksX3_whole_1 8 rfl rfl)
theorem dX3_whole_33 : decode cX3_whole 33 = .ok (.aload_n 0, 1) := dk_42 (dk_at dksX3_whole_1 11 rfl rfl)
theorem dX3_whole_34 : decode cX3_whole 34 = .ok (.iconst 4, 1) := dk_7 (dk_at dksX3_whole_1 12 rfl rfl)
theorem dX3_whole_35 : decode cX3_whole 35 = .ok (.invokevirtual 56, 3) := dk_182 0 56 (dk_at dksX3_whole_1 13 rfl rfl)
theorem dX3_whole_38 : decode cX3_whole 38 = .ok (.aload_n 0, 1) := dk_42 (dk_at dksX3_whole_1 16 rfl rfl)
theorem dX3_whole_39 : decode cX3_whole 39 = .ok (.invokevirtual 49, 3) := dk_182 0 49 (dk_at dksX3_whole_1 17 rfl rfl)
theorem dX3_whole_42 : decode cX3_whole 42 = .ok (.aload_n 3, 1) := dk_45 (dk_at dksX3_whole_1 20 rfl rfl)
theorem dX3_whole_43 : decode cX3_whole 43 = .ok (.getfield 60, 3) := dk_180 0 60 (dk_at dksX3_whole_1 21 rfl rfl)
theorem dX3_whole_46 : decode cX3_whole 46 = .ok (.ireturn, 1) := dk_172 (dk_at dksX3_whole_2 0 rfl rfl)
abbrev cX3_islandLine : ByteArray := prog_9_method_19_code
def yX3_islandLine : MethodName := ⟨RX3, "islandLine", "()V"⟩
def dkwX3_islandLine_2 : List UInt8 := [183, 0, 204, 182, 0, 207, 87, 177]
abbrev dktX3_islandLine_2 : List UInt8 := dkwX3_islandLine_2 ++ []
def dkwX3_islandLine_1 : List UInt8 := [182, 0, 198, 77, 42, 182, 0, 36, 154, 0, 23, 42, 180, 0, 12, 180, 0, 104, 187, 0, 202, 89, 43, 44]
abbrev dktX3_islandLine_1 : List UInt8 := dkwX3_islandLine_1 ++ dktX3_islandLine_2
def dkwX3_islandLine_0 : List UInt8 := [42, 42, 180, 0, 12, 180, 0, 104, 182, 0, 181, 16, 7, 182, 0, 190, 42, 182, 0, 194, 76, 42]
abbrev dktX3_islandLine_0 : List UInt8 := dkwX3_islandLine_0 ++ dktX3_islandLine_1
theorem dksX3_islandLine_0 : cX3_islandLine.data.toList.drop 0 = dktX3_islandLine_0 := by decide +kernel
theorem dksX3_islandLine_1 : cX3_islandLine.data.toList.drop 22 = dktX3_islandLine_1 := dk_seg dksX3_islandLine_0 22 rfl rfl
theorem dksX3_islandLine_2 : cX3_islandLine.data.toList.drop 46 = dktX3_islandLine_2 := dk_seg dksX3_islandLine_1 24 rfl rfl
theorem dX3_islandLine_0 : decode cX3_islandLine 0 = .ok (.aload_n 0, 1) := dk_42 (dk_at dksX3_islandLine_0 0 rfl rfl)
theorem dX3_islandLine_1 : decode cX3_islandLine 1 = .ok (.aload_n 0, 1) := dk_42 (dk_at dksX3_islandLine_0 1 rfl rfl)
theorem dX3_islandLine_2 : decode cX3_islandLine 2 = .ok (.getfield 12, 3) := dk_180 0 12 (dk_at dksX3_islandLine_0 2 rfl rfl)
theorem dX3_islandLine_5 : decode cX3_islandLine 5 = .ok (.getfield 104, 3) := dk_180 0 104 (dk_at dksX3_islandLine_0 5 rfl rfl)
theorem dX3_islandLine_8 : decode cX3_islandLine 8 = .ok (.invokevirtual 181, 3) := dk_182 0 181 (dk_at dksX3_islandLine_0 8 rfl rfl)
theorem dX3_islandLine_11 : decode cX3_islandLine 11 = .ok (.bipush 7, 2) := dk_16 7 (dk_at dksX3_islandLine_0 11 rfl rfl)
theorem dX3_islandLine_13 : decode cX3_islandLine 13 = .ok (.invokevirtual 190, 3) := dk_182 0 190 (dk_at dksX3_islandLine_0 13 rfl rfl)
theorem dX3_islandLine_16 : decode cX3_islandLine 16 = .ok (.aload_n 0, 1) := dk_42 (dk_at dksX3_islandLine_0 16 rfl rfl)
theorem dX3_islandLine_17 : decode cX3_islandLine 17 = .ok (.invokevirtual 194, 3) := dk_182 0 194 (dk_at dksX3_islandLine_0 17 rfl rfl)
theorem dX3_islandLine_20 : decode cX3_islandLine 20 = .ok (.astore_n 1, 1) := dk_76 (dk_at dksX3_islandLine_0 20 rfl rfl)
theorem dX3_islandLine_21 : decode cX3_islandLine 21 = .ok (.aload_n 0, 1) := dk_42 (dk_at dksX3_islandLine_0 21 rfl rfl)
theorem dX3_islandLine_22 : decode cX3_islandLine 22 = .ok (.invokevirtual 198, 3) := dk_182 0 198 (dk_at dksX3_islandLine_1 0 rfl rfl)
theorem dX3_islandLine_25 : decode cX3_islandLine 25 = .ok (.astore_n 2, 1) := dk_77 (dk_at dksX3_islandLine_1 3 rfl rfl)
theorem dX3_islandLine_26 : decode cX3_islandLine 26 = .ok (.aload_n 0, 1) := dk_42 (dk_at dksX3_islandLine_1 4 rfl rfl)
theorem dX3_islandLine_27 : decode cX3_islandLine 27 = .ok (.invokevirtual 36, 3) := dk_182 0 36 (dk_at dksX3_islandLine_1 5 rfl rfl)
theorem dX3_islandLine_30 : decode cX3_islandLine 30 = .ok (.ifCond .ne 23, 3) := dk_154 0 23 (dk_at dksX3_islandLine_1 8 rfl rfl)
theorem dX3_islandLine_33 : decode cX3_islandLine 33 = .ok (.aload_n 0, 1) := dk_42 (dk_at dksX3_islandLine_1 11 rfl rfl)
theorem dX3_islandLine_34 : decode cX3_islandLine 34 = .ok (.getfield 12, 3) := dk_180 0 12 (dk_at dksX3_islandLine_1 12 rfl rfl)
theorem dX3_islandLine_37 : decode cX3_islandLine 37 = .ok (.getfield 104, 3) := dk_180 0 104 (dk_at dksX3_islandLine_1 15 rfl rfl)
theorem dX3_islandLine_40 : decode cX3_islandLine 40 = .ok (.new 202, 3) := dk_187 0 202 (dk_at dksX3_islandLine_1 18 rfl rfl)
theorem dX3_islandLine_43 : decode cX3_islandLine 43 = .ok (.dup, 1) := dk_89 (dk_at dksX3_islandLine_1 21 rfl rfl)
theorem dX3_islandLine_44 : decode cX3_islandLine 44 = .ok (.aload_n 1, 1) := dk_43 (dk_at dksX3_islandLine_1 22 rfl rfl)
theorem dX3_islandLine_45 : decode cX3_islandLine 45 = .ok (.aload_n 2, 1) := dk_44 (dk_at dksX3_islandLine_1 23 rfl rfl)
theorem dX3_islandLine_46 : decode cX3_islandLine 46 = .ok (.invokespecial 204, 3) := dk_183 0 204 (dk_at dksX3_islandLine_2 0 rfl rfl)
theorem dX3_islandLine_49 : decode cX3_islandLine 49 = .ok (.invokevirtual 207, 3) := dk_182 0 207 (dk_at dksX3_islandLine_2 3 rfl rfl)
theorem dX3_islandLine_52 : decode cX3_islandLine 52 = .ok (.pop, 1) := dk_87 (dk_at dksX3_islandLine_2 6 rfl rfl)
theorem dX3_islandLine_53 : decode cX3_islandLine 53 = .ok (.return_, 1) := dk_177 (dk_at dksX3_islandLine_2 7 rfl rfl)
abbrev cX3_begins : ByteArray := prog_9_method_15_code
def yX3_begins : MethodName := ⟨RX3, "begins", "(II)V"⟩
def dkwX3_begins_1 : List UInt8 := [182, 0, 56, 42, 182, 0, 49, 177]
abbrev dktX3_begins_1 : List UInt8 := dkwX3_begins_1 ++ []
def dkwX3_begins_0 : List UInt8 := [27, 28, 160, 0, 8, 42, 8, 182, 0, 56, 42, 180, 0, 12, 180, 0, 101, 154, 0, 9, 42, 16, 6]
abbrev dktX3_begins_0 : List UInt8 := dkwX3_begins_0 ++ dktX3_begins_1
theorem dksX3_begins_0 : cX3_begins.data.toList.drop 0 = dktX3_begins_0 := by decide +kernel
theorem dksX3_begins_1 : cX3_begins.data.toList.drop 23 = dktX3_begins_1 := dk_seg dksX3_begins_0 23 rfl rfl
theorem dX3_begins_0 : decode cX3_begins 0 = .ok (.iload_n 1, 1) := dk_27 (dk_at dksX3_begins_0 0 rfl rfl)
theorem dX3_begins_1 : decode cX3_begins 1 = .ok (.iload_n 2, 1) := dk_28 (dk_at dksX3_begins_0 1 rfl rfl)
theorem dX3_begins_2 : decode cX3_begins 2 = .ok (.if_icmp .ne 8, 3) := dk_160 0 8 (dk_at dksX3_begins_0 2 rfl rfl)
theorem dX3_begins_5 : decode cX3_begins 5 = .ok (.aload_n 0, 1) := dk_42 (dk_at dksX3_begins_0 5 rfl rfl)
theorem dX3_begins_6 : decode cX3_begins 6 = .ok (.iconst 5, 1) := dk_8 (dk_at dksX3_begins_0 6 rfl rfl)
theorem dX3_begins_7 : decode cX3_begins 7 = .ok (.invokevirtual 56, 3) := dk_182 0 56 (dk_at dksX3_begins_0 7 rfl rfl)
theorem dX3_begins_10 : decode cX3_begins 10 = .ok (.aload_n 0, 1) := dk_42 (dk_at dksX3_begins_0 10 rfl rfl)
theorem dX3_begins_11 : decode cX3_begins 11 = .ok (.getfield 12, 3) := dk_180 0 12 (dk_at dksX3_begins_0 11 rfl rfl)
theorem dX3_begins_14 : decode cX3_begins 14 = .ok (.getfield 101, 3) := dk_180 0 101 (dk_at dksX3_begins_0 14 rfl rfl)
theorem dX3_begins_17 : decode cX3_begins 17 = .ok (.ifCond .ne 9, 3) := dk_154 0 9 (dk_at dksX3_begins_0 17 rfl rfl)
theorem dX3_begins_20 : decode cX3_begins 20 = .ok (.aload_n 0, 1) := dk_42 (dk_at dksX3_begins_0 20 rfl rfl)
theorem dX3_begins_21 : decode cX3_begins 21 = .ok (.bipush 6, 2) := dk_16 6 (dk_at dksX3_begins_0 21 rfl rfl)
theorem dX3_begins_23 : decode cX3_begins 23 = .ok (.invokevirtual 56, 3) := dk_182 0 56 (dk_at dksX3_begins_1 0 rfl rfl)
theorem dX3_begins_26 : decode cX3_begins 26 = .ok (.aload_n 0, 1) := dk_42 (dk_at dksX3_begins_1 3 rfl rfl)
theorem dX3_begins_27 : decode cX3_begins 27 = .ok (.invokevirtual 49, 3) := dk_182 0 49 (dk_at dksX3_begins_1 4 rfl rfl)
theorem dX3_begins_30 : decode cX3_begins 30 = .ok (.return_, 1) := dk_177 (dk_at dksX3_begins_1 7 rfl rfl)
abbrev cX3_fresh : ByteArray := prog_9_method_9_code
def yX3_fresh : MethodName := ⟨RX3, "fresh", "()Ljava/lang/String;"⟩
def dkwX3_fresh_1 : List UInt8 := [180, 0, 78, 182, 0, 82, 153, 0, 8, 42, 6, 182, 0, 56, 42, 182, 0, 49, 43, 180, 0, 78, 176]
abbrev dktX3_fresh_1 : List UInt8 := dkwX3_fresh_1 ++ []
def dkwX3_fresh_0 : List UInt8 := [42, 180, 0, 28, 76, 43, 182, 0, 75, 154, 0, 8, 42, 4, 182, 0, 56, 42, 180, 0, 12, 43]
abbrev dktX3_fresh_0 : List UInt8 := dkwX3_fresh_0 ++ dktX3_fresh_1
theorem dksX3_fresh_0 : cX3_fresh.data.toList.drop 0 = dktX3_fresh_0 := by decide +kernel
theorem dksX3_fresh_1 : cX3_fresh.data.toList.drop 22 = dktX3_fresh_1 := dk_seg dksX3_fresh_0 22 rfl rfl
theorem dX3_fresh_0 : decode cX3_fresh 0 = .ok (.aload_n 0, 1) := dk_42 (dk_at dksX3_fresh_0 0 rfl rfl)
theorem dX3_fresh_1 : decode cX3_fresh 1 = .ok (.getfield 28, 3) := dk_180 0 28 (dk_at dksX3_fresh_0 1 rfl rfl)
theorem dX3_fresh_4 : decode cX3_fresh 4 = .ok (.astore_n 1, 1) := dk_76 (dk_at dksX3_fresh_0 4 rfl rfl)
theorem dX3_fresh_5 : decode cX3_fresh 5 = .ok (.aload_n 1, 1) := dk_43 (dk_at dksX3_fresh_0 5 rfl rfl)
theorem dX3_fresh_6 : decode cX3_fresh 6 = .ok (.invokevirtual 75, 3) := dk_182 0 75 (dk_at dksX3_fresh_0 6 rfl rfl)
theorem dX3_fresh_9 : decode cX3_fresh 9 = .ok (.ifCond .ne 8, 3) := dk_154 0 8 (dk_at dksX3_fresh_0 9 rfl rfl)
theorem dX3_fresh_12 : decode cX3_fresh 12 = .ok (.aload_n 0, 1) := dk_42 (dk_at dksX3_fresh_0 12 rfl rfl)
theorem dX3_fresh_13 : decode cX3_fresh 13 = .ok (.iconst 1, 1) := dk_4 (dk_at dksX3_fresh_0 13 rfl rfl)
theorem dX3_fresh_14 : decode cX3_fresh 14 = .ok (.invokevirtual 56, 3) := dk_182 0 56 (dk_at dksX3_fresh_0 14 rfl rfl)
theorem dX3_fresh_17 : decode cX3_fresh 17 = .ok (.aload_n 0, 1) := dk_42 (dk_at dksX3_fresh_0 17 rfl rfl)
theorem dX3_fresh_18 : decode cX3_fresh 18 = .ok (.getfield 12, 3) := dk_180 0 12 (dk_at dksX3_fresh_0 18 rfl rfl)
theorem dX3_fresh_21 : decode cX3_fresh 21 = .ok (.aload_n 1, 1) := dk_43 (dk_at dksX3_fresh_0 21 rfl rfl)
theorem dX3_fresh_22 : decode cX3_fresh 22 = .ok (.getfield 78, 3) := dk_180 0 78 (dk_at dksX3_fresh_1 0 rfl rfl)
theorem dX3_fresh_25 : decode cX3_fresh 25 = .ok (.invokevirtual 82, 3) := dk_182 0 82 (dk_at dksX3_fresh_1 3 rfl rfl)
theorem dX3_fresh_28 : decode cX3_fresh 28 = .ok (.ifCond .eq 8, 3) := dk_153 0 8 (dk_at dksX3_fresh_1 6 rfl rfl)
theorem dX3_fresh_31 : decode cX3_fresh 31 = .ok (.aload_n 0, 1) := dk_42 (dk_at dksX3_fresh_1 9 rfl rfl)
theorem dX3_fresh_32 : decode cX3_fresh 32 = .ok (.iconst 3, 1) := dk_6 (dk_at dksX3_fresh_1 10 rfl rfl)
theorem dX3_fresh_33 : decode cX3_fresh 33 = .ok (.invokevirtual 56, 3) := dk_182 0 56 (dk_at dksX3_fresh_1 11 rfl rfl)
theorem dX3_fresh_36 : decode cX3_fresh 36 = .ok (.aload_n 0, 1) := dk_42 (dk_at dksX3_fresh_1 14 rfl rfl)
theorem dX3_fresh_37 : decode cX3_fresh 37 = .ok (.invokevirtual 49, 3) := dk_182 0 49 (dk_at dksX3_fresh_1 15 rfl rfl)
theorem dX3_fresh_40 : decode cX3_fresh 40 = .ok (.aload_n 1, 1) := dk_43 (dk_at dksX3_fresh_1 18 rfl rfl)
theorem dX3_fresh_41 : decode cX3_fresh 41 = .ok (.getfield 78, 3) := dk_180 0 78 (dk_at dksX3_fresh_1 19 rfl rfl)
theorem dX3_fresh_44 : decode cX3_fresh 44 = .ok (.areturn, 1) := dk_176 (dk_at dksX3_fresh_1 22 rfl rfl)
abbrev cX3_song : ByteArray := prog_9_method_17_code
def yX3_song : MethodName := ⟨RX3, "song", "()[I"⟩
def dkwX3_song_6 : List UInt8 := [182, 0, 56, 42, 182, 0, 49, 44, 176]
abbrev dktX3_song_6 : List UInt8 := dkwX3_song_6 ++ []
def dkwX3_song_5 : List UInt8 := [160, 0, 16, 42, 44, 182, 0, 177, 153, 0, 8, 42, 6, 182, 0, 56, 29, 154, 0, 9, 42, 16, 7]
abbrev dktX3_song_5 : List UInt8 := dkwX3_song_5 ++ dktX3_song_6
def dkwX3_song_4 : List UInt8 := [167, 0, 4, 3, 62, 132, 4, 1, 167, 255, 203, 42, 182, 0, 36, 154, 0, 25, 43, 182, 0, 165, 44, 190]
abbrev dktX3_song_4 : List UInt8 := dkwX3_song_4 ++ dktX3_song_5
def dkwX3_song_3 : List UInt8 := [153, 0, 27, 44, 21, 4, 46, 3, 42, 180, 0, 12, 180, 0, 101, 4, 100, 184, 0, 63, 153, 0, 7, 4]
abbrev dktX3_song_3 : List UInt8 := dkwX3_song_3 ++ dktX3_song_4
def dkwX3_song_2 : List UInt8 := [54, 4, 21, 4, 44, 190, 162, 0, 52, 44, 21, 4, 43, 21, 4, 182, 0, 173, 16, 97, 100, 79, 29]
abbrev dktX3_song_2 : List UInt8 := dkwX3_song_2 ++ dktX3_song_3
def dkwX3_song_1 : List UInt8 := [43, 182, 0, 165, 16, 6, 184, 0, 168, 188, 10, 77, 43, 182, 0, 165, 5, 16, 6, 184, 0, 63, 62, 3]
abbrev dktX3_song_1 : List UInt8 := dkwX3_song_1 ++ dktX3_song_2
def dkwX3_song_0 : List UInt8 := [42, 180, 0, 28, 180, 0, 46, 5, 159, 0, 8, 42, 4, 182, 0, 56, 42, 180, 0, 28, 180, 0, 78, 76]
abbrev dktX3_song_0 : List UInt8 := dkwX3_song_0 ++ dktX3_song_1
theorem dksX3_song_0 : cX3_song.data.toList.drop 0 = dktX3_song_0 := by decide +kernel
theorem dksX3_song_1 : cX3_song.data.toList.drop 24 = dktX3_song_1 := dk_seg dksX3_song_0 24 rfl rfl
theorem dksX3_song_2 : cX3_song.data.toList.drop 48 = dktX3_song_2 := dk_seg dksX3_song_1 24 rfl rfl
theorem dksX3_song_3 : cX3_song.data.toList.drop 71 = dktX3_song_3 := dk_seg dksX3_song_2 23 rfl rfl
theorem dksX3_song_4 : cX3_song.data.toList.drop 95 = dktX3_song_4 := dk_seg dksX3_song_3 24 rfl rfl
theorem dksX3_song_5 : cX3_song.data.toList.drop 119 = dktX3_song_5 := dk_seg dksX3_song_4 24 rfl rfl
theorem dksX3_song_6 : cX3_song.data.toList.drop 142 = dktX3_song_6 := dk_seg dksX3_song_5 23 rfl rfl
theorem dX3_song_0 : decode cX3_song 0 = .ok (.aload_n 0, 1) := dk_42 (dk_at dksX3_song_0 0 rfl rfl)
theorem dX3_song_1 : decode cX3_song 1 = .ok (.getfield 28, 3) := dk_180 0 28 (dk_at dksX3_song_0 1 rfl rfl)
theorem dX3_song_4 : decode cX3_song 4 = .ok (.getfield 46, 3) := dk_180 0 46 (dk_at dksX3_song_0 4 rfl rfl)
theorem dX3_song_7 : decode cX3_song 7 = .ok (.iconst 2, 1) := dk_5 (dk_at dksX3_song_0 7 rfl rfl)
theorem dX3_song_8 : decode cX3_song 8 = .ok (.if_icmp .eq 8, 3) := dk_159 0 8 (dk_at dksX3_song_0 8 rfl rfl)
theorem dX3_song_11 : decode cX3_song 11 = .ok (.aload_n 0, 1) := dk_42 (dk_at dksX3_song_0 11 rfl rfl)
theorem dX3_song_12 : decode cX3_song 12 = .ok (.iconst 1, 1) := dk_4 (dk_at dksX3_song_0 12 rfl rfl)
theorem dX3_song_13 : decode cX3_song 13 = .ok (.invokevirtual 56, 3) := dk_182 0 56 (dk_at dksX3_song_0 13 rfl rfl)
theorem dX3_song_16 : decode cX3_song 16 = .ok (.aload_n 0, 1) := dk_42 (dk_at dksX3_song_0 16 rfl rfl)
theorem dX3_song_17 : decode cX3_song 17 = .ok (.getfield 28, 3) := dk_180 0 28 (dk_at dksX3_song_0 17 rfl rfl)
theorem dX3_song_20 : decode cX3_song 20 = .ok (.getfield 78, 3) := dk_180 0 78 (dk_at dksX3_song_0 20 rfl rfl)
theorem dX3_song_23 : decode cX3_song 23 = .ok (.astore_n 1, 1) := dk_76 (dk_at dksX3_song_0 23 rfl rfl)
theorem dX3_song_24 : decode cX3_song 24 = .ok (.aload_n 1, 1) := dk_43 (dk_at dksX3_song_1 0 rfl rfl)
theorem dX3_song_25 : decode cX3_song 25 = .ok (.invokevirtual 165, 3) := dk_182 0 165 (dk_at dksX3_song_1 1 rfl rfl)
theorem dX3_song_28 : decode cX3_song 28 = .ok (.bipush 6, 2) := dk_16 6 (dk_at dksX3_song_1 4 rfl rfl)
theorem dX3_song_30 : decode cX3_song 30 = .ok (.invokestatic 168, 3) := dk_184 0 168 (dk_at dksX3_song_1 6 rfl rfl)
theorem dX3_song_33 : decode cX3_song 33 = .ok (.newarray .int, 2) := dk_188_10 (dk_at dksX3_song_1 9 rfl rfl)
theorem dX3_song_35 : decode cX3_song 35 = .ok (.astore_n 2, 1) := dk_77 (dk_at dksX3_song_1 11 rfl rfl)
theorem dX3_song_36 : decode cX3_song 36 = .ok (.aload_n 1, 1) := dk_43 (dk_at dksX3_song_1 12 rfl rfl)
theorem dX3_song_37 : decode cX3_song 37 = .ok (.invokevirtual 165, 3) := dk_182 0 165 (dk_at dksX3_song_1 13 rfl rfl)
theorem dX3_song_40 : decode cX3_song 40 = .ok (.iconst 2, 1) := dk_5 (dk_at dksX3_song_1 16 rfl rfl)
theorem dX3_song_41 : decode cX3_song 41 = .ok (.bipush 6, 2) := dk_16 6 (dk_at dksX3_song_1 17 rfl rfl)
theorem dX3_song_43 : decode cX3_song 43 = .ok (.invokestatic 63, 3) := dk_184 0 63 (dk_at dksX3_song_1 19 rfl rfl)
theorem dX3_song_46 : decode cX3_song 46 = .ok (.istore_n 3, 1) := dk_62 (dk_at dksX3_song_1 22 rfl rfl)
theorem dX3_song_47 : decode cX3_song 47 = .ok (.iconst 0, 1) := dk_3 (dk_at dksX3_song_1 23 rfl rfl)
theorem dX3_song_48 : decode cX3_song 48 = .ok (.istore 4, 2) := dk_54 4 (dk_at dksX3_song_2 0 rfl rfl)
theorem dX3_song_50 : decode cX3_song 50 = .ok (.iload 4, 2) := dk_21 4 (dk_at dksX3_song_2 2 rfl rfl)
theorem dX3_song_52 : decode cX3_song 52 = .ok (.aload_n 2, 1) := dk_44 (dk_at dksX3_song_2 4 rfl rfl)
theorem dX3_song_53 : decode cX3_song 53 = .ok (.arraylength, 1) := dk_190 (dk_at dksX3_song_2 5 rfl rfl)
theorem dX3_song_54 : decode cX3_song 54 = .ok (.if_icmp .ge 52, 3) := dk_162 0 52 (dk_at dksX3_song_2 6 rfl rfl)
theorem dX3_song_57 : decode cX3_song 57 = .ok (.aload_n 2, 1) := dk_44 (dk_at dksX3_song_2 9 rfl rfl)
theorem dX3_song_58 : decode cX3_song 58 = .ok (.iload 4, 2) := dk_21 4 (dk_at dksX3_song_2 10 rfl rfl)
theorem dX3_song_60 : decode cX3_song 60 = .ok (.aload_n 1, 1) := dk_43 (dk_at dksX3_song_2 12 rfl rfl)
theorem dX3_song_61 : decode cX3_song 61 = .ok (.iload 4, 2) := dk_21 4 (dk_at dksX3_song_2 13 rfl rfl)
theorem dX3_song_63 : decode cX3_song 63 = .ok (.invokevirtual 173, 3) := dk_182 0 173 (dk_at dksX3_song_2 15 rfl rfl)
theorem dX3_song_66 : decode cX3_song 66 = .ok (.bipush 97, 2) := dk_16 97 (dk_at dksX3_song_2 18 rfl rfl)
theorem dX3_song_68 : decode cX3_song 68 = .ok (.isub, 1) := dk_100 (dk_at dksX3_song_2 20 rfl rfl)
theorem dX3_song_69 : decode cX3_song 69 = .ok (.iastore, 1) := dk_79 (dk_at dksX3_song_2 21 rfl rfl)
theorem dX3_song_70 : decode cX3_song 70 = .ok (.iload_n 3, 1) := dk_29 (dk_at dksX3_song_2 22 rfl rfl)
theorem dX3_song_71 : decode cX3_song 71 = .ok (.ifCond .eq 27, 3) := dk_153 0 27 (dk_at dksX3_song_3 0 rfl rfl)
theorem dX3_song_74 : decode cX3_song 74 = .ok (.aload_n 2, 1) := dk_44 (dk_at dksX3_song_3 3 rfl rfl)
theorem dX3_song_75 : decode cX3_song 75 = .ok (.iload 4, 2) := dk_21 4 (dk_at dksX3_song_3 4 rfl rfl)
theorem dX3_song_77 : decode cX3_song 77 = .ok (.iaload, 1) := dk_46 (dk_at dksX3_song_3 6 rfl rfl)
theorem dX3_song_78 : decode cX3_song 78 = .ok (.iconst 0, 1) := dk_3 (dk_at dksX3_song_3 7 rfl rfl)
theorem dX3_song_79 : decode cX3_song 79 = .ok (.aload_n 0, 1) := dk_42 (dk_at dksX3_song_3 8 rfl rfl)
theorem dX3_song_80 : decode cX3_song 80 = .ok (.getfield 12, 3) := dk_180 0 12 (dk_at dksX3_song_3 9 rfl rfl)
theorem dX3_song_83 : decode cX3_song 83 = .ok (.getfield 101, 3) := dk_180 0 101 (dk_at dksX3_song_3 12 rfl rfl)
theorem dX3_song_86 : decode cX3_song 86 = .ok (.iconst 1, 1) := dk_4 (dk_at dksX3_song_3 15 rfl rfl)
theorem dX3_song_87 : decode cX3_song 87 = .ok (.isub, 1) := dk_100 (dk_at dksX3_song_3 16 rfl rfl)
theorem dX3_song_88 : decode cX3_song 88 = .ok (.invokestatic 63, 3) := dk_184 0 63 (dk_at dksX3_song_3 17 rfl rfl)
theorem dX3_song_91 : decode cX3_song 91 = .ok (.ifCond .eq 7, 3) := dk_153 0 7 (dk_at dksX3_song_3 20 rfl rfl)
theorem dX3_song_94 : decode cX3_song 94 = .ok (.iconst 1, 1) := dk_4 (dk_at dksX3_song_3 23 rfl rfl)
theorem dX3_song_95 : decode cX3_song 95 = .ok (.goto 4, 3) := dk_167 0 4 (dk_at dksX3_song_4 0 rfl rfl)
theorem dX3_song_98 : decode cX3_song 98 = .ok (.iconst 0, 1) := dk_3 (dk_at dksX3_song_4 3 rfl rfl)
theorem dX3_song_99 : decode cX3_song 99 = .ok (.istore_n 3, 1) := dk_62 (dk_at dksX3_song_4 4 rfl rfl)
theorem dX3_song_100 : decode cX3_song 100 = .ok (.iinc 4 1, 3) := dk_132 4 1 (dk_at dksX3_song_4 5 rfl rfl)
theorem dX3_song_103 : decode cX3_song 103 = .ok (.goto (-53), 3) := dk_167 255 203 (dk_at dksX3_song_4 8 rfl rfl)
theorem dX3_song_106 : decode cX3_song 106 = .ok (.aload_n 0, 1) := dk_42 (dk_at dksX3_song_4 11 rfl rfl)
theorem dX3_song_107 : decode cX3_song 107 = .ok (.invokevirtual 36, 3) := dk_182 0 36 (dk_at dksX3_song_4 12 rfl rfl)
theorem dX3_song_110 : decode cX3_song 110 = .ok (.ifCond .ne 25, 3) := dk_154 0 25 (dk_at dksX3_song_4 15 rfl rfl)
theorem dX3_song_113 : decode cX3_song 113 = .ok (.aload_n 1, 1) := dk_43 (dk_at dksX3_song_4 18 rfl rfl)
theorem dX3_song_114 : decode cX3_song 114 = .ok (.invokevirtual 165, 3) := dk_182 0 165 (dk_at dksX3_song_4 19 rfl rfl)
theorem dX3_song_117 : decode cX3_song 117 = .ok (.aload_n 2, 1) := dk_44 (dk_at dksX3_song_4 22 rfl rfl)
theorem dX3_song_118 : decode cX3_song 118 = .ok (.arraylength, 1) := dk_190 (dk_at dksX3_song_4 23 rfl rfl)
theorem dX3_song_119 : decode cX3_song 119 = .ok (.if_icmp .ne 16, 3) := dk_160 0 16 (dk_at dksX3_song_5 0 rfl rfl)
theorem dX3_song_122 : decode cX3_song 122 = .ok (.aload_n 0, 1) := dk_42 (dk_at dksX3_song_5 3 rfl rfl)
theorem dX3_song_123 : decode cX3_song 123 = .ok (.aload_n 2, 1) := dk_44 (dk_at dksX3_song_5 4 rfl rfl)
theorem dX3_song_124 : decode cX3_song 124 = .ok (.invokevirtual 177, 3) := dk_182 0 177 (dk_at dksX3_song_5 5 rfl rfl)
theorem dX3_song_127 : decode cX3_song 127 = .ok (.ifCond .eq 8, 3) := dk_153 0 8 (dk_at dksX3_song_5 8 rfl rfl)
theorem dX3_song_130 : decode cX3_song 130 = .ok (.aload_n 0, 1) := dk_42 (dk_at dksX3_song_5 11 rfl rfl)
theorem dX3_song_131 : decode cX3_song 131 = .ok (.iconst 3, 1) := dk_6 (dk_at dksX3_song_5 12 rfl rfl)
theorem dX3_song_132 : decode cX3_song 132 = .ok (.invokevirtual 56, 3) := dk_182 0 56 (dk_at dksX3_song_5 13 rfl rfl)
theorem dX3_song_135 : decode cX3_song 135 = .ok (.iload_n 3, 1) := dk_29 (dk_at dksX3_song_5 16 rfl rfl)
theorem dX3_song_136 : decode cX3_song 136 = .ok (.ifCond .ne 9, 3) := dk_154 0 9 (dk_at dksX3_song_5 17 rfl rfl)
theorem dX3_song_139 : decode cX3_song 139 = .ok (.aload_n 0, 1) := dk_42 (dk_at dksX3_song_5 20 rfl rfl)
theorem dX3_song_140 : decode cX3_song 140 = .ok (.bipush 7, 2) := dk_16 7 (dk_at dksX3_song_5 21 rfl rfl)
theorem dX3_song_142 : decode cX3_song 142 = .ok (.invokevirtual 56, 3) := dk_182 0 56 (dk_at dksX3_song_6 0 rfl rfl)
theorem dX3_song_145 : decode cX3_song 145 = .ok (.aload_n 0, 1) := dk_42 (dk_at dksX3_song_6 3 rfl rfl)
theorem dX3_song_146 : decode cX3_song 146 = .ok (.invokevirtual 49, 3) := dk_182 0 49 (dk_at dksX3_song_6 4 rfl rfl)
theorem dX3_song_149 : decode cX3_song 149 = .ok (.aload_n 2, 1) := dk_44 (dk_at dksX3_song_6 7 rfl rfl)
theorem dX3_song_150 : decode cX3_song 150 = .ok (.areturn, 1) := dk_176 (dk_at dksX3_song_6 8 rfl rfl)
abbrev cX3_isTold : ByteArray := prog_9_method_18_code
def yX3_isTold : MethodName := ⟨RX3, "isTold", "([I)Z"⟩
def dkwX3_isTold_2 : List UInt8 := [167, 255, 210, 3, 172]
abbrev dktX3_isTold_2 : List UInt8 := dkwX3_isTold_2 ++ []
def dkwX3_isTold_1 : List UInt8 := [43, 190, 160, 0, 19, 42, 180, 0, 12, 43, 3, 28, 3, 182, 0, 186, 154, 0, 5, 4, 172, 132, 2, 1]
abbrev dktX3_isTold_1 : List UInt8 := dkwX3_isTold_1 ++ dktX3_isTold_2
def dkwX3_isTold_0 : List UInt8 := [3, 61, 28, 42, 180, 0, 12, 180, 0, 104, 182, 0, 181, 162, 0, 38, 42, 180, 0, 12, 28, 182, 0, 184]
abbrev dktX3_isTold_0 : List UInt8 := dkwX3_isTold_0 ++ dktX3_isTold_1
theorem dksX3_isTold_0 : cX3_isTold.data.toList.drop 0 = dktX3_isTold_0 := by decide +kernel
theorem dksX3_isTold_1 : cX3_isTold.data.toList.drop 24 = dktX3_isTold_1 := dk_seg dksX3_isTold_0 24 rfl rfl
theorem dksX3_isTold_2 : cX3_isTold.data.toList.drop 48 = dktX3_isTold_2 := dk_seg dksX3_isTold_1 24 rfl rfl
theorem dX3_isTold_0 : decode cX3_isTold 0 = .ok (.iconst 0, 1) := dk_3 (dk_at dksX3_isTold_0 0 rfl rfl)
theorem dX3_isTold_1 : decode cX3_isTold 1 = .ok (.istore_n 2, 1) := dk_61 (dk_at dksX3_isTold_0 1 rfl rfl)
theorem dX3_isTold_2 : decode cX3_isTold 2 = .ok (.iload_n 2, 1) := dk_28 (dk_at dksX3_isTold_0 2 rfl rfl)
theorem dX3_isTold_3 : decode cX3_isTold 3 = .ok (.aload_n 0, 1) := dk_42 (dk_at dksX3_isTold_0 3 rfl rfl)
theorem dX3_isTold_4 : decode cX3_isTold 4 = .ok (.getfield 12, 3) := dk_180 0 12 (dk_at dksX3_isTold_0 4 rfl rfl)
theorem dX3_isTold_7 : decode cX3_isTold 7 = .ok (.getfield 104, 3) := dk_180 0 104 (dk_at dksX3_isTold_0 7 rfl rfl)
theorem dX3_isTold_10 : decode cX3_isTold 10 = .ok (.invokevirtual 181, 3) := dk_182 0 181 (dk_at dksX3_isTold_0 10 rfl rfl)
theorem dX3_isTold_13 : decode cX3_isTold 13 = .ok (.if_icmp .ge 38, 3) := dk_162 0 38 (dk_at dksX3_isTold_0 13 rfl rfl)
theorem dX3_isTold_16 : decode cX3_isTold 16 = .ok (.aload_n 0, 1) := dk_42 (dk_at dksX3_isTold_0 16 rfl rfl)
theorem dX3_isTold_17 : decode cX3_isTold 17 = .ok (.getfield 12, 3) := dk_180 0 12 (dk_at dksX3_isTold_0 17 rfl rfl)
theorem dX3_isTold_20 : decode cX3_isTold 20 = .ok (.iload_n 2, 1) := dk_28 (dk_at dksX3_isTold_0 20 rfl rfl)
theorem dX3_isTold_21 : decode cX3_isTold 21 = .ok (.invokevirtual 184, 3) := dk_182 0 184 (dk_at dksX3_isTold_0 21 rfl rfl)
theorem dX3_isTold_24 : decode cX3_isTold 24 = .ok (.aload_n 1, 1) := dk_43 (dk_at dksX3_isTold_1 0 rfl rfl)
theorem dX3_isTold_25 : decode cX3_isTold 25 = .ok (.arraylength, 1) := dk_190 (dk_at dksX3_isTold_1 1 rfl rfl)
theorem dX3_isTold_26 : decode cX3_isTold 26 = .ok (.if_icmp .ne 19, 3) := dk_160 0 19 (dk_at dksX3_isTold_1 2 rfl rfl)
theorem dX3_isTold_29 : decode cX3_isTold 29 = .ok (.aload_n 0, 1) := dk_42 (dk_at dksX3_isTold_1 5 rfl rfl)
theorem dX3_isTold_30 : decode cX3_isTold 30 = .ok (.getfield 12, 3) := dk_180 0 12 (dk_at dksX3_isTold_1 6 rfl rfl)
theorem dX3_isTold_33 : decode cX3_isTold 33 = .ok (.aload_n 1, 1) := dk_43 (dk_at dksX3_isTold_1 9 rfl rfl)
theorem dX3_isTold_34 : decode cX3_isTold 34 = .ok (.iconst 0, 1) := dk_3 (dk_at dksX3_isTold_1 10 rfl rfl)
theorem dX3_isTold_35 : decode cX3_isTold 35 = .ok (.iload_n 2, 1) := dk_28 (dk_at dksX3_isTold_1 11 rfl rfl)
theorem dX3_isTold_36 : decode cX3_isTold 36 = .ok (.iconst 0, 1) := dk_3 (dk_at dksX3_isTold_1 12 rfl rfl)
theorem dX3_isTold_37 : decode cX3_isTold 37 = .ok (.invokevirtual 186, 3) := dk_182 0 186 (dk_at dksX3_isTold_1 13 rfl rfl)
theorem dX3_isTold_40 : decode cX3_isTold 40 = .ok (.ifCond .ne 5, 3) := dk_154 0 5 (dk_at dksX3_isTold_1 16 rfl rfl)
theorem dX3_isTold_43 : decode cX3_isTold 43 = .ok (.iconst 1, 1) := dk_4 (dk_at dksX3_isTold_1 19 rfl rfl)
theorem dX3_isTold_44 : decode cX3_isTold 44 = .ok (.ireturn, 1) := dk_172 (dk_at dksX3_isTold_1 20 rfl rfl)
theorem dX3_isTold_45 : decode cX3_isTold 45 = .ok (.iinc 2 1, 3) := dk_132 2 1 (dk_at dksX3_isTold_1 21 rfl rfl)
theorem dX3_isTold_48 : decode cX3_isTold 48 = .ok (.goto (-46), 3) := dk_167 255 210 (dk_at dksX3_isTold_2 0 rfl rfl)
theorem dX3_isTold_51 : decode cX3_isTold 51 = .ok (.iconst 0, 1) := dk_3 (dk_at dksX3_isTold_2 3 rfl rfl)
theorem dX3_isTold_52 : decode cX3_isTold 52 = .ok (.ireturn, 1) := dk_172 (dk_at dksX3_isTold_2 4 rfl rfl)
abbrev cX3_way : ByteArray := prog_9_method_20_code
def yX3_way : MethodName := ⟨RX3, "way", "()V"⟩
def dkwX3_way_5 : List UInt8 := [180, 0, 12, 180, 0, 210, 45, 182, 0, 207, 87, 177]
abbrev dktX3_way_5 : List UInt8 := dkwX3_way_5 ++ []
def dkwX3_way_4 : List UInt8 := [181, 0, 223, 45, 42, 18, 225, 4, 16, 15, 182, 0, 149, 181, 0, 227, 42, 182, 0, 36, 154, 0, 15, 42]
abbrev dktX3_way_4 : List UInt8 := dkwX3_way_4 ++ dktX3_way_5
def dkwX3_way_3 : List UInt8 := [182, 0, 49, 187, 0, 217, 89, 27, 28, 183, 0, 219, 78, 45, 42, 18, 221, 4, 16, 99, 182, 0, 149]
abbrev dktX3_way_3 : List UInt8 := dkwX3_way_3 ++ dktX3_way_4
def dkwX3_way_2 : List UInt8 := [27, 28, 159, 0, 15, 42, 180, 0, 12, 27, 28, 182, 0, 213, 153, 0, 8, 42, 6, 182, 0, 56, 42]
abbrev dktX3_way_2 : List UInt8 := dkwX3_way_2 ++ dktX3_way_3
def dkwX3_way_1 : List UInt8 := [180, 0, 12, 42, 180, 0, 28, 180, 0, 78, 182, 0, 84, 182, 0, 88, 61, 42, 182, 0, 36, 154, 0, 25]
abbrev dktX3_way_1 : List UInt8 := dkwX3_way_1 ++ dktX3_way_2
def dkwX3_way_0 : List UInt8 := [42, 42, 180, 0, 12, 180, 0, 210, 182, 0, 181, 16, 12, 182, 0, 190, 42, 182, 0, 92, 60, 42, 42]
abbrev dktX3_way_0 : List UInt8 := dkwX3_way_0 ++ dktX3_way_1
theorem dksX3_way_0 : cX3_way.data.toList.drop 0 = dktX3_way_0 := by decide +kernel
theorem dksX3_way_1 : cX3_way.data.toList.drop 23 = dktX3_way_1 := dk_seg dksX3_way_0 23 rfl rfl
theorem dksX3_way_2 : cX3_way.data.toList.drop 47 = dktX3_way_2 := dk_seg dksX3_way_1 24 rfl rfl
theorem dksX3_way_3 : cX3_way.data.toList.drop 70 = dktX3_way_3 := dk_seg dksX3_way_2 23 rfl rfl
theorem dksX3_way_4 : cX3_way.data.toList.drop 93 = dktX3_way_4 := dk_seg dksX3_way_3 23 rfl rfl
theorem dksX3_way_5 : cX3_way.data.toList.drop 117 = dktX3_way_5 := dk_seg dksX3_way_4 24 rfl rfl
theorem dX3_way_0 : decode cX3_way 0 = .ok (.aload_n 0, 1) := dk_42 (dk_at dksX3_way_0 0 rfl rfl)
theorem dX3_way_1 : decode cX3_way 1 = .ok (.aload_n 0, 1) := dk_42 (dk_at dksX3_way_0 1 rfl rfl)
theorem dX3_way_2 : decode cX3_way 2 = .ok (.getfield 12, 3) := dk_180 0 12 (dk_at dksX3_way_0 2 rfl rfl)
theorem dX3_way_5 : decode cX3_way 5 = .ok (.getfield 210, 3) := dk_180 0 210 (dk_at dksX3_way_0 5 rfl rfl)
theorem dX3_way_8 : decode cX3_way 8 = .ok (.invokevirtual 181, 3) := dk_182 0 181 (dk_at dksX3_way_0 8 rfl rfl)
theorem dX3_way_11 : decode cX3_way 11 = .ok (.bipush 12, 2) := dk_16 12 (dk_at dksX3_way_0 11 rfl rfl)
theorem dX3_way_13 : decode cX3_way 13 = .ok (.invokevirtual 190, 3) := dk_182 0 190 (dk_at dksX3_way_0 13 rfl rfl)
theorem dX3_way_16 : decode cX3_way 16 = .ok (.aload_n 0, 1) := dk_42 (dk_at dksX3_way_0 16 rfl rfl)
theorem dX3_way_17 : decode cX3_way 17 = .ok (.invokevirtual 92, 3) := dk_182 0 92 (dk_at dksX3_way_0 17 rfl rfl)
theorem dX3_way_20 : decode cX3_way 20 = .ok (.istore_n 1, 1) := dk_60 (dk_at dksX3_way_0 20 rfl rfl)
theorem dX3_way_21 : decode cX3_way 21 = .ok (.aload_n 0, 1) := dk_42 (dk_at dksX3_way_0 21 rfl rfl)
theorem dX3_way_22 : decode cX3_way 22 = .ok (.aload_n 0, 1) := dk_42 (dk_at dksX3_way_0 22 rfl rfl)
theorem dX3_way_23 : decode cX3_way 23 = .ok (.getfield 12, 3) := dk_180 0 12 (dk_at dksX3_way_1 0 rfl rfl)
theorem dX3_way_26 : decode cX3_way 26 = .ok (.aload_n 0, 1) := dk_42 (dk_at dksX3_way_1 3 rfl rfl)
theorem dX3_way_27 : decode cX3_way 27 = .ok (.getfield 28, 3) := dk_180 0 28 (dk_at dksX3_way_1 4 rfl rfl)
theorem dX3_way_30 : decode cX3_way 30 = .ok (.getfield 78, 3) := dk_180 0 78 (dk_at dksX3_way_1 7 rfl rfl)
theorem dX3_way_33 : decode cX3_way 33 = .ok (.invokevirtual 84, 3) := dk_182 0 84 (dk_at dksX3_way_1 10 rfl rfl)
theorem dX3_way_36 : decode cX3_way 36 = .ok (.invokevirtual 88, 3) := dk_182 0 88 (dk_at dksX3_way_1 13 rfl rfl)
theorem dX3_way_39 : decode cX3_way 39 = .ok (.istore_n 2, 1) := dk_61 (dk_at dksX3_way_1 16 rfl rfl)
theorem dX3_way_40 : decode cX3_way 40 = .ok (.aload_n 0, 1) := dk_42 (dk_at dksX3_way_1 17 rfl rfl)
theorem dX3_way_41 : decode cX3_way 41 = .ok (.invokevirtual 36, 3) := dk_182 0 36 (dk_at dksX3_way_1 18 rfl rfl)
theorem dX3_way_44 : decode cX3_way 44 = .ok (.ifCond .ne 25, 3) := dk_154 0 25 (dk_at dksX3_way_1 21 rfl rfl)
theorem dX3_way_47 : decode cX3_way 47 = .ok (.iload_n 1, 1) := dk_27 (dk_at dksX3_way_2 0 rfl rfl)
theorem dX3_way_48 : decode cX3_way 48 = .ok (.iload_n 2, 1) := dk_28 (dk_at dksX3_way_2 1 rfl rfl)
theorem dX3_way_49 : decode cX3_way 49 = .ok (.if_icmp .eq 15, 3) := dk_159 0 15 (dk_at dksX3_way_2 2 rfl rfl)
theorem dX3_way_52 : decode cX3_way 52 = .ok (.aload_n 0, 1) := dk_42 (dk_at dksX3_way_2 5 rfl rfl)
theorem dX3_way_53 : decode cX3_way 53 = .ok (.getfield 12, 3) := dk_180 0 12 (dk_at dksX3_way_2 6 rfl rfl)
theorem dX3_way_56 : decode cX3_way 56 = .ok (.iload_n 1, 1) := dk_27 (dk_at dksX3_way_2 9 rfl rfl)
theorem dX3_way_57 : decode cX3_way 57 = .ok (.iload_n 2, 1) := dk_28 (dk_at dksX3_way_2 10 rfl rfl)
theorem dX3_way_58 : decode cX3_way 58 = .ok (.invokevirtual 213, 3) := dk_182 0 213 (dk_at dksX3_way_2 11 rfl rfl)
theorem dX3_way_61 : decode cX3_way 61 = .ok (.ifCond .eq 8, 3) := dk_153 0 8 (dk_at dksX3_way_2 14 rfl rfl)
theorem dX3_way_64 : decode cX3_way 64 = .ok (.aload_n 0, 1) := dk_42 (dk_at dksX3_way_2 17 rfl rfl)
theorem dX3_way_65 : decode cX3_way 65 = .ok (.iconst 3, 1) := dk_6 (dk_at dksX3_way_2 18 rfl rfl)
theorem dX3_way_66 : decode cX3_way 66 = .ok (.invokevirtual 56, 3) := dk_182 0 56 (dk_at dksX3_way_2 19 rfl rfl)
theorem dX3_way_69 : decode cX3_way 69 = .ok (.aload_n 0, 1) := dk_42 (dk_at dksX3_way_2 22 rfl rfl)
theorem dX3_way_70 : decode cX3_way 70 = .ok (.invokevirtual 49, 3) := dk_182 0 49 (dk_at dksX3_way_3 0 rfl rfl)
theorem dX3_way_73 : decode cX3_way 73 = .ok (.new 217, 3) := dk_187 0 217 (dk_at dksX3_way_3 3 rfl rfl)
theorem dX3_way_76 : decode cX3_way 76 = .ok (.dup, 1) := dk_89 (dk_at dksX3_way_3 6 rfl rfl)
theorem dX3_way_77 : decode cX3_way 77 = .ok (.iload_n 1, 1) := dk_27 (dk_at dksX3_way_3 7 rfl rfl)
theorem dX3_way_78 : decode cX3_way 78 = .ok (.iload_n 2, 1) := dk_28 (dk_at dksX3_way_3 8 rfl rfl)
theorem dX3_way_79 : decode cX3_way 79 = .ok (.invokespecial 219, 3) := dk_183 0 219 (dk_at dksX3_way_3 9 rfl rfl)
theorem dX3_way_82 : decode cX3_way 82 = .ok (.astore_n 3, 1) := dk_78 (dk_at dksX3_way_3 12 rfl rfl)
theorem dX3_way_83 : decode cX3_way 83 = .ok (.aload_n 3, 1) := dk_45 (dk_at dksX3_way_3 13 rfl rfl)
theorem dX3_way_84 : decode cX3_way 84 = .ok (.aload_n 0, 1) := dk_42 (dk_at dksX3_way_3 14 rfl rfl)
theorem dX3_way_85 : decode cX3_way 85 = .ok (.ldc 221, 2) := dk_18 221 (dk_at dksX3_way_3 15 rfl rfl)
theorem dX3_way_87 : decode cX3_way 87 = .ok (.iconst 1, 1) := dk_4 (dk_at dksX3_way_3 17 rfl rfl)
theorem dX3_way_88 : decode cX3_way 88 = .ok (.bipush 99, 2) := dk_16 99 (dk_at dksX3_way_3 18 rfl rfl)
theorem dX3_way_90 : decode cX3_way 90 = .ok (.invokevirtual 149, 3) := dk_182 0 149 (dk_at dksX3_way_3 20 rfl rfl)
theorem dX3_way_93 : decode cX3_way 93 = .ok (.putfield 223, 3) := dk_181 0 223 (dk_at dksX3_way_4 0 rfl rfl)
theorem dX3_way_96 : decode cX3_way 96 = .ok (.aload_n 3, 1) := dk_45 (dk_at dksX3_way_4 3 rfl rfl)
theorem dX3_way_97 : decode cX3_way 97 = .ok (.aload_n 0, 1) := dk_42 (dk_at dksX3_way_4 4 rfl rfl)
theorem dX3_way_98 : decode cX3_way 98 = .ok (.ldc 225, 2) := dk_18 225 (dk_at dksX3_way_4 5 rfl rfl)
theorem dX3_way_100 : decode cX3_way 100 = .ok (.iconst 1, 1) := dk_4 (dk_at dksX3_way_4 7 rfl rfl)
theorem dX3_way_101 : decode cX3_way 101 = .ok (.bipush 15, 2) := dk_16 15 (dk_at dksX3_way_4 8 rfl rfl)
theorem dX3_way_103 : decode cX3_way 103 = .ok (.invokevirtual 149, 3) := dk_182 0 149 (dk_at dksX3_way_4 10 rfl rfl)
theorem dX3_way_106 : decode cX3_way 106 = .ok (.putfield 227, 3) := dk_181 0 227 (dk_at dksX3_way_4 13 rfl rfl)
theorem dX3_way_109 : decode cX3_way 109 = .ok (.aload_n 0, 1) := dk_42 (dk_at dksX3_way_4 16 rfl rfl)
theorem dX3_way_110 : decode cX3_way 110 = .ok (.invokevirtual 36, 3) := dk_182 0 36 (dk_at dksX3_way_4 17 rfl rfl)
theorem dX3_way_113 : decode cX3_way 113 = .ok (.ifCond .ne 15, 3) := dk_154 0 15 (dk_at dksX3_way_4 20 rfl rfl)
theorem dX3_way_116 : decode cX3_way 116 = .ok (.aload_n 0, 1) := dk_42 (dk_at dksX3_way_4 23 rfl rfl)
theorem dX3_way_117 : decode cX3_way 117 = .ok (.getfield 12, 3) := dk_180 0 12 (dk_at dksX3_way_5 0 rfl rfl)
theorem dX3_way_120 : decode cX3_way 120 = .ok (.getfield 210, 3) := dk_180 0 210 (dk_at dksX3_way_5 3 rfl rfl)
theorem dX3_way_123 : decode cX3_way 123 = .ok (.aload_n 3, 1) := dk_45 (dk_at dksX3_way_5 6 rfl rfl)
theorem dX3_way_124 : decode cX3_way 124 = .ok (.invokevirtual 207, 3) := dk_182 0 207 (dk_at dksX3_way_5 7 rfl rfl)
theorem dX3_way_127 : decode cX3_way 127 = .ok (.pop, 1) := dk_87 (dk_at dksX3_way_5 10 rfl rfl)
theorem dX3_way_128 : decode cX3_way 128 = .ok (.return_, 1) := dk_177 (dk_at dksX3_way_5 11 rfl rfl)
abbrev cX3_island : ByteArray := prog_9_method_11_code
def yX3_island : MethodName := ⟨RX3, "island", "()I"⟩
def dkwX3_island_1 : List UInt8 := [172]
abbrev dktX3_island_1 : List UInt8 := dkwX3_island_1 ++ []
def dkwX3_island_0 : List UInt8 := [42, 42, 180, 0, 12, 42, 180, 0, 28, 180, 0, 78, 182, 0, 84, 182, 0, 88, 60, 42, 182, 0, 49, 27]
abbrev dktX3_island_0 : List UInt8 := dkwX3_island_0 ++ dktX3_island_1
theorem dksX3_island_0 : cX3_island.data.toList.drop 0 = dktX3_island_0 := by decide +kernel
theorem dksX3_island_1 : cX3_island.data.toList.drop 24 = dktX3_island_1 := dk_seg dksX3_island_0 24 rfl rfl
theorem dX3_island_0 : decode cX3_island 0 = .ok (.aload_n 0, 1) := dk_42 (dk_at dksX3_island_0 0 rfl rfl)
theorem dX3_island_1 : decode cX3_island 1 = .ok (.aload_n 0, 1) := dk_42 (dk_at dksX3_island_0 1 rfl rfl)
theorem dX3_island_2 : decode cX3_island 2 = .ok (.getfield 12, 3) := dk_180 0 12 (dk_at dksX3_island_0 2 rfl rfl)
theorem dX3_island_5 : decode cX3_island 5 = .ok (.aload_n 0, 1) := dk_42 (dk_at dksX3_island_0 5 rfl rfl)
theorem dX3_island_6 : decode cX3_island 6 = .ok (.getfield 28, 3) := dk_180 0 28 (dk_at dksX3_island_0 6 rfl rfl)
theorem dX3_island_9 : decode cX3_island 9 = .ok (.getfield 78, 3) := dk_180 0 78 (dk_at dksX3_island_0 9 rfl rfl)
theorem dX3_island_12 : decode cX3_island 12 = .ok (.invokevirtual 84, 3) := dk_182 0 84 (dk_at dksX3_island_0 12 rfl rfl)
theorem dX3_island_15 : decode cX3_island 15 = .ok (.invokevirtual 88, 3) := dk_182 0 88 (dk_at dksX3_island_0 15 rfl rfl)
theorem dX3_island_18 : decode cX3_island 18 = .ok (.istore_n 1, 1) := dk_60 (dk_at dksX3_island_0 18 rfl rfl)
theorem dX3_island_19 : decode cX3_island 19 = .ok (.aload_n 0, 1) := dk_42 (dk_at dksX3_island_0 19 rfl rfl)
theorem dX3_island_20 : decode cX3_island 20 = .ok (.invokevirtual 49, 3) := dk_182 0 49 (dk_at dksX3_island_0 20 rfl rfl)
theorem dX3_island_23 : decode cX3_island 23 = .ok (.iload_n 1, 1) := dk_27 (dk_at dksX3_island_0 23 rfl rfl)
theorem dX3_island_24 : decode cX3_island 24 = .ok (.ireturn, 1) := dk_172 (dk_at dksX3_island_1 0 rfl rfl)
abbrev cX3_known : ByteArray := prog_9_method_10_code
def yX3_known : MethodName := ⟨RX3, "known", "(I)I"⟩
def dkwX3_known_1 : List UInt8 := [182, 0, 56, 42, 182, 0, 36, 153, 0, 7, 3, 167, 0, 4, 27, 172]
abbrev dktX3_known_1 : List UInt8 := dkwX3_known_1 ++ []
def dkwX3_known_0 : List UInt8 := [42, 180, 0, 28, 182, 0, 75, 154, 0, 8, 42, 4, 182, 0, 56, 27, 2, 160, 0, 8, 42, 5]
abbrev dktX3_known_0 : List UInt8 := dkwX3_known_0 ++ dktX3_known_1
theorem dksX3_known_0 : cX3_known.data.toList.drop 0 = dktX3_known_0 := by decide +kernel
theorem dksX3_known_1 : cX3_known.data.toList.drop 22 = dktX3_known_1 := dk_seg dksX3_known_0 22 rfl rfl
theorem dX3_known_0 : decode cX3_known 0 = .ok (.aload_n 0, 1) := dk_42 (dk_at dksX3_known_0 0 rfl rfl)
theorem dX3_known_1 : decode cX3_known 1 = .ok (.getfield 28, 3) := dk_180 0 28 (dk_at dksX3_known_0 1 rfl rfl)
theorem dX3_known_4 : decode cX3_known 4 = .ok (.invokevirtual 75, 3) := dk_182 0 75 (dk_at dksX3_known_0 4 rfl rfl)
theorem dX3_known_7 : decode cX3_known 7 = .ok (.ifCond .ne 8, 3) := dk_154 0 8 (dk_at dksX3_known_0 7 rfl rfl)
theorem dX3_known_10 : decode cX3_known 10 = .ok (.aload_n 0, 1) := dk_42 (dk_at dksX3_known_0 10 rfl rfl)
theorem dX3_known_11 : decode cX3_known 11 = .ok (.iconst 1, 1) := dk_4 (dk_at dksX3_known_0 11 rfl rfl)
theorem dX3_known_12 : decode cX3_known 12 = .ok (.invokevirtual 56, 3) := dk_182 0 56 (dk_at dksX3_known_0 12 rfl rfl)
theorem dX3_known_15 : decode cX3_known 15 = .ok (.iload_n 1, 1) := dk_27 (dk_at dksX3_known_0 15 rfl rfl)
theorem dX3_known_16 : decode cX3_known 16 = .ok (.iconst (-1), 1) := dk_2 (dk_at dksX3_known_0 16 rfl rfl)
theorem dX3_known_17 : decode cX3_known 17 = .ok (.if_icmp .ne 8, 3) := dk_160 0 8 (dk_at dksX3_known_0 17 rfl rfl)
theorem dX3_known_20 : decode cX3_known 20 = .ok (.aload_n 0, 1) := dk_42 (dk_at dksX3_known_0 20 rfl rfl)
theorem dX3_known_21 : decode cX3_known 21 = .ok (.iconst 2, 1) := dk_5 (dk_at dksX3_known_0 21 rfl rfl)
theorem dX3_known_22 : decode cX3_known 22 = .ok (.invokevirtual 56, 3) := dk_182 0 56 (dk_at dksX3_known_1 0 rfl rfl)
theorem dX3_known_25 : decode cX3_known 25 = .ok (.aload_n 0, 1) := dk_42 (dk_at dksX3_known_1 3 rfl rfl)
theorem dX3_known_26 : decode cX3_known 26 = .ok (.invokevirtual 36, 3) := dk_182 0 36 (dk_at dksX3_known_1 4 rfl rfl)
theorem dX3_known_29 : decode cX3_known 29 = .ok (.ifCond .eq 7, 3) := dk_153 0 7 (dk_at dksX3_known_1 7 rfl rfl)
theorem dX3_known_32 : decode cX3_known 32 = .ok (.iconst 0, 1) := dk_3 (dk_at dksX3_known_1 10 rfl rfl)
theorem dX3_known_33 : decode cX3_known 33 = .ok (.goto 4, 3) := dk_167 0 4 (dk_at dksX3_known_1 11 rfl rfl)
theorem dX3_known_36 : decode cX3_known 36 = .ok (.iload_n 1, 1) := dk_27 (dk_at dksX3_known_1 14 rfl rfl)
theorem dX3_known_37 : decode cX3_known 37 = .ok (.ireturn, 1) := dk_172 (dk_at dksX3_known_1 15 rfl rfl)
abbrev cX3_whale : ByteArray := prog_9_method_22_code
def yX3_whale : MethodName := ⟨RX3, "whale", "()V"⟩
def dkwX3_whale_3 : List UInt8 := [154, 0, 15, 42, 180, 0, 12, 180, 0, 250, 43, 182, 0, 207, 87, 177]
abbrev dktX3_whale_3 : List UInt8 := dkwX3_whale_3 ++ []
def dkwX3_whale_2 : List UInt8 := [182, 0, 149, 181, 1, 10, 43, 42, 19, 1, 12, 3, 16, 99, 182, 0, 149, 181, 1, 14, 42, 182, 0, 36]
abbrev dktX3_whale_2 : List UInt8 := dkwX3_whale_2 ++ dktX3_whale_3
def dkwX3_whale_1 : List UInt8 := [42, 182, 0, 49, 43, 42, 19, 1, 1, 182, 1, 3, 181, 1, 6, 43, 42, 19, 1, 8, 3, 16, 99]
abbrev dktX3_whale_1 : List UInt8 := dkwX3_whale_1 ++ dktX3_whale_2
def dkwX3_whale_0 : List UInt8 := [42, 42, 180, 0, 12, 180, 0, 250, 182, 0, 181, 8, 182, 0, 190, 42, 42, 182, 0, 194, 182, 0, 253, 76]
abbrev dktX3_whale_0 : List UInt8 := dkwX3_whale_0 ++ dktX3_whale_1
theorem dksX3_whale_0 : cX3_whale.data.toList.drop 0 = dktX3_whale_0 := by decide +kernel
theorem dksX3_whale_1 : cX3_whale.data.toList.drop 24 = dktX3_whale_1 := dk_seg dksX3_whale_0 24 rfl rfl
theorem dksX3_whale_2 : cX3_whale.data.toList.drop 47 = dktX3_whale_2 := dk_seg dksX3_whale_1 23 rfl rfl
theorem dksX3_whale_3 : cX3_whale.data.toList.drop 71 = dktX3_whale_3 := dk_seg dksX3_whale_2 24 rfl rfl
theorem dX3_whale_0 : decode cX3_whale 0 = .ok (.aload_n 0, 1) := dk_42 (dk_at dksX3_whale_0 0 rfl rfl)
theorem dX3_whale_1 : decode cX3_whale 1 = .ok (.aload_n 0, 1) := dk_42 (dk_at dksX3_whale_0 1 rfl rfl)
theorem dX3_whale_2 : decode cX3_whale 2 = .ok (.getfield 12, 3) := dk_180 0 12 (dk_at dksX3_whale_0 2 rfl rfl)
theorem dX3_whale_5 : decode cX3_whale 5 = .ok (.getfield 250, 3) := dk_180 0 250 (dk_at dksX3_whale_0 5 rfl rfl)
theorem dX3_whale_8 : decode cX3_whale 8 = .ok (.invokevirtual 181, 3) := dk_182 0 181 (dk_at dksX3_whale_0 8 rfl rfl)
theorem dX3_whale_11 : decode cX3_whale 11 = .ok (.iconst 5, 1) := dk_8 (dk_at dksX3_whale_0 11 rfl rfl)
theorem dX3_whale_12 : decode cX3_whale 12 = .ok (.invokevirtual 190, 3) := dk_182 0 190 (dk_at dksX3_whale_0 12 rfl rfl)
theorem dX3_whale_15 : decode cX3_whale 15 = .ok (.aload_n 0, 1) := dk_42 (dk_at dksX3_whale_0 15 rfl rfl)
theorem dX3_whale_16 : decode cX3_whale 16 = .ok (.aload_n 0, 1) := dk_42 (dk_at dksX3_whale_0 16 rfl rfl)
theorem dX3_whale_17 : decode cX3_whale 17 = .ok (.invokevirtual 194, 3) := dk_182 0 194 (dk_at dksX3_whale_0 17 rfl rfl)
theorem dX3_whale_20 : decode cX3_whale 20 = .ok (.invokevirtual 253, 3) := dk_182 0 253 (dk_at dksX3_whale_0 20 rfl rfl)
theorem dX3_whale_23 : decode cX3_whale 23 = .ok (.astore_n 1, 1) := dk_76 (dk_at dksX3_whale_0 23 rfl rfl)
theorem dX3_whale_24 : decode cX3_whale 24 = .ok (.aload_n 0, 1) := dk_42 (dk_at dksX3_whale_1 0 rfl rfl)
theorem dX3_whale_25 : decode cX3_whale 25 = .ok (.invokevirtual 49, 3) := dk_182 0 49 (dk_at dksX3_whale_1 1 rfl rfl)
theorem dX3_whale_28 : decode cX3_whale 28 = .ok (.aload_n 1, 1) := dk_43 (dk_at dksX3_whale_1 4 rfl rfl)
theorem dX3_whale_29 : decode cX3_whale 29 = .ok (.aload_n 0, 1) := dk_42 (dk_at dksX3_whale_1 5 rfl rfl)
theorem dX3_whale_30 : decode cX3_whale 30 = .ok (.ldc_w 257, 3) := dk_19 1 1 (dk_at dksX3_whale_1 6 rfl rfl)
theorem dX3_whale_33 : decode cX3_whale 33 = .ok (.invokevirtual 259, 3) := dk_182 1 3 (dk_at dksX3_whale_1 9 rfl rfl)
theorem dX3_whale_36 : decode cX3_whale 36 = .ok (.putfield 262, 3) := dk_181 1 6 (dk_at dksX3_whale_1 12 rfl rfl)
theorem dX3_whale_39 : decode cX3_whale 39 = .ok (.aload_n 1, 1) := dk_43 (dk_at dksX3_whale_1 15 rfl rfl)
theorem dX3_whale_40 : decode cX3_whale 40 = .ok (.aload_n 0, 1) := dk_42 (dk_at dksX3_whale_1 16 rfl rfl)
theorem dX3_whale_41 : decode cX3_whale 41 = .ok (.ldc_w 264, 3) := dk_19 1 8 (dk_at dksX3_whale_1 17 rfl rfl)
theorem dX3_whale_44 : decode cX3_whale 44 = .ok (.iconst 0, 1) := dk_3 (dk_at dksX3_whale_1 20 rfl rfl)
theorem dX3_whale_45 : decode cX3_whale 45 = .ok (.bipush 99, 2) := dk_16 99 (dk_at dksX3_whale_1 21 rfl rfl)
theorem dX3_whale_47 : decode cX3_whale 47 = .ok (.invokevirtual 149, 3) := dk_182 0 149 (dk_at dksX3_whale_2 0 rfl rfl)
theorem dX3_whale_50 : decode cX3_whale 50 = .ok (.putfield 266, 3) := dk_181 1 10 (dk_at dksX3_whale_2 3 rfl rfl)
theorem dX3_whale_53 : decode cX3_whale 53 = .ok (.aload_n 1, 1) := dk_43 (dk_at dksX3_whale_2 6 rfl rfl)
theorem dX3_whale_54 : decode cX3_whale 54 = .ok (.aload_n 0, 1) := dk_42 (dk_at dksX3_whale_2 7 rfl rfl)
theorem dX3_whale_55 : decode cX3_whale 55 = .ok (.ldc_w 268, 3) := dk_19 1 12 (dk_at dksX3_whale_2 8 rfl rfl)
theorem dX3_whale_58 : decode cX3_whale 58 = .ok (.iconst 0, 1) := dk_3 (dk_at dksX3_whale_2 11 rfl rfl)
theorem dX3_whale_59 : decode cX3_whale 59 = .ok (.bipush 99, 2) := dk_16 99 (dk_at dksX3_whale_2 12 rfl rfl)
theorem dX3_whale_61 : decode cX3_whale 61 = .ok (.invokevirtual 149, 3) := dk_182 0 149 (dk_at dksX3_whale_2 14 rfl rfl)
theorem dX3_whale_64 : decode cX3_whale 64 = .ok (.putfield 270, 3) := dk_181 1 14 (dk_at dksX3_whale_2 17 rfl rfl)
theorem dX3_whale_67 : decode cX3_whale 67 = .ok (.aload_n 0, 1) := dk_42 (dk_at dksX3_whale_2 20 rfl rfl)
theorem dX3_whale_68 : decode cX3_whale 68 = .ok (.invokevirtual 36, 3) := dk_182 0 36 (dk_at dksX3_whale_2 21 rfl rfl)
theorem dX3_whale_71 : decode cX3_whale 71 = .ok (.ifCond .ne 15, 3) := dk_154 0 15 (dk_at dksX3_whale_3 0 rfl rfl)
theorem dX3_whale_74 : decode cX3_whale 74 = .ok (.aload_n 0, 1) := dk_42 (dk_at dksX3_whale_3 3 rfl rfl)
theorem dX3_whale_75 : decode cX3_whale 75 = .ok (.getfield 12, 3) := dk_180 0 12 (dk_at dksX3_whale_3 4 rfl rfl)
theorem dX3_whale_78 : decode cX3_whale 78 = .ok (.getfield 250, 3) := dk_180 0 250 (dk_at dksX3_whale_3 7 rfl rfl)
theorem dX3_whale_81 : decode cX3_whale 81 = .ok (.aload_n 1, 1) := dk_43 (dk_at dksX3_whale_3 10 rfl rfl)
theorem dX3_whale_82 : decode cX3_whale 82 = .ok (.invokevirtual 207, 3) := dk_182 0 207 (dk_at dksX3_whale_3 11 rfl rfl)
theorem dX3_whale_85 : decode cX3_whale 85 = .ok (.pop, 1) := dk_87 (dk_at dksX3_whale_3 14 rfl rfl)
theorem dX3_whale_86 : decode cX3_whale 86 = .ok (.return_, 1) := dk_177 (dk_at dksX3_whale_3 15 rfl rfl)
abbrev cX3_kind : ByteArray := prog_9_method_21_code
def yX3_kind : MethodName := ⟨RX3, "kind", "(Ljava/lang/String;)LWhalePost$Whale;"⟩
def dkwX3_kind_9 : List UInt8 := [183, 0, 243, 176]
abbrev dktX3_kind_9 : List UInt8 := dkwX3_kind_9 ++ []
def dkwX3_kind_8 : List UInt8 := [183, 0, 246, 176, 187, 0, 247, 89, 43, 183, 0, 249, 176, 42, 4, 182, 0, 56, 187, 0, 241, 89, 43]
abbrev dktX3_kind_8 : List UInt8 := dkwX3_kind_8 ++ dktX3_kind_9
def dkwX3_kind_7 : List UInt8 := [187, 0, 237, 89, 43, 183, 0, 239, 176, 187, 0, 241, 89, 43, 183, 0, 243, 176, 187, 0, 244, 89, 43]
abbrev dktX3_kind_7 : List UInt8 := dkwX3_kind_7 ++ dktX3_kind_8
def dkwX3_kind_6 : List UInt8 := [170, 0, 0, 0, 0, 66, 0, 0, 0, 0, 0, 0, 0, 3, 0, 0, 0, 30, 0, 0, 0, 39, 0, 0, 0, 48, 0, 0, 0, 57]
abbrev dktX3_kind_6 : List UInt8 := dkwX3_kind_6 ++ dktX3_kind_7
def dkwX3_kind_5 : List UInt8 := [153, 0, 5, 6, 62, 29]
abbrev dktX3_kind_5 : List UInt8 := dkwX3_kind_5 ++ dktX3_kind_6
def dkwX3_kind_4 : List UInt8 := [62, 167, 0, 28, 44, 18, 233, 182, 0, 121, 153, 0, 19, 5, 62, 167, 0, 14, 44, 18, 235, 182, 0, 121]
abbrev dktX3_kind_4 : List UInt8 := dkwX3_kind_4 ++ dktX3_kind_5
def dkwX3_kind_3 : List UInt8 := [44, 18, 229, 182, 0, 121, 153, 0, 47, 3, 62, 167, 0, 42, 44, 18, 231, 182, 0, 121, 153, 0, 33, 4]
abbrev dktX3_kind_3 : List UInt8 := dkwX3_kind_3 ++ dktX3_kind_4
def dkwX3_kind_2 : List UInt8 := [171, 0, 0, 0, 0, 95, 0, 0, 0, 4, 0, 1, 129, 139, 0, 0, 0, 56, 0, 1, 174, 39, 0, 0, 0, 84, 0, 46, 81, 19, 0, 0, 0, 70, 0, 46, 122, 88, 0, 0, 0, 42]
abbrev dktX3_kind_2 : List UInt8 := dkwX3_kind_2 ++ dktX3_kind_3
def dkwX3_kind_1 : List UInt8 := [2, 62, 44, 182, 0, 115]
abbrev dktX3_kind_1 : List UInt8 := dkwX3_kind_1 ++ dktX3_kind_2
def dkwX3_kind_0 : List UInt8 := [42, 180, 0, 28, 180, 0, 46, 5, 160, 0, 13, 42, 180, 0, 28, 180, 0, 78, 167, 0, 5, 18, 113, 77]
abbrev dktX3_kind_0 : List UInt8 := dkwX3_kind_0 ++ dktX3_kind_1
theorem dksX3_kind_0 : cX3_kind.data.toList.drop 0 = dktX3_kind_0 := by decide +kernel
theorem dksX3_kind_1 : cX3_kind.data.toList.drop 24 = dktX3_kind_1 := dk_seg dksX3_kind_0 24 rfl rfl
theorem dksX3_kind_2 : cX3_kind.data.toList.drop 30 = dktX3_kind_2 := dk_seg dksX3_kind_1 6 rfl rfl
theorem dksX3_kind_3 : cX3_kind.data.toList.drop 72 = dktX3_kind_3 := dk_seg dksX3_kind_2 42 rfl rfl
theorem dksX3_kind_4 : cX3_kind.data.toList.drop 96 = dktX3_kind_4 := dk_seg dksX3_kind_3 24 rfl rfl
theorem dksX3_kind_5 : cX3_kind.data.toList.drop 120 = dktX3_kind_5 := dk_seg dksX3_kind_4 24 rfl rfl
theorem dksX3_kind_6 : cX3_kind.data.toList.drop 126 = dktX3_kind_6 := dk_seg dksX3_kind_5 6 rfl rfl
theorem dksX3_kind_7 : cX3_kind.data.toList.drop 156 = dktX3_kind_7 := dk_seg dksX3_kind_6 30 rfl rfl
theorem dksX3_kind_8 : cX3_kind.data.toList.drop 179 = dktX3_kind_8 := dk_seg dksX3_kind_7 23 rfl rfl
theorem dksX3_kind_9 : cX3_kind.data.toList.drop 202 = dktX3_kind_9 := dk_seg dksX3_kind_8 23 rfl rfl
theorem dX3_kind_0 : decode cX3_kind 0 = .ok (.aload_n 0, 1) := dk_42 (dk_at dksX3_kind_0 0 rfl rfl)
theorem dX3_kind_1 : decode cX3_kind 1 = .ok (.getfield 28, 3) := dk_180 0 28 (dk_at dksX3_kind_0 1 rfl rfl)
theorem dX3_kind_4 : decode cX3_kind 4 = .ok (.getfield 46, 3) := dk_180 0 46 (dk_at dksX3_kind_0 4 rfl rfl)
theorem dX3_kind_7 : decode cX3_kind 7 = .ok (.iconst 2, 1) := dk_5 (dk_at dksX3_kind_0 7 rfl rfl)
theorem dX3_kind_8 : decode cX3_kind 8 = .ok (.if_icmp .ne 13, 3) := dk_160 0 13 (dk_at dksX3_kind_0 8 rfl rfl)
theorem dX3_kind_11 : decode cX3_kind 11 = .ok (.aload_n 0, 1) := dk_42 (dk_at dksX3_kind_0 11 rfl rfl)
theorem dX3_kind_12 : decode cX3_kind 12 = .ok (.getfield 28, 3) := dk_180 0 28 (dk_at dksX3_kind_0 12 rfl rfl)
theorem dX3_kind_15 : decode cX3_kind 15 = .ok (.getfield 78, 3) := dk_180 0 78 (dk_at dksX3_kind_0 15 rfl rfl)
theorem dX3_kind_18 : decode cX3_kind 18 = .ok (.goto 5, 3) := dk_167 0 5 (dk_at dksX3_kind_0 18 rfl rfl)
theorem dX3_kind_21 : decode cX3_kind 21 = .ok (.ldc 113, 2) := dk_18 113 (dk_at dksX3_kind_0 21 rfl rfl)
theorem dX3_kind_23 : decode cX3_kind 23 = .ok (.astore_n 2, 1) := dk_77 (dk_at dksX3_kind_0 23 rfl rfl)
theorem dX3_kind_24 : decode cX3_kind 24 = .ok (.iconst (-1), 1) := dk_2 (dk_at dksX3_kind_1 0 rfl rfl)
theorem dX3_kind_25 : decode cX3_kind 25 = .ok (.istore_n 3, 1) := dk_62 (dk_at dksX3_kind_1 1 rfl rfl)
theorem dX3_kind_26 : decode cX3_kind 26 = .ok (.aload_n 2, 1) := dk_44 (dk_at dksX3_kind_1 2 rfl rfl)
theorem dX3_kind_27 : decode cX3_kind 27 = .ok (.invokevirtual 115, 3) := dk_182 0 115 (dk_at dksX3_kind_1 3 rfl rfl)
theorem dX3_kind_30 : decode cX3_kind 30 = .ok (.lookupswitch 95 #[(98699, 56), (110119, 84), (3035411, 70), (3045976, 42)], 42) := by decide +kernel
theorem dX3_kind_72 : decode cX3_kind 72 = .ok (.aload_n 2, 1) := dk_44 (dk_at dksX3_kind_3 0 rfl rfl)
theorem dX3_kind_73 : decode cX3_kind 73 = .ok (.ldc 229, 2) := dk_18 229 (dk_at dksX3_kind_3 1 rfl rfl)
theorem dX3_kind_75 : decode cX3_kind 75 = .ok (.invokevirtual 121, 3) := dk_182 0 121 (dk_at dksX3_kind_3 3 rfl rfl)
theorem dX3_kind_78 : decode cX3_kind 78 = .ok (.ifCond .eq 47, 3) := dk_153 0 47 (dk_at dksX3_kind_3 6 rfl rfl)
theorem dX3_kind_81 : decode cX3_kind 81 = .ok (.iconst 0, 1) := dk_3 (dk_at dksX3_kind_3 9 rfl rfl)
theorem dX3_kind_82 : decode cX3_kind 82 = .ok (.istore_n 3, 1) := dk_62 (dk_at dksX3_kind_3 10 rfl rfl)
theorem dX3_kind_83 : decode cX3_kind 83 = .ok (.goto 42, 3) := dk_167 0 42 (dk_at dksX3_kind_3 11 rfl rfl)
theorem dX3_kind_86 : decode cX3_kind 86 = .ok (.aload_n 2, 1) := dk_44 (dk_at dksX3_kind_3 14 rfl rfl)
theorem dX3_kind_87 : decode cX3_kind 87 = .ok (.ldc 231, 2) := dk_18 231 (dk_at dksX3_kind_3 15 rfl rfl)
theorem dX3_kind_89 : decode cX3_kind 89 = .ok (.invokevirtual 121, 3) := dk_182 0 121 (dk_at dksX3_kind_3 17 rfl rfl)
theorem dX3_kind_92 : decode cX3_kind 92 = .ok (.ifCond .eq 33, 3) := dk_153 0 33 (dk_at dksX3_kind_3 20 rfl rfl)
theorem dX3_kind_95 : decode cX3_kind 95 = .ok (.iconst 1, 1) := dk_4 (dk_at dksX3_kind_3 23 rfl rfl)
theorem dX3_kind_96 : decode cX3_kind 96 = .ok (.istore_n 3, 1) := dk_62 (dk_at dksX3_kind_4 0 rfl rfl)
theorem dX3_kind_97 : decode cX3_kind 97 = .ok (.goto 28, 3) := dk_167 0 28 (dk_at dksX3_kind_4 1 rfl rfl)
theorem dX3_kind_100 : decode cX3_kind 100 = .ok (.aload_n 2, 1) := dk_44 (dk_at dksX3_kind_4 4 rfl rfl)
theorem dX3_kind_101 : decode cX3_kind 101 = .ok (.ldc 233, 2) := dk_18 233 (dk_at dksX3_kind_4 5 rfl rfl)
theorem dX3_kind_103 : decode cX3_kind 103 = .ok (.invokevirtual 121, 3) := dk_182 0 121 (dk_at dksX3_kind_4 7 rfl rfl)
theorem dX3_kind_106 : decode cX3_kind 106 = .ok (.ifCond .eq 19, 3) := dk_153 0 19 (dk_at dksX3_kind_4 10 rfl rfl)
theorem dX3_kind_109 : decode cX3_kind 109 = .ok (.iconst 2, 1) := dk_5 (dk_at dksX3_kind_4 13 rfl rfl)
theorem dX3_kind_110 : decode cX3_kind 110 = .ok (.istore_n 3, 1) := dk_62 (dk_at dksX3_kind_4 14 rfl rfl)
theorem dX3_kind_111 : decode cX3_kind 111 = .ok (.goto 14, 3) := dk_167 0 14 (dk_at dksX3_kind_4 15 rfl rfl)
theorem dX3_kind_114 : decode cX3_kind 114 = .ok (.aload_n 2, 1) := dk_44 (dk_at dksX3_kind_4 18 rfl rfl)
theorem dX3_kind_115 : decode cX3_kind 115 = .ok (.ldc 235, 2) := dk_18 235 (dk_at dksX3_kind_4 19 rfl rfl)
theorem dX3_kind_117 : decode cX3_kind 117 = .ok (.invokevirtual 121, 3) := dk_182 0 121 (dk_at dksX3_kind_4 21 rfl rfl)
theorem dX3_kind_120 : decode cX3_kind 120 = .ok (.ifCond .eq 5, 3) := dk_153 0 5 (dk_at dksX3_kind_5 0 rfl rfl)
theorem dX3_kind_123 : decode cX3_kind 123 = .ok (.iconst 3, 1) := dk_6 (dk_at dksX3_kind_5 3 rfl rfl)
theorem dX3_kind_124 : decode cX3_kind 124 = .ok (.istore_n 3, 1) := dk_62 (dk_at dksX3_kind_5 4 rfl rfl)
theorem dX3_kind_125 : decode cX3_kind 125 = .ok (.iload_n 3, 1) := dk_29 (dk_at dksX3_kind_5 5 rfl rfl)
theorem dX3_kind_126 : decode cX3_kind 126 = .ok (.tableswitch 66 0 3 #[30, 39, 48, 57], 30) := by decide +kernel
theorem dX3_kind_156 : decode cX3_kind 156 = .ok (.new 237, 3) := dk_187 0 237 (dk_at dksX3_kind_7 0 rfl rfl)
theorem dX3_kind_159 : decode cX3_kind 159 = .ok (.dup, 1) := dk_89 (dk_at dksX3_kind_7 3 rfl rfl)
theorem dX3_kind_160 : decode cX3_kind 160 = .ok (.aload_n 1, 1) := dk_43 (dk_at dksX3_kind_7 4 rfl rfl)
theorem dX3_kind_161 : decode cX3_kind 161 = .ok (.invokespecial 239, 3) := dk_183 0 239 (dk_at dksX3_kind_7 5 rfl rfl)
theorem dX3_kind_164 : decode cX3_kind 164 = .ok (.areturn, 1) := dk_176 (dk_at dksX3_kind_7 8 rfl rfl)
theorem dX3_kind_165 : decode cX3_kind 165 = .ok (.new 241, 3) := dk_187 0 241 (dk_at dksX3_kind_7 9 rfl rfl)
theorem dX3_kind_168 : decode cX3_kind 168 = .ok (.dup, 1) := dk_89 (dk_at dksX3_kind_7 12 rfl rfl)
theorem dX3_kind_169 : decode cX3_kind 169 = .ok (.aload_n 1, 1) := dk_43 (dk_at dksX3_kind_7 13 rfl rfl)
theorem dX3_kind_170 : decode cX3_kind 170 = .ok (.invokespecial 243, 3) := dk_183 0 243 (dk_at dksX3_kind_7 14 rfl rfl)
theorem dX3_kind_173 : decode cX3_kind 173 = .ok (.areturn, 1) := dk_176 (dk_at dksX3_kind_7 17 rfl rfl)
theorem dX3_kind_174 : decode cX3_kind 174 = .ok (.new 244, 3) := dk_187 0 244 (dk_at dksX3_kind_7 18 rfl rfl)
theorem dX3_kind_177 : decode cX3_kind 177 = .ok (.dup, 1) := dk_89 (dk_at dksX3_kind_7 21 rfl rfl)
theorem dX3_kind_178 : decode cX3_kind 178 = .ok (.aload_n 1, 1) := dk_43 (dk_at dksX3_kind_7 22 rfl rfl)
theorem dX3_kind_179 : decode cX3_kind 179 = .ok (.invokespecial 246, 3) := dk_183 0 246 (dk_at dksX3_kind_8 0 rfl rfl)
theorem dX3_kind_182 : decode cX3_kind 182 = .ok (.areturn, 1) := dk_176 (dk_at dksX3_kind_8 3 rfl rfl)
theorem dX3_kind_183 : decode cX3_kind 183 = .ok (.new 247, 3) := dk_187 0 247 (dk_at dksX3_kind_8 4 rfl rfl)
theorem dX3_kind_186 : decode cX3_kind 186 = .ok (.dup, 1) := dk_89 (dk_at dksX3_kind_8 7 rfl rfl)
theorem dX3_kind_187 : decode cX3_kind 187 = .ok (.aload_n 1, 1) := dk_43 (dk_at dksX3_kind_8 8 rfl rfl)
theorem dX3_kind_188 : decode cX3_kind 188 = .ok (.invokespecial 249, 3) := dk_183 0 249 (dk_at dksX3_kind_8 9 rfl rfl)
theorem dX3_kind_191 : decode cX3_kind 191 = .ok (.areturn, 1) := dk_176 (dk_at dksX3_kind_8 12 rfl rfl)
theorem dX3_kind_192 : decode cX3_kind 192 = .ok (.aload_n 0, 1) := dk_42 (dk_at dksX3_kind_8 13 rfl rfl)
theorem dX3_kind_193 : decode cX3_kind 193 = .ok (.iconst 1, 1) := dk_4 (dk_at dksX3_kind_8 14 rfl rfl)
theorem dX3_kind_194 : decode cX3_kind 194 = .ok (.invokevirtual 56, 3) := dk_182 0 56 (dk_at dksX3_kind_8 15 rfl rfl)
theorem dX3_kind_197 : decode cX3_kind 197 = .ok (.new 241, 3) := dk_187 0 241 (dk_at dksX3_kind_8 18 rfl rfl)
theorem dX3_kind_200 : decode cX3_kind 200 = .ok (.dup, 1) := dk_89 (dk_at dksX3_kind_8 21 rfl rfl)
theorem dX3_kind_201 : decode cX3_kind 201 = .ok (.aload_n 1, 1) := dk_43 (dk_at dksX3_kind_8 22 rfl rfl)
theorem dX3_kind_202 : decode cX3_kind 202 = .ok (.invokespecial 243, 3) := dk_183 0 243 (dk_at dksX3_kind_9 0 rfl rfl)
theorem dX3_kind_205 : decode cX3_kind 205 = .ok (.areturn, 1) := dk_176 (dk_at dksX3_kind_9 3 rfl rfl)
abbrev cX3_partIsland : ByteArray := prog_9_method_12_code
def yX3_partIsland : MethodName := ⟨RX3, "partIsland", "(Ljava/lang/String;)I"⟩
def dkwX3_partIsland_0 : List UInt8 := [42, 43, 182, 0, 67, 42, 182, 0, 92, 172]
abbrev dktX3_partIsland_0 : List UInt8 := dkwX3_partIsland_0 ++ []
theorem dksX3_partIsland_0 : cX3_partIsland.data.toList.drop 0 = dktX3_partIsland_0 := by decide +kernel
theorem dX3_partIsland_0 : decode cX3_partIsland 0 = .ok (.aload_n 0, 1) := dk_42 (dk_at dksX3_partIsland_0 0 rfl rfl)
theorem dX3_partIsland_1 : decode cX3_partIsland 1 = .ok (.aload_n 1, 1) := dk_43 (dk_at dksX3_partIsland_0 1 rfl rfl)
theorem dX3_partIsland_2 : decode cX3_partIsland 2 = .ok (.invokevirtual 67, 3) := dk_182 0 67 (dk_at dksX3_partIsland_0 2 rfl rfl)
theorem dX3_partIsland_5 : decode cX3_partIsland 5 = .ok (.aload_n 0, 1) := dk_42 (dk_at dksX3_partIsland_0 5 rfl rfl)
theorem dX3_partIsland_6 : decode cX3_partIsland 6 = .ok (.invokevirtual 92, 3) := dk_182 0 92 (dk_at dksX3_partIsland_0 6 rfl rfl)
theorem dX3_partIsland_9 : decode cX3_partIsland 9 = .ok (.ireturn, 1) := dk_172 (dk_at dksX3_partIsland_0 9 rfl rfl)
abbrev cX3_box : ByteArray := prog_9_method_23_code
def yX3_box : MethodName := ⟨RX3, "box", "()V"⟩
def dkwX3_box_4 : List UInt8 := [182, 0, 207, 87, 177]
abbrev dktX3_box_4 : List UInt8 := dkwX3_box_4 ++ []
def dkwX3_box_3 : List UInt8 := [17, 39, 15, 182, 0, 149, 181, 1, 36, 42, 182, 0, 36, 154, 0, 15, 42, 180, 0, 12, 180, 1, 16, 43]
abbrev dktX3_box_3 : List UInt8 := dkwX3_box_3 ++ dktX3_box_4
def dkwX3_box_2 : List UInt8 := [181, 1, 28, 43, 42, 19, 1, 30, 4, 16, 99, 182, 0, 149, 181, 1, 32, 43, 42, 19, 1, 34, 3]
abbrev dktX3_box_2 : List UInt8 := dkwX3_box_2 ++ dktX3_box_3
def dkwX3_box_1 : List UInt8 := [183, 1, 21, 76, 43, 42, 19, 1, 22, 182, 1, 3, 181, 1, 24, 43, 42, 19, 1, 26, 182, 1, 3]
abbrev dktX3_box_1 : List UInt8 := dkwX3_box_1 ++ dktX3_box_2
def dkwX3_box_0 : List UInt8 := [42, 42, 180, 0, 12, 180, 1, 16, 182, 0, 181, 16, 8, 182, 0, 190, 187, 1, 19, 89, 42, 182, 0, 194]
abbrev dktX3_box_0 : List UInt8 := dkwX3_box_0 ++ dktX3_box_1
theorem dksX3_box_0 : cX3_box.data.toList.drop 0 = dktX3_box_0 := by decide +kernel
theorem dksX3_box_1 : cX3_box.data.toList.drop 24 = dktX3_box_1 := dk_seg dksX3_box_0 24 rfl rfl
theorem dksX3_box_2 : cX3_box.data.toList.drop 47 = dktX3_box_2 := dk_seg dksX3_box_1 23 rfl rfl
theorem dksX3_box_3 : cX3_box.data.toList.drop 70 = dktX3_box_3 := dk_seg dksX3_box_2 23 rfl rfl
theorem dksX3_box_4 : cX3_box.data.toList.drop 94 = dktX3_box_4 := dk_seg dksX3_box_3 24 rfl rfl
theorem dX3_box_0 : decode cX3_box 0 = .ok (.aload_n 0, 1) := dk_42 (dk_at dksX3_box_0 0 rfl rfl)
theorem dX3_box_1 : decode cX3_box 1 = .ok (.aload_n 0, 1) := dk_42 (dk_at dksX3_box_0 1 rfl rfl)
theorem dX3_box_2 : decode cX3_box 2 = .ok (.getfield 12, 3) := dk_180 0 12 (dk_at dksX3_box_0 2 rfl rfl)
theorem dX3_box_5 : decode cX3_box 5 = .ok (.getfield 272, 3) := dk_180 1 16 (dk_at dksX3_box_0 5 rfl rfl)
theorem dX3_box_8 : decode cX3_box 8 = .ok (.invokevirtual 181, 3) := dk_182 0 181 (dk_at dksX3_box_0 8 rfl rfl)
theorem dX3_box_11 : decode cX3_box 11 = .ok (.bipush 8, 2) := dk_16 8 (dk_at dksX3_box_0 11 rfl rfl)
theorem dX3_box_13 : decode cX3_box 13 = .ok (.invokevirtual 190, 3) := dk_182 0 190 (dk_at dksX3_box_0 13 rfl rfl)
theorem dX3_box_16 : decode cX3_box 16 = .ok (.new 275, 3) := dk_187 1 19 (dk_at dksX3_box_0 16 rfl rfl)
theorem dX3_box_19 : decode cX3_box 19 = .ok (.dup, 1) := dk_89 (dk_at dksX3_box_0 19 rfl rfl)
theorem dX3_box_20 : decode cX3_box 20 = .ok (.aload_n 0, 1) := dk_42 (dk_at dksX3_box_0 20 rfl rfl)
theorem dX3_box_21 : decode cX3_box 21 = .ok (.invokevirtual 194, 3) := dk_182 0 194 (dk_at dksX3_box_0 21 rfl rfl)
theorem dX3_box_24 : decode cX3_box 24 = .ok (.invokespecial 277, 3) := dk_183 1 21 (dk_at dksX3_box_1 0 rfl rfl)
theorem dX3_box_27 : decode cX3_box 27 = .ok (.astore_n 1, 1) := dk_76 (dk_at dksX3_box_1 3 rfl rfl)
theorem dX3_box_28 : decode cX3_box 28 = .ok (.aload_n 1, 1) := dk_43 (dk_at dksX3_box_1 4 rfl rfl)
theorem dX3_box_29 : decode cX3_box 29 = .ok (.aload_n 0, 1) := dk_42 (dk_at dksX3_box_1 5 rfl rfl)
theorem dX3_box_30 : decode cX3_box 30 = .ok (.ldc_w 278, 3) := dk_19 1 22 (dk_at dksX3_box_1 6 rfl rfl)
theorem dX3_box_33 : decode cX3_box 33 = .ok (.invokevirtual 259, 3) := dk_182 1 3 (dk_at dksX3_box_1 9 rfl rfl)
theorem dX3_box_36 : decode cX3_box 36 = .ok (.putfield 280, 3) := dk_181 1 24 (dk_at dksX3_box_1 12 rfl rfl)
theorem dX3_box_39 : decode cX3_box 39 = .ok (.aload_n 1, 1) := dk_43 (dk_at dksX3_box_1 15 rfl rfl)
theorem dX3_box_40 : decode cX3_box 40 = .ok (.aload_n 0, 1) := dk_42 (dk_at dksX3_box_1 16 rfl rfl)
theorem dX3_box_41 : decode cX3_box 41 = .ok (.ldc_w 282, 3) := dk_19 1 26 (dk_at dksX3_box_1 17 rfl rfl)
theorem dX3_box_44 : decode cX3_box 44 = .ok (.invokevirtual 259, 3) := dk_182 1 3 (dk_at dksX3_box_1 20 rfl rfl)
theorem dX3_box_47 : decode cX3_box 47 = .ok (.putfield 284, 3) := dk_181 1 28 (dk_at dksX3_box_2 0 rfl rfl)
theorem dX3_box_50 : decode cX3_box 50 = .ok (.aload_n 1, 1) := dk_43 (dk_at dksX3_box_2 3 rfl rfl)
theorem dX3_box_51 : decode cX3_box 51 = .ok (.aload_n 0, 1) := dk_42 (dk_at dksX3_box_2 4 rfl rfl)
theorem dX3_box_52 : decode cX3_box 52 = .ok (.ldc_w 286, 3) := dk_19 1 30 (dk_at dksX3_box_2 5 rfl rfl)
theorem dX3_box_55 : decode cX3_box 55 = .ok (.iconst 1, 1) := dk_4 (dk_at dksX3_box_2 8 rfl rfl)
theorem dX3_box_56 : decode cX3_box 56 = .ok (.bipush 99, 2) := dk_16 99 (dk_at dksX3_box_2 9 rfl rfl)
theorem dX3_box_58 : decode cX3_box 58 = .ok (.invokevirtual 149, 3) := dk_182 0 149 (dk_at dksX3_box_2 11 rfl rfl)
theorem dX3_box_61 : decode cX3_box 61 = .ok (.putfield 288, 3) := dk_181 1 32 (dk_at dksX3_box_2 14 rfl rfl)
theorem dX3_box_64 : decode cX3_box 64 = .ok (.aload_n 1, 1) := dk_43 (dk_at dksX3_box_2 17 rfl rfl)
theorem dX3_box_65 : decode cX3_box 65 = .ok (.aload_n 0, 1) := dk_42 (dk_at dksX3_box_2 18 rfl rfl)
theorem dX3_box_66 : decode cX3_box 66 = .ok (.ldc_w 290, 3) := dk_19 1 34 (dk_at dksX3_box_2 19 rfl rfl)
theorem dX3_box_69 : decode cX3_box 69 = .ok (.iconst 0, 1) := dk_3 (dk_at dksX3_box_2 22 rfl rfl)
theorem dX3_box_70 : decode cX3_box 70 = .ok (.sipush 9999, 3) := dk_17 39 15 (dk_at dksX3_box_3 0 rfl rfl)
theorem dX3_box_73 : decode cX3_box 73 = .ok (.invokevirtual 149, 3) := dk_182 0 149 (dk_at dksX3_box_3 3 rfl rfl)
theorem dX3_box_76 : decode cX3_box 76 = .ok (.putfield 292, 3) := dk_181 1 36 (dk_at dksX3_box_3 6 rfl rfl)
theorem dX3_box_79 : decode cX3_box 79 = .ok (.aload_n 0, 1) := dk_42 (dk_at dksX3_box_3 9 rfl rfl)
theorem dX3_box_80 : decode cX3_box 80 = .ok (.invokevirtual 36, 3) := dk_182 0 36 (dk_at dksX3_box_3 10 rfl rfl)
theorem dX3_box_83 : decode cX3_box 83 = .ok (.ifCond .ne 15, 3) := dk_154 0 15 (dk_at dksX3_box_3 13 rfl rfl)
theorem dX3_box_86 : decode cX3_box 86 = .ok (.aload_n 0, 1) := dk_42 (dk_at dksX3_box_3 16 rfl rfl)
theorem dX3_box_87 : decode cX3_box 87 = .ok (.getfield 12, 3) := dk_180 0 12 (dk_at dksX3_box_3 17 rfl rfl)
theorem dX3_box_90 : decode cX3_box 90 = .ok (.getfield 272, 3) := dk_180 1 16 (dk_at dksX3_box_3 20 rfl rfl)
theorem dX3_box_93 : decode cX3_box 93 = .ok (.aload_n 1, 1) := dk_43 (dk_at dksX3_box_3 23 rfl rfl)
theorem dX3_box_94 : decode cX3_box 94 = .ok (.invokevirtual 207, 3) := dk_182 0 207 (dk_at dksX3_box_4 0 rfl rfl)
theorem dX3_box_97 : decode cX3_box 97 = .ok (.pop, 1) := dk_87 (dk_at dksX3_box_4 3 rfl rfl)
theorem dX3_box_98 : decode cX3_box 98 = .ok (.return_, 1) := dk_177 (dk_at dksX3_box_4 4 rfl rfl)
abbrev cX3_spout : ByteArray := prog_9_method_24_code
def yX3_spout : MethodName := ⟨RX3, "spout", "()V"⟩
def dkwX3_spout_4 : List UInt8 := [89, 27, 28, 29, 183, 1, 48, 182, 0, 207, 87, 177]
abbrev dktX3_spout_4 : List UInt8 := dkwX3_spout_4 ++ []
def dkwX3_spout_3 : List UInt8 := [17, 39, 15, 182, 0, 149, 62, 42, 182, 0, 36, 154, 0, 24, 42, 180, 0, 12, 180, 1, 38, 187, 1, 46]
abbrev dktX3_spout_3 : List UInt8 := dkwX3_spout_3 ++ dktX3_spout_4
def dkwX3_spout_2 : List UInt8 := [19, 1, 34, 42, 182, 0, 36, 153, 0, 7, 3, 167, 0, 13, 42, 180, 0, 12, 27, 182, 1, 43, 4, 96]
abbrev dktX3_spout_2 : List UInt8 := dkwX3_spout_2 ++ dktX3_spout_3
def dkwX3_spout_1 : List UInt8 := [180, 0, 28, 180, 0, 78, 182, 1, 41, 182, 0, 88, 60, 42, 182, 0, 49, 42, 182, 0, 92, 61, 42]
abbrev dktX3_spout_1 : List UInt8 := dkwX3_spout_1 ++ dktX3_spout_2
def dkwX3_spout_0 : List UInt8 := [42, 42, 180, 0, 12, 180, 1, 38, 182, 0, 181, 16, 8, 182, 0, 190, 42, 42, 180, 0, 12, 42]
abbrev dktX3_spout_0 : List UInt8 := dkwX3_spout_0 ++ dktX3_spout_1
theorem dksX3_spout_0 : cX3_spout.data.toList.drop 0 = dktX3_spout_0 := by decide +kernel
theorem dksX3_spout_1 : cX3_spout.data.toList.drop 22 = dktX3_spout_1 := dk_seg dksX3_spout_0 22 rfl rfl
theorem dksX3_spout_2 : cX3_spout.data.toList.drop 45 = dktX3_spout_2 := dk_seg dksX3_spout_1 23 rfl rfl
theorem dksX3_spout_3 : cX3_spout.data.toList.drop 69 = dktX3_spout_3 := dk_seg dksX3_spout_2 24 rfl rfl
theorem dksX3_spout_4 : cX3_spout.data.toList.drop 93 = dktX3_spout_4 := dk_seg dksX3_spout_3 24 rfl rfl
theorem dX3_spout_0 : decode cX3_spout 0 = .ok (.aload_n 0, 1) := dk_42 (dk_at dksX3_spout_0 0 rfl rfl)
theorem dX3_spout_1 : decode cX3_spout 1 = .ok (.aload_n 0, 1) := dk_42 (dk_at dksX3_spout_0 1 rfl rfl)
theorem dX3_spout_2 : decode cX3_spout 2 = .ok (.getfield 12, 3) := dk_180 0 12 (dk_at dksX3_spout_0 2 rfl rfl)
theorem dX3_spout_5 : decode cX3_spout 5 = .ok (.getfield 294, 3) := dk_180 1 38 (dk_at dksX3_spout_0 5 rfl rfl)
theorem dX3_spout_8 : decode cX3_spout 8 = .ok (.invokevirtual 181, 3) := dk_182 0 181 (dk_at dksX3_spout_0 8 rfl rfl)
theorem dX3_spout_11 : decode cX3_spout 11 = .ok (.bipush 8, 2) := dk_16 8 (dk_at dksX3_spout_0 11 rfl rfl)
theorem dX3_spout_13 : decode cX3_spout 13 = .ok (.invokevirtual 190, 3) := dk_182 0 190 (dk_at dksX3_spout_0 13 rfl rfl)
theorem dX3_spout_16 : decode cX3_spout 16 = .ok (.aload_n 0, 1) := dk_42 (dk_at dksX3_spout_0 16 rfl rfl)
theorem dX3_spout_17 : decode cX3_spout 17 = .ok (.aload_n 0, 1) := dk_42 (dk_at dksX3_spout_0 17 rfl rfl)
theorem dX3_spout_18 : decode cX3_spout 18 = .ok (.getfield 12, 3) := dk_180 0 12 (dk_at dksX3_spout_0 18 rfl rfl)
theorem dX3_spout_21 : decode cX3_spout 21 = .ok (.aload_n 0, 1) := dk_42 (dk_at dksX3_spout_0 21 rfl rfl)
theorem dX3_spout_22 : decode cX3_spout 22 = .ok (.getfield 28, 3) := dk_180 0 28 (dk_at dksX3_spout_1 0 rfl rfl)
theorem dX3_spout_25 : decode cX3_spout 25 = .ok (.getfield 78, 3) := dk_180 0 78 (dk_at dksX3_spout_1 3 rfl rfl)
theorem dX3_spout_28 : decode cX3_spout 28 = .ok (.invokevirtual 297, 3) := dk_182 1 41 (dk_at dksX3_spout_1 6 rfl rfl)
theorem dX3_spout_31 : decode cX3_spout 31 = .ok (.invokevirtual 88, 3) := dk_182 0 88 (dk_at dksX3_spout_1 9 rfl rfl)
theorem dX3_spout_34 : decode cX3_spout 34 = .ok (.istore_n 1, 1) := dk_60 (dk_at dksX3_spout_1 12 rfl rfl)
theorem dX3_spout_35 : decode cX3_spout 35 = .ok (.aload_n 0, 1) := dk_42 (dk_at dksX3_spout_1 13 rfl rfl)
theorem dX3_spout_36 : decode cX3_spout 36 = .ok (.invokevirtual 49, 3) := dk_182 0 49 (dk_at dksX3_spout_1 14 rfl rfl)
theorem dX3_spout_39 : decode cX3_spout 39 = .ok (.aload_n 0, 1) := dk_42 (dk_at dksX3_spout_1 17 rfl rfl)
theorem dX3_spout_40 : decode cX3_spout 40 = .ok (.invokevirtual 92, 3) := dk_182 0 92 (dk_at dksX3_spout_1 18 rfl rfl)
theorem dX3_spout_43 : decode cX3_spout 43 = .ok (.istore_n 2, 1) := dk_61 (dk_at dksX3_spout_1 21 rfl rfl)
theorem dX3_spout_44 : decode cX3_spout 44 = .ok (.aload_n 0, 1) := dk_42 (dk_at dksX3_spout_1 22 rfl rfl)
theorem dX3_spout_45 : decode cX3_spout 45 = .ok (.ldc_w 290, 3) := dk_19 1 34 (dk_at dksX3_spout_2 0 rfl rfl)
theorem dX3_spout_48 : decode cX3_spout 48 = .ok (.aload_n 0, 1) := dk_42 (dk_at dksX3_spout_2 3 rfl rfl)
theorem dX3_spout_49 : decode cX3_spout 49 = .ok (.invokevirtual 36, 3) := dk_182 0 36 (dk_at dksX3_spout_2 4 rfl rfl)
theorem dX3_spout_52 : decode cX3_spout 52 = .ok (.ifCond .eq 7, 3) := dk_153 0 7 (dk_at dksX3_spout_2 7 rfl rfl)
theorem dX3_spout_55 : decode cX3_spout 55 = .ok (.iconst 0, 1) := dk_3 (dk_at dksX3_spout_2 10 rfl rfl)
theorem dX3_spout_56 : decode cX3_spout 56 = .ok (.goto 13, 3) := dk_167 0 13 (dk_at dksX3_spout_2 11 rfl rfl)
theorem dX3_spout_59 : decode cX3_spout 59 = .ok (.aload_n 0, 1) := dk_42 (dk_at dksX3_spout_2 14 rfl rfl)
theorem dX3_spout_60 : decode cX3_spout 60 = .ok (.getfield 12, 3) := dk_180 0 12 (dk_at dksX3_spout_2 15 rfl rfl)
theorem dX3_spout_63 : decode cX3_spout 63 = .ok (.iload_n 1, 1) := dk_27 (dk_at dksX3_spout_2 18 rfl rfl)
theorem dX3_spout_64 : decode cX3_spout 64 = .ok (.invokevirtual 299, 3) := dk_182 1 43 (dk_at dksX3_spout_2 19 rfl rfl)
theorem dX3_spout_67 : decode cX3_spout 67 = .ok (.iconst 1, 1) := dk_4 (dk_at dksX3_spout_2 22 rfl rfl)
theorem dX3_spout_68 : decode cX3_spout 68 = .ok (.iadd, 1) := dk_96 (dk_at dksX3_spout_2 23 rfl rfl)
theorem dX3_spout_69 : decode cX3_spout 69 = .ok (.sipush 9999, 3) := dk_17 39 15 (dk_at dksX3_spout_3 0 rfl rfl)
theorem dX3_spout_72 : decode cX3_spout 72 = .ok (.invokevirtual 149, 3) := dk_182 0 149 (dk_at dksX3_spout_3 3 rfl rfl)
theorem dX3_spout_75 : decode cX3_spout 75 = .ok (.istore_n 3, 1) := dk_62 (dk_at dksX3_spout_3 6 rfl rfl)
theorem dX3_spout_76 : decode cX3_spout 76 = .ok (.aload_n 0, 1) := dk_42 (dk_at dksX3_spout_3 7 rfl rfl)
theorem dX3_spout_77 : decode cX3_spout 77 = .ok (.invokevirtual 36, 3) := dk_182 0 36 (dk_at dksX3_spout_3 8 rfl rfl)
theorem dX3_spout_80 : decode cX3_spout 80 = .ok (.ifCond .ne 24, 3) := dk_154 0 24 (dk_at dksX3_spout_3 11 rfl rfl)
theorem dX3_spout_83 : decode cX3_spout 83 = .ok (.aload_n 0, 1) := dk_42 (dk_at dksX3_spout_3 14 rfl rfl)
theorem dX3_spout_84 : decode cX3_spout 84 = .ok (.getfield 12, 3) := dk_180 0 12 (dk_at dksX3_spout_3 15 rfl rfl)
theorem dX3_spout_87 : decode cX3_spout 87 = .ok (.getfield 294, 3) := dk_180 1 38 (dk_at dksX3_spout_3 18 rfl rfl)
theorem dX3_spout_90 : decode cX3_spout 90 = .ok (.new 302, 3) := dk_187 1 46 (dk_at dksX3_spout_3 21 rfl rfl)
theorem dX3_spout_93 : decode cX3_spout 93 = .ok (.dup, 1) := dk_89 (dk_at dksX3_spout_4 0 rfl rfl)
theorem dX3_spout_94 : decode cX3_spout 94 = .ok (.iload_n 1, 1) := dk_27 (dk_at dksX3_spout_4 1 rfl rfl)
theorem dX3_spout_95 : decode cX3_spout 95 = .ok (.iload_n 2, 1) := dk_28 (dk_at dksX3_spout_4 2 rfl rfl)
theorem dX3_spout_96 : decode cX3_spout 96 = .ok (.iload_n 3, 1) := dk_29 (dk_at dksX3_spout_4 3 rfl rfl)
theorem dX3_spout_97 : decode cX3_spout 97 = .ok (.invokespecial 304, 3) := dk_183 1 48 (dk_at dksX3_spout_4 4 rfl rfl)
theorem dX3_spout_100 : decode cX3_spout 100 = .ok (.invokevirtual 207, 3) := dk_182 0 207 (dk_at dksX3_spout_4 7 rfl rfl)
theorem dX3_spout_103 : decode cX3_spout 103 = .ok (.pop, 1) := dk_87 (dk_at dksX3_spout_4 10 rfl rfl)
theorem dX3_spout_104 : decode cX3_spout 104 = .ok (.return_, 1) := dk_177 (dk_at dksX3_spout_4 11 rfl rfl)
abbrev cX3_eatsSemicolon : ByteArray := prog_9_method_5_code
def yX3_eatsSemicolon : MethodName := ⟨RX3, "eatsSemicolon", "()Z"⟩
def dkwX3_eatsSemicolon_1 : List UInt8 := [4, 172]
abbrev dktX3_eatsSemicolon_1 : List UInt8 := dkwX3_eatsSemicolon_1 ++ []
def dkwX3_eatsSemicolon_0 : List UInt8 := [42, 182, 0, 36, 154, 0, 14, 42, 180, 0, 28, 180, 0, 46, 7, 159, 0, 5, 3, 172, 42, 182, 0, 49]
abbrev dktX3_eatsSemicolon_0 : List UInt8 := dkwX3_eatsSemicolon_0 ++ dktX3_eatsSemicolon_1
theorem dksX3_eatsSemicolon_0 : cX3_eatsSemicolon.data.toList.drop 0 = dktX3_eatsSemicolon_0 := by decide +kernel
theorem dksX3_eatsSemicolon_1 : cX3_eatsSemicolon.data.toList.drop 24 = dktX3_eatsSemicolon_1 := dk_seg dksX3_eatsSemicolon_0 24 rfl rfl
theorem dX3_eatsSemicolon_0 : decode cX3_eatsSemicolon 0 = .ok (.aload_n 0, 1) := dk_42 (dk_at dksX3_eatsSemicolon_0 0 rfl rfl)
theorem dX3_eatsSemicolon_1 : decode cX3_eatsSemicolon 1 = .ok (.invokevirtual 36, 3) := dk_182 0 36 (dk_at dksX3_eatsSemicolon_0 1 rfl rfl)
theorem dX3_eatsSemicolon_4 : decode cX3_eatsSemicolon 4 = .ok (.ifCond .ne 14, 3) := dk_154 0 14 (dk_at dksX3_eatsSemicolon_0 4 rfl rfl)
theorem dX3_eatsSemicolon_7 : decode cX3_eatsSemicolon 7 = .ok (.aload_n 0, 1) := dk_42 (dk_at dksX3_eatsSemicolon_0 7 rfl rfl)
theorem dX3_eatsSemicolon_8 : decode cX3_eatsSemicolon 8 = .ok (.getfield 28, 3) := dk_180 0 28 (dk_at dksX3_eatsSemicolon_0 8 rfl rfl)
theorem dX3_eatsSemicolon_11 : decode cX3_eatsSemicolon 11 = .ok (.getfield 46, 3) := dk_180 0 46 (dk_at dksX3_eatsSemicolon_0 11 rfl rfl)
theorem dX3_eatsSemicolon_14 : decode cX3_eatsSemicolon 14 = .ok (.iconst 4, 1) := dk_7 (dk_at dksX3_eatsSemicolon_0 14 rfl rfl)
theorem dX3_eatsSemicolon_15 : decode cX3_eatsSemicolon 15 = .ok (.if_icmp .eq 5, 3) := dk_159 0 5 (dk_at dksX3_eatsSemicolon_0 15 rfl rfl)
theorem dX3_eatsSemicolon_18 : decode cX3_eatsSemicolon 18 = .ok (.iconst 0, 1) := dk_3 (dk_at dksX3_eatsSemicolon_0 18 rfl rfl)
theorem dX3_eatsSemicolon_19 : decode cX3_eatsSemicolon 19 = .ok (.ireturn, 1) := dk_172 (dk_at dksX3_eatsSemicolon_0 19 rfl rfl)
theorem dX3_eatsSemicolon_20 : decode cX3_eatsSemicolon 20 = .ok (.aload_n 0, 1) := dk_42 (dk_at dksX3_eatsSemicolon_0 20 rfl rfl)
theorem dX3_eatsSemicolon_21 : decode cX3_eatsSemicolon 21 = .ok (.invokevirtual 49, 3) := dk_182 0 49 (dk_at dksX3_eatsSemicolon_0 21 rfl rfl)
theorem dX3_eatsSemicolon_24 : decode cX3_eatsSemicolon 24 = .ok (.iconst 1, 1) := dk_4 (dk_at dksX3_eatsSemicolon_1 0 rfl rfl)
theorem dX3_eatsSemicolon_25 : decode cX3_eatsSemicolon 25 = .ok (.ireturn, 1) := dk_172 (dk_at dksX3_eatsSemicolon_1 1 rfl rfl)
theorem q136 : (Jvm.Cond.initialized "WhalePost$Reade\x72") ∈ lw_all := lw_g (lw_at lw_m1 6 rfl) rfl
theorem q278 : (Jvm.Cond.instantiable "WhalePost$Reade\x72" (5 : Nat)) ∈ lw_all := lw_g (lw_at lw_m1 148 rfl) rfl
theorem q296 : (Jvm.Cond.instanceMethod ({ cls := "WhalePost$Reade\x72", name := "<init>", desc := "(LWhalePost$Tokens;)V" } : Jvm.MethodName)) ∈ lw_all := lw_g (lw_at lw_m1 166 rfl) rfl
theorem q297 : (Jvm.Cond.code ({ cls := "WhalePost$Reade\x72", name := "<init>", desc := "(LWhalePost$Tokens;)V" } : Jvm.MethodName) prog_9_method_1_code (2 : Nat) (Option.none : Option Jvm.ClassFile.FieldType)) ∈ lw_all := lw_g (lw_at lw_m1 167 rfl) rfl
theorem q298 : (Jvm.Cond.methodLink "WhalePost$Reade\x72" (3 : Nat) ({ cls := "java/lang/Object", name := "<init>", desc := "()V" } : Jvm.MethodName)) ∈ lw_all := lw_g (lw_at lw_m1 168 rfl) rfl
theorem q299 : (Jvm.Cond.classLink "WhalePost$Reade\x72" (9 : Nat) "WhalePost$Post") ∈ lw_all := lw_g (lw_at lw_m1 169 rfl) rfl
theorem q301 : (Jvm.Cond.methodLinkNest "WhalePost$Reade\x72" (11 : Nat) ({ cls := "WhalePost$Post", name := "<init>", desc := "()V" } : Jvm.MethodName) "WhalePost") ∈ lw_tbl := lw_at lw_m1 171 rfl
theorem q308 : (Jvm.Cond.fieldLink "WhalePost$Reade\x72" (101 : Nat) "WhalePost$Post" "notes" "I") ∈ lw_all := lw_g (lw_at lw_m1 178 rfl) rfl
theorem q311 : (Jvm.Cond.fieldLink "WhalePost$Reade\x72" (159 : Nat) "WhalePost$Post" "errors" "I") ∈ lw_all := lw_g (lw_at lw_m1 181 rfl) rfl
theorem q314 : (Jvm.Cond.fieldLink "WhalePost$Reade\x72" (161 : Nat) "WhalePost$Post" "drift" "I") ∈ lw_all := lw_g (lw_at lw_m1 184 rfl) rfl
theorem q316 : (Jvm.Cond.fieldLink "WhalePost$Reade\x72" (163 : Nat) "WhalePost$Post" "slip" "I") ∈ lw_all := lw_g (lw_at lw_m1 186 rfl) rfl
theorem q320 : (Jvm.Cond.fieldLink "WhalePost$Reade\x72" (104 : Nat) "WhalePost$Post" "islands" "Ljava/util/ArrayList;") ∈ lw_all := lw_g (lw_at lw_m1 190 rfl) rfl
theorem q323 : (Jvm.Cond.fieldLink "WhalePost$Reade\x72" (210 : Nat) "WhalePost$Post" "ways" "Ljava/util/ArrayList;") ∈ lw_all := lw_g (lw_at lw_m1 193 rfl) rfl
theorem q328 : (Jvm.Cond.fieldLink "WhalePost$Reade\x72" (250 : Nat) "WhalePost$Post" "whales" "Ljava/util/ArrayList;") ∈ lw_all := lw_g (lw_at lw_m1 198 rfl) rfl
theorem q332 : (Jvm.Cond.fieldLink "WhalePost$Reade\x72" (272 : Nat) "WhalePost$Post" "boxes" "Ljava/util/ArrayList;") ∈ lw_all := lw_g (lw_at lw_m1 202 rfl) rfl
theorem q334 : (Jvm.Cond.fieldLink "WhalePost$Reade\x72" (294 : Nat) "WhalePost$Post" "spouts" "Ljava/util/ArrayList;") ∈ lw_all := lw_g (lw_at lw_m1 204 rfl) rfl
theorem q355 : (Jvm.Cond.methodLink "WhalePost$Reade\x72" (22 : Nat) ({ cls := "WhalePost$Tokens", name := "next", desc := "()LWhalePost$Token;" } : Jvm.MethodName)) ∈ lw_all := lw_g (lw_at lw_m1 225 rfl) rfl
theorem q371 : (Jvm.Cond.fieldLink "WhalePost$Reade\x72" (46 : Nat) "WhalePost$Token" "sort" "I") ∈ lw_all := lw_g (lw_at lw_m2 1 rfl) rfl
theorem q373 : (Jvm.Cond.fieldLink "WhalePost$Reade\x72" (40 : Nat) "WhalePost$Token" "place" "I") ∈ lw_all := lw_g (lw_at lw_m2 3 rfl) rfl
theorem q375 : (Jvm.Cond.fieldLink "WhalePost$Reade\x72" (60 : Nat) "WhalePost$Token" "numbe\x72" "I") ∈ lw_all := lw_g (lw_at lw_m2 5 rfl) rfl
theorem q377 : (Jvm.Cond.fieldLink "WhalePost$Reade\x72" (78 : Nat) "WhalePost$Token" "word" "Ljava/lang/String;") ∈ lw_all := lw_g (lw_at lw_m2 7 rfl) rfl
theorem q577 : (Jvm.Cond.fieldLink "WhalePost$Reade\x72" (18 : Nat) "WhalePost$Reade\x72" "tokens" "LWhalePost$Tokens;") ∈ lw_all := lw_g (lw_at lw_m2 207 rfl) rfl
theorem q578 : (Jvm.Cond.fieldLink "WhalePost$Reade\x72" (12 : Nat) "WhalePost$Reade\x72" "post" "LWhalePost$Post;") ∈ lw_all := lw_g (lw_at lw_m2 208 rfl) rfl
theorem q579 : (Jvm.Cond.fieldLink "WhalePost$Reade\x72" (28 : Nat) "WhalePost$Reade\x72" "now" "LWhalePost$Token;") ∈ lw_all := lw_g (lw_at lw_m2 209 rfl) rfl
theorem q580 : (Jvm.Cond.fieldLink "WhalePost$Reade\x72" (32 : Nat) "WhalePost$Reade\x72" "fault" "I") ∈ lw_all := lw_g (lw_at lw_m2 210 rfl) rfl
theorem q582 : (Jvm.Cond.fieldLink "WhalePost$Reade\x72" (45 : Nat) "WhalePost$Reade\x72" "place" "I") ∈ lw_all := lw_g (lw_at lw_m2 212 rfl) rfl
theorem q584 : (Jvm.Cond.laysFinal "WhalePost$Reade\x72" "WhalePost$Reade\x72" "tokens" "LWhalePost$Tokens;") ∈ lw_all := lw_g (lw_at lw_m2 214 rfl) rfl
theorem q585 : (Jvm.Cond.soleField "WhalePost$Reade\x72" "tokens") ∈ lw_all := lw_g (lw_at lw_m2 215 rfl) rfl
theorem q586 : (Jvm.Cond.laysFinal "WhalePost$Reade\x72" "WhalePost$Reade\x72" "post" "LWhalePost$Post;") ∈ lw_all := lw_g (lw_at lw_m2 216 rfl) rfl
theorem q587 : (Jvm.Cond.soleField "WhalePost$Reade\x72" "post") ∈ lw_all := lw_g (lw_at lw_m2 217 rfl) rfl
theorem q588 : (Jvm.Cond.lays "WhalePost$Reade\x72" "WhalePost$Reade\x72" "now" "LWhalePost$Token;") ∈ lw_all := lw_g (lw_at lw_m2 218 rfl) rfl
theorem q589 : (Jvm.Cond.soleField "WhalePost$Reade\x72" "now") ∈ lw_all := lw_g (lw_at lw_m2 219 rfl) rfl
theorem q590 : (Jvm.Cond.lays "WhalePost$Reade\x72" "WhalePost$Reade\x72" "fault" "I") ∈ lw_all := lw_g (lw_at lw_m2 220 rfl) rfl
theorem q591 : (Jvm.Cond.soleField "WhalePost$Reade\x72" "fault") ∈ lw_all := lw_g (lw_at lw_m2 221 rfl) rfl
theorem q592 : (Jvm.Cond.lays "WhalePost$Reade\x72" "WhalePost$Reade\x72" "place" "I") ∈ lw_all := lw_g (lw_at lw_m2 222 rfl) rfl
theorem q593 : (Jvm.Cond.soleField "WhalePost$Reade\x72" "place") ∈ lw_all := lw_g (lw_at lw_m2 223 rfl) rfl
theorem q594 : (Jvm.Cond.superclass "WhalePost$Reade\x72" "java/lang/Object") ∈ lw_all := lw_g (lw_at lw_m2 224 rfl) rfl
theorem q596 : (Jvm.Cond.instanceMethod ({ cls := "WhalePost$Reade\x72", name := "read", desc := "()LWhalePost$Post;" } : Jvm.MethodName)) ∈ lw_all := lw_g (lw_at lw_m2 226 rfl) rfl
theorem q597 : (Jvm.Cond.selects "WhalePost$Reade\x72" ({ cls := "WhalePost$Reade\x72", name := "read", desc := "()LWhalePost$Post;" } : Jvm.MethodName) ({ cls := "WhalePost$Reade\x72", name := "read", desc := "()LWhalePost$Post;" } : Jvm.MethodName)) ∈ lw_all := lw_g (lw_at lw_m2 227 rfl) rfl
theorem q598 : (Jvm.Cond.code ({ cls := "WhalePost$Reade\x72", name := "read", desc := "()LWhalePost$Post;" } : Jvm.MethodName) prog_9_method_13_code (1 : Nat) (Option.some (Jvm.ClassFile.FieldType.object "WhalePost$Post"))) ∈ lw_all := lw_g (lw_at lw_m2 228 rfl) rfl
theorem q599 : (Jvm.Cond.methodLink "WhalePost$Reade\x72" (95 : Nat) ({ cls := "WhalePost$Reade\x72", name := "line", desc := "()V" } : Jvm.MethodName)) ∈ lw_all := lw_g (lw_at lw_m2 229 rfl) rfl
theorem q600 : (Jvm.Cond.privateMethod ({ cls := "WhalePost$Reade\x72", name := "line", desc := "()V" } : Jvm.MethodName)) ∈ lw_tbl := lw_at lw_m2 230 rfl
theorem q601 : (Jvm.Cond.instanceMethod ({ cls := "WhalePost$Reade\x72", name := "line", desc := "()V" } : Jvm.MethodName)) ∈ lw_all := lw_g (lw_at lw_m2 231 rfl) rfl
theorem q602 : (Jvm.Cond.code ({ cls := "WhalePost$Reade\x72", name := "line", desc := "()V" } : Jvm.MethodName) prog_9_method_14_code (3 : Nat) (Option.none : Option Jvm.ClassFile.FieldType)) ∈ lw_all := lw_g (lw_at lw_m2 232 rfl) rfl
theorem q603 : (Jvm.Cond.stringRef "WhalePost$Reade\x72" (113 : Nat) "") ∈ lw_tbl := lw_at lw_m2 233 rfl
theorem q604 : (Jvm.Cond.methodLink "WhalePost$Reade\x72" (115 : Nat) ({ cls := "java/lang/String", name := "hashCode", desc := "()I" } : Jvm.MethodName)) ∈ lw_all := lw_g (lw_at lw_m2 234 rfl) rfl
theorem q657 : (Jvm.Cond.stringRef "WhalePost$Reade\x72" (120 : Nat) "post") ∈ lw_tbl := lw_at lw_m3 47 rfl
theorem q658 : (Jvm.Cond.methodLink "WhalePost$Reade\x72" (121 : Nat) ({ cls := "java/lang/String", name := "equals", desc := "(Ljava/lang/Object;)Z" } : Jvm.MethodName)) ∈ lw_all := lw_g (lw_at lw_m3 48 rfl) rfl
theorem q666 : (Jvm.Cond.stringRef "WhalePost$Reade\x72" (125 : Nat) "island") ∈ lw_tbl := lw_at lw_m3 56 rfl
theorem q667 : (Jvm.Cond.stringRef "WhalePost$Reade\x72" (126 : Nat) "way") ∈ lw_tbl := lw_at lw_m3 57 rfl
theorem q668 : (Jvm.Cond.stringRef "WhalePost$Reade\x72" (128 : Nat) "whale") ∈ lw_tbl := lw_at lw_m3 58 rfl
theorem q669 : (Jvm.Cond.stringRef "WhalePost$Reade\x72" (130 : Nat) "box") ∈ lw_tbl := lw_at lw_m3 59 rfl
theorem q670 : (Jvm.Cond.stringRef "WhalePost$Reade\x72" (132 : Nat) "spout") ∈ lw_tbl := lw_at lw_m3 60 rfl
theorem q671 : (Jvm.Cond.methodLink "WhalePost$Reade\x72" (134 : Nat) ({ cls := "WhalePost$Reade\x72", name := "postLine", desc := "()V" } : Jvm.MethodName)) ∈ lw_all := lw_g (lw_at lw_m3 61 rfl) rfl
theorem q672 : (Jvm.Cond.privateMethod ({ cls := "WhalePost$Reade\x72", name := "postLine", desc := "()V" } : Jvm.MethodName)) ∈ lw_tbl := lw_at lw_m3 62 rfl
theorem q673 : (Jvm.Cond.instanceMethod ({ cls := "WhalePost$Reade\x72", name := "postLine", desc := "()V" } : Jvm.MethodName)) ∈ lw_all := lw_g (lw_at lw_m3 63 rfl) rfl
theorem q674 : (Jvm.Cond.code ({ cls := "WhalePost$Reade\x72", name := "postLine", desc := "()V" } : Jvm.MethodName) prog_9_method_16_code (5 : Nat) (Option.none : Option Jvm.ClassFile.FieldType)) ∈ lw_all := lw_g (lw_at lw_m3 64 rfl) rfl
theorem q675 : (Jvm.Cond.methodLink "WhalePost$Reade\x72" (56 : Nat) ({ cls := "WhalePost$Reade\x72", name := "wrong", desc := "(I)V" } : Jvm.MethodName)) ∈ lw_all := lw_g (lw_at lw_m3 65 rfl) rfl
theorem q676 : (Jvm.Cond.privateMethod ({ cls := "WhalePost$Reade\x72", name := "wrong", desc := "(I)V" } : Jvm.MethodName)) ∈ lw_tbl := lw_at lw_m3 66 rfl
theorem q677 : (Jvm.Cond.instanceMethod ({ cls := "WhalePost$Reade\x72", name := "wrong", desc := "(I)V" } : Jvm.MethodName)) ∈ lw_all := lw_g (lw_at lw_m3 67 rfl) rfl
theorem q678 : (Jvm.Cond.code ({ cls := "WhalePost$Reade\x72", name := "wrong", desc := "(I)V" } : Jvm.MethodName) prog_9_method_3_code (2 : Nat) (Option.none : Option Jvm.ClassFile.FieldType)) ∈ lw_all := lw_g (lw_at lw_m3 68 rfl) rfl
theorem q679 : (Jvm.Cond.methodLink "WhalePost$Reade\x72" (36 : Nat) ({ cls := "WhalePost$Reade\x72", name := "isOve\x72", desc := "()Z" } : Jvm.MethodName)) ∈ lw_all := lw_g (lw_at lw_m3 69 rfl) rfl
theorem q680 : (Jvm.Cond.privateMethod ({ cls := "WhalePost$Reade\x72", name := "isOve\x72", desc := "()Z" } : Jvm.MethodName)) ∈ lw_tbl := lw_at lw_m3 70 rfl
theorem q681 : (Jvm.Cond.instanceMethod ({ cls := "WhalePost$Reade\x72", name := "isOve\x72", desc := "()Z" } : Jvm.MethodName)) ∈ lw_all := lw_g (lw_at lw_m3 71 rfl) rfl
theorem q682 : (Jvm.Cond.code ({ cls := "WhalePost$Reade\x72", name := "isOve\x72", desc := "()Z" } : Jvm.MethodName) prog_9_method_2_code (1 : Nat) (Option.some Jvm.ClassFile.FieldType.boolean)) ∈ lw_all := lw_g (lw_at lw_m3 72 rfl) rfl
theorem q683 : (Jvm.Cond.methodLink "WhalePost$Reade\x72" (49 : Nat) ({ cls := "WhalePost$Reade\x72", name := "on", desc := "()V" } : Jvm.MethodName)) ∈ lw_all := lw_g (lw_at lw_m3 73 rfl) rfl
theorem q684 : (Jvm.Cond.privateMethod ({ cls := "WhalePost$Reade\x72", name := "on", desc := "()V" } : Jvm.MethodName)) ∈ lw_tbl := lw_at lw_m3 74 rfl
theorem q685 : (Jvm.Cond.instanceMethod ({ cls := "WhalePost$Reade\x72", name := "on", desc := "()V" } : Jvm.MethodName)) ∈ lw_all := lw_g (lw_at lw_m3 75 rfl) rfl
theorem q686 : (Jvm.Cond.code ({ cls := "WhalePost$Reade\x72", name := "on", desc := "()V" } : Jvm.MethodName) prog_9_method_4_code (1 : Nat) (Option.none : Option Jvm.ClassFile.FieldType)) ∈ lw_all := lw_g (lw_at lw_m3 76 rfl) rfl
theorem q687 : (Jvm.Cond.stringRef "WhalePost$Reade\x72" (148 : Nat) "notes") ∈ lw_tbl := lw_at lw_m3 77 rfl
theorem q688 : (Jvm.Cond.methodLink "WhalePost$Reade\x72" (149 : Nat) ({ cls := "WhalePost$Reade\x72", name := "part", desc := "(Ljava/lang/String;II)I" } : Jvm.MethodName)) ∈ lw_all := lw_g (lw_at lw_m3 78 rfl) rfl
theorem q689 : (Jvm.Cond.privateMethod ({ cls := "WhalePost$Reade\x72", name := "part", desc := "(Ljava/lang/String;II)I" } : Jvm.MethodName)) ∈ lw_tbl := lw_at lw_m3 79 rfl
theorem q690 : (Jvm.Cond.instanceMethod ({ cls := "WhalePost$Reade\x72", name := "part", desc := "(Ljava/lang/String;II)I" } : Jvm.MethodName)) ∈ lw_all := lw_g (lw_at lw_m3 80 rfl) rfl
theorem q691 : (Jvm.Cond.code ({ cls := "WhalePost$Reade\x72", name := "part", desc := "(Ljava/lang/String;II)I" } : Jvm.MethodName) prog_9_method_8_code (4 : Nat) (Option.some Jvm.ClassFile.FieldType.int)) ∈ lw_all := lw_g (lw_at lw_m3 81 rfl) rfl
theorem q692 : (Jvm.Cond.methodLink "WhalePost$Reade\x72" (67 : Nat) ({ cls := "WhalePost$Reade\x72", name := "needs", desc := "(Ljava/lang/String;)V" } : Jvm.MethodName)) ∈ lw_all := lw_g (lw_at lw_m3 82 rfl) rfl
theorem q693 : (Jvm.Cond.privateMethod ({ cls := "WhalePost$Reade\x72", name := "needs", desc := "(Ljava/lang/String;)V" } : Jvm.MethodName)) ∈ lw_tbl := lw_at lw_m3 83 rfl
theorem q694 : (Jvm.Cond.instanceMethod ({ cls := "WhalePost$Reade\x72", name := "needs", desc := "(Ljava/lang/String;)V" } : Jvm.MethodName)) ∈ lw_all := lw_g (lw_at lw_m3 84 rfl) rfl
theorem q695 : (Jvm.Cond.code ({ cls := "WhalePost$Reade\x72", name := "needs", desc := "(Ljava/lang/String;)V" } : Jvm.MethodName) prog_9_method_6_code (2 : Nat) (Option.none : Option Jvm.ClassFile.FieldType)) ∈ lw_all := lw_g (lw_at lw_m3 85 rfl) rfl
theorem q696 : (Jvm.Cond.methodLink "WhalePost$Reade\x72" (52 : Nat) ({ cls := "WhalePost$Token", name := "is", desc := "(Ljava/lang/String;)Z" } : Jvm.MethodName)) ∈ lw_all := lw_g (lw_at lw_m3 86 rfl) rfl
theorem q701 : (Jvm.Cond.methodLink "WhalePost$Reade\x72" (71 : Nat) ({ cls := "WhalePost$Reade\x72", name := "whole", desc := "(II)I" } : Jvm.MethodName)) ∈ lw_all := lw_g (lw_at lw_m3 91 rfl) rfl
theorem q702 : (Jvm.Cond.privateMethod ({ cls := "WhalePost$Reade\x72", name := "whole", desc := "(II)I" } : Jvm.MethodName)) ∈ lw_tbl := lw_at lw_m3 92 rfl
theorem q703 : (Jvm.Cond.instanceMethod ({ cls := "WhalePost$Reade\x72", name := "whole", desc := "(II)I" } : Jvm.MethodName)) ∈ lw_all := lw_g (lw_at lw_m3 93 rfl) rfl
theorem q704 : (Jvm.Cond.code ({ cls := "WhalePost$Reade\x72", name := "whole", desc := "(II)I" } : Jvm.MethodName) prog_9_method_7_code (4 : Nat) (Option.some Jvm.ClassFile.FieldType.int)) ∈ lw_all := lw_g (lw_at lw_m3 94 rfl) rfl
theorem q705 : (Jvm.Cond.methodLinkNest "WhalePost$Reade\x72" (63 : Nat) ({ cls := "WhalePost", name := "in", desc := "(III)Z" } : Jvm.MethodName) "WhalePost") ∈ lw_tbl := lw_at lw_m3 95 rfl
theorem q706 : (Jvm.Cond.stringRef "WhalePost$Reade\x72" (153 : Nat) "errors") ∈ lw_tbl := lw_at lw_m3 96 rfl
theorem q707 : (Jvm.Cond.stringRef "WhalePost$Reade\x72" (155 : Nat) "drift") ∈ lw_tbl := lw_at lw_m3 97 rfl
theorem q708 : (Jvm.Cond.stringRef "WhalePost$Reade\x72" (157 : Nat) "slip") ∈ lw_tbl := lw_at lw_m3 98 rfl
theorem q709 : (Jvm.Cond.methodLink "WhalePost$Reade\x72" (137 : Nat) ({ cls := "WhalePost$Reade\x72", name := "islandLine", desc := "()V" } : Jvm.MethodName)) ∈ lw_all := lw_g (lw_at lw_m3 99 rfl) rfl
theorem q710 : (Jvm.Cond.privateMethod ({ cls := "WhalePost$Reade\x72", name := "islandLine", desc := "()V" } : Jvm.MethodName)) ∈ lw_tbl := lw_at lw_m3 100 rfl
theorem q711 : (Jvm.Cond.instanceMethod ({ cls := "WhalePost$Reade\x72", name := "islandLine", desc := "()V" } : Jvm.MethodName)) ∈ lw_all := lw_g (lw_at lw_m3 101 rfl) rfl
theorem q712 : (Jvm.Cond.code ({ cls := "WhalePost$Reade\x72", name := "islandLine", desc := "()V" } : Jvm.MethodName) prog_9_method_19_code (3 : Nat) (Option.none : Option Jvm.ClassFile.FieldType)) ∈ lw_all := lw_g (lw_at lw_m3 102 rfl) rfl
theorem q713 : (Jvm.Cond.methodLink "WhalePost$Reade\x72" (181 : Nat) ({ cls := "java/util/ArrayList", name := "size", desc := "()I" } : Jvm.MethodName)) ∈ lw_all := lw_g (lw_at lw_m3 103 rfl) rfl
theorem q717 : (Jvm.Cond.methodLink "WhalePost$Reade\x72" (190 : Nat) ({ cls := "WhalePost$Reade\x72", name := "begins", desc := "(II)V" } : Jvm.MethodName)) ∈ lw_all := lw_g (lw_at lw_m3 107 rfl) rfl
theorem q718 : (Jvm.Cond.privateMethod ({ cls := "WhalePost$Reade\x72", name := "begins", desc := "(II)V" } : Jvm.MethodName)) ∈ lw_tbl := lw_at lw_m3 108 rfl
theorem q719 : (Jvm.Cond.instanceMethod ({ cls := "WhalePost$Reade\x72", name := "begins", desc := "(II)V" } : Jvm.MethodName)) ∈ lw_all := lw_g (lw_at lw_m3 109 rfl) rfl
theorem q720 : (Jvm.Cond.code ({ cls := "WhalePost$Reade\x72", name := "begins", desc := "(II)V" } : Jvm.MethodName) prog_9_method_15_code (3 : Nat) (Option.none : Option Jvm.ClassFile.FieldType)) ∈ lw_all := lw_g (lw_at lw_m3 110 rfl) rfl
theorem q721 : (Jvm.Cond.methodLink "WhalePost$Reade\x72" (194 : Nat) ({ cls := "WhalePost$Reade\x72", name := "fresh", desc := "()Ljava/lang/String;" } : Jvm.MethodName)) ∈ lw_all := lw_g (lw_at lw_m3 111 rfl) rfl
theorem q722 : (Jvm.Cond.privateMethod ({ cls := "WhalePost$Reade\x72", name := "fresh", desc := "()Ljava/lang/String;" } : Jvm.MethodName)) ∈ lw_tbl := lw_at lw_m3 112 rfl
theorem q723 : (Jvm.Cond.instanceMethod ({ cls := "WhalePost$Reade\x72", name := "fresh", desc := "()Ljava/lang/String;" } : Jvm.MethodName)) ∈ lw_all := lw_g (lw_at lw_m3 113 rfl) rfl
theorem q724 : (Jvm.Cond.code ({ cls := "WhalePost$Reade\x72", name := "fresh", desc := "()Ljava/lang/String;" } : Jvm.MethodName) prog_9_method_9_code (2 : Nat) (Option.some (Jvm.ClassFile.FieldType.object "java/lang/String"))) ∈ lw_all := lw_g (lw_at lw_m3 114 rfl) rfl
theorem q725 : (Jvm.Cond.methodLink "WhalePost$Reade\x72" (75 : Nat) ({ cls := "WhalePost$Token", name := "isName", desc := "()Z" } : Jvm.MethodName)) ∈ lw_all := lw_g (lw_at lw_m3 115 rfl) rfl
theorem q736 : (Jvm.Cond.methodLink "WhalePost$Reade\x72" (82 : Nat) ({ cls := "WhalePost$Post", name := "isName", desc := "(Ljava/lang/String;)Z" } : Jvm.MethodName)) ∈ lw_all := lw_g (lw_at lw_m3 126 rfl) rfl
theorem q765 : (Jvm.Cond.methodLink "WhalePost$Reade\x72" (198 : Nat) ({ cls := "WhalePost$Reade\x72", name := "song", desc := "()[I" } : Jvm.MethodName)) ∈ lw_all := lw_g (lw_at lw_m3 155 rfl) rfl
theorem q766 : (Jvm.Cond.privateMethod ({ cls := "WhalePost$Reade\x72", name := "song", desc := "()[I" } : Jvm.MethodName)) ∈ lw_tbl := lw_at lw_m3 156 rfl
theorem q767 : (Jvm.Cond.instanceMethod ({ cls := "WhalePost$Reade\x72", name := "song", desc := "()[I" } : Jvm.MethodName)) ∈ lw_all := lw_g (lw_at lw_m3 157 rfl) rfl
theorem q768 : (Jvm.Cond.code ({ cls := "WhalePost$Reade\x72", name := "song", desc := "()[I" } : Jvm.MethodName) prog_9_method_17_code (5 : Nat) (Option.some (Jvm.ClassFile.FieldType.array Jvm.ClassFile.FieldType.int))) ∈ lw_all := lw_g (lw_at lw_m3 158 rfl) rfl
theorem q769 : (Jvm.Cond.methodLink "WhalePost$Reade\x72" (165 : Nat) ({ cls := "java/lang/String", name := "length", desc := "()I" } : Jvm.MethodName)) ∈ lw_all := lw_g (lw_at lw_m3 159 rfl) rfl
theorem q777 : (Jvm.Cond.methodLink "WhalePost$Reade\x72" (168 : Nat) ({ cls := "java/lang/Math", name := "min", desc := "(II)I" } : Jvm.MethodName)) ∈ lw_all := lw_g (lw_at lw_m3 167 rfl) rfl
theorem q778 : (Jvm.Cond.methodLink "WhalePost$Reade\x72" (173 : Nat) ({ cls := "java/lang/String", name := "charAt", desc := "(I)C" } : Jvm.MethodName)) ∈ lw_all := lw_g (lw_at lw_m3 168 rfl) rfl
theorem q789 : (Jvm.Cond.methodLink "WhalePost$Reade\x72" (177 : Nat) ({ cls := "WhalePost$Reade\x72", name := "isTold", desc := "([I)Z" } : Jvm.MethodName)) ∈ lw_all := lw_g (lw_at lw_m3 179 rfl) rfl
theorem q790 : (Jvm.Cond.privateMethod ({ cls := "WhalePost$Reade\x72", name := "isTold", desc := "([I)Z" } : Jvm.MethodName)) ∈ lw_tbl := lw_at lw_m3 180 rfl
theorem q791 : (Jvm.Cond.instanceMethod ({ cls := "WhalePost$Reade\x72", name := "isTold", desc := "([I)Z" } : Jvm.MethodName)) ∈ lw_all := lw_g (lw_at lw_m3 181 rfl) rfl
theorem q792 : (Jvm.Cond.code ({ cls := "WhalePost$Reade\x72", name := "isTold", desc := "([I)Z" } : Jvm.MethodName) prog_9_method_18_code (3 : Nat) (Option.some Jvm.ClassFile.FieldType.boolean)) ∈ lw_all := lw_g (lw_at lw_m3 182 rfl) rfl
theorem q793 : (Jvm.Cond.methodLink "WhalePost$Reade\x72" (184 : Nat) ({ cls := "WhalePost$Post", name := "length", desc := "(I)I" } : Jvm.MethodName)) ∈ lw_all := lw_g (lw_at lw_m3 183 rfl) rfl
theorem q797 : (Jvm.Cond.methodLink "WhalePost$Reade\x72" (186 : Nat) ({ cls := "WhalePost$Post", name := "unlike", desc := "([IIII)I" } : Jvm.MethodName)) ∈ lw_all := lw_g (lw_at lw_m3 187 rfl) rfl
theorem q806 : (Jvm.Cond.classLink "WhalePost$Reade\x72" (202 : Nat) "WhalePost$Island") ∈ lw_all := lw_g (lw_at lw_m3 196 rfl) rfl
theorem q808 : (Jvm.Cond.methodLink "WhalePost$Reade\x72" (204 : Nat) ({ cls := "WhalePost$Island", name := "<init>", desc := "(Ljava/lang/String;[I)V" } : Jvm.MethodName)) ∈ lw_all := lw_g (lw_at lw_m3 198 rfl) rfl
theorem q823 : (Jvm.Cond.methodLink "WhalePost$Reade\x72" (207 : Nat) ({ cls := "java/util/ArrayList", name := "add", desc := "(Ljava/lang/Object;)Z" } : Jvm.MethodName)) ∈ lw_all := lw_g (lw_at lw_m3 213 rfl) rfl
theorem q854 : (Jvm.Cond.selects "WhalePost$Reade\x72" ({ cls := "java/lang/Object", name := "getClass", desc := "()Ljava/lang/Class;" } : Jvm.MethodName) ({ cls := "java/lang/Object", name := "getClass", desc := "()Ljava/lang/Class;" } : Jvm.MethodName)) ∈ lw_all := lw_g (lw_at lw_m4 4 rfl) rfl
theorem q875 : (Jvm.Cond.methodLink "WhalePost$Reade\x72" (140 : Nat) ({ cls := "WhalePost$Reade\x72", name := "way", desc := "()V" } : Jvm.MethodName)) ∈ lw_all := lw_g (lw_at lw_m4 25 rfl) rfl
theorem q876 : (Jvm.Cond.privateMethod ({ cls := "WhalePost$Reade\x72", name := "way", desc := "()V" } : Jvm.MethodName)) ∈ lw_tbl := lw_at lw_m4 26 rfl
theorem q877 : (Jvm.Cond.instanceMethod ({ cls := "WhalePost$Reade\x72", name := "way", desc := "()V" } : Jvm.MethodName)) ∈ lw_all := lw_g (lw_at lw_m4 27 rfl) rfl
theorem q878 : (Jvm.Cond.code ({ cls := "WhalePost$Reade\x72", name := "way", desc := "()V" } : Jvm.MethodName) prog_9_method_20_code (4 : Nat) (Option.none : Option Jvm.ClassFile.FieldType)) ∈ lw_all := lw_g (lw_at lw_m4 28 rfl) rfl
theorem q879 : (Jvm.Cond.methodLink "WhalePost$Reade\x72" (92 : Nat) ({ cls := "WhalePost$Reade\x72", name := "island", desc := "()I" } : Jvm.MethodName)) ∈ lw_all := lw_g (lw_at lw_m4 29 rfl) rfl
theorem q880 : (Jvm.Cond.privateMethod ({ cls := "WhalePost$Reade\x72", name := "island", desc := "()I" } : Jvm.MethodName)) ∈ lw_tbl := lw_at lw_m4 30 rfl
theorem q881 : (Jvm.Cond.instanceMethod ({ cls := "WhalePost$Reade\x72", name := "island", desc := "()I" } : Jvm.MethodName)) ∈ lw_all := lw_g (lw_at lw_m4 31 rfl) rfl
theorem q882 : (Jvm.Cond.code ({ cls := "WhalePost$Reade\x72", name := "island", desc := "()I" } : Jvm.MethodName) prog_9_method_11_code (2 : Nat) (Option.some Jvm.ClassFile.FieldType.int)) ∈ lw_all := lw_g (lw_at lw_m4 32 rfl) rfl
theorem q883 : (Jvm.Cond.methodLink "WhalePost$Reade\x72" (84 : Nat) ({ cls := "WhalePost$Post", name := "island", desc := "(Ljava/lang/String;)I" } : Jvm.MethodName)) ∈ lw_all := lw_g (lw_at lw_m4 33 rfl) rfl
theorem q884 : (Jvm.Cond.methodLink "WhalePost$Reade\x72" (88 : Nat) ({ cls := "WhalePost$Reade\x72", name := "known", desc := "(I)I" } : Jvm.MethodName)) ∈ lw_all := lw_g (lw_at lw_m4 34 rfl) rfl
theorem q885 : (Jvm.Cond.privateMethod ({ cls := "WhalePost$Reade\x72", name := "known", desc := "(I)I" } : Jvm.MethodName)) ∈ lw_tbl := lw_at lw_m4 35 rfl
theorem q886 : (Jvm.Cond.instanceMethod ({ cls := "WhalePost$Reade\x72", name := "known", desc := "(I)I" } : Jvm.MethodName)) ∈ lw_all := lw_g (lw_at lw_m4 36 rfl) rfl
theorem q887 : (Jvm.Cond.code ({ cls := "WhalePost$Reade\x72", name := "known", desc := "(I)I" } : Jvm.MethodName) prog_9_method_10_code (2 : Nat) (Option.some Jvm.ClassFile.FieldType.int)) ∈ lw_all := lw_g (lw_at lw_m4 37 rfl) rfl
theorem q888 : (Jvm.Cond.methodLink "WhalePost$Reade\x72" (213 : Nat) ({ cls := "WhalePost$Post", name := "isWay", desc := "(II)Z" } : Jvm.MethodName)) ∈ lw_all := lw_g (lw_at lw_m4 38 rfl) rfl
theorem q897 : (Jvm.Cond.classLink "WhalePost$Reade\x72" (217 : Nat) "WhalePost$Way") ∈ lw_all := lw_g (lw_at lw_m4 47 rfl) rfl
theorem q899 : (Jvm.Cond.methodLink "WhalePost$Reade\x72" (219 : Nat) ({ cls := "WhalePost$Way", name := "<init>", desc := "(II)V" } : Jvm.MethodName)) ∈ lw_all := lw_g (lw_at lw_m4 49 rfl) rfl
theorem q907 : (Jvm.Cond.fieldLink "WhalePost$Reade\x72" (223 : Nat) "WhalePost$Way" "days" "I") ∈ lw_all := lw_g (lw_at lw_m4 57 rfl) rfl
theorem q910 : (Jvm.Cond.fieldLink "WhalePost$Reade\x72" (227 : Nat) "WhalePost$Way" "open" "I") ∈ lw_all := lw_g (lw_at lw_m4 60 rfl) rfl
theorem q920 : (Jvm.Cond.stringRef "WhalePost$Reade\x72" (221 : Nat) "days") ∈ lw_tbl := lw_at lw_m4 70 rfl
theorem q921 : (Jvm.Cond.stringRef "WhalePost$Reade\x72" (225 : Nat) "open") ∈ lw_tbl := lw_at lw_m4 71 rfl
theorem q922 : (Jvm.Cond.methodLink "WhalePost$Reade\x72" (142 : Nat) ({ cls := "WhalePost$Reade\x72", name := "whale", desc := "()V" } : Jvm.MethodName)) ∈ lw_all := lw_g (lw_at lw_m4 72 rfl) rfl
theorem q923 : (Jvm.Cond.privateMethod ({ cls := "WhalePost$Reade\x72", name := "whale", desc := "()V" } : Jvm.MethodName)) ∈ lw_tbl := lw_at lw_m4 73 rfl
theorem q924 : (Jvm.Cond.instanceMethod ({ cls := "WhalePost$Reade\x72", name := "whale", desc := "()V" } : Jvm.MethodName)) ∈ lw_all := lw_g (lw_at lw_m4 74 rfl) rfl
theorem q925 : (Jvm.Cond.code ({ cls := "WhalePost$Reade\x72", name := "whale", desc := "()V" } : Jvm.MethodName) prog_9_method_22_code (2 : Nat) (Option.none : Option Jvm.ClassFile.FieldType)) ∈ lw_all := lw_g (lw_at lw_m4 75 rfl) rfl
theorem q926 : (Jvm.Cond.methodLink "WhalePost$Reade\x72" (253 : Nat) ({ cls := "WhalePost$Reade\x72", name := "kind", desc := "(Ljava/lang/String;)LWhalePost$Whale;" } : Jvm.MethodName)) ∈ lw_all := lw_g (lw_at lw_m4 76 rfl) rfl
theorem q927 : (Jvm.Cond.privateMethod ({ cls := "WhalePost$Reade\x72", name := "kind", desc := "(Ljava/lang/String;)LWhalePost$Whale;" } : Jvm.MethodName)) ∈ lw_tbl := lw_at lw_m4 77 rfl
theorem q928 : (Jvm.Cond.instanceMethod ({ cls := "WhalePost$Reade\x72", name := "kind", desc := "(Ljava/lang/String;)LWhalePost$Whale;" } : Jvm.MethodName)) ∈ lw_all := lw_g (lw_at lw_m4 78 rfl) rfl
theorem q929 : (Jvm.Cond.code ({ cls := "WhalePost$Reade\x72", name := "kind", desc := "(Ljava/lang/String;)LWhalePost$Whale;" } : Jvm.MethodName) prog_9_method_21_code (4 : Nat) (Option.some (Jvm.ClassFile.FieldType.object "WhalePost$Whale"))) ∈ lw_all := lw_g (lw_at lw_m4 79 rfl) rfl
theorem q930 : (Jvm.Cond.stringRef "WhalePost$Reade\x72" (229 : Nat) "calf") ∈ lw_tbl := lw_at lw_m4 80 rfl
theorem q931 : (Jvm.Cond.stringRef "WhalePost$Reade\x72" (231 : Nat) "cow") ∈ lw_tbl := lw_at lw_m4 81 rfl
theorem q932 : (Jvm.Cond.stringRef "WhalePost$Reade\x72" (233 : Nat) "bull") ∈ lw_tbl := lw_at lw_m4 82 rfl
theorem q933 : (Jvm.Cond.stringRef "WhalePost$Reade\x72" (235 : Nat) "old") ∈ lw_tbl := lw_at lw_m4 83 rfl
theorem q934 : (Jvm.Cond.classLink "WhalePost$Reade\x72" (237 : Nat) "WhalePost$Calf") ∈ lw_all := lw_g (lw_at lw_m4 84 rfl) rfl
theorem q936 : (Jvm.Cond.methodLink "WhalePost$Reade\x72" (239 : Nat) ({ cls := "WhalePost$Calf", name := "<init>", desc := "(Ljava/lang/String;)V" } : Jvm.MethodName)) ∈ lw_all := lw_g (lw_at lw_m4 86 rfl) rfl
theorem q946 : (Jvm.Cond.fieldLink "WhalePost$Reade\x72" (262 : Nat) "WhalePost$Whale" "at" "I") ∈ lw_all := lw_g (lw_at lw_m4 96 rfl) rfl
theorem q949 : (Jvm.Cond.fieldLink "WhalePost$Reade\x72" (266 : Nat) "WhalePost$Whale" "keeps" "I") ∈ lw_all := lw_g (lw_at lw_m4 99 rfl) rfl
theorem q951 : (Jvm.Cond.fieldLink "WhalePost$Reade\x72" (270 : Nat) "WhalePost$Whale" "lost" "I") ∈ lw_all := lw_g (lw_at lw_m4 101 rfl) rfl
theorem q961 : (Jvm.Cond.classLink "WhalePost$Reade\x72" (241 : Nat) "WhalePost$Whale") ∈ lw_all := lw_g (lw_at lw_m4 111 rfl) rfl
theorem q963 : (Jvm.Cond.methodLink "WhalePost$Reade\x72" (243 : Nat) ({ cls := "WhalePost$Whale", name := "<init>", desc := "(Ljava/lang/String;)V" } : Jvm.MethodName)) ∈ lw_all := lw_g (lw_at lw_m4 113 rfl) rfl
theorem q969 : (Jvm.Cond.classLink "WhalePost$Reade\x72" (244 : Nat) "WhalePost$Bull") ∈ lw_all := lw_g (lw_at lw_m4 119 rfl) rfl
theorem q971 : (Jvm.Cond.methodLink "WhalePost$Reade\x72" (246 : Nat) ({ cls := "WhalePost$Bull", name := "<init>", desc := "(Ljava/lang/String;)V" } : Jvm.MethodName)) ∈ lw_all := lw_g (lw_at lw_m4 121 rfl) rfl
theorem q980 : (Jvm.Cond.classLink "WhalePost$Reade\x72" (247 : Nat) "WhalePost$Old") ∈ lw_all := lw_g (lw_at lw_m4 130 rfl) rfl
theorem q982 : (Jvm.Cond.methodLink "WhalePost$Reade\x72" (249 : Nat) ({ cls := "WhalePost$Old", name := "<init>", desc := "(Ljava/lang/String;)V" } : Jvm.MethodName)) ∈ lw_all := lw_g (lw_at lw_m4 132 rfl) rfl
theorem q991 : (Jvm.Cond.stringRef "WhalePost$Reade\x72" (257 : Nat) "at") ∈ lw_tbl := lw_at lw_m4 141 rfl
theorem q992 : (Jvm.Cond.methodLink "WhalePost$Reade\x72" (259 : Nat) ({ cls := "WhalePost$Reade\x72", name := "partIsland", desc := "(Ljava/lang/String;)I" } : Jvm.MethodName)) ∈ lw_all := lw_g (lw_at lw_m4 142 rfl) rfl
theorem q993 : (Jvm.Cond.privateMethod ({ cls := "WhalePost$Reade\x72", name := "partIsland", desc := "(Ljava/lang/String;)I" } : Jvm.MethodName)) ∈ lw_tbl := lw_at lw_m4 143 rfl
theorem q994 : (Jvm.Cond.instanceMethod ({ cls := "WhalePost$Reade\x72", name := "partIsland", desc := "(Ljava/lang/String;)I" } : Jvm.MethodName)) ∈ lw_all := lw_g (lw_at lw_m4 144 rfl) rfl
theorem q995 : (Jvm.Cond.code ({ cls := "WhalePost$Reade\x72", name := "partIsland", desc := "(Ljava/lang/String;)I" } : Jvm.MethodName) prog_9_method_12_code (2 : Nat) (Option.some Jvm.ClassFile.FieldType.int)) ∈ lw_all := lw_g (lw_at lw_m4 145 rfl) rfl
theorem q996 : (Jvm.Cond.stringRef "WhalePost$Reade\x72" (264 : Nat) "keeps") ∈ lw_tbl := lw_at lw_m4 146 rfl
theorem q997 : (Jvm.Cond.stringRef "WhalePost$Reade\x72" (268 : Nat) "lost") ∈ lw_tbl := lw_at lw_m4 147 rfl
theorem q998 : (Jvm.Cond.methodLink "WhalePost$Reade\x72" (144 : Nat) ({ cls := "WhalePost$Reade\x72", name := "box", desc := "()V" } : Jvm.MethodName)) ∈ lw_all := lw_g (lw_at lw_m4 148 rfl) rfl
theorem q999 : (Jvm.Cond.privateMethod ({ cls := "WhalePost$Reade\x72", name := "box", desc := "()V" } : Jvm.MethodName)) ∈ lw_tbl := lw_at lw_m4 149 rfl
theorem q1000 : (Jvm.Cond.instanceMethod ({ cls := "WhalePost$Reade\x72", name := "box", desc := "()V" } : Jvm.MethodName)) ∈ lw_all := lw_g (lw_at lw_m4 150 rfl) rfl
theorem q1001 : (Jvm.Cond.code ({ cls := "WhalePost$Reade\x72", name := "box", desc := "()V" } : Jvm.MethodName) prog_9_method_23_code (2 : Nat) (Option.none : Option Jvm.ClassFile.FieldType)) ∈ lw_all := lw_g (lw_at lw_m4 151 rfl) rfl
theorem q1002 : (Jvm.Cond.classLink "WhalePost$Reade\x72" (275 : Nat) "WhalePost$Box") ∈ lw_all := lw_g (lw_at lw_m4 152 rfl) rfl
theorem q1004 : (Jvm.Cond.methodLink "WhalePost$Reade\x72" (277 : Nat) ({ cls := "WhalePost$Box", name := "<init>", desc := "(Ljava/lang/String;)V" } : Jvm.MethodName)) ∈ lw_all := lw_g (lw_at lw_m4 154 rfl) rfl
theorem q1011 : (Jvm.Cond.fieldLink "WhalePost$Reade\x72" (280 : Nat) "WhalePost$Box" "from" "I") ∈ lw_all := lw_g (lw_at lw_m4 161 rfl) rfl
theorem q1014 : (Jvm.Cond.fieldLink "WhalePost$Reade\x72" (284 : Nat) "WhalePost$Box" "to" "I") ∈ lw_all := lw_g (lw_at lw_m4 164 rfl) rfl
theorem q1016 : (Jvm.Cond.fieldLink "WhalePost$Reade\x72" (288 : Nat) "WhalePost$Box" "weighs" "I") ∈ lw_all := lw_g (lw_at lw_m4 166 rfl) rfl
theorem q1018 : (Jvm.Cond.fieldLink "WhalePost$Reade\x72" (292 : Nat) "WhalePost$Box" "day" "I") ∈ lw_all := lw_g (lw_at lw_m4 168 rfl) rfl
theorem q1030 : (Jvm.Cond.stringRef "WhalePost$Reade\x72" (278 : Nat) "from") ∈ lw_tbl := lw_at lw_m4 180 rfl
theorem q1031 : (Jvm.Cond.stringRef "WhalePost$Reade\x72" (282 : Nat) "to") ∈ lw_tbl := lw_at lw_m4 181 rfl
theorem q1032 : (Jvm.Cond.stringRef "WhalePost$Reade\x72" (286 : Nat) "weighs") ∈ lw_tbl := lw_at lw_m4 182 rfl
theorem q1033 : (Jvm.Cond.stringRef "WhalePost$Reade\x72" (290 : Nat) "day") ∈ lw_tbl := lw_at lw_m4 183 rfl
theorem q1034 : (Jvm.Cond.methodLink "WhalePost$Reade\x72" (146 : Nat) ({ cls := "WhalePost$Reade\x72", name := "spout", desc := "()V" } : Jvm.MethodName)) ∈ lw_all := lw_g (lw_at lw_m4 184 rfl) rfl
theorem q1035 : (Jvm.Cond.privateMethod ({ cls := "WhalePost$Reade\x72", name := "spout", desc := "()V" } : Jvm.MethodName)) ∈ lw_tbl := lw_at lw_m4 185 rfl
theorem q1036 : (Jvm.Cond.instanceMethod ({ cls := "WhalePost$Reade\x72", name := "spout", desc := "()V" } : Jvm.MethodName)) ∈ lw_all := lw_g (lw_at lw_m4 186 rfl) rfl
theorem q1037 : (Jvm.Cond.code ({ cls := "WhalePost$Reade\x72", name := "spout", desc := "()V" } : Jvm.MethodName) prog_9_method_24_code (4 : Nat) (Option.none : Option Jvm.ClassFile.FieldType)) ∈ lw_all := lw_g (lw_at lw_m4 187 rfl) rfl
theorem q1038 : (Jvm.Cond.methodLink "WhalePost$Reade\x72" (297 : Nat) ({ cls := "WhalePost$Post", name := "whale", desc := "(Ljava/lang/String;)I" } : Jvm.MethodName)) ∈ lw_all := lw_g (lw_at lw_m4 188 rfl) rfl
theorem q1039 : (Jvm.Cond.methodLink "WhalePost$Reade\x72" (299 : Nat) ({ cls := "WhalePost$Post", name := "lastSpout", desc := "(I)I" } : Jvm.MethodName)) ∈ lw_all := lw_g (lw_at lw_m4 189 rfl) rfl
theorem q1044 : (Jvm.Cond.classLink "WhalePost$Reade\x72" (302 : Nat) "WhalePost$Spout") ∈ lw_all := lw_g (lw_at lw_m4 194 rfl) rfl
theorem q1046 : (Jvm.Cond.methodLink "WhalePost$Reade\x72" (304 : Nat) ({ cls := "WhalePost$Spout", name := "<init>", desc := "(III)V" } : Jvm.MethodName)) ∈ lw_all := lw_g (lw_at lw_m4 196 rfl) rfl
theorem q1065 : (Jvm.Cond.methodLink "WhalePost$Reade\x72" (98 : Nat) ({ cls := "WhalePost$Reade\x72", name := "eatsSemicolon", desc := "()Z" } : Jvm.MethodName)) ∈ lw_all := lw_g (lw_at lw_m4 215 rfl) rfl
theorem q1066 : (Jvm.Cond.privateMethod ({ cls := "WhalePost$Reade\x72", name := "eatsSemicolon", desc := "()Z" } : Jvm.MethodName)) ∈ lw_tbl := lw_at lw_m4 216 rfl
theorem q1067 : (Jvm.Cond.instanceMethod ({ cls := "WhalePost$Reade\x72", name := "eatsSemicolon", desc := "()Z" } : Jvm.MethodName)) ∈ lw_all := lw_g (lw_at lw_m4 217 rfl) rfl
theorem q1068 : (Jvm.Cond.code ({ cls := "WhalePost$Reade\x72", name := "eatsSemicolon", desc := "()Z" } : Jvm.MethodName) prog_9_method_5_code (1 : Nat) (Option.some Jvm.ClassFile.FieldType.boolean)) ∈ lw_all := lw_g (lw_at lw_m4 218 rfl) rfl
theorem q1069 : (Jvm.Cond.methodLink "WhalePost$Reade\x72" (108 : Nat) ({ cls := "java/util/ArrayList", name := "isEmpty", desc := "()Z" } : Jvm.MethodName)) ∈ lw_all := lw_g (lw_at lw_m4 219 rfl) rfl
theorem q2319 : (Jvm.Cond.castable "WhalePost$Reade\x72" "java/lang/Object") ∈ lw_tbl := lw_at lw_m10 29 rfl
theorem in_X3 : ∀ w ∈ wsX30, w ∈ lw_all := lw_in wsX30 [584, 586, 588, 590, 592] (by decide +kernel) (by decide +kernel)

/-! WhalePost$Tokens -/
set_option maxRecDepth 100000
def RX4 : String := "WhalePost$Tokens"
def TX4 : u_T := fun k => match k with
  | 0 => ("WhalePost$Tokens", "text", "[B", true)
  | 1 => ("WhalePost$Tokens", "size", "I", true)
  | _ => ("WhalePost$Tokens", "at", "I", false)
def tyX4 : Nat → FieldType := fun k => match k with
  | 0 => .array .byte
  | 1 => .int
  | _ => .int
abbrev wsX40 : List Cond := u_ws RX4 TX4 3
theorem nmX4 : ∀ a, a < 3 → ∀ b, b < 3 → a ≠ b → (TX4 a).2.1 ≠ (TX4 b).2.1 := by decide +kernel
theorem tyX4_ok : ∀ k, k < 3 → parseFieldDescriptor (TX4 k).2.2.1 = some (tyX4 k) := by decide +kernel
abbrev cX4_init : ByteArray := prog_12_method_1_code
def yX4_init : MethodName := ⟨RX4, "<init>", "([BI)V"⟩
def dkwX4_init_0 : List UInt8 := [42, 183, 0, 3, 42, 43, 181, 0, 9, 42, 28, 181, 0, 15, 177]
abbrev dktX4_init_0 : List UInt8 := dkwX4_init_0 ++ []
theorem dksX4_init_0 : cX4_init.data.toList.drop 0 = dktX4_init_0 := by decide +kernel
theorem dX4_init_0 : decode cX4_init 0 = .ok (.aload_n 0, 1) := dk_42 (dk_at dksX4_init_0 0 rfl rfl)
theorem dX4_init_1 : decode cX4_init 1 = .ok (.invokespecial 3, 3) := dk_183 0 3 (dk_at dksX4_init_0 1 rfl rfl)
theorem dX4_init_4 : decode cX4_init 4 = .ok (.aload_n 0, 1) := dk_42 (dk_at dksX4_init_0 4 rfl rfl)
theorem dX4_init_5 : decode cX4_init 5 = .ok (.aload_n 1, 1) := dk_43 (dk_at dksX4_init_0 5 rfl rfl)
theorem dX4_init_6 : decode cX4_init 6 = .ok (.putfield 9, 3) := dk_181 0 9 (dk_at dksX4_init_0 6 rfl rfl)
theorem dX4_init_9 : decode cX4_init 9 = .ok (.aload_n 0, 1) := dk_42 (dk_at dksX4_init_0 9 rfl rfl)
theorem dX4_init_10 : decode cX4_init 10 = .ok (.iload_n 2, 1) := dk_28 (dk_at dksX4_init_0 10 rfl rfl)
theorem dX4_init_11 : decode cX4_init 11 = .ok (.putfield 15, 3) := dk_181 0 15 (dk_at dksX4_init_0 11 rfl rfl)
theorem dX4_init_14 : decode cX4_init 14 = .ok (.return_, 1) := dk_177 (dk_at dksX4_init_0 14 rfl rfl)
abbrev cX4_next : ByteArray := prog_12_method_3_code
def yX4_next : MethodName := ⟨RX4, "next", "()LWhalePost$Token;"⟩
def dkwX4_next_12 : List UInt8 := [28, 18, 28, 183, 0, 30, 176]
abbrev dktX4_next_12 : List UInt8 := dkwX4_next_12 ++ []
def dkwX4_next_11 : List UInt8 := [180, 0, 19, 4, 96, 181, 0, 19, 187, 0, 26, 89, 28, 16, 59, 160, 0, 7, 7, 167, 0, 4, 3, 27]
abbrev dktX4_next_11 : List UInt8 := dkwX4_next_11 ++ dktX4_next_12
def dkwX4_next_10 : List UInt8 := [164, 0, 7, 3, 167, 0, 4, 6, 27, 28, 18, 28, 183, 0, 30, 176, 42, 182, 0, 22, 61, 42, 89]
abbrev dktX4_next_10 : List UInt8 := dkwX4_next_10 ++ dktX4_next_11
def dkwX4_next_9 : List UInt8 := [180, 0, 19, 4, 96, 181, 0, 19, 167, 255, 209, 187, 0, 26, 89, 42, 180, 0, 19, 27, 100, 7]
abbrev dktX4_next_9 : List UInt8 := dkwX4_next_9 ++ dktX4_next_10
def dkwX4_next_8 : List UInt8 := [180, 0, 19, 27, 100, 7, 162, 0, 16, 16, 10, 28, 104, 42, 182, 0, 22, 96, 16, 48, 100, 61, 42, 89]
abbrev dktX4_next_8 : List UInt8 := dkwX4_next_8 ++ dktX4_next_9
def dkwX4_next_7 : List UInt8 := [184, 0, 33, 153, 0, 82, 3, 61, 42, 182, 0, 22, 16, 48, 16, 57, 184, 0, 33, 153, 0, 39, 42]
abbrev dktX4_next_7 : List UInt8 := dkwX4_next_7 ++ dktX4_next_8
def dkwX4_next_6 : List UInt8 := [167, 0, 4, 5, 27, 3, 44, 182, 0, 44, 183, 0, 30, 176, 42, 182, 0, 22, 16, 48, 16, 57]
abbrev dktX4_next_6 : List UInt8 := dkwX4_next_6 ++ dktX4_next_7
def dkwX4_next_5 : List UInt8 := [181, 0, 19, 167, 255, 211, 187, 0, 26, 89, 42, 180, 0, 19, 27, 100, 16, 8, 164, 0, 7, 3]
abbrev dktX4_next_5 : List UInt8 := dkwX4_next_5 ++ dktX4_next_6
def dkwX4_next_4 : List UInt8 := [16, 8, 162, 0, 13, 44, 42, 182, 0, 22, 146, 182, 0, 40, 87, 42, 89, 180, 0, 19, 4, 96]
abbrev dktX4_next_4 : List UInt8 := dkwX4_next_4 ++ dktX4_next_5
def dkwX4_next_3 : List UInt8 := [183, 0, 39, 77, 42, 182, 0, 22, 16, 97, 16, 122, 184, 0, 33, 153, 0, 37, 42, 180, 0, 19, 27, 100]
abbrev dktX4_next_3 : List UInt8 := dkwX4_next_3 ++ dktX4_next_4
def dkwX4_next_2 : List UInt8 := [183, 0, 30, 176, 42, 182, 0, 22, 16, 97, 16, 122, 184, 0, 33, 153, 0, 89, 187, 0, 37, 89]
abbrev dktX4_next_2 : List UInt8 := dkwX4_next_2 ++ dktX4_next_3
def dkwX4_next_1 : List UInt8 := [180, 0, 19, 60, 42, 180, 0, 19, 42, 180, 0, 15, 160, 0, 16, 187, 0, 26, 89, 4, 27, 3, 18, 28]
abbrev dktX4_next_1 : List UInt8 := dkwX4_next_1 ++ dktX4_next_2
def dkwX4_next_0 : List UInt8 := [42, 182, 0, 22, 16, 32, 160, 0, 16, 42, 89, 180, 0, 19, 4, 96, 181, 0, 19, 167, 255, 237, 42]
abbrev dktX4_next_0 : List UInt8 := dkwX4_next_0 ++ dktX4_next_1
theorem dksX4_next_0 : cX4_next.data.toList.drop 0 = dktX4_next_0 := by decide +kernel
theorem dksX4_next_1 : cX4_next.data.toList.drop 23 = dktX4_next_1 := dk_seg dksX4_next_0 23 rfl rfl
theorem dksX4_next_2 : cX4_next.data.toList.drop 47 = dktX4_next_2 := dk_seg dksX4_next_1 24 rfl rfl
theorem dksX4_next_3 : cX4_next.data.toList.drop 69 = dktX4_next_3 := dk_seg dksX4_next_2 22 rfl rfl
theorem dksX4_next_4 : cX4_next.data.toList.drop 93 = dktX4_next_4 := dk_seg dksX4_next_3 24 rfl rfl
theorem dksX4_next_5 : cX4_next.data.toList.drop 115 = dktX4_next_5 := dk_seg dksX4_next_4 22 rfl rfl
theorem dksX4_next_6 : cX4_next.data.toList.drop 137 = dktX4_next_6 := dk_seg dksX4_next_5 22 rfl rfl
theorem dksX4_next_7 : cX4_next.data.toList.drop 159 = dktX4_next_7 := dk_seg dksX4_next_6 22 rfl rfl
theorem dksX4_next_8 : cX4_next.data.toList.drop 182 = dktX4_next_8 := dk_seg dksX4_next_7 23 rfl rfl
theorem dksX4_next_9 : cX4_next.data.toList.drop 206 = dktX4_next_9 := dk_seg dksX4_next_8 24 rfl rfl
theorem dksX4_next_10 : cX4_next.data.toList.drop 228 = dktX4_next_10 := dk_seg dksX4_next_9 22 rfl rfl
theorem dksX4_next_11 : cX4_next.data.toList.drop 251 = dktX4_next_11 := dk_seg dksX4_next_10 23 rfl rfl
theorem dksX4_next_12 : cX4_next.data.toList.drop 275 = dktX4_next_12 := dk_seg dksX4_next_11 24 rfl rfl
theorem dX4_next_0 : decode cX4_next 0 = .ok (.aload_n 0, 1) := dk_42 (dk_at dksX4_next_0 0 rfl rfl)
theorem dX4_next_1 : decode cX4_next 1 = .ok (.invokevirtual 22, 3) := dk_182 0 22 (dk_at dksX4_next_0 1 rfl rfl)
theorem dX4_next_4 : decode cX4_next 4 = .ok (.bipush 32, 2) := dk_16 32 (dk_at dksX4_next_0 4 rfl rfl)
theorem dX4_next_6 : decode cX4_next 6 = .ok (.if_icmp .ne 16, 3) := dk_160 0 16 (dk_at dksX4_next_0 6 rfl rfl)
theorem dX4_next_9 : decode cX4_next 9 = .ok (.aload_n 0, 1) := dk_42 (dk_at dksX4_next_0 9 rfl rfl)
theorem dX4_next_10 : decode cX4_next 10 = .ok (.dup, 1) := dk_89 (dk_at dksX4_next_0 10 rfl rfl)
theorem dX4_next_11 : decode cX4_next 11 = .ok (.getfield 19, 3) := dk_180 0 19 (dk_at dksX4_next_0 11 rfl rfl)
theorem dX4_next_14 : decode cX4_next 14 = .ok (.iconst 1, 1) := dk_4 (dk_at dksX4_next_0 14 rfl rfl)
theorem dX4_next_15 : decode cX4_next 15 = .ok (.iadd, 1) := dk_96 (dk_at dksX4_next_0 15 rfl rfl)
theorem dX4_next_16 : decode cX4_next 16 = .ok (.putfield 19, 3) := dk_181 0 19 (dk_at dksX4_next_0 16 rfl rfl)
theorem dX4_next_19 : decode cX4_next 19 = .ok (.goto (-19), 3) := dk_167 255 237 (dk_at dksX4_next_0 19 rfl rfl)
theorem dX4_next_22 : decode cX4_next 22 = .ok (.aload_n 0, 1) := dk_42 (dk_at dksX4_next_0 22 rfl rfl)
theorem dX4_next_23 : decode cX4_next 23 = .ok (.getfield 19, 3) := dk_180 0 19 (dk_at dksX4_next_1 0 rfl rfl)
theorem dX4_next_26 : decode cX4_next 26 = .ok (.istore_n 1, 1) := dk_60 (dk_at dksX4_next_1 3 rfl rfl)
theorem dX4_next_27 : decode cX4_next 27 = .ok (.aload_n 0, 1) := dk_42 (dk_at dksX4_next_1 4 rfl rfl)
theorem dX4_next_28 : decode cX4_next 28 = .ok (.getfield 19, 3) := dk_180 0 19 (dk_at dksX4_next_1 5 rfl rfl)
theorem dX4_next_31 : decode cX4_next 31 = .ok (.aload_n 0, 1) := dk_42 (dk_at dksX4_next_1 8 rfl rfl)
theorem dX4_next_32 : decode cX4_next 32 = .ok (.getfield 15, 3) := dk_180 0 15 (dk_at dksX4_next_1 9 rfl rfl)
theorem dX4_next_35 : decode cX4_next 35 = .ok (.if_icmp .ne 16, 3) := dk_160 0 16 (dk_at dksX4_next_1 12 rfl rfl)
theorem dX4_next_38 : decode cX4_next 38 = .ok (.new 26, 3) := dk_187 0 26 (dk_at dksX4_next_1 15 rfl rfl)
theorem dX4_next_41 : decode cX4_next 41 = .ok (.dup, 1) := dk_89 (dk_at dksX4_next_1 18 rfl rfl)
theorem dX4_next_42 : decode cX4_next 42 = .ok (.iconst 1, 1) := dk_4 (dk_at dksX4_next_1 19 rfl rfl)
theorem dX4_next_43 : decode cX4_next 43 = .ok (.iload_n 1, 1) := dk_27 (dk_at dksX4_next_1 20 rfl rfl)
theorem dX4_next_44 : decode cX4_next 44 = .ok (.iconst 0, 1) := dk_3 (dk_at dksX4_next_1 21 rfl rfl)
theorem dX4_next_45 : decode cX4_next 45 = .ok (.ldc 28, 2) := dk_18 28 (dk_at dksX4_next_1 22 rfl rfl)
theorem dX4_next_47 : decode cX4_next 47 = .ok (.invokespecial 30, 3) := dk_183 0 30 (dk_at dksX4_next_2 0 rfl rfl)
theorem dX4_next_50 : decode cX4_next 50 = .ok (.areturn, 1) := dk_176 (dk_at dksX4_next_2 3 rfl rfl)
theorem dX4_next_51 : decode cX4_next 51 = .ok (.aload_n 0, 1) := dk_42 (dk_at dksX4_next_2 4 rfl rfl)
theorem dX4_next_52 : decode cX4_next 52 = .ok (.invokevirtual 22, 3) := dk_182 0 22 (dk_at dksX4_next_2 5 rfl rfl)
theorem dX4_next_55 : decode cX4_next 55 = .ok (.bipush 97, 2) := dk_16 97 (dk_at dksX4_next_2 8 rfl rfl)
theorem dX4_next_57 : decode cX4_next 57 = .ok (.bipush 122, 2) := dk_16 122 (dk_at dksX4_next_2 10 rfl rfl)
theorem dX4_next_59 : decode cX4_next 59 = .ok (.invokestatic 33, 3) := dk_184 0 33 (dk_at dksX4_next_2 12 rfl rfl)
theorem dX4_next_62 : decode cX4_next 62 = .ok (.ifCond .eq 89, 3) := dk_153 0 89 (dk_at dksX4_next_2 15 rfl rfl)
theorem dX4_next_65 : decode cX4_next 65 = .ok (.new 37, 3) := dk_187 0 37 (dk_at dksX4_next_2 18 rfl rfl)
theorem dX4_next_68 : decode cX4_next 68 = .ok (.dup, 1) := dk_89 (dk_at dksX4_next_2 21 rfl rfl)
theorem dX4_next_69 : decode cX4_next 69 = .ok (.invokespecial 39, 3) := dk_183 0 39 (dk_at dksX4_next_3 0 rfl rfl)
theorem dX4_next_72 : decode cX4_next 72 = .ok (.astore_n 2, 1) := dk_77 (dk_at dksX4_next_3 3 rfl rfl)
theorem dX4_next_73 : decode cX4_next 73 = .ok (.aload_n 0, 1) := dk_42 (dk_at dksX4_next_3 4 rfl rfl)
theorem dX4_next_74 : decode cX4_next 74 = .ok (.invokevirtual 22, 3) := dk_182 0 22 (dk_at dksX4_next_3 5 rfl rfl)
theorem dX4_next_77 : decode cX4_next 77 = .ok (.bipush 97, 2) := dk_16 97 (dk_at dksX4_next_3 8 rfl rfl)
theorem dX4_next_79 : decode cX4_next 79 = .ok (.bipush 122, 2) := dk_16 122 (dk_at dksX4_next_3 10 rfl rfl)
theorem dX4_next_81 : decode cX4_next 81 = .ok (.invokestatic 33, 3) := dk_184 0 33 (dk_at dksX4_next_3 12 rfl rfl)
theorem dX4_next_84 : decode cX4_next 84 = .ok (.ifCond .eq 37, 3) := dk_153 0 37 (dk_at dksX4_next_3 15 rfl rfl)
theorem dX4_next_87 : decode cX4_next 87 = .ok (.aload_n 0, 1) := dk_42 (dk_at dksX4_next_3 18 rfl rfl)
theorem dX4_next_88 : decode cX4_next 88 = .ok (.getfield 19, 3) := dk_180 0 19 (dk_at dksX4_next_3 19 rfl rfl)
theorem dX4_next_91 : decode cX4_next 91 = .ok (.iload_n 1, 1) := dk_27 (dk_at dksX4_next_3 22 rfl rfl)
theorem dX4_next_92 : decode cX4_next 92 = .ok (.isub, 1) := dk_100 (dk_at dksX4_next_3 23 rfl rfl)
theorem dX4_next_93 : decode cX4_next 93 = .ok (.bipush 8, 2) := dk_16 8 (dk_at dksX4_next_4 0 rfl rfl)
theorem dX4_next_95 : decode cX4_next 95 = .ok (.if_icmp .ge 13, 3) := dk_162 0 13 (dk_at dksX4_next_4 2 rfl rfl)
theorem dX4_next_98 : decode cX4_next 98 = .ok (.aload_n 2, 1) := dk_44 (dk_at dksX4_next_4 5 rfl rfl)
theorem dX4_next_99 : decode cX4_next 99 = .ok (.aload_n 0, 1) := dk_42 (dk_at dksX4_next_4 6 rfl rfl)
theorem dX4_next_100 : decode cX4_next 100 = .ok (.invokevirtual 22, 3) := dk_182 0 22 (dk_at dksX4_next_4 7 rfl rfl)
theorem dX4_next_103 : decode cX4_next 103 = .ok (.i2c, 1) := dk_146 (dk_at dksX4_next_4 10 rfl rfl)
theorem dX4_next_104 : decode cX4_next 104 = .ok (.invokevirtual 40, 3) := dk_182 0 40 (dk_at dksX4_next_4 11 rfl rfl)
theorem dX4_next_107 : decode cX4_next 107 = .ok (.pop, 1) := dk_87 (dk_at dksX4_next_4 14 rfl rfl)
theorem dX4_next_108 : decode cX4_next 108 = .ok (.aload_n 0, 1) := dk_42 (dk_at dksX4_next_4 15 rfl rfl)
theorem dX4_next_109 : decode cX4_next 109 = .ok (.dup, 1) := dk_89 (dk_at dksX4_next_4 16 rfl rfl)
theorem dX4_next_110 : decode cX4_next 110 = .ok (.getfield 19, 3) := dk_180 0 19 (dk_at dksX4_next_4 17 rfl rfl)
theorem dX4_next_113 : decode cX4_next 113 = .ok (.iconst 1, 1) := dk_4 (dk_at dksX4_next_4 20 rfl rfl)
theorem dX4_next_114 : decode cX4_next 114 = .ok (.iadd, 1) := dk_96 (dk_at dksX4_next_4 21 rfl rfl)
theorem dX4_next_115 : decode cX4_next 115 = .ok (.putfield 19, 3) := dk_181 0 19 (dk_at dksX4_next_5 0 rfl rfl)
theorem dX4_next_118 : decode cX4_next 118 = .ok (.goto (-45), 3) := dk_167 255 211 (dk_at dksX4_next_5 3 rfl rfl)
theorem dX4_next_121 : decode cX4_next 121 = .ok (.new 26, 3) := dk_187 0 26 (dk_at dksX4_next_5 6 rfl rfl)
theorem dX4_next_124 : decode cX4_next 124 = .ok (.dup, 1) := dk_89 (dk_at dksX4_next_5 9 rfl rfl)
theorem dX4_next_125 : decode cX4_next 125 = .ok (.aload_n 0, 1) := dk_42 (dk_at dksX4_next_5 10 rfl rfl)
theorem dX4_next_126 : decode cX4_next 126 = .ok (.getfield 19, 3) := dk_180 0 19 (dk_at dksX4_next_5 11 rfl rfl)
theorem dX4_next_129 : decode cX4_next 129 = .ok (.iload_n 1, 1) := dk_27 (dk_at dksX4_next_5 14 rfl rfl)
theorem dX4_next_130 : decode cX4_next 130 = .ok (.isub, 1) := dk_100 (dk_at dksX4_next_5 15 rfl rfl)
theorem dX4_next_131 : decode cX4_next 131 = .ok (.bipush 8, 2) := dk_16 8 (dk_at dksX4_next_5 16 rfl rfl)
theorem dX4_next_133 : decode cX4_next 133 = .ok (.if_icmp .le 7, 3) := dk_164 0 7 (dk_at dksX4_next_5 18 rfl rfl)
theorem dX4_next_136 : decode cX4_next 136 = .ok (.iconst 0, 1) := dk_3 (dk_at dksX4_next_5 21 rfl rfl)
theorem dX4_next_137 : decode cX4_next 137 = .ok (.goto 4, 3) := dk_167 0 4 (dk_at dksX4_next_6 0 rfl rfl)
theorem dX4_next_140 : decode cX4_next 140 = .ok (.iconst 2, 1) := dk_5 (dk_at dksX4_next_6 3 rfl rfl)
theorem dX4_next_141 : decode cX4_next 141 = .ok (.iload_n 1, 1) := dk_27 (dk_at dksX4_next_6 4 rfl rfl)
theorem dX4_next_142 : decode cX4_next 142 = .ok (.iconst 0, 1) := dk_3 (dk_at dksX4_next_6 5 rfl rfl)
theorem dX4_next_143 : decode cX4_next 143 = .ok (.aload_n 2, 1) := dk_44 (dk_at dksX4_next_6 6 rfl rfl)
theorem dX4_next_144 : decode cX4_next 144 = .ok (.invokevirtual 44, 3) := dk_182 0 44 (dk_at dksX4_next_6 7 rfl rfl)
theorem dX4_next_147 : decode cX4_next 147 = .ok (.invokespecial 30, 3) := dk_183 0 30 (dk_at dksX4_next_6 10 rfl rfl)
theorem dX4_next_150 : decode cX4_next 150 = .ok (.areturn, 1) := dk_176 (dk_at dksX4_next_6 13 rfl rfl)
theorem dX4_next_151 : decode cX4_next 151 = .ok (.aload_n 0, 1) := dk_42 (dk_at dksX4_next_6 14 rfl rfl)
theorem dX4_next_152 : decode cX4_next 152 = .ok (.invokevirtual 22, 3) := dk_182 0 22 (dk_at dksX4_next_6 15 rfl rfl)
theorem dX4_next_155 : decode cX4_next 155 = .ok (.bipush 48, 2) := dk_16 48 (dk_at dksX4_next_6 18 rfl rfl)
theorem dX4_next_157 : decode cX4_next 157 = .ok (.bipush 57, 2) := dk_16 57 (dk_at dksX4_next_6 20 rfl rfl)
theorem dX4_next_159 : decode cX4_next 159 = .ok (.invokestatic 33, 3) := dk_184 0 33 (dk_at dksX4_next_7 0 rfl rfl)
theorem dX4_next_162 : decode cX4_next 162 = .ok (.ifCond .eq 82, 3) := dk_153 0 82 (dk_at dksX4_next_7 3 rfl rfl)
theorem dX4_next_165 : decode cX4_next 165 = .ok (.iconst 0, 1) := dk_3 (dk_at dksX4_next_7 6 rfl rfl)
theorem dX4_next_166 : decode cX4_next 166 = .ok (.istore_n 2, 1) := dk_61 (dk_at dksX4_next_7 7 rfl rfl)
theorem dX4_next_167 : decode cX4_next 167 = .ok (.aload_n 0, 1) := dk_42 (dk_at dksX4_next_7 8 rfl rfl)
theorem dX4_next_168 : decode cX4_next 168 = .ok (.invokevirtual 22, 3) := dk_182 0 22 (dk_at dksX4_next_7 9 rfl rfl)
theorem dX4_next_171 : decode cX4_next 171 = .ok (.bipush 48, 2) := dk_16 48 (dk_at dksX4_next_7 12 rfl rfl)
theorem dX4_next_173 : decode cX4_next 173 = .ok (.bipush 57, 2) := dk_16 57 (dk_at dksX4_next_7 14 rfl rfl)
theorem dX4_next_175 : decode cX4_next 175 = .ok (.invokestatic 33, 3) := dk_184 0 33 (dk_at dksX4_next_7 16 rfl rfl)
theorem dX4_next_178 : decode cX4_next 178 = .ok (.ifCond .eq 39, 3) := dk_153 0 39 (dk_at dksX4_next_7 19 rfl rfl)
theorem dX4_next_181 : decode cX4_next 181 = .ok (.aload_n 0, 1) := dk_42 (dk_at dksX4_next_7 22 rfl rfl)
theorem dX4_next_182 : decode cX4_next 182 = .ok (.getfield 19, 3) := dk_180 0 19 (dk_at dksX4_next_8 0 rfl rfl)
theorem dX4_next_185 : decode cX4_next 185 = .ok (.iload_n 1, 1) := dk_27 (dk_at dksX4_next_8 3 rfl rfl)
theorem dX4_next_186 : decode cX4_next 186 = .ok (.isub, 1) := dk_100 (dk_at dksX4_next_8 4 rfl rfl)
theorem dX4_next_187 : decode cX4_next 187 = .ok (.iconst 4, 1) := dk_7 (dk_at dksX4_next_8 5 rfl rfl)
theorem dX4_next_188 : decode cX4_next 188 = .ok (.if_icmp .ge 16, 3) := dk_162 0 16 (dk_at dksX4_next_8 6 rfl rfl)
theorem dX4_next_191 : decode cX4_next 191 = .ok (.bipush 10, 2) := dk_16 10 (dk_at dksX4_next_8 9 rfl rfl)
theorem dX4_next_193 : decode cX4_next 193 = .ok (.iload_n 2, 1) := dk_28 (dk_at dksX4_next_8 11 rfl rfl)
theorem dX4_next_194 : decode cX4_next 194 = .ok (.imul, 1) := dk_104 (dk_at dksX4_next_8 12 rfl rfl)
theorem dX4_next_195 : decode cX4_next 195 = .ok (.aload_n 0, 1) := dk_42 (dk_at dksX4_next_8 13 rfl rfl)
theorem dX4_next_196 : decode cX4_next 196 = .ok (.invokevirtual 22, 3) := dk_182 0 22 (dk_at dksX4_next_8 14 rfl rfl)
theorem dX4_next_199 : decode cX4_next 199 = .ok (.iadd, 1) := dk_96 (dk_at dksX4_next_8 17 rfl rfl)
theorem dX4_next_200 : decode cX4_next 200 = .ok (.bipush 48, 2) := dk_16 48 (dk_at dksX4_next_8 18 rfl rfl)
theorem dX4_next_202 : decode cX4_next 202 = .ok (.isub, 1) := dk_100 (dk_at dksX4_next_8 20 rfl rfl)
theorem dX4_next_203 : decode cX4_next 203 = .ok (.istore_n 2, 1) := dk_61 (dk_at dksX4_next_8 21 rfl rfl)
theorem dX4_next_204 : decode cX4_next 204 = .ok (.aload_n 0, 1) := dk_42 (dk_at dksX4_next_8 22 rfl rfl)
theorem dX4_next_205 : decode cX4_next 205 = .ok (.dup, 1) := dk_89 (dk_at dksX4_next_8 23 rfl rfl)
theorem dX4_next_206 : decode cX4_next 206 = .ok (.getfield 19, 3) := dk_180 0 19 (dk_at dksX4_next_9 0 rfl rfl)
theorem dX4_next_209 : decode cX4_next 209 = .ok (.iconst 1, 1) := dk_4 (dk_at dksX4_next_9 3 rfl rfl)
theorem dX4_next_210 : decode cX4_next 210 = .ok (.iadd, 1) := dk_96 (dk_at dksX4_next_9 4 rfl rfl)
theorem dX4_next_211 : decode cX4_next 211 = .ok (.putfield 19, 3) := dk_181 0 19 (dk_at dksX4_next_9 5 rfl rfl)
theorem dX4_next_214 : decode cX4_next 214 = .ok (.goto (-47), 3) := dk_167 255 209 (dk_at dksX4_next_9 8 rfl rfl)
theorem dX4_next_217 : decode cX4_next 217 = .ok (.new 26, 3) := dk_187 0 26 (dk_at dksX4_next_9 11 rfl rfl)
theorem dX4_next_220 : decode cX4_next 220 = .ok (.dup, 1) := dk_89 (dk_at dksX4_next_9 14 rfl rfl)
theorem dX4_next_221 : decode cX4_next 221 = .ok (.aload_n 0, 1) := dk_42 (dk_at dksX4_next_9 15 rfl rfl)
theorem dX4_next_222 : decode cX4_next 222 = .ok (.getfield 19, 3) := dk_180 0 19 (dk_at dksX4_next_9 16 rfl rfl)
theorem dX4_next_225 : decode cX4_next 225 = .ok (.iload_n 1, 1) := dk_27 (dk_at dksX4_next_9 19 rfl rfl)
theorem dX4_next_226 : decode cX4_next 226 = .ok (.isub, 1) := dk_100 (dk_at dksX4_next_9 20 rfl rfl)
theorem dX4_next_227 : decode cX4_next 227 = .ok (.iconst 4, 1) := dk_7 (dk_at dksX4_next_9 21 rfl rfl)
theorem dX4_next_228 : decode cX4_next 228 = .ok (.if_icmp .le 7, 3) := dk_164 0 7 (dk_at dksX4_next_10 0 rfl rfl)
theorem dX4_next_231 : decode cX4_next 231 = .ok (.iconst 0, 1) := dk_3 (dk_at dksX4_next_10 3 rfl rfl)
theorem dX4_next_232 : decode cX4_next 232 = .ok (.goto 4, 3) := dk_167 0 4 (dk_at dksX4_next_10 4 rfl rfl)
theorem dX4_next_235 : decode cX4_next 235 = .ok (.iconst 3, 1) := dk_6 (dk_at dksX4_next_10 7 rfl rfl)
theorem dX4_next_236 : decode cX4_next 236 = .ok (.iload_n 1, 1) := dk_27 (dk_at dksX4_next_10 8 rfl rfl)
theorem dX4_next_237 : decode cX4_next 237 = .ok (.iload_n 2, 1) := dk_28 (dk_at dksX4_next_10 9 rfl rfl)
theorem dX4_next_238 : decode cX4_next 238 = .ok (.ldc 28, 2) := dk_18 28 (dk_at dksX4_next_10 10 rfl rfl)
theorem dX4_next_240 : decode cX4_next 240 = .ok (.invokespecial 30, 3) := dk_183 0 30 (dk_at dksX4_next_10 12 rfl rfl)
theorem dX4_next_243 : decode cX4_next 243 = .ok (.areturn, 1) := dk_176 (dk_at dksX4_next_10 15 rfl rfl)
theorem dX4_next_244 : decode cX4_next 244 = .ok (.aload_n 0, 1) := dk_42 (dk_at dksX4_next_10 16 rfl rfl)
theorem dX4_next_245 : decode cX4_next 245 = .ok (.invokevirtual 22, 3) := dk_182 0 22 (dk_at dksX4_next_10 17 rfl rfl)
theorem dX4_next_248 : decode cX4_next 248 = .ok (.istore_n 2, 1) := dk_61 (dk_at dksX4_next_10 20 rfl rfl)
theorem dX4_next_249 : decode cX4_next 249 = .ok (.aload_n 0, 1) := dk_42 (dk_at dksX4_next_10 21 rfl rfl)
theorem dX4_next_250 : decode cX4_next 250 = .ok (.dup, 1) := dk_89 (dk_at dksX4_next_10 22 rfl rfl)
theorem dX4_next_251 : decode cX4_next 251 = .ok (.getfield 19, 3) := dk_180 0 19 (dk_at dksX4_next_11 0 rfl rfl)
theorem dX4_next_254 : decode cX4_next 254 = .ok (.iconst 1, 1) := dk_4 (dk_at dksX4_next_11 3 rfl rfl)
theorem dX4_next_255 : decode cX4_next 255 = .ok (.iadd, 1) := dk_96 (dk_at dksX4_next_11 4 rfl rfl)
theorem dX4_next_256 : decode cX4_next 256 = .ok (.putfield 19, 3) := dk_181 0 19 (dk_at dksX4_next_11 5 rfl rfl)
theorem dX4_next_259 : decode cX4_next 259 = .ok (.new 26, 3) := dk_187 0 26 (dk_at dksX4_next_11 8 rfl rfl)
theorem dX4_next_262 : decode cX4_next 262 = .ok (.dup, 1) := dk_89 (dk_at dksX4_next_11 11 rfl rfl)
theorem dX4_next_263 : decode cX4_next 263 = .ok (.iload_n 2, 1) := dk_28 (dk_at dksX4_next_11 12 rfl rfl)
theorem dX4_next_264 : decode cX4_next 264 = .ok (.bipush 59, 2) := dk_16 59 (dk_at dksX4_next_11 13 rfl rfl)
theorem dX4_next_266 : decode cX4_next 266 = .ok (.if_icmp .ne 7, 3) := dk_160 0 7 (dk_at dksX4_next_11 15 rfl rfl)
theorem dX4_next_269 : decode cX4_next 269 = .ok (.iconst 4, 1) := dk_7 (dk_at dksX4_next_11 18 rfl rfl)
theorem dX4_next_270 : decode cX4_next 270 = .ok (.goto 4, 3) := dk_167 0 4 (dk_at dksX4_next_11 19 rfl rfl)
theorem dX4_next_273 : decode cX4_next 273 = .ok (.iconst 0, 1) := dk_3 (dk_at dksX4_next_11 22 rfl rfl)
theorem dX4_next_274 : decode cX4_next 274 = .ok (.iload_n 1, 1) := dk_27 (dk_at dksX4_next_11 23 rfl rfl)
theorem dX4_next_275 : decode cX4_next 275 = .ok (.iload_n 2, 1) := dk_28 (dk_at dksX4_next_12 0 rfl rfl)
theorem dX4_next_276 : decode cX4_next 276 = .ok (.ldc 28, 2) := dk_18 28 (dk_at dksX4_next_12 1 rfl rfl)
theorem dX4_next_278 : decode cX4_next 278 = .ok (.invokespecial 30, 3) := dk_183 0 30 (dk_at dksX4_next_12 3 rfl rfl)
theorem dX4_next_281 : decode cX4_next 281 = .ok (.areturn, 1) := dk_176 (dk_at dksX4_next_12 6 rfl rfl)
abbrev cX4_look : ByteArray := prog_12_method_2_code
def yX4_look : MethodName := ⟨RX4, "look", "()I"⟩
def dkwX4_look_1 : List UInt8 := [167, 0, 4, 2, 172]
abbrev dktX4_look_1 : List UInt8 := dkwX4_look_1 ++ []
def dkwX4_look_0 : List UInt8 := [42, 180, 0, 19, 42, 180, 0, 15, 162, 0, 19, 42, 180, 0, 9, 42, 180, 0, 19, 51, 17, 0, 255, 126]
abbrev dktX4_look_0 : List UInt8 := dkwX4_look_0 ++ dktX4_look_1
theorem dksX4_look_0 : cX4_look.data.toList.drop 0 = dktX4_look_0 := by decide +kernel
theorem dksX4_look_1 : cX4_look.data.toList.drop 24 = dktX4_look_1 := dk_seg dksX4_look_0 24 rfl rfl
theorem dX4_look_0 : decode cX4_look 0 = .ok (.aload_n 0, 1) := dk_42 (dk_at dksX4_look_0 0 rfl rfl)
theorem dX4_look_1 : decode cX4_look 1 = .ok (.getfield 19, 3) := dk_180 0 19 (dk_at dksX4_look_0 1 rfl rfl)
theorem dX4_look_4 : decode cX4_look 4 = .ok (.aload_n 0, 1) := dk_42 (dk_at dksX4_look_0 4 rfl rfl)
theorem dX4_look_5 : decode cX4_look 5 = .ok (.getfield 15, 3) := dk_180 0 15 (dk_at dksX4_look_0 5 rfl rfl)
theorem dX4_look_8 : decode cX4_look 8 = .ok (.if_icmp .ge 19, 3) := dk_162 0 19 (dk_at dksX4_look_0 8 rfl rfl)
theorem dX4_look_11 : decode cX4_look 11 = .ok (.aload_n 0, 1) := dk_42 (dk_at dksX4_look_0 11 rfl rfl)
theorem dX4_look_12 : decode cX4_look 12 = .ok (.getfield 9, 3) := dk_180 0 9 (dk_at dksX4_look_0 12 rfl rfl)
theorem dX4_look_15 : decode cX4_look 15 = .ok (.aload_n 0, 1) := dk_42 (dk_at dksX4_look_0 15 rfl rfl)
theorem dX4_look_16 : decode cX4_look 16 = .ok (.getfield 19, 3) := dk_180 0 19 (dk_at dksX4_look_0 16 rfl rfl)
theorem dX4_look_19 : decode cX4_look 19 = .ok (.baload, 1) := dk_51 (dk_at dksX4_look_0 19 rfl rfl)
theorem dX4_look_20 : decode cX4_look 20 = .ok (.sipush 255, 3) := dk_17 0 255 (dk_at dksX4_look_0 20 rfl rfl)
theorem dX4_look_23 : decode cX4_look 23 = .ok (.iand, 1) := dk_126 (dk_at dksX4_look_0 23 rfl rfl)
theorem dX4_look_24 : decode cX4_look 24 = .ok (.goto 4, 3) := dk_167 0 4 (dk_at dksX4_look_1 0 rfl rfl)
theorem dX4_look_27 : decode cX4_look 27 = .ok (.iconst (-1), 1) := dk_2 (dk_at dksX4_look_1 3 rfl rfl)
theorem dX4_look_28 : decode cX4_look 28 = .ok (.ireturn, 1) := dk_172 (dk_at dksX4_look_1 4 rfl rfl)
theorem q137 : (Jvm.Cond.initialized "WhalePost$Tokens") ∈ lw_all := lw_g (lw_at lw_m1 7 rfl) rfl
theorem q280 : (Jvm.Cond.instantiable "WhalePost$Tokens" (3 : Nat)) ∈ lw_all := lw_g (lw_at lw_m1 150 rfl) rfl
theorem q282 : (Jvm.Cond.instanceMethod ({ cls := "WhalePost$Tokens", name := "<init>", desc := "([BI)V" } : Jvm.MethodName)) ∈ lw_all := lw_g (lw_at lw_m1 152 rfl) rfl
theorem q283 : (Jvm.Cond.code ({ cls := "WhalePost$Tokens", name := "<init>", desc := "([BI)V" } : Jvm.MethodName) prog_12_method_1_code (3 : Nat) (Option.none : Option Jvm.ClassFile.FieldType)) ∈ lw_all := lw_g (lw_at lw_m1 153 rfl) rfl
theorem q284 : (Jvm.Cond.methodLink "WhalePost$Tokens" (3 : Nat) ({ cls := "java/lang/Object", name := "<init>", desc := "()V" } : Jvm.MethodName)) ∈ lw_all := lw_g (lw_at lw_m1 154 rfl) rfl
theorem q285 : (Jvm.Cond.fieldLink "WhalePost$Tokens" (9 : Nat) "WhalePost$Tokens" "text" "[B") ∈ lw_all := lw_g (lw_at lw_m1 155 rfl) rfl
theorem q286 : (Jvm.Cond.fieldLink "WhalePost$Tokens" (15 : Nat) "WhalePost$Tokens" "size" "I") ∈ lw_all := lw_g (lw_at lw_m1 156 rfl) rfl
theorem q287 : (Jvm.Cond.fieldLink "WhalePost$Tokens" (19 : Nat) "WhalePost$Tokens" "at" "I") ∈ lw_all := lw_g (lw_at lw_m1 157 rfl) rfl
theorem q288 : (Jvm.Cond.laysFinal "WhalePost$Tokens" "WhalePost$Tokens" "text" "[B") ∈ lw_all := lw_g (lw_at lw_m1 158 rfl) rfl
theorem q289 : (Jvm.Cond.soleField "WhalePost$Tokens" "text") ∈ lw_all := lw_g (lw_at lw_m1 159 rfl) rfl
theorem q290 : (Jvm.Cond.laysFinal "WhalePost$Tokens" "WhalePost$Tokens" "size" "I") ∈ lw_all := lw_g (lw_at lw_m1 160 rfl) rfl
theorem q291 : (Jvm.Cond.soleField "WhalePost$Tokens" "size") ∈ lw_all := lw_g (lw_at lw_m1 161 rfl) rfl
theorem q292 : (Jvm.Cond.lays "WhalePost$Tokens" "WhalePost$Tokens" "at" "I") ∈ lw_all := lw_g (lw_at lw_m1 162 rfl) rfl
theorem q293 : (Jvm.Cond.soleField "WhalePost$Tokens" "at") ∈ lw_all := lw_g (lw_at lw_m1 163 rfl) rfl
theorem q294 : (Jvm.Cond.superclass "WhalePost$Tokens" "java/lang/Object") ∈ lw_all := lw_g (lw_at lw_m1 164 rfl) rfl
theorem q356 : (Jvm.Cond.instanceMethod ({ cls := "WhalePost$Tokens", name := "next", desc := "()LWhalePost$Token;" } : Jvm.MethodName)) ∈ lw_all := lw_g (lw_at lw_m1 226 rfl) rfl
theorem q357 : (Jvm.Cond.selects "WhalePost$Tokens" ({ cls := "WhalePost$Tokens", name := "next", desc := "()LWhalePost$Token;" } : Jvm.MethodName) ({ cls := "WhalePost$Tokens", name := "next", desc := "()LWhalePost$Token;" } : Jvm.MethodName)) ∈ lw_all := lw_g (lw_at lw_m1 227 rfl) rfl
theorem q358 : (Jvm.Cond.code ({ cls := "WhalePost$Tokens", name := "next", desc := "()LWhalePost$Token;" } : Jvm.MethodName) prog_12_method_3_code (3 : Nat) (Option.some (Jvm.ClassFile.FieldType.object "WhalePost$Token"))) ∈ lw_all := lw_g (lw_at lw_m1 228 rfl) rfl
theorem q359 : (Jvm.Cond.methodLink "WhalePost$Tokens" (22 : Nat) ({ cls := "WhalePost$Tokens", name := "look", desc := "()I" } : Jvm.MethodName)) ∈ lw_all := lw_g (lw_at lw_m1 229 rfl) rfl
theorem q360 : (Jvm.Cond.privateMethod ({ cls := "WhalePost$Tokens", name := "look", desc := "()I" } : Jvm.MethodName)) ∈ lw_tbl := lw_at lw_m1 230 rfl
theorem q361 : (Jvm.Cond.instanceMethod ({ cls := "WhalePost$Tokens", name := "look", desc := "()I" } : Jvm.MethodName)) ∈ lw_all := lw_g (lw_at lw_m1 231 rfl) rfl
theorem q362 : (Jvm.Cond.code ({ cls := "WhalePost$Tokens", name := "look", desc := "()I" } : Jvm.MethodName) prog_12_method_2_code (1 : Nat) (Option.some Jvm.ClassFile.FieldType.int)) ∈ lw_all := lw_g (lw_at lw_m1 232 rfl) rfl
theorem q363 : (Jvm.Cond.classLink "WhalePost$Tokens" (26 : Nat) "WhalePost$Token") ∈ lw_all := lw_g (lw_at lw_m1 233 rfl) rfl
theorem q365 : (Jvm.Cond.stringRef "WhalePost$Tokens" (28 : Nat) "") ∈ lw_tbl := lw_at lw_m1 235 rfl
theorem q366 : (Jvm.Cond.methodLink "WhalePost$Tokens" (30 : Nat) ({ cls := "WhalePost$Token", name := "<init>", desc := "(IIILjava/lang/String;)V" } : Jvm.MethodName)) ∈ lw_all := lw_g (lw_at lw_m1 236 rfl) rfl
theorem q387 : (Jvm.Cond.methodLinkNest "WhalePost$Tokens" (33 : Nat) ({ cls := "WhalePost", name := "in", desc := "(III)Z" } : Jvm.MethodName) "WhalePost") ∈ lw_tbl := lw_at lw_m2 17 rfl
theorem q388 : (Jvm.Cond.classLink "WhalePost$Tokens" (37 : Nat) "java/lang/StringBuilde\x72") ∈ lw_all := lw_g (lw_at lw_m2 18 rfl) rfl
theorem q390 : (Jvm.Cond.methodLink "WhalePost$Tokens" (39 : Nat) ({ cls := "java/lang/StringBuilde\x72", name := "<init>", desc := "()V" } : Jvm.MethodName)) ∈ lw_all := lw_g (lw_at lw_m2 20 rfl) rfl
theorem q419 : (Jvm.Cond.methodLink "WhalePost$Tokens" (40 : Nat) ({ cls := "java/lang/StringBuilde\x72", name := "append", desc := "(C)Ljava/lang/StringBuilder;" } : Jvm.MethodName)) ∈ lw_all := lw_g (lw_at lw_m2 49 rfl) rfl
theorem q514 : (Jvm.Cond.methodLink "WhalePost$Tokens" (44 : Nat) ({ cls := "java/lang/StringBuilde\x72", name := "toString", desc := "()Ljava/lang/String;" } : Jvm.MethodName)) ∈ lw_all := lw_g (lw_at lw_m2 144 rfl) rfl
theorem q857 : (Jvm.Cond.selects "WhalePost$Tokens" ({ cls := "java/lang/Object", name := "getClass", desc := "()Ljava/lang/Class;" } : Jvm.MethodName) ({ cls := "java/lang/Object", name := "getClass", desc := "()Ljava/lang/Class;" } : Jvm.MethodName)) ∈ lw_all := lw_g (lw_at lw_m4 7 rfl) rfl
theorem q2320 : (Jvm.Cond.castable "WhalePost$Tokens" "java/lang/Object") ∈ lw_tbl := lw_at lw_m10 30 rfl
theorem in_X4 : ∀ w ∈ wsX40, w ∈ lw_all := lw_in wsX40 [288, 290, 292] (by decide +kernel) (by decide +kernel)

/-! WhalePost$Post -/
set_option maxRecDepth 100000
def RX5 : String := "WhalePost$Post"
def TX5 : u_T := fun k => match k with
  | 0 => ("WhalePost$Post", "notes", "I", false)
  | 1 => ("WhalePost$Post", "errors", "I", false)
  | 2 => ("WhalePost$Post", "drift", "I", false)
  | 3 => ("WhalePost$Post", "slip", "I", false)
  | 4 => ("WhalePost$Post", "islands", "Ljava/util/ArrayList;", true)
  | 5 => ("WhalePost$Post", "ways", "Ljava/util/ArrayList;", true)
  | 6 => ("WhalePost$Post", "whales", "Ljava/util/ArrayList;", true)
  | 7 => ("WhalePost$Post", "boxes", "Ljava/util/ArrayList;", true)
  | _ => ("WhalePost$Post", "spouts", "Ljava/util/ArrayList;", true)
def tyX5 : Nat → FieldType := fun k => match k with
  | 0 => .int
  | 1 => .int
  | 2 => .int
  | 3 => .int
  | 4 => .object "java/util/ArrayList"
  | 5 => .object "java/util/ArrayList"
  | 6 => .object "java/util/ArrayList"
  | 7 => .object "java/util/ArrayList"
  | _ => .object "java/util/ArrayList"
abbrev wsX50 : List Cond := u_ws RX5 TX5 9
theorem nmX5 : ∀ a, a < 9 → ∀ b, b < 9 → a ≠ b → (TX5 a).2.1 ≠ (TX5 b).2.1 := by decide +kernel
theorem tyX5_ok : ∀ k, k < 9 → parseFieldDescriptor (TX5 k).2.2.1 = some (tyX5 k) := by decide +kernel
abbrev cX5_init : ByteArray := prog_8_method_1_code
def yX5_init : MethodName := ⟨RX5, "<init>", "()V"⟩
def dkwX5_init_2 : List UInt8 := [181, 0, 24, 42, 187, 0, 9, 89, 183, 0, 11, 181, 0, 27, 177]
abbrev dktX5_init_2 : List UInt8 := dkwX5_init_2 ++ []
def dkwX5_init_1 : List UInt8 := [181, 0, 18, 42, 187, 0, 9, 89, 183, 0, 11, 181, 0, 21, 42, 187, 0, 9, 89, 183, 0, 11]
abbrev dktX5_init_1 : List UInt8 := dkwX5_init_1 ++ dktX5_init_2
def dkwX5_init_0 : List UInt8 := [42, 183, 0, 3, 42, 187, 0, 9, 89, 183, 0, 11, 181, 0, 12, 42, 187, 0, 9, 89, 183, 0, 11]
abbrev dktX5_init_0 : List UInt8 := dkwX5_init_0 ++ dktX5_init_1
theorem dksX5_init_0 : cX5_init.data.toList.drop 0 = dktX5_init_0 := by decide +kernel
theorem dksX5_init_1 : cX5_init.data.toList.drop 23 = dktX5_init_1 := dk_seg dksX5_init_0 23 rfl rfl
theorem dksX5_init_2 : cX5_init.data.toList.drop 45 = dktX5_init_2 := dk_seg dksX5_init_1 22 rfl rfl
theorem dX5_init_0 : decode cX5_init 0 = .ok (.aload_n 0, 1) := dk_42 (dk_at dksX5_init_0 0 rfl rfl)
theorem dX5_init_1 : decode cX5_init 1 = .ok (.invokespecial 3, 3) := dk_183 0 3 (dk_at dksX5_init_0 1 rfl rfl)
theorem dX5_init_4 : decode cX5_init 4 = .ok (.aload_n 0, 1) := dk_42 (dk_at dksX5_init_0 4 rfl rfl)
theorem dX5_init_5 : decode cX5_init 5 = .ok (.new 9, 3) := dk_187 0 9 (dk_at dksX5_init_0 5 rfl rfl)
theorem dX5_init_8 : decode cX5_init 8 = .ok (.dup, 1) := dk_89 (dk_at dksX5_init_0 8 rfl rfl)
theorem dX5_init_9 : decode cX5_init 9 = .ok (.invokespecial 11, 3) := dk_183 0 11 (dk_at dksX5_init_0 9 rfl rfl)
theorem dX5_init_12 : decode cX5_init 12 = .ok (.putfield 12, 3) := dk_181 0 12 (dk_at dksX5_init_0 12 rfl rfl)
theorem dX5_init_15 : decode cX5_init 15 = .ok (.aload_n 0, 1) := dk_42 (dk_at dksX5_init_0 15 rfl rfl)
theorem dX5_init_16 : decode cX5_init 16 = .ok (.new 9, 3) := dk_187 0 9 (dk_at dksX5_init_0 16 rfl rfl)
theorem dX5_init_19 : decode cX5_init 19 = .ok (.dup, 1) := dk_89 (dk_at dksX5_init_0 19 rfl rfl)
theorem dX5_init_20 : decode cX5_init 20 = .ok (.invokespecial 11, 3) := dk_183 0 11 (dk_at dksX5_init_0 20 rfl rfl)
theorem dX5_init_23 : decode cX5_init 23 = .ok (.putfield 18, 3) := dk_181 0 18 (dk_at dksX5_init_1 0 rfl rfl)
theorem dX5_init_26 : decode cX5_init 26 = .ok (.aload_n 0, 1) := dk_42 (dk_at dksX5_init_1 3 rfl rfl)
theorem dX5_init_27 : decode cX5_init 27 = .ok (.new 9, 3) := dk_187 0 9 (dk_at dksX5_init_1 4 rfl rfl)
theorem dX5_init_30 : decode cX5_init 30 = .ok (.dup, 1) := dk_89 (dk_at dksX5_init_1 7 rfl rfl)
theorem dX5_init_31 : decode cX5_init 31 = .ok (.invokespecial 11, 3) := dk_183 0 11 (dk_at dksX5_init_1 8 rfl rfl)
theorem dX5_init_34 : decode cX5_init 34 = .ok (.putfield 21, 3) := dk_181 0 21 (dk_at dksX5_init_1 11 rfl rfl)
theorem dX5_init_37 : decode cX5_init 37 = .ok (.aload_n 0, 1) := dk_42 (dk_at dksX5_init_1 14 rfl rfl)
theorem dX5_init_38 : decode cX5_init 38 = .ok (.new 9, 3) := dk_187 0 9 (dk_at dksX5_init_1 15 rfl rfl)
theorem dX5_init_41 : decode cX5_init 41 = .ok (.dup, 1) := dk_89 (dk_at dksX5_init_1 18 rfl rfl)
theorem dX5_init_42 : decode cX5_init 42 = .ok (.invokespecial 11, 3) := dk_183 0 11 (dk_at dksX5_init_1 19 rfl rfl)
theorem dX5_init_45 : decode cX5_init 45 = .ok (.putfield 24, 3) := dk_181 0 24 (dk_at dksX5_init_2 0 rfl rfl)
theorem dX5_init_48 : decode cX5_init 48 = .ok (.aload_n 0, 1) := dk_42 (dk_at dksX5_init_2 3 rfl rfl)
theorem dX5_init_49 : decode cX5_init 49 = .ok (.new 9, 3) := dk_187 0 9 (dk_at dksX5_init_2 4 rfl rfl)
theorem dX5_init_52 : decode cX5_init 52 = .ok (.dup, 1) := dk_89 (dk_at dksX5_init_2 7 rfl rfl)
theorem dX5_init_53 : decode cX5_init 53 = .ok (.invokespecial 11, 3) := dk_183 0 11 (dk_at dksX5_init_2 8 rfl rfl)
theorem dX5_init_56 : decode cX5_init 56 = .ok (.putfield 27, 3) := dk_181 0 27 (dk_at dksX5_init_2 11 rfl rfl)
theorem dX5_init_59 : decode cX5_init 59 = .ok (.return_, 1) := dk_177 (dk_at dksX5_init_2 14 rfl rfl)
abbrev cX5_isName : ByteArray := prog_8_method_4_code
def yX5_isName : MethodName := ⟨RX5, "isName", "(Ljava/lang/String;)Z"⟩
def dkwX5_isName_2 : List UInt8 := [160, 0, 12, 42, 43, 182, 0, 60, 2, 159, 0, 7, 4, 167, 0, 4, 3, 172]
abbrev dktX5_isName_2 : List UInt8 := dkwX5_isName_2 ++ []
def dkwX5_isName_1 : List UInt8 := [180, 0, 55, 43, 182, 0, 44, 153, 0, 5, 4, 172, 132, 2, 1, 167, 255, 219, 42, 43, 182, 0, 56, 2]
abbrev dktX5_isName_1 : List UInt8 := dkwX5_isName_1 ++ dktX5_isName_2
def dkwX5_isName_0 : List UInt8 := [3, 61, 28, 42, 180, 0, 24, 182, 0, 30, 162, 0, 32, 42, 180, 0, 24, 28, 182, 0, 34, 192, 0, 53]
abbrev dktX5_isName_0 : List UInt8 := dkwX5_isName_0 ++ dktX5_isName_1
theorem dksX5_isName_0 : cX5_isName.data.toList.drop 0 = dktX5_isName_0 := by decide +kernel
theorem dksX5_isName_1 : cX5_isName.data.toList.drop 24 = dktX5_isName_1 := dk_seg dksX5_isName_0 24 rfl rfl
theorem dksX5_isName_2 : cX5_isName.data.toList.drop 48 = dktX5_isName_2 := dk_seg dksX5_isName_1 24 rfl rfl
theorem dX5_isName_0 : decode cX5_isName 0 = .ok (.iconst 0, 1) := dk_3 (dk_at dksX5_isName_0 0 rfl rfl)
theorem dX5_isName_1 : decode cX5_isName 1 = .ok (.istore_n 2, 1) := dk_61 (dk_at dksX5_isName_0 1 rfl rfl)
theorem dX5_isName_2 : decode cX5_isName 2 = .ok (.iload_n 2, 1) := dk_28 (dk_at dksX5_isName_0 2 rfl rfl)
theorem dX5_isName_3 : decode cX5_isName 3 = .ok (.aload_n 0, 1) := dk_42 (dk_at dksX5_isName_0 3 rfl rfl)
theorem dX5_isName_4 : decode cX5_isName 4 = .ok (.getfield 24, 3) := dk_180 0 24 (dk_at dksX5_isName_0 4 rfl rfl)
theorem dX5_isName_7 : decode cX5_isName 7 = .ok (.invokevirtual 30, 3) := dk_182 0 30 (dk_at dksX5_isName_0 7 rfl rfl)
theorem dX5_isName_10 : decode cX5_isName 10 = .ok (.if_icmp .ge 32, 3) := dk_162 0 32 (dk_at dksX5_isName_0 10 rfl rfl)
theorem dX5_isName_13 : decode cX5_isName 13 = .ok (.aload_n 0, 1) := dk_42 (dk_at dksX5_isName_0 13 rfl rfl)
theorem dX5_isName_14 : decode cX5_isName 14 = .ok (.getfield 24, 3) := dk_180 0 24 (dk_at dksX5_isName_0 14 rfl rfl)
theorem dX5_isName_17 : decode cX5_isName 17 = .ok (.iload_n 2, 1) := dk_28 (dk_at dksX5_isName_0 17 rfl rfl)
theorem dX5_isName_18 : decode cX5_isName 18 = .ok (.invokevirtual 34, 3) := dk_182 0 34 (dk_at dksX5_isName_0 18 rfl rfl)
theorem dX5_isName_21 : decode cX5_isName 21 = .ok (.checkcast 53, 3) := dk_192 0 53 (dk_at dksX5_isName_0 21 rfl rfl)
theorem dX5_isName_24 : decode cX5_isName 24 = .ok (.getfield 55, 3) := dk_180 0 55 (dk_at dksX5_isName_1 0 rfl rfl)
theorem dX5_isName_27 : decode cX5_isName 27 = .ok (.aload_n 1, 1) := dk_43 (dk_at dksX5_isName_1 3 rfl rfl)
theorem dX5_isName_28 : decode cX5_isName 28 = .ok (.invokevirtual 44, 3) := dk_182 0 44 (dk_at dksX5_isName_1 4 rfl rfl)
theorem dX5_isName_31 : decode cX5_isName 31 = .ok (.ifCond .eq 5, 3) := dk_153 0 5 (dk_at dksX5_isName_1 7 rfl rfl)
theorem dX5_isName_34 : decode cX5_isName 34 = .ok (.iconst 1, 1) := dk_4 (dk_at dksX5_isName_1 10 rfl rfl)
theorem dX5_isName_35 : decode cX5_isName 35 = .ok (.ireturn, 1) := dk_172 (dk_at dksX5_isName_1 11 rfl rfl)
theorem dX5_isName_36 : decode cX5_isName 36 = .ok (.iinc 2 1, 3) := dk_132 2 1 (dk_at dksX5_isName_1 12 rfl rfl)
theorem dX5_isName_39 : decode cX5_isName 39 = .ok (.goto (-37), 3) := dk_167 255 219 (dk_at dksX5_isName_1 15 rfl rfl)
theorem dX5_isName_42 : decode cX5_isName 42 = .ok (.aload_n 0, 1) := dk_42 (dk_at dksX5_isName_1 18 rfl rfl)
theorem dX5_isName_43 : decode cX5_isName 43 = .ok (.aload_n 1, 1) := dk_43 (dk_at dksX5_isName_1 19 rfl rfl)
theorem dX5_isName_44 : decode cX5_isName 44 = .ok (.invokevirtual 56, 3) := dk_182 0 56 (dk_at dksX5_isName_1 20 rfl rfl)
theorem dX5_isName_47 : decode cX5_isName 47 = .ok (.iconst (-1), 1) := dk_2 (dk_at dksX5_isName_1 23 rfl rfl)
theorem dX5_isName_48 : decode cX5_isName 48 = .ok (.if_icmp .ne 12, 3) := dk_160 0 12 (dk_at dksX5_isName_2 0 rfl rfl)
theorem dX5_isName_51 : decode cX5_isName 51 = .ok (.aload_n 0, 1) := dk_42 (dk_at dksX5_isName_2 3 rfl rfl)
theorem dX5_isName_52 : decode cX5_isName 52 = .ok (.aload_n 1, 1) := dk_43 (dk_at dksX5_isName_2 4 rfl rfl)
theorem dX5_isName_53 : decode cX5_isName 53 = .ok (.invokevirtual 60, 3) := dk_182 0 60 (dk_at dksX5_isName_2 5 rfl rfl)
theorem dX5_isName_56 : decode cX5_isName 56 = .ok (.iconst (-1), 1) := dk_2 (dk_at dksX5_isName_2 8 rfl rfl)
theorem dX5_isName_57 : decode cX5_isName 57 = .ok (.if_icmp .eq 7, 3) := dk_159 0 7 (dk_at dksX5_isName_2 9 rfl rfl)
theorem dX5_isName_60 : decode cX5_isName 60 = .ok (.iconst 1, 1) := dk_4 (dk_at dksX5_isName_2 12 rfl rfl)
theorem dX5_isName_61 : decode cX5_isName 61 = .ok (.goto 4, 3) := dk_167 0 4 (dk_at dksX5_isName_2 13 rfl rfl)
theorem dX5_isName_64 : decode cX5_isName 64 = .ok (.iconst 0, 1) := dk_3 (dk_at dksX5_isName_2 16 rfl rfl)
theorem dX5_isName_65 : decode cX5_isName 65 = .ok (.ireturn, 1) := dk_172 (dk_at dksX5_isName_2 17 rfl rfl)
abbrev cX5_island : ByteArray := prog_8_method_2_code
def yX5_island : MethodName := ⟨RX5, "island", "(Ljava/lang/String;)I"⟩
def dkwX5_island_1 : List UInt8 := [180, 0, 40, 43, 182, 0, 44, 153, 0, 5, 28, 172, 132, 2, 1, 167, 255, 219, 2, 172]
abbrev dktX5_island_1 : List UInt8 := dkwX5_island_1 ++ []
def dkwX5_island_0 : List UInt8 := [3, 61, 28, 42, 180, 0, 12, 182, 0, 30, 162, 0, 32, 42, 180, 0, 12, 28, 182, 0, 34, 192, 0, 38]
abbrev dktX5_island_0 : List UInt8 := dkwX5_island_0 ++ dktX5_island_1
theorem dksX5_island_0 : cX5_island.data.toList.drop 0 = dktX5_island_0 := by decide +kernel
theorem dksX5_island_1 : cX5_island.data.toList.drop 24 = dktX5_island_1 := dk_seg dksX5_island_0 24 rfl rfl
theorem dX5_island_0 : decode cX5_island 0 = .ok (.iconst 0, 1) := dk_3 (dk_at dksX5_island_0 0 rfl rfl)
theorem dX5_island_1 : decode cX5_island 1 = .ok (.istore_n 2, 1) := dk_61 (dk_at dksX5_island_0 1 rfl rfl)
theorem dX5_island_2 : decode cX5_island 2 = .ok (.iload_n 2, 1) := dk_28 (dk_at dksX5_island_0 2 rfl rfl)
theorem dX5_island_3 : decode cX5_island 3 = .ok (.aload_n 0, 1) := dk_42 (dk_at dksX5_island_0 3 rfl rfl)
theorem dX5_island_4 : decode cX5_island 4 = .ok (.getfield 12, 3) := dk_180 0 12 (dk_at dksX5_island_0 4 rfl rfl)
theorem dX5_island_7 : decode cX5_island 7 = .ok (.invokevirtual 30, 3) := dk_182 0 30 (dk_at dksX5_island_0 7 rfl rfl)
theorem dX5_island_10 : decode cX5_island 10 = .ok (.if_icmp .ge 32, 3) := dk_162 0 32 (dk_at dksX5_island_0 10 rfl rfl)
theorem dX5_island_13 : decode cX5_island 13 = .ok (.aload_n 0, 1) := dk_42 (dk_at dksX5_island_0 13 rfl rfl)
theorem dX5_island_14 : decode cX5_island 14 = .ok (.getfield 12, 3) := dk_180 0 12 (dk_at dksX5_island_0 14 rfl rfl)
theorem dX5_island_17 : decode cX5_island 17 = .ok (.iload_n 2, 1) := dk_28 (dk_at dksX5_island_0 17 rfl rfl)
theorem dX5_island_18 : decode cX5_island 18 = .ok (.invokevirtual 34, 3) := dk_182 0 34 (dk_at dksX5_island_0 18 rfl rfl)
theorem dX5_island_21 : decode cX5_island 21 = .ok (.checkcast 38, 3) := dk_192 0 38 (dk_at dksX5_island_0 21 rfl rfl)
theorem dX5_island_24 : decode cX5_island 24 = .ok (.getfield 40, 3) := dk_180 0 40 (dk_at dksX5_island_1 0 rfl rfl)
theorem dX5_island_27 : decode cX5_island 27 = .ok (.aload_n 1, 1) := dk_43 (dk_at dksX5_island_1 3 rfl rfl)
theorem dX5_island_28 : decode cX5_island 28 = .ok (.invokevirtual 44, 3) := dk_182 0 44 (dk_at dksX5_island_1 4 rfl rfl)
theorem dX5_island_31 : decode cX5_island 31 = .ok (.ifCond .eq 5, 3) := dk_153 0 5 (dk_at dksX5_island_1 7 rfl rfl)
theorem dX5_island_34 : decode cX5_island 34 = .ok (.iload_n 2, 1) := dk_28 (dk_at dksX5_island_1 10 rfl rfl)
theorem dX5_island_35 : decode cX5_island 35 = .ok (.ireturn, 1) := dk_172 (dk_at dksX5_island_1 11 rfl rfl)
theorem dX5_island_36 : decode cX5_island 36 = .ok (.iinc 2 1, 3) := dk_132 2 1 (dk_at dksX5_island_1 12 rfl rfl)
theorem dX5_island_39 : decode cX5_island 39 = .ok (.goto (-37), 3) := dk_167 255 219 (dk_at dksX5_island_1 15 rfl rfl)
theorem dX5_island_42 : decode cX5_island 42 = .ok (.iconst (-1), 1) := dk_2 (dk_at dksX5_island_1 18 rfl rfl)
theorem dX5_island_43 : decode cX5_island 43 = .ok (.ireturn, 1) := dk_172 (dk_at dksX5_island_1 19 rfl rfl)
abbrev cX5_whale : ByteArray := prog_8_method_3_code
def yX5_whale : MethodName := ⟨RX5, "whale", "(Ljava/lang/String;)I"⟩
def dkwX5_whale_1 : List UInt8 := [180, 0, 52, 43, 182, 0, 44, 153, 0, 5, 28, 172, 132, 2, 1, 167, 255, 219, 2, 172]
abbrev dktX5_whale_1 : List UInt8 := dkwX5_whale_1 ++ []
def dkwX5_whale_0 : List UInt8 := [3, 61, 28, 42, 180, 0, 21, 182, 0, 30, 162, 0, 32, 42, 180, 0, 21, 28, 182, 0, 34, 192, 0, 50]
abbrev dktX5_whale_0 : List UInt8 := dkwX5_whale_0 ++ dktX5_whale_1
theorem dksX5_whale_0 : cX5_whale.data.toList.drop 0 = dktX5_whale_0 := by decide +kernel
theorem dksX5_whale_1 : cX5_whale.data.toList.drop 24 = dktX5_whale_1 := dk_seg dksX5_whale_0 24 rfl rfl
theorem dX5_whale_0 : decode cX5_whale 0 = .ok (.iconst 0, 1) := dk_3 (dk_at dksX5_whale_0 0 rfl rfl)
theorem dX5_whale_1 : decode cX5_whale 1 = .ok (.istore_n 2, 1) := dk_61 (dk_at dksX5_whale_0 1 rfl rfl)
theorem dX5_whale_2 : decode cX5_whale 2 = .ok (.iload_n 2, 1) := dk_28 (dk_at dksX5_whale_0 2 rfl rfl)
theorem dX5_whale_3 : decode cX5_whale 3 = .ok (.aload_n 0, 1) := dk_42 (dk_at dksX5_whale_0 3 rfl rfl)
theorem dX5_whale_4 : decode cX5_whale 4 = .ok (.getfield 21, 3) := dk_180 0 21 (dk_at dksX5_whale_0 4 rfl rfl)
theorem dX5_whale_7 : decode cX5_whale 7 = .ok (.invokevirtual 30, 3) := dk_182 0 30 (dk_at dksX5_whale_0 7 rfl rfl)
theorem dX5_whale_10 : decode cX5_whale 10 = .ok (.if_icmp .ge 32, 3) := dk_162 0 32 (dk_at dksX5_whale_0 10 rfl rfl)
theorem dX5_whale_13 : decode cX5_whale 13 = .ok (.aload_n 0, 1) := dk_42 (dk_at dksX5_whale_0 13 rfl rfl)
theorem dX5_whale_14 : decode cX5_whale 14 = .ok (.getfield 21, 3) := dk_180 0 21 (dk_at dksX5_whale_0 14 rfl rfl)
theorem dX5_whale_17 : decode cX5_whale 17 = .ok (.iload_n 2, 1) := dk_28 (dk_at dksX5_whale_0 17 rfl rfl)
theorem dX5_whale_18 : decode cX5_whale 18 = .ok (.invokevirtual 34, 3) := dk_182 0 34 (dk_at dksX5_whale_0 18 rfl rfl)
theorem dX5_whale_21 : decode cX5_whale 21 = .ok (.checkcast 50, 3) := dk_192 0 50 (dk_at dksX5_whale_0 21 rfl rfl)
theorem dX5_whale_24 : decode cX5_whale 24 = .ok (.getfield 52, 3) := dk_180 0 52 (dk_at dksX5_whale_1 0 rfl rfl)
theorem dX5_whale_27 : decode cX5_whale 27 = .ok (.aload_n 1, 1) := dk_43 (dk_at dksX5_whale_1 3 rfl rfl)
theorem dX5_whale_28 : decode cX5_whale 28 = .ok (.invokevirtual 44, 3) := dk_182 0 44 (dk_at dksX5_whale_1 4 rfl rfl)
theorem dX5_whale_31 : decode cX5_whale 31 = .ok (.ifCond .eq 5, 3) := dk_153 0 5 (dk_at dksX5_whale_1 7 rfl rfl)
theorem dX5_whale_34 : decode cX5_whale 34 = .ok (.iload_n 2, 1) := dk_28 (dk_at dksX5_whale_1 10 rfl rfl)
theorem dX5_whale_35 : decode cX5_whale 35 = .ok (.ireturn, 1) := dk_172 (dk_at dksX5_whale_1 11 rfl rfl)
theorem dX5_whale_36 : decode cX5_whale 36 = .ok (.iinc 2 1, 3) := dk_132 2 1 (dk_at dksX5_whale_1 12 rfl rfl)
theorem dX5_whale_39 : decode cX5_whale 39 = .ok (.goto (-37), 3) := dk_167 255 219 (dk_at dksX5_whale_1 15 rfl rfl)
theorem dX5_whale_42 : decode cX5_whale 42 = .ok (.iconst (-1), 1) := dk_2 (dk_at dksX5_whale_1 18 rfl rfl)
theorem dX5_whale_43 : decode cX5_whale 43 = .ok (.ireturn, 1) := dk_172 (dk_at dksX5_whale_1 19 rfl rfl)
abbrev cX5_length : ByteArray := prog_8_method_7_code
def yX5_length : MethodName := ⟨RX5, "length", "(I)I"⟩
def dkwX5_length_0 : List UInt8 := [42, 180, 0, 12, 27, 182, 0, 34, 192, 0, 38, 180, 0, 77, 190, 172]
abbrev dktX5_length_0 : List UInt8 := dkwX5_length_0 ++ []
theorem dksX5_length_0 : cX5_length.data.toList.drop 0 = dktX5_length_0 := by decide +kernel
theorem dX5_length_0 : decode cX5_length 0 = .ok (.aload_n 0, 1) := dk_42 (dk_at dksX5_length_0 0 rfl rfl)
theorem dX5_length_1 : decode cX5_length 1 = .ok (.getfield 12, 3) := dk_180 0 12 (dk_at dksX5_length_0 1 rfl rfl)
theorem dX5_length_4 : decode cX5_length 4 = .ok (.iload_n 1, 1) := dk_27 (dk_at dksX5_length_0 4 rfl rfl)
theorem dX5_length_5 : decode cX5_length 5 = .ok (.invokevirtual 34, 3) := dk_182 0 34 (dk_at dksX5_length_0 5 rfl rfl)
theorem dX5_length_8 : decode cX5_length 8 = .ok (.checkcast 38, 3) := dk_192 0 38 (dk_at dksX5_length_0 8 rfl rfl)
theorem dX5_length_11 : decode cX5_length 11 = .ok (.getfield 77, 3) := dk_180 0 77 (dk_at dksX5_length_0 11 rfl rfl)
theorem dX5_length_14 : decode cX5_length 14 = .ok (.arraylength, 1) := dk_190 (dk_at dksX5_length_0 14 rfl rfl)
theorem dX5_length_15 : decode cX5_length 15 = .ok (.ireturn, 1) := dk_172 (dk_at dksX5_length_0 15 rfl rfl)
abbrev cX5_unlike : ByteArray := prog_8_method_9_code
def yX5_unlike : MethodName := ⟨RX5, "unlike", "([IIII)I"⟩
def dkwX5_unlike_2 : List UInt8 := [167, 255, 215, 21, 5, 172]
abbrev dktX5_unlike_2 : List UInt8 := dkwX5_unlike_2 ++ []
def dkwX5_unlike_1 : List UInt8 := [42, 29, 21, 6, 21, 4, 182, 0, 91, 159, 0, 7, 4, 167, 0, 4, 3, 96, 54, 5, 132, 6, 1]
abbrev dktX5_unlike_1 : List UInt8 := dkwX5_unlike_1 ++ dktX5_unlike_2
def dkwX5_unlike_0 : List UInt8 := [3, 54, 5, 3, 54, 6, 21, 6, 42, 29, 182, 0, 87, 162, 0, 37, 21, 5, 43, 28, 21, 6, 96, 46]
abbrev dktX5_unlike_0 : List UInt8 := dkwX5_unlike_0 ++ dktX5_unlike_1
theorem dksX5_unlike_0 : cX5_unlike.data.toList.drop 0 = dktX5_unlike_0 := by decide +kernel
theorem dksX5_unlike_1 : cX5_unlike.data.toList.drop 24 = dktX5_unlike_1 := dk_seg dksX5_unlike_0 24 rfl rfl
theorem dksX5_unlike_2 : cX5_unlike.data.toList.drop 47 = dktX5_unlike_2 := dk_seg dksX5_unlike_1 23 rfl rfl
theorem dX5_unlike_0 : decode cX5_unlike 0 = .ok (.iconst 0, 1) := dk_3 (dk_at dksX5_unlike_0 0 rfl rfl)
theorem dX5_unlike_1 : decode cX5_unlike 1 = .ok (.istore 5, 2) := dk_54 5 (dk_at dksX5_unlike_0 1 rfl rfl)
theorem dX5_unlike_3 : decode cX5_unlike 3 = .ok (.iconst 0, 1) := dk_3 (dk_at dksX5_unlike_0 3 rfl rfl)
theorem dX5_unlike_4 : decode cX5_unlike 4 = .ok (.istore 6, 2) := dk_54 6 (dk_at dksX5_unlike_0 4 rfl rfl)
theorem dX5_unlike_6 : decode cX5_unlike 6 = .ok (.iload 6, 2) := dk_21 6 (dk_at dksX5_unlike_0 6 rfl rfl)
theorem dX5_unlike_8 : decode cX5_unlike 8 = .ok (.aload_n 0, 1) := dk_42 (dk_at dksX5_unlike_0 8 rfl rfl)
theorem dX5_unlike_9 : decode cX5_unlike 9 = .ok (.iload_n 3, 1) := dk_29 (dk_at dksX5_unlike_0 9 rfl rfl)
theorem dX5_unlike_10 : decode cX5_unlike 10 = .ok (.invokevirtual 87, 3) := dk_182 0 87 (dk_at dksX5_unlike_0 10 rfl rfl)
theorem dX5_unlike_13 : decode cX5_unlike 13 = .ok (.if_icmp .ge 37, 3) := dk_162 0 37 (dk_at dksX5_unlike_0 13 rfl rfl)
theorem dX5_unlike_16 : decode cX5_unlike 16 = .ok (.iload 5, 2) := dk_21 5 (dk_at dksX5_unlike_0 16 rfl rfl)
theorem dX5_unlike_18 : decode cX5_unlike 18 = .ok (.aload_n 1, 1) := dk_43 (dk_at dksX5_unlike_0 18 rfl rfl)
theorem dX5_unlike_19 : decode cX5_unlike 19 = .ok (.iload_n 2, 1) := dk_28 (dk_at dksX5_unlike_0 19 rfl rfl)
theorem dX5_unlike_20 : decode cX5_unlike 20 = .ok (.iload 6, 2) := dk_21 6 (dk_at dksX5_unlike_0 20 rfl rfl)
theorem dX5_unlike_22 : decode cX5_unlike 22 = .ok (.iadd, 1) := dk_96 (dk_at dksX5_unlike_0 22 rfl rfl)
theorem dX5_unlike_23 : decode cX5_unlike 23 = .ok (.iaload, 1) := dk_46 (dk_at dksX5_unlike_0 23 rfl rfl)
theorem dX5_unlike_24 : decode cX5_unlike 24 = .ok (.aload_n 0, 1) := dk_42 (dk_at dksX5_unlike_1 0 rfl rfl)
theorem dX5_unlike_25 : decode cX5_unlike 25 = .ok (.iload_n 3, 1) := dk_29 (dk_at dksX5_unlike_1 1 rfl rfl)
theorem dX5_unlike_26 : decode cX5_unlike 26 = .ok (.iload 6, 2) := dk_21 6 (dk_at dksX5_unlike_1 2 rfl rfl)
theorem dX5_unlike_28 : decode cX5_unlike 28 = .ok (.iload 4, 2) := dk_21 4 (dk_at dksX5_unlike_1 4 rfl rfl)
theorem dX5_unlike_30 : decode cX5_unlike 30 = .ok (.invokevirtual 91, 3) := dk_182 0 91 (dk_at dksX5_unlike_1 6 rfl rfl)
theorem dX5_unlike_33 : decode cX5_unlike 33 = .ok (.if_icmp .eq 7, 3) := dk_159 0 7 (dk_at dksX5_unlike_1 9 rfl rfl)
theorem dX5_unlike_36 : decode cX5_unlike 36 = .ok (.iconst 1, 1) := dk_4 (dk_at dksX5_unlike_1 12 rfl rfl)
theorem dX5_unlike_37 : decode cX5_unlike 37 = .ok (.goto 4, 3) := dk_167 0 4 (dk_at dksX5_unlike_1 13 rfl rfl)
theorem dX5_unlike_40 : decode cX5_unlike 40 = .ok (.iconst 0, 1) := dk_3 (dk_at dksX5_unlike_1 16 rfl rfl)
theorem dX5_unlike_41 : decode cX5_unlike 41 = .ok (.iadd, 1) := dk_96 (dk_at dksX5_unlike_1 17 rfl rfl)
theorem dX5_unlike_42 : decode cX5_unlike 42 = .ok (.istore 5, 2) := dk_54 5 (dk_at dksX5_unlike_1 18 rfl rfl)
theorem dX5_unlike_44 : decode cX5_unlike 44 = .ok (.iinc 6 1, 3) := dk_132 6 1 (dk_at dksX5_unlike_1 20 rfl rfl)
theorem dX5_unlike_47 : decode cX5_unlike 47 = .ok (.goto (-41), 3) := dk_167 255 215 (dk_at dksX5_unlike_2 0 rfl rfl)
theorem dX5_unlike_50 : decode cX5_unlike 50 = .ok (.iload 5, 2) := dk_21 5 (dk_at dksX5_unlike_2 3 rfl rfl)
theorem dX5_unlike_52 : decode cX5_unlike 52 = .ok (.ireturn, 1) := dk_172 (dk_at dksX5_unlike_2 5 rfl rfl)
abbrev cX5_note : ByteArray := prog_8_method_8_code
def yX5_note : MethodName := ⟨RX5, "note", "(III)I"⟩
def dkwX5_note_2 : List UInt8 := [42, 180, 0, 84, 112, 172]
abbrev dktX5_note_2 : List UInt8 := dkwX5_note_2 ++ []
def dkwX5_note_1 : List UInt8 := [42, 180, 0, 12, 27, 182, 0, 34, 192, 0, 38, 180, 0, 77, 28, 46, 42, 180, 0, 84, 96, 21, 4, 100]
abbrev dktX5_note_1 : List UInt8 := dkwX5_note_1 ++ dktX5_note_2
def dkwX5_note_0 : List UInt8 := [42, 180, 0, 81, 154, 0, 7, 3, 167, 0, 14, 29, 42, 180, 0, 81, 108, 42, 180, 0, 84, 112, 54, 4]
abbrev dktX5_note_0 : List UInt8 := dkwX5_note_0 ++ dktX5_note_1
theorem dksX5_note_0 : cX5_note.data.toList.drop 0 = dktX5_note_0 := by decide +kernel
theorem dksX5_note_1 : cX5_note.data.toList.drop 24 = dktX5_note_1 := dk_seg dksX5_note_0 24 rfl rfl
theorem dksX5_note_2 : cX5_note.data.toList.drop 48 = dktX5_note_2 := dk_seg dksX5_note_1 24 rfl rfl
theorem dX5_note_0 : decode cX5_note 0 = .ok (.aload_n 0, 1) := dk_42 (dk_at dksX5_note_0 0 rfl rfl)
theorem dX5_note_1 : decode cX5_note 1 = .ok (.getfield 81, 3) := dk_180 0 81 (dk_at dksX5_note_0 1 rfl rfl)
theorem dX5_note_4 : decode cX5_note 4 = .ok (.ifCond .ne 7, 3) := dk_154 0 7 (dk_at dksX5_note_0 4 rfl rfl)
theorem dX5_note_7 : decode cX5_note 7 = .ok (.iconst 0, 1) := dk_3 (dk_at dksX5_note_0 7 rfl rfl)
theorem dX5_note_8 : decode cX5_note 8 = .ok (.goto 14, 3) := dk_167 0 14 (dk_at dksX5_note_0 8 rfl rfl)
theorem dX5_note_11 : decode cX5_note 11 = .ok (.iload_n 3, 1) := dk_29 (dk_at dksX5_note_0 11 rfl rfl)
theorem dX5_note_12 : decode cX5_note 12 = .ok (.aload_n 0, 1) := dk_42 (dk_at dksX5_note_0 12 rfl rfl)
theorem dX5_note_13 : decode cX5_note 13 = .ok (.getfield 81, 3) := dk_180 0 81 (dk_at dksX5_note_0 13 rfl rfl)
theorem dX5_note_16 : decode cX5_note 16 = .ok (.idiv, 1) := dk_108 (dk_at dksX5_note_0 16 rfl rfl)
theorem dX5_note_17 : decode cX5_note 17 = .ok (.aload_n 0, 1) := dk_42 (dk_at dksX5_note_0 17 rfl rfl)
theorem dX5_note_18 : decode cX5_note 18 = .ok (.getfield 84, 3) := dk_180 0 84 (dk_at dksX5_note_0 18 rfl rfl)
theorem dX5_note_21 : decode cX5_note 21 = .ok (.irem, 1) := dk_112 (dk_at dksX5_note_0 21 rfl rfl)
theorem dX5_note_22 : decode cX5_note 22 = .ok (.istore 4, 2) := dk_54 4 (dk_at dksX5_note_0 22 rfl rfl)
theorem dX5_note_24 : decode cX5_note 24 = .ok (.aload_n 0, 1) := dk_42 (dk_at dksX5_note_1 0 rfl rfl)
theorem dX5_note_25 : decode cX5_note 25 = .ok (.getfield 12, 3) := dk_180 0 12 (dk_at dksX5_note_1 1 rfl rfl)
theorem dX5_note_28 : decode cX5_note 28 = .ok (.iload_n 1, 1) := dk_27 (dk_at dksX5_note_1 4 rfl rfl)
theorem dX5_note_29 : decode cX5_note 29 = .ok (.invokevirtual 34, 3) := dk_182 0 34 (dk_at dksX5_note_1 5 rfl rfl)
theorem dX5_note_32 : decode cX5_note 32 = .ok (.checkcast 38, 3) := dk_192 0 38 (dk_at dksX5_note_1 8 rfl rfl)
theorem dX5_note_35 : decode cX5_note 35 = .ok (.getfield 77, 3) := dk_180 0 77 (dk_at dksX5_note_1 11 rfl rfl)
theorem dX5_note_38 : decode cX5_note 38 = .ok (.iload_n 2, 1) := dk_28 (dk_at dksX5_note_1 14 rfl rfl)
theorem dX5_note_39 : decode cX5_note 39 = .ok (.iaload, 1) := dk_46 (dk_at dksX5_note_1 15 rfl rfl)
theorem dX5_note_40 : decode cX5_note 40 = .ok (.aload_n 0, 1) := dk_42 (dk_at dksX5_note_1 16 rfl rfl)
theorem dX5_note_41 : decode cX5_note 41 = .ok (.getfield 84, 3) := dk_180 0 84 (dk_at dksX5_note_1 17 rfl rfl)
theorem dX5_note_44 : decode cX5_note 44 = .ok (.iadd, 1) := dk_96 (dk_at dksX5_note_1 20 rfl rfl)
theorem dX5_note_45 : decode cX5_note 45 = .ok (.iload 4, 2) := dk_21 4 (dk_at dksX5_note_1 21 rfl rfl)
theorem dX5_note_47 : decode cX5_note 47 = .ok (.isub, 1) := dk_100 (dk_at dksX5_note_1 23 rfl rfl)
theorem dX5_note_48 : decode cX5_note 48 = .ok (.aload_n 0, 1) := dk_42 (dk_at dksX5_note_2 0 rfl rfl)
theorem dX5_note_49 : decode cX5_note 49 = .ok (.getfield 84, 3) := dk_180 0 84 (dk_at dksX5_note_2 1 rfl rfl)
theorem dX5_note_52 : decode cX5_note 52 = .ok (.irem, 1) := dk_112 (dk_at dksX5_note_2 4 rfl rfl)
theorem dX5_note_53 : decode cX5_note 53 = .ok (.ireturn, 1) := dk_172 (dk_at dksX5_note_2 5 rfl rfl)
abbrev cX5_isWay : ByteArray := prog_8_method_5_code
def yX5_isWay : MethodName := ⟨RX5, "isWay", "(II)Z"⟩
def dkwX5_isWay_1 : List UInt8 := [27, 28, 182, 0, 65, 153, 0, 5, 4, 172, 132, 3, 1, 167, 255, 221, 3, 172]
abbrev dktX5_isWay_1 : List UInt8 := dkwX5_isWay_1 ++ []
def dkwX5_isWay_0 : List UInt8 := [3, 62, 29, 42, 180, 0, 18, 182, 0, 30, 162, 0, 30, 42, 180, 0, 18, 29, 182, 0, 34, 192, 0, 63]
abbrev dktX5_isWay_0 : List UInt8 := dkwX5_isWay_0 ++ dktX5_isWay_1
theorem dksX5_isWay_0 : cX5_isWay.data.toList.drop 0 = dktX5_isWay_0 := by decide +kernel
theorem dksX5_isWay_1 : cX5_isWay.data.toList.drop 24 = dktX5_isWay_1 := dk_seg dksX5_isWay_0 24 rfl rfl
theorem dX5_isWay_0 : decode cX5_isWay 0 = .ok (.iconst 0, 1) := dk_3 (dk_at dksX5_isWay_0 0 rfl rfl)
theorem dX5_isWay_1 : decode cX5_isWay 1 = .ok (.istore_n 3, 1) := dk_62 (dk_at dksX5_isWay_0 1 rfl rfl)
theorem dX5_isWay_2 : decode cX5_isWay 2 = .ok (.iload_n 3, 1) := dk_29 (dk_at dksX5_isWay_0 2 rfl rfl)
theorem dX5_isWay_3 : decode cX5_isWay 3 = .ok (.aload_n 0, 1) := dk_42 (dk_at dksX5_isWay_0 3 rfl rfl)
theorem dX5_isWay_4 : decode cX5_isWay 4 = .ok (.getfield 18, 3) := dk_180 0 18 (dk_at dksX5_isWay_0 4 rfl rfl)
theorem dX5_isWay_7 : decode cX5_isWay 7 = .ok (.invokevirtual 30, 3) := dk_182 0 30 (dk_at dksX5_isWay_0 7 rfl rfl)
theorem dX5_isWay_10 : decode cX5_isWay 10 = .ok (.if_icmp .ge 30, 3) := dk_162 0 30 (dk_at dksX5_isWay_0 10 rfl rfl)
theorem dX5_isWay_13 : decode cX5_isWay 13 = .ok (.aload_n 0, 1) := dk_42 (dk_at dksX5_isWay_0 13 rfl rfl)
theorem dX5_isWay_14 : decode cX5_isWay 14 = .ok (.getfield 18, 3) := dk_180 0 18 (dk_at dksX5_isWay_0 14 rfl rfl)
theorem dX5_isWay_17 : decode cX5_isWay 17 = .ok (.iload_n 3, 1) := dk_29 (dk_at dksX5_isWay_0 17 rfl rfl)
theorem dX5_isWay_18 : decode cX5_isWay 18 = .ok (.invokevirtual 34, 3) := dk_182 0 34 (dk_at dksX5_isWay_0 18 rfl rfl)
theorem dX5_isWay_21 : decode cX5_isWay 21 = .ok (.checkcast 63, 3) := dk_192 0 63 (dk_at dksX5_isWay_0 21 rfl rfl)
theorem dX5_isWay_24 : decode cX5_isWay 24 = .ok (.iload_n 1, 1) := dk_27 (dk_at dksX5_isWay_1 0 rfl rfl)
theorem dX5_isWay_25 : decode cX5_isWay 25 = .ok (.iload_n 2, 1) := dk_28 (dk_at dksX5_isWay_1 1 rfl rfl)
theorem dX5_isWay_26 : decode cX5_isWay 26 = .ok (.invokevirtual 65, 3) := dk_182 0 65 (dk_at dksX5_isWay_1 2 rfl rfl)
theorem dX5_isWay_29 : decode cX5_isWay 29 = .ok (.ifCond .eq 5, 3) := dk_153 0 5 (dk_at dksX5_isWay_1 5 rfl rfl)
theorem dX5_isWay_32 : decode cX5_isWay 32 = .ok (.iconst 1, 1) := dk_4 (dk_at dksX5_isWay_1 8 rfl rfl)
theorem dX5_isWay_33 : decode cX5_isWay 33 = .ok (.ireturn, 1) := dk_172 (dk_at dksX5_isWay_1 9 rfl rfl)
theorem dX5_isWay_34 : decode cX5_isWay 34 = .ok (.iinc 3 1, 3) := dk_132 3 1 (dk_at dksX5_isWay_1 10 rfl rfl)
theorem dX5_isWay_37 : decode cX5_isWay 37 = .ok (.goto (-35), 3) := dk_167 255 221 (dk_at dksX5_isWay_1 13 rfl rfl)
theorem dX5_isWay_40 : decode cX5_isWay 40 = .ok (.iconst 0, 1) := dk_3 (dk_at dksX5_isWay_1 16 rfl rfl)
theorem dX5_isWay_41 : decode cX5_isWay 41 = .ok (.ireturn, 1) := dk_172 (dk_at dksX5_isWay_1 17 rfl rfl)
abbrev cX5_lastSpout : ByteArray := prog_8_method_6_code
def yX5_lastSpout : MethodName := ⟨RX5, "lastSpout", "(I)I"⟩
def dkwX5_lastSpout_2 : List UInt8 := [61, 132, 3, 1, 167, 255, 209, 28, 172]
abbrev dktX5_lastSpout_2 : List UInt8 := dkwX5_lastSpout_2 ++ []
def dkwX5_lastSpout_1 : List UInt8 := [192, 0, 69, 180, 0, 71, 27, 160, 0, 18, 42, 180, 0, 27, 29, 182, 0, 34, 192, 0, 69, 180, 0, 74]
abbrev dktX5_lastSpout_1 : List UInt8 := dkwX5_lastSpout_1 ++ dktX5_lastSpout_2
def dkwX5_lastSpout_0 : List UInt8 := [2, 61, 3, 62, 29, 42, 180, 0, 27, 182, 0, 30, 162, 0, 42, 42, 180, 0, 27, 29, 182, 0, 34]
abbrev dktX5_lastSpout_0 : List UInt8 := dkwX5_lastSpout_0 ++ dktX5_lastSpout_1
theorem dksX5_lastSpout_0 : cX5_lastSpout.data.toList.drop 0 = dktX5_lastSpout_0 := by decide +kernel
theorem dksX5_lastSpout_1 : cX5_lastSpout.data.toList.drop 23 = dktX5_lastSpout_1 := dk_seg dksX5_lastSpout_0 23 rfl rfl
theorem dksX5_lastSpout_2 : cX5_lastSpout.data.toList.drop 47 = dktX5_lastSpout_2 := dk_seg dksX5_lastSpout_1 24 rfl rfl
theorem dX5_lastSpout_0 : decode cX5_lastSpout 0 = .ok (.iconst (-1), 1) := dk_2 (dk_at dksX5_lastSpout_0 0 rfl rfl)
theorem dX5_lastSpout_1 : decode cX5_lastSpout 1 = .ok (.istore_n 2, 1) := dk_61 (dk_at dksX5_lastSpout_0 1 rfl rfl)
theorem dX5_lastSpout_2 : decode cX5_lastSpout 2 = .ok (.iconst 0, 1) := dk_3 (dk_at dksX5_lastSpout_0 2 rfl rfl)
theorem dX5_lastSpout_3 : decode cX5_lastSpout 3 = .ok (.istore_n 3, 1) := dk_62 (dk_at dksX5_lastSpout_0 3 rfl rfl)
theorem dX5_lastSpout_4 : decode cX5_lastSpout 4 = .ok (.iload_n 3, 1) := dk_29 (dk_at dksX5_lastSpout_0 4 rfl rfl)
theorem dX5_lastSpout_5 : decode cX5_lastSpout 5 = .ok (.aload_n 0, 1) := dk_42 (dk_at dksX5_lastSpout_0 5 rfl rfl)
theorem dX5_lastSpout_6 : decode cX5_lastSpout 6 = .ok (.getfield 27, 3) := dk_180 0 27 (dk_at dksX5_lastSpout_0 6 rfl rfl)
theorem dX5_lastSpout_9 : decode cX5_lastSpout 9 = .ok (.invokevirtual 30, 3) := dk_182 0 30 (dk_at dksX5_lastSpout_0 9 rfl rfl)
theorem dX5_lastSpout_12 : decode cX5_lastSpout 12 = .ok (.if_icmp .ge 42, 3) := dk_162 0 42 (dk_at dksX5_lastSpout_0 12 rfl rfl)
theorem dX5_lastSpout_15 : decode cX5_lastSpout 15 = .ok (.aload_n 0, 1) := dk_42 (dk_at dksX5_lastSpout_0 15 rfl rfl)
theorem dX5_lastSpout_16 : decode cX5_lastSpout 16 = .ok (.getfield 27, 3) := dk_180 0 27 (dk_at dksX5_lastSpout_0 16 rfl rfl)
theorem dX5_lastSpout_19 : decode cX5_lastSpout 19 = .ok (.iload_n 3, 1) := dk_29 (dk_at dksX5_lastSpout_0 19 rfl rfl)
theorem dX5_lastSpout_20 : decode cX5_lastSpout 20 = .ok (.invokevirtual 34, 3) := dk_182 0 34 (dk_at dksX5_lastSpout_0 20 rfl rfl)
theorem dX5_lastSpout_23 : decode cX5_lastSpout 23 = .ok (.checkcast 69, 3) := dk_192 0 69 (dk_at dksX5_lastSpout_1 0 rfl rfl)
theorem dX5_lastSpout_26 : decode cX5_lastSpout 26 = .ok (.getfield 71, 3) := dk_180 0 71 (dk_at dksX5_lastSpout_1 3 rfl rfl)
theorem dX5_lastSpout_29 : decode cX5_lastSpout 29 = .ok (.iload_n 1, 1) := dk_27 (dk_at dksX5_lastSpout_1 6 rfl rfl)
theorem dX5_lastSpout_30 : decode cX5_lastSpout 30 = .ok (.if_icmp .ne 18, 3) := dk_160 0 18 (dk_at dksX5_lastSpout_1 7 rfl rfl)
theorem dX5_lastSpout_33 : decode cX5_lastSpout 33 = .ok (.aload_n 0, 1) := dk_42 (dk_at dksX5_lastSpout_1 10 rfl rfl)
theorem dX5_lastSpout_34 : decode cX5_lastSpout 34 = .ok (.getfield 27, 3) := dk_180 0 27 (dk_at dksX5_lastSpout_1 11 rfl rfl)
theorem dX5_lastSpout_37 : decode cX5_lastSpout 37 = .ok (.iload_n 3, 1) := dk_29 (dk_at dksX5_lastSpout_1 14 rfl rfl)
theorem dX5_lastSpout_38 : decode cX5_lastSpout 38 = .ok (.invokevirtual 34, 3) := dk_182 0 34 (dk_at dksX5_lastSpout_1 15 rfl rfl)
theorem dX5_lastSpout_41 : decode cX5_lastSpout 41 = .ok (.checkcast 69, 3) := dk_192 0 69 (dk_at dksX5_lastSpout_1 18 rfl rfl)
theorem dX5_lastSpout_44 : decode cX5_lastSpout 44 = .ok (.getfield 74, 3) := dk_180 0 74 (dk_at dksX5_lastSpout_1 21 rfl rfl)
theorem dX5_lastSpout_47 : decode cX5_lastSpout 47 = .ok (.istore_n 2, 1) := dk_61 (dk_at dksX5_lastSpout_2 0 rfl rfl)
theorem dX5_lastSpout_48 : decode cX5_lastSpout 48 = .ok (.iinc 3 1, 3) := dk_132 3 1 (dk_at dksX5_lastSpout_2 1 rfl rfl)
theorem dX5_lastSpout_51 : decode cX5_lastSpout 51 = .ok (.goto (-47), 3) := dk_167 255 209 (dk_at dksX5_lastSpout_2 4 rfl rfl)
theorem dX5_lastSpout_54 : decode cX5_lastSpout 54 = .ok (.iload_n 2, 1) := dk_28 (dk_at dksX5_lastSpout_2 7 rfl rfl)
theorem dX5_lastSpout_55 : decode cX5_lastSpout 55 = .ok (.ireturn, 1) := dk_172 (dk_at dksX5_lastSpout_2 8 rfl rfl)
abbrev cX5_heard : ByteArray := prog_8_method_10_code
def yX5_heard : MethodName := ⟨RX5, "heard", "([IIII)I"⟩
def dkwX5_heard_4 : List UInt8 := [167, 0, 5, 16, 254, 172]
abbrev dktX5_heard_4 : List UInt8 := dkwX5_heard_4 ++ []
def dkwX5_heard_3 : List UInt8 := [54, 5, 21, 8, 54, 6, 132, 7, 1, 167, 255, 186, 21, 6, 42, 180, 0, 99, 163, 0, 8, 21, 5]
abbrev dktX5_heard_3 : List UInt8 := dkwX5_heard_3 ++ dktX5_heard_4
def dkwX5_heard_2 : List UInt8 := [21, 8, 21, 6, 164, 0, 6, 167, 0, 23, 21, 8, 21, 6, 162, 0, 8, 21, 7, 167, 0, 5, 16, 254]
abbrev dktX5_heard_2 : List UInt8 := dkwX5_heard_2 ++ dktX5_heard_3
def dkwX5_heard_1 : List UInt8 := [21, 7, 182, 0, 87, 29, 159, 0, 6, 167, 0, 45, 42, 43, 28, 21, 7, 21, 4, 182, 0, 95, 54, 8]
abbrev dktX5_heard_1 : List UInt8 := dkwX5_heard_1 ++ dktX5_heard_2
def dkwX5_heard_0 : List UInt8 := [16, 254, 54, 5, 16, 7, 54, 6, 3, 54, 7, 21, 7, 42, 180, 0, 12, 182, 0, 30, 162, 0, 64, 42]
abbrev dktX5_heard_0 : List UInt8 := dkwX5_heard_0 ++ dktX5_heard_1
theorem dksX5_heard_0 : cX5_heard.data.toList.drop 0 = dktX5_heard_0 := by decide +kernel
theorem dksX5_heard_1 : cX5_heard.data.toList.drop 24 = dktX5_heard_1 := dk_seg dksX5_heard_0 24 rfl rfl
theorem dksX5_heard_2 : cX5_heard.data.toList.drop 48 = dktX5_heard_2 := dk_seg dksX5_heard_1 24 rfl rfl
theorem dksX5_heard_3 : cX5_heard.data.toList.drop 72 = dktX5_heard_3 := dk_seg dksX5_heard_2 24 rfl rfl
theorem dksX5_heard_4 : cX5_heard.data.toList.drop 95 = dktX5_heard_4 := dk_seg dksX5_heard_3 23 rfl rfl
theorem dX5_heard_0 : decode cX5_heard 0 = .ok (.bipush (-2), 2) := dk_16 254 (dk_at dksX5_heard_0 0 rfl rfl)
theorem dX5_heard_2 : decode cX5_heard 2 = .ok (.istore 5, 2) := dk_54 5 (dk_at dksX5_heard_0 2 rfl rfl)
theorem dX5_heard_4 : decode cX5_heard 4 = .ok (.bipush 7, 2) := dk_16 7 (dk_at dksX5_heard_0 4 rfl rfl)
theorem dX5_heard_6 : decode cX5_heard 6 = .ok (.istore 6, 2) := dk_54 6 (dk_at dksX5_heard_0 6 rfl rfl)
theorem dX5_heard_8 : decode cX5_heard 8 = .ok (.iconst 0, 1) := dk_3 (dk_at dksX5_heard_0 8 rfl rfl)
theorem dX5_heard_9 : decode cX5_heard 9 = .ok (.istore 7, 2) := dk_54 7 (dk_at dksX5_heard_0 9 rfl rfl)
theorem dX5_heard_11 : decode cX5_heard 11 = .ok (.iload 7, 2) := dk_21 7 (dk_at dksX5_heard_0 11 rfl rfl)
theorem dX5_heard_13 : decode cX5_heard 13 = .ok (.aload_n 0, 1) := dk_42 (dk_at dksX5_heard_0 13 rfl rfl)
theorem dX5_heard_14 : decode cX5_heard 14 = .ok (.getfield 12, 3) := dk_180 0 12 (dk_at dksX5_heard_0 14 rfl rfl)
theorem dX5_heard_17 : decode cX5_heard 17 = .ok (.invokevirtual 30, 3) := dk_182 0 30 (dk_at dksX5_heard_0 17 rfl rfl)
theorem dX5_heard_20 : decode cX5_heard 20 = .ok (.if_icmp .ge 64, 3) := dk_162 0 64 (dk_at dksX5_heard_0 20 rfl rfl)
theorem dX5_heard_23 : decode cX5_heard 23 = .ok (.aload_n 0, 1) := dk_42 (dk_at dksX5_heard_0 23 rfl rfl)
theorem dX5_heard_24 : decode cX5_heard 24 = .ok (.iload 7, 2) := dk_21 7 (dk_at dksX5_heard_1 0 rfl rfl)
theorem dX5_heard_26 : decode cX5_heard 26 = .ok (.invokevirtual 87, 3) := dk_182 0 87 (dk_at dksX5_heard_1 2 rfl rfl)
theorem dX5_heard_29 : decode cX5_heard 29 = .ok (.iload_n 3, 1) := dk_29 (dk_at dksX5_heard_1 5 rfl rfl)
theorem dX5_heard_30 : decode cX5_heard 30 = .ok (.if_icmp .eq 6, 3) := dk_159 0 6 (dk_at dksX5_heard_1 6 rfl rfl)
theorem dX5_heard_33 : decode cX5_heard 33 = .ok (.goto 45, 3) := dk_167 0 45 (dk_at dksX5_heard_1 9 rfl rfl)
theorem dX5_heard_36 : decode cX5_heard 36 = .ok (.aload_n 0, 1) := dk_42 (dk_at dksX5_heard_1 12 rfl rfl)
theorem dX5_heard_37 : decode cX5_heard 37 = .ok (.aload_n 1, 1) := dk_43 (dk_at dksX5_heard_1 13 rfl rfl)
theorem dX5_heard_38 : decode cX5_heard 38 = .ok (.iload_n 2, 1) := dk_28 (dk_at dksX5_heard_1 14 rfl rfl)
theorem dX5_heard_39 : decode cX5_heard 39 = .ok (.iload 7, 2) := dk_21 7 (dk_at dksX5_heard_1 15 rfl rfl)
theorem dX5_heard_41 : decode cX5_heard 41 = .ok (.iload 4, 2) := dk_21 4 (dk_at dksX5_heard_1 17 rfl rfl)
theorem dX5_heard_43 : decode cX5_heard 43 = .ok (.invokevirtual 95, 3) := dk_182 0 95 (dk_at dksX5_heard_1 19 rfl rfl)
theorem dX5_heard_46 : decode cX5_heard 46 = .ok (.istore 8, 2) := dk_54 8 (dk_at dksX5_heard_1 22 rfl rfl)
theorem dX5_heard_48 : decode cX5_heard 48 = .ok (.iload 8, 2) := dk_21 8 (dk_at dksX5_heard_2 0 rfl rfl)
theorem dX5_heard_50 : decode cX5_heard 50 = .ok (.iload 6, 2) := dk_21 6 (dk_at dksX5_heard_2 2 rfl rfl)
theorem dX5_heard_52 : decode cX5_heard 52 = .ok (.if_icmp .le 6, 3) := dk_164 0 6 (dk_at dksX5_heard_2 4 rfl rfl)
theorem dX5_heard_55 : decode cX5_heard 55 = .ok (.goto 23, 3) := dk_167 0 23 (dk_at dksX5_heard_2 7 rfl rfl)
theorem dX5_heard_58 : decode cX5_heard 58 = .ok (.iload 8, 2) := dk_21 8 (dk_at dksX5_heard_2 10 rfl rfl)
theorem dX5_heard_60 : decode cX5_heard 60 = .ok (.iload 6, 2) := dk_21 6 (dk_at dksX5_heard_2 12 rfl rfl)
theorem dX5_heard_62 : decode cX5_heard 62 = .ok (.if_icmp .ge 8, 3) := dk_162 0 8 (dk_at dksX5_heard_2 14 rfl rfl)
theorem dX5_heard_65 : decode cX5_heard 65 = .ok (.iload 7, 2) := dk_21 7 (dk_at dksX5_heard_2 17 rfl rfl)
theorem dX5_heard_67 : decode cX5_heard 67 = .ok (.goto 5, 3) := dk_167 0 5 (dk_at dksX5_heard_2 19 rfl rfl)
theorem dX5_heard_70 : decode cX5_heard 70 = .ok (.bipush (-2), 2) := dk_16 254 (dk_at dksX5_heard_2 22 rfl rfl)
theorem dX5_heard_72 : decode cX5_heard 72 = .ok (.istore 5, 2) := dk_54 5 (dk_at dksX5_heard_3 0 rfl rfl)
theorem dX5_heard_74 : decode cX5_heard 74 = .ok (.iload 8, 2) := dk_21 8 (dk_at dksX5_heard_3 2 rfl rfl)
theorem dX5_heard_76 : decode cX5_heard 76 = .ok (.istore 6, 2) := dk_54 6 (dk_at dksX5_heard_3 4 rfl rfl)
theorem dX5_heard_78 : decode cX5_heard 78 = .ok (.iinc 7 1, 3) := dk_132 7 1 (dk_at dksX5_heard_3 6 rfl rfl)
theorem dX5_heard_81 : decode cX5_heard 81 = .ok (.goto (-70), 3) := dk_167 255 186 (dk_at dksX5_heard_3 9 rfl rfl)
theorem dX5_heard_84 : decode cX5_heard 84 = .ok (.iload 6, 2) := dk_21 6 (dk_at dksX5_heard_3 12 rfl rfl)
theorem dX5_heard_86 : decode cX5_heard 86 = .ok (.aload_n 0, 1) := dk_42 (dk_at dksX5_heard_3 14 rfl rfl)
theorem dX5_heard_87 : decode cX5_heard 87 = .ok (.getfield 99, 3) := dk_180 0 99 (dk_at dksX5_heard_3 15 rfl rfl)
theorem dX5_heard_90 : decode cX5_heard 90 = .ok (.if_icmp .gt 8, 3) := dk_163 0 8 (dk_at dksX5_heard_3 18 rfl rfl)
theorem dX5_heard_93 : decode cX5_heard 93 = .ok (.iload 5, 2) := dk_21 5 (dk_at dksX5_heard_3 21 rfl rfl)
theorem dX5_heard_95 : decode cX5_heard 95 = .ok (.goto 5, 3) := dk_167 0 5 (dk_at dksX5_heard_4 0 rfl rfl)
theorem dX5_heard_98 : decode cX5_heard 98 = .ok (.bipush (-2), 2) := dk_16 254 (dk_at dksX5_heard_4 3 rfl rfl)
theorem dX5_heard_100 : decode cX5_heard 100 = .ok (.ireturn, 1) := dk_172 (dk_at dksX5_heard_4 5 rfl rfl)
abbrev cX5_apart : ByteArray := prog_8_method_11_code
def yX5_apart : MethodName := ⟨RX5, "apart", "(II)I"⟩
def dkwX5_apart_1 : List UInt8 := [182, 0, 34, 192, 0, 38, 180, 0, 77, 3, 28, 3, 182, 0, 95, 172]
abbrev dktX5_apart_1 : List UInt8 := dkwX5_apart_1 ++ []
def dkwX5_apart_0 : List UInt8 := [42, 27, 182, 0, 87, 42, 28, 182, 0, 87, 159, 0, 8, 16, 254, 167, 0, 24, 42, 42, 180, 0, 12, 27]
abbrev dktX5_apart_0 : List UInt8 := dkwX5_apart_0 ++ dktX5_apart_1
theorem dksX5_apart_0 : cX5_apart.data.toList.drop 0 = dktX5_apart_0 := by decide +kernel
theorem dksX5_apart_1 : cX5_apart.data.toList.drop 24 = dktX5_apart_1 := dk_seg dksX5_apart_0 24 rfl rfl
theorem dX5_apart_0 : decode cX5_apart 0 = .ok (.aload_n 0, 1) := dk_42 (dk_at dksX5_apart_0 0 rfl rfl)
theorem dX5_apart_1 : decode cX5_apart 1 = .ok (.iload_n 1, 1) := dk_27 (dk_at dksX5_apart_0 1 rfl rfl)
theorem dX5_apart_2 : decode cX5_apart 2 = .ok (.invokevirtual 87, 3) := dk_182 0 87 (dk_at dksX5_apart_0 2 rfl rfl)
theorem dX5_apart_5 : decode cX5_apart 5 = .ok (.aload_n 0, 1) := dk_42 (dk_at dksX5_apart_0 5 rfl rfl)
theorem dX5_apart_6 : decode cX5_apart 6 = .ok (.iload_n 2, 1) := dk_28 (dk_at dksX5_apart_0 6 rfl rfl)
theorem dX5_apart_7 : decode cX5_apart 7 = .ok (.invokevirtual 87, 3) := dk_182 0 87 (dk_at dksX5_apart_0 7 rfl rfl)
theorem dX5_apart_10 : decode cX5_apart 10 = .ok (.if_icmp .eq 8, 3) := dk_159 0 8 (dk_at dksX5_apart_0 10 rfl rfl)
theorem dX5_apart_13 : decode cX5_apart 13 = .ok (.bipush (-2), 2) := dk_16 254 (dk_at dksX5_apart_0 13 rfl rfl)
theorem dX5_apart_15 : decode cX5_apart 15 = .ok (.goto 24, 3) := dk_167 0 24 (dk_at dksX5_apart_0 15 rfl rfl)
theorem dX5_apart_18 : decode cX5_apart 18 = .ok (.aload_n 0, 1) := dk_42 (dk_at dksX5_apart_0 18 rfl rfl)
theorem dX5_apart_19 : decode cX5_apart 19 = .ok (.aload_n 0, 1) := dk_42 (dk_at dksX5_apart_0 19 rfl rfl)
theorem dX5_apart_20 : decode cX5_apart 20 = .ok (.getfield 12, 3) := dk_180 0 12 (dk_at dksX5_apart_0 20 rfl rfl)
theorem dX5_apart_23 : decode cX5_apart 23 = .ok (.iload_n 1, 1) := dk_27 (dk_at dksX5_apart_0 23 rfl rfl)
theorem dX5_apart_24 : decode cX5_apart 24 = .ok (.invokevirtual 34, 3) := dk_182 0 34 (dk_at dksX5_apart_1 0 rfl rfl)
theorem dX5_apart_27 : decode cX5_apart 27 = .ok (.checkcast 38, 3) := dk_192 0 38 (dk_at dksX5_apart_1 3 rfl rfl)
theorem dX5_apart_30 : decode cX5_apart 30 = .ok (.getfield 77, 3) := dk_180 0 77 (dk_at dksX5_apart_1 6 rfl rfl)
theorem dX5_apart_33 : decode cX5_apart 33 = .ok (.iconst 0, 1) := dk_3 (dk_at dksX5_apart_1 9 rfl rfl)
theorem dX5_apart_34 : decode cX5_apart 34 = .ok (.iload_n 2, 1) := dk_28 (dk_at dksX5_apart_1 10 rfl rfl)
theorem dX5_apart_35 : decode cX5_apart 35 = .ok (.iconst 0, 1) := dk_3 (dk_at dksX5_apart_1 11 rfl rfl)
theorem dX5_apart_36 : decode cX5_apart 36 = .ok (.invokevirtual 95, 3) := dk_182 0 95 (dk_at dksX5_apart_1 12 rfl rfl)
theorem dX5_apart_39 : decode cX5_apart 39 = .ok (.ireturn, 1) := dk_172 (dk_at dksX5_apart_1 15 rfl rfl)
theorem q138 : (Jvm.Cond.initialized "WhalePost$Post") ∈ lw_all := lw_g (lw_at lw_m1 8 rfl) rfl
theorem q300 : (Jvm.Cond.instantiable "WhalePost$Post" (9 : Nat)) ∈ lw_all := lw_g (lw_at lw_m1 170 rfl) rfl
theorem q302 : (Jvm.Cond.instanceMethod ({ cls := "WhalePost$Post", name := "<init>", desc := "()V" } : Jvm.MethodName)) ∈ lw_all := lw_g (lw_at lw_m1 172 rfl) rfl
theorem q303 : (Jvm.Cond.code ({ cls := "WhalePost$Post", name := "<init>", desc := "()V" } : Jvm.MethodName) prog_8_method_1_code (1 : Nat) (Option.none : Option Jvm.ClassFile.FieldType)) ∈ lw_all := lw_g (lw_at lw_m1 173 rfl) rfl
theorem q304 : (Jvm.Cond.methodLink "WhalePost$Post" (3 : Nat) ({ cls := "java/lang/Object", name := "<init>", desc := "()V" } : Jvm.MethodName)) ∈ lw_all := lw_g (lw_at lw_m1 174 rfl) rfl
theorem q305 : (Jvm.Cond.classLink "WhalePost$Post" (9 : Nat) "java/util/ArrayList") ∈ lw_all := lw_g (lw_at lw_m1 175 rfl) rfl
theorem q306 : (Jvm.Cond.methodLink "WhalePost$Post" (11 : Nat) ({ cls := "java/util/ArrayList", name := "<init>", desc := "()V" } : Jvm.MethodName)) ∈ lw_all := lw_g (lw_at lw_m1 176 rfl) rfl
theorem q307 : (Jvm.Cond.fieldLink "WhalePost$Post" (84 : Nat) "WhalePost$Post" "notes" "I") ∈ lw_all := lw_g (lw_at lw_m1 177 rfl) rfl
theorem q310 : (Jvm.Cond.fieldLink "WhalePost$Post" (99 : Nat) "WhalePost$Post" "errors" "I") ∈ lw_all := lw_g (lw_at lw_m1 180 rfl) rfl
theorem q313 : (Jvm.Cond.fieldLink "WhalePost$Post" (81 : Nat) "WhalePost$Post" "drift" "I") ∈ lw_all := lw_g (lw_at lw_m1 183 rfl) rfl
theorem q318 : (Jvm.Cond.fieldLink "WhalePost$Post" (12 : Nat) "WhalePost$Post" "islands" "Ljava/util/ArrayList;") ∈ lw_all := lw_g (lw_at lw_m1 188 rfl) rfl
theorem q322 : (Jvm.Cond.fieldLink "WhalePost$Post" (18 : Nat) "WhalePost$Post" "ways" "Ljava/util/ArrayList;") ∈ lw_all := lw_g (lw_at lw_m1 192 rfl) rfl
theorem q325 : (Jvm.Cond.fieldLink "WhalePost$Post" (21 : Nat) "WhalePost$Post" "whales" "Ljava/util/ArrayList;") ∈ lw_all := lw_g (lw_at lw_m1 195 rfl) rfl
theorem q329 : (Jvm.Cond.fieldLink "WhalePost$Post" (24 : Nat) "WhalePost$Post" "boxes" "Ljava/util/ArrayList;") ∈ lw_all := lw_g (lw_at lw_m1 199 rfl) rfl
theorem q333 : (Jvm.Cond.fieldLink "WhalePost$Post" (27 : Nat) "WhalePost$Post" "spouts" "Ljava/util/ArrayList;") ∈ lw_all := lw_g (lw_at lw_m1 203 rfl) rfl
theorem q336 : (Jvm.Cond.lays "WhalePost$Post" "WhalePost$Post" "notes" "I") ∈ lw_all := lw_g (lw_at lw_m1 206 rfl) rfl
theorem q337 : (Jvm.Cond.soleField "WhalePost$Post" "notes") ∈ lw_all := lw_g (lw_at lw_m1 207 rfl) rfl
theorem q338 : (Jvm.Cond.lays "WhalePost$Post" "WhalePost$Post" "errors" "I") ∈ lw_all := lw_g (lw_at lw_m1 208 rfl) rfl
theorem q339 : (Jvm.Cond.soleField "WhalePost$Post" "errors") ∈ lw_all := lw_g (lw_at lw_m1 209 rfl) rfl
theorem q340 : (Jvm.Cond.lays "WhalePost$Post" "WhalePost$Post" "drift" "I") ∈ lw_all := lw_g (lw_at lw_m1 210 rfl) rfl
theorem q341 : (Jvm.Cond.soleField "WhalePost$Post" "drift") ∈ lw_all := lw_g (lw_at lw_m1 211 rfl) rfl
theorem q342 : (Jvm.Cond.lays "WhalePost$Post" "WhalePost$Post" "slip" "I") ∈ lw_all := lw_g (lw_at lw_m1 212 rfl) rfl
theorem q343 : (Jvm.Cond.soleField "WhalePost$Post" "slip") ∈ lw_all := lw_g (lw_at lw_m1 213 rfl) rfl
theorem q344 : (Jvm.Cond.laysFinal "WhalePost$Post" "WhalePost$Post" "islands" "Ljava/util/ArrayList;") ∈ lw_all := lw_g (lw_at lw_m1 214 rfl) rfl
theorem q345 : (Jvm.Cond.soleField "WhalePost$Post" "islands") ∈ lw_all := lw_g (lw_at lw_m1 215 rfl) rfl
theorem q346 : (Jvm.Cond.laysFinal "WhalePost$Post" "WhalePost$Post" "ways" "Ljava/util/ArrayList;") ∈ lw_all := lw_g (lw_at lw_m1 216 rfl) rfl
theorem q347 : (Jvm.Cond.soleField "WhalePost$Post" "ways") ∈ lw_all := lw_g (lw_at lw_m1 217 rfl) rfl
theorem q348 : (Jvm.Cond.laysFinal "WhalePost$Post" "WhalePost$Post" "whales" "Ljava/util/ArrayList;") ∈ lw_all := lw_g (lw_at lw_m1 218 rfl) rfl
theorem q349 : (Jvm.Cond.soleField "WhalePost$Post" "whales") ∈ lw_all := lw_g (lw_at lw_m1 219 rfl) rfl
theorem q350 : (Jvm.Cond.laysFinal "WhalePost$Post" "WhalePost$Post" "boxes" "Ljava/util/ArrayList;") ∈ lw_all := lw_g (lw_at lw_m1 220 rfl) rfl
theorem q351 : (Jvm.Cond.soleField "WhalePost$Post" "boxes") ∈ lw_all := lw_g (lw_at lw_m1 221 rfl) rfl
theorem q352 : (Jvm.Cond.laysFinal "WhalePost$Post" "WhalePost$Post" "spouts" "Ljava/util/ArrayList;") ∈ lw_all := lw_g (lw_at lw_m1 222 rfl) rfl
theorem q353 : (Jvm.Cond.soleField "WhalePost$Post" "spouts") ∈ lw_all := lw_g (lw_at lw_m1 223 rfl) rfl
theorem q354 : (Jvm.Cond.superclass "WhalePost$Post" "java/lang/Object") ∈ lw_all := lw_g (lw_at lw_m1 224 rfl) rfl
theorem q737 : (Jvm.Cond.instanceMethod ({ cls := "WhalePost$Post", name := "isName", desc := "(Ljava/lang/String;)Z" } : Jvm.MethodName)) ∈ lw_all := lw_g (lw_at lw_m3 127 rfl) rfl
theorem q738 : (Jvm.Cond.selects "WhalePost$Post" ({ cls := "WhalePost$Post", name := "isName", desc := "(Ljava/lang/String;)Z" } : Jvm.MethodName) ({ cls := "WhalePost$Post", name := "isName", desc := "(Ljava/lang/String;)Z" } : Jvm.MethodName)) ∈ lw_all := lw_g (lw_at lw_m3 128 rfl) rfl
theorem q739 : (Jvm.Cond.code ({ cls := "WhalePost$Post", name := "isName", desc := "(Ljava/lang/String;)Z" } : Jvm.MethodName) prog_8_method_4_code (3 : Nat) (Option.some Jvm.ClassFile.FieldType.boolean)) ∈ lw_all := lw_g (lw_at lw_m3 129 rfl) rfl
theorem q740 : (Jvm.Cond.methodLink "WhalePost$Post" (30 : Nat) ({ cls := "java/util/ArrayList", name := "size", desc := "()I" } : Jvm.MethodName)) ∈ lw_all := lw_g (lw_at lw_m3 130 rfl) rfl
theorem q741 : (Jvm.Cond.methodLink "WhalePost$Post" (34 : Nat) ({ cls := "java/util/ArrayList", name := "get", desc := "(I)Ljava/lang/Object;" } : Jvm.MethodName)) ∈ lw_all := lw_g (lw_at lw_m3 131 rfl) rfl
theorem q753 : (Jvm.Cond.classLink "WhalePost$Post" (53 : Nat) "WhalePost$Box") ∈ lw_all := lw_g (lw_at lw_m3 143 rfl) rfl
theorem q754 : (Jvm.Cond.methodLink "WhalePost$Post" (44 : Nat) ({ cls := "java/lang/String", name := "equals", desc := "(Ljava/lang/Object;)Z" } : Jvm.MethodName)) ∈ lw_all := lw_g (lw_at lw_m3 144 rfl) rfl
theorem q755 : (Jvm.Cond.methodLink "WhalePost$Post" (56 : Nat) ({ cls := "WhalePost$Post", name := "island", desc := "(Ljava/lang/String;)I" } : Jvm.MethodName)) ∈ lw_all := lw_g (lw_at lw_m3 145 rfl) rfl
theorem q756 : (Jvm.Cond.instanceMethod ({ cls := "WhalePost$Post", name := "island", desc := "(Ljava/lang/String;)I" } : Jvm.MethodName)) ∈ lw_all := lw_g (lw_at lw_m3 146 rfl) rfl
theorem q757 : (Jvm.Cond.selects "WhalePost$Post" ({ cls := "WhalePost$Post", name := "island", desc := "(Ljava/lang/String;)I" } : Jvm.MethodName) ({ cls := "WhalePost$Post", name := "island", desc := "(Ljava/lang/String;)I" } : Jvm.MethodName)) ∈ lw_all := lw_g (lw_at lw_m3 147 rfl) rfl
theorem q758 : (Jvm.Cond.code ({ cls := "WhalePost$Post", name := "island", desc := "(Ljava/lang/String;)I" } : Jvm.MethodName) prog_8_method_2_code (3 : Nat) (Option.some Jvm.ClassFile.FieldType.int)) ∈ lw_all := lw_g (lw_at lw_m3 148 rfl) rfl
theorem q759 : (Jvm.Cond.classLink "WhalePost$Post" (38 : Nat) "WhalePost$Island") ∈ lw_all := lw_g (lw_at lw_m3 149 rfl) rfl
theorem q760 : (Jvm.Cond.methodLink "WhalePost$Post" (60 : Nat) ({ cls := "WhalePost$Post", name := "whale", desc := "(Ljava/lang/String;)I" } : Jvm.MethodName)) ∈ lw_all := lw_g (lw_at lw_m3 150 rfl) rfl
theorem q761 : (Jvm.Cond.instanceMethod ({ cls := "WhalePost$Post", name := "whale", desc := "(Ljava/lang/String;)I" } : Jvm.MethodName)) ∈ lw_all := lw_g (lw_at lw_m3 151 rfl) rfl
theorem q762 : (Jvm.Cond.selects "WhalePost$Post" ({ cls := "WhalePost$Post", name := "whale", desc := "(Ljava/lang/String;)I" } : Jvm.MethodName) ({ cls := "WhalePost$Post", name := "whale", desc := "(Ljava/lang/String;)I" } : Jvm.MethodName)) ∈ lw_all := lw_g (lw_at lw_m3 152 rfl) rfl
theorem q763 : (Jvm.Cond.code ({ cls := "WhalePost$Post", name := "whale", desc := "(Ljava/lang/String;)I" } : Jvm.MethodName) prog_8_method_3_code (3 : Nat) (Option.some Jvm.ClassFile.FieldType.int)) ∈ lw_all := lw_g (lw_at lw_m3 153 rfl) rfl
theorem q764 : (Jvm.Cond.classLink "WhalePost$Post" (50 : Nat) "WhalePost$Whale") ∈ lw_all := lw_g (lw_at lw_m3 154 rfl) rfl
theorem q794 : (Jvm.Cond.instanceMethod ({ cls := "WhalePost$Post", name := "length", desc := "(I)I" } : Jvm.MethodName)) ∈ lw_all := lw_g (lw_at lw_m3 184 rfl) rfl
theorem q795 : (Jvm.Cond.selects "WhalePost$Post" ({ cls := "WhalePost$Post", name := "length", desc := "(I)I" } : Jvm.MethodName) ({ cls := "WhalePost$Post", name := "length", desc := "(I)I" } : Jvm.MethodName)) ∈ lw_all := lw_g (lw_at lw_m3 185 rfl) rfl
theorem q796 : (Jvm.Cond.code ({ cls := "WhalePost$Post", name := "length", desc := "(I)I" } : Jvm.MethodName) prog_8_method_7_code (2 : Nat) (Option.some Jvm.ClassFile.FieldType.int)) ∈ lw_all := lw_g (lw_at lw_m3 186 rfl) rfl
theorem q798 : (Jvm.Cond.instanceMethod ({ cls := "WhalePost$Post", name := "unlike", desc := "([IIII)I" } : Jvm.MethodName)) ∈ lw_all := lw_g (lw_at lw_m3 188 rfl) rfl
theorem q799 : (Jvm.Cond.selects "WhalePost$Post" ({ cls := "WhalePost$Post", name := "unlike", desc := "([IIII)I" } : Jvm.MethodName) ({ cls := "WhalePost$Post", name := "unlike", desc := "([IIII)I" } : Jvm.MethodName)) ∈ lw_all := lw_g (lw_at lw_m3 189 rfl) rfl
theorem q800 : (Jvm.Cond.code ({ cls := "WhalePost$Post", name := "unlike", desc := "([IIII)I" } : Jvm.MethodName) prog_8_method_9_code (7 : Nat) (Option.some Jvm.ClassFile.FieldType.int)) ∈ lw_all := lw_g (lw_at lw_m3 190 rfl) rfl
theorem q801 : (Jvm.Cond.methodLink "WhalePost$Post" (87 : Nat) ({ cls := "WhalePost$Post", name := "length", desc := "(I)I" } : Jvm.MethodName)) ∈ lw_all := lw_g (lw_at lw_m3 191 rfl) rfl
theorem q802 : (Jvm.Cond.methodLink "WhalePost$Post" (91 : Nat) ({ cls := "WhalePost$Post", name := "note", desc := "(III)I" } : Jvm.MethodName)) ∈ lw_all := lw_g (lw_at lw_m3 192 rfl) rfl
theorem q803 : (Jvm.Cond.instanceMethod ({ cls := "WhalePost$Post", name := "note", desc := "(III)I" } : Jvm.MethodName)) ∈ lw_all := lw_g (lw_at lw_m3 193 rfl) rfl
theorem q804 : (Jvm.Cond.selects "WhalePost$Post" ({ cls := "WhalePost$Post", name := "note", desc := "(III)I" } : Jvm.MethodName) ({ cls := "WhalePost$Post", name := "note", desc := "(III)I" } : Jvm.MethodName)) ∈ lw_all := lw_g (lw_at lw_m3 194 rfl) rfl
theorem q805 : (Jvm.Cond.code ({ cls := "WhalePost$Post", name := "note", desc := "(III)I" } : Jvm.MethodName) prog_8_method_8_code (5 : Nat) (Option.some Jvm.ClassFile.FieldType.int)) ∈ lw_all := lw_g (lw_at lw_m3 195 rfl) rfl
theorem q813 : (Jvm.Cond.fieldLink "WhalePost$Post" (40 : Nat) "WhalePost$Island" "name" "Ljava/lang/String;") ∈ lw_all := lw_g (lw_at lw_m3 203 rfl) rfl
theorem q816 : (Jvm.Cond.fieldLink "WhalePost$Post" (77 : Nat) "WhalePost$Island" "song" "[I") ∈ lw_all := lw_g (lw_at lw_m3 206 rfl) rfl
theorem q853 : (Jvm.Cond.selects "WhalePost$Post" ({ cls := "java/lang/Object", name := "getClass", desc := "()Ljava/lang/Class;" } : Jvm.MethodName) ({ cls := "java/lang/Object", name := "getClass", desc := "()Ljava/lang/Class;" } : Jvm.MethodName)) ∈ lw_all := lw_g (lw_at lw_m4 3 rfl) rfl
theorem q889 : (Jvm.Cond.instanceMethod ({ cls := "WhalePost$Post", name := "isWay", desc := "(II)Z" } : Jvm.MethodName)) ∈ lw_all := lw_g (lw_at lw_m4 39 rfl) rfl
theorem q890 : (Jvm.Cond.selects "WhalePost$Post" ({ cls := "WhalePost$Post", name := "isWay", desc := "(II)Z" } : Jvm.MethodName) ({ cls := "WhalePost$Post", name := "isWay", desc := "(II)Z" } : Jvm.MethodName)) ∈ lw_all := lw_g (lw_at lw_m4 40 rfl) rfl
theorem q891 : (Jvm.Cond.code ({ cls := "WhalePost$Post", name := "isWay", desc := "(II)Z" } : Jvm.MethodName) prog_8_method_5_code (4 : Nat) (Option.some Jvm.ClassFile.FieldType.boolean)) ∈ lw_all := lw_g (lw_at lw_m4 41 rfl) rfl
theorem q892 : (Jvm.Cond.classLink "WhalePost$Post" (63 : Nat) "WhalePost$Way") ∈ lw_all := lw_g (lw_at lw_m4 42 rfl) rfl
theorem q893 : (Jvm.Cond.methodLink "WhalePost$Post" (65 : Nat) ({ cls := "WhalePost$Way", name := "is", desc := "(II)Z" } : Jvm.MethodName)) ∈ lw_all := lw_g (lw_at lw_m4 43 rfl) rfl
theorem q944 : (Jvm.Cond.fieldLink "WhalePost$Post" (52 : Nat) "WhalePost$Whale" "name" "Ljava/lang/String;") ∈ lw_all := lw_g (lw_at lw_m4 94 rfl) rfl
theorem q1009 : (Jvm.Cond.fieldLink "WhalePost$Post" (55 : Nat) "WhalePost$Box" "name" "Ljava/lang/String;") ∈ lw_all := lw_g (lw_at lw_m4 159 rfl) rfl
theorem q1040 : (Jvm.Cond.instanceMethod ({ cls := "WhalePost$Post", name := "lastSpout", desc := "(I)I" } : Jvm.MethodName)) ∈ lw_all := lw_g (lw_at lw_m4 190 rfl) rfl
theorem q1041 : (Jvm.Cond.selects "WhalePost$Post" ({ cls := "WhalePost$Post", name := "lastSpout", desc := "(I)I" } : Jvm.MethodName) ({ cls := "WhalePost$Post", name := "lastSpout", desc := "(I)I" } : Jvm.MethodName)) ∈ lw_all := lw_g (lw_at lw_m4 191 rfl) rfl
theorem q1042 : (Jvm.Cond.code ({ cls := "WhalePost$Post", name := "lastSpout", desc := "(I)I" } : Jvm.MethodName) prog_8_method_6_code (4 : Nat) (Option.some Jvm.ClassFile.FieldType.int)) ∈ lw_all := lw_g (lw_at lw_m4 192 rfl) rfl
theorem q1043 : (Jvm.Cond.classLink "WhalePost$Post" (69 : Nat) "WhalePost$Spout") ∈ lw_all := lw_g (lw_at lw_m4 193 rfl) rfl
theorem q1051 : (Jvm.Cond.fieldLink "WhalePost$Post" (71 : Nat) "WhalePost$Spout" "whale" "I") ∈ lw_all := lw_g (lw_at lw_m4 201 rfl) rfl
theorem q1056 : (Jvm.Cond.fieldLink "WhalePost$Post" (74 : Nat) "WhalePost$Spout" "day" "I") ∈ lw_all := lw_g (lw_at lw_m4 206 rfl) rfl
theorem q1207 : (Jvm.Cond.instanceMethod ({ cls := "WhalePost$Post", name := "heard", desc := "([IIII)I" } : Jvm.MethodName)) ∈ lw_all := lw_g (lw_at lw_m5 117 rfl) rfl
theorem q1208 : (Jvm.Cond.selects "WhalePost$Post" ({ cls := "WhalePost$Post", name := "heard", desc := "([IIII)I" } : Jvm.MethodName) ({ cls := "WhalePost$Post", name := "heard", desc := "([IIII)I" } : Jvm.MethodName)) ∈ lw_all := lw_g (lw_at lw_m5 118 rfl) rfl
theorem q1209 : (Jvm.Cond.code ({ cls := "WhalePost$Post", name := "heard", desc := "([IIII)I" } : Jvm.MethodName) prog_8_method_10_code (9 : Nat) (Option.some Jvm.ClassFile.FieldType.int)) ∈ lw_all := lw_g (lw_at lw_m5 119 rfl) rfl
theorem q1210 : (Jvm.Cond.methodLink "WhalePost$Post" (95 : Nat) ({ cls := "WhalePost$Post", name := "unlike", desc := "([IIII)I" } : Jvm.MethodName)) ∈ lw_all := lw_g (lw_at lw_m5 120 rfl) rfl
theorem q1265 : (Jvm.Cond.instanceMethod ({ cls := "WhalePost$Post", name := "apart", desc := "(II)I" } : Jvm.MethodName)) ∈ lw_all := lw_g (lw_at lw_m5 175 rfl) rfl
theorem q1266 : (Jvm.Cond.selects "WhalePost$Post" ({ cls := "WhalePost$Post", name := "apart", desc := "(II)I" } : Jvm.MethodName) ({ cls := "WhalePost$Post", name := "apart", desc := "(II)I" } : Jvm.MethodName)) ∈ lw_all := lw_g (lw_at lw_m5 176 rfl) rfl
theorem q1267 : (Jvm.Cond.code ({ cls := "WhalePost$Post", name := "apart", desc := "(II)I" } : Jvm.MethodName) prog_8_method_11_code (3 : Nat) (Option.some Jvm.ClassFile.FieldType.int)) ∈ lw_all := lw_g (lw_at lw_m5 177 rfl) rfl
theorem q2321 : (Jvm.Cond.castable "WhalePost$Post" "java/lang/Object") ∈ lw_tbl := lw_at lw_m10 31 rfl
theorem in_X5 : ∀ w ∈ wsX50, w ∈ lw_all := lw_in wsX50 [336, 338, 340, 342, 344, 346, 348, 350, 352] (by decide +kernel) (by decide +kernel)

/-! WhalePost$Token -/
set_option maxRecDepth 100000
def RX6 : String := "WhalePost$Token"
def TX6 : u_T := fun k => match k with
  | 0 => ("WhalePost$Token", "sort", "I", true)
  | 1 => ("WhalePost$Token", "place", "I", true)
  | 2 => ("WhalePost$Token", "numbe\x72", "I", true)
  | _ => ("WhalePost$Token", "word", "Ljava/lang/String;", true)
def tyX6 : Nat → FieldType := fun k => match k with
  | 0 => .int
  | 1 => .int
  | 2 => .int
  | _ => .object "java/lang/String"
abbrev wsX60 : List Cond := u_ws RX6 TX6 4
theorem nmX6 : ∀ a, a < 4 → ∀ b, b < 4 → a ≠ b → (TX6 a).2.1 ≠ (TX6 b).2.1 := by decide +kernel
theorem tyX6_ok : ∀ k, k < 4 → parseFieldDescriptor (TX6 k).2.2.1 = some (tyX6 k) := by decide +kernel
abbrev cX6_init : ByteArray := prog_11_method_1_code
def yX6_init : MethodName := ⟨RX6, "<init>", "(IIILjava/lang/String;)V"⟩
def dkwX6_init_1 : List UInt8 := [181, 0, 19, 177]
abbrev dktX6_init_1 : List UInt8 := dkwX6_init_1 ++ []
def dkwX6_init_0 : List UInt8 := [42, 183, 0, 1, 42, 27, 181, 0, 7, 42, 28, 181, 0, 13, 42, 29, 181, 0, 16, 42, 25, 4]
abbrev dktX6_init_0 : List UInt8 := dkwX6_init_0 ++ dktX6_init_1
theorem dksX6_init_0 : cX6_init.data.toList.drop 0 = dktX6_init_0 := by decide +kernel
theorem dksX6_init_1 : cX6_init.data.toList.drop 22 = dktX6_init_1 := dk_seg dksX6_init_0 22 rfl rfl
theorem dX6_init_0 : decode cX6_init 0 = .ok (.aload_n 0, 1) := dk_42 (dk_at dksX6_init_0 0 rfl rfl)
theorem dX6_init_1 : decode cX6_init 1 = .ok (.invokespecial 1, 3) := dk_183 0 1 (dk_at dksX6_init_0 1 rfl rfl)
theorem dX6_init_4 : decode cX6_init 4 = .ok (.aload_n 0, 1) := dk_42 (dk_at dksX6_init_0 4 rfl rfl)
theorem dX6_init_5 : decode cX6_init 5 = .ok (.iload_n 1, 1) := dk_27 (dk_at dksX6_init_0 5 rfl rfl)
theorem dX6_init_6 : decode cX6_init 6 = .ok (.putfield 7, 3) := dk_181 0 7 (dk_at dksX6_init_0 6 rfl rfl)
theorem dX6_init_9 : decode cX6_init 9 = .ok (.aload_n 0, 1) := dk_42 (dk_at dksX6_init_0 9 rfl rfl)
theorem dX6_init_10 : decode cX6_init 10 = .ok (.iload_n 2, 1) := dk_28 (dk_at dksX6_init_0 10 rfl rfl)
theorem dX6_init_11 : decode cX6_init 11 = .ok (.putfield 13, 3) := dk_181 0 13 (dk_at dksX6_init_0 11 rfl rfl)
theorem dX6_init_14 : decode cX6_init 14 = .ok (.aload_n 0, 1) := dk_42 (dk_at dksX6_init_0 14 rfl rfl)
theorem dX6_init_15 : decode cX6_init 15 = .ok (.iload_n 3, 1) := dk_29 (dk_at dksX6_init_0 15 rfl rfl)
theorem dX6_init_16 : decode cX6_init 16 = .ok (.putfield 16, 3) := dk_181 0 16 (dk_at dksX6_init_0 16 rfl rfl)
theorem dX6_init_19 : decode cX6_init 19 = .ok (.aload_n 0, 1) := dk_42 (dk_at dksX6_init_0 19 rfl rfl)
theorem dX6_init_20 : decode cX6_init 20 = .ok (.aload 4, 2) := dk_25 4 (dk_at dksX6_init_0 20 rfl rfl)
theorem dX6_init_22 : decode cX6_init 22 = .ok (.putfield 19, 3) := dk_181 0 19 (dk_at dksX6_init_1 0 rfl rfl)
theorem dX6_init_25 : decode cX6_init 25 = .ok (.return_, 1) := dk_177 (dk_at dksX6_init_1 3 rfl rfl)
abbrev cX6_is : ByteArray := prog_11_method_2_code
def yX6_is : MethodName := ⟨RX6, "is", "(Ljava/lang/String;)Z"⟩
def dkwX6_is_1 : List UInt8 := [172]
abbrev dktX6_is_1 : List UInt8 := dkwX6_is_1 ++ []
def dkwX6_is_0 : List UInt8 := [42, 180, 0, 7, 5, 160, 0, 18, 42, 180, 0, 19, 43, 182, 0, 23, 153, 0, 7, 4, 167, 0, 4, 3]
abbrev dktX6_is_0 : List UInt8 := dkwX6_is_0 ++ dktX6_is_1
theorem dksX6_is_0 : cX6_is.data.toList.drop 0 = dktX6_is_0 := by decide +kernel
theorem dksX6_is_1 : cX6_is.data.toList.drop 24 = dktX6_is_1 := dk_seg dksX6_is_0 24 rfl rfl
theorem dX6_is_0 : decode cX6_is 0 = .ok (.aload_n 0, 1) := dk_42 (dk_at dksX6_is_0 0 rfl rfl)
theorem dX6_is_1 : decode cX6_is 1 = .ok (.getfield 7, 3) := dk_180 0 7 (dk_at dksX6_is_0 1 rfl rfl)
theorem dX6_is_4 : decode cX6_is 4 = .ok (.iconst 2, 1) := dk_5 (dk_at dksX6_is_0 4 rfl rfl)
theorem dX6_is_5 : decode cX6_is 5 = .ok (.if_icmp .ne 18, 3) := dk_160 0 18 (dk_at dksX6_is_0 5 rfl rfl)
theorem dX6_is_8 : decode cX6_is 8 = .ok (.aload_n 0, 1) := dk_42 (dk_at dksX6_is_0 8 rfl rfl)
theorem dX6_is_9 : decode cX6_is 9 = .ok (.getfield 19, 3) := dk_180 0 19 (dk_at dksX6_is_0 9 rfl rfl)
theorem dX6_is_12 : decode cX6_is 12 = .ok (.aload_n 1, 1) := dk_43 (dk_at dksX6_is_0 12 rfl rfl)
theorem dX6_is_13 : decode cX6_is 13 = .ok (.invokevirtual 23, 3) := dk_182 0 23 (dk_at dksX6_is_0 13 rfl rfl)
theorem dX6_is_16 : decode cX6_is 16 = .ok (.ifCond .eq 7, 3) := dk_153 0 7 (dk_at dksX6_is_0 16 rfl rfl)
theorem dX6_is_19 : decode cX6_is 19 = .ok (.iconst 1, 1) := dk_4 (dk_at dksX6_is_0 19 rfl rfl)
theorem dX6_is_20 : decode cX6_is 20 = .ok (.goto 4, 3) := dk_167 0 4 (dk_at dksX6_is_0 20 rfl rfl)
theorem dX6_is_23 : decode cX6_is 23 = .ok (.iconst 0, 1) := dk_3 (dk_at dksX6_is_0 23 rfl rfl)
theorem dX6_is_24 : decode cX6_is 24 = .ok (.ireturn, 1) := dk_172 (dk_at dksX6_is_1 0 rfl rfl)
abbrev cX6_isName : ByteArray := prog_11_method_3_code
def yX6_isName : MethodName := ⟨RX6, "isName", "()Z"⟩
def dkwX6_isName_7 : List UInt8 := [3, 172, 4, 172]
abbrev dktX6_isName_7 : List UInt8 := dkwX6_isName_7 ++ []
def dkwX6_isName_6 : List UInt8 := [170, 0, 0, 0, 0, 40, 0, 0, 0, 0, 0, 0, 0, 5, 0, 0, 0, 38, 0, 0, 0, 38, 0, 0, 0, 38, 0, 0, 0, 38, 0, 0, 0, 38, 0, 0, 0, 38]
abbrev dktX6_isName_6 : List UInt8 := dkwX6_isName_6 ++ dktX6_isName_7
def dkwX6_isName_5 : List UInt8 := [18, 43, 182, 0, 23, 153, 0, 5, 8, 61, 28]
abbrev dktX6_isName_5 : List UInt8 := dkwX6_isName_5 ++ dktX6_isName_6
def dkwX6_isName_4 : List UInt8 := [153, 0, 33, 6, 61, 167, 0, 28, 43, 18, 41, 182, 0, 23, 153, 0, 19, 7, 61, 167, 0, 14, 43]
abbrev dktX6_isName_4 : List UInt8 := dkwX6_isName_4 ++ dktX6_isName_5
def dkwX6_isName_3 : List UInt8 := [61, 167, 0, 56, 43, 18, 37, 182, 0, 23, 153, 0, 47, 5, 61, 167, 0, 42, 43, 18, 39, 182, 0, 23]
abbrev dktX6_isName_3 : List UInt8 := dkwX6_isName_3 ++ dktX6_isName_4
def dkwX6_isName_2 : List UInt8 := [43, 18, 33, 182, 0, 23, 153, 0, 75, 3, 61, 167, 0, 70, 43, 18, 35, 182, 0, 23, 153, 0, 61, 4]
abbrev dktX6_isName_2 : List UInt8 := dkwX6_isName_2 ++ dktX6_isName_3
def dkwX6_isName_1 : List UInt8 := [171, 0, 0, 0, 0, 0, 140, 0, 0, 0, 6, 185, 179, 250, 21, 0, 0, 0, 73, 0, 1, 125, 203, 0, 0, 0, 115, 0, 1, 202, 239, 0, 0, 0, 87, 0, 52, 152, 160, 0, 0, 0, 59, 6, 137, 39, 209, 0, 0, 0, 129, 6, 189, 173, 41, 0, 0, 0, 101]
abbrev dktX6_isName_1 : List UInt8 := dkwX6_isName_1 ++ dktX6_isName_2
def dkwX6_isName_0 : List UInt8 := [42, 180, 0, 7, 5, 159, 0, 5, 3, 172, 42, 180, 0, 19, 76, 2, 61, 43, 182, 0, 29]
abbrev dktX6_isName_0 : List UInt8 := dkwX6_isName_0 ++ dktX6_isName_1
theorem dksX6_isName_0 : cX6_isName.data.toList.drop 0 = dktX6_isName_0 := by decide +kernel
theorem dksX6_isName_1 : cX6_isName.data.toList.drop 21 = dktX6_isName_1 := dk_seg dksX6_isName_0 21 rfl rfl
theorem dksX6_isName_2 : cX6_isName.data.toList.drop 80 = dktX6_isName_2 := dk_seg dksX6_isName_1 59 rfl rfl
theorem dksX6_isName_3 : cX6_isName.data.toList.drop 104 = dktX6_isName_3 := dk_seg dksX6_isName_2 24 rfl rfl
theorem dksX6_isName_4 : cX6_isName.data.toList.drop 128 = dktX6_isName_4 := dk_seg dksX6_isName_3 24 rfl rfl
theorem dksX6_isName_5 : cX6_isName.data.toList.drop 151 = dktX6_isName_5 := dk_seg dksX6_isName_4 23 rfl rfl
theorem dksX6_isName_6 : cX6_isName.data.toList.drop 162 = dktX6_isName_6 := dk_seg dksX6_isName_5 11 rfl rfl
theorem dksX6_isName_7 : cX6_isName.data.toList.drop 200 = dktX6_isName_7 := dk_seg dksX6_isName_6 38 rfl rfl
theorem dX6_isName_0 : decode cX6_isName 0 = .ok (.aload_n 0, 1) := dk_42 (dk_at dksX6_isName_0 0 rfl rfl)
theorem dX6_isName_1 : decode cX6_isName 1 = .ok (.getfield 7, 3) := dk_180 0 7 (dk_at dksX6_isName_0 1 rfl rfl)
theorem dX6_isName_4 : decode cX6_isName 4 = .ok (.iconst 2, 1) := dk_5 (dk_at dksX6_isName_0 4 rfl rfl)
theorem dX6_isName_5 : decode cX6_isName 5 = .ok (.if_icmp .eq 5, 3) := dk_159 0 5 (dk_at dksX6_isName_0 5 rfl rfl)
theorem dX6_isName_8 : decode cX6_isName 8 = .ok (.iconst 0, 1) := dk_3 (dk_at dksX6_isName_0 8 rfl rfl)
theorem dX6_isName_9 : decode cX6_isName 9 = .ok (.ireturn, 1) := dk_172 (dk_at dksX6_isName_0 9 rfl rfl)
theorem dX6_isName_10 : decode cX6_isName 10 = .ok (.aload_n 0, 1) := dk_42 (dk_at dksX6_isName_0 10 rfl rfl)
theorem dX6_isName_11 : decode cX6_isName 11 = .ok (.getfield 19, 3) := dk_180 0 19 (dk_at dksX6_isName_0 11 rfl rfl)
theorem dX6_isName_14 : decode cX6_isName 14 = .ok (.astore_n 1, 1) := dk_76 (dk_at dksX6_isName_0 14 rfl rfl)
theorem dX6_isName_15 : decode cX6_isName 15 = .ok (.iconst (-1), 1) := dk_2 (dk_at dksX6_isName_0 15 rfl rfl)
theorem dX6_isName_16 : decode cX6_isName 16 = .ok (.istore_n 2, 1) := dk_61 (dk_at dksX6_isName_0 16 rfl rfl)
theorem dX6_isName_17 : decode cX6_isName 17 = .ok (.aload_n 1, 1) := dk_43 (dk_at dksX6_isName_0 17 rfl rfl)
theorem dX6_isName_18 : decode cX6_isName 18 = .ok (.invokevirtual 29, 3) := dk_182 0 29 (dk_at dksX6_isName_0 18 rfl rfl)
theorem dX6_isName_21 : decode cX6_isName 21 = .ok (.lookupswitch 140 #[(-1179387371, 73), (97739, 115), (117487, 87), (3446944, 59), (109651921, 129), (113093929, 101)], 59) := by decide +kernel
theorem dX6_isName_80 : decode cX6_isName 80 = .ok (.aload_n 1, 1) := dk_43 (dk_at dksX6_isName_2 0 rfl rfl)
theorem dX6_isName_81 : decode cX6_isName 81 = .ok (.ldc 33, 2) := dk_18 33 (dk_at dksX6_isName_2 1 rfl rfl)
theorem dX6_isName_83 : decode cX6_isName 83 = .ok (.invokevirtual 23, 3) := dk_182 0 23 (dk_at dksX6_isName_2 3 rfl rfl)
theorem dX6_isName_86 : decode cX6_isName 86 = .ok (.ifCond .eq 75, 3) := dk_153 0 75 (dk_at dksX6_isName_2 6 rfl rfl)
theorem dX6_isName_89 : decode cX6_isName 89 = .ok (.iconst 0, 1) := dk_3 (dk_at dksX6_isName_2 9 rfl rfl)
theorem dX6_isName_90 : decode cX6_isName 90 = .ok (.istore_n 2, 1) := dk_61 (dk_at dksX6_isName_2 10 rfl rfl)
theorem dX6_isName_91 : decode cX6_isName 91 = .ok (.goto 70, 3) := dk_167 0 70 (dk_at dksX6_isName_2 11 rfl rfl)
theorem dX6_isName_94 : decode cX6_isName 94 = .ok (.aload_n 1, 1) := dk_43 (dk_at dksX6_isName_2 14 rfl rfl)
theorem dX6_isName_95 : decode cX6_isName 95 = .ok (.ldc 35, 2) := dk_18 35 (dk_at dksX6_isName_2 15 rfl rfl)
theorem dX6_isName_97 : decode cX6_isName 97 = .ok (.invokevirtual 23, 3) := dk_182 0 23 (dk_at dksX6_isName_2 17 rfl rfl)
theorem dX6_isName_100 : decode cX6_isName 100 = .ok (.ifCond .eq 61, 3) := dk_153 0 61 (dk_at dksX6_isName_2 20 rfl rfl)
theorem dX6_isName_103 : decode cX6_isName 103 = .ok (.iconst 1, 1) := dk_4 (dk_at dksX6_isName_2 23 rfl rfl)
theorem dX6_isName_104 : decode cX6_isName 104 = .ok (.istore_n 2, 1) := dk_61 (dk_at dksX6_isName_3 0 rfl rfl)
theorem dX6_isName_105 : decode cX6_isName 105 = .ok (.goto 56, 3) := dk_167 0 56 (dk_at dksX6_isName_3 1 rfl rfl)
theorem dX6_isName_108 : decode cX6_isName 108 = .ok (.aload_n 1, 1) := dk_43 (dk_at dksX6_isName_3 4 rfl rfl)
theorem dX6_isName_109 : decode cX6_isName 109 = .ok (.ldc 37, 2) := dk_18 37 (dk_at dksX6_isName_3 5 rfl rfl)
theorem dX6_isName_111 : decode cX6_isName 111 = .ok (.invokevirtual 23, 3) := dk_182 0 23 (dk_at dksX6_isName_3 7 rfl rfl)
theorem dX6_isName_114 : decode cX6_isName 114 = .ok (.ifCond .eq 47, 3) := dk_153 0 47 (dk_at dksX6_isName_3 10 rfl rfl)
theorem dX6_isName_117 : decode cX6_isName 117 = .ok (.iconst 2, 1) := dk_5 (dk_at dksX6_isName_3 13 rfl rfl)
theorem dX6_isName_118 : decode cX6_isName 118 = .ok (.istore_n 2, 1) := dk_61 (dk_at dksX6_isName_3 14 rfl rfl)
theorem dX6_isName_119 : decode cX6_isName 119 = .ok (.goto 42, 3) := dk_167 0 42 (dk_at dksX6_isName_3 15 rfl rfl)
theorem dX6_isName_122 : decode cX6_isName 122 = .ok (.aload_n 1, 1) := dk_43 (dk_at dksX6_isName_3 18 rfl rfl)
theorem dX6_isName_123 : decode cX6_isName 123 = .ok (.ldc 39, 2) := dk_18 39 (dk_at dksX6_isName_3 19 rfl rfl)
theorem dX6_isName_125 : decode cX6_isName 125 = .ok (.invokevirtual 23, 3) := dk_182 0 23 (dk_at dksX6_isName_3 21 rfl rfl)
theorem dX6_isName_128 : decode cX6_isName 128 = .ok (.ifCond .eq 33, 3) := dk_153 0 33 (dk_at dksX6_isName_4 0 rfl rfl)
theorem dX6_isName_131 : decode cX6_isName 131 = .ok (.iconst 3, 1) := dk_6 (dk_at dksX6_isName_4 3 rfl rfl)
theorem dX6_isName_132 : decode cX6_isName 132 = .ok (.istore_n 2, 1) := dk_61 (dk_at dksX6_isName_4 4 rfl rfl)
theorem dX6_isName_133 : decode cX6_isName 133 = .ok (.goto 28, 3) := dk_167 0 28 (dk_at dksX6_isName_4 5 rfl rfl)
theorem dX6_isName_136 : decode cX6_isName 136 = .ok (.aload_n 1, 1) := dk_43 (dk_at dksX6_isName_4 8 rfl rfl)
theorem dX6_isName_137 : decode cX6_isName 137 = .ok (.ldc 41, 2) := dk_18 41 (dk_at dksX6_isName_4 9 rfl rfl)
theorem dX6_isName_139 : decode cX6_isName 139 = .ok (.invokevirtual 23, 3) := dk_182 0 23 (dk_at dksX6_isName_4 11 rfl rfl)
theorem dX6_isName_142 : decode cX6_isName 142 = .ok (.ifCond .eq 19, 3) := dk_153 0 19 (dk_at dksX6_isName_4 14 rfl rfl)
theorem dX6_isName_145 : decode cX6_isName 145 = .ok (.iconst 4, 1) := dk_7 (dk_at dksX6_isName_4 17 rfl rfl)
theorem dX6_isName_146 : decode cX6_isName 146 = .ok (.istore_n 2, 1) := dk_61 (dk_at dksX6_isName_4 18 rfl rfl)
theorem dX6_isName_147 : decode cX6_isName 147 = .ok (.goto 14, 3) := dk_167 0 14 (dk_at dksX6_isName_4 19 rfl rfl)
theorem dX6_isName_150 : decode cX6_isName 150 = .ok (.aload_n 1, 1) := dk_43 (dk_at dksX6_isName_4 22 rfl rfl)
theorem dX6_isName_151 : decode cX6_isName 151 = .ok (.ldc 43, 2) := dk_18 43 (dk_at dksX6_isName_5 0 rfl rfl)
theorem dX6_isName_153 : decode cX6_isName 153 = .ok (.invokevirtual 23, 3) := dk_182 0 23 (dk_at dksX6_isName_5 2 rfl rfl)
theorem dX6_isName_156 : decode cX6_isName 156 = .ok (.ifCond .eq 5, 3) := dk_153 0 5 (dk_at dksX6_isName_5 5 rfl rfl)
theorem dX6_isName_159 : decode cX6_isName 159 = .ok (.iconst 5, 1) := dk_8 (dk_at dksX6_isName_5 8 rfl rfl)
theorem dX6_isName_160 : decode cX6_isName 160 = .ok (.istore_n 2, 1) := dk_61 (dk_at dksX6_isName_5 9 rfl rfl)
theorem dX6_isName_161 : decode cX6_isName 161 = .ok (.iload_n 2, 1) := dk_28 (dk_at dksX6_isName_5 10 rfl rfl)
theorem dX6_isName_162 : decode cX6_isName 162 = .ok (.tableswitch 40 0 5 #[38, 38, 38, 38, 38, 38], 38) := by decide +kernel
theorem dX6_isName_200 : decode cX6_isName 200 = .ok (.iconst 0, 1) := dk_3 (dk_at dksX6_isName_7 0 rfl rfl)
theorem dX6_isName_201 : decode cX6_isName 201 = .ok (.ireturn, 1) := dk_172 (dk_at dksX6_isName_7 1 rfl rfl)
theorem dX6_isName_202 : decode cX6_isName 202 = .ok (.iconst 1, 1) := dk_4 (dk_at dksX6_isName_7 2 rfl rfl)
theorem dX6_isName_203 : decode cX6_isName 203 = .ok (.ireturn, 1) := dk_172 (dk_at dksX6_isName_7 3 rfl rfl)
theorem q139 : (Jvm.Cond.initialized "WhalePost$Token") ∈ lw_all := lw_g (lw_at lw_m1 9 rfl) rfl
theorem q364 : (Jvm.Cond.instantiable "WhalePost$Token" (4 : Nat)) ∈ lw_all := lw_g (lw_at lw_m1 234 rfl) rfl
theorem q367 : (Jvm.Cond.instanceMethod ({ cls := "WhalePost$Token", name := "<init>", desc := "(IIILjava/lang/String;)V" } : Jvm.MethodName)) ∈ lw_all := lw_g (lw_at lw_m1 237 rfl) rfl
theorem q368 : (Jvm.Cond.code ({ cls := "WhalePost$Token", name := "<init>", desc := "(IIILjava/lang/String;)V" } : Jvm.MethodName) prog_11_method_1_code (5 : Nat) (Option.none : Option Jvm.ClassFile.FieldType)) ∈ lw_all := lw_g (lw_at lw_m1 238 rfl) rfl
theorem q369 : (Jvm.Cond.methodLink "WhalePost$Token" (1 : Nat) ({ cls := "java/lang/Object", name := "<init>", desc := "()V" } : Jvm.MethodName)) ∈ lw_all := lw_g (lw_at lw_m1 239 rfl) rfl
theorem q370 : (Jvm.Cond.fieldLink "WhalePost$Token" (7 : Nat) "WhalePost$Token" "sort" "I") ∈ lw_all := lw_g (lw_at lw_m2 0 rfl) rfl
theorem q372 : (Jvm.Cond.fieldLink "WhalePost$Token" (13 : Nat) "WhalePost$Token" "place" "I") ∈ lw_all := lw_g (lw_at lw_m2 2 rfl) rfl
theorem q374 : (Jvm.Cond.fieldLink "WhalePost$Token" (16 : Nat) "WhalePost$Token" "numbe\x72" "I") ∈ lw_all := lw_g (lw_at lw_m2 4 rfl) rfl
theorem q376 : (Jvm.Cond.fieldLink "WhalePost$Token" (19 : Nat) "WhalePost$Token" "word" "Ljava/lang/String;") ∈ lw_all := lw_g (lw_at lw_m2 6 rfl) rfl
theorem q378 : (Jvm.Cond.laysFinal "WhalePost$Token" "WhalePost$Token" "sort" "I") ∈ lw_all := lw_g (lw_at lw_m2 8 rfl) rfl
theorem q379 : (Jvm.Cond.soleField "WhalePost$Token" "sort") ∈ lw_all := lw_g (lw_at lw_m2 9 rfl) rfl
theorem q380 : (Jvm.Cond.laysFinal "WhalePost$Token" "WhalePost$Token" "place" "I") ∈ lw_all := lw_g (lw_at lw_m2 10 rfl) rfl
theorem q381 : (Jvm.Cond.soleField "WhalePost$Token" "place") ∈ lw_all := lw_g (lw_at lw_m2 11 rfl) rfl
theorem q382 : (Jvm.Cond.laysFinal "WhalePost$Token" "WhalePost$Token" "numbe\x72" "I") ∈ lw_all := lw_g (lw_at lw_m2 12 rfl) rfl
theorem q383 : (Jvm.Cond.soleField "WhalePost$Token" "numbe\x72") ∈ lw_all := lw_g (lw_at lw_m2 13 rfl) rfl
theorem q384 : (Jvm.Cond.laysFinal "WhalePost$Token" "WhalePost$Token" "word" "Ljava/lang/String;") ∈ lw_all := lw_g (lw_at lw_m2 14 rfl) rfl
theorem q385 : (Jvm.Cond.soleField "WhalePost$Token" "word") ∈ lw_all := lw_g (lw_at lw_m2 15 rfl) rfl
theorem q386 : (Jvm.Cond.superclass "WhalePost$Token" "java/lang/Object") ∈ lw_all := lw_g (lw_at lw_m2 16 rfl) rfl
theorem q697 : (Jvm.Cond.instanceMethod ({ cls := "WhalePost$Token", name := "is", desc := "(Ljava/lang/String;)Z" } : Jvm.MethodName)) ∈ lw_all := lw_g (lw_at lw_m3 87 rfl) rfl
theorem q698 : (Jvm.Cond.selects "WhalePost$Token" ({ cls := "WhalePost$Token", name := "is", desc := "(Ljava/lang/String;)Z" } : Jvm.MethodName) ({ cls := "WhalePost$Token", name := "is", desc := "(Ljava/lang/String;)Z" } : Jvm.MethodName)) ∈ lw_all := lw_g (lw_at lw_m3 88 rfl) rfl
theorem q699 : (Jvm.Cond.code ({ cls := "WhalePost$Token", name := "is", desc := "(Ljava/lang/String;)Z" } : Jvm.MethodName) prog_11_method_2_code (2 : Nat) (Option.some Jvm.ClassFile.FieldType.boolean)) ∈ lw_all := lw_g (lw_at lw_m3 89 rfl) rfl
theorem q700 : (Jvm.Cond.methodLink "WhalePost$Token" (23 : Nat) ({ cls := "java/lang/String", name := "equals", desc := "(Ljava/lang/Object;)Z" } : Jvm.MethodName)) ∈ lw_all := lw_g (lw_at lw_m3 90 rfl) rfl
theorem q726 : (Jvm.Cond.instanceMethod ({ cls := "WhalePost$Token", name := "isName", desc := "()Z" } : Jvm.MethodName)) ∈ lw_all := lw_g (lw_at lw_m3 116 rfl) rfl
theorem q727 : (Jvm.Cond.selects "WhalePost$Token" ({ cls := "WhalePost$Token", name := "isName", desc := "()Z" } : Jvm.MethodName) ({ cls := "WhalePost$Token", name := "isName", desc := "()Z" } : Jvm.MethodName)) ∈ lw_all := lw_g (lw_at lw_m3 117 rfl) rfl
theorem q728 : (Jvm.Cond.code ({ cls := "WhalePost$Token", name := "isName", desc := "()Z" } : Jvm.MethodName) prog_11_method_3_code (3 : Nat) (Option.some Jvm.ClassFile.FieldType.boolean)) ∈ lw_all := lw_g (lw_at lw_m3 118 rfl) rfl
theorem q729 : (Jvm.Cond.methodLink "WhalePost$Token" (29 : Nat) ({ cls := "java/lang/String", name := "hashCode", desc := "()I" } : Jvm.MethodName)) ∈ lw_all := lw_g (lw_at lw_m3 119 rfl) rfl
theorem q730 : (Jvm.Cond.stringRef "WhalePost$Token" (33 : Nat) "post") ∈ lw_tbl := lw_at lw_m3 120 rfl
theorem q731 : (Jvm.Cond.stringRef "WhalePost$Token" (35 : Nat) "island") ∈ lw_tbl := lw_at lw_m3 121 rfl
theorem q732 : (Jvm.Cond.stringRef "WhalePost$Token" (37 : Nat) "way") ∈ lw_tbl := lw_at lw_m3 122 rfl
theorem q733 : (Jvm.Cond.stringRef "WhalePost$Token" (39 : Nat) "whale") ∈ lw_tbl := lw_at lw_m3 123 rfl
theorem q734 : (Jvm.Cond.stringRef "WhalePost$Token" (41 : Nat) "box") ∈ lw_tbl := lw_at lw_m3 124 rfl
theorem q735 : (Jvm.Cond.stringRef "WhalePost$Token" (43 : Nat) "spout") ∈ lw_tbl := lw_at lw_m3 125 rfl
theorem q856 : (Jvm.Cond.selects "WhalePost$Token" ({ cls := "java/lang/Object", name := "getClass", desc := "()Ljava/lang/Class;" } : Jvm.MethodName) ({ cls := "java/lang/Object", name := "getClass", desc := "()Ljava/lang/Class;" } : Jvm.MethodName)) ∈ lw_all := lw_g (lw_at lw_m4 6 rfl) rfl
theorem q2322 : (Jvm.Cond.castable "WhalePost$Token" "java/lang/Object") ∈ lw_tbl := lw_at lw_m10 32 rfl
theorem in_X6 : ∀ w ∈ wsX60, w ∈ lw_all := lw_in wsX60 [378, 380, 382, 384] (by decide +kernel) (by decide +kernel)

/-! WhalePost$Island -/
set_option maxRecDepth 100000
def RX7 : String := "WhalePost$Island"
def TX7 : u_T := fun k => match k with
  | 0 => ("WhalePost$Island", "name", "Ljava/lang/String;", true)
  | _ => ("WhalePost$Island", "song", "[I", true)
def tyX7 : Nat → FieldType := fun k => match k with
  | 0 => .object "java/lang/String"
  | _ => .array .int
abbrev wsX70 : List Cond := u_ws RX7 TX7 2
theorem nmX7 : ∀ a, a < 2 → ∀ b, b < 2 → a ≠ b → (TX7 a).2.1 ≠ (TX7 b).2.1 := by decide +kernel
theorem tyX7_ok : ∀ k, k < 2 → parseFieldDescriptor (TX7 k).2.2.1 = some (tyX7 k) := by decide +kernel
abbrev cX7_init : ByteArray := prog_6_method_1_code
def yX7_init : MethodName := ⟨RX7, "<init>", "(Ljava/lang/String;[I)V"⟩
def dkwX7_init_0 : List UInt8 := [42, 183, 0, 1, 42, 43, 181, 0, 7, 42, 44, 181, 0, 13, 177]
abbrev dktX7_init_0 : List UInt8 := dkwX7_init_0 ++ []
theorem dksX7_init_0 : cX7_init.data.toList.drop 0 = dktX7_init_0 := by decide +kernel
theorem dX7_init_0 : decode cX7_init 0 = .ok (.aload_n 0, 1) := dk_42 (dk_at dksX7_init_0 0 rfl rfl)
theorem dX7_init_1 : decode cX7_init 1 = .ok (.invokespecial 1, 3) := dk_183 0 1 (dk_at dksX7_init_0 1 rfl rfl)
theorem dX7_init_4 : decode cX7_init 4 = .ok (.aload_n 0, 1) := dk_42 (dk_at dksX7_init_0 4 rfl rfl)
theorem dX7_init_5 : decode cX7_init 5 = .ok (.aload_n 1, 1) := dk_43 (dk_at dksX7_init_0 5 rfl rfl)
theorem dX7_init_6 : decode cX7_init 6 = .ok (.putfield 7, 3) := dk_181 0 7 (dk_at dksX7_init_0 6 rfl rfl)
theorem dX7_init_9 : decode cX7_init 9 = .ok (.aload_n 0, 1) := dk_42 (dk_at dksX7_init_0 9 rfl rfl)
theorem dX7_init_10 : decode cX7_init 10 = .ok (.aload_n 2, 1) := dk_44 (dk_at dksX7_init_0 10 rfl rfl)
theorem dX7_init_11 : decode cX7_init 11 = .ok (.putfield 13, 3) := dk_181 0 13 (dk_at dksX7_init_0 11 rfl rfl)
theorem dX7_init_14 : decode cX7_init 14 = .ok (.return_, 1) := dk_177 (dk_at dksX7_init_0 14 rfl rfl)
theorem q151 : (Jvm.Cond.initialized "WhalePost$Island") ∈ lw_all := lw_g (lw_at lw_m1 21 rfl) rfl
theorem q807 : (Jvm.Cond.instantiable "WhalePost$Island" (2 : Nat)) ∈ lw_all := lw_g (lw_at lw_m3 197 rfl) rfl
theorem q809 : (Jvm.Cond.instanceMethod ({ cls := "WhalePost$Island", name := "<init>", desc := "(Ljava/lang/String;[I)V" } : Jvm.MethodName)) ∈ lw_all := lw_g (lw_at lw_m3 199 rfl) rfl
theorem q810 : (Jvm.Cond.code ({ cls := "WhalePost$Island", name := "<init>", desc := "(Ljava/lang/String;[I)V" } : Jvm.MethodName) prog_6_method_1_code (3 : Nat) (Option.none : Option Jvm.ClassFile.FieldType)) ∈ lw_all := lw_g (lw_at lw_m3 200 rfl) rfl
theorem q811 : (Jvm.Cond.methodLink "WhalePost$Island" (1 : Nat) ({ cls := "java/lang/Object", name := "<init>", desc := "()V" } : Jvm.MethodName)) ∈ lw_all := lw_g (lw_at lw_m3 201 rfl) rfl
theorem q812 : (Jvm.Cond.fieldLink "WhalePost$Island" (7 : Nat) "WhalePost$Island" "name" "Ljava/lang/String;") ∈ lw_all := lw_g (lw_at lw_m3 202 rfl) rfl
theorem q814 : (Jvm.Cond.fieldLink "WhalePost$Island" (13 : Nat) "WhalePost$Island" "song" "[I") ∈ lw_all := lw_g (lw_at lw_m3 204 rfl) rfl
theorem q818 : (Jvm.Cond.laysFinal "WhalePost$Island" "WhalePost$Island" "name" "Ljava/lang/String;") ∈ lw_all := lw_g (lw_at lw_m3 208 rfl) rfl
theorem q819 : (Jvm.Cond.soleField "WhalePost$Island" "name") ∈ lw_all := lw_g (lw_at lw_m3 209 rfl) rfl
theorem q820 : (Jvm.Cond.laysFinal "WhalePost$Island" "WhalePost$Island" "song" "[I") ∈ lw_all := lw_g (lw_at lw_m3 210 rfl) rfl
theorem q821 : (Jvm.Cond.soleField "WhalePost$Island" "song") ∈ lw_all := lw_g (lw_at lw_m3 211 rfl) rfl
theorem q822 : (Jvm.Cond.superclass "WhalePost$Island" "java/lang/Object") ∈ lw_all := lw_g (lw_at lw_m3 212 rfl) rfl
theorem q851 : (Jvm.Cond.selects "WhalePost$Island" ({ cls := "java/lang/Object", name := "getClass", desc := "()Ljava/lang/Class;" } : Jvm.MethodName) ({ cls := "java/lang/Object", name := "getClass", desc := "()Ljava/lang/Class;" } : Jvm.MethodName)) ∈ lw_all := lw_g (lw_at lw_m4 1 rfl) rfl
theorem q2326 : (Jvm.Cond.castable "WhalePost$Island" "java/lang/Object") ∈ lw_tbl := lw_at lw_m10 36 rfl
theorem in_X7 : ∀ w ∈ wsX70, w ∈ lw_all := lw_in wsX70 [818, 820] (by decide +kernel) (by decide +kernel)

/-! WhalePost$Way -/
set_option maxRecDepth 100000
def RX8 : String := "WhalePost$Way"
def TX8 : u_T := fun k => match k with
  | 0 => ("WhalePost$Way", "one", "I", true)
  | 1 => ("WhalePost$Way", "othe\x72", "I", true)
  | 2 => ("WhalePost$Way", "days", "I", false)
  | _ => ("WhalePost$Way", "open", "I", false)
def tyX8 : Nat → FieldType := fun k => match k with
  | 0 => .int
  | 1 => .int
  | 2 => .int
  | _ => .int
abbrev wsX80 : List Cond := u_ws RX8 TX8 4
theorem nmX8 : ∀ a, a < 4 → ∀ b, b < 4 → a ≠ b → (TX8 a).2.1 ≠ (TX8 b).2.1 := by decide +kernel
theorem tyX8_ok : ∀ k, k < 4 → parseFieldDescriptor (TX8 k).2.2.1 = some (tyX8 k) := by decide +kernel
abbrev cX8_is : ByteArray := prog_13_method_2_code
def yX8_is : MethodName := ⟨RX8, "is", "(II)Z"⟩
def dkwX8_is_1 : List UInt8 := [42, 180, 0, 15, 27, 160, 0, 7, 4, 167, 0, 4, 3, 172]
abbrev dktX8_is_1 : List UInt8 := dkwX8_is_1 ++ []
def dkwX8_is_0 : List UInt8 := [42, 180, 0, 9, 27, 160, 0, 11, 42, 180, 0, 15, 28, 159, 0, 19, 42, 180, 0, 9, 28, 160, 0, 15]
abbrev dktX8_is_0 : List UInt8 := dkwX8_is_0 ++ dktX8_is_1
theorem dksX8_is_0 : cX8_is.data.toList.drop 0 = dktX8_is_0 := by decide +kernel
theorem dksX8_is_1 : cX8_is.data.toList.drop 24 = dktX8_is_1 := dk_seg dksX8_is_0 24 rfl rfl
theorem dX8_is_0 : decode cX8_is 0 = .ok (.aload_n 0, 1) := dk_42 (dk_at dksX8_is_0 0 rfl rfl)
theorem dX8_is_1 : decode cX8_is 1 = .ok (.getfield 9, 3) := dk_180 0 9 (dk_at dksX8_is_0 1 rfl rfl)
theorem dX8_is_4 : decode cX8_is 4 = .ok (.iload_n 1, 1) := dk_27 (dk_at dksX8_is_0 4 rfl rfl)
theorem dX8_is_5 : decode cX8_is 5 = .ok (.if_icmp .ne 11, 3) := dk_160 0 11 (dk_at dksX8_is_0 5 rfl rfl)
theorem dX8_is_8 : decode cX8_is 8 = .ok (.aload_n 0, 1) := dk_42 (dk_at dksX8_is_0 8 rfl rfl)
theorem dX8_is_9 : decode cX8_is 9 = .ok (.getfield 15, 3) := dk_180 0 15 (dk_at dksX8_is_0 9 rfl rfl)
theorem dX8_is_12 : decode cX8_is 12 = .ok (.iload_n 2, 1) := dk_28 (dk_at dksX8_is_0 12 rfl rfl)
theorem dX8_is_13 : decode cX8_is 13 = .ok (.if_icmp .eq 19, 3) := dk_159 0 19 (dk_at dksX8_is_0 13 rfl rfl)
theorem dX8_is_16 : decode cX8_is 16 = .ok (.aload_n 0, 1) := dk_42 (dk_at dksX8_is_0 16 rfl rfl)
theorem dX8_is_17 : decode cX8_is 17 = .ok (.getfield 9, 3) := dk_180 0 9 (dk_at dksX8_is_0 17 rfl rfl)
theorem dX8_is_20 : decode cX8_is 20 = .ok (.iload_n 2, 1) := dk_28 (dk_at dksX8_is_0 20 rfl rfl)
theorem dX8_is_21 : decode cX8_is 21 = .ok (.if_icmp .ne 15, 3) := dk_160 0 15 (dk_at dksX8_is_0 21 rfl rfl)
theorem dX8_is_24 : decode cX8_is 24 = .ok (.aload_n 0, 1) := dk_42 (dk_at dksX8_is_1 0 rfl rfl)
theorem dX8_is_25 : decode cX8_is 25 = .ok (.getfield 15, 3) := dk_180 0 15 (dk_at dksX8_is_1 1 rfl rfl)
theorem dX8_is_28 : decode cX8_is 28 = .ok (.iload_n 1, 1) := dk_27 (dk_at dksX8_is_1 4 rfl rfl)
theorem dX8_is_29 : decode cX8_is 29 = .ok (.if_icmp .ne 7, 3) := dk_160 0 7 (dk_at dksX8_is_1 5 rfl rfl)
theorem dX8_is_32 : decode cX8_is 32 = .ok (.iconst 1, 1) := dk_4 (dk_at dksX8_is_1 8 rfl rfl)
theorem dX8_is_33 : decode cX8_is 33 = .ok (.goto 4, 3) := dk_167 0 4 (dk_at dksX8_is_1 9 rfl rfl)
theorem dX8_is_36 : decode cX8_is 36 = .ok (.iconst 0, 1) := dk_3 (dk_at dksX8_is_1 12 rfl rfl)
theorem dX8_is_37 : decode cX8_is 37 = .ok (.ireturn, 1) := dk_172 (dk_at dksX8_is_1 13 rfl rfl)
abbrev cX8_init : ByteArray := prog_13_method_1_code
def yX8_init : MethodName := ⟨RX8, "<init>", "(II)V"⟩
def dkwX8_init_0 : List UInt8 := [42, 183, 0, 3, 42, 27, 181, 0, 9, 42, 28, 181, 0, 15, 177]
abbrev dktX8_init_0 : List UInt8 := dkwX8_init_0 ++ []
theorem dksX8_init_0 : cX8_init.data.toList.drop 0 = dktX8_init_0 := by decide +kernel
theorem dX8_init_0 : decode cX8_init 0 = .ok (.aload_n 0, 1) := dk_42 (dk_at dksX8_init_0 0 rfl rfl)
theorem dX8_init_1 : decode cX8_init 1 = .ok (.invokespecial 3, 3) := dk_183 0 3 (dk_at dksX8_init_0 1 rfl rfl)
theorem dX8_init_4 : decode cX8_init 4 = .ok (.aload_n 0, 1) := dk_42 (dk_at dksX8_init_0 4 rfl rfl)
theorem dX8_init_5 : decode cX8_init 5 = .ok (.iload_n 1, 1) := dk_27 (dk_at dksX8_init_0 5 rfl rfl)
theorem dX8_init_6 : decode cX8_init 6 = .ok (.putfield 9, 3) := dk_181 0 9 (dk_at dksX8_init_0 6 rfl rfl)
theorem dX8_init_9 : decode cX8_init 9 = .ok (.aload_n 0, 1) := dk_42 (dk_at dksX8_init_0 9 rfl rfl)
theorem dX8_init_10 : decode cX8_init 10 = .ok (.iload_n 2, 1) := dk_28 (dk_at dksX8_init_0 10 rfl rfl)
theorem dX8_init_11 : decode cX8_init 11 = .ok (.putfield 15, 3) := dk_181 0 15 (dk_at dksX8_init_0 11 rfl rfl)
theorem dX8_init_14 : decode cX8_init 14 = .ok (.return_, 1) := dk_177 (dk_at dksX8_init_0 14 rfl rfl)
abbrev cX8_from : ByteArray := prog_13_method_3_code
def yX8_from : MethodName := ⟨RX8, "from", "(I)I"⟩
def dkwX8_from_1 : List UInt8 := [180, 0, 9, 167, 0, 4, 2, 172]
abbrev dktX8_from_1 : List UInt8 := dkwX8_from_1 ++ []
def dkwX8_from_0 : List UInt8 := [27, 42, 180, 0, 9, 160, 0, 10, 42, 180, 0, 15, 167, 0, 19, 27, 42, 180, 0, 15, 160, 0, 10, 42]
abbrev dktX8_from_0 : List UInt8 := dkwX8_from_0 ++ dktX8_from_1
theorem dksX8_from_0 : cX8_from.data.toList.drop 0 = dktX8_from_0 := by decide +kernel
theorem dksX8_from_1 : cX8_from.data.toList.drop 24 = dktX8_from_1 := dk_seg dksX8_from_0 24 rfl rfl
theorem dX8_from_0 : decode cX8_from 0 = .ok (.iload_n 1, 1) := dk_27 (dk_at dksX8_from_0 0 rfl rfl)
theorem dX8_from_1 : decode cX8_from 1 = .ok (.aload_n 0, 1) := dk_42 (dk_at dksX8_from_0 1 rfl rfl)
theorem dX8_from_2 : decode cX8_from 2 = .ok (.getfield 9, 3) := dk_180 0 9 (dk_at dksX8_from_0 2 rfl rfl)
theorem dX8_from_5 : decode cX8_from 5 = .ok (.if_icmp .ne 10, 3) := dk_160 0 10 (dk_at dksX8_from_0 5 rfl rfl)
theorem dX8_from_8 : decode cX8_from 8 = .ok (.aload_n 0, 1) := dk_42 (dk_at dksX8_from_0 8 rfl rfl)
theorem dX8_from_9 : decode cX8_from 9 = .ok (.getfield 15, 3) := dk_180 0 15 (dk_at dksX8_from_0 9 rfl rfl)
theorem dX8_from_12 : decode cX8_from 12 = .ok (.goto 19, 3) := dk_167 0 19 (dk_at dksX8_from_0 12 rfl rfl)
theorem dX8_from_15 : decode cX8_from 15 = .ok (.iload_n 1, 1) := dk_27 (dk_at dksX8_from_0 15 rfl rfl)
theorem dX8_from_16 : decode cX8_from 16 = .ok (.aload_n 0, 1) := dk_42 (dk_at dksX8_from_0 16 rfl rfl)
theorem dX8_from_17 : decode cX8_from 17 = .ok (.getfield 15, 3) := dk_180 0 15 (dk_at dksX8_from_0 17 rfl rfl)
theorem dX8_from_20 : decode cX8_from 20 = .ok (.if_icmp .ne 10, 3) := dk_160 0 10 (dk_at dksX8_from_0 20 rfl rfl)
theorem dX8_from_23 : decode cX8_from 23 = .ok (.aload_n 0, 1) := dk_42 (dk_at dksX8_from_0 23 rfl rfl)
theorem dX8_from_24 : decode cX8_from 24 = .ok (.getfield 9, 3) := dk_180 0 9 (dk_at dksX8_from_1 0 rfl rfl)
theorem dX8_from_27 : decode cX8_from 27 = .ok (.goto 4, 3) := dk_167 0 4 (dk_at dksX8_from_1 3 rfl rfl)
theorem dX8_from_30 : decode cX8_from 30 = .ok (.iconst (-1), 1) := dk_2 (dk_at dksX8_from_1 6 rfl rfl)
theorem dX8_from_31 : decode cX8_from 31 = .ok (.ireturn, 1) := dk_172 (dk_at dksX8_from_1 7 rfl rfl)
theorem q152 : (Jvm.Cond.initialized "WhalePost$Way") ∈ lw_all := lw_g (lw_at lw_m1 22 rfl) rfl
theorem q858 : (Jvm.Cond.selects "WhalePost$Way" ({ cls := "java/lang/Object", name := "getClass", desc := "()Ljava/lang/Class;" } : Jvm.MethodName) ({ cls := "java/lang/Object", name := "getClass", desc := "()Ljava/lang/Class;" } : Jvm.MethodName)) ∈ lw_all := lw_g (lw_at lw_m4 8 rfl) rfl
theorem q894 : (Jvm.Cond.instanceMethod ({ cls := "WhalePost$Way", name := "is", desc := "(II)Z" } : Jvm.MethodName)) ∈ lw_all := lw_g (lw_at lw_m4 44 rfl) rfl
theorem q895 : (Jvm.Cond.selects "WhalePost$Way" ({ cls := "WhalePost$Way", name := "is", desc := "(II)Z" } : Jvm.MethodName) ({ cls := "WhalePost$Way", name := "is", desc := "(II)Z" } : Jvm.MethodName)) ∈ lw_all := lw_g (lw_at lw_m4 45 rfl) rfl
theorem q896 : (Jvm.Cond.code ({ cls := "WhalePost$Way", name := "is", desc := "(II)Z" } : Jvm.MethodName) prog_13_method_2_code (3 : Nat) (Option.some Jvm.ClassFile.FieldType.boolean)) ∈ lw_all := lw_g (lw_at lw_m4 46 rfl) rfl
theorem q898 : (Jvm.Cond.instantiable "WhalePost$Way" (4 : Nat)) ∈ lw_all := lw_g (lw_at lw_m4 48 rfl) rfl
theorem q900 : (Jvm.Cond.instanceMethod ({ cls := "WhalePost$Way", name := "<init>", desc := "(II)V" } : Jvm.MethodName)) ∈ lw_all := lw_g (lw_at lw_m4 50 rfl) rfl
theorem q901 : (Jvm.Cond.code ({ cls := "WhalePost$Way", name := "<init>", desc := "(II)V" } : Jvm.MethodName) prog_13_method_1_code (3 : Nat) (Option.none : Option Jvm.ClassFile.FieldType)) ∈ lw_all := lw_g (lw_at lw_m4 51 rfl) rfl
theorem q902 : (Jvm.Cond.methodLink "WhalePost$Way" (3 : Nat) ({ cls := "java/lang/Object", name := "<init>", desc := "()V" } : Jvm.MethodName)) ∈ lw_all := lw_g (lw_at lw_m4 52 rfl) rfl
theorem q903 : (Jvm.Cond.fieldLink "WhalePost$Way" (9 : Nat) "WhalePost$Way" "one" "I") ∈ lw_all := lw_g (lw_at lw_m4 53 rfl) rfl
theorem q905 : (Jvm.Cond.fieldLink "WhalePost$Way" (15 : Nat) "WhalePost$Way" "othe\x72" "I") ∈ lw_all := lw_g (lw_at lw_m4 55 rfl) rfl
theorem q911 : (Jvm.Cond.laysFinal "WhalePost$Way" "WhalePost$Way" "one" "I") ∈ lw_all := lw_g (lw_at lw_m4 61 rfl) rfl
theorem q912 : (Jvm.Cond.soleField "WhalePost$Way" "one") ∈ lw_all := lw_g (lw_at lw_m4 62 rfl) rfl
theorem q913 : (Jvm.Cond.laysFinal "WhalePost$Way" "WhalePost$Way" "othe\x72" "I") ∈ lw_all := lw_g (lw_at lw_m4 63 rfl) rfl
theorem q914 : (Jvm.Cond.soleField "WhalePost$Way" "othe\x72") ∈ lw_all := lw_g (lw_at lw_m4 64 rfl) rfl
theorem q915 : (Jvm.Cond.lays "WhalePost$Way" "WhalePost$Way" "days" "I") ∈ lw_all := lw_g (lw_at lw_m4 65 rfl) rfl
theorem q916 : (Jvm.Cond.soleField "WhalePost$Way" "days") ∈ lw_all := lw_g (lw_at lw_m4 66 rfl) rfl
theorem q917 : (Jvm.Cond.lays "WhalePost$Way" "WhalePost$Way" "open" "I") ∈ lw_all := lw_g (lw_at lw_m4 67 rfl) rfl
theorem q918 : (Jvm.Cond.soleField "WhalePost$Way" "open") ∈ lw_all := lw_g (lw_at lw_m4 68 rfl) rfl
theorem q919 : (Jvm.Cond.superclass "WhalePost$Way" "java/lang/Object") ∈ lw_all := lw_g (lw_at lw_m4 69 rfl) rfl
theorem q1371 : (Jvm.Cond.instanceMethod ({ cls := "WhalePost$Way", name := "from", desc := "(I)I" } : Jvm.MethodName)) ∈ lw_all := lw_g (lw_at lw_m6 41 rfl) rfl
theorem q1372 : (Jvm.Cond.selects "WhalePost$Way" ({ cls := "WhalePost$Way", name := "from", desc := "(I)I" } : Jvm.MethodName) ({ cls := "WhalePost$Way", name := "from", desc := "(I)I" } : Jvm.MethodName)) ∈ lw_all := lw_g (lw_at lw_m6 42 rfl) rfl
theorem q1373 : (Jvm.Cond.code ({ cls := "WhalePost$Way", name := "from", desc := "(I)I" } : Jvm.MethodName) prog_13_method_3_code (2 : Nat) (Option.some Jvm.ClassFile.FieldType.int)) ∈ lw_all := lw_g (lw_at lw_m6 43 rfl) rfl
theorem q2327 : (Jvm.Cond.castable "WhalePost$Way" "java/lang/Object") ∈ lw_tbl := lw_at lw_m10 37 rfl
theorem in_X8 : ∀ w ∈ wsX80, w ∈ lw_all := lw_in wsX80 [911, 913, 915, 917] (by decide +kernel) (by decide +kernel)

/-! WhalePost$Whale -/
set_option maxRecDepth 100000
def RX9 : String := "WhalePost$Whale"
def TX9 : u_T := fun k => match k with
  | 0 => ("WhalePost$Whale", "name", "Ljava/lang/String;", true)
  | 1 => ("WhalePost$Whale", "at", "I", false)
  | 2 => ("WhalePost$Whale", "keeps", "I", false)
  | _ => ("WhalePost$Whale", "lost", "I", false)
def tyX9 : Nat → FieldType := fun k => match k with
  | 0 => .object "java/lang/String"
  | 1 => .int
  | 2 => .int
  | _ => .int
abbrev wsX90 : List Cond := u_ws RX9 TX9 4
theorem nmX9 : ∀ a, a < 4 → ∀ b, b < 4 → a ≠ b → (TX9 a).2.1 ≠ (TX9 b).2.1 := by decide +kernel
theorem tyX9_ok : ∀ k, k < 4 → parseFieldDescriptor (TX9 k).2.2.1 = some (tyX9 k) := by decide +kernel
abbrev cX9_init : ByteArray := prog_14_method_1_code
def yX9_init : MethodName := ⟨RX9, "<init>", "(Ljava/lang/String;)V"⟩
def dkwX9_init_0 : List UInt8 := [42, 183, 0, 3, 42, 43, 181, 0, 9, 177]
abbrev dktX9_init_0 : List UInt8 := dkwX9_init_0 ++ []
theorem dksX9_init_0 : cX9_init.data.toList.drop 0 = dktX9_init_0 := by decide +kernel
theorem dX9_init_0 : decode cX9_init 0 = .ok (.aload_n 0, 1) := dk_42 (dk_at dksX9_init_0 0 rfl rfl)
theorem dX9_init_1 : decode cX9_init 1 = .ok (.invokespecial 3, 3) := dk_183 0 3 (dk_at dksX9_init_0 1 rfl rfl)
theorem dX9_init_4 : decode cX9_init 4 = .ok (.aload_n 0, 1) := dk_42 (dk_at dksX9_init_0 4 rfl rfl)
theorem dX9_init_5 : decode cX9_init 5 = .ok (.aload_n 1, 1) := dk_43 (dk_at dksX9_init_0 5 rfl rfl)
theorem dX9_init_6 : decode cX9_init 6 = .ok (.putfield 9, 3) := dk_181 0 9 (dk_at dksX9_init_0 6 rfl rfl)
theorem dX9_init_9 : decode cX9_init 9 = .ok (.return_, 1) := dk_177 (dk_at dksX9_init_0 9 rfl rfl)
abbrev cX9_kind : ByteArray := prog_14_method_2_code
def yX9_kind : MethodName := ⟨RX9, "kind", "()I"⟩
theorem dX9_kind_0 : decode cX9_kind 0 = .ok (.iconst 1, 1) := by decide +kernel
theorem dX9_kind_1 : decode cX9_kind 1 = .ok (.ireturn, 1) := by decide +kernel
abbrev cX9_sets : ByteArray := prog_14_method_7_code
def yX9_sets : MethodName := ⟨RX9, "sets", "(LWhalePost$Way;I)I"⟩
def dkwX9_sets_1 : List UInt8 := [29, 172]
abbrev dktX9_sets_1 : List UInt8 := dkwX9_sets_1 ++ []
def dkwX9_sets_0 : List UInt8 := [28, 62, 42, 43, 29, 182, 0, 25, 154, 0, 16, 29, 16, 90, 108, 4, 96, 16, 90, 104, 62, 167, 255, 237]
abbrev dktX9_sets_0 : List UInt8 := dkwX9_sets_0 ++ dktX9_sets_1
theorem dksX9_sets_0 : cX9_sets.data.toList.drop 0 = dktX9_sets_0 := by decide +kernel
theorem dksX9_sets_1 : cX9_sets.data.toList.drop 24 = dktX9_sets_1 := dk_seg dksX9_sets_0 24 rfl rfl
theorem dX9_sets_0 : decode cX9_sets 0 = .ok (.iload_n 2, 1) := dk_28 (dk_at dksX9_sets_0 0 rfl rfl)
theorem dX9_sets_1 : decode cX9_sets 1 = .ok (.istore_n 3, 1) := dk_62 (dk_at dksX9_sets_0 1 rfl rfl)
theorem dX9_sets_2 : decode cX9_sets 2 = .ok (.aload_n 0, 1) := dk_42 (dk_at dksX9_sets_0 2 rfl rfl)
theorem dX9_sets_3 : decode cX9_sets 3 = .ok (.aload_n 1, 1) := dk_43 (dk_at dksX9_sets_0 3 rfl rfl)
theorem dX9_sets_4 : decode cX9_sets 4 = .ok (.iload_n 3, 1) := dk_29 (dk_at dksX9_sets_0 4 rfl rfl)
theorem dX9_sets_5 : decode cX9_sets 5 = .ok (.invokevirtual 25, 3) := dk_182 0 25 (dk_at dksX9_sets_0 5 rfl rfl)
theorem dX9_sets_8 : decode cX9_sets 8 = .ok (.ifCond .ne 16, 3) := dk_154 0 16 (dk_at dksX9_sets_0 8 rfl rfl)
theorem dX9_sets_11 : decode cX9_sets 11 = .ok (.iload_n 3, 1) := dk_29 (dk_at dksX9_sets_0 11 rfl rfl)
theorem dX9_sets_12 : decode cX9_sets 12 = .ok (.bipush 90, 2) := dk_16 90 (dk_at dksX9_sets_0 12 rfl rfl)
theorem dX9_sets_14 : decode cX9_sets 14 = .ok (.idiv, 1) := dk_108 (dk_at dksX9_sets_0 14 rfl rfl)
theorem dX9_sets_15 : decode cX9_sets 15 = .ok (.iconst 1, 1) := dk_4 (dk_at dksX9_sets_0 15 rfl rfl)
theorem dX9_sets_16 : decode cX9_sets 16 = .ok (.iadd, 1) := dk_96 (dk_at dksX9_sets_0 16 rfl rfl)
theorem dX9_sets_17 : decode cX9_sets 17 = .ok (.bipush 90, 2) := dk_16 90 (dk_at dksX9_sets_0 17 rfl rfl)
theorem dX9_sets_19 : decode cX9_sets 19 = .ok (.imul, 1) := dk_104 (dk_at dksX9_sets_0 19 rfl rfl)
theorem dX9_sets_20 : decode cX9_sets 20 = .ok (.istore_n 3, 1) := dk_62 (dk_at dksX9_sets_0 20 rfl rfl)
theorem dX9_sets_21 : decode cX9_sets 21 = .ok (.goto (-19), 3) := dk_167 255 237 (dk_at dksX9_sets_0 21 rfl rfl)
theorem dX9_sets_24 : decode cX9_sets 24 = .ok (.iload_n 3, 1) := dk_29 (dk_at dksX9_sets_1 0 rfl rfl)
theorem dX9_sets_25 : decode cX9_sets 25 = .ok (.ireturn, 1) := dk_172 (dk_at dksX9_sets_1 1 rfl rfl)
abbrev cX9_knows : ByteArray := prog_14_method_6_code
def yX9_knows : MethodName := ⟨RX9, "knows", "(LWhalePost$Way;I)Z"⟩
def dkwX9_knows_0 : List UInt8 := [43, 180, 0, 15, 28, 16, 90, 108, 7, 112, 184, 0, 21, 172]
abbrev dktX9_knows_0 : List UInt8 := dkwX9_knows_0 ++ []
theorem dksX9_knows_0 : cX9_knows.data.toList.drop 0 = dktX9_knows_0 := by decide +kernel
theorem dX9_knows_0 : decode cX9_knows 0 = .ok (.aload_n 1, 1) := dk_43 (dk_at dksX9_knows_0 0 rfl rfl)
theorem dX9_knows_1 : decode cX9_knows 1 = .ok (.getfield 15, 3) := dk_180 0 15 (dk_at dksX9_knows_0 1 rfl rfl)
theorem dX9_knows_4 : decode cX9_knows 4 = .ok (.iload_n 2, 1) := dk_28 (dk_at dksX9_knows_0 4 rfl rfl)
theorem dX9_knows_5 : decode cX9_knows 5 = .ok (.bipush 90, 2) := dk_16 90 (dk_at dksX9_knows_0 5 rfl rfl)
theorem dX9_knows_7 : decode cX9_knows 7 = .ok (.idiv, 1) := dk_108 (dk_at dksX9_knows_0 7 rfl rfl)
theorem dX9_knows_8 : decode cX9_knows 8 = .ok (.iconst 4, 1) := dk_7 (dk_at dksX9_knows_0 8 rfl rfl)
theorem dX9_knows_9 : decode cX9_knows 9 = .ok (.irem, 1) := dk_112 (dk_at dksX9_knows_0 9 rfl rfl)
theorem dX9_knows_10 : decode cX9_knows 10 = .ok (.invokestatic 21, 3) := dk_184 0 21 (dk_at dksX9_knows_0 10 rfl rfl)
theorem dX9_knows_13 : decode cX9_knows 13 = .ok (.ireturn, 1) := dk_172 (dk_at dksX9_knows_0 13 rfl rfl)
abbrev cX9_ways : ByteArray := prog_14_method_5_code
def yX9_ways : MethodName := ⟨RX9, "ways", "()I"⟩
theorem dX9_ways_0 : decode cX9_ways 0 = .ok (.bipush 7, 2) := by decide +kernel
theorem dX9_ways_2 : decode cX9_ways 2 = .ok (.ireturn, 1) := by decide +kernel
abbrev cX9_goes : ByteArray := prog_14_method_4_code
def yX9_goes : MethodName := ⟨RX9, "goes", "(I)I"⟩
theorem dX9_goes_0 : decode cX9_goes 0 = .ok (.iload_n 1, 1) := by decide +kernel
theorem dX9_goes_1 : decode cX9_goes 1 = .ok (.ireturn, 1) := by decide +kernel
abbrev cX9_carries : ByteArray := prog_14_method_3_code
def yX9_carries : MethodName := ⟨RX9, "carries", "()I"⟩
theorem dX9_carries_0 : decode cX9_carries 0 = .ok (.bipush 9, 2) := by decide +kernel
theorem dX9_carries_2 : decode cX9_carries 2 = .ok (.ireturn, 1) := by decide +kernel
theorem q153 : (Jvm.Cond.initialized "WhalePost$Whale") ∈ lw_all := lw_g (lw_at lw_m1 23 rfl) rfl
theorem q859 : (Jvm.Cond.selects "WhalePost$Whale" ({ cls := "java/lang/Object", name := "getClass", desc := "()Ljava/lang/Class;" } : Jvm.MethodName) ({ cls := "java/lang/Object", name := "getClass", desc := "()Ljava/lang/Class;" } : Jvm.MethodName)) ∈ lw_all := lw_g (lw_at lw_m4 9 rfl) rfl
theorem q909 : (Jvm.Cond.fieldLink "WhalePost$Whale" (15 : Nat) "WhalePost$Way" "open" "I") ∈ lw_all := lw_g (lw_at lw_m4 59 rfl) rfl
theorem q940 : (Jvm.Cond.instanceMethod ({ cls := "WhalePost$Whale", name := "<init>", desc := "(Ljava/lang/String;)V" } : Jvm.MethodName)) ∈ lw_all := lw_g (lw_at lw_m4 90 rfl) rfl
theorem q941 : (Jvm.Cond.code ({ cls := "WhalePost$Whale", name := "<init>", desc := "(Ljava/lang/String;)V" } : Jvm.MethodName) prog_14_method_1_code (2 : Nat) (Option.none : Option Jvm.ClassFile.FieldType)) ∈ lw_all := lw_g (lw_at lw_m4 91 rfl) rfl
theorem q942 : (Jvm.Cond.methodLink "WhalePost$Whale" (3 : Nat) ({ cls := "java/lang/Object", name := "<init>", desc := "()V" } : Jvm.MethodName)) ∈ lw_all := lw_g (lw_at lw_m4 92 rfl) rfl
theorem q943 : (Jvm.Cond.fieldLink "WhalePost$Whale" (9 : Nat) "WhalePost$Whale" "name" "Ljava/lang/String;") ∈ lw_all := lw_g (lw_at lw_m4 93 rfl) rfl
theorem q953 : (Jvm.Cond.soleField "WhalePost$Whale" "name") ∈ lw_all := lw_g (lw_at lw_m4 103 rfl) rfl
theorem q955 : (Jvm.Cond.soleField "WhalePost$Whale" "at") ∈ lw_all := lw_g (lw_at lw_m4 105 rfl) rfl
theorem q957 : (Jvm.Cond.soleField "WhalePost$Whale" "keeps") ∈ lw_all := lw_g (lw_at lw_m4 107 rfl) rfl
theorem q959 : (Jvm.Cond.soleField "WhalePost$Whale" "lost") ∈ lw_all := lw_g (lw_at lw_m4 109 rfl) rfl
theorem q962 : (Jvm.Cond.instantiable "WhalePost$Whale" (4 : Nat)) ∈ lw_all := lw_g (lw_at lw_m4 112 rfl) rfl
theorem q964 : (Jvm.Cond.laysFinal "WhalePost$Whale" "WhalePost$Whale" "name" "Ljava/lang/String;") ∈ lw_all := lw_g (lw_at lw_m4 114 rfl) rfl
theorem q965 : (Jvm.Cond.lays "WhalePost$Whale" "WhalePost$Whale" "at" "I") ∈ lw_all := lw_g (lw_at lw_m4 115 rfl) rfl
theorem q966 : (Jvm.Cond.lays "WhalePost$Whale" "WhalePost$Whale" "keeps" "I") ∈ lw_all := lw_g (lw_at lw_m4 116 rfl) rfl
theorem q967 : (Jvm.Cond.lays "WhalePost$Whale" "WhalePost$Whale" "lost" "I") ∈ lw_all := lw_g (lw_at lw_m4 117 rfl) rfl
theorem q968 : (Jvm.Cond.superclass "WhalePost$Whale" "java/lang/Object") ∈ lw_all := lw_g (lw_at lw_m4 118 rfl) rfl
theorem q1150 : (Jvm.Cond.instanceMethod ({ cls := "WhalePost$Whale", name := "kind", desc := "()I" } : Jvm.MethodName)) ∈ lw_all := lw_g (lw_at lw_m5 60 rfl) rfl
theorem q1151 : (Jvm.Cond.selects "WhalePost$Whale" ({ cls := "WhalePost$Whale", name := "kind", desc := "()I" } : Jvm.MethodName) ({ cls := "WhalePost$Whale", name := "kind", desc := "()I" } : Jvm.MethodName)) ∈ lw_all := lw_g (lw_at lw_m5 61 rfl) rfl
theorem q1152 : (Jvm.Cond.sameMethod "WhalePost$Whale" "WhalePost$Whale" "kind" "()I") ∈ lw_all := lw_g (lw_at lw_m5 62 rfl) rfl
theorem q1162 : (Jvm.Cond.code ({ cls := "WhalePost$Whale", name := "kind", desc := "()I" } : Jvm.MethodName) prog_14_method_2_code (1 : Nat) (Option.some Jvm.ClassFile.FieldType.int)) ∈ lw_all := lw_g (lw_at lw_m5 72 rfl) rfl
theorem q1238 : (Jvm.Cond.instanceMethod ({ cls := "WhalePost$Whale", name := "sets", desc := "(LWhalePost$Way;I)I" } : Jvm.MethodName)) ∈ lw_all := lw_g (lw_at lw_m5 148 rfl) rfl
theorem q1239 : (Jvm.Cond.selects "WhalePost$Whale" ({ cls := "WhalePost$Whale", name := "sets", desc := "(LWhalePost$Way;I)I" } : Jvm.MethodName) ({ cls := "WhalePost$Whale", name := "sets", desc := "(LWhalePost$Way;I)I" } : Jvm.MethodName)) ∈ lw_all := lw_g (lw_at lw_m5 149 rfl) rfl
theorem q1240 : (Jvm.Cond.sameMethod "WhalePost$Whale" "WhalePost$Whale" "sets" "(LWhalePost$Way;I)I") ∈ lw_all := lw_g (lw_at lw_m5 150 rfl) rfl
theorem q1244 : (Jvm.Cond.code ({ cls := "WhalePost$Whale", name := "sets", desc := "(LWhalePost$Way;I)I" } : Jvm.MethodName) prog_14_method_7_code (4 : Nat) (Option.some Jvm.ClassFile.FieldType.int)) ∈ lw_all := lw_g (lw_at lw_m5 154 rfl) rfl
theorem q1245 : (Jvm.Cond.methodLink "WhalePost$Whale" (25 : Nat) ({ cls := "WhalePost$Whale", name := "knows", desc := "(LWhalePost$Way;I)Z" } : Jvm.MethodName)) ∈ lw_all := lw_g (lw_at lw_m5 155 rfl) rfl
theorem q1246 : (Jvm.Cond.instanceMethod ({ cls := "WhalePost$Whale", name := "knows", desc := "(LWhalePost$Way;I)Z" } : Jvm.MethodName)) ∈ lw_all := lw_g (lw_at lw_m5 156 rfl) rfl
theorem q1247 : (Jvm.Cond.selects "WhalePost$Whale" ({ cls := "WhalePost$Whale", name := "knows", desc := "(LWhalePost$Way;I)Z" } : Jvm.MethodName) ({ cls := "WhalePost$Whale", name := "knows", desc := "(LWhalePost$Way;I)Z" } : Jvm.MethodName)) ∈ lw_all := lw_g (lw_at lw_m5 157 rfl) rfl
theorem q1248 : (Jvm.Cond.sameMethod "WhalePost$Whale" "WhalePost$Whale" "knows" "(LWhalePost$Way;I)Z") ∈ lw_all := lw_g (lw_at lw_m5 158 rfl) rfl
theorem q1254 : (Jvm.Cond.code ({ cls := "WhalePost$Whale", name := "knows", desc := "(LWhalePost$Way;I)Z" } : Jvm.MethodName) prog_14_method_6_code (3 : Nat) (Option.some Jvm.ClassFile.FieldType.boolean)) ∈ lw_all := lw_g (lw_at lw_m5 164 rfl) rfl
theorem q1255 : (Jvm.Cond.methodLinkNest "WhalePost$Whale" (21 : Nat) ({ cls := "WhalePost", name := "has", desc := "(II)Z" } : Jvm.MethodName) "WhalePost") ∈ lw_tbl := lw_at lw_m5 165 rfl
theorem q1345 : (Jvm.Cond.instanceMethod ({ cls := "WhalePost$Whale", name := "ways", desc := "()I" } : Jvm.MethodName)) ∈ lw_all := lw_g (lw_at lw_m6 15 rfl) rfl
theorem q1346 : (Jvm.Cond.selects "WhalePost$Whale" ({ cls := "WhalePost$Whale", name := "ways", desc := "()I" } : Jvm.MethodName) ({ cls := "WhalePost$Whale", name := "ways", desc := "()I" } : Jvm.MethodName)) ∈ lw_all := lw_g (lw_at lw_m6 16 rfl) rfl
theorem q1347 : (Jvm.Cond.sameMethod "WhalePost$Whale" "WhalePost$Whale" "ways" "()I") ∈ lw_all := lw_g (lw_at lw_m6 17 rfl) rfl
theorem q1353 : (Jvm.Cond.code ({ cls := "WhalePost$Whale", name := "ways", desc := "()I" } : Jvm.MethodName) prog_14_method_5_code (1 : Nat) (Option.some Jvm.ClassFile.FieldType.int)) ∈ lw_all := lw_g (lw_at lw_m6 23 rfl) rfl
theorem q1360 : (Jvm.Cond.instanceMethod ({ cls := "WhalePost$Whale", name := "goes", desc := "(I)I" } : Jvm.MethodName)) ∈ lw_all := lw_g (lw_at lw_m6 30 rfl) rfl
theorem q1361 : (Jvm.Cond.selects "WhalePost$Whale" ({ cls := "WhalePost$Whale", name := "goes", desc := "(I)I" } : Jvm.MethodName) ({ cls := "WhalePost$Whale", name := "goes", desc := "(I)I" } : Jvm.MethodName)) ∈ lw_all := lw_g (lw_at lw_m6 31 rfl) rfl
theorem q1362 : (Jvm.Cond.sameMethod "WhalePost$Whale" "WhalePost$Whale" "goes" "(I)I") ∈ lw_all := lw_g (lw_at lw_m6 32 rfl) rfl
theorem q1367 : (Jvm.Cond.code ({ cls := "WhalePost$Whale", name := "goes", desc := "(I)I" } : Jvm.MethodName) prog_14_method_4_code (2 : Nat) (Option.some Jvm.ClassFile.FieldType.int)) ∈ lw_all := lw_g (lw_at lw_m6 37 rfl) rfl
theorem q1391 : (Jvm.Cond.instanceMethod ({ cls := "WhalePost$Whale", name := "carries", desc := "()I" } : Jvm.MethodName)) ∈ lw_all := lw_g (lw_at lw_m6 61 rfl) rfl
theorem q1392 : (Jvm.Cond.selects "WhalePost$Whale" ({ cls := "WhalePost$Whale", name := "carries", desc := "()I" } : Jvm.MethodName) ({ cls := "WhalePost$Whale", name := "carries", desc := "()I" } : Jvm.MethodName)) ∈ lw_all := lw_g (lw_at lw_m6 62 rfl) rfl
theorem q1393 : (Jvm.Cond.sameMethod "WhalePost$Whale" "WhalePost$Whale" "carries" "()I") ∈ lw_all := lw_g (lw_at lw_m6 63 rfl) rfl
theorem q1401 : (Jvm.Cond.code ({ cls := "WhalePost$Whale", name := "carries", desc := "()I" } : Jvm.MethodName) prog_14_method_3_code (1 : Nat) (Option.some Jvm.ClassFile.FieldType.int)) ∈ lw_all := lw_g (lw_at lw_m6 71 rfl) rfl
theorem q2329 : (Jvm.Cond.castable "WhalePost$Whale" "java/lang/Object") ∈ lw_tbl := lw_at lw_m10 39 rfl
theorem in_X9 : ∀ w ∈ wsX90, w ∈ lw_all := lw_in wsX90 [964, 965, 966, 967] (by decide +kernel) (by decide +kernel)

/-! WhalePost$Calf -/
set_option maxRecDepth 100000
def RX10 : String := "WhalePost$Calf"
def TX10 : u_T := fun k => match k with
  | 0 => ("WhalePost$Whale", "name", "Ljava/lang/String;", true)
  | 1 => ("WhalePost$Whale", "at", "I", false)
  | 2 => ("WhalePost$Whale", "keeps", "I", false)
  | _ => ("WhalePost$Whale", "lost", "I", false)
def tyX10 : Nat → FieldType := fun k => match k with
  | 0 => .object "java/lang/String"
  | 1 => .int
  | 2 => .int
  | _ => .int
abbrev wsX100 : List Cond := u_ws RX10 TX10 4
theorem nmX10 : ∀ a, a < 4 → ∀ b, b < 4 → a ≠ b → (TX10 a).2.1 ≠ (TX10 b).2.1 := by decide +kernel
theorem tyX10_ok : ∀ k, k < 4 → parseFieldDescriptor (TX10 k).2.2.1 = some (tyX10 k) := by decide +kernel
abbrev cX10_init : ByteArray := prog_4_method_1_code
def yX10_init : MethodName := ⟨RX10, "<init>", "(Ljava/lang/String;)V"⟩
def dkwX10_init_0 : List UInt8 := [42, 43, 183, 0, 1, 177]
abbrev dktX10_init_0 : List UInt8 := dkwX10_init_0 ++ []
theorem dksX10_init_0 : cX10_init.data.toList.drop 0 = dktX10_init_0 := by decide +kernel
theorem dX10_init_0 : decode cX10_init 0 = .ok (.aload_n 0, 1) := dk_42 (dk_at dksX10_init_0 0 rfl rfl)
theorem dX10_init_1 : decode cX10_init 1 = .ok (.aload_n 1, 1) := dk_43 (dk_at dksX10_init_0 1 rfl rfl)
theorem dX10_init_2 : decode cX10_init 2 = .ok (.invokespecial 1, 3) := dk_183 0 1 (dk_at dksX10_init_0 2 rfl rfl)
theorem dX10_init_5 : decode cX10_init 5 = .ok (.return_, 1) := dk_177 (dk_at dksX10_init_0 5 rfl rfl)
abbrev cX10_kind : ByteArray := prog_4_method_2_code
def yX10_kind : MethodName := ⟨RX10, "kind", "()I"⟩
theorem dX10_kind_0 : decode cX10_kind 0 = .ok (.iconst 0, 1) := by decide +kernel
theorem dX10_kind_1 : decode cX10_kind 1 = .ok (.ireturn, 1) := by decide +kernel
abbrev cX10_ways : ByteArray := prog_4_method_4_code
def yX10_ways : MethodName := ⟨RX10, "ways", "()I"⟩
theorem dX10_ways_0 : decode cX10_ways 0 = .ok (.iconst 1, 1) := by decide +kernel
theorem dX10_ways_1 : decode cX10_ways 1 = .ok (.ireturn, 1) := by decide +kernel
abbrev cX10_carries : ByteArray := prog_4_method_3_code
def yX10_carries : MethodName := ⟨RX10, "carries", "()I"⟩
theorem dX10_carries_0 : decode cX10_carries 0 = .ok (.iconst 3, 1) := by decide +kernel
theorem dX10_carries_1 : decode cX10_carries 1 = .ok (.ireturn, 1) := by decide +kernel
theorem q154 : (Jvm.Cond.initialized "WhalePost$Calf") ∈ lw_all := lw_g (lw_at lw_m1 24 rfl) rfl
theorem q849 : (Jvm.Cond.selects "WhalePost$Calf" ({ cls := "java/lang/Object", name := "getClass", desc := "()Ljava/lang/Class;" } : Jvm.MethodName) ({ cls := "java/lang/Object", name := "getClass", desc := "()Ljava/lang/Class;" } : Jvm.MethodName)) ∈ lw_all := lw_g (lw_at lw_m3 239 rfl) rfl
theorem q935 : (Jvm.Cond.instantiable "WhalePost$Calf" (4 : Nat)) ∈ lw_all := lw_g (lw_at lw_m4 85 rfl) rfl
theorem q937 : (Jvm.Cond.instanceMethod ({ cls := "WhalePost$Calf", name := "<init>", desc := "(Ljava/lang/String;)V" } : Jvm.MethodName)) ∈ lw_all := lw_g (lw_at lw_m4 87 rfl) rfl
theorem q938 : (Jvm.Cond.code ({ cls := "WhalePost$Calf", name := "<init>", desc := "(Ljava/lang/String;)V" } : Jvm.MethodName) prog_4_method_1_code (2 : Nat) (Option.none : Option Jvm.ClassFile.FieldType)) ∈ lw_all := lw_g (lw_at lw_m4 88 rfl) rfl
theorem q939 : (Jvm.Cond.methodLink "WhalePost$Calf" (1 : Nat) ({ cls := "WhalePost$Whale", name := "<init>", desc := "(Ljava/lang/String;)V" } : Jvm.MethodName)) ∈ lw_all := lw_g (lw_at lw_m4 89 rfl) rfl
theorem q952 : (Jvm.Cond.laysFinal "WhalePost$Calf" "WhalePost$Whale" "name" "Ljava/lang/String;") ∈ lw_all := lw_g (lw_at lw_m4 102 rfl) rfl
theorem q954 : (Jvm.Cond.lays "WhalePost$Calf" "WhalePost$Whale" "at" "I") ∈ lw_all := lw_g (lw_at lw_m4 104 rfl) rfl
theorem q956 : (Jvm.Cond.lays "WhalePost$Calf" "WhalePost$Whale" "keeps" "I") ∈ lw_all := lw_g (lw_at lw_m4 106 rfl) rfl
theorem q958 : (Jvm.Cond.lays "WhalePost$Calf" "WhalePost$Whale" "lost" "I") ∈ lw_all := lw_g (lw_at lw_m4 108 rfl) rfl
theorem q960 : (Jvm.Cond.superclass "WhalePost$Calf" "WhalePost$Whale") ∈ lw_all := lw_g (lw_at lw_m4 110 rfl) rfl
theorem q1156 : (Jvm.Cond.selects "WhalePost$Calf" ({ cls := "WhalePost$Whale", name := "kind", desc := "()I" } : Jvm.MethodName) ({ cls := "WhalePost$Calf", name := "kind", desc := "()I" } : Jvm.MethodName)) ∈ lw_all := lw_g (lw_at lw_m5 66 rfl) rfl
theorem q1157 : (Jvm.Cond.instanceMethod ({ cls := "WhalePost$Calf", name := "kind", desc := "()I" } : Jvm.MethodName)) ∈ lw_all := lw_g (lw_at lw_m5 67 rfl) rfl
theorem q1158 : (Jvm.Cond.code ({ cls := "WhalePost$Calf", name := "kind", desc := "()I" } : Jvm.MethodName) prog_4_method_2_code (1 : Nat) (Option.some Jvm.ClassFile.FieldType.int)) ∈ lw_all := lw_g (lw_at lw_m5 68 rfl) rfl
theorem q1242 : (Jvm.Cond.selects "WhalePost$Calf" ({ cls := "WhalePost$Whale", name := "sets", desc := "(LWhalePost$Way;I)I" } : Jvm.MethodName) ({ cls := "WhalePost$Whale", name := "sets", desc := "(LWhalePost$Way;I)I" } : Jvm.MethodName)) ∈ lw_all := lw_g (lw_at lw_m5 152 rfl) rfl
theorem q1250 : (Jvm.Cond.selects "WhalePost$Calf" ({ cls := "WhalePost$Whale", name := "knows", desc := "(LWhalePost$Way;I)Z" } : Jvm.MethodName) ({ cls := "WhalePost$Whale", name := "knows", desc := "(LWhalePost$Way;I)Z" } : Jvm.MethodName)) ∈ lw_all := lw_g (lw_at lw_m5 160 rfl) rfl
theorem q1349 : (Jvm.Cond.selects "WhalePost$Calf" ({ cls := "WhalePost$Whale", name := "ways", desc := "()I" } : Jvm.MethodName) ({ cls := "WhalePost$Calf", name := "ways", desc := "()I" } : Jvm.MethodName)) ∈ lw_all := lw_g (lw_at lw_m6 19 rfl) rfl
theorem q1350 : (Jvm.Cond.instanceMethod ({ cls := "WhalePost$Calf", name := "ways", desc := "()I" } : Jvm.MethodName)) ∈ lw_all := lw_g (lw_at lw_m6 20 rfl) rfl
theorem q1351 : (Jvm.Cond.code ({ cls := "WhalePost$Calf", name := "ways", desc := "()I" } : Jvm.MethodName) prog_4_method_4_code (1 : Nat) (Option.some Jvm.ClassFile.FieldType.int)) ∈ lw_all := lw_g (lw_at lw_m6 21 rfl) rfl
theorem q1368 : (Jvm.Cond.selects "WhalePost$Calf" ({ cls := "WhalePost$Whale", name := "goes", desc := "(I)I" } : Jvm.MethodName) ({ cls := "WhalePost$Whale", name := "goes", desc := "(I)I" } : Jvm.MethodName)) ∈ lw_all := lw_g (lw_at lw_m6 38 rfl) rfl
theorem q1397 : (Jvm.Cond.selects "WhalePost$Calf" ({ cls := "WhalePost$Whale", name := "carries", desc := "()I" } : Jvm.MethodName) ({ cls := "WhalePost$Calf", name := "carries", desc := "()I" } : Jvm.MethodName)) ∈ lw_all := lw_g (lw_at lw_m6 67 rfl) rfl
theorem q1398 : (Jvm.Cond.instanceMethod ({ cls := "WhalePost$Calf", name := "carries", desc := "()I" } : Jvm.MethodName)) ∈ lw_all := lw_g (lw_at lw_m6 68 rfl) rfl
theorem q1399 : (Jvm.Cond.code ({ cls := "WhalePost$Calf", name := "carries", desc := "()I" } : Jvm.MethodName) prog_4_method_3_code (1 : Nat) (Option.some Jvm.ClassFile.FieldType.int)) ∈ lw_all := lw_g (lw_at lw_m6 69 rfl) rfl
theorem q2314 : (Jvm.Cond.castable "WhalePost$Calf" "WhalePost$Whale") ∈ lw_tbl := lw_at lw_m10 24 rfl
theorem q2328 : (Jvm.Cond.castable "WhalePost$Calf" "java/lang/Object") ∈ lw_tbl := lw_at lw_m10 38 rfl
theorem in_X10 : ∀ w ∈ wsX100, w ∈ lw_all := lw_in wsX100 [952, 954, 956, 958] (by decide +kernel) (by decide +kernel)

/-! WhalePost$Bull -/
set_option maxRecDepth 100000
def RX11 : String := "WhalePost$Bull"
def TX11 : u_T := fun k => match k with
  | 0 => ("WhalePost$Whale", "name", "Ljava/lang/String;", true)
  | 1 => ("WhalePost$Whale", "at", "I", false)
  | 2 => ("WhalePost$Whale", "keeps", "I", false)
  | _ => ("WhalePost$Whale", "lost", "I", false)
def tyX11 : Nat → FieldType := fun k => match k with
  | 0 => .object "java/lang/String"
  | 1 => .int
  | 2 => .int
  | _ => .int
abbrev wsX110 : List Cond := u_ws RX11 TX11 4
theorem nmX11 : ∀ a, a < 4 → ∀ b, b < 4 → a ≠ b → (TX11 a).2.1 ≠ (TX11 b).2.1 := by decide +kernel
theorem tyX11_ok : ∀ k, k < 4 → parseFieldDescriptor (TX11 k).2.2.1 = some (tyX11 k) := by decide +kernel
abbrev cX11_init : ByteArray := prog_3_method_1_code
def yX11_init : MethodName := ⟨RX11, "<init>", "(Ljava/lang/String;)V"⟩
def dkwX11_init_0 : List UInt8 := [42, 43, 183, 0, 1, 177]
abbrev dktX11_init_0 : List UInt8 := dkwX11_init_0 ++ []
theorem dksX11_init_0 : cX11_init.data.toList.drop 0 = dktX11_init_0 := by decide +kernel
theorem dX11_init_0 : decode cX11_init 0 = .ok (.aload_n 0, 1) := dk_42 (dk_at dksX11_init_0 0 rfl rfl)
theorem dX11_init_1 : decode cX11_init 1 = .ok (.aload_n 1, 1) := dk_43 (dk_at dksX11_init_0 1 rfl rfl)
theorem dX11_init_2 : decode cX11_init 2 = .ok (.invokespecial 1, 3) := dk_183 0 1 (dk_at dksX11_init_0 2 rfl rfl)
theorem dX11_init_5 : decode cX11_init 5 = .ok (.return_, 1) := dk_177 (dk_at dksX11_init_0 5 rfl rfl)
abbrev cX11_kind : ByteArray := prog_3_method_2_code
def yX11_kind : MethodName := ⟨RX11, "kind", "()I"⟩
theorem dX11_kind_0 : decode cX11_kind 0 = .ok (.iconst 2, 1) := by decide +kernel
theorem dX11_kind_1 : decode cX11_kind 1 = .ok (.ireturn, 1) := by decide +kernel
abbrev cX11_goes : ByteArray := prog_3_method_4_code
def yX11_goes : MethodName := ⟨RX11, "goes", "(I)I"⟩
def dkwX11_goes_0 : List UInt8 := [5, 42, 27, 183, 0, 7, 104, 172]
abbrev dktX11_goes_0 : List UInt8 := dkwX11_goes_0 ++ []
theorem dksX11_goes_0 : cX11_goes.data.toList.drop 0 = dktX11_goes_0 := by decide +kernel
theorem dX11_goes_0 : decode cX11_goes 0 = .ok (.iconst 2, 1) := dk_5 (dk_at dksX11_goes_0 0 rfl rfl)
theorem dX11_goes_1 : decode cX11_goes 1 = .ok (.aload_n 0, 1) := dk_42 (dk_at dksX11_goes_0 1 rfl rfl)
theorem dX11_goes_2 : decode cX11_goes 2 = .ok (.iload_n 1, 1) := dk_27 (dk_at dksX11_goes_0 2 rfl rfl)
theorem dX11_goes_3 : decode cX11_goes 3 = .ok (.invokespecial 7, 3) := dk_183 0 7 (dk_at dksX11_goes_0 3 rfl rfl)
theorem dX11_goes_6 : decode cX11_goes 6 = .ok (.imul, 1) := dk_104 (dk_at dksX11_goes_0 6 rfl rfl)
theorem dX11_goes_7 : decode cX11_goes 7 = .ok (.ireturn, 1) := dk_172 (dk_at dksX11_goes_0 7 rfl rfl)
abbrev cX11_carries : ByteArray := prog_3_method_3_code
def yX11_carries : MethodName := ⟨RX11, "carries", "()I"⟩
theorem dX11_carries_0 : decode cX11_carries 0 = .ok (.bipush 99, 2) := by decide +kernel
theorem dX11_carries_2 : decode cX11_carries 2 = .ok (.ireturn, 1) := by decide +kernel
theorem q155 : (Jvm.Cond.initialized "WhalePost$Bull") ∈ lw_all := lw_g (lw_at lw_m1 25 rfl) rfl
theorem q848 : (Jvm.Cond.selects "WhalePost$Bull" ({ cls := "java/lang/Object", name := "getClass", desc := "()Ljava/lang/Class;" } : Jvm.MethodName) ({ cls := "java/lang/Object", name := "getClass", desc := "()Ljava/lang/Class;" } : Jvm.MethodName)) ∈ lw_all := lw_g (lw_at lw_m3 238 rfl) rfl
theorem q970 : (Jvm.Cond.instantiable "WhalePost$Bull" (4 : Nat)) ∈ lw_all := lw_g (lw_at lw_m4 120 rfl) rfl
theorem q972 : (Jvm.Cond.instanceMethod ({ cls := "WhalePost$Bull", name := "<init>", desc := "(Ljava/lang/String;)V" } : Jvm.MethodName)) ∈ lw_all := lw_g (lw_at lw_m4 122 rfl) rfl
theorem q973 : (Jvm.Cond.code ({ cls := "WhalePost$Bull", name := "<init>", desc := "(Ljava/lang/String;)V" } : Jvm.MethodName) prog_3_method_1_code (2 : Nat) (Option.none : Option Jvm.ClassFile.FieldType)) ∈ lw_all := lw_g (lw_at lw_m4 123 rfl) rfl
theorem q974 : (Jvm.Cond.methodLink "WhalePost$Bull" (1 : Nat) ({ cls := "WhalePost$Whale", name := "<init>", desc := "(Ljava/lang/String;)V" } : Jvm.MethodName)) ∈ lw_all := lw_g (lw_at lw_m4 124 rfl) rfl
theorem q975 : (Jvm.Cond.laysFinal "WhalePost$Bull" "WhalePost$Whale" "name" "Ljava/lang/String;") ∈ lw_all := lw_g (lw_at lw_m4 125 rfl) rfl
theorem q976 : (Jvm.Cond.lays "WhalePost$Bull" "WhalePost$Whale" "at" "I") ∈ lw_all := lw_g (lw_at lw_m4 126 rfl) rfl
theorem q977 : (Jvm.Cond.lays "WhalePost$Bull" "WhalePost$Whale" "keeps" "I") ∈ lw_all := lw_g (lw_at lw_m4 127 rfl) rfl
theorem q978 : (Jvm.Cond.lays "WhalePost$Bull" "WhalePost$Whale" "lost" "I") ∈ lw_all := lw_g (lw_at lw_m4 128 rfl) rfl
theorem q979 : (Jvm.Cond.superclass "WhalePost$Bull" "WhalePost$Whale") ∈ lw_all := lw_g (lw_at lw_m4 129 rfl) rfl
theorem q1153 : (Jvm.Cond.selects "WhalePost$Bull" ({ cls := "WhalePost$Whale", name := "kind", desc := "()I" } : Jvm.MethodName) ({ cls := "WhalePost$Bull", name := "kind", desc := "()I" } : Jvm.MethodName)) ∈ lw_all := lw_g (lw_at lw_m5 63 rfl) rfl
theorem q1154 : (Jvm.Cond.instanceMethod ({ cls := "WhalePost$Bull", name := "kind", desc := "()I" } : Jvm.MethodName)) ∈ lw_all := lw_g (lw_at lw_m5 64 rfl) rfl
theorem q1155 : (Jvm.Cond.code ({ cls := "WhalePost$Bull", name := "kind", desc := "()I" } : Jvm.MethodName) prog_3_method_2_code (1 : Nat) (Option.some Jvm.ClassFile.FieldType.int)) ∈ lw_all := lw_g (lw_at lw_m5 65 rfl) rfl
theorem q1241 : (Jvm.Cond.selects "WhalePost$Bull" ({ cls := "WhalePost$Whale", name := "sets", desc := "(LWhalePost$Way;I)I" } : Jvm.MethodName) ({ cls := "WhalePost$Whale", name := "sets", desc := "(LWhalePost$Way;I)I" } : Jvm.MethodName)) ∈ lw_all := lw_g (lw_at lw_m5 151 rfl) rfl
theorem q1249 : (Jvm.Cond.selects "WhalePost$Bull" ({ cls := "WhalePost$Whale", name := "knows", desc := "(LWhalePost$Way;I)Z" } : Jvm.MethodName) ({ cls := "WhalePost$Whale", name := "knows", desc := "(LWhalePost$Way;I)Z" } : Jvm.MethodName)) ∈ lw_all := lw_g (lw_at lw_m5 159 rfl) rfl
theorem q1348 : (Jvm.Cond.selects "WhalePost$Bull" ({ cls := "WhalePost$Whale", name := "ways", desc := "()I" } : Jvm.MethodName) ({ cls := "WhalePost$Whale", name := "ways", desc := "()I" } : Jvm.MethodName)) ∈ lw_all := lw_g (lw_at lw_m6 18 rfl) rfl
theorem q1363 : (Jvm.Cond.selects "WhalePost$Bull" ({ cls := "WhalePost$Whale", name := "goes", desc := "(I)I" } : Jvm.MethodName) ({ cls := "WhalePost$Bull", name := "goes", desc := "(I)I" } : Jvm.MethodName)) ∈ lw_all := lw_g (lw_at lw_m6 33 rfl) rfl
theorem q1364 : (Jvm.Cond.instanceMethod ({ cls := "WhalePost$Bull", name := "goes", desc := "(I)I" } : Jvm.MethodName)) ∈ lw_all := lw_g (lw_at lw_m6 34 rfl) rfl
theorem q1365 : (Jvm.Cond.code ({ cls := "WhalePost$Bull", name := "goes", desc := "(I)I" } : Jvm.MethodName) prog_3_method_4_code (2 : Nat) (Option.some Jvm.ClassFile.FieldType.int)) ∈ lw_all := lw_g (lw_at lw_m6 35 rfl) rfl
theorem q1366 : (Jvm.Cond.methodLink "WhalePost$Bull" (7 : Nat) ({ cls := "WhalePost$Whale", name := "goes", desc := "(I)I" } : Jvm.MethodName)) ∈ lw_all := lw_g (lw_at lw_m6 36 rfl) rfl
theorem q1394 : (Jvm.Cond.selects "WhalePost$Bull" ({ cls := "WhalePost$Whale", name := "carries", desc := "()I" } : Jvm.MethodName) ({ cls := "WhalePost$Bull", name := "carries", desc := "()I" } : Jvm.MethodName)) ∈ lw_all := lw_g (lw_at lw_m6 64 rfl) rfl
theorem q1395 : (Jvm.Cond.instanceMethod ({ cls := "WhalePost$Bull", name := "carries", desc := "()I" } : Jvm.MethodName)) ∈ lw_all := lw_g (lw_at lw_m6 65 rfl) rfl
theorem q1396 : (Jvm.Cond.code ({ cls := "WhalePost$Bull", name := "carries", desc := "()I" } : Jvm.MethodName) prog_3_method_3_code (1 : Nat) (Option.some Jvm.ClassFile.FieldType.int)) ∈ lw_all := lw_g (lw_at lw_m6 66 rfl) rfl
theorem q2313 : (Jvm.Cond.castable "WhalePost$Bull" "WhalePost$Whale") ∈ lw_tbl := lw_at lw_m10 23 rfl
theorem q2330 : (Jvm.Cond.castable "WhalePost$Bull" "java/lang/Object") ∈ lw_tbl := lw_at lw_m10 40 rfl
theorem in_X11 : ∀ w ∈ wsX110, w ∈ lw_all := lw_in wsX110 [975, 976, 977, 978] (by decide +kernel) (by decide +kernel)

/-! WhalePost$Old -/
set_option maxRecDepth 100000
def RX12 : String := "WhalePost$Old"
def TX12 : u_T := fun k => match k with
  | 0 => ("WhalePost$Whale", "name", "Ljava/lang/String;", true)
  | 1 => ("WhalePost$Whale", "at", "I", false)
  | 2 => ("WhalePost$Whale", "keeps", "I", false)
  | _ => ("WhalePost$Whale", "lost", "I", false)
def tyX12 : Nat → FieldType := fun k => match k with
  | 0 => .object "java/lang/String"
  | 1 => .int
  | 2 => .int
  | _ => .int
abbrev wsX120 : List Cond := u_ws RX12 TX12 4
theorem nmX12 : ∀ a, a < 4 → ∀ b, b < 4 → a ≠ b → (TX12 a).2.1 ≠ (TX12 b).2.1 := by decide +kernel
theorem tyX12_ok : ∀ k, k < 4 → parseFieldDescriptor (TX12 k).2.2.1 = some (tyX12 k) := by decide +kernel
abbrev cX12_init : ByteArray := prog_7_method_1_code
def yX12_init : MethodName := ⟨RX12, "<init>", "(Ljava/lang/String;)V"⟩
def dkwX12_init_0 : List UInt8 := [42, 43, 183, 0, 1, 177]
abbrev dktX12_init_0 : List UInt8 := dkwX12_init_0 ++ []
theorem dksX12_init_0 : cX12_init.data.toList.drop 0 = dktX12_init_0 := by decide +kernel
theorem dX12_init_0 : decode cX12_init 0 = .ok (.aload_n 0, 1) := dk_42 (dk_at dksX12_init_0 0 rfl rfl)
theorem dX12_init_1 : decode cX12_init 1 = .ok (.aload_n 1, 1) := dk_43 (dk_at dksX12_init_0 1 rfl rfl)
theorem dX12_init_2 : decode cX12_init 2 = .ok (.invokespecial 1, 3) := dk_183 0 1 (dk_at dksX12_init_0 2 rfl rfl)
theorem dX12_init_5 : decode cX12_init 5 = .ok (.return_, 1) := dk_177 (dk_at dksX12_init_0 5 rfl rfl)
abbrev cX12_kind : ByteArray := prog_7_method_2_code
def yX12_kind : MethodName := ⟨RX12, "kind", "()I"⟩
theorem dX12_kind_0 : decode cX12_kind 0 = .ok (.iconst 3, 1) := by decide +kernel
theorem dX12_kind_1 : decode cX12_kind 1 = .ok (.ireturn, 1) := by decide +kernel
abbrev cX12_knows : ByteArray := prog_7_method_3_code
def yX12_knows : MethodName := ⟨RX12, "knows", "(LWhalePost$Way;I)Z"⟩
theorem dX12_knows_0 : decode cX12_knows 0 = .ok (.iconst 1, 1) := by decide +kernel
theorem dX12_knows_1 : decode cX12_knows 1 = .ok (.ireturn, 1) := by decide +kernel
theorem q156 : (Jvm.Cond.initialized "WhalePost$Old") ∈ lw_all := lw_g (lw_at lw_m1 26 rfl) rfl
theorem q852 : (Jvm.Cond.selects "WhalePost$Old" ({ cls := "java/lang/Object", name := "getClass", desc := "()Ljava/lang/Class;" } : Jvm.MethodName) ({ cls := "java/lang/Object", name := "getClass", desc := "()Ljava/lang/Class;" } : Jvm.MethodName)) ∈ lw_all := lw_g (lw_at lw_m4 2 rfl) rfl
theorem q981 : (Jvm.Cond.instantiable "WhalePost$Old" (4 : Nat)) ∈ lw_all := lw_g (lw_at lw_m4 131 rfl) rfl
theorem q983 : (Jvm.Cond.instanceMethod ({ cls := "WhalePost$Old", name := "<init>", desc := "(Ljava/lang/String;)V" } : Jvm.MethodName)) ∈ lw_all := lw_g (lw_at lw_m4 133 rfl) rfl
theorem q984 : (Jvm.Cond.code ({ cls := "WhalePost$Old", name := "<init>", desc := "(Ljava/lang/String;)V" } : Jvm.MethodName) prog_7_method_1_code (2 : Nat) (Option.none : Option Jvm.ClassFile.FieldType)) ∈ lw_all := lw_g (lw_at lw_m4 134 rfl) rfl
theorem q985 : (Jvm.Cond.methodLink "WhalePost$Old" (1 : Nat) ({ cls := "WhalePost$Whale", name := "<init>", desc := "(Ljava/lang/String;)V" } : Jvm.MethodName)) ∈ lw_all := lw_g (lw_at lw_m4 135 rfl) rfl
theorem q986 : (Jvm.Cond.laysFinal "WhalePost$Old" "WhalePost$Whale" "name" "Ljava/lang/String;") ∈ lw_all := lw_g (lw_at lw_m4 136 rfl) rfl
theorem q987 : (Jvm.Cond.lays "WhalePost$Old" "WhalePost$Whale" "at" "I") ∈ lw_all := lw_g (lw_at lw_m4 137 rfl) rfl
theorem q988 : (Jvm.Cond.lays "WhalePost$Old" "WhalePost$Whale" "keeps" "I") ∈ lw_all := lw_g (lw_at lw_m4 138 rfl) rfl
theorem q989 : (Jvm.Cond.lays "WhalePost$Old" "WhalePost$Whale" "lost" "I") ∈ lw_all := lw_g (lw_at lw_m4 139 rfl) rfl
theorem q990 : (Jvm.Cond.superclass "WhalePost$Old" "WhalePost$Whale") ∈ lw_all := lw_g (lw_at lw_m4 140 rfl) rfl
theorem q1159 : (Jvm.Cond.selects "WhalePost$Old" ({ cls := "WhalePost$Whale", name := "kind", desc := "()I" } : Jvm.MethodName) ({ cls := "WhalePost$Old", name := "kind", desc := "()I" } : Jvm.MethodName)) ∈ lw_all := lw_g (lw_at lw_m5 69 rfl) rfl
theorem q1160 : (Jvm.Cond.instanceMethod ({ cls := "WhalePost$Old", name := "kind", desc := "()I" } : Jvm.MethodName)) ∈ lw_all := lw_g (lw_at lw_m5 70 rfl) rfl
theorem q1161 : (Jvm.Cond.code ({ cls := "WhalePost$Old", name := "kind", desc := "()I" } : Jvm.MethodName) prog_7_method_2_code (1 : Nat) (Option.some Jvm.ClassFile.FieldType.int)) ∈ lw_all := lw_g (lw_at lw_m5 71 rfl) rfl
theorem q1243 : (Jvm.Cond.selects "WhalePost$Old" ({ cls := "WhalePost$Whale", name := "sets", desc := "(LWhalePost$Way;I)I" } : Jvm.MethodName) ({ cls := "WhalePost$Whale", name := "sets", desc := "(LWhalePost$Way;I)I" } : Jvm.MethodName)) ∈ lw_all := lw_g (lw_at lw_m5 153 rfl) rfl
theorem q1251 : (Jvm.Cond.selects "WhalePost$Old" ({ cls := "WhalePost$Whale", name := "knows", desc := "(LWhalePost$Way;I)Z" } : Jvm.MethodName) ({ cls := "WhalePost$Old", name := "knows", desc := "(LWhalePost$Way;I)Z" } : Jvm.MethodName)) ∈ lw_all := lw_g (lw_at lw_m5 161 rfl) rfl
theorem q1252 : (Jvm.Cond.instanceMethod ({ cls := "WhalePost$Old", name := "knows", desc := "(LWhalePost$Way;I)Z" } : Jvm.MethodName)) ∈ lw_all := lw_g (lw_at lw_m5 162 rfl) rfl
theorem q1253 : (Jvm.Cond.code ({ cls := "WhalePost$Old", name := "knows", desc := "(LWhalePost$Way;I)Z" } : Jvm.MethodName) prog_7_method_3_code (3 : Nat) (Option.some Jvm.ClassFile.FieldType.boolean)) ∈ lw_all := lw_g (lw_at lw_m5 163 rfl) rfl
theorem q1352 : (Jvm.Cond.selects "WhalePost$Old" ({ cls := "WhalePost$Whale", name := "ways", desc := "()I" } : Jvm.MethodName) ({ cls := "WhalePost$Whale", name := "ways", desc := "()I" } : Jvm.MethodName)) ∈ lw_all := lw_g (lw_at lw_m6 22 rfl) rfl
theorem q1369 : (Jvm.Cond.selects "WhalePost$Old" ({ cls := "WhalePost$Whale", name := "goes", desc := "(I)I" } : Jvm.MethodName) ({ cls := "WhalePost$Whale", name := "goes", desc := "(I)I" } : Jvm.MethodName)) ∈ lw_all := lw_g (lw_at lw_m6 39 rfl) rfl
theorem q1400 : (Jvm.Cond.selects "WhalePost$Old" ({ cls := "WhalePost$Whale", name := "carries", desc := "()I" } : Jvm.MethodName) ({ cls := "WhalePost$Whale", name := "carries", desc := "()I" } : Jvm.MethodName)) ∈ lw_all := lw_g (lw_at lw_m6 70 rfl) rfl
theorem q2315 : (Jvm.Cond.castable "WhalePost$Old" "WhalePost$Whale") ∈ lw_tbl := lw_at lw_m10 25 rfl
theorem q2331 : (Jvm.Cond.castable "WhalePost$Old" "java/lang/Object") ∈ lw_tbl := lw_at lw_m10 41 rfl
theorem in_X12 : ∀ w ∈ wsX120, w ∈ lw_all := lw_in wsX120 [986, 987, 988, 989] (by decide +kernel) (by decide +kernel)

/-! WhalePost$Box -/
set_option maxRecDepth 100000
def RX13 : String := "WhalePost$Box"
def TX13 : u_T := fun k => match k with
  | 0 => ("WhalePost$Box", "name", "Ljava/lang/String;", true)
  | 1 => ("WhalePost$Box", "from", "I", false)
  | 2 => ("WhalePost$Box", "to", "I", false)
  | 3 => ("WhalePost$Box", "weighs", "I", false)
  | _ => ("WhalePost$Box", "day", "I", false)
def tyX13 : Nat → FieldType := fun k => match k with
  | 0 => .object "java/lang/String"
  | 1 => .int
  | 2 => .int
  | 3 => .int
  | _ => .int
abbrev wsX130 : List Cond := u_ws RX13 TX13 5
theorem nmX13 : ∀ a, a < 5 → ∀ b, b < 5 → a ≠ b → (TX13 a).2.1 ≠ (TX13 b).2.1 := by decide +kernel
theorem tyX13_ok : ∀ k, k < 5 → parseFieldDescriptor (TX13 k).2.2.1 = some (tyX13 k) := by decide +kernel
abbrev cX13_init : ByteArray := prog_2_method_1_code
def yX13_init : MethodName := ⟨RX13, "<init>", "(Ljava/lang/String;)V"⟩
def dkwX13_init_0 : List UInt8 := [42, 183, 0, 1, 42, 43, 181, 0, 7, 177]
abbrev dktX13_init_0 : List UInt8 := dkwX13_init_0 ++ []
theorem dksX13_init_0 : cX13_init.data.toList.drop 0 = dktX13_init_0 := by decide +kernel
theorem dX13_init_0 : decode cX13_init 0 = .ok (.aload_n 0, 1) := dk_42 (dk_at dksX13_init_0 0 rfl rfl)
theorem dX13_init_1 : decode cX13_init 1 = .ok (.invokespecial 1, 3) := dk_183 0 1 (dk_at dksX13_init_0 1 rfl rfl)
theorem dX13_init_4 : decode cX13_init 4 = .ok (.aload_n 0, 1) := dk_42 (dk_at dksX13_init_0 4 rfl rfl)
theorem dX13_init_5 : decode cX13_init 5 = .ok (.aload_n 1, 1) := dk_43 (dk_at dksX13_init_0 5 rfl rfl)
theorem dX13_init_6 : decode cX13_init 6 = .ok (.putfield 7, 3) := dk_181 0 7 (dk_at dksX13_init_0 6 rfl rfl)
theorem dX13_init_9 : decode cX13_init 9 = .ok (.return_, 1) := dk_177 (dk_at dksX13_init_0 9 rfl rfl)
theorem q157 : (Jvm.Cond.initialized "WhalePost$Box") ∈ lw_all := lw_g (lw_at lw_m1 27 rfl) rfl
theorem q847 : (Jvm.Cond.selects "WhalePost$Box" ({ cls := "java/lang/Object", name := "getClass", desc := "()Ljava/lang/Class;" } : Jvm.MethodName) ({ cls := "java/lang/Object", name := "getClass", desc := "()Ljava/lang/Class;" } : Jvm.MethodName)) ∈ lw_all := lw_g (lw_at lw_m3 237 rfl) rfl
theorem q1003 : (Jvm.Cond.instantiable "WhalePost$Box" (5 : Nat)) ∈ lw_all := lw_g (lw_at lw_m4 153 rfl) rfl
theorem q1005 : (Jvm.Cond.instanceMethod ({ cls := "WhalePost$Box", name := "<init>", desc := "(Ljava/lang/String;)V" } : Jvm.MethodName)) ∈ lw_all := lw_g (lw_at lw_m4 155 rfl) rfl
theorem q1006 : (Jvm.Cond.code ({ cls := "WhalePost$Box", name := "<init>", desc := "(Ljava/lang/String;)V" } : Jvm.MethodName) prog_2_method_1_code (2 : Nat) (Option.none : Option Jvm.ClassFile.FieldType)) ∈ lw_all := lw_g (lw_at lw_m4 156 rfl) rfl
theorem q1007 : (Jvm.Cond.methodLink "WhalePost$Box" (1 : Nat) ({ cls := "java/lang/Object", name := "<init>", desc := "()V" } : Jvm.MethodName)) ∈ lw_all := lw_g (lw_at lw_m4 157 rfl) rfl
theorem q1008 : (Jvm.Cond.fieldLink "WhalePost$Box" (7 : Nat) "WhalePost$Box" "name" "Ljava/lang/String;") ∈ lw_all := lw_g (lw_at lw_m4 158 rfl) rfl
theorem q1019 : (Jvm.Cond.laysFinal "WhalePost$Box" "WhalePost$Box" "name" "Ljava/lang/String;") ∈ lw_all := lw_g (lw_at lw_m4 169 rfl) rfl
theorem q1020 : (Jvm.Cond.soleField "WhalePost$Box" "name") ∈ lw_all := lw_g (lw_at lw_m4 170 rfl) rfl
theorem q1021 : (Jvm.Cond.lays "WhalePost$Box" "WhalePost$Box" "from" "I") ∈ lw_all := lw_g (lw_at lw_m4 171 rfl) rfl
theorem q1022 : (Jvm.Cond.soleField "WhalePost$Box" "from") ∈ lw_all := lw_g (lw_at lw_m4 172 rfl) rfl
theorem q1023 : (Jvm.Cond.lays "WhalePost$Box" "WhalePost$Box" "to" "I") ∈ lw_all := lw_g (lw_at lw_m4 173 rfl) rfl
theorem q1024 : (Jvm.Cond.soleField "WhalePost$Box" "to") ∈ lw_all := lw_g (lw_at lw_m4 174 rfl) rfl
theorem q1025 : (Jvm.Cond.lays "WhalePost$Box" "WhalePost$Box" "weighs" "I") ∈ lw_all := lw_g (lw_at lw_m4 175 rfl) rfl
theorem q1026 : (Jvm.Cond.soleField "WhalePost$Box" "weighs") ∈ lw_all := lw_g (lw_at lw_m4 176 rfl) rfl
theorem q1027 : (Jvm.Cond.lays "WhalePost$Box" "WhalePost$Box" "day" "I") ∈ lw_all := lw_g (lw_at lw_m4 177 rfl) rfl
theorem q1028 : (Jvm.Cond.soleField "WhalePost$Box" "day") ∈ lw_all := lw_g (lw_at lw_m4 178 rfl) rfl
theorem q1029 : (Jvm.Cond.superclass "WhalePost$Box" "java/lang/Object") ∈ lw_all := lw_g (lw_at lw_m4 179 rfl) rfl
theorem q2332 : (Jvm.Cond.castable "WhalePost$Box" "java/lang/Object") ∈ lw_tbl := lw_at lw_m10 42 rfl
theorem in_X13 : ∀ w ∈ wsX130, w ∈ lw_all := lw_in wsX130 [1019, 1021, 1023, 1025, 1027] (by decide +kernel) (by decide +kernel)

/-! WhalePost$Spout -/
set_option maxRecDepth 100000
def RX14 : String := "WhalePost$Spout"
def TX14 : u_T := fun k => match k with
  | 0 => ("WhalePost$Spout", "whale", "I", true)
  | 1 => ("WhalePost$Spout", "island", "I", true)
  | _ => ("WhalePost$Spout", "day", "I", true)
def tyX14 : Nat → FieldType := fun k => match k with
  | 0 => .int
  | 1 => .int
  | _ => .int
abbrev wsX140 : List Cond := u_ws RX14 TX14 3
theorem nmX14 : ∀ a, a < 3 → ∀ b, b < 3 → a ≠ b → (TX14 a).2.1 ≠ (TX14 b).2.1 := by decide +kernel
theorem tyX14_ok : ∀ k, k < 3 → parseFieldDescriptor (TX14 k).2.2.1 = some (tyX14 k) := by decide +kernel
abbrev cX14_init : ByteArray := prog_10_method_1_code
def yX14_init : MethodName := ⟨RX14, "<init>", "(III)V"⟩
def dkwX14_init_0 : List UInt8 := [42, 183, 0, 1, 42, 27, 181, 0, 7, 42, 28, 181, 0, 13, 42, 29, 181, 0, 16, 177]
abbrev dktX14_init_0 : List UInt8 := dkwX14_init_0 ++ []
theorem dksX14_init_0 : cX14_init.data.toList.drop 0 = dktX14_init_0 := by decide +kernel
theorem dX14_init_0 : decode cX14_init 0 = .ok (.aload_n 0, 1) := dk_42 (dk_at dksX14_init_0 0 rfl rfl)
theorem dX14_init_1 : decode cX14_init 1 = .ok (.invokespecial 1, 3) := dk_183 0 1 (dk_at dksX14_init_0 1 rfl rfl)
theorem dX14_init_4 : decode cX14_init 4 = .ok (.aload_n 0, 1) := dk_42 (dk_at dksX14_init_0 4 rfl rfl)
theorem dX14_init_5 : decode cX14_init 5 = .ok (.iload_n 1, 1) := dk_27 (dk_at dksX14_init_0 5 rfl rfl)
theorem dX14_init_6 : decode cX14_init 6 = .ok (.putfield 7, 3) := dk_181 0 7 (dk_at dksX14_init_0 6 rfl rfl)
theorem dX14_init_9 : decode cX14_init 9 = .ok (.aload_n 0, 1) := dk_42 (dk_at dksX14_init_0 9 rfl rfl)
theorem dX14_init_10 : decode cX14_init 10 = .ok (.iload_n 2, 1) := dk_28 (dk_at dksX14_init_0 10 rfl rfl)
theorem dX14_init_11 : decode cX14_init 11 = .ok (.putfield 13, 3) := dk_181 0 13 (dk_at dksX14_init_0 11 rfl rfl)
theorem dX14_init_14 : decode cX14_init 14 = .ok (.aload_n 0, 1) := dk_42 (dk_at dksX14_init_0 14 rfl rfl)
theorem dX14_init_15 : decode cX14_init 15 = .ok (.iload_n 3, 1) := dk_29 (dk_at dksX14_init_0 15 rfl rfl)
theorem dX14_init_16 : decode cX14_init 16 = .ok (.putfield 16, 3) := dk_181 0 16 (dk_at dksX14_init_0 16 rfl rfl)
theorem dX14_init_19 : decode cX14_init 19 = .ok (.return_, 1) := dk_177 (dk_at dksX14_init_0 19 rfl rfl)
theorem q158 : (Jvm.Cond.initialized "WhalePost$Spout") ∈ lw_all := lw_g (lw_at lw_m1 28 rfl) rfl
theorem q855 : (Jvm.Cond.selects "WhalePost$Spout" ({ cls := "java/lang/Object", name := "getClass", desc := "()Ljava/lang/Class;" } : Jvm.MethodName) ({ cls := "java/lang/Object", name := "getClass", desc := "()Ljava/lang/Class;" } : Jvm.MethodName)) ∈ lw_all := lw_g (lw_at lw_m4 5 rfl) rfl
theorem q1045 : (Jvm.Cond.instantiable "WhalePost$Spout" (3 : Nat)) ∈ lw_all := lw_g (lw_at lw_m4 195 rfl) rfl
theorem q1047 : (Jvm.Cond.instanceMethod ({ cls := "WhalePost$Spout", name := "<init>", desc := "(III)V" } : Jvm.MethodName)) ∈ lw_all := lw_g (lw_at lw_m4 197 rfl) rfl
theorem q1048 : (Jvm.Cond.code ({ cls := "WhalePost$Spout", name := "<init>", desc := "(III)V" } : Jvm.MethodName) prog_10_method_1_code (4 : Nat) (Option.none : Option Jvm.ClassFile.FieldType)) ∈ lw_all := lw_g (lw_at lw_m4 198 rfl) rfl
theorem q1049 : (Jvm.Cond.methodLink "WhalePost$Spout" (1 : Nat) ({ cls := "java/lang/Object", name := "<init>", desc := "()V" } : Jvm.MethodName)) ∈ lw_all := lw_g (lw_at lw_m4 199 rfl) rfl
theorem q1050 : (Jvm.Cond.fieldLink "WhalePost$Spout" (7 : Nat) "WhalePost$Spout" "whale" "I") ∈ lw_all := lw_g (lw_at lw_m4 200 rfl) rfl
theorem q1053 : (Jvm.Cond.fieldLink "WhalePost$Spout" (13 : Nat) "WhalePost$Spout" "island" "I") ∈ lw_all := lw_g (lw_at lw_m4 203 rfl) rfl
theorem q1055 : (Jvm.Cond.fieldLink "WhalePost$Spout" (16 : Nat) "WhalePost$Spout" "day" "I") ∈ lw_all := lw_g (lw_at lw_m4 205 rfl) rfl
theorem q1058 : (Jvm.Cond.laysFinal "WhalePost$Spout" "WhalePost$Spout" "whale" "I") ∈ lw_all := lw_g (lw_at lw_m4 208 rfl) rfl
theorem q1059 : (Jvm.Cond.soleField "WhalePost$Spout" "whale") ∈ lw_all := lw_g (lw_at lw_m4 209 rfl) rfl
theorem q1060 : (Jvm.Cond.laysFinal "WhalePost$Spout" "WhalePost$Spout" "island" "I") ∈ lw_all := lw_g (lw_at lw_m4 210 rfl) rfl
theorem q1061 : (Jvm.Cond.soleField "WhalePost$Spout" "island") ∈ lw_all := lw_g (lw_at lw_m4 211 rfl) rfl
theorem q1062 : (Jvm.Cond.laysFinal "WhalePost$Spout" "WhalePost$Spout" "day" "I") ∈ lw_all := lw_g (lw_at lw_m4 212 rfl) rfl
theorem q1063 : (Jvm.Cond.soleField "WhalePost$Spout" "day") ∈ lw_all := lw_g (lw_at lw_m4 213 rfl) rfl
theorem q1064 : (Jvm.Cond.superclass "WhalePost$Spout" "java/lang/Object") ∈ lw_all := lw_g (lw_at lw_m4 214 rfl) rfl
theorem q2333 : (Jvm.Cond.castable "WhalePost$Spout" "java/lang/Object") ∈ lw_tbl := lw_at lw_m10 43 rfl
theorem in_X14 : ∀ w ∈ wsX140, w ∈ lw_all := lw_in wsX140 [1058, 1060, 1062] (by decide +kernel) (by decide +kernel)

/-! WhalePost$Desk -/
set_option maxRecDepth 100000
def RX15 : String := "WhalePost$Desk"
def TX15 : u_T := fun k => match k with
  | 0 => ("WhalePost$Desk", "at", "[I", true)
  | 1 => ("WhalePost$Desk", "free", "[I", true)
  | 2 => ("WhalePost$Desk", "came", "[I", true)
  | 3 => ("WhalePost$Desk", "got", "[I", true)
  | 4 => ("WhalePost$Desk", "songs", "[I", true)
  | 5 => ("WhalePost$Desk", "yea\x72", "I", false)
  | _ => ("WhalePost$Desk", "closed", "I", false)
def tyX15 : Nat → FieldType := fun k => match k with
  | 0 => .array .int
  | 1 => .array .int
  | 2 => .array .int
  | 3 => .array .int
  | 4 => .array .int
  | 5 => .int
  | _ => .int
abbrev wsX150 : List Cond := u_ws RX15 TX15 7
theorem nmX15 : ∀ a, a < 7 → ∀ b, b < 7 → a ≠ b → (TX15 a).2.1 ≠ (TX15 b).2.1 := by decide +kernel
theorem tyX15_ok : ∀ k, k < 7 → parseFieldDescriptor (TX15 k).2.2.1 = some (tyX15 k) := by decide +kernel
abbrev cX15_init : ByteArray := prog_5_method_1_code
def yX15_init : MethodName := ⟨RX15, "<init>", "()V"⟩
def dkwX15_init_1 : List UInt8 := [181, 0, 18, 42, 16, 8, 188, 10, 181, 0, 21, 42, 16, 48, 188, 10, 181, 0, 24, 177]
abbrev dktX15_init_1 : List UInt8 := dkwX15_init_1 ++ []
def dkwX15_init_0 : List UInt8 := [42, 183, 0, 3, 42, 8, 188, 10, 181, 0, 9, 42, 8, 188, 10, 181, 0, 15, 42, 16, 8, 188, 10]
abbrev dktX15_init_0 : List UInt8 := dkwX15_init_0 ++ dktX15_init_1
theorem dksX15_init_0 : cX15_init.data.toList.drop 0 = dktX15_init_0 := by decide +kernel
theorem dksX15_init_1 : cX15_init.data.toList.drop 23 = dktX15_init_1 := dk_seg dksX15_init_0 23 rfl rfl
theorem dX15_init_0 : decode cX15_init 0 = .ok (.aload_n 0, 1) := dk_42 (dk_at dksX15_init_0 0 rfl rfl)
theorem dX15_init_1 : decode cX15_init 1 = .ok (.invokespecial 3, 3) := dk_183 0 3 (dk_at dksX15_init_0 1 rfl rfl)
theorem dX15_init_4 : decode cX15_init 4 = .ok (.aload_n 0, 1) := dk_42 (dk_at dksX15_init_0 4 rfl rfl)
theorem dX15_init_5 : decode cX15_init 5 = .ok (.iconst 5, 1) := dk_8 (dk_at dksX15_init_0 5 rfl rfl)
theorem dX15_init_6 : decode cX15_init 6 = .ok (.newarray .int, 2) := dk_188_10 (dk_at dksX15_init_0 6 rfl rfl)
theorem dX15_init_8 : decode cX15_init 8 = .ok (.putfield 9, 3) := dk_181 0 9 (dk_at dksX15_init_0 8 rfl rfl)
theorem dX15_init_11 : decode cX15_init 11 = .ok (.aload_n 0, 1) := dk_42 (dk_at dksX15_init_0 11 rfl rfl)
theorem dX15_init_12 : decode cX15_init 12 = .ok (.iconst 5, 1) := dk_8 (dk_at dksX15_init_0 12 rfl rfl)
theorem dX15_init_13 : decode cX15_init 13 = .ok (.newarray .int, 2) := dk_188_10 (dk_at dksX15_init_0 13 rfl rfl)
theorem dX15_init_15 : decode cX15_init 15 = .ok (.putfield 15, 3) := dk_181 0 15 (dk_at dksX15_init_0 15 rfl rfl)
theorem dX15_init_18 : decode cX15_init 18 = .ok (.aload_n 0, 1) := dk_42 (dk_at dksX15_init_0 18 rfl rfl)
theorem dX15_init_19 : decode cX15_init 19 = .ok (.bipush 8, 2) := dk_16 8 (dk_at dksX15_init_0 19 rfl rfl)
theorem dX15_init_21 : decode cX15_init 21 = .ok (.newarray .int, 2) := dk_188_10 (dk_at dksX15_init_0 21 rfl rfl)
theorem dX15_init_23 : decode cX15_init 23 = .ok (.putfield 18, 3) := dk_181 0 18 (dk_at dksX15_init_1 0 rfl rfl)
theorem dX15_init_26 : decode cX15_init 26 = .ok (.aload_n 0, 1) := dk_42 (dk_at dksX15_init_1 3 rfl rfl)
theorem dX15_init_27 : decode cX15_init 27 = .ok (.bipush 8, 2) := dk_16 8 (dk_at dksX15_init_1 4 rfl rfl)
theorem dX15_init_29 : decode cX15_init 29 = .ok (.newarray .int, 2) := dk_188_10 (dk_at dksX15_init_1 6 rfl rfl)
theorem dX15_init_31 : decode cX15_init 31 = .ok (.putfield 21, 3) := dk_181 0 21 (dk_at dksX15_init_1 8 rfl rfl)
theorem dX15_init_34 : decode cX15_init 34 = .ok (.aload_n 0, 1) := dk_42 (dk_at dksX15_init_1 11 rfl rfl)
theorem dX15_init_35 : decode cX15_init 35 = .ok (.bipush 48, 2) := dk_16 48 (dk_at dksX15_init_1 12 rfl rfl)
theorem dX15_init_37 : decode cX15_init 37 = .ok (.newarray .int, 2) := dk_188_10 (dk_at dksX15_init_1 14 rfl rfl)
theorem dX15_init_39 : decode cX15_init 39 = .ok (.putfield 24, 3) := dk_181 0 24 (dk_at dksX15_init_1 16 rfl rfl)
theorem dX15_init_42 : decode cX15_init 42 = .ok (.return_, 1) := dk_177 (dk_at dksX15_init_1 19 rfl rfl)
abbrev cX15_begins : ByteArray := prog_5_method_2_code
def yX15_begins : MethodName := ⟨RX15, "begins", "(LWhalePost$Post;)V"⟩
def dkwX15_begins_6 : List UInt8 := [180, 0, 65, 29, 46, 79, 132, 3, 1, 167, 255, 191, 132, 2, 1, 167, 255, 172, 177]
abbrev dktX15_begins_6 : List UInt8 := dkwX15_begins_6 ++ []
def dkwX15_begins_5 : List UInt8 := [180, 0, 60, 43, 180, 0, 48, 28, 182, 0, 39, 192, 0, 51, 180, 0, 53, 182, 0, 39, 192, 0, 63]
abbrev dktX15_begins_5 : List UInt8 := dkwX15_begins_5 ++ dktX15_begins_6
def dkwX15_begins_4 : List UInt8 := [192, 0, 51, 180, 0, 53, 182, 0, 56, 162, 0, 49, 42, 180, 0, 24, 16, 6, 28, 104, 29, 96, 43]
abbrev dktX15_begins_4 : List UInt8 := dkwX15_begins_4 ++ dktX15_begins_5
def dkwX15_begins_3 : List UInt8 := [28, 43, 180, 0, 48, 182, 0, 33, 162, 0, 79, 3, 62, 29, 43, 43, 180, 0, 48, 28, 182, 0, 39]
abbrev dktX15_begins_3 : List UInt8 := dkwX15_begins_3 ++ dktX15_begins_4
def dkwX15_begins_2 : List UInt8 := [42, 180, 0, 18, 28, 16, 254, 79, 42, 180, 0, 21, 28, 16, 254, 79, 132, 2, 1, 167, 255, 231, 3, 61]
abbrev dktX15_begins_2 : List UInt8 := dkwX15_begins_2 ++ dktX15_begins_3
def dkwX15_begins_1 : List UInt8 := [182, 0, 39, 192, 0, 43, 180, 0, 45, 79, 132, 2, 1, 167, 255, 222, 3, 61, 28, 16, 8, 162, 0, 25]
abbrev dktX15_begins_1 : List UInt8 := dkwX15_begins_1 ++ dktX15_begins_2
def dkwX15_begins_0 : List UInt8 := [3, 61, 28, 43, 180, 0, 27, 182, 0, 33, 162, 0, 29, 42, 180, 0, 9, 28, 43, 180, 0, 27, 28]
abbrev dktX15_begins_0 : List UInt8 := dkwX15_begins_0 ++ dktX15_begins_1
theorem dksX15_begins_0 : cX15_begins.data.toList.drop 0 = dktX15_begins_0 := by decide +kernel
theorem dksX15_begins_1 : cX15_begins.data.toList.drop 23 = dktX15_begins_1 := dk_seg dksX15_begins_0 23 rfl rfl
theorem dksX15_begins_2 : cX15_begins.data.toList.drop 47 = dktX15_begins_2 := dk_seg dksX15_begins_1 24 rfl rfl
theorem dksX15_begins_3 : cX15_begins.data.toList.drop 71 = dktX15_begins_3 := dk_seg dksX15_begins_2 24 rfl rfl
theorem dksX15_begins_4 : cX15_begins.data.toList.drop 94 = dktX15_begins_4 := dk_seg dksX15_begins_3 23 rfl rfl
theorem dksX15_begins_5 : cX15_begins.data.toList.drop 117 = dktX15_begins_5 := dk_seg dksX15_begins_4 23 rfl rfl
theorem dksX15_begins_6 : cX15_begins.data.toList.drop 140 = dktX15_begins_6 := dk_seg dksX15_begins_5 23 rfl rfl
theorem dX15_begins_0 : decode cX15_begins 0 = .ok (.iconst 0, 1) := dk_3 (dk_at dksX15_begins_0 0 rfl rfl)
theorem dX15_begins_1 : decode cX15_begins 1 = .ok (.istore_n 2, 1) := dk_61 (dk_at dksX15_begins_0 1 rfl rfl)
theorem dX15_begins_2 : decode cX15_begins 2 = .ok (.iload_n 2, 1) := dk_28 (dk_at dksX15_begins_0 2 rfl rfl)
theorem dX15_begins_3 : decode cX15_begins 3 = .ok (.aload_n 1, 1) := dk_43 (dk_at dksX15_begins_0 3 rfl rfl)
theorem dX15_begins_4 : decode cX15_begins 4 = .ok (.getfield 27, 3) := dk_180 0 27 (dk_at dksX15_begins_0 4 rfl rfl)
theorem dX15_begins_7 : decode cX15_begins 7 = .ok (.invokevirtual 33, 3) := dk_182 0 33 (dk_at dksX15_begins_0 7 rfl rfl)
theorem dX15_begins_10 : decode cX15_begins 10 = .ok (.if_icmp .ge 29, 3) := dk_162 0 29 (dk_at dksX15_begins_0 10 rfl rfl)
theorem dX15_begins_13 : decode cX15_begins 13 = .ok (.aload_n 0, 1) := dk_42 (dk_at dksX15_begins_0 13 rfl rfl)
theorem dX15_begins_14 : decode cX15_begins 14 = .ok (.getfield 9, 3) := dk_180 0 9 (dk_at dksX15_begins_0 14 rfl rfl)
theorem dX15_begins_17 : decode cX15_begins 17 = .ok (.iload_n 2, 1) := dk_28 (dk_at dksX15_begins_0 17 rfl rfl)
theorem dX15_begins_18 : decode cX15_begins 18 = .ok (.aload_n 1, 1) := dk_43 (dk_at dksX15_begins_0 18 rfl rfl)
theorem dX15_begins_19 : decode cX15_begins 19 = .ok (.getfield 27, 3) := dk_180 0 27 (dk_at dksX15_begins_0 19 rfl rfl)
theorem dX15_begins_22 : decode cX15_begins 22 = .ok (.iload_n 2, 1) := dk_28 (dk_at dksX15_begins_0 22 rfl rfl)
theorem dX15_begins_23 : decode cX15_begins 23 = .ok (.invokevirtual 39, 3) := dk_182 0 39 (dk_at dksX15_begins_1 0 rfl rfl)
theorem dX15_begins_26 : decode cX15_begins 26 = .ok (.checkcast 43, 3) := dk_192 0 43 (dk_at dksX15_begins_1 3 rfl rfl)
theorem dX15_begins_29 : decode cX15_begins 29 = .ok (.getfield 45, 3) := dk_180 0 45 (dk_at dksX15_begins_1 6 rfl rfl)
theorem dX15_begins_32 : decode cX15_begins 32 = .ok (.iastore, 1) := dk_79 (dk_at dksX15_begins_1 9 rfl rfl)
theorem dX15_begins_33 : decode cX15_begins 33 = .ok (.iinc 2 1, 3) := dk_132 2 1 (dk_at dksX15_begins_1 10 rfl rfl)
theorem dX15_begins_36 : decode cX15_begins 36 = .ok (.goto (-34), 3) := dk_167 255 222 (dk_at dksX15_begins_1 13 rfl rfl)
theorem dX15_begins_39 : decode cX15_begins 39 = .ok (.iconst 0, 1) := dk_3 (dk_at dksX15_begins_1 16 rfl rfl)
theorem dX15_begins_40 : decode cX15_begins 40 = .ok (.istore_n 2, 1) := dk_61 (dk_at dksX15_begins_1 17 rfl rfl)
theorem dX15_begins_41 : decode cX15_begins 41 = .ok (.iload_n 2, 1) := dk_28 (dk_at dksX15_begins_1 18 rfl rfl)
theorem dX15_begins_42 : decode cX15_begins 42 = .ok (.bipush 8, 2) := dk_16 8 (dk_at dksX15_begins_1 19 rfl rfl)
theorem dX15_begins_44 : decode cX15_begins 44 = .ok (.if_icmp .ge 25, 3) := dk_162 0 25 (dk_at dksX15_begins_1 21 rfl rfl)
theorem dX15_begins_47 : decode cX15_begins 47 = .ok (.aload_n 0, 1) := dk_42 (dk_at dksX15_begins_2 0 rfl rfl)
theorem dX15_begins_48 : decode cX15_begins 48 = .ok (.getfield 18, 3) := dk_180 0 18 (dk_at dksX15_begins_2 1 rfl rfl)
theorem dX15_begins_51 : decode cX15_begins 51 = .ok (.iload_n 2, 1) := dk_28 (dk_at dksX15_begins_2 4 rfl rfl)
theorem dX15_begins_52 : decode cX15_begins 52 = .ok (.bipush (-2), 2) := dk_16 254 (dk_at dksX15_begins_2 5 rfl rfl)
theorem dX15_begins_54 : decode cX15_begins 54 = .ok (.iastore, 1) := dk_79 (dk_at dksX15_begins_2 7 rfl rfl)
theorem dX15_begins_55 : decode cX15_begins 55 = .ok (.aload_n 0, 1) := dk_42 (dk_at dksX15_begins_2 8 rfl rfl)
theorem dX15_begins_56 : decode cX15_begins 56 = .ok (.getfield 21, 3) := dk_180 0 21 (dk_at dksX15_begins_2 9 rfl rfl)
theorem dX15_begins_59 : decode cX15_begins 59 = .ok (.iload_n 2, 1) := dk_28 (dk_at dksX15_begins_2 12 rfl rfl)
theorem dX15_begins_60 : decode cX15_begins 60 = .ok (.bipush (-2), 2) := dk_16 254 (dk_at dksX15_begins_2 13 rfl rfl)
theorem dX15_begins_62 : decode cX15_begins 62 = .ok (.iastore, 1) := dk_79 (dk_at dksX15_begins_2 15 rfl rfl)
theorem dX15_begins_63 : decode cX15_begins 63 = .ok (.iinc 2 1, 3) := dk_132 2 1 (dk_at dksX15_begins_2 16 rfl rfl)
theorem dX15_begins_66 : decode cX15_begins 66 = .ok (.goto (-25), 3) := dk_167 255 231 (dk_at dksX15_begins_2 19 rfl rfl)
theorem dX15_begins_69 : decode cX15_begins 69 = .ok (.iconst 0, 1) := dk_3 (dk_at dksX15_begins_2 22 rfl rfl)
theorem dX15_begins_70 : decode cX15_begins 70 = .ok (.istore_n 2, 1) := dk_61 (dk_at dksX15_begins_2 23 rfl rfl)
theorem dX15_begins_71 : decode cX15_begins 71 = .ok (.iload_n 2, 1) := dk_28 (dk_at dksX15_begins_3 0 rfl rfl)
theorem dX15_begins_72 : decode cX15_begins 72 = .ok (.aload_n 1, 1) := dk_43 (dk_at dksX15_begins_3 1 rfl rfl)
theorem dX15_begins_73 : decode cX15_begins 73 = .ok (.getfield 48, 3) := dk_180 0 48 (dk_at dksX15_begins_3 2 rfl rfl)
theorem dX15_begins_76 : decode cX15_begins 76 = .ok (.invokevirtual 33, 3) := dk_182 0 33 (dk_at dksX15_begins_3 5 rfl rfl)
theorem dX15_begins_79 : decode cX15_begins 79 = .ok (.if_icmp .ge 79, 3) := dk_162 0 79 (dk_at dksX15_begins_3 8 rfl rfl)
theorem dX15_begins_82 : decode cX15_begins 82 = .ok (.iconst 0, 1) := dk_3 (dk_at dksX15_begins_3 11 rfl rfl)
theorem dX15_begins_83 : decode cX15_begins 83 = .ok (.istore_n 3, 1) := dk_62 (dk_at dksX15_begins_3 12 rfl rfl)
theorem dX15_begins_84 : decode cX15_begins 84 = .ok (.iload_n 3, 1) := dk_29 (dk_at dksX15_begins_3 13 rfl rfl)
theorem dX15_begins_85 : decode cX15_begins 85 = .ok (.aload_n 1, 1) := dk_43 (dk_at dksX15_begins_3 14 rfl rfl)
theorem dX15_begins_86 : decode cX15_begins 86 = .ok (.aload_n 1, 1) := dk_43 (dk_at dksX15_begins_3 15 rfl rfl)
theorem dX15_begins_87 : decode cX15_begins 87 = .ok (.getfield 48, 3) := dk_180 0 48 (dk_at dksX15_begins_3 16 rfl rfl)
theorem dX15_begins_90 : decode cX15_begins 90 = .ok (.iload_n 2, 1) := dk_28 (dk_at dksX15_begins_3 19 rfl rfl)
theorem dX15_begins_91 : decode cX15_begins 91 = .ok (.invokevirtual 39, 3) := dk_182 0 39 (dk_at dksX15_begins_3 20 rfl rfl)
theorem dX15_begins_94 : decode cX15_begins 94 = .ok (.checkcast 51, 3) := dk_192 0 51 (dk_at dksX15_begins_4 0 rfl rfl)
theorem dX15_begins_97 : decode cX15_begins 97 = .ok (.getfield 53, 3) := dk_180 0 53 (dk_at dksX15_begins_4 3 rfl rfl)
theorem dX15_begins_100 : decode cX15_begins 100 = .ok (.invokevirtual 56, 3) := dk_182 0 56 (dk_at dksX15_begins_4 6 rfl rfl)
theorem dX15_begins_103 : decode cX15_begins 103 = .ok (.if_icmp .ge 49, 3) := dk_162 0 49 (dk_at dksX15_begins_4 9 rfl rfl)
theorem dX15_begins_106 : decode cX15_begins 106 = .ok (.aload_n 0, 1) := dk_42 (dk_at dksX15_begins_4 12 rfl rfl)
theorem dX15_begins_107 : decode cX15_begins 107 = .ok (.getfield 24, 3) := dk_180 0 24 (dk_at dksX15_begins_4 13 rfl rfl)
theorem dX15_begins_110 : decode cX15_begins 110 = .ok (.bipush 6, 2) := dk_16 6 (dk_at dksX15_begins_4 16 rfl rfl)
theorem dX15_begins_112 : decode cX15_begins 112 = .ok (.iload_n 2, 1) := dk_28 (dk_at dksX15_begins_4 18 rfl rfl)
theorem dX15_begins_113 : decode cX15_begins 113 = .ok (.imul, 1) := dk_104 (dk_at dksX15_begins_4 19 rfl rfl)
theorem dX15_begins_114 : decode cX15_begins 114 = .ok (.iload_n 3, 1) := dk_29 (dk_at dksX15_begins_4 20 rfl rfl)
theorem dX15_begins_115 : decode cX15_begins 115 = .ok (.iadd, 1) := dk_96 (dk_at dksX15_begins_4 21 rfl rfl)
theorem dX15_begins_116 : decode cX15_begins 116 = .ok (.aload_n 1, 1) := dk_43 (dk_at dksX15_begins_4 22 rfl rfl)
theorem dX15_begins_117 : decode cX15_begins 117 = .ok (.getfield 60, 3) := dk_180 0 60 (dk_at dksX15_begins_5 0 rfl rfl)
theorem dX15_begins_120 : decode cX15_begins 120 = .ok (.aload_n 1, 1) := dk_43 (dk_at dksX15_begins_5 3 rfl rfl)
theorem dX15_begins_121 : decode cX15_begins 121 = .ok (.getfield 48, 3) := dk_180 0 48 (dk_at dksX15_begins_5 4 rfl rfl)
theorem dX15_begins_124 : decode cX15_begins 124 = .ok (.iload_n 2, 1) := dk_28 (dk_at dksX15_begins_5 7 rfl rfl)
theorem dX15_begins_125 : decode cX15_begins 125 = .ok (.invokevirtual 39, 3) := dk_182 0 39 (dk_at dksX15_begins_5 8 rfl rfl)
theorem dX15_begins_128 : decode cX15_begins 128 = .ok (.checkcast 51, 3) := dk_192 0 51 (dk_at dksX15_begins_5 11 rfl rfl)
theorem dX15_begins_131 : decode cX15_begins 131 = .ok (.getfield 53, 3) := dk_180 0 53 (dk_at dksX15_begins_5 14 rfl rfl)
theorem dX15_begins_134 : decode cX15_begins 134 = .ok (.invokevirtual 39, 3) := dk_182 0 39 (dk_at dksX15_begins_5 17 rfl rfl)
theorem dX15_begins_137 : decode cX15_begins 137 = .ok (.checkcast 63, 3) := dk_192 0 63 (dk_at dksX15_begins_5 20 rfl rfl)
theorem dX15_begins_140 : decode cX15_begins 140 = .ok (.getfield 65, 3) := dk_180 0 65 (dk_at dksX15_begins_6 0 rfl rfl)
theorem dX15_begins_143 : decode cX15_begins 143 = .ok (.iload_n 3, 1) := dk_29 (dk_at dksX15_begins_6 3 rfl rfl)
theorem dX15_begins_144 : decode cX15_begins 144 = .ok (.iaload, 1) := dk_46 (dk_at dksX15_begins_6 4 rfl rfl)
theorem dX15_begins_145 : decode cX15_begins 145 = .ok (.iastore, 1) := dk_79 (dk_at dksX15_begins_6 5 rfl rfl)
theorem dX15_begins_146 : decode cX15_begins 146 = .ok (.iinc 3 1, 3) := dk_132 3 1 (dk_at dksX15_begins_6 6 rfl rfl)
theorem dX15_begins_149 : decode cX15_begins 149 = .ok (.goto (-65), 3) := dk_167 255 191 (dk_at dksX15_begins_6 9 rfl rfl)
theorem dX15_begins_152 : decode cX15_begins 152 = .ok (.iinc 2 1, 3) := dk_132 2 1 (dk_at dksX15_begins_6 12 rfl rfl)
theorem dX15_begins_155 : decode cX15_begins 155 = .ok (.goto (-84), 3) := dk_167 255 172 (dk_at dksX15_begins_6 15 rfl rfl)
theorem dX15_begins_158 : decode cX15_begins 158 = .ok (.return_, 1) := dk_177 (dk_at dksX15_begins_6 18 rfl rfl)
abbrev cX15_copy : ByteArray := prog_5_method_3_code
def yX15_copy : MethodName := ⟨RX15, "copy", "()LWhalePost$Desk;"⟩
def dkwX15_copy_4 : List UInt8 := [181, 0, 78, 43, 176]
abbrev dktX15_copy_4 : List UInt8 := dkwX15_copy_4 ++ []
def dkwX15_copy_3 : List UInt8 := [3, 43, 180, 0, 24, 3, 16, 48, 184, 0, 69, 43, 42, 180, 0, 75, 181, 0, 75, 43, 42, 180, 0, 78]
abbrev dktX15_copy_3 : List UInt8 := dkwX15_copy_3 ++ dktX15_copy_4
def dkwX15_copy_2 : List UInt8 := [16, 8, 184, 0, 69, 42, 180, 0, 21, 3, 43, 180, 0, 21, 3, 16, 8, 184, 0, 69, 42, 180, 0, 24]
abbrev dktX15_copy_2 : List UInt8 := dkwX15_copy_2 ++ dktX15_copy_3
def dkwX15_copy_1 : List UInt8 := [180, 0, 15, 3, 43, 180, 0, 15, 3, 8, 184, 0, 69, 42, 180, 0, 18, 3, 43, 180, 0, 18, 3]
abbrev dktX15_copy_1 : List UInt8 := dkwX15_copy_1 ++ dktX15_copy_2
def dkwX15_copy_0 : List UInt8 := [187, 0, 10, 89, 183, 0, 68, 76, 42, 180, 0, 9, 3, 43, 180, 0, 9, 3, 8, 184, 0, 69, 42]
abbrev dktX15_copy_0 : List UInt8 := dkwX15_copy_0 ++ dktX15_copy_1
theorem dksX15_copy_0 : cX15_copy.data.toList.drop 0 = dktX15_copy_0 := by decide +kernel
theorem dksX15_copy_1 : cX15_copy.data.toList.drop 23 = dktX15_copy_1 := dk_seg dksX15_copy_0 23 rfl rfl
theorem dksX15_copy_2 : cX15_copy.data.toList.drop 46 = dktX15_copy_2 := dk_seg dksX15_copy_1 23 rfl rfl
theorem dksX15_copy_3 : cX15_copy.data.toList.drop 70 = dktX15_copy_3 := dk_seg dksX15_copy_2 24 rfl rfl
theorem dksX15_copy_4 : cX15_copy.data.toList.drop 94 = dktX15_copy_4 := dk_seg dksX15_copy_3 24 rfl rfl
theorem dX15_copy_0 : decode cX15_copy 0 = .ok (.new 10, 3) := dk_187 0 10 (dk_at dksX15_copy_0 0 rfl rfl)
theorem dX15_copy_3 : decode cX15_copy 3 = .ok (.dup, 1) := dk_89 (dk_at dksX15_copy_0 3 rfl rfl)
theorem dX15_copy_4 : decode cX15_copy 4 = .ok (.invokespecial 68, 3) := dk_183 0 68 (dk_at dksX15_copy_0 4 rfl rfl)
theorem dX15_copy_7 : decode cX15_copy 7 = .ok (.astore_n 1, 1) := dk_76 (dk_at dksX15_copy_0 7 rfl rfl)
theorem dX15_copy_8 : decode cX15_copy 8 = .ok (.aload_n 0, 1) := dk_42 (dk_at dksX15_copy_0 8 rfl rfl)
theorem dX15_copy_9 : decode cX15_copy 9 = .ok (.getfield 9, 3) := dk_180 0 9 (dk_at dksX15_copy_0 9 rfl rfl)
theorem dX15_copy_12 : decode cX15_copy 12 = .ok (.iconst 0, 1) := dk_3 (dk_at dksX15_copy_0 12 rfl rfl)
theorem dX15_copy_13 : decode cX15_copy 13 = .ok (.aload_n 1, 1) := dk_43 (dk_at dksX15_copy_0 13 rfl rfl)
theorem dX15_copy_14 : decode cX15_copy 14 = .ok (.getfield 9, 3) := dk_180 0 9 (dk_at dksX15_copy_0 14 rfl rfl)
theorem dX15_copy_17 : decode cX15_copy 17 = .ok (.iconst 0, 1) := dk_3 (dk_at dksX15_copy_0 17 rfl rfl)
theorem dX15_copy_18 : decode cX15_copy 18 = .ok (.iconst 5, 1) := dk_8 (dk_at dksX15_copy_0 18 rfl rfl)
theorem dX15_copy_19 : decode cX15_copy 19 = .ok (.invokestatic 69, 3) := dk_184 0 69 (dk_at dksX15_copy_0 19 rfl rfl)
theorem dX15_copy_22 : decode cX15_copy 22 = .ok (.aload_n 0, 1) := dk_42 (dk_at dksX15_copy_0 22 rfl rfl)
theorem dX15_copy_23 : decode cX15_copy 23 = .ok (.getfield 15, 3) := dk_180 0 15 (dk_at dksX15_copy_1 0 rfl rfl)
theorem dX15_copy_26 : decode cX15_copy 26 = .ok (.iconst 0, 1) := dk_3 (dk_at dksX15_copy_1 3 rfl rfl)
theorem dX15_copy_27 : decode cX15_copy 27 = .ok (.aload_n 1, 1) := dk_43 (dk_at dksX15_copy_1 4 rfl rfl)
theorem dX15_copy_28 : decode cX15_copy 28 = .ok (.getfield 15, 3) := dk_180 0 15 (dk_at dksX15_copy_1 5 rfl rfl)
theorem dX15_copy_31 : decode cX15_copy 31 = .ok (.iconst 0, 1) := dk_3 (dk_at dksX15_copy_1 8 rfl rfl)
theorem dX15_copy_32 : decode cX15_copy 32 = .ok (.iconst 5, 1) := dk_8 (dk_at dksX15_copy_1 9 rfl rfl)
theorem dX15_copy_33 : decode cX15_copy 33 = .ok (.invokestatic 69, 3) := dk_184 0 69 (dk_at dksX15_copy_1 10 rfl rfl)
theorem dX15_copy_36 : decode cX15_copy 36 = .ok (.aload_n 0, 1) := dk_42 (dk_at dksX15_copy_1 13 rfl rfl)
theorem dX15_copy_37 : decode cX15_copy 37 = .ok (.getfield 18, 3) := dk_180 0 18 (dk_at dksX15_copy_1 14 rfl rfl)
theorem dX15_copy_40 : decode cX15_copy 40 = .ok (.iconst 0, 1) := dk_3 (dk_at dksX15_copy_1 17 rfl rfl)
theorem dX15_copy_41 : decode cX15_copy 41 = .ok (.aload_n 1, 1) := dk_43 (dk_at dksX15_copy_1 18 rfl rfl)
theorem dX15_copy_42 : decode cX15_copy 42 = .ok (.getfield 18, 3) := dk_180 0 18 (dk_at dksX15_copy_1 19 rfl rfl)
theorem dX15_copy_45 : decode cX15_copy 45 = .ok (.iconst 0, 1) := dk_3 (dk_at dksX15_copy_1 22 rfl rfl)
theorem dX15_copy_46 : decode cX15_copy 46 = .ok (.bipush 8, 2) := dk_16 8 (dk_at dksX15_copy_2 0 rfl rfl)
theorem dX15_copy_48 : decode cX15_copy 48 = .ok (.invokestatic 69, 3) := dk_184 0 69 (dk_at dksX15_copy_2 2 rfl rfl)
theorem dX15_copy_51 : decode cX15_copy 51 = .ok (.aload_n 0, 1) := dk_42 (dk_at dksX15_copy_2 5 rfl rfl)
theorem dX15_copy_52 : decode cX15_copy 52 = .ok (.getfield 21, 3) := dk_180 0 21 (dk_at dksX15_copy_2 6 rfl rfl)
theorem dX15_copy_55 : decode cX15_copy 55 = .ok (.iconst 0, 1) := dk_3 (dk_at dksX15_copy_2 9 rfl rfl)
theorem dX15_copy_56 : decode cX15_copy 56 = .ok (.aload_n 1, 1) := dk_43 (dk_at dksX15_copy_2 10 rfl rfl)
theorem dX15_copy_57 : decode cX15_copy 57 = .ok (.getfield 21, 3) := dk_180 0 21 (dk_at dksX15_copy_2 11 rfl rfl)
theorem dX15_copy_60 : decode cX15_copy 60 = .ok (.iconst 0, 1) := dk_3 (dk_at dksX15_copy_2 14 rfl rfl)
theorem dX15_copy_61 : decode cX15_copy 61 = .ok (.bipush 8, 2) := dk_16 8 (dk_at dksX15_copy_2 15 rfl rfl)
theorem dX15_copy_63 : decode cX15_copy 63 = .ok (.invokestatic 69, 3) := dk_184 0 69 (dk_at dksX15_copy_2 17 rfl rfl)
theorem dX15_copy_66 : decode cX15_copy 66 = .ok (.aload_n 0, 1) := dk_42 (dk_at dksX15_copy_2 20 rfl rfl)
theorem dX15_copy_67 : decode cX15_copy 67 = .ok (.getfield 24, 3) := dk_180 0 24 (dk_at dksX15_copy_2 21 rfl rfl)
theorem dX15_copy_70 : decode cX15_copy 70 = .ok (.iconst 0, 1) := dk_3 (dk_at dksX15_copy_3 0 rfl rfl)
theorem dX15_copy_71 : decode cX15_copy 71 = .ok (.aload_n 1, 1) := dk_43 (dk_at dksX15_copy_3 1 rfl rfl)
theorem dX15_copy_72 : decode cX15_copy 72 = .ok (.getfield 24, 3) := dk_180 0 24 (dk_at dksX15_copy_3 2 rfl rfl)
theorem dX15_copy_75 : decode cX15_copy 75 = .ok (.iconst 0, 1) := dk_3 (dk_at dksX15_copy_3 5 rfl rfl)
theorem dX15_copy_76 : decode cX15_copy 76 = .ok (.bipush 48, 2) := dk_16 48 (dk_at dksX15_copy_3 6 rfl rfl)
theorem dX15_copy_78 : decode cX15_copy 78 = .ok (.invokestatic 69, 3) := dk_184 0 69 (dk_at dksX15_copy_3 8 rfl rfl)
theorem dX15_copy_81 : decode cX15_copy 81 = .ok (.aload_n 1, 1) := dk_43 (dk_at dksX15_copy_3 11 rfl rfl)
theorem dX15_copy_82 : decode cX15_copy 82 = .ok (.aload_n 0, 1) := dk_42 (dk_at dksX15_copy_3 12 rfl rfl)
theorem dX15_copy_83 : decode cX15_copy 83 = .ok (.getfield 75, 3) := dk_180 0 75 (dk_at dksX15_copy_3 13 rfl rfl)
theorem dX15_copy_86 : decode cX15_copy 86 = .ok (.putfield 75, 3) := dk_181 0 75 (dk_at dksX15_copy_3 16 rfl rfl)
theorem dX15_copy_89 : decode cX15_copy 89 = .ok (.aload_n 1, 1) := dk_43 (dk_at dksX15_copy_3 19 rfl rfl)
theorem dX15_copy_90 : decode cX15_copy 90 = .ok (.aload_n 0, 1) := dk_42 (dk_at dksX15_copy_3 20 rfl rfl)
theorem dX15_copy_91 : decode cX15_copy 91 = .ok (.getfield 78, 3) := dk_180 0 78 (dk_at dksX15_copy_3 21 rfl rfl)
theorem dX15_copy_94 : decode cX15_copy 94 = .ok (.putfield 78, 3) := dk_181 0 78 (dk_at dksX15_copy_4 0 rfl rfl)
theorem dX15_copy_97 : decode cX15_copy 97 = .ok (.aload_n 1, 1) := dk_43 (dk_at dksX15_copy_4 3 rfl rfl)
theorem dX15_copy_98 : decode cX15_copy 98 = .ok (.areturn, 1) := dk_176 (dk_at dksX15_copy_4 4 rfl rfl)
theorem q159 : (Jvm.Cond.initialized "WhalePost$Desk") ∈ lw_all := lw_g (lw_at lw_m1 29 rfl) rfl
theorem q319 : (Jvm.Cond.fieldLink "WhalePost$Desk" (60 : Nat) "WhalePost$Post" "islands" "Ljava/util/ArrayList;") ∈ lw_all := lw_g (lw_at lw_m1 189 rfl) rfl
theorem q326 : (Jvm.Cond.fieldLink "WhalePost$Desk" (27 : Nat) "WhalePost$Post" "whales" "Ljava/util/ArrayList;") ∈ lw_all := lw_g (lw_at lw_m1 196 rfl) rfl
theorem q330 : (Jvm.Cond.fieldLink "WhalePost$Desk" (48 : Nat) "WhalePost$Post" "boxes" "Ljava/util/ArrayList;") ∈ lw_all := lw_g (lw_at lw_m1 200 rfl) rfl
theorem q815 : (Jvm.Cond.fieldLink "WhalePost$Desk" (65 : Nat) "WhalePost$Island" "song" "[I") ∈ lw_all := lw_g (lw_at lw_m3 205 rfl) rfl
theorem q850 : (Jvm.Cond.selects "WhalePost$Desk" ({ cls := "java/lang/Object", name := "getClass", desc := "()Ljava/lang/Class;" } : Jvm.MethodName) ({ cls := "java/lang/Object", name := "getClass", desc := "()Ljava/lang/Class;" } : Jvm.MethodName)) ∈ lw_all := lw_g (lw_at lw_m4 0 rfl) rfl
theorem q945 : (Jvm.Cond.fieldLink "WhalePost$Desk" (45 : Nat) "WhalePost$Whale" "at" "I") ∈ lw_all := lw_g (lw_at lw_m4 95 rfl) rfl
theorem q1012 : (Jvm.Cond.fieldLink "WhalePost$Desk" (53 : Nat) "WhalePost$Box" "to" "I") ∈ lw_all := lw_g (lw_at lw_m4 162 rfl) rfl
theorem q1074 : (Jvm.Cond.instantiable "WhalePost$Desk" (7 : Nat)) ∈ lw_all := lw_g (lw_at lw_m4 224 rfl) rfl
theorem q1076 : (Jvm.Cond.instanceMethod ({ cls := "WhalePost$Desk", name := "<init>", desc := "()V" } : Jvm.MethodName)) ∈ lw_all := lw_g (lw_at lw_m4 226 rfl) rfl
theorem q1077 : (Jvm.Cond.code ({ cls := "WhalePost$Desk", name := "<init>", desc := "()V" } : Jvm.MethodName) prog_5_method_1_code (1 : Nat) (Option.none : Option Jvm.ClassFile.FieldType)) ∈ lw_all := lw_g (lw_at lw_m4 227 rfl) rfl
theorem q1078 : (Jvm.Cond.methodLink "WhalePost$Desk" (3 : Nat) ({ cls := "java/lang/Object", name := "<init>", desc := "()V" } : Jvm.MethodName)) ∈ lw_all := lw_g (lw_at lw_m4 228 rfl) rfl
theorem q1079 : (Jvm.Cond.fieldLink "WhalePost$Desk" (9 : Nat) "WhalePost$Desk" "at" "[I") ∈ lw_all := lw_g (lw_at lw_m4 229 rfl) rfl
theorem q1081 : (Jvm.Cond.fieldLink "WhalePost$Desk" (15 : Nat) "WhalePost$Desk" "free" "[I") ∈ lw_all := lw_g (lw_at lw_m4 231 rfl) rfl
theorem q1083 : (Jvm.Cond.fieldLink "WhalePost$Desk" (18 : Nat) "WhalePost$Desk" "came" "[I") ∈ lw_all := lw_g (lw_at lw_m4 233 rfl) rfl
theorem q1085 : (Jvm.Cond.fieldLink "WhalePost$Desk" (21 : Nat) "WhalePost$Desk" "got" "[I") ∈ lw_all := lw_g (lw_at lw_m4 235 rfl) rfl
theorem q1087 : (Jvm.Cond.fieldLink "WhalePost$Desk" (24 : Nat) "WhalePost$Desk" "songs" "[I") ∈ lw_all := lw_g (lw_at lw_m4 237 rfl) rfl
theorem q1089 : (Jvm.Cond.fieldLink "WhalePost$Desk" (75 : Nat) "WhalePost$Desk" "yea\x72" "I") ∈ lw_all := lw_g (lw_at lw_m4 239 rfl) rfl
theorem q1091 : (Jvm.Cond.fieldLink "WhalePost$Desk" (78 : Nat) "WhalePost$Desk" "closed" "I") ∈ lw_all := lw_g (lw_at lw_m5 1 rfl) rfl
theorem q1093 : (Jvm.Cond.laysFinal "WhalePost$Desk" "WhalePost$Desk" "at" "[I") ∈ lw_all := lw_g (lw_at lw_m5 3 rfl) rfl
theorem q1094 : (Jvm.Cond.soleField "WhalePost$Desk" "at") ∈ lw_all := lw_g (lw_at lw_m5 4 rfl) rfl
theorem q1095 : (Jvm.Cond.laysFinal "WhalePost$Desk" "WhalePost$Desk" "free" "[I") ∈ lw_all := lw_g (lw_at lw_m5 5 rfl) rfl
theorem q1096 : (Jvm.Cond.soleField "WhalePost$Desk" "free") ∈ lw_all := lw_g (lw_at lw_m5 6 rfl) rfl
theorem q1097 : (Jvm.Cond.laysFinal "WhalePost$Desk" "WhalePost$Desk" "came" "[I") ∈ lw_all := lw_g (lw_at lw_m5 7 rfl) rfl
theorem q1098 : (Jvm.Cond.soleField "WhalePost$Desk" "came") ∈ lw_all := lw_g (lw_at lw_m5 8 rfl) rfl
theorem q1099 : (Jvm.Cond.laysFinal "WhalePost$Desk" "WhalePost$Desk" "got" "[I") ∈ lw_all := lw_g (lw_at lw_m5 9 rfl) rfl
theorem q1100 : (Jvm.Cond.soleField "WhalePost$Desk" "got") ∈ lw_all := lw_g (lw_at lw_m5 10 rfl) rfl
theorem q1101 : (Jvm.Cond.laysFinal "WhalePost$Desk" "WhalePost$Desk" "songs" "[I") ∈ lw_all := lw_g (lw_at lw_m5 11 rfl) rfl
theorem q1102 : (Jvm.Cond.soleField "WhalePost$Desk" "songs") ∈ lw_all := lw_g (lw_at lw_m5 12 rfl) rfl
theorem q1103 : (Jvm.Cond.lays "WhalePost$Desk" "WhalePost$Desk" "yea\x72" "I") ∈ lw_all := lw_g (lw_at lw_m5 13 rfl) rfl
theorem q1104 : (Jvm.Cond.soleField "WhalePost$Desk" "yea\x72") ∈ lw_all := lw_g (lw_at lw_m5 14 rfl) rfl
theorem q1105 : (Jvm.Cond.lays "WhalePost$Desk" "WhalePost$Desk" "closed" "I") ∈ lw_all := lw_g (lw_at lw_m5 15 rfl) rfl
theorem q1106 : (Jvm.Cond.soleField "WhalePost$Desk" "closed") ∈ lw_all := lw_g (lw_at lw_m5 16 rfl) rfl
theorem q1107 : (Jvm.Cond.superclass "WhalePost$Desk" "java/lang/Object") ∈ lw_all := lw_g (lw_at lw_m5 17 rfl) rfl
theorem q1109 : (Jvm.Cond.instanceMethod ({ cls := "WhalePost$Desk", name := "begins", desc := "(LWhalePost$Post;)V" } : Jvm.MethodName)) ∈ lw_all := lw_g (lw_at lw_m5 19 rfl) rfl
theorem q1110 : (Jvm.Cond.selects "WhalePost$Desk" ({ cls := "WhalePost$Desk", name := "begins", desc := "(LWhalePost$Post;)V" } : Jvm.MethodName) ({ cls := "WhalePost$Desk", name := "begins", desc := "(LWhalePost$Post;)V" } : Jvm.MethodName)) ∈ lw_all := lw_g (lw_at lw_m5 20 rfl) rfl
theorem q1111 : (Jvm.Cond.code ({ cls := "WhalePost$Desk", name := "begins", desc := "(LWhalePost$Post;)V" } : Jvm.MethodName) prog_5_method_2_code (4 : Nat) (Option.none : Option Jvm.ClassFile.FieldType)) ∈ lw_all := lw_g (lw_at lw_m5 21 rfl) rfl
theorem q1112 : (Jvm.Cond.methodLink "WhalePost$Desk" (33 : Nat) ({ cls := "java/util/ArrayList", name := "size", desc := "()I" } : Jvm.MethodName)) ∈ lw_all := lw_g (lw_at lw_m5 22 rfl) rfl
theorem q1113 : (Jvm.Cond.methodLink "WhalePost$Desk" (39 : Nat) ({ cls := "java/util/ArrayList", name := "get", desc := "(I)Ljava/lang/Object;" } : Jvm.MethodName)) ∈ lw_all := lw_g (lw_at lw_m5 23 rfl) rfl
theorem q1114 : (Jvm.Cond.classLink "WhalePost$Desk" (43 : Nat) "WhalePost$Whale") ∈ lw_all := lw_g (lw_at lw_m5 24 rfl) rfl
theorem q1115 : (Jvm.Cond.classLink "WhalePost$Desk" (51 : Nat) "WhalePost$Box") ∈ lw_all := lw_g (lw_at lw_m5 25 rfl) rfl
theorem q1116 : (Jvm.Cond.methodLink "WhalePost$Desk" (56 : Nat) ({ cls := "WhalePost$Post", name := "length", desc := "(I)I" } : Jvm.MethodName)) ∈ lw_all := lw_g (lw_at lw_m5 26 rfl) rfl
theorem q1117 : (Jvm.Cond.classLink "WhalePost$Desk" (63 : Nat) "WhalePost$Island") ∈ lw_all := lw_g (lw_at lw_m5 27 rfl) rfl
theorem q1551 : (Jvm.Cond.instanceMethod ({ cls := "WhalePost$Desk", name := "copy", desc := "()LWhalePost$Desk;" } : Jvm.MethodName)) ∈ lw_all := lw_g (lw_at lw_m6 221 rfl) rfl
theorem q1552 : (Jvm.Cond.selects "WhalePost$Desk" ({ cls := "WhalePost$Desk", name := "copy", desc := "()LWhalePost$Desk;" } : Jvm.MethodName) ({ cls := "WhalePost$Desk", name := "copy", desc := "()LWhalePost$Desk;" } : Jvm.MethodName)) ∈ lw_all := lw_g (lw_at lw_m6 222 rfl) rfl
theorem q1553 : (Jvm.Cond.code ({ cls := "WhalePost$Desk", name := "copy", desc := "()LWhalePost$Desk;" } : Jvm.MethodName) prog_5_method_3_code (2 : Nat) (Option.some (Jvm.ClassFile.FieldType.object "WhalePost$Desk"))) ∈ lw_all := lw_g (lw_at lw_m6 223 rfl) rfl
theorem q1554 : (Jvm.Cond.classLink "WhalePost$Desk" (10 : Nat) "WhalePost$Desk") ∈ lw_all := lw_g (lw_at lw_m6 224 rfl) rfl
theorem q1555 : (Jvm.Cond.methodLink "WhalePost$Desk" (68 : Nat) ({ cls := "WhalePost$Desk", name := "<init>", desc := "()V" } : Jvm.MethodName)) ∈ lw_all := lw_g (lw_at lw_m6 225 rfl) rfl
theorem q1556 : (Jvm.Cond.methodLink "WhalePost$Desk" (69 : Nat) ({ cls := "java/lang/System", name := "arraycopy", desc := "(Ljava/lang/Object;ILjava/lang/Object;II)V" } : Jvm.MethodName)) ∈ lw_all := lw_g (lw_at lw_m6 226 rfl) rfl
theorem q2334 : (Jvm.Cond.castable "WhalePost$Desk" "java/lang/Object") ∈ lw_tbl := lw_at lw_m10 44 rfl
theorem in_X15 : ∀ w ∈ wsX150, w ∈ lw_all := lw_in wsX150 [1093, 1095, 1097, 1099, 1101, 1103, 1105] (by decide +kernel) (by decide +kernel)

