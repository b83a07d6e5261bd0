/-! CLASS TABLES, by gen/gen_tables.py: class numbers; their fields; words outside lw_all -/
set_option maxRecDepth 100000
def cls_ : List vw_C := [(RX1, TX1, 20), (RX2, TX2, 39), (RJ2, TJ2, 3), (RX3, TX3, 5), (RX4, TX4, 3), (RX5, TX5, 9), (RX6, TX6, 4), (RJ4, TJ4, 4), (RJ5, TJ5, 4), (RX7, TX7, 2), (RX8, TX8, 4), (RX10, TX10, 4), (RX9, TX9, 4), (RX11, TX11, 4), (RX12, TX12, 4), (RX13, TX13, 5), (RX14, TX14, 3), (RX15, TX15, 7), (RJ16, TJ16, 6)]
def cty_ (ci k : Nat) : FieldType := match ci with
  | 0 => tyX1 k
  | 1 => tyX2 k
  | 2 => tyJ2 k
  | 3 => tyX3 k
  | 4 => tyX4 k
  | 5 => tyX5 k
  | 6 => tyX6 k
  | 7 => tyJ4 k
  | 8 => tyJ5 k
  | 9 => tyX7 k
  | 10 => tyX8 k
  | 11 => tyX10 k
  | 12 => tyX9 k
  | 13 => tyX11 k
  | 14 => tyX12 k
  | 15 => tyX13 k
  | 16 => tyX14 k
  | 17 => tyX15 k
  | _ => tyJ16 k
theorem cls_in {ci : Nat} {C : String} {T : u_T} {N : Nat} (h : cls_[ci]? = some (C, T, N)) : ∀ w ∈ u_ws C T N, w ∈ lw_all := by
  match ci, h with
  | 0, h => have h : some (RX1, TX1, 20) = some (C, T, N) := h; cases h; exact in_X1
  | 1, h => have h : some (RX2, TX2, 39) = some (C, T, N) := h; cases h; exact in_X2
  | 2, h => have h : some (RJ2, TJ2, 3) = some (C, T, N) := h; cases h; exact in_J2
  | 3, h => have h : some (RX3, TX3, 5) = some (C, T, N) := h; cases h; exact in_X3
  | 4, h => have h : some (RX4, TX4, 3) = some (C, T, N) := h; cases h; exact in_X4
  | 5, h => have h : some (RX5, TX5, 9) = some (C, T, N) := h; cases h; exact in_X5
  | 6, h => have h : some (RX6, TX6, 4) = some (C, T, N) := h; cases h; exact in_X6
  | 7, h => have h : some (RJ4, TJ4, 4) = some (C, T, N) := h; cases h; exact in_J4
  | 8, h => have h : some (RJ5, TJ5, 4) = some (C, T, N) := h; cases h; exact in_J5
  | 9, h => have h : some (RX7, TX7, 2) = some (C, T, N) := h; cases h; exact in_X7
  | 10, h => have h : some (RX8, TX8, 4) = some (C, T, N) := h; cases h; exact in_X8
  | 11, h => have h : some (RX10, TX10, 4) = some (C, T, N) := h; cases h; exact in_X10
  | 12, h => have h : some (RX9, TX9, 4) = some (C, T, N) := h; cases h; exact in_X9
  | 13, h => have h : some (RX11, TX11, 4) = some (C, T, N) := h; cases h; exact in_X11
  | 14, h => have h : some (RX12, TX12, 4) = some (C, T, N) := h; cases h; exact in_X12
  | 15, h => have h : some (RX13, TX13, 5) = some (C, T, N) := h; cases h; exact in_X13
  | 16, h => have h : some (RX14, TX14, 3) = some (C, T, N) := h; cases h; exact in_X14
  | 17, h => have h : some (RX15, TX15, 7) = some (C, T, N) := h; cases h; exact in_X15
  | 18, h => have h : some (RJ16, TJ16, 6) = some (C, T, N) := h; cases h; exact in_J16
  | n + 19, h => rw [List.getElem?_eq_none (show 19 ≤ n + 19 by omega)] at h; cases h
theorem cls_ty {ci : Nat} {C : String} {T : u_T} {N : Nat} (h : cls_[ci]? = some (C, T, N)) : ∀ k, k < N → parseFieldDescriptor (T k).2.2.1 = some (cty_ ci k) := by
  match ci, h with
  | 0, h => have h : some (RX1, TX1, 20) = some (C, T, N) := h; cases h; exact tyX1_ok
  | 1, h => have h : some (RX2, TX2, 39) = some (C, T, N) := h; cases h; exact tyX2_ok
  | 2, h => have h : some (RJ2, TJ2, 3) = some (C, T, N) := h; cases h; exact tyJ2_ok
  | 3, h => have h : some (RX3, TX3, 5) = some (C, T, N) := h; cases h; exact tyX3_ok
  | 4, h => have h : some (RX4, TX4, 3) = some (C, T, N) := h; cases h; exact tyX4_ok
  | 5, h => have h : some (RX5, TX5, 9) = some (C, T, N) := h; cases h; exact tyX5_ok
  | 6, h => have h : some (RX6, TX6, 4) = some (C, T, N) := h; cases h; exact tyX6_ok
  | 7, h => have h : some (RJ4, TJ4, 4) = some (C, T, N) := h; cases h; exact tyJ4_ok
  | 8, h => have h : some (RJ5, TJ5, 4) = some (C, T, N) := h; cases h; exact tyJ5_ok
  | 9, h => have h : some (RX7, TX7, 2) = some (C, T, N) := h; cases h; exact tyX7_ok
  | 10, h => have h : some (RX8, TX8, 4) = some (C, T, N) := h; cases h; exact tyX8_ok
  | 11, h => have h : some (RX10, TX10, 4) = some (C, T, N) := h; cases h; exact tyX10_ok
  | 12, h => have h : some (RX9, TX9, 4) = some (C, T, N) := h; cases h; exact tyX9_ok
  | 13, h => have h : some (RX11, TX11, 4) = some (C, T, N) := h; cases h; exact tyX11_ok
  | 14, h => have h : some (RX12, TX12, 4) = some (C, T, N) := h; cases h; exact tyX12_ok
  | 15, h => have h : some (RX13, TX13, 5) = some (C, T, N) := h; cases h; exact tyX13_ok
  | 16, h => have h : some (RX14, TX14, 3) = some (C, T, N) := h; cases h; exact tyX14_ok
  | 17, h => have h : some (RX15, TX15, 7) = some (C, T, N) := h; cases h; exact tyX15_ok
  | 18, h => have h : some (RJ16, TJ16, 6) = some (C, T, N) := h; cases h; exact tyJ16_ok
  | n + 19, h => rw [List.getElem?_eq_none (show 19 ≤ n + 19 by omega)] at h; cases h
theorem cls_nm {ci : Nat} {C : String} {T : u_T} {N : Nat} (h : cls_[ci]? = some (C, T, N)) : ∀ a, a < N → ∀ b, b < N → a ≠ b → (T a).2.1 ≠ (T b).2.1 := by
  match ci, h with
  | 0, h => have h : some (RX1, TX1, 20) = some (C, T, N) := h; cases h; exact nmX1
  | 1, h => have h : some (RX2, TX2, 39) = some (C, T, N) := h; cases h; exact nmX2
  | 2, h => have h : some (RJ2, TJ2, 3) = some (C, T, N) := h; cases h; exact nmJ2
  | 3, h => have h : some (RX3, TX3, 5) = some (C, T, N) := h; cases h; exact nmX3
  | 4, h => have h : some (RX4, TX4, 3) = some (C, T, N) := h; cases h; exact nmX4
  | 5, h => have h : some (RX5, TX5, 9) = some (C, T, N) := h; cases h; exact nmX5
  | 6, h => have h : some (RX6, TX6, 4) = some (C, T, N) := h; cases h; exact nmX6
  | 7, h => have h : some (RJ4, TJ4, 4) = some (C, T, N) := h; cases h; exact nmJ4
  | 8, h => have h : some (RJ5, TJ5, 4) = some (C, T, N) := h; cases h; exact nmJ5
  | 9, h => have h : some (RX7, TX7, 2) = some (C, T, N) := h; cases h; exact nmX7
  | 10, h => have h : some (RX8, TX8, 4) = some (C, T, N) := h; cases h; exact nmX8
  | 11, h => have h : some (RX10, TX10, 4) = some (C, T, N) := h; cases h; exact nmX10
  | 12, h => have h : some (RX9, TX9, 4) = some (C, T, N) := h; cases h; exact nmX9
  | 13, h => have h : some (RX11, TX11, 4) = some (C, T, N) := h; cases h; exact nmX11
  | 14, h => have h : some (RX12, TX12, 4) = some (C, T, N) := h; cases h; exact nmX12
  | 15, h => have h : some (RX13, TX13, 5) = some (C, T, N) := h; cases h; exact nmX13
  | 16, h => have h : some (RX14, TX14, 3) = some (C, T, N) := h; cases h; exact nmX14
  | 17, h => have h : some (RX15, TX15, 7) = some (C, T, N) := h; cases h; exact nmX15
  | 18, h => have h : some (RJ16, TJ16, 6) = some (C, T, N) := h; cases h; exact nmJ16
  | n + 19, h => rw [List.getElem?_eq_none (show 19 ≤ n + 19 by omega)] at h; cases h
/-- a value of a field or of an array's place, by its type -/
def tv_ (ty : FieldType) (x : Int) (r : Option Nat) : Value := match ty with
  | .long => .long (Int64.ofInt x)
  | .object _ => va_rf r
  | .array _ => va_rf r
  | _ => .int (Int32.ofInt x)
theorem df_tv {ty : FieldType} (hf : ty ≠ .float ∧ ty ≠ .double) : defaultValue ty = tv_ ty 0 none := by
  cases ty <;> first | rfl | (exact absurd rfl hf.1) | (exact absurd rfl hf.2)
theorem cls_nf {ci : Nat} {C : String} {T : u_T} {N : Nat} (h : cls_[ci]? = some (C, T, N)) : ∀ k, k < N → cty_ ci k ≠ .float ∧ cty_ ci k ≠ .double := by
  match ci, h with
  | 0, h => have h : some (RX1, TX1, 20) = some (C, T, N) := h; cases h; exact (by decide +kernel : ∀ k, k < 20 → tyX1 k ≠ .float ∧ tyX1 k ≠ .double)
  | 1, h => have h : some (RX2, TX2, 39) = some (C, T, N) := h; cases h; exact (by decide +kernel : ∀ k, k < 39 → tyX2 k ≠ .float ∧ tyX2 k ≠ .double)
  | 2, h => have h : some (RJ2, TJ2, 3) = some (C, T, N) := h; cases h; exact (by decide +kernel : ∀ k, k < 3 → tyJ2 k ≠ .float ∧ tyJ2 k ≠ .double)
  | 3, h => have h : some (RX3, TX3, 5) = some (C, T, N) := h; cases h; exact (by decide +kernel : ∀ k, k < 5 → tyX3 k ≠ .float ∧ tyX3 k ≠ .double)
  | 4, h => have h : some (RX4, TX4, 3) = some (C, T, N) := h; cases h; exact (by decide +kernel : ∀ k, k < 3 → tyX4 k ≠ .float ∧ tyX4 k ≠ .double)
  | 5, h => have h : some (RX5, TX5, 9) = some (C, T, N) := h; cases h; exact (by decide +kernel : ∀ k, k < 9 → tyX5 k ≠ .float ∧ tyX5 k ≠ .double)
  | 6, h => have h : some (RX6, TX6, 4) = some (C, T, N) := h; cases h; exact (by decide +kernel : ∀ k, k < 4 → tyX6 k ≠ .float ∧ tyX6 k ≠ .double)
  | 7, h => have h : some (RJ4, TJ4, 4) = some (C, T, N) := h; cases h; exact (by decide +kernel : ∀ k, k < 4 → tyJ4 k ≠ .float ∧ tyJ4 k ≠ .double)
  | 8, h => have h : some (RJ5, TJ5, 4) = some (C, T, N) := h; cases h; exact (by decide +kernel : ∀ k, k < 4 → tyJ5 k ≠ .float ∧ tyJ5 k ≠ .double)
  | 9, h => have h : some (RX7, TX7, 2) = some (C, T, N) := h; cases h; exact (by decide +kernel : ∀ k, k < 2 → tyX7 k ≠ .float ∧ tyX7 k ≠ .double)
  | 10, h => have h : some (RX8, TX8, 4) = some (C, T, N) := h; cases h; exact (by decide +kernel : ∀ k, k < 4 → tyX8 k ≠ .float ∧ tyX8 k ≠ .double)
  | 11, h => have h : some (RX10, TX10, 4) = some (C, T, N) := h; cases h; exact (by decide +kernel : ∀ k, k < 4 → tyX10 k ≠ .float ∧ tyX10 k ≠ .double)
  | 12, h => have h : some (RX9, TX9, 4) = some (C, T, N) := h; cases h; exact (by decide +kernel : ∀ k, k < 4 → tyX9 k ≠ .float ∧ tyX9 k ≠ .double)
  | 13, h => have h : some (RX11, TX11, 4) = some (C, T, N) := h; cases h; exact (by decide +kernel : ∀ k, k < 4 → tyX11 k ≠ .float ∧ tyX11 k ≠ .double)
  | 14, h => have h : some (RX12, TX12, 4) = some (C, T, N) := h; cases h; exact (by decide +kernel : ∀ k, k < 4 → tyX12 k ≠ .float ∧ tyX12 k ≠ .double)
  | 15, h => have h : some (RX13, TX13, 5) = some (C, T, N) := h; cases h; exact (by decide +kernel : ∀ k, k < 5 → tyX13 k ≠ .float ∧ tyX13 k ≠ .double)
  | 16, h => have h : some (RX14, TX14, 3) = some (C, T, N) := h; cases h; exact (by decide +kernel : ∀ k, k < 3 → tyX14 k ≠ .float ∧ tyX14 k ≠ .double)
  | 17, h => have h : some (RX15, TX15, 7) = some (C, T, N) := h; cases h; exact (by decide +kernel : ∀ k, k < 7 → tyX15 k ≠ .float ∧ tyX15 k ≠ .double)
  | 18, h => have h : some (RJ16, TJ16, 6) = some (C, T, N) := h; cases h; exact (by decide +kernel : ∀ k, k < 6 → tyJ16 k ≠ .float ∧ tyJ16 k ≠ .double)
  | n + 19, h => rw [List.getElem?_eq_none (show 19 ≤ n + 19 by omega)] at h; cases h
theorem cls_df {ci : Nat} {C : String} {T : u_T} {N : Nat} (h : cls_[ci]? = some (C, T, N)) (k : Nat) (hk : k < N) : defaultValue (cty_ ci k) = tv_ (cty_ ci k) 0 none := df_tv (cls_nf h k hk)
def nwC_ : List (String × String) := [("java/lang/Throwable", "java/lang/Object"), ("java/util/NoSuchElementException", "java/util/NoSuchElementException"), ("java/util/NoSuchElementException", "java/lang/Object"), ("java/lang/System$2", "jdk/internal/access/JavaLangAccess"), ("java/lang/System$2", "java/lang/Object"), ("java/util/ArrayList", "java/lang/Object"), ("java/lang/StringBuilde\x72", "java/lang/Object"), ("java/lang/String", "java/lang/Object"), ("WhalePost", "java/lang/Object"), ("WhalePost$Calf", "WhalePost$Whale"), ("WhalePost$Calf", "java/lang/Object"), ("WhalePost$Bull", "WhalePost$Whale"), ("WhalePost$Bull", "java/lang/Object"), ("WhalePost$Old", "WhalePost$Whale"), ("WhalePost$Old", "java/lang/Object"), ("WhalePost$Box", "java/lang/Object"), ("WhalePost$Spout", "java/lang/Object"), ("WhalePost$Desk", "java/lang/Object"), ("WhalePostModel", "java/lang/Object"), ("WhalePost$Reade\x72", "java/lang/Object"), ("WhalePost$Tokens", "java/lang/Object"), ("WhalePost$Post", "java/lang/Object"), ("WhalePost$Token", "java/lang/Object"), ("WhalePost$Island", "java/lang/Object"), ("WhalePost$Way", "java/lang/Object"), ("WhalePost$Whale", "java/lang/Object"), ("[B", "java/lang/Cloneable"), ("[B", "java/lang/Object"), ("[I", "java/lang/Object"), ("[J", "java/lang/Object"), ("[Ljava/lang/Object;", "java/lang/Object")]
def nwF_ : List (String × Nat × String × String × String × String) := [("WhalePost", 97, "WhalePost$Reade\x72", "fault", "I", "WhalePost"), ("WhalePost", 101, "WhalePost$Reade\x72", "place", "I", "WhalePost")]
def nwM_ : List (String × Nat × MethodName × String) := [("WhalePost", 110, ⟨"WhalePost$Desk", "<init>", "()V"⟩, "WhalePost"), ("WhalePost$Reade\x72", 11, ⟨"WhalePost$Post", "<init>", "()V"⟩, "WhalePost"), ("WhalePost$Reade\x72", 63, ⟨"WhalePost", "in", "(III)Z"⟩, "WhalePost"), ("WhalePost$Tokens", 33, ⟨"WhalePost", "in", "(III)Z"⟩, "WhalePost"), ("WhalePost$Whale", 21, ⟨"WhalePost", "has", "(II)Z"⟩, "WhalePost")]
def nwD_ : List MethodName := [⟨"java/lang/Throwable", "<init>", "()V"⟩, ⟨"java/lang/Throwable", "<init>", "(Ljava/lang/String;)V"⟩, ⟨"java/lang/Exception", "<init>", "()V"⟩, ⟨"java/lang/Exception", "<init>", "(Ljava/lang/String;)V"⟩, ⟨"java/lang/RuntimeException", "<init>", "()V"⟩, ⟨"java/lang/RuntimeException", "<init>", "(Ljava/lang/String;)V"⟩, ⟨"java/lang/Object", "getClass", "()Ljava/lang/Class;"⟩, ⟨"jdk/internal/access/JavaLangAccess", "getUTF16Cha\x72", "([BI)C"⟩]
def lit_ : List (String × Nat × String) := [("WhalePostModel", 131, "post"), ("WhalePostModel", 211, "notes"), ("WhalePostModel", 217, "errors"), ("WhalePostModel", 219, "drift"), ("WhalePostModel", 221, "slip"), ("WhalePostModel", 133, "island"), ("WhalePostModel", 135, "way"), ("WhalePostModel", 137, "whale"), ("WhalePostModel", 139, "box"), ("WhalePostModel", 141, "spout"), ("WhalePostModel", 234, "days"), ("WhalePostModel", 235, "open"), ("WhalePostModel", 237, "calf"), ("WhalePostModel", 239, "cow"), ("WhalePostModel", 241, "bull"), ("WhalePostModel", 243, "old"), ("WhalePostModel", 245, "at"), ("WhalePostModel", 250, "keeps"), ("WhalePostModel", 252, "lost"), ("WhalePostModel", 254, "from"), ("WhalePostModel", 256, "to"), ("WhalePostModel", 258, "weighs"), ("WhalePostModel", 260, "day"), ("WhalePost$Reade\x72", 113, ""), ("WhalePost$Reade\x72", 120, "post"), ("WhalePost$Reade\x72", 125, "island"), ("WhalePost$Reade\x72", 126, "way"), ("WhalePost$Reade\x72", 128, "whale"), ("WhalePost$Reade\x72", 130, "box"), ("WhalePost$Reade\x72", 132, "spout"), ("WhalePost$Reade\x72", 148, "notes"), ("WhalePost$Reade\x72", 153, "errors"), ("WhalePost$Reade\x72", 155, "drift"), ("WhalePost$Reade\x72", 157, "slip"), ("WhalePost$Reade\x72", 221, "days"), ("WhalePost$Reade\x72", 225, "open"), ("WhalePost$Reade\x72", 229, "calf"), ("WhalePost$Reade\x72", 231, "cow"), ("WhalePost$Reade\x72", 233, "bull"), ("WhalePost$Reade\x72", 235, "old"), ("WhalePost$Reade\x72", 257, "at"), ("WhalePost$Reade\x72", 264, "keeps"), ("WhalePost$Reade\x72", 268, "lost"), ("WhalePost$Reade\x72", 278, "from"), ("WhalePost$Reade\x72", 282, "to"), ("WhalePost$Reade\x72", 286, "weighs"), ("WhalePost$Reade\x72", 290, "day"), ("WhalePost$Tokens", 28, ""), ("WhalePost$Token", 33, "post"), ("WhalePost$Token", 35, "island"), ("WhalePost$Token", 37, "way"), ("WhalePost$Token", 39, "whale"), ("WhalePost$Token", 41, "box"), ("WhalePost$Token", 43, "spout")]
def zst_ : List (String × String × String × Int32) := [("java/lang/String", "COMPACT_STRINGS", "Z", 1)]
