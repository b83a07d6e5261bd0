/-! THE ENGINE, part 2: plain instructions. Written by gen/gen_rules.py -/
set_option maxRecDepth 100000
section
variable {G : JG} {R : Room} {y : MethodName} {cc : ByteArray} {nL : Nat} {ret : Option FieldType} {σ0 σ : JH} {Z : List Frame → Array Value → State → State → Prop} {pc : Nat} {ev es : List (Option AV)} {st : List AV}
theorem go_lift {pc' : Nat} {st' : List AV} (f : ∀ (p : Program) (e : Env) (s : State) (m : MethodId) (args : Array Value) (below : List Frame) (meth : Method) (c : Code) (H : Heap) (locs : List Loc) (cells slots : Nat) (ls : Array Slot), Cx_ G R y cc nL ret σ0 p s m args meth c → lv_has ls nL (en_ 0 ev) → W p (gl_ G) e R s m args below meth c H locs cells slots (Z below args s) (F0 m pc' ls (st'.map av_)) → W p (gl_ G) e R s m args below meth c H locs cells slots (Z below args s) (F0 m pc ls (st.map av_)))
    (k : Go_ G R y cc nL ret σ0 Z pc' ev st' σ) : Go_ G R y cc nL ret σ0 Z pc ev st σ := fun p e s m args below meth c H locs cells slots ls C hr hl hv => f p e s m args below meth c H locs cells slots ls C hv (k p e s m args below meth c H locs cells slots ls C hr hl hv)
theorem g_iconst {n : Int} (hd : decode cc pc = .ok (.iconst n, 1)) (k : Go_ G R y cc nL ret σ0 Z (pc + 1) ev (I_ n :: st) σ) : Go_ G R y cc nL ret σ0 Z pc ev st σ := go_lift (fun p e s m args below meth c H locs cells slots ls C hv w => lv_iconst C.1 C.2.1 hd rfl w) k
theorem g_bipush {n : Int} (hd : decode cc pc = .ok (.bipush n, 2)) (h1 : -128 ≤ n) (h2 : n ≤ 127) (k : Go_ G R y cc nL ret σ0 Z (pc + 2) ev (I_ n :: st) σ) : Go_ G R y cc nL ret σ0 Z pc ev st σ := go_lift (fun p e s m args below meth c H locs cells slots ls C hv w => lv_bipush C.1 C.2.1 hd (Int8.toInt32_ofInt h1 h2) w) k
theorem g_sipush {n : Int} (hd : decode cc pc = .ok (.sipush n, 3)) (h1 : -32768 ≤ n) (h2 : n ≤ 32767) (k : Go_ G R y cc nL ret σ0 Z (pc + 3) ev (I_ n :: st) σ) : Go_ G R y cc nL ret σ0 Z pc ev st σ := go_lift (fun p e s m args below meth c H locs cells slots ls C hv w => lv_sipush C.1 C.2.1 hd (Int16.toInt32_ofInt h1 h2) w) k
theorem g_lconst {n : Fin 2} {x : Int} (hd : decode cc pc = .ok (.lconst n, 1)) (hx : Int64.ofNat (n : Nat) = Int64.ofInt x) (k : Go_ G R y cc nL ret σ0 Z (pc + 1) ev (L_ x :: st) σ) : Go_ G R y cc nL ret σ0 Z pc ev st σ := go_lift (fun p e s m args below meth c H locs cells slots ls C hv w => lv_lconst C.1 C.2.1 hd hx w) k
theorem g_null (hd : decode cc pc = .ok (.aconst_null, 1)) (k : Go_ G R y cc nL ret σ0 Z (pc + 1) ev (A_ none :: st) σ) : Go_ G R y cc nL ret σ0 Z pc ev st σ := go_lift (fun p e s m args below meth c H locs cells slots ls C hv w => lv_null C.1 C.2.1 hd w) k
theorem g_ldc {i : Nat} {v : Int32} {x : Int} (hq : Cond.constant y.cls i v ∈ lw_all) (hd : decode cc pc = .ok (.ldc i, 2)) (hx : v = Int32.ofInt x) (k : Go_ G R y cc nL ret σ0 Z (pc + 2) ev (I_ x :: st) σ) : Go_ G R y cc nL ret σ0 Z pc ev st σ := go_lift (fun p e s m args below meth c H locs cells slots ls C hv w => lv_ldc C.1 C.2.1 C.2.2.2.2.1 (C.2.2.2.2.2.1 _ hq) hd (by subst hx; exact w)) k
theorem g_ldcw {i : Nat} {v : Int32} {x : Int} (hq : Cond.constant y.cls i v ∈ lw_all) (hd : decode cc pc = .ok (.ldc_w i, 3)) (hx : v = Int32.ofInt x) (k : Go_ G R y cc nL ret σ0 Z (pc + 3) ev (I_ x :: st) σ) : Go_ G R y cc nL ret σ0 Z pc ev st σ := go_lift (fun p e s m args below meth c H locs cells slots ls C hv w => lv_ldcw C.1 C.2.1 C.2.2.2.2.1 (C.2.2.2.2.2.1 _ hq) hd (by subst hx; exact w)) k
theorem g_ldc2 {i : Nat} {v : Int64} {x : Int} (hq : Cond.constantLong y.cls i v ∈ lw_all) (hd : decode cc pc = .ok (.ldc2_w i, 3)) (hx : v = Int64.ofInt x) (k : Go_ G R y cc nL ret σ0 Z (pc + 3) ev (L_ x :: st) σ) : Go_ G R y cc nL ret σ0 Z pc ev st σ := go_lift (fun p e s m args below meth c H locs cells slots ls C hv w => lv_ldc2 C.1 C.2.1 C.2.2.2.2.1 (C.2.2.2.2.2.1 _ hq) hd (by subst hx; exact w)) k
theorem g_ldcS {i j : Nat} {tx : String} (hj : lit_[j]? = some (y.cls, i, tx)) (hd : decode cc pc = .ok (.ldc i, 2)) (k : Go_ G R y cc nL ret σ0 Z (pc + 2) ev (A_ (some (gK_ G j)) :: st) σ) : Go_ G R y cc nL ret σ0 Z pc ev st σ := go_lift (fun p e s m args below meth c H locs cells slots ls C hv w => va_ldcS C.1 C.2.1 C.2.2.2.2.1 (C.2.2.2.2.2.2.2.2.1.2.2.2.2.2.2.1 j _ hj) hd w) k
theorem g_iadd {a b : Int} (hd : decode cc pc = .ok (.iadd, 1)) (k : Go_ G R y cc nL ret σ0 Z (pc + 1) ev (I_ (a + b) :: st) σ) : Go_ G R y cc nL ret σ0 Z pc ev (I_ b :: I_ a :: st) σ := go_lift (fun p e s m args below meth c H locs cells slots ls C hv w => lv_iadd C.1 C.2.1 hd (by have e : av_ (I_ (a + b)) = .int (Int32.ofInt a + Int32.ofInt b) := congrArg Value.int (Int32.ofInt_add a b); rw [List.map_cons, e] at w; exact w)) k
theorem g_isub {a b : Int} (hd : decode cc pc = .ok (.isub, 1)) (k : Go_ G R y cc nL ret σ0 Z (pc + 1) ev (I_ (a - b) :: st) σ) : Go_ G R y cc nL ret σ0 Z pc ev (I_ b :: I_ a :: st) σ := go_lift (fun p e s m args below meth c H locs cells slots ls C hv w => lv_isub C.1 C.2.1 hd (by have e : av_ (I_ (a - b)) = .int (Int32.ofInt a - Int32.ofInt b) := congrArg Value.int (Int32.ofInt_sub a b); rw [List.map_cons, e] at w; exact w)) k
theorem g_imul {a b : Int} (hd : decode cc pc = .ok (.imul, 1)) (k : Go_ G R y cc nL ret σ0 Z (pc + 1) ev (I_ (a * b) :: st) σ) : Go_ G R y cc nL ret σ0 Z pc ev (I_ b :: I_ a :: st) σ := go_lift (fun p e s m args below meth c H locs cells slots ls C hv w => lv_imul C.1 C.2.1 hd (by have e : av_ (I_ (a * b)) = .int (Int32.ofInt a * Int32.ofInt b) := congrArg Value.int (Int32.ofInt_mul a b); rw [List.map_cons, e] at w; exact w)) k
theorem g_ladd {a b : Int} (hd : decode cc pc = .ok (.ladd, 1)) (k : Go_ G R y cc nL ret σ0 Z (pc + 1) ev (L_ (a + b) :: st) σ) : Go_ G R y cc nL ret σ0 Z pc ev (L_ b :: L_ a :: st) σ := go_lift (fun p e s m args below meth c H locs cells slots ls C hv w => lv_ladd C.1 C.2.1 hd (by have e : av_ (L_ (a + b)) = .long (Int64.ofInt a + Int64.ofInt b) := congrArg Value.long (Int64.ofInt_add a b); rw [List.map_cons, e] at w; exact w)) k
theorem g_lsub {a b : Int} (hd : decode cc pc = .ok (.lsub, 1)) (k : Go_ G R y cc nL ret σ0 Z (pc + 1) ev (L_ (a - b) :: st) σ) : Go_ G R y cc nL ret σ0 Z pc ev (L_ b :: L_ a :: st) σ := go_lift (fun p e s m args below meth c H locs cells slots ls C hv w => lv_lsub C.1 C.2.1 hd (by have e : av_ (L_ (a - b)) = .long (Int64.ofInt a - Int64.ofInt b) := congrArg Value.long (Int64.ofInt_sub a b); rw [List.map_cons, e] at w; exact w)) k
theorem g_lmul {a b : Int} (hd : decode cc pc = .ok (.lmul, 1)) (k : Go_ G R y cc nL ret σ0 Z (pc + 1) ev (L_ (a * b) :: st) σ) : Go_ G R y cc nL ret σ0 Z pc ev (L_ b :: L_ a :: st) σ := go_lift (fun p e s m args below meth c H locs cells slots ls C hv w => lv_lmul C.1 C.2.1 hd (by have e : av_ (L_ (a * b)) = .long (Int64.ofInt a * Int64.ofInt b) := congrArg Value.long (Int64.ofInt_mul a b); rw [List.map_cons, e] at w; exact w)) k
theorem g_ineg {a : Int} (hd : decode cc pc = .ok (.ineg, 1)) (k : Go_ G R y cc nL ret σ0 Z (pc + 1) ev (I_ (-a) :: st) σ) : Go_ G R y cc nL ret σ0 Z pc ev (I_ a :: st) σ := go_lift (fun p e s m args below meth c H locs cells slots ls C hv w => lv_ineg C.1 C.2.1 hd (by have e : av_ (I_ (-a)) = .int (-Int32.ofInt a) := congrArg Value.int (Int32.ofInt_neg a); rw [List.map_cons, e] at w; exact w)) k
theorem g_lneg {a : Int} (hd : decode cc pc = .ok (.lneg, 1)) (k : Go_ G R y cc nL ret σ0 Z (pc + 1) ev (L_ (-a) :: st) σ) : Go_ G R y cc nL ret σ0 Z pc ev (L_ a :: st) σ := go_lift (fun p e s m args below meth c H locs cells slots ls C hv w => lv_lneg C.1 C.2.1 hd (by have e : av_ (L_ (-a)) = .long (-Int64.ofInt a) := congrArg Value.long (Int64.ofInt_neg a); rw [List.map_cons, e] at w; exact w)) k
theorem mni_ : Int32.minValue.toInt = -2147483648 := by decide
theorem mxi_ : Int32.maxValue.toInt = 2147483647 := by decide
theorem mnl_ : Int64.minValue.toInt = -9223372036854775808 := by decide
theorem mxl_ : Int64.maxValue.toInt = 9223372036854775807 := by decide
/-- an int in range is what it says -/
theorem ti_ {a : Int} (h : -2147483648 ≤ a ∧ a < 2147483648) : (Int32.ofInt a).toInt = a := Int32.toInt_ofInt_of_le h.1 h.2
theorem tl_ {a : Int} (h : -9223372036854775808 ≤ a ∧ a < 9223372036854775808) : (Int64.ofInt a).toInt = a := Int64.toInt_ofInt_of_le h.1 h.2
theorem nz_ {b : Int} (h : 0 < b ∧ b < 2147483648) : ¬ Int32.ofInt b = 0 := fun q => by have e := ti_ (a := b) ⟨by omega, h.2⟩; rw [q] at e; simp at e; omega
theorem nzl_ {b : Int} (h : 0 < b ∧ b < 9223372036854775808) : ¬ Int64.ofInt b = 0 := fun q => by have e := tl_ (a := b) ⟨by omega, h.2⟩; rw [q] at e; simp at e; omega
theorem dvi_ {a b : Int} (ha : 0 ≤ a ∧ a < 2147483648) (hb : 0 < b ∧ b < 2147483648) : Int32.ofInt (a / b) = Int32.ofInt a / Int32.ofInt b := by
  have e := Int32.ofInt_tdiv (a := a) (b := b) (by rw [mni_]; omega) (by rw [mxi_]; omega) (by rw [mni_]; omega) (by rw [mxi_]; omega)
  rw [← e, Int.tdiv_eq_ediv_of_nonneg ha.1]
theorem rmi_ {a b : Int} (ha : 0 ≤ a ∧ a < 2147483648) (hb : 0 < b ∧ b < 2147483648) : Int32.ofInt (a % b) = Int32.ofInt a - Int32.ofInt a / Int32.ofInt b * Int32.ofInt b := by
  rw [← dvi_ ha hb, ← Int32.ofInt_mul, ← Int32.ofInt_sub]
  congr 1
  have := Int.mul_ediv_add_emod a b
  rw [Int.mul_comm] at this
  omega
theorem g_idiv {a b : Int} (hd : decode cc pc = .ok (.idiv, 1)) (h : (0 ≤ a ∧ a < 2147483648) ∧ (0 < b ∧ b < 2147483648)) (k : Go_ G R y cc nL ret σ0 Z (pc + 1) ev (I_ (a / b) :: st) σ) : Go_ G R y cc nL ret σ0 Z pc ev (I_ b :: I_ a :: st) σ := go_lift (fun p e s m args below meth c H locs cells slots ls C hv w => lv_idiv C.1 C.2.1 hd (nz_ h.2) (by have e : av_ (I_ (a / b)) = .int (Int32.ofInt a / Int32.ofInt b) := congrArg Value.int (dvi_ h.1 h.2); rw [List.map_cons, e] at w; exact w)) k
theorem g_irem {a b : Int} (hd : decode cc pc = .ok (.irem, 1)) (h : (0 ≤ a ∧ a < 2147483648) ∧ (0 < b ∧ b < 2147483648)) (k : Go_ G R y cc nL ret σ0 Z (pc + 1) ev (I_ (a % b) :: st) σ) : Go_ G R y cc nL ret σ0 Z pc ev (I_ b :: I_ a :: st) σ := go_lift (fun p e s m args below meth c H locs cells slots ls C hv w => lv_irem C.1 C.2.1 hd (nz_ h.2) (by have e : av_ (I_ (a % b)) = .int (Int32.ofInt a - Int32.ofInt a / Int32.ofInt b * Int32.ofInt b) := congrArg Value.int (rmi_ h.1 h.2); rw [List.map_cons, e] at w; exact w)) k
theorem dvl_ {a b : Int} (ha : 0 ≤ a ∧ a < 9223372036854775808) (hb : 0 < b ∧ b < 9223372036854775808) : Int64.ofInt (a / b) = Int64.ofInt a / Int64.ofInt b := by
  have e := Int64.ofInt_tdiv (a := a) (b := b) (by rw [mnl_]; omega) (by rw [mxl_]; omega) (by rw [mnl_]; omega) (by rw [mxl_]; omega)
  rw [← e, Int.tdiv_eq_ediv_of_nonneg ha.1]
theorem rml_ {a b : Int} (ha : 0 ≤ a ∧ a < 9223372036854775808) (hb : 0 < b ∧ b < 9223372036854775808) : Int64.ofInt (a % b) = Int64.ofInt a - Int64.ofInt a / Int64.ofInt b * Int64.ofInt b := by
  rw [← dvl_ ha hb, ← Int64.ofInt_mul, ← Int64.ofInt_sub]
  congr 1
  have := Int.mul_ediv_add_emod a b
  rw [Int.mul_comm] at this
  omega
theorem g_ldiv {a b : Int} (hd : decode cc pc = .ok (.ldiv, 1)) (h : (0 ≤ a ∧ a < 9223372036854775808) ∧ (0 < b ∧ b < 9223372036854775808)) (k : Go_ G R y cc nL ret σ0 Z (pc + 1) ev (L_ (a / b) :: st) σ) : Go_ G R y cc nL ret σ0 Z pc ev (L_ b :: L_ a :: st) σ := go_lift (fun p e s m args below meth c H locs cells slots ls C hv w => lv_ldiv C.1 C.2.1 hd (nzl_ h.2) (by have e : av_ (L_ (a / b)) = .long (Int64.ofInt a / Int64.ofInt b) := congrArg Value.long (dvl_ h.1 h.2); rw [List.map_cons, e] at w; exact w)) k
theorem g_lrem {a b : Int} (hd : decode cc pc = .ok (.lrem, 1)) (h : (0 ≤ a ∧ a < 9223372036854775808) ∧ (0 < b ∧ b < 9223372036854775808)) (k : Go_ G R y cc nL ret σ0 Z (pc + 1) ev (L_ (a % b) :: st) σ) : Go_ G R y cc nL ret σ0 Z pc ev (L_ b :: L_ a :: st) σ := go_lift (fun p e s m args below meth c H locs cells slots ls C hv w => lv_lrem C.1 C.2.1 hd (nzl_ h.2) (by have e : av_ (L_ (a % b)) = .long (Int64.ofInt a - Int64.ofInt a / Int64.ofInt b * Int64.ofInt b) := congrArg Value.long (rml_ h.1 h.2); rw [List.map_cons, e] at w; exact w)) k
def iand_ (a b : Int) : Int := (Int32.ofInt a &&& Int32.ofInt b).toInt
theorem g_iand {a b : Int} (hd : decode cc pc = .ok (.iand, 1)) (k : Go_ G R y cc nL ret σ0 Z (pc + 1) ev (I_ (iand_ a b) :: st) σ) : Go_ G R y cc nL ret σ0 Z pc ev (I_ b :: I_ a :: st) σ := go_lift (fun p e s m args below meth c H locs cells slots ls C hv w => lv_iand C.1 C.2.1 hd (by have e : av_ (I_ (iand_ a b)) = .int (Int32.ofInt a &&& Int32.ofInt b) := congrArg Value.int (Int32.ofInt_toInt _); rw [List.map_cons, e] at w; exact w)) k
def ior_ (a b : Int) : Int := (Int32.ofInt a ||| Int32.ofInt b).toInt
theorem g_ior {a b : Int} (hd : decode cc pc = .ok (.ior, 1)) (k : Go_ G R y cc nL ret σ0 Z (pc + 1) ev (I_ (ior_ a b) :: st) σ) : Go_ G R y cc nL ret σ0 Z pc ev (I_ b :: I_ a :: st) σ := go_lift (fun p e s m args below meth c H locs cells slots ls C hv w => lv_ior C.1 C.2.1 hd (by have e : av_ (I_ (ior_ a b)) = .int (Int32.ofInt a ||| Int32.ofInt b) := congrArg Value.int (Int32.ofInt_toInt _); rw [List.map_cons, e] at w; exact w)) k
def ixor_ (a b : Int) : Int := (Int32.ofInt a ^^^ Int32.ofInt b).toInt
theorem g_ixor {a b : Int} (hd : decode cc pc = .ok (.ixor, 1)) (k : Go_ G R y cc nL ret σ0 Z (pc + 1) ev (I_ (ixor_ a b) :: st) σ) : Go_ G R y cc nL ret σ0 Z pc ev (I_ b :: I_ a :: st) σ := go_lift (fun p e s m args below meth c H locs cells slots ls C hv w => lv_ixor C.1 C.2.1 hd (by have e : av_ (I_ (ixor_ a b)) = .int (Int32.ofInt a ^^^ Int32.ofInt b) := congrArg Value.int (Int32.ofInt_toInt _); rw [List.map_cons, e] at w; exact w)) k
def ishl_ (a b : Int) : Int := (Int32.ofInt a <<< (Int32.ofInt b &&& 31)).toInt
theorem g_ishl {a b : Int} (hd : decode cc pc = .ok (.ishl, 1)) (k : Go_ G R y cc nL ret σ0 Z (pc + 1) ev (I_ (ishl_ a b) :: st) σ) : Go_ G R y cc nL ret σ0 Z pc ev (I_ b :: I_ a :: st) σ := go_lift (fun p e s m args below meth c H locs cells slots ls C hv w => lv_ishl C.1 C.2.1 hd (by have e : av_ (I_ (ishl_ a b)) = .int (Int32.ofInt a <<< (Int32.ofInt b &&& 31)) := congrArg Value.int (Int32.ofInt_toInt _); rw [List.map_cons, e] at w; exact w)) k
def ishr_ (a b : Int) : Int := (Int32.ofInt a >>> (Int32.ofInt b &&& 31)).toInt
theorem g_ishr {a b : Int} (hd : decode cc pc = .ok (.ishr, 1)) (k : Go_ G R y cc nL ret σ0 Z (pc + 1) ev (I_ (ishr_ a b) :: st) σ) : Go_ G R y cc nL ret σ0 Z pc ev (I_ b :: I_ a :: st) σ := go_lift (fun p e s m args below meth c H locs cells slots ls C hv w => lv_ishr C.1 C.2.1 hd (by have e : av_ (I_ (ishr_ a b)) = .int (Int32.ofInt a >>> (Int32.ofInt b &&& 31)) := congrArg Value.int (Int32.ofInt_toInt _); rw [List.map_cons, e] at w; exact w)) k
def iushr_ (a b : Int) : Int := ((Int32.ofInt a).toUInt32 >>> ((Int32.ofInt b).toUInt32 &&& Int32.toUInt32 31)).toInt32.toInt
theorem g_iushr {a b : Int} (hd : decode cc pc = .ok (.iushr, 1)) (k : Go_ G R y cc nL ret σ0 Z (pc + 1) ev (I_ (iushr_ a b) :: st) σ) : Go_ G R y cc nL ret σ0 Z pc ev (I_ b :: I_ a :: st) σ := go_lift (fun p e s m args below meth c H locs cells slots ls C hv w => lv_iushr C.1 C.2.1 hd rfl (by have e : av_ (I_ (iushr_ a b)) = .int _ := congrArg Value.int (Int32.ofInt_toInt _); rw [List.map_cons, e] at w; exact w)) k
def i2b_ (a : Int) : Int := ((Int32.ofInt a).toInt8.toInt32).toInt
theorem g_i2b {a : Int} (hd : decode cc pc = .ok (.i2b, 1)) (k : Go_ G R y cc nL ret σ0 Z (pc + 1) ev (I_ (i2b_ a) :: st) σ) : Go_ G R y cc nL ret σ0 Z pc ev (I_ a :: st) σ := go_lift (fun p e s m args below meth c H locs cells slots ls C hv w => lv_i2b C.1 C.2.1 hd rfl (by have e : av_ (I_ (i2b_ a)) = .int _ := congrArg Value.int (Int32.ofInt_toInt _); rw [List.map_cons, e] at w; exact w)) k
def i2c_ (a : Int) : Int := (((Int32.ofInt a).toUInt32 % 65536).toInt32).toInt
theorem g_i2c {a : Int} (hd : decode cc pc = .ok (.i2c, 1)) (k : Go_ G R y cc nL ret σ0 Z (pc + 1) ev (I_ (i2c_ a) :: st) σ) : Go_ G R y cc nL ret σ0 Z pc ev (I_ a :: st) σ := go_lift (fun p e s m args below meth c H locs cells slots ls C hv w => lv_i2c C.1 C.2.1 hd rfl (by have e : av_ (I_ (i2c_ a)) = .int _ := congrArg Value.int (Int32.ofInt_toInt _); rw [List.map_cons, e] at w; exact w)) k
theorem g_i2l {a : Int} (hd : decode cc pc = .ok (.i2l, 1)) (h : -2147483648 ≤ a ∧ a < 2147483648) (k : Go_ G R y cc nL ret σ0 Z (pc + 1) ev (L_ a :: st) σ) : Go_ G R y cc nL ret σ0 Z pc ev (I_ a :: st) σ := go_lift (fun p e s m args below meth c H locs cells slots ls C hv w => lv_i2l C.1 C.2.1 hd (Int32.toInt64_ofInt h.1 (by rw [mxi_]; omega)) w) k
theorem g_l2i {a : Int} (hd : decode cc pc = .ok (.l2i, 1)) (k : Go_ G R y cc nL ret σ0 Z (pc + 1) ev (I_ a :: st) σ) : Go_ G R y cc nL ret σ0 Z pc ev (L_ a :: st) σ := go_lift (fun p e s m args below meth c H locs cells slots ls C hv w => lv_l2i C.1 C.2.1 hd Int64.toInt32_ofInt w) k
def lcmp_ (a b : Int) : Int := (lg_cmp (Int64.ofInt a) (Int64.ofInt b)).toInt
theorem g_lcmp {a b : Int} (hd : decode cc pc = .ok (.lcmp, 1)) (k : Go_ G R y cc nL ret σ0 Z (pc + 1) ev (I_ (lcmp_ a b) :: st) σ) : Go_ G R y cc nL ret σ0 Z pc ev (L_ b :: L_ a :: st) σ := go_lift (fun p e s m args below meth c H locs cells slots ls C hv w => W.lcmp C.1 C.2.1 hd (by have e : av_ (I_ (lcmp_ a b)) = .int _ := congrArg Value.int (Int32.ofInt_toInt _); rw [List.map_cons, e] at w; exact w)) k
/-- a value of one slot -/
def c1_ (v : AV) : Bool := match v with | .inr (.inl _) => false | _ => true
theorem c1_cat {v : AV} (h : c1_ v = true) : (av_ v).category = 1 := by
  rcases v with x | x | r
  · rfl
  · cases h
  · cases r <;> rfl
theorem g_dup {a : AV} (hd : decode cc pc = .ok (.dup, 1)) (ha : c1_ a = true) (k : Go_ G R y cc nL ret σ0 Z (pc + 1) ev (a :: a :: st) σ) : Go_ G R y cc nL ret σ0 Z pc ev (a :: st) σ := go_lift (fun p e s m args below meth c H locs cells slots ls C hv w => lv_dup C.1 C.2.1 hd (c1_cat ha) w) k
theorem g_pop {a : AV} (hd : decode cc pc = .ok (.pop, 1)) (ha : c1_ a = true) (k : Go_ G R y cc nL ret σ0 Z (pc + 1) ev st σ) : Go_ G R y cc nL ret σ0 Z pc ev (a :: st) σ := go_lift (fun p e s m args below meth c H locs cells slots ls C hv w => lv_pop C.1 C.2.1 hd (c1_cat ha) w) k
theorem g_dup_x1 {a b : AV} (hd : decode cc pc = .ok (.dup_x1, 1)) (ha : c1_ a = true) (hb : c1_ b = true) (k : Go_ G R y cc nL ret σ0 Z (pc + 1) ev (a :: b :: a :: st) σ) : Go_ G R y cc nL ret σ0 Z pc ev (a :: b :: st) σ := go_lift (fun p e s m args below meth c H locs cells slots ls C hv w => lv_dup_x1 C.1 C.2.1 hd (c1_cat ha) (c1_cat hb) w) k
theorem g_dup_x2 {a b u : AV} (hd : decode cc pc = .ok (.dup_x2, 1)) (ha : c1_ a = true) (hb : c1_ b = true) (hu : c1_ u = true) (k : Go_ G R y cc nL ret σ0 Z (pc + 1) ev (a :: b :: u :: a :: st) σ) : Go_ G R y cc nL ret σ0 Z pc ev (a :: b :: u :: st) σ := go_lift (fun p e s m args below meth c H locs cells slots ls C hv w => lv_dup_x2 C.1 C.2.1 hd (c1_cat ha) (c1_cat hb) (c1_cat hu) w) k
theorem g_dup2 {a b : AV} (hd : decode cc pc = .ok (.dup2, 1)) (ha : c1_ a = true) (hb : c1_ b = true) (k : Go_ G R y cc nL ret σ0 Z (pc + 1) ev (a :: b :: a :: b :: st) σ) : Go_ G R y cc nL ret σ0 Z pc ev (a :: b :: st) σ := go_lift (fun p e s m args below meth c H locs cells slots ls C hv w => lv_dup2_11 C.1 C.2.1 hd (c1_cat ha) (c1_cat hb) w) k
theorem g_dup2L {x : Int} (hd : decode cc pc = .ok (.dup2, 1)) (k : Go_ G R y cc nL ret σ0 Z (pc + 1) ev (L_ x :: L_ x :: st) σ) : Go_ G R y cc nL ret σ0 Z pc ev (L_ x :: st) σ := go_lift (fun p e s m args below meth c H locs cells slots ls C hv w => lv_dup2_2 C.1 C.2.1 hd rfl w) k
theorem go_lift2 {pc1 pc2 : Nat} {st1 st2 : List AV} {A B : Prop} (f : ∀ (p : Program) (e : Env) (s : State) (m : MethodId) (args : Array Value) (below : List Frame) (meth : Method) (c : Code) (H : Heap) (locs : List Loc) (cells slots : Nat) (ls : Array Slot), Cx_ G R y cc nL ret σ0 p s m args meth c → (A → W p (gl_ G) e R s m args below meth c H locs cells slots (Z below args s) (F0 m pc1 ls (st1.map av_))) → (B → W p (gl_ G) e R s m args below meth c H locs cells slots (Z below args s) (F0 m pc2 ls (st2.map av_))) → W p (gl_ G) e R s m args below meth c H locs cells slots (Z below args s) (F0 m pc ls (st.map av_)))
    (k1 : A → Go_ G R y cc nL ret σ0 Z pc1 ev st1 σ) (k2 : B → Go_ G R y cc nL ret σ0 Z pc2 ev st2 σ) : Go_ G R y cc nL ret σ0 Z pc ev st σ := fun p e s m args below meth c H locs cells slots ls C hr hl hv => f p e s m args below meth c H locs cells slots ls C (fun h => k1 h p e s m args below meth c H locs cells slots ls C hr hl hv) (fun h => k2 h p e s m args below meth c H locs cells slots ls C hr hl hv)
theorem cq_eq {a b : Int} (h : -2147483648 ≤ a ∧ a < 2147483648 ∧ -2147483648 ≤ b ∧ b < 2147483648) : Int32.ofInt a = Int32.ofInt b ↔ a = b := ⟨fun q => by have := congrArg Int32.toInt q; rwa [ti_ ⟨h.1, h.2.1⟩, ti_ ⟨h.2.2.1, h.2.2.2⟩] at this, fun q => by rw [q]⟩
theorem cq_lt {a b : Int} (h : -2147483648 ≤ a ∧ a < 2147483648 ∧ -2147483648 ≤ b ∧ b < 2147483648) : Int32.ofInt a < Int32.ofInt b ↔ a < b := by rw [Int32.lt_iff_toInt_lt, ti_ ⟨h.1, h.2.1⟩, ti_ ⟨h.2.2.1, h.2.2.2⟩]
theorem cq_le {a b : Int} (h : -2147483648 ≤ a ∧ a < 2147483648 ∧ -2147483648 ≤ b ∧ b < 2147483648) : Int32.ofInt a ≤ Int32.ofInt b ↔ a ≤ b := by rw [Int32.le_iff_toInt_le, ti_ ⟨h.1, h.2.1⟩, ti_ ⟨h.2.2.1, h.2.2.2⟩]
theorem rs_ {a b : Int} (h : -2147483648 ≤ a ∧ a < 2147483648 ∧ -2147483648 ≤ b ∧ b < 2147483648) : -2147483648 ≤ b ∧ b < 2147483648 ∧ -2147483648 ≤ a ∧ a < 2147483648 := ⟨h.2.2.1, h.2.2.2, h.1, h.2.1⟩
theorem r0_ {a : Int} (h : -2147483648 ≤ a ∧ a < 2147483648) : -2147483648 ≤ a ∧ a < 2147483648 ∧ -2147483648 ≤ (0 : Int) ∧ (0 : Int) < 2147483648 := ⟨h.1, h.2, by decide, by decide⟩
theorem g_icmp_eq {a b : Int} {off : Int} {tgt : Nat} (hd : decode cc pc = .ok (.if_icmp .eq off, 3)) (ht : (pc : Int) + off = (tgt : Int)) (h : -2147483648 ≤ a ∧ a < 2147483648 ∧ -2147483648 ≤ b ∧ b < 2147483648) (k1 : a = b → Go_ G R y cc nL ret σ0 Z tgt ev st σ) (k2 : ¬ a = b → Go_ G R y cc nL ret σ0 Z (pc + 3) ev st σ) : Go_ G R y cc nL ret σ0 Z pc ev (I_ b :: I_ a :: st) σ := go_lift2 (fun p e s m args below meth c H locs cells slots ls C w1 w2 => lv_icmp_eq C.1 C.2.1 hd ht (fun q => w1 ((cq_eq h).mp q)) (fun q => w2 (fun z => q ((cq_eq h).mpr z)))) k1 k2
theorem g_icmp_ne {a b : Int} {off : Int} {tgt : Nat} (hd : decode cc pc = .ok (.if_icmp .ne off, 3)) (ht : (pc : Int) + off = (tgt : Int)) (h : -2147483648 ≤ a ∧ a < 2147483648 ∧ -2147483648 ≤ b ∧ b < 2147483648) (k1 : ¬ a = b → Go_ G R y cc nL ret σ0 Z tgt ev st σ) (k2 : a = b → Go_ G R y cc nL ret σ0 Z (pc + 3) ev st σ) : Go_ G R y cc nL ret σ0 Z pc ev (I_ b :: I_ a :: st) σ := go_lift2 (fun p e s m args below meth c H locs cells slots ls C w1 w2 => lv_icmp_ne C.1 C.2.1 hd ht (fun q => w1 (fun z => q ((cq_eq h).mpr z))) (fun q => w2 ((cq_eq h).mp q))) k1 k2
theorem g_icmp_lt {a b : Int} {off : Int} {tgt : Nat} (hd : decode cc pc = .ok (.if_icmp .lt off, 3)) (ht : (pc : Int) + off = (tgt : Int)) (h : -2147483648 ≤ a ∧ a < 2147483648 ∧ -2147483648 ≤ b ∧ b < 2147483648) (k1 : a < b → Go_ G R y cc nL ret σ0 Z tgt ev st σ) (k2 : ¬ a < b → Go_ G R y cc nL ret σ0 Z (pc + 3) ev st σ) : Go_ G R y cc nL ret σ0 Z pc ev (I_ b :: I_ a :: st) σ := go_lift2 (fun p e s m args below meth c H locs cells slots ls C w1 w2 => lv_icmp_lt C.1 C.2.1 hd ht (fun q => w1 ((cq_lt h).mp q)) (fun q => w2 (fun z => q ((cq_lt h).mpr z)))) k1 k2
theorem g_icmp_ge {a b : Int} {off : Int} {tgt : Nat} (hd : decode cc pc = .ok (.if_icmp .ge off, 3)) (ht : (pc : Int) + off = (tgt : Int)) (h : -2147483648 ≤ a ∧ a < 2147483648 ∧ -2147483648 ≤ b ∧ b < 2147483648) (k1 : b ≤ a → Go_ G R y cc nL ret σ0 Z tgt ev st σ) (k2 : ¬ b ≤ a → Go_ G R y cc nL ret σ0 Z (pc + 3) ev st σ) : Go_ G R y cc nL ret σ0 Z pc ev (I_ b :: I_ a :: st) σ := go_lift2 (fun p e s m args below meth c H locs cells slots ls C w1 w2 => lv_icmp_ge C.1 C.2.1 hd ht (fun q => w1 ((cq_le (rs_ h)).mp q)) (fun q => w2 (fun z => q ((cq_le (rs_ h)).mpr z)))) k1 k2
theorem g_icmp_gt {a b : Int} {off : Int} {tgt : Nat} (hd : decode cc pc = .ok (.if_icmp .gt off, 3)) (ht : (pc : Int) + off = (tgt : Int)) (h : -2147483648 ≤ a ∧ a < 2147483648 ∧ -2147483648 ≤ b ∧ b < 2147483648) (k1 : b < a → Go_ G R y cc nL ret σ0 Z tgt ev st σ) (k2 : ¬ b < a → Go_ G R y cc nL ret σ0 Z (pc + 3) ev st σ) : Go_ G R y cc nL ret σ0 Z pc ev (I_ b :: I_ a :: st) σ := go_lift2 (fun p e s m args below meth c H locs cells slots ls C w1 w2 => lv_icmp_gt C.1 C.2.1 hd ht (fun q => w1 ((cq_lt (rs_ h)).mp q)) (fun q => w2 (fun z => q ((cq_lt (rs_ h)).mpr z)))) k1 k2
theorem g_icmp_le {a b : Int} {off : Int} {tgt : Nat} (hd : decode cc pc = .ok (.if_icmp .le off, 3)) (ht : (pc : Int) + off = (tgt : Int)) (h : -2147483648 ≤ a ∧ a < 2147483648 ∧ -2147483648 ≤ b ∧ b < 2147483648) (k1 : a ≤ b → Go_ G R y cc nL ret σ0 Z tgt ev st σ) (k2 : ¬ a ≤ b → Go_ G R y cc nL ret σ0 Z (pc + 3) ev st σ) : Go_ G R y cc nL ret σ0 Z pc ev (I_ b :: I_ a :: st) σ := go_lift2 (fun p e s m args below meth c H locs cells slots ls C w1 w2 => lv_icmp_le C.1 C.2.1 hd ht (fun q => w1 ((cq_le h).mp q)) (fun q => w2 (fun z => q ((cq_le h).mpr z)))) k1 k2
theorem g_if_eq {a : Int} {off : Int} {tgt : Nat} (hd : decode cc pc = .ok (.ifCond .eq off, 3)) (ht : (pc : Int) + off = (tgt : Int)) (h : -2147483648 ≤ a ∧ a < 2147483648) (k1 : a = 0 → Go_ G R y cc nL ret σ0 Z tgt ev st σ) (k2 : ¬ a = 0 → Go_ G R y cc nL ret σ0 Z (pc + 3) ev st σ) : Go_ G R y cc nL ret σ0 Z pc ev (I_ a :: st) σ := go_lift2 (fun p e s m args below meth c H locs cells slots ls C w1 w2 => lv_if_eq C.1 C.2.1 hd ht (fun q => w1 ((cq_eq (r0_ h)).mp q)) (fun q => w2 (fun z => q ((cq_eq (r0_ h)).mpr z)))) k1 k2
theorem g_if_ne {a : Int} {off : Int} {tgt : Nat} (hd : decode cc pc = .ok (.ifCond .ne off, 3)) (ht : (pc : Int) + off = (tgt : Int)) (h : -2147483648 ≤ a ∧ a < 2147483648) (k1 : ¬ a = 0 → Go_ G R y cc nL ret σ0 Z tgt ev st σ) (k2 : a = 0 → Go_ G R y cc nL ret σ0 Z (pc + 3) ev st σ) : Go_ G R y cc nL ret σ0 Z pc ev (I_ a :: st) σ := go_lift2 (fun p e s m args below meth c H locs cells slots ls C w1 w2 => lv_if_ne C.1 C.2.1 hd ht (fun q => w1 (fun z => q ((cq_eq (r0_ h)).mpr z))) (fun q => w2 ((cq_eq (r0_ h)).mp q))) k1 k2
theorem g_if_lt {a : Int} {off : Int} {tgt : Nat} (hd : decode cc pc = .ok (.ifCond .lt off, 3)) (ht : (pc : Int) + off = (tgt : Int)) (h : -2147483648 ≤ a ∧ a < 2147483648) (k1 : a < 0 → Go_ G R y cc nL ret σ0 Z tgt ev st σ) (k2 : ¬ a < 0 → Go_ G R y cc nL ret σ0 Z (pc + 3) ev st σ) : Go_ G R y cc nL ret σ0 Z pc ev (I_ a :: st) σ := go_lift2 (fun p e s m args below meth c H locs cells slots ls C w1 w2 => lv_if_lt C.1 C.2.1 hd ht (fun q => w1 ((cq_lt (r0_ h)).mp q)) (fun q => w2 (fun z => q ((cq_lt (r0_ h)).mpr z)))) k1 k2
theorem g_if_ge {a : Int} {off : Int} {tgt : Nat} (hd : decode cc pc = .ok (.ifCond .ge off, 3)) (ht : (pc : Int) + off = (tgt : Int)) (h : -2147483648 ≤ a ∧ a < 2147483648) (k1 : 0 ≤ a → Go_ G R y cc nL ret σ0 Z tgt ev st σ) (k2 : ¬ 0 ≤ a → Go_ G R y cc nL ret σ0 Z (pc + 3) ev st σ) : Go_ G R y cc nL ret σ0 Z pc ev (I_ a :: st) σ := go_lift2 (fun p e s m args below meth c H locs cells slots ls C w1 w2 => lv_if_ge C.1 C.2.1 hd ht (fun q => w1 ((cq_le (rs_ (r0_ h))).mp q)) (fun q => w2 (fun z => q ((cq_le (rs_ (r0_ h))).mpr z)))) k1 k2
theorem g_if_gt {a : Int} {off : Int} {tgt : Nat} (hd : decode cc pc = .ok (.ifCond .gt off, 3)) (ht : (pc : Int) + off = (tgt : Int)) (h : -2147483648 ≤ a ∧ a < 2147483648) (k1 : 0 < a → Go_ G R y cc nL ret σ0 Z tgt ev st σ) (k2 : ¬ 0 < a → Go_ G R y cc nL ret σ0 Z (pc + 3) ev st σ) : Go_ G R y cc nL ret σ0 Z pc ev (I_ a :: st) σ := go_lift2 (fun p e s m args below meth c H locs cells slots ls C w1 w2 => lv_if_gt C.1 C.2.1 hd ht (fun q => w1 ((cq_lt (rs_ (r0_ h))).mp q)) (fun q => w2 (fun z => q ((cq_lt (rs_ (r0_ h))).mpr z)))) k1 k2
theorem g_if_le {a : Int} {off : Int} {tgt : Nat} (hd : decode cc pc = .ok (.ifCond .le off, 3)) (ht : (pc : Int) + off = (tgt : Int)) (h : -2147483648 ≤ a ∧ a < 2147483648) (k1 : a ≤ 0 → Go_ G R y cc nL ret σ0 Z tgt ev st σ) (k2 : ¬ a ≤ 0 → Go_ G R y cc nL ret σ0 Z (pc + 3) ev st σ) : Go_ G R y cc nL ret σ0 Z pc ev (I_ a :: st) σ := go_lift2 (fun p e s m args below meth c H locs cells slots ls C w1 w2 => lv_if_le C.1 C.2.1 hd ht (fun q => w1 ((cq_le (r0_ h)).mp q)) (fun q => w2 (fun z => q ((cq_le (r0_ h)).mpr z)))) k1 k2
theorem g_goto {off : Int} {tgt : Nat} (hd : decode cc pc = .ok (.goto off, 3)) (ht : (pc : Int) + off = (tgt : Int)) (k : Go_ G R y cc nL ret σ0 Z tgt ev st σ) : Go_ G R y cc nL ret σ0 Z pc ev st σ := go_lift (fun p e s m args below meth c H locs cells slots ls C hv w => lv_goto C.1 C.2.1 hd ht w) k
theorem g_acmp_eq {rx ry : Option Nat} {off : Int} {tgt : Nat} (hd : decode cc pc = .ok (.if_acmp .eq off, 3)) (ht : (pc : Int) + off = (tgt : Int)) (k1 : rx = ry → Go_ G R y cc nL ret σ0 Z tgt ev st σ) (k2 : ¬ rx = ry → Go_ G R y cc nL ret σ0 Z (pc + 3) ev st σ) : Go_ G R y cc nL ret σ0 Z pc ev (A_ ry :: A_ rx :: st) σ := go_lift2 (fun p e s m args below meth c H locs cells slots ls C w1 w2 => lv_acmp_eq C.1 C.2.1 hd ht w1 w2) k1 k2
theorem g_acmp_ne {rx ry : Option Nat} {off : Int} {tgt : Nat} (hd : decode cc pc = .ok (.if_acmp .ne off, 3)) (ht : (pc : Int) + off = (tgt : Int)) (k1 : ¬ rx = ry → Go_ G R y cc nL ret σ0 Z tgt ev st σ) (k2 : rx = ry → Go_ G R y cc nL ret σ0 Z (pc + 3) ev st σ) : Go_ G R y cc nL ret σ0 Z pc ev (A_ ry :: A_ rx :: st) σ := go_lift2 (fun p e s m args below meth c H locs cells slots ls C w1 w2 => lv_acmp_ne C.1 C.2.1 hd ht w1 w2) k1 k2
theorem g_ifnull {r : Option Nat} {off : Int} {tgt : Nat} (hd : decode cc pc = .ok (.ifnull off, 3)) (ht : (pc : Int) + off = (tgt : Int)) (k1 : r = none → Go_ G R y cc nL ret σ0 Z tgt ev st σ) (k2 : ∀ a, r = some a → Go_ G R y cc nL ret σ0 Z (pc + 3) ev st σ) : Go_ G R y cc nL ret σ0 Z pc ev (A_ r :: st) σ := by
  cases r with
  | none => exact go_lift (fun p e s m args below meth c H locs cells slots ls C hv w => lv_ifnullN C.1 C.2.1 hd ht w) (k1 rfl)
  | some a => exact go_lift (fun p e s m args below meth c H locs cells slots ls C hv w => lv_ifnull C.1 C.2.1 hd w) (k2 a rfl)
theorem g_ifnonnull {r : Option Nat} {off : Int} {tgt : Nat} (hd : decode cc pc = .ok (.ifnonnull off, 3)) (ht : (pc : Int) + off = (tgt : Int)) (k1 : ∀ a, r = some a → Go_ G R y cc nL ret σ0 Z tgt ev st σ) (k2 : r = none → Go_ G R y cc nL ret σ0 Z (pc + 3) ev st σ) : Go_ G R y cc nL ret σ0 Z pc ev (A_ r :: st) σ := by
  cases r with
  | none => exact go_lift (fun p e s m args below meth c H locs cells slots ls C hv w => lv_ifnonnullN C.1 C.2.1 hd w) (k2 rfl)
  | some a => exact go_lift (fun p e s m args below meth c H locs cells slots ls C hv w => lv_ifnonnull C.1 C.2.1 hd ht w) (k1 a rfl)
theorem g_tabIn {a : Int} {dflt lo hi : Int} {offs : Array Int} {len : Nat} {off : Int} {tgt : Nat} (hd : decode cc pc = .ok (.tableswitch dflt lo hi offs, len)) (h : -2147483648 ≤ a ∧ a < 2147483648) (h1 : lo ≤ a ∧ a ≤ hi) (ho : offs[(a - lo).toNat]? = some off) (ht : (pc : Int) + off = (tgt : Int)) (k : Go_ G R y cc nL ret σ0 Z tgt ev st σ) : Go_ G R y cc nL ret σ0 Z pc ev (I_ a :: st) σ := go_lift (fun p e s m args below meth c H locs cells slots ls C hv w => lv_tableIn C.1 C.2.1 hd (by rw [ti_ h]; omega) (by rw [ti_ h]; omega) (by rw [ti_ h]; exact ho) ht w) k
theorem g_tabOut {a : Int} {dflt lo hi : Int} {offs : Array Int} {len : Nat} {tgt : Nat} (hd : decode cc pc = .ok (.tableswitch dflt lo hi offs, len)) (h : -2147483648 ≤ a ∧ a < 2147483648) (h1 : a < lo ∨ hi < a) (ht : (pc : Int) + dflt = (tgt : Int)) (k : Go_ G R y cc nL ret σ0 Z tgt ev st σ) : Go_ G R y cc nL ret σ0 Z pc ev (I_ a :: st) σ := go_lift (fun p e s m args below meth c H locs cells slots ls C hv w => lv_tableOut C.1 C.2.1 hd (by rw [ti_ h]; exact h1) ht w) k
theorem g_look {a z : Int} {dflt : Int} {ps : Array (Int × Int)} {len : Nat} {off : Int} {tgt : Nat} (hd : decode cc pc = .ok (.lookupswitch dflt ps, len)) (hp : (ps.toList.zip (ps.toList.drop 1)).all (fun (a, next) => a.1 < next.1) = true) (hz : (Int32.ofInt a).toInt = z) (ho : Op.lookupswitch.offset ps.toList dflt z = off) (ht : (pc : Int) + off = (tgt : Int)) (k : Go_ G R y cc nL ret σ0 Z tgt ev st σ) : Go_ G R y cc nL ret σ0 Z pc ev (I_ a :: st) σ := go_lift (fun p e s m args below meth c H locs cells slots ls C hv w => lv_lookup C.1 C.2.1 hd hp (by rw [hz]; exact ho) ht w) k
theorem ev_at {ls : Array Slot} {k : Nat} {v : AV} (h : lv_has ls nL (en_ 0 ev)) (hk : ev[k]? = some (some v)) : ls[k]? = some (.val (av_ v)) := h.2.2 (k, av_ v) (en_mem.mpr ⟨k, v, hk, by omega, rfl⟩)
theorem g_iload_n {k : Fin 4} {x : Int} (i : Nat) (hi : (k : Nat) = i) (hd : decode cc pc = .ok (.iload_n k, 1)) (hx : ev[i]? = some (some (I_ x))) (kk : Go_ G R y cc nL ret σ0 Z (pc + 1) ev (I_ x :: st) σ) : Go_ G R y cc nL ret σ0 Z pc ev st σ := go_lift (fun p e s m args below meth c H locs cells slots ls C hv w => lv_iload_n C.1 C.2.1 hd hi (ev_at hv hx) w) kk
theorem g_iload {i : Nat} {x : Int} (hd : decode cc pc = .ok (.iload i, 2)) (hx : ev[i]? = some (some (I_ x))) (kk : Go_ G R y cc nL ret σ0 Z (pc + 2) ev (I_ x :: st) σ) : Go_ G R y cc nL ret σ0 Z pc ev st σ := go_lift (fun p e s m args below meth c H locs cells slots ls C hv w => lv_iload C.1 C.2.1 hd (ev_at hv hx) w) kk
theorem g_lload_n {k : Fin 4} {x : Int} (i : Nat) (hi : (k : Nat) = i) (hd : decode cc pc = .ok (.lload_n k, 1)) (hx : ev[i]? = some (some (L_ x))) (kk : Go_ G R y cc nL ret σ0 Z (pc + 1) ev (L_ x :: st) σ) : Go_ G R y cc nL ret σ0 Z pc ev st σ := go_lift (fun p e s m args below meth c H locs cells slots ls C hv w => lv_lload_n C.1 C.2.1 hd hi (ev_at hv hx) w) kk
theorem g_lload {i : Nat} {x : Int} (hd : decode cc pc = .ok (.lload i, 2)) (hx : ev[i]? = some (some (L_ x))) (kk : Go_ G R y cc nL ret σ0 Z (pc + 2) ev (L_ x :: st) σ) : Go_ G R y cc nL ret σ0 Z pc ev st σ := go_lift (fun p e s m args below meth c H locs cells slots ls C hv w => lv_lload C.1 C.2.1 hd (ev_at hv hx) w) kk
theorem g_aload_n {k : Fin 4} {r : Option Nat} (i : Nat) (hi : (k : Nat) = i) (hd : decode cc pc = .ok (.aload_n k, 1)) (hx : ev[i]? = some (some (A_ r))) (kk : Go_ G R y cc nL ret σ0 Z (pc + 1) ev (A_ r :: st) σ) : Go_ G R y cc nL ret σ0 Z pc ev st σ := by
  cases r with
  | none => exact go_lift (fun p e s m args below meth c H locs cells slots ls C hv w => lv_aload_nN C.1 C.2.1 hd hi (ev_at hv hx) w) kk
  | some a => exact go_lift (fun p e s m args below meth c H locs cells slots ls C hv w => lv_aload_n C.1 C.2.1 hd hi (ev_at hv hx) w) kk
theorem g_aload {i : Nat} {r : Option Nat} (hd : decode cc pc = .ok (.aload i, 2)) (hx : ev[i]? = some (some (A_ r))) (kk : Go_ G R y cc nL ret σ0 Z (pc + 2) ev (A_ r :: st) σ) : Go_ G R y cc nL ret σ0 Z pc ev st σ := by
  cases r with
  | none => exact go_lift (fun p e s m args below meth c H locs cells slots ls C hv w => lv_aloadN C.1 C.2.1 hd (ev_at hv hx) w) kk
  | some a => exact go_lift (fun p e s m args below meth c H locs cells slots ls C hv w => lv_aload C.1 C.2.1 hd (ev_at hv hx) w) kk
/-- no long stands in the place just before -/
def nb_ (ev : List (Option AV)) (i : Nat) : Bool := match i with
  | 0 => true
  | j + 1 => match ev[j]? with
    | some (some v) => c1_ v
    | _ => true
theorem ev_st1 {ls : Array Slot} {i : Nat} {v : AV} {lv' : List (Nat × Value)} (hb : nb_ ev i = true) (hl : (i, av_ v) :: (en_ 0 ev).filter (fun q => !(q.1 == i) && !(q.1 + 1 == i && q.2.category == 2)) = lv') (h : lv_has ls nL lv') : lv_has ls nL (en_ 0 (ev.set i (some v))) := by
  refine ⟨h.1, h.2.1, ?_⟩
  rintro ⟨j, w⟩ hq
  refine h.2.2 (j, w) ?_
  subst hl
  obtain ⟨k, u, h1, h2, h3⟩ := en_mem.mp hq
  have h2 : j = k := by omega
  subst h2; subst h3
  rw [List.getElem?_set] at h1
  by_cases hij : i = j
  · subst hij
    rw [if_pos rfl] at h1
    have : v = u := by
      split at h1
      · exact Option.some.inj (Option.some.inj h1)
      · cases h1
    subst this
    exact List.mem_cons_self
  · rw [if_neg hij] at h1
    refine List.mem_cons_of_mem _ (List.mem_filter.mpr ⟨en_mem.mpr ⟨j, u, h1, by omega, rfl⟩, ?_⟩)
    have e1 : (j == i) = false := by simpa using fun z => hij z.symm
    have e2 : (j + 1 == i && (av_ u).category == 2) = false := by
      by_cases hj : j + 1 = i
      · subst hj
        have hb : (match ev[j]? with | some (some v) => c1_ v | _ => true) = true := hb
        rw [h1] at hb
        have hc := c1_cat hb
        simp [hc]
      · simp [hj]
    show (!(j == i) && !(j + 1 == i && (av_ u).category == 2)) = true
    rw [e1, e2]; rfl
theorem ev_st2 {ls : Array Slot} {i : Nat} {v : AV} {lv' : List (Nat × Value)} (hb : nb_ ev i = true) (hl : (i, av_ v) :: (en_ 0 ev).filter (fun q => !(q.1 == i) && (!(q.1 == i + 1) && !(q.1 + 1 == i && q.2.category == 2))) = lv') (h : lv_has ls nL lv') : lv_has ls nL (en_ 0 ((ev.set i (some v)).set (i + 1) none)) := by
  refine ⟨h.1, h.2.1, ?_⟩
  rintro ⟨j, w⟩ hq
  refine h.2.2 (j, w) ?_
  subst hl
  obtain ⟨k, u, h1, h2, h3⟩ := en_mem.mp hq
  have h2 : j = k := by omega
  subst h2; subst h3
  rw [List.getElem?_set] at h1
  by_cases hij1 : i + 1 = j
  · subst hij1
    rw [if_pos rfl] at h1
    split at h1 <;> cases h1
  rw [if_neg hij1, List.getElem?_set] at h1
  by_cases hij : i = j
  · subst hij
    rw [if_pos rfl] at h1
    have : v = u := by
      split at h1
      · exact Option.some.inj (Option.some.inj h1)
      · cases h1
    subst this
    exact List.mem_cons_self
  · rw [if_neg hij] at h1
    refine List.mem_cons_of_mem _ (List.mem_filter.mpr ⟨en_mem.mpr ⟨j, u, h1, by omega, rfl⟩, ?_⟩)
    have e1 : (j == i) = false := by simpa using fun z => hij z.symm
    have e3 : (j == i + 1) = false := by simpa using fun z => hij1 z.symm
    have e2 : (j + 1 == i && (av_ u).category == 2) = false := by
      by_cases hj : j + 1 = i
      · subst hj
        have hb : (match ev[j]? with | some (some v) => c1_ v | _ => true) = true := hb
        rw [h1] at hb
        have hc := c1_cat hb
        simp [hc]
      · simp [hj]
    show (!(j == i) && (!(j == i + 1) && !(j + 1 == i && (av_ u).category == 2))) = true
    rw [e1, e2, e3]; rfl
theorem g_istore_n {k : Fin 4} {x : Int} (i : Nat) (hi : (k : Nat) = i) (hd : decode cc pc = .ok (.istore_n k, 1)) (hn : i < nL) (hb : nb_ ev i = true) (kk : Go_ G R y cc nL ret σ0 Z (pc + 1) (ev.set i (some (I_ x))) st σ) : Go_ G R y cc nL ret σ0 Z pc ev (I_ x :: st) σ := fun p e s m args below meth c H locs cells slots ls C hr hl hv => lv_istore_n C.1 C.2.1 hd hi hv hn rfl (fun ls' hv' => kk p e s m args below meth c H locs cells slots ls' C hr hl (ev_st1 hb rfl hv'))
theorem g_istore {i : Nat} {x : Int} (hd : decode cc pc = .ok (.istore i, 2)) (hn : i < nL) (hb : nb_ ev i = true) (kk : Go_ G R y cc nL ret σ0 Z (pc + 2) (ev.set i (some (I_ x))) st σ) : Go_ G R y cc nL ret σ0 Z pc ev (I_ x :: st) σ := fun p e s m args below meth c H locs cells slots ls C hr hl hv => lv_istore C.1 C.2.1 hd hv hn rfl (fun ls' hv' => kk p e s m args below meth c H locs cells slots ls' C hr hl (ev_st1 hb rfl hv'))
theorem g_lstore_n {k : Fin 4} {x : Int} (i : Nat) (hi : (k : Nat) = i) (hd : decode cc pc = .ok (.lstore_n k, 1)) (hn : i + 1 < nL) (hb : nb_ ev i = true) (kk : Go_ G R y cc nL ret σ0 Z (pc + 1) ((ev.set i (some (L_ x))).set (i + 1) none) st σ) : Go_ G R y cc nL ret σ0 Z pc ev (L_ x :: st) σ := fun p e s m args below meth c H locs cells slots ls C hr hl hv => lv_lstore_n C.1 C.2.1 hd hi hv hn rfl (fun ls' hv' => kk p e s m args below meth c H locs cells slots ls' C hr hl (ev_st2 hb rfl hv'))
theorem g_lstore {i : Nat} {x : Int} (hd : decode cc pc = .ok (.lstore i, 2)) (hn : i + 1 < nL) (hb : nb_ ev i = true) (kk : Go_ G R y cc nL ret σ0 Z (pc + 2) ((ev.set i (some (L_ x))).set (i + 1) none) st σ) : Go_ G R y cc nL ret σ0 Z pc ev (L_ x :: st) σ := fun p e s m args below meth c H locs cells slots ls C hr hl hv => lv_lstore C.1 C.2.1 hd hv hn rfl (fun ls' hv' => kk p e s m args below meth c H locs cells slots ls' C hr hl (ev_st2 hb rfl hv'))
theorem g_astore_n {k : Fin 4} {r : Option Nat} (i : Nat) (hi : (k : Nat) = i) (hd : decode cc pc = .ok (.astore_n k, 1)) (hn : i < nL) (hb : nb_ ev i = true) (kk : Go_ G R y cc nL ret σ0 Z (pc + 1) (ev.set i (some (A_ r))) st σ) : Go_ G R y cc nL ret σ0 Z pc ev (A_ r :: st) σ := by
  cases r with
  | none => exact fun p e s m args below meth c H locs cells slots ls C hr hl hv => lv_astore_nN C.1 C.2.1 hd hi hv hn rfl (fun ls' hv' => kk p e s m args below meth c H locs cells slots ls' C hr hl (ev_st1 (v := A_ none) hb rfl hv'))
  | some a => exact fun p e s m args below meth c H locs cells slots ls C hr hl hv => lv_astore_n C.1 C.2.1 hd hi hv hn rfl (fun ls' hv' => kk p e s m args below meth c H locs cells slots ls' C hr hl (ev_st1 (v := A_ (some a)) hb rfl hv'))
theorem g_astore {i : Nat} {r : Option Nat} (hd : decode cc pc = .ok (.astore i, 2)) (hn : i < nL) (hb : nb_ ev i = true) (kk : Go_ G R y cc nL ret σ0 Z (pc + 2) (ev.set i (some (A_ r))) st σ) : Go_ G R y cc nL ret σ0 Z pc ev (A_ r :: st) σ := by
  cases r with
  | none => exact fun p e s m args below meth c H locs cells slots ls C hr hl hv => lv_astoreN C.1 C.2.1 hd hv hn rfl (fun ls' hv' => kk p e s m args below meth c H locs cells slots ls' C hr hl (ev_st1 (v := A_ none) hb rfl hv'))
  | some a => exact fun p e s m args below meth c H locs cells slots ls C hr hl hv => lv_astore C.1 C.2.1 hd hv hn rfl (fun ls' hv' => kk p e s m args below meth c H locs cells slots ls' C hr hl (ev_st1 (v := A_ (some a)) hb rfl hv'))
theorem g_iinc {i : Nat} {n x : Int} (hd : decode cc pc = .ok (.iinc i n, 3)) (hx : ev[i]? = some (some (I_ x))) (hn : i < nL) (hb : nb_ ev i = true) (kk : Go_ G R y cc nL ret σ0 Z (pc + 3) (ev.set i (some (I_ (x + n)))) st σ) : Go_ G R y cc nL ret σ0 Z pc ev st σ := fun p e s m args below meth c H locs cells slots ls C hr hl hv => by
  obtain ⟨k, hk⟩ := List.getElem?_of_mem (en_mem.mpr ⟨i, I_ x, hx, (Nat.zero_add i).symm, rfl⟩)
  refine lv_iinc (v := Int32.ofInt (x + n)) C.1 C.2.1 hd hv (k := k) (x := Int32.ofInt x) hk (Int32.ofInt_add x n).symm hn rfl (fun ls' hv' => kk p e s m args below meth c H locs cells slots ls' C hr hl (ev_st1 (v := I_ (x + n)) hb rfl hv'))
end
