/-! THE ENGINE, part 1: abstract heaps, what a machine heap must hold of them, and 'Go_': the machine at a place of a method's code comes to its end. Ints are Lean Ints (an int on the stack is Int32.ofInt of it). -/
set_option maxRecDepth 100000
/-- a shape: an object of a class by its number, or an array (kind of its elements, length) -/
abbrev JS : Type := Nat ⊕ (Nat × Nat)
/-- an abstract heap: shapes; ints by address and place; references by address and place; the next address; slots in use -/
abbrev JH : Type := (Nat → Option JS) × (Nat → Int → Int) × (Nat → Int → Option Nat) × Nat × Nat
/-- an abstract value: an int, a long, a reference or null -/
abbrev AV : Type := Int ⊕ Int ⊕ Option Nat
abbrev I_ (x : Int) : AV := Sum.inl x
abbrev L_ (x : Int) : AV := Sum.inr (Sum.inl x)
abbrev A_ (r : Option Nat) : AV := Sum.inr (Sum.inr r)
def av_ (v : AV) : Value := match v with
  | .inl x => .int (Int32.ofInt x)
  | .inr (.inl x) => .long (Int64.ofInt x)
  | .inr (.inr r) => va_rf r
def sh_ (σ : JH) (a : Nat) : Option JS := σ.1 a
def iv_ (σ : JH) (a : Nat) (k : Int) : Int := σ.2.1 a k
def rv_ (σ : JH) (a : Nat) (k : Int) : Option Nat := σ.2.2.1 a k
def sz_ (σ : JH) : Nat := σ.2.2.2.1
def us_ (σ : JH) : Nat := σ.2.2.2.2
def pi_ (σ : JH) (a : Nat) (k : Int) (x : Int) : JH := (σ.1, (fun b j => if b = a ∧ j = k then x else σ.2.1 b j), σ.2.2)
def pr_ (σ : JH) (a : Nat) (k : Int) (r : Option Nat) : JH := (σ.1, σ.2.1, (fun b j => if b = a ∧ j = k then r else σ.2.2.1 b j), σ.2.2.2)
/-- a new cell: all its places 0 and null -/
def nw_ (σ : JH) (s : JS) (n : Nat) : JH := ((fun b => if b = sz_ σ then some s else σ.1 b), (fun b j => if b = sz_ σ then 0 else σ.2.1 b j), (fun b j => if b = sz_ σ then none else σ.2.2.1 b j), sz_ σ + 1, us_ σ + n)
theorem iv_pi (σ : JH) (a : Nat) (k x : Int) (b : Nat) (j : Int) : iv_ (pi_ σ a k x) b j = if b = a ∧ j = k then x else iv_ σ b j := rfl
theorem iv_pr (σ : JH) (a : Nat) (k : Int) (r : Option Nat) (b : Nat) (j : Int) : iv_ (pr_ σ a k r) b j = iv_ σ b j := rfl
theorem rv_pr (σ : JH) (a : Nat) (k : Int) (r : Option Nat) (b : Nat) (j : Int) : rv_ (pr_ σ a k r) b j = if b = a ∧ j = k then r else rv_ σ b j := rfl
theorem rv_pi (σ : JH) (a : Nat) (k x : Int) (b : Nat) (j : Int) : rv_ (pi_ σ a k x) b j = rv_ σ b j := rfl
theorem sh_pi (σ : JH) (a : Nat) (k x : Int) (b : Nat) : sh_ (pi_ σ a k x) b = sh_ σ b := rfl
theorem sh_pr (σ : JH) (a : Nat) (k : Int) (r : Option Nat) (b : Nat) : sh_ (pr_ σ a k r) b = sh_ σ b := rfl
theorem sz_pi (σ : JH) (a : Nat) (k x : Int) : sz_ (pi_ σ a k x) = sz_ σ := rfl
theorem sz_pr (σ : JH) (a : Nat) (k : Int) (r : Option Nat) : sz_ (pr_ σ a k r) = sz_ σ := rfl
theorem us_pi (σ : JH) (a : Nat) (k x : Int) : us_ (pi_ σ a k x) = us_ σ := rfl
theorem us_pr (σ : JH) (a : Nat) (k : Int) (r : Option Nat) : us_ (pr_ σ a k r) = us_ σ := rfl
theorem sh_nw (σ : JH) (s : JS) (n b : Nat) : sh_ (nw_ σ s n) b = if b = sz_ σ then some s else sh_ σ b := rfl
theorem iv_nw (σ : JH) (s : JS) (n b : Nat) (j : Int) : iv_ (nw_ σ s n) b j = if b = sz_ σ then 0 else iv_ σ b j := rfl
theorem rv_nw (σ : JH) (s : JS) (n b : Nat) (j : Int) : rv_ (nw_ σ s n) b j = if b = sz_ σ then none else rv_ σ b j := rfl
theorem sz_nw (σ : JH) (s : JS) (n : Nat) : sz_ (nw_ σ s n) = sz_ σ + 1 := rfl
theorem us_nw (σ : JH) (s : JS) (n : Nat) : us_ (nw_ σ s n) = us_ σ + n := rfl
/-- kinds of arrays -/
def aty_ (t : Nat) : FieldType := match t with
  | 0 => .int
  | 1 => .byte
  | 2 => .long
  | _ => .object "java/lang/Object"
/-- what is fixed through a run: the launch; class numbers' ids and slots; array kinds' ids; the heap at the law's start; the constants' addresses -/
abbrev JG : Type := Launch × (Nat → ClassId) × (Nat → Nat → Nat) × (Nat → ClassId) × Heap × (Nat → Nat)
def gl_ (G : JG) : Launch := G.1
def gC_ (G : JG) : Nat → ClassId := G.2.1
def gD_ (G : JG) : Nat → Nat → Nat := G.2.2.1
def gA_ (G : JG) : Nat → ClassId := G.2.2.2.1
def gH_ (G : JG) : Heap := G.2.2.2.2.1
def gK_ (G : JG) : Nat → Nat := G.2.2.2.2.2
/-- all cells' slots -/
def su_ (H : Heap) : Nat := (H.toList.map (fun c : Cell => c.slots.size)).sum
/-- the run's room -/
def lc_ (G : JG) : Nat := (gH_ G).size + 1200128
def ls_ (G : JG) : Nat := su_ (gH_ G) + 5501098
/-- what a cell holds of an abstract cell -/
def Cel_ (G : JG) (σ : JH) (a : Nat) (s : JS) (cell : Cell) : Prop := match s with
  | .inl ci => ∃ r : vw_C, cls_[ci]? = some r ∧ cell.cls = gC_ G ci ∧ ∀ k : Nat, k < r.2.2 → cell.slots[gD_ G ci k]? = some (tv_ (cty_ ci k) (iv_ σ a (k : Int)) (rv_ σ a (k : Int)))
  | .inr (t, n) => cell.cls = gA_ G t ∧ n < 2147483648 ∧ n ≤ cell.slots.size ∧ cell.slots.size.toInt32 = Int32.ofNat n ∧ ∀ j : Nat, j < n → cell.slots[j]? = some (tv_ (aty_ t) (iv_ σ a (j : Int)) (rv_ σ a (j : Int)))
def Ok_ (G : JG) (a : Nat) (cell : Cell) : Prop := cell.vm.isStatics = false ∧ cell.vm ≠ .unknown ∧ ((gH_ G).size ≤ a → cell.vm = .none)
/-- a machine heap holds an abstract heap -/
def Rp_ (G : JG) (σ : JH) (H : Heap) : Prop :=
  (H.size = sz_ σ ∧ su_ H = us_ σ ∧ (gH_ G).size ≤ sz_ σ ∧ sz_ σ ≤ lc_ G ∧ us_ σ ≤ ls_ G) ∧ (∀ q : Nat, q < (gH_ G).size → H[q]? = (gH_ G)[q]?) ∧
  ∀ (a : Nat) (s : JS), sh_ σ a = some s → ∃ cell : Cell, H[a]? = some cell ∧ Ok_ G a cell ∧ Cel_ G σ a s cell
/-- locals by their places -/
def en_ : Nat → List (Option AV) → List (Nat × Value)
  | _, [] => []
  | i, none :: l => en_ (i + 1) l
  | i, some v :: l => (i, av_ v) :: en_ (i + 1) l
theorem en_mem {l : List (Option AV)} : ∀ {i j : Nat} {w : Value}, (j, w) ∈ en_ i l ↔ ∃ (k : Nat) (v : AV), l[k]? = some (some v) ∧ j = i + k ∧ w = av_ v := by
  induction l with
  | nil => intro i j w; simp [en_]
  | cons x l ih =>
    intro i j w
    cases x with
    | none =>
      show (j, w) ∈ en_ (i + 1) l ↔ _
      rw [ih]
      constructor
      · rintro ⟨k, v, h1, h2, h3⟩
        exact ⟨k + 1, v, by simpa using h1, by omega, h3⟩
      · rintro ⟨k, v, h1, h2, h3⟩
        cases k with
        | zero => simp at h1
        | succ k => exact ⟨k, v, by simpa using h1, by omega, h3⟩
    | some u =>
      show (j, w) ∈ (i, av_ u) :: en_ (i + 1) l ↔ _
      rw [List.mem_cons, ih]
      constructor
      · rintro (h | ⟨k, v, h1, h2, h3⟩)
        · cases h; exact ⟨0, u, rfl, rfl, rfl⟩
        · exact ⟨k + 1, v, by simpa using h1, by omega, h3⟩
      · rintro ⟨k, v, h1, h2, h3⟩
        cases k with
        | zero =>
          left
          have : u = v := by simpa using h1
          subst this; subst h3; subst h2; rfl
        | succ k => exact Or.inr ⟨k, v, by simpa using h1, by omega, h3⟩
/-- statics of which only 'a reference or null' is known -/
def zrf_ : List (String × String × String) := [("jdk/internal/util/Preconditions", "SIOOBE_FORMATTER", "Ljava/util/function/BiFunction;"), ("java/lang/Throwable", "SUPPRESSED_SENTINEL", "Ljava/util/List;"), ("java/lang/Throwable", "UNASSIGNED_STACK", "[Ljava/lang/StackTraceElement;")]
/-- of those, the two that a Throwable's making reads -/
def zrx_ : List (String × String × String) := [("java/lang/Throwable", "UNASSIGNED_STACK", "[Ljava/lang/StackTraceElement;"), ("java/lang/Throwable", "SUPPRESSED_SENTINEL", "Ljava/util/List;")]
/-- a private method of a StringBuilder's upper class is itself -/
def selSB_ : Cond := .selects "java/lang/StringBuilde\x72" ⟨"java/lang/AbstractStringBuilde\x72", "ensureCapacityInternal", "(I)V"⟩ ⟨"java/lang/AbstractStringBuilde\x72", "ensureCapacityInternal", "(I)V"⟩
/-- the tables' knowledge in a state -/
def Kn_ (G : JG) (U : State) : Prop :=
  va_K (gC_ G, gD_ G) cls_ [(gA_ G 0, .int), (gA_ G 1, .byte), (gA_ G 2, .long), (gA_ G 3, .object "java/lang/Object")] U ∧
  (∀ q ∈ nwC_, va_Nw (.castable q.1 q.2) U) ∧ (∀ q ∈ nwF_, va_Nw (.fieldLinkNest q.1 q.2.1 q.2.2.1 q.2.2.2.1 q.2.2.2.2.1 q.2.2.2.2.2) U) ∧ (∀ q ∈ nwM_, va_Nw (.methodLinkNest q.1 q.2.1 q.2.2.1 q.2.2.2) U) ∧
  (∀ q ∈ nwD_, va_Nw (.declares q) U) ∧ va_AO "java/lang/Object" U ∧
  (∀ (i : Nat) (q : String × Nat × String), lit_[i]? = some q → vk_R q.1 q.2.1 q.2.2 (gK_ G i) U) ∧
  (∀ q ∈ zst_, va_Z q.1 q.2.1 q.2.2.1 (.int q.2.2.2) (fun a => (gH_ G).size ≤ a) U (gH_ G)) ∧
  (va_Z "java/util/ArrayList" "DEFAULTCAPACITY_EMPTY_ELEMENTDATA" "[Ljava/lang/Object;" (.ref (gK_ G 100)) (fun a => (gH_ G).size ≤ a) U (gH_ G)) ∧
  va_Mi "[Ljava/lang/Object;" (gK_ G 101) U ∧
  (∀ q ∈ zrf_, va_Zq q.1 q.2.1 q.2.2 (fun a => (gH_ G).size ≤ a) U (gH_ G)) ∧
  va_Nw selSB_ U ∧ (∀ q ∈ zrx_, vx_Zq q.1 q.2.1 q.2.2 (fun a => (gH_ G).size ≤ a) U (gH_ G))
theorem Kn_.moved {G : JG} {s U : State} (hW : s.WarmedH U.vm) (h : Kn_ G s) : Kn_ G U := by
  obtain ⟨h1, h2, h3, h4, h5, h6, h7, h8, h9, h10, h11, h12, h13⟩ := h
  have ha := hW.alike
  exact ⟨va_K.moved ha h1, fun q hq => va_Nw.warmC hW (h2 q hq), fun q hq => va_Nw.warmF hW (h3 q hq), fun q hq => va_Nw.warmM hW (h4 q hq), fun q hq => va_Nw.warmD hW (h5 q hq), va_AO.moved ha h6, fun i q hq => vk_R.warm hW (h7 i q hq), fun q hq => va_Z.moved ha (h8 q hq), va_Z.moved ha h9, va_Mi.moved ha h10, fun q hq => va_Zq.moved ha (h11 q hq), Cond.onTables_warm (args := #[]) (args' := #[]) (T := U) hW (c := selSB_) rfl rfl h12, fun q hq => vx_Zq.moved ha (h13 q hq)⟩
theorem Kn_.same {G : JG} {u U : State} (hv : U.vm = u.vm) (h : Kn_ G u) : Kn_ G U := by
  obtain ⟨h1, h2, h3, h4, h5, h6, h7, h8, h9, h10, h11, h12, h13⟩ := h
  have ha : u.vm.Alike U.vm := by rw [hv]; exact Vm.Alike.refl u.vm
  exact ⟨va_K.moved ha h1, fun q hq => va_Nw.same rfl hv.symm (h2 q hq), fun q hq => va_Nw.same rfl hv.symm (h3 q hq), fun q hq => va_Nw.same rfl hv.symm (h4 q hq), fun q hq => va_Nw.same rfl hv.symm (h5 q hq), va_AO.moved ha h6, fun i q hq => vk_R.same hv (h7 i q hq), fun q hq => va_Z.moved ha (h8 q hq), va_Z.moved ha h9, va_Mi.moved ha h10, fun q hq => va_Zq.moved ha (h11 q hq), va_Nw.same rfl hv.symm h12, fun q hq => vx_Zq.moved ha (h13 q hq)⟩
/-- a state of the run: the tables' knowledge, and its heap holds an abstract heap -/
def Wd_ (G : JG) (σ : JH) (U : State) : Prop := Kn_ G U ∧ Rp_ G σ U.heap
/-- the one method with a handler -/
def hl_led (y : MethodName) : Bool := y.cls == "WhalePostLaw" && y.name == "led"
def tb_ (y : MethodName) : List ExceptionTableEntry := if hl_led y = true then tableOf [(0, 9, 12, 13)] else []
/-- what is fixed through a method's run -/
def Cx_ (G : JG) (R : Room) (y : MethodName) (cc : ByteArray) (nL : Nat) (ret : Option FieldType) (σ0 : JH) (p : Program) (s : State) (m : MethodId) (args : Array Value) (meth : Method) (c : Code) : Prop :=
  p.tables.exec = Jvm.exec ∧ c.code = cc ∧ c.maxLocals = nL ∧ meth.sig.returnType = ret ∧ s.vm.findClass y.cls = some m.cls ∧ (∀ w ∈ lw_all, w.before args s = true) ∧ meth.locks = false ∧ meth.name = y.name ∧ Kn_ G s ∧ Rp_ G σ0 s.heap ∧
  R.cells + sz_ σ0 = lc_ G ∧ R.slots + us_ σ0 = ls_ G ∧ c.exceptionTable.toList = tb_ y
/-- from a place of the method's code, with locals ev, stack st and heap σ, the machine comes to a state with Z -/
def Go_ (G : JG) (R : Room) (y : MethodName) (cc : ByteArray) (nL : Nat) (ret : Option FieldType) (σ0 : JH) (Z : List Frame → Array Value → State → State → Prop) (pc : Nat) (ev : List (Option AV)) (st : List AV) (σ : JH) : Prop :=
  ∀ (p : Program) (e : Env) (s : State) (m : MethodId) (args : Array Value) (below : List Frame) (meth : Method) (c : Code) (H : Heap) (locs : List Loc) (cells slots : Nat) (ls : Array Slot),
    Cx_ G R y cc nL ret σ0 p s m args meth c → Rp_ G σ H → (∀ q ∈ locs, (gH_ G).size ≤ q.base) → lv_has ls nL (en_ 0 ev) →
    W p (gl_ G) e R s m args below meth c H locs cells slots (Z below args s) (F0 m pc ls (st.map av_))
/-- a method's room by its depth -/
def rm_ (G : JG) (d : Nat) (σ : JH) : Room := { frames := d, cells := lc_ G - sz_ σ, slots := ls_ G - us_ σ, locals := 64 * d }
def Qc_ (G : JG) (Q : Option AV → JH → Prop) : Array Value → State → Outcome → State → Prop := fun _ _ o t => ∃ (v : Option AV) (σ' : JH), o = .returned (v.map av_) ∧ Wd_ G σ' t ∧ Q v σ'
def ZM_ (G : JG) (σ0 : JH) (Q : Option AV → JH → Prop) : List Frame → Array Value → State → State → Prop := fun below args s => MQ below (Qc_ G Q) args s (lc_ G - sz_ σ0) (ls_ G - us_ σ0) (fun q => (gH_ G).size ≤ q)
/-- a method's run, from inside -/
abbrev GoM_ (G : JG) (d : Nat) (y : MethodName) (cc : ByteArray) (nL : Nat) (ret : Option FieldType) (σ0 : JH) (Q : Option AV → JH → Prop) (pc : Nat) (ev : List (Option AV)) (st : List AV) (σ : JH) : Prop := Go_ G (rm_ G d σ0) y cc nL ret σ0 (ZM_ G σ0 Q) pc ev st σ
/-- a method's run, from outside: called with as in σ it returns, and then Q -/
def Call_ (G : JG) (d : Nat) (y : MethodName) (cc : ByteArray) (nL : Nat) (ret : Option FieldType) (as : List AV) (σ : JH) (Q : Option AV → JH → Prop) : Prop :=
  Met (gl_ G) y (ws_ y cc nL ret) (rm_ G d σ) (va_Pc (as.map av_) (Wd_ G σ)) (Qc_ G Q) (lc_ G - sz_ σ) (ls_ G - us_ σ) (fun q => (gH_ G).size ≤ q)
abbrev CallV_ (G : JG) (d : Nat) (y : MethodName) (cc : ByteArray) (nL : Nat) (ret : Option FieldType) (as : List AV) (σ : JH) (Q : JH → Prop) : Prop := Call_ G d y cc nL ret as σ (fun v σ' => v = none ∧ Q σ')
abbrev CallI_ (G : JG) (d : Nat) (y : MethodName) (cc : ByteArray) (nL : Nat) (ret : Option FieldType) (as : List AV) (σ : JH) (Q : Int → JH → Prop) : Prop := Call_ G d y cc nL ret as σ (fun v σ' => ∃ x : Int, v = some (I_ x) ∧ Q x σ')
abbrev CallL_ (G : JG) (d : Nat) (y : MethodName) (cc : ByteArray) (nL : Nat) (ret : Option FieldType) (as : List AV) (σ : JH) (Q : Int → JH → Prop) : Prop := Call_ G d y cc nL ret as σ (fun v σ' => ∃ x : Int, v = some (L_ x) ∧ Q x σ')
abbrev CallA_ (G : JG) (d : Nat) (y : MethodName) (cc : ByteArray) (nL : Nat) (ret : Option FieldType) (as : List AV) (σ : JH) (Q : Option Nat → JH → Prop) : Prop := Call_ G d y cc nL ret as σ (fun v σ' => ∃ r : Option Nat, v = some (A_ r) ∧ Q r σ')
/-! slots in use, and the tight count -/
theorem su_push (H : Heap) (c : Cell) : su_ (H.push c) = su_ H + c.slots.size := by
  simp [su_]
theorem su_foldl (H : Heap) : H.foldl (fun n c => n + c.slots.size) 0 = su_ H := by
  have h : ∀ (l : List Cell) (n : Nat), l.foldl (fun n c => n + c.slots.size) n = n + (l.map (fun c : Cell => c.slots.size)).sum := by
    intro l
    induction l with
    | nil => intro n; simp
    | cons a l ih => intro n; simp [ih, Nat.add_assoc]
  rw [← Array.foldl_toList, h]
  simp [su_]
theorem su_same {H H' : Heap} (hs : H'.size = H.size) (h : ∀ q : Nat, (H'[q]?).map (fun c : Cell => c.slots.size) = (H[q]?).map (fun c : Cell => c.slots.size)) : su_ H' = su_ H := by
  have e : H'.toList.map (fun c : Cell => c.slots.size) = H.toList.map (fun c : Cell => c.slots.size) := by
    apply List.ext_getElem?
    intro q
    have hq := h q
    rw [List.getElem?_map, List.getElem?_map, Array.getElem?_toList, Array.getElem?_toList]
    exact hq
  unfold su_
  rw [e]
theorem su_set {H H' : Heap} {a : Nat} {c c' : Cell} (hs : H'.size = H.size) (ha : H[a]? = some c) (ha' : H'[a]? = some c') (hz : c'.slots.size = c.slots.size) (ho : ∀ q : Nat, q ≠ a → H'[q]? = H[q]?) : su_ H' = su_ H := by
  refine su_same hs fun q => ?_
  by_cases hq : q = a
  · subst hq; rw [ha, ha']; simp [hz]
  · rw [ho q hq]
theorem st_tight {p : Program} {l : Launch} {e : Env} {R : Room} {s : State} {m : MethodId} {args : Array Value} {below : List Frame} {meth : Method} {c : Code} {T : State} {locs : List Loc} {k n k' n' : Nat}
    (X : Stand p l e R s m args below meth c T locs k n) (hk : T.heap.size ≤ s.heap.size + k') (hn : su_ T.heap ≤ su_ s.heap + n') : Stand p l e R s m args below meth c T locs k' n' := by
  obtain ⟨h1, h2, h3, h4, h5, h6⟩ := X.same
  have b1 : T.slotsUsed = su_ T.heap := by
    have h := X.book
    unfold State.slotsTrue at h
    rw [← su_foldl]
    exact eq_of_beq h
  have b0 : s.slotsUsed = su_ s.heap := by
    have h := X.room
    simp only [State.hasRoom, Bool.and_eq_true] at h
    have h := h.2
    unfold State.slotsTrue at h
    rw [← su_foldl]
    exact eq_of_beq h
  have h4' : T.slotsUsed = s.slotsUsed + _ := h4
  refine { X with same := ⟨h1, h2, hk, h4, ?_, h6⟩ }
  rw [b1, b0] at h4'
  omega
theorem w_tight {p : Program} {l : Launch} {e : Env} {R : Room} {s : State} {m : MethodId} {args : Array Value} {below : List Frame} {meth : Method} {c : Code} {H : Heap} {locs : List Loc} {k n k' n' : Nat} {Q : State → Prop} {g : JFrame}
    (hk : H.size ≤ s.heap.size + k') (hn : su_ H ≤ su_ s.heap + n') (w : W p l e R s m args below meth c H locs k' n' Q g) : W p l e R s m args below meth c H locs k n Q g :=
  fun T hT X => w T hT (st_tight X (by rw [hT]; exact hk) (by rw [hT]; exact hn))
/-- a run's heap only grows -/
theorem w_mono {p : Program} {l : Launch} {e : Env} {R : Room} {s : State} {m : MethodId} {args : Array Value} {below : List Frame} {meth : Method} {c : Code} {H : Heap} {locs : List Loc} {k n : Nat} {Q : State → Prop} {g : JFrame}
    (w : s.heap.size ≤ H.size → su_ s.heap ≤ su_ H → W p l e R s m args below meth c H locs k n Q g) : W p l e R s m args below meth c H locs k n Q g := by
  intro T hT X
  obtain ⟨h1, h2, h3, h4, h5, h6⟩ := X.same
  have b1 : T.slotsUsed = su_ T.heap := by
    have h := X.book
    unfold State.slotsTrue at h
    rw [← su_foldl]
    exact eq_of_beq h
  have b0 : s.slotsUsed = su_ s.heap := by
    have h := X.room
    simp only [State.hasRoom, Bool.and_eq_true] at h
    have h := h.2
    unfold State.slotsTrue at h
    rw [← su_foldl]
    exact eq_of_beq h
  have h4' : T.slotsUsed = s.slotsUsed + _ := h4
  have h2' : s.heap.size ≤ T.heap.size := h2
  rw [b1, b0] at h4'
  rw [hT] at h2' h4'
  exact w h2' (by omega) T hT X
