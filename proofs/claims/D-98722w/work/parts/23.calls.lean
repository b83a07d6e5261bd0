/-! THE ENGINE, part 4: a method's start and end; calls. Written by gen/gen_calls.py -/
set_option maxRecDepth 100000
section
variable {G : JG} {R : Room} {y : MethodName} {cc : ByteArray} {nL : Nat} {ret : Option FieldType} {σ0 σ : JH} {Z : List Frame → Array Value → State → State → Prop} {pc d : Nat} {ev es : List (Option AV)} {st rest : List AV} {Q : Option AV → JH → Prop}
/-- a method from its first place on -/
theorem call_go {as : List AV} (ev : List (Option AV)) (hy : plainName y.cls = true) (hlen : (lg_sl (as.map av_)).length ≤ nL) (hev : en_ 0 ev = lv_args 0 (as.map av_)) (k : GoM_ G d y cc nL ret σ Q 0 ev [] σ) (htb : hl_led y = false := by decide) : Call_ G d y cc nL ret as σ Q := by
  refine Met.ofW (cc := cc) (maxL := nL) (ret := ret) hy rfl ?_
  intro p e s m args below meth c s₁ B hml hv
  obtain ⟨rfl, hKn, hRp⟩ := hv
  have hts := atoms_spec (ws := ws_ y cc nL ret) B.pre
  have hts : ∀ w ∈ lw_all, w.before _ s = true := fun w h => hts w (List.mem_cons_of_mem _ h)
  have htab : c.exceptionTable.toList = tb_ y := by
    obtain ⟨meth9, c9, h1, h2, -, -, -, -, h7, -⟩ := Cond.code_spec B.named (atoms_spec (ws := ws_ y cc nL ret) B.pre _ List.mem_cons_self)
    cases Option.some.inj (h1.symm.trans B.method)
    cases Option.some.inj (h2.symm.trans (Stand.of_body B).code)
    rw [Array.isEmpty_iff.mp h7]
    unfold tb_
    rw [htb]
    rfl
  have hl := lv_entry (as.map av_) (n := nL) hlen
  rw [lg_entry_eq]
  generalize (lg_sl (as.map av_) ++ List.replicate (nL - (lg_sl (as.map av_)).length) Slot.unset).toArray = ls at hl ⊢
  rw [← hev] at hl
  have hb := hRp.1
  exact k p e s m _ below meth c s.heap [] 0 0 ls ⟨B.exec, B.bytes, hml, B.returns, findClass_of_methodNamed B.named, hts, B.notSynchronized, (name_of_methodNamed B.named B.method).1, hKn, hRp, (by show lc_ G - sz_ σ + sz_ σ = lc_ G; omega), (by show ls_ G - us_ σ + us_ σ = ls_ G; omega), htab⟩ hRp (fun q h => by cases h) hl
theorem g_iret {x : Int} (hret : ret = some .int) (hd : decode cc pc = .ok (.ireturn, 1)) (hQ : Q (some (I_ x)) σ) : GoM_ G d y cc nL ret σ0 Q pc ev [I_ x] σ := by
  intro p e s m args below meth c H locs cells slots ls C hr hl hv
  have hR0 := C.2.2.2.2.2.2.2.2.2.1.1
  have hr1 := hr.1
  refine w_tight (k' := lc_ G - sz_ σ0) (n' := ls_ G - us_ σ0) (by rw [hr1.1, hR0.1]; omega) (by rw [hr1.2.1, hR0.2.1]; omega) ?_
  exact W.iret (v := Int32.ofInt x) C.1 C.2.1 (C.2.2.2.1.trans hret) (fun t ht hW => ⟨some (I_ x), σ, rfl, ⟨Kn_.moved hW C.2.2.2.2.2.2.2.2.1, by rw [ht]; exact hr⟩, hQ⟩) hl hd (hlocks := C.2.2.2.2.2.2.1)
theorem g_zretT {x : Int} {ty : FieldType} (hret : ret = some ty) (hn : narrow ty (.int (Int32.ofInt x)) = .int (Int32.ofInt x)) (hd : decode cc pc = .ok (.ireturn, 1)) (hQ : Q (some (I_ x)) σ) : GoM_ G d y cc nL ret σ0 Q pc ev [I_ x] σ := by
  intro p e s m args below meth c H locs cells slots ls C hr hl hv
  have hR0 := C.2.2.2.2.2.2.2.2.2.1.1
  have hr1 := hr.1
  refine w_tight (k' := lc_ G - sz_ σ0) (n' := ls_ G - us_ σ0) (by rw [hr1.1, hR0.1]; omega) (by rw [hr1.2.1, hR0.2.1]; omega) ?_
  exact W.zret (v := Int32.ofInt x) C.1 C.2.1 (C.2.2.2.1.trans hret) hn (fun t ht hW => ⟨some (I_ x), σ, rfl, ⟨Kn_.moved hW C.2.2.2.2.2.2.2.2.1, by rw [ht]; exact hr⟩, hQ⟩) hl hd (hlocks := C.2.2.2.2.2.2.1)
theorem g_zret {x : Int} (hret : ret = some .boolean) (hx : x = 0 ∨ x = 1) (hd : decode cc pc = .ok (.ireturn, 1)) (hQ : Q (some (I_ x)) σ) : GoM_ G d y cc nL ret σ0 Q pc ev [I_ x] σ := g_zretT hret (by rcases hx with rfl | rfl <;> rfl) hd hQ
theorem g_cret {x : Int} (hret : ret = some .char) (hx : 0 ≤ x ∧ x < 65536) (hd : decode cc pc = .ok (.ireturn, 1)) (hQ : Q (some (I_ x)) σ) : GoM_ G d y cc nL ret σ0 Q pc ev [I_ x] σ := g_zretT hret (by obtain ⟨n, hn⟩ : ∃ n : Nat, x = (n : Int) := ⟨x.toNat, by omega⟩; subst hn; rw [Int32.ofInt_eq_ofNat]; exact (pk_charN (q := n) (by omega)).1) hd hQ
theorem g_bret {x : Int} (hret : ret = some .byte) (hx : -128 ≤ x ∧ x ≤ 127) (hd : decode cc pc = .ok (.ireturn, 1)) (hQ : Q (some (I_ x)) σ) : GoM_ G d y cc nL ret σ0 Q pc ev [I_ x] σ := g_zretT hret (by rw [narrow_byte, Int32.toInt8_ofInt, Int8.toInt32_ofInt hx.1 hx.2]) hd hQ
theorem g_lret {x : Int} (hret : ret = some .long) (hd : decode cc pc = .ok (.lreturn, 1)) (hQ : Q (some (L_ x)) σ) : GoM_ G d y cc nL ret σ0 Q pc ev [L_ x] σ := by
  intro p e s m args below meth c H locs cells slots ls C hr hl hv
  have hR0 := C.2.2.2.2.2.2.2.2.2.1.1
  have hr1 := hr.1
  refine w_tight (k' := lc_ G - sz_ σ0) (n' := ls_ G - us_ σ0) (by rw [hr1.1, hR0.1]; omega) (by rw [hr1.2.1, hR0.2.1]; omega) ?_
  exact W.lret (v := Int64.ofInt x) C.1 C.2.1 (C.2.2.2.1.trans hret) (fun t ht hW => ⟨some (L_ x), σ, rfl, ⟨Kn_.moved hW C.2.2.2.2.2.2.2.2.1, by rw [ht]; exact hr⟩, hQ⟩) hl hd (hlocks := C.2.2.2.2.2.2.1)
theorem g_vret (hret : ret = none) (hd : decode cc pc = .ok (.return_, 1)) (hQ : Q none σ) : GoM_ G d y cc nL ret σ0 Q pc ev [] σ := by
  intro p e s m args below meth c H locs cells slots ls C hr hl hv
  have hR0 := C.2.2.2.2.2.2.2.2.2.1.1
  have hr1 := hr.1
  refine w_tight (k' := lc_ G - sz_ σ0) (n' := ls_ G - us_ σ0) (by rw [hr1.1, hR0.1]; omega) (by rw [hr1.2.1, hR0.2.1]; omega) ?_
  exact W.vret C.1 C.2.1 (C.2.2.2.1.trans hret) (fun t ht hW => ⟨none, σ, rfl, ⟨Kn_.moved hW C.2.2.2.2.2.2.2.2.1, by rw [ht]; exact hr⟩, hQ⟩) hl hd (hlocks := C.2.2.2.2.2.2.1)
theorem g_aret {r : Option Nat} {rt : FieldType} (hret : ret = some rt) (hrt : (∃ n, rt = .object n) ∨ ∃ t, rt = .array t) (hd : decode cc pc = .ok (.areturn, 1)) (hQ : Q (some (A_ r)) σ) : GoM_ G d y cc nL ret σ0 Q pc ev [A_ r] σ := by
  intro p e s m args below meth c H locs cells slots ls C hr hl hv
  have hR0 := C.2.2.2.2.2.2.2.2.2.1.1
  have hr1 := hr.1
  refine w_tight (k' := lc_ G - sz_ σ0) (n' := ls_ G - us_ σ0) (by rw [hr1.1, hR0.1]; omega) (by rw [hr1.2.1, hR0.2.1]; omega) ?_
  exact W.aret (v := va_rf r) C.1 C.2.1 (C.2.2.2.1.trans hret) hrt (by cases r with | none => exact Or.inl rfl | some a => exact Or.inr ⟨_, rfl⟩) (fun t ht hW => ⟨some (A_ r), σ, rfl, ⟨Kn_.moved hW C.2.2.2.2.2.2.2.2.1, by rw [ht]; exact hr⟩, hQ⟩) hl hd (hlocks := C.2.2.2.2.2.2.1)
/-- slots of a value -/
def cw_ (v : AV) : Nat := match v with | .inr (.inl _) => 2 | _ => 1
theorem cw_cat (v : AV) : (av_ v).category = cw_ v := by
  rcases v with x | x | r
  · rfl
  · rfl
  · cases r <;> rfl
theorem cw_sum (l : List AV) : ((l.map av_).map fun v => v.category).sum = (l.map cw_).sum := by
  induction l with
  | nil => rfl
  | cons v l ih => simp only [List.map_cons, List.sum_cons, ih, cw_cat]
theorem wd_blind (as : List Value) : FrameBlind (va_Pc as (Wd_ G σ)) := fun a U g mk q => ⟨q.1, Kn_.same (u := U) rfl q.2.1, q.2.2⟩
theorem av_app (v : Option AV) (l : List AV) : (v.map av_).toList ++ l.map av_ = (v.toList ++ l).map av_ := by cases v <;> rfl
/-- a call, out of its run -/
theorem go_run {Qa : Option AV → JH → Prop} {a : Array Value} {st0 : List AV}
    (h : ∀ (p : Program) (e : Env) (s : State) (m : MethodId) (args : Array Value) (below : List Frame) (meth : Method) (c : Code) (H : Heap) (locs : List Loc) (ls : Array Slot), Cx_ G R y cc nL ret σ0 p s m args meth c → Rp_ G σ H → ls.size = nL → sz_ σ - sz_ σ0 + (lc_ G - sz_ σ) ≤ R.cells ∧ us_ σ - us_ σ0 + (ls_ G - us_ σ) ≤ R.slots →
      va_Run p (gl_ G) e R s m args below meth c H locs (sz_ σ - sz_ σ0) (us_ σ - us_ σ0) (lc_ G - sz_ σ) (ls_ G - us_ σ) (F0 m pc ls (st0.map av_)) (rest.map av_) (Qc_ G Qa a) (fun q => (gH_ G).size ≤ q))
    (k : ∀ (v : Option AV) (σ' : JH), Qa v σ' → Go_ G R y cc nL ret σ0 Z (pc + 3) ev (v.toList ++ rest) σ') : Go_ G R y cc nL ret σ0 Z pc ev st0 σ := by
  intro p e s m args below meth c H locs cells slots ls C hr hl hv
  have hR0 := C.2.2.2.2.2.2.2.2.2.1.1
  have hRc := And.intro C.2.2.2.2.2.2.2.2.2.2.1 C.2.2.2.2.2.2.2.2.2.2.2.1
  have hr1 := hr.1
  refine w_mono fun m1 m2 => ?_
  rw [hr1.1, hR0.1] at m1
  rw [hr1.2.1, hR0.2.1] at m2
  refine w_tight (k' := sz_ σ - sz_ σ0) (n' := us_ σ - us_ σ0) (by rw [hr1.1, hR0.1]; omega) (by rw [hr1.2.1, hR0.2.1]; omega) ?_
  intro T hT X
  obtain ⟨v, st₀, t, T', L, h0, X', hL, e1, e2, ⟨v', σ', hv', ⟨hKn', hRp'⟩, hQ⟩, st⟩ := h p e s m args below meth c H locs ls C hr hv.1 ⟨by omega, by omega⟩ T hT X
  have ev' : v = v'.map av_ := Outcome.returned.inj hv'
  subst ev'
  obtain ⟨t2, a1, b1⟩ := k v' σ' hQ p e s m args below meth c T'.heap (locs ++ L) _ _ ls C (by rw [e1]; exact hRp') (fun q hq => by
    rcases List.mem_append.mp hq with h | h
    · exact hl q h
    · exact hL q h) hv T' rfl X'
  refine ⟨t2, st t2 ?_, b1⟩
  have e3 := av_app v' rest
  show Steps _ _ _ (T'.setTop (F0 m (pc + 3) ls ((v'.map av_).toList ++ rest.map av_))) t2
  rw [e3]
  exact a1
/-- a method's entry in a class's pool, and its code: an instance method of the receiver's own class -/
def LkV_ (own : String) (i : Nat) (z : MethodName) (zc : ByteArray) (zL : Nat) (zr : Option FieldType) (n : Nat) : Prop := Cond.methodLink own i z ∈ lw_all ∧ Cond.instanceMethod z ∈ lw_all ∧ Cond.selects z.cls z z ∈ lw_all ∧ Cond.initialized z.cls ∈ lw_all ∧ Cond.code z zc zL zr ∈ lw_all ∧ (z.cls ≠ "java/lang/invoke/MethodHandle" ∧ z.cls ≠ "java/lang/invoke/VarHandle" ∧ (parseMethodDescriptor z.desc).map (fun d => d.parameters.length) = some n)
/-- a constructor -/
def LkI_ (own : String) (i : Nat) (z : MethodName) (zc : ByteArray) (zL : Nat) (n : Nat) : Prop := Cond.methodLink own i z ∈ lw_all ∧ Cond.instanceMethod z ∈ lw_all ∧ Cond.initialized z.cls ∈ lw_all ∧ Cond.code z zc zL none ∈ lw_all ∧ z.name = "<init>" ∧ (z.cls ≠ "java/lang/invoke/MethodHandle" ∧ z.cls ≠ "java/lang/invoke/VarHandle" ∧ (parseMethodDescriptor z.desc).map (fun d => d.parameters.length) = some n)
/-- a static method -/
def LkS_ (own : String) (i : Nat) (z : MethodName) (zc : ByteArray) (zL : Nat) (zr : Option FieldType) (n : Nat) : Prop := Cond.methodLink own i z ∈ lw_all ∧ Cond.static z ∈ lw_all ∧ Cond.initialized z.cls ∈ lw_all ∧ Cond.code z zc zL zr ∈ lw_all ∧ (z.cls ≠ "java/lang/invoke/MethodHandle" ∧ z.cls ≠ "java/lang/invoke/VarHandle" ∧ (parseMethodDescriptor z.desc).map (fun d => d.parameters.length) = some n)
/-- a nest mate's private static method, constructor -/
def LkSN_ (own : String) (i : Nat) (z : MethodName) (zc : ByteArray) (zL : Nat) (zr : Option FieldType) (n : Nat) (host : String) : Prop := (own, i, z, host) ∈ nwM_ ∧ Cond.static z ∈ lw_all ∧ Cond.initialized z.cls ∈ lw_all ∧ Cond.code z zc zL zr ∈ lw_all ∧ (z.cls ≠ "java/lang/invoke/MethodHandle" ∧ z.cls ≠ "java/lang/invoke/VarHandle" ∧ (parseMethodDescriptor z.desc).map (fun d => d.parameters.length) = some n)
def LkIN_ (own : String) (i : Nat) (z : MethodName) (zc : ByteArray) (zL : Nat) (n : Nat) (host : String) : Prop := (own, i, z, host) ∈ nwM_ ∧ Cond.instanceMethod z ∈ lw_all ∧ Cond.initialized z.cls ∈ lw_all ∧ Cond.code z zc zL none ∈ lw_all ∧ z.name = "<init>" ∧ (z.cls ≠ "java/lang/invoke/MethodHandle" ∧ z.cls ≠ "java/lang/invoke/VarHandle" ∧ (parseMethodDescriptor z.desc).map (fun d => d.parameters.length) = some n)
/-- an inherited or overriding method: x is named, owner declares it, the receiver's class C runs z -/
def LkU_ (own : String) (i : Nat) (C owner : String) (x z : MethodName) (zc : ByteArray) (zL : Nat) (zr : Option FieldType) (n : Nat) : Prop := Cond.methodLink own i x ∈ lw_all ∧ Cond.sameMethod x.cls owner x.name x.desc ∈ lw_all ∧ Cond.instanceMethod ⟨owner, x.name, x.desc⟩ ∈ lw_all ∧ Cond.selects C x z ∈ lw_all ∧ Cond.instanceMethod z ∈ lw_all ∧ Cond.initialized z.cls ∈ lw_all ∧ Cond.code z zc zL zr ∈ lw_all ∧ (∃ b0 m0 r0, Cond.code ⟨owner, x.name, x.desc⟩ b0 m0 r0 ∈ lw_all) ∧ (owner ≠ "java/lang/invoke/MethodHandle" ∧ owner ≠ "java/lang/invoke/VarHandle" ∧ (parseMethodDescriptor x.desc).map (fun d => d.parameters.length) = some n)
theorem rc_of {b ci : Nat} {C : String} {H : Heap} {s : State} (hr : Rp_ G σ H) (hKn : Kn_ G s) (hs : sh_ σ b = some (.inl ci)) (hC : ∀ r : vw_C, cls_[ci]? = some r → r.1 = C) : ∃ cell : Cell, H[b]? = some cell ∧ cell.vm.isStatics = false ∧ s.vm.findClass C = some cell.cls := by
  obtain ⟨cell, h1, ⟨ok1, -, -⟩, r, hr1, hcls, -⟩ := hr.2.2 b _ hs
  have hfc := (hKn.1.1 ci _ hr1).2.1
  exact ⟨cell, h1, ok1, by rw [← hC r hr1, hcls]; exact hfc⟩
theorem st_split (As rest : List AV) (b : Nat) : (As.reverse ++ A_ (some b) :: rest).map av_ = (As.map av_).reverse ++ Value.ref b :: rest.map av_ := by
  rw [List.map_append, List.map_reverse]; rfl
theorem g_callV (As : List AV) {b i d' n ci zL : Nat} {z : MethodName} {zc : ByteArray} {zr : Option FieldType} (Lk : LkV_ y.cls i z zc zL zr n) (hs : sh_ σ b = some (.inl ci)) (hC : ∀ r : vw_C, cls_[ci]? = some r → r.1 = z.cls) (hn : As.length = n) (hR : d' + 1 ≤ R.frames ∧ zL + 19 + 64 * d' ≤ R.locals) (hst : (rest.map cw_).sum ≤ 8) (hd : decode cc pc = .ok (.invokevirtual i, 3))
    (hc : Call_ G d' z zc zL zr (A_ (some b) :: As) σ (fun v σ' => Go_ G R y cc nL ret σ0 Z (pc + 3) ev (v.toList ++ rest) σ')) : Go_ G R y cc nL ret σ0 Z pc ev (As.reverse ++ A_ (some b) :: rest) σ := by
  obtain ⟨q1, q2, q3, q4, q5, hz⟩ := Lk
  refine go_run (Qa := fun v σ' => Go_ G R y cc nL ret σ0 Z (pc + 3) ev (v.toList ++ rest) σ') (a := (Value.ref b :: As.map av_).toArray) ?_ (fun v σ' h => h)
  intro p e s m args below meth c H locs ls C hr hls hroom
  obtain ⟨hx, hb, hml, -, hown, hts, -, -, hKn, -⟩ := C
  refine va_runV (C := z.cls) (As := As.map av_) (n := n) ⟨hx, hb, hml, hown, hts⟩ hc (cwV n hts (lw_V q1 q2 q3 q4 q5) rfl rfl rfl ⟨rfl, hz⟩ ⟨hR.1, by show 8 + (zL + 11) + 64 * d' ≤ R.locals; omega⟩) ⟨wd_blind _, rc_of hr hKn hs hC, fun U hU hW => ⟨rfl, Kn_.moved hW hKn, by rw [hU]; exact hr⟩⟩ rfl (by rw [List.length_map]; exact hn) hls (st_split As rest b) (lv_room (by rw [cw_sum]; exact hst)) hd hroom
theorem g_callU (As : List AV) {b i d' n ci zL : Nat} {C owner : String} {x z : MethodName} {zc : ByteArray} {zr : Option FieldType} (Lk : LkU_ y.cls i C owner x z zc zL zr n) (hs : sh_ σ b = some (.inl ci)) (hC : ∀ r : vw_C, cls_[ci]? = some r → r.1 = C) (hn : As.length = n) (hR : d' + 1 ≤ R.frames ∧ zL + 19 + 64 * d' ≤ R.locals) (hst : (rest.map cw_).sum ≤ 8) (hd : decode cc pc = .ok (.invokevirtual i, 3))
    (hc : Call_ G d' z zc zL zr (A_ (some b) :: As) σ (fun v σ' => Go_ G R y cc nL ret σ0 Z (pc + 3) ev (v.toList ++ rest) σ')) : Go_ G R y cc nL ret σ0 Z pc ev (As.reverse ++ A_ (some b) :: rest) σ := by
  obtain ⟨q1, q2, q3, q4, q5, q6, q7, ⟨b0, m0, r0, q8⟩, hz⟩ := Lk
  refine go_run (Qa := fun v σ' => Go_ G R y cc nL ret σ0 Z (pc + 3) ev (v.toList ++ rest) σ') (a := (Value.ref b :: As.map av_).toArray) ?_ (fun v σ' h => h)
  intro p e s m args below meth c H locs ls C0 hr hls hroom
  obtain ⟨hx, hb, hml, -, hown, hts, -, -, hKn, -⟩ := C0
  have hG : GoodIn lw_all (va_wsO y.cls i C owner x z (ws_ z zc zL zr)) := by
    refine lw_app ?_ (lw_meth q7)
    intro w hw
    simp only [List.mem_cons, List.not_mem_nil, or_false] at hw
    rcases hw with h | h | h | h | h | h <;> (rw [h]; assumption)
  refine va_runU (C := C) (owner := owner) (x := x) (As := As.map av_) (n := n) ⟨hx, hb, hml, hown, hts⟩ hc (va_cwO n hts hG rfl rfl rfl q8 hz ⟨hR.1, by show 8 + (zL + 11) + 64 * d' ≤ R.locals; omega⟩) ⟨wd_blind _, rc_of hr hKn hs hC, fun U hU hW => ⟨rfl, Kn_.moved hW hKn, by rw [hU]; exact hr⟩⟩ rfl (by rw [List.length_map]; exact hn) hls (st_split As rest b) (lv_room (by rw [cw_sum]; exact hst)) hd hroom
theorem g_callI (As : List AV) {b i d' n zL : Nat} {z : MethodName} {zc : ByteArray} (Lk : LkI_ y.cls i z zc zL n) (hn : As.length = n) (hR : d' + 1 ≤ R.frames ∧ zL + 19 + 64 * d' ≤ R.locals) (hst : (rest.map cw_).sum ≤ 8) (hd : decode cc pc = .ok (.invokespecial i, 3))
    (hc : Call_ G d' z zc zL none (A_ (some b) :: As) σ (fun v σ' => Go_ G R y cc nL ret σ0 Z (pc + 3) ev (v.toList ++ rest) σ')) : Go_ G R y cc nL ret σ0 Z pc ev (As.reverse ++ A_ (some b) :: rest) σ := by
  obtain ⟨q1, q2, q4, q5, hz1, hz⟩ := Lk
  refine go_run (Qa := fun v σ' => Go_ G R y cc nL ret σ0 Z (pc + 3) ev (v.toList ++ rest) σ') (a := (Value.ref b :: As.map av_).toArray) ?_ (fun v σ' h => h)
  intro p e s m args below meth c H locs ls C hr hls hroom
  obtain ⟨hx, hb, hml, -, hown, hts, -, -, hKn, -⟩ := C
  refine va_runI (As := As.map av_) (n := n) ⟨hx, hb, hml, hown, hts⟩ hc (cwI n hts (lw_meth q5) rfl rfl rfl (hts _ q4) (hts _ q1) (hts _ q2) hz1 hz ⟨hR.1, by show 8 + (zL + 11) + 64 * d' ≤ R.locals; omega⟩) ⟨wd_blind _, fun U hU hW => ⟨rfl, Kn_.moved hW hKn, by rw [hU]; exact hr⟩⟩ rfl (by rw [List.length_map]; exact hn) hls (st_split As rest b) (lv_room (by rw [cw_sum]; exact hst)) hd hroom
theorem g_callIN (As : List AV) {b i d' n zL : Nat} {z : MethodName} {zc : ByteArray} {host : String} (Lk : LkIN_ y.cls i z zc zL n host) (hn : As.length = n) (hR : d' + 1 ≤ R.frames ∧ zL + 19 + 64 * d' ≤ R.locals) (hst : (rest.map cw_).sum ≤ 8) (hd : decode cc pc = .ok (.invokespecial i, 3))
    (hc : Call_ G d' z zc zL none (A_ (some b) :: As) σ (fun v σ' => Go_ G R y cc nL ret σ0 Z (pc + 3) ev (v.toList ++ rest) σ')) : Go_ G R y cc nL ret σ0 Z pc ev (As.reverse ++ A_ (some b) :: rest) σ := by
  obtain ⟨q1, q2, q4, q5, hz1, hz⟩ := Lk
  refine go_run (Qa := fun v σ' => Go_ G R y cc nL ret σ0 Z (pc + 3) ev (v.toList ++ rest) σ') (a := (Value.ref b :: As.map av_).toArray) ?_ (fun v σ' h => h)
  intro p e s m args below meth c H locs ls C hr hls hroom
  obtain ⟨hx, hb, hml, -, hown, hts, -, -, hKn, -⟩ := C
  refine va_runIN (host := host) (As := As.map av_) (n := n) ⟨hx, hb, hml, hown, hts⟩ hc ⟨va_cnB n hts (lw_meth q5) rfl rfl rfl (hKn.2.2.2.1 _ q1) (hts _ q4) hz ⟨hR.1, by show 8 + (zL + 11) + 64 * d' ≤ R.locals; omega⟩, hz1, hts _ q2⟩ ⟨wd_blind _, fun U hU hW => ⟨rfl, Kn_.moved hW hKn, by rw [hU]; exact hr⟩⟩ rfl (by rw [List.length_map]; exact hn) hls (st_split As rest b) (lv_room (by rw [cw_sum]; exact hst)) hd hroom
theorem g_callS (As : List AV) {i d' n zL : Nat} {z : MethodName} {zc : ByteArray} {zr : Option FieldType} (Lk : LkS_ y.cls i z zc zL zr n) (hn : As.length = n) (hR : d' + 1 ≤ R.frames ∧ zL + 19 + 64 * d' ≤ R.locals) (hst : (rest.map cw_).sum ≤ 8) (hd : decode cc pc = .ok (.invokestatic i, 3))
    (hc : Call_ G d' z zc zL zr As σ (fun v σ' => Go_ G R y cc nL ret σ0 Z (pc + 3) ev (v.toList ++ rest) σ')) : Go_ G R y cc nL ret σ0 Z pc ev (As.reverse ++ rest) σ := by
  obtain ⟨q1, q2, q4, q5, hz⟩ := Lk
  refine go_run (Qa := fun v σ' => Go_ G R y cc nL ret σ0 Z (pc + 3) ev (v.toList ++ rest) σ') (a := (As.map av_).toArray) ?_ (fun v σ' h => h)
  intro p e s m args below meth c H locs ls C hr hls hroom
  obtain ⟨hx, hb, hml, -, hown, hts, -, -, hKn, -⟩ := C
  refine va_runS (As := As.map av_) (n := n) ⟨hx, hb, hml, hown, hts⟩ hc (va_cwS n hts (lw_S q1 q2 q4 q5) rfl rfl rfl hz ⟨hR.1, by show 8 + (zL + 11) + 64 * d' ≤ R.locals; omega⟩) ⟨wd_blind _, fun U hU hW => ⟨rfl, Kn_.moved hW hKn, by rw [hU]; exact hr⟩⟩ rfl (by rw [List.length_map]; exact hn) hls (by show (As.reverse ++ rest).map av_ = _; rw [List.map_append, List.map_reverse]) (lv_room (by rw [cw_sum]; exact hst)) hd hroom
theorem g_callSN (As : List AV) {i d' n zL : Nat} {z : MethodName} {zc : ByteArray} {zr : Option FieldType} {host : String} (Lk : LkSN_ y.cls i z zc zL zr n host) (hn : As.length = n) (hR : d' + 1 ≤ R.frames ∧ zL + 19 + 64 * d' ≤ R.locals) (hst : (rest.map cw_).sum ≤ 8) (hd : decode cc pc = .ok (.invokestatic i, 3))
    (hc : Call_ G d' z zc zL zr As σ (fun v σ' => Go_ G R y cc nL ret σ0 Z (pc + 3) ev (v.toList ++ rest) σ')) : Go_ G R y cc nL ret σ0 Z pc ev (As.reverse ++ rest) σ := by
  obtain ⟨q1, q2, q4, q5, hz⟩ := Lk
  refine go_run (Qa := fun v σ' => Go_ G R y cc nL ret σ0 Z (pc + 3) ev (v.toList ++ rest) σ') (a := (As.map av_).toArray) ?_ (fun v σ' h => h)
  intro p e s m args below meth c H locs ls C hr hls hroom
  obtain ⟨hx, hb, hml, -, hown, hts, -, -, hKn, -⟩ := C
  refine va_runSN (host := host) (As := As.map av_) (n := n) ⟨hx, hb, hml, hown, hts⟩ hc ⟨va_cnB n hts (lw_meth q5) rfl rfl rfl (hKn.2.2.2.1 _ q1) (hts _ q4) hz ⟨hR.1, by show 8 + (zL + 11) + 64 * d' ≤ R.locals; omega⟩, hts _ q2, trivial⟩ ⟨wd_blind _, fun U hU hW => ⟨rfl, Kn_.moved hW hKn, by rw [hU]; exact hr⟩⟩ rfl (by rw [List.length_map]; exact hn) hls (by show (As.reverse ++ rest).map av_ = _; rw [List.map_append, List.map_reverse]) (lv_room (by rw [cw_sum]; exact hst)) hd hroom
/-- a contract with a stronger end -/
theorem Call_.mono {d : Nat} {z : MethodName} {zc : ByteArray} {zL : Nat} {zr : Option FieldType} {as : List AV} {Q Q' : Option AV → JH → Prop} (h : Call_ G d z zc zL zr as σ Q) (hq : ∀ v σ', Q v σ' → Q' v σ') : Call_ G d z zc zL zr as σ Q' := by
  intro p e ha hc hk s m args below hf hfit hP hK
  obtain ⟨k, o, h1, h2, h3, hQ, hL⟩ := h p e ha hc hk s m args below hf hfit hP hK
  obtain ⟨v, σ', q1, q2, q3⟩ := hQ
  exact ⟨k, o, h1, h2, h3, ⟨v, σ', q1, q2, hq v σ' q3⟩, hL⟩
/-- Object's constructor -/
theorem g_objInit {a i : Nat} (q1 : Cond.methodLink y.cls i objectInit ∈ lw_all) (q2 : Cond.instanceMethod objectInit ∈ lw_all) (q3 : Cond.code objectInit ⟨#[0xb1]⟩ 1 none ∈ lw_all) (hR : 1 ≤ R.frames ∧ 20 ≤ R.locals) (hst : (st.map cw_).sum ≤ 8) (hd : decode cc pc = .ok (.invokespecial i, 3)) (k : Go_ G R y cc nL ret σ0 Z (pc + 3) ev st σ) : Go_ G R y cc nL ret σ0 Z pc ev (A_ (some a) :: st) σ := by
  intro p e s m args below meth c H locs cells slots ls C hr hl hv
  have w := k p e s m args below meth c H locs cells slots ls C hr hl hv
  obtain ⟨hx, hb, hml, -, hown, hts, -⟩ := C
  exact W.objInit hx hb hown (hts _ q1) (hts _ q2) (hts _ q3) rfl (by rw [hml]; exact hv.1) rfl hd hR.1 (by have := lv_room (m := m) (pc := pc) (ls := ls) (rest := (A_ (some a) :: st).map av_) (st := st.map av_) (by rw [cw_sum]; exact hst); omega) w
end
