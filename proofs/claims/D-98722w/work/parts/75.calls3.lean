/-! THE ENGINE: calls of an upper class's method; a private one of StringBuilder's. Written by mod/m75a.py -/
set_option maxRecDepth 100000
def LkSU_ (own : String) (i : Nat) (z : MethodName) (zc : ByteArray) (zL : Nat) (zr : Option FieldType) (n : Nat) : Prop := Cond.methodLink own i z ∈ lw_all ∧ Cond.sameMethod z.cls z.cls z.name z.desc ∈ lw_all ∧ Cond.superclass own z.cls ∈ lw_all ∧ Cond.instanceMethod z ∈ lw_all ∧ Cond.initialized z.cls ∈ lw_all ∧ Cond.code z zc zL zr ∈ lw_all ∧ (z.name ≠ "<init>" ∧ (parseMethodDescriptor z.desc).map (fun d => d.parameters.length) = some n)
section
variable {G : JG} {R : Room} {y : MethodName} {cc : ByteArray} {nL : Nat} {ret : Option FieldType} {σ0 σ : JH} {Z : List Frame → Array Value → State → State → Prop} {pc : Nat} {ev : List (Option AV)} {st rest : List AV}
theorem g_callSU (As : List AV) {b i d' n ci zL : Nat} {z : MethodName} {zc : ByteArray} {zr : Option FieldType} (Lk : LkSU_ y.cls i z zc zL zr n) (hs : sh_ σ b = some (.inl ci)) (hn : As.length = n) (hR : d' + 1 ≤ R.frames ∧ zL + 19 + 64 * d' ≤ R.locals) (hst : (rest.map cw_).sum ≤ 8) (hd : decode cc pc = .ok (.invokespecial i, 3))
    (hc : Call_ G d' z zc zL zr (A_ (some b) :: As) σ (fun v σ' => Go_ G R y cc nL ret σ0 Z (pc + 3) ev (v.toList ++ rest) σ')) : Go_ G R y cc nL ret σ0 Z pc ev (As.reverse ++ A_ (some b) :: rest) σ := by
  obtain ⟨q1, q2, q3, q4, q5, q6, hz⟩ := Lk
  refine go_run (Qa := fun v σ' => Go_ G R y cc nL ret σ0 Z (pc + 3) ev (v.toList ++ rest) σ') (a := (Value.ref b :: As.map av_).toArray) ?_ (fun v σ' h => h)
  intro p e s m args below meth c H locs ls C0 hr hls hroom
  obtain ⟨hx, hb, hml, -, hown, hts, -, -, hKn, -⟩ := C0
  obtain ⟨cell, -, -, r, hr1, -, -⟩ := hr.2.2 b _ hs
  have hG : GoodIn lw_all (va_wsSU y.cls i z (ws_ z zc zL zr)) := by
    refine lw_app ?_ (lw_meth q6)
    intro w hw
    simp only [List.mem_cons, List.not_mem_nil, or_false] at hw
    rcases hw with h | h | h | h | h <;> (rw [h]; assumption)
  exact va_runSU (C := r.1) (As := As.map av_) (n := n) (hKn.1.1 ci _ hr1).2 ⟨hx, hb, hml, hown, hts⟩ hc (va_cwSU n hts hG rfl rfl rfl hz ⟨hR.1, by show 8 + (zL + 11) + 64 * d' ≤ R.locals; omega⟩) ⟨wd_blind _, rc_of hr hKn hs (fun r' h => by cases h.symm.trans hr1; rfl), fun U hU hW => ⟨rfl, Kn_.moved hW hKn, by rw [hU]; exact hr⟩⟩ rfl (by rw [List.length_map]; exact hn) hls (st_split As rest b) (lv_room (by rw [cw_sum]; exact hst)) hd hroom
theorem g_callSU0I {b i d' ci zL : Nat} {z : MethodName} {zc : ByteArray} {zr : Option FieldType} (Lk : LkSU_ y.cls i z zc zL zr 0) (hs : sh_ σ b = some (.inl ci)) (hR : d' + 1 ≤ R.frames ∧ zL + 19 + 64 * d' ≤ R.locals) (hst : (rest.map cw_).sum ≤ 8) (hd : decode cc pc = .ok (.invokespecial i, 3)) (hc : CallI_ G d' z zc zL zr [A_ (some b)] σ (fun x σ' => Go_ G R y cc nL ret σ0 Z (pc + 3) ev (I_ x :: rest) σ')) : Go_ G R y cc nL ret σ0 Z pc ev (A_ (some b) :: rest) σ :=
  g_callSU [] Lk hs rfl hR hst hd (hc.mono fun v σ' h => by obtain ⟨x, rfl, h⟩ := h; exact h)
theorem g_callSU1I {b i d' ci zL : Nat} {z : MethodName} {zc : ByteArray} {zr : Option FieldType} {a1 : AV} (Lk : LkSU_ y.cls i z zc zL zr 1) (hs : sh_ σ b = some (.inl ci)) (hR : d' + 1 ≤ R.frames ∧ zL + 19 + 64 * d' ≤ R.locals) (hst : (rest.map cw_).sum ≤ 8) (hd : decode cc pc = .ok (.invokespecial i, 3)) (hc : CallI_ G d' z zc zL zr [A_ (some b), a1] σ (fun x σ' => Go_ G R y cc nL ret σ0 Z (pc + 3) ev (I_ x :: rest) σ')) : Go_ G R y cc nL ret σ0 Z pc ev (a1 :: A_ (some b) :: rest) σ :=
  g_callSU [a1] Lk hs rfl hR hst hd (hc.mono fun v σ' h => by obtain ⟨x, rfl, h⟩ := h; exact h)
theorem g_callSU1A {b i d' ci zL : Nat} {z : MethodName} {zc : ByteArray} {zr : Option FieldType} {a1 : AV} (Lk : LkSU_ y.cls i z zc zL zr 1) (hs : sh_ σ b = some (.inl ci)) (hR : d' + 1 ≤ R.frames ∧ zL + 19 + 64 * d' ≤ R.locals) (hst : (rest.map cw_).sum ≤ 8) (hd : decode cc pc = .ok (.invokespecial i, 3)) (hc : CallA_ G d' z zc zL zr [A_ (some b), a1] σ (fun x σ' => Go_ G R y cc nL ret σ0 Z (pc + 3) ev (A_ x :: rest) σ')) : Go_ G R y cc nL ret σ0 Z pc ev (a1 :: A_ (some b) :: rest) σ :=
  g_callSU [a1] Lk hs rfl hR hst hd (hc.mono fun v σ' h => by obtain ⟨x, rfl, h⟩ := h; exact h)
theorem g_ecap {b d' : Nat} {x : Int} (hy : y.cls = RJ3) (hs : sh_ σ b = some (.inl 7)) (hR : d' + 1 ≤ R.frames ∧ 3 + 19 + 64 * d' ≤ R.locals) (hst : (rest.map cw_).sum ≤ 8) (hd : decode cc pc = .ok (.invokevirtual 100, 3)) (hc : CallV_ G d' yJ3_ensureCapacityInternal cJ3_ensureCapacityInternal 3 none [A_ (some b), I_ x] σ (fun σ' => Go_ G R y cc nL ret σ0 Z (pc + 3) ev rest σ')) : Go_ G R y cc nL ret σ0 Z pc ev (I_ x :: A_ (some b) :: rest) σ := by
  have hc' : Call_ G d' yJ3_ensureCapacityInternal cJ3_ensureCapacityInternal 3 none (A_ (some b) :: [I_ x]) σ (fun v σ' => Go_ G R y cc nL ret σ0 Z (pc + 3) ev (v.toList ++ rest) σ') := hc.mono fun v σ' h => by obtain ⟨rfl, h⟩ := h; exact h
  refine go_run (st0 := I_ x :: A_ (some b) :: rest) (Qa := fun v σ' => Go_ G R y cc nL ret σ0 Z (pc + 3) ev (v.toList ++ rest) σ') (a := (Value.ref b :: [I_ x].map av_).toArray) ?_ (fun v σ' h => h)
  intro p e s m args below meth c H locs ls C0 hr hls hroom
  obtain ⟨hx, hb, hml, -, hown, hts0, -, -, hKn, -⟩ := C0
  have hts : ∀ w ∈ selSB_ :: lw_all, w.before args s = true := fun w hw => by
    rcases List.mem_cons.mp hw with h | h
    · rw [h]; exact va_Nw.use rfl hKn.2.2.2.2.2.2.2.2.2.2.2.1
    · exact hts0 w h
  have up : ∀ w, w ∈ lw_all → (w ∈ selSB_ :: lw_all ∧ ((w.onTables && w.keeps) = true ∨ ∃ ty, w = .arrayClass ty)) := fun w h => ⟨List.mem_cons_of_mem _ h, good_of_word (List.mem_filter.mp h).2⟩
  have hG : GoodIn (selSB_ :: lw_all) (va_wsO y.cls 100 "java/lang/StringBuilde\x72" RJ3 yJ3_ensureCapacityInternal yJ3_ensureCapacityInternal (ws_ yJ3_ensureCapacityInternal cJ3_ensureCapacityInternal 3 none)) := by
    intro w hw
    rcases List.mem_append.mp hw with hw | hw
    · simp only [List.mem_cons, List.not_mem_nil, or_false] at hw
      rcases hw with h | h | h | h | h | h
      · rw [h, hy]; exact up _ q426
      · rw [h]; exact up _ q2308
      · rw [h]; exact up _ q428
      · rw [h]; exact ⟨List.mem_cons_self, Or.inl rfl⟩
      · rw [h]; exact up _ q428
      · rw [h]; exact up _ q140
    · exact up w ((lw_meth q429) w hw).1
  exact va_runU (C := "java/lang/StringBuilde\x72") (owner := RJ3) (x := yJ3_ensureCapacityInternal) (As := [I_ x].map av_) (n := 1) ⟨hx, hb, hml, hown, hts⟩ hc' (va_cwO 1 hts hG rfl rfl rfl (List.mem_cons_of_mem _ q429) (by decide +kernel) ⟨hR.1, by show 8 + (3 + 11) + 64 * d' ≤ R.locals; omega⟩) ⟨wd_blind _, rc_of hr hKn hs (fun r' h => by cases h; rfl), fun U hU hW => ⟨rfl, Kn_.moved hW hKn, by rw [hU]; exact hr⟩⟩ rfl rfl hls (st_split [I_ x] rest b) (lv_room (by rw [cw_sum]; exact hst)) hd hroom
end
theorem lks_J4_343 : LkSU_ RJ4 343 yJ3_length cJ3_length 1 (some .int) 0 := ⟨q538, q534, q418, q533, q140, q539, by decide +kernel⟩
theorem lks_J4_50 : LkSU_ RJ4 50 yJ3_append cJ3_append 2 (some (.object "java/lang/AbstractStringBuilde\x72")) 1 := ⟨q423, q2307, q418, q424, q140, q425, by decide +kernel⟩
theorem lks_X11_7 : LkSU_ RX11 7 yX9_goes cX9_goes 2 (some .int) 1 := ⟨q1366, q1362, q979, q1360, q153, q1367, by decide +kernel⟩
theorem nq_J4_18 : ∀ r : vw_C, cls_[8]? = some r → Cond.classLink RJ4 18 r.1 ∈ lw_all ∧ Cond.instantiable r.1 4 ∈ lw_all ∧ Cond.initialized r.1 ∈ lw_all := fun r h => by cases h; exact ⟨q518, q519, q142⟩
theorem nq_X1_17 : ∀ r : vw_C, cls_[2]? = some r → Cond.classLink RX1 17 r.1 ∈ lw_all ∧ Cond.instantiable r.1 3 ∈ lw_all ∧ Cond.initialized r.1 ∈ lw_all := fun r h => by cases h; exact ⟨q172, q173, q134⟩
theorem nq_X1_83 : ∀ r : vw_C, cls_[3]? = some r → Cond.classLink RX1 83 r.1 ∈ lw_all ∧ Cond.instantiable r.1 5 ∈ lw_all ∧ Cond.initialized r.1 ∈ lw_all := fun r h => by cases h; exact ⟨q277, q278, q136⟩
theorem nq_X1_85 : ∀ r : vw_C, cls_[4]? = some r → Cond.classLink RX1 85 r.1 ∈ lw_all ∧ Cond.instantiable r.1 3 ∈ lw_all ∧ Cond.initialized r.1 ∈ lw_all := fun r h => by cases h; exact ⟨q279, q280, q137⟩
theorem nq_X1_108 : ∀ r : vw_C, cls_[17]? = some r → Cond.classLink RX1 108 r.1 ∈ lw_all ∧ Cond.instantiable r.1 7 ∈ lw_all ∧ Cond.initialized r.1 ∈ lw_all := fun r h => by cases h; exact ⟨q1073, q1074, q159⟩
theorem nq_X1_438 : ∀ r : vw_C, cls_[18]? = some r → Cond.classLink RX1 438 r.1 ∈ lw_all ∧ Cond.instantiable r.1 6 ∈ lw_all ∧ Cond.initialized r.1 ∈ lw_all := fun r h => by cases h; exact ⟨q1606, q1607, q163⟩
theorem nq_X15_10 : ∀ r : vw_C, cls_[17]? = some r → Cond.classLink RX15 10 r.1 ∈ lw_all ∧ Cond.instantiable r.1 7 ∈ lw_all ∧ Cond.initialized r.1 ∈ lw_all := fun r h => by cases h; exact ⟨q1554, q1074, q159⟩
theorem nq_X3_9 : ∀ r : vw_C, cls_[5]? = some r → Cond.classLink RX3 9 r.1 ∈ lw_all ∧ Cond.instantiable r.1 9 ∈ lw_all ∧ Cond.initialized r.1 ∈ lw_all := fun r h => by cases h; exact ⟨q299, q300, q138⟩
theorem nq_X3_202 : ∀ r : vw_C, cls_[9]? = some r → Cond.classLink RX3 202 r.1 ∈ lw_all ∧ Cond.instantiable r.1 2 ∈ lw_all ∧ Cond.initialized r.1 ∈ lw_all := fun r h => by cases h; exact ⟨q806, q807, q151⟩
theorem nq_X3_217 : ∀ r : vw_C, cls_[10]? = some r → Cond.classLink RX3 217 r.1 ∈ lw_all ∧ Cond.instantiable r.1 4 ∈ lw_all ∧ Cond.initialized r.1 ∈ lw_all := fun r h => by cases h; exact ⟨q897, q898, q152⟩
theorem nq_X3_237 : ∀ r : vw_C, cls_[11]? = some r → Cond.classLink RX3 237 r.1 ∈ lw_all ∧ Cond.instantiable r.1 4 ∈ lw_all ∧ Cond.initialized r.1 ∈ lw_all := fun r h => by cases h; exact ⟨q934, q935, q154⟩
theorem nq_X3_241 : ∀ r : vw_C, cls_[12]? = some r → Cond.classLink RX3 241 r.1 ∈ lw_all ∧ Cond.instantiable r.1 4 ∈ lw_all ∧ Cond.initialized r.1 ∈ lw_all := fun r h => by cases h; exact ⟨q961, q962, q153⟩
theorem nq_X3_244 : ∀ r : vw_C, cls_[13]? = some r → Cond.classLink RX3 244 r.1 ∈ lw_all ∧ Cond.instantiable r.1 4 ∈ lw_all ∧ Cond.initialized r.1 ∈ lw_all := fun r h => by cases h; exact ⟨q969, q970, q155⟩
theorem nq_X3_247 : ∀ r : vw_C, cls_[14]? = some r → Cond.classLink RX3 247 r.1 ∈ lw_all ∧ Cond.instantiable r.1 4 ∈ lw_all ∧ Cond.initialized r.1 ∈ lw_all := fun r h => by cases h; exact ⟨q980, q981, q156⟩
theorem nq_X3_275 : ∀ r : vw_C, cls_[15]? = some r → Cond.classLink RX3 275 r.1 ∈ lw_all ∧ Cond.instantiable r.1 5 ∈ lw_all ∧ Cond.initialized r.1 ∈ lw_all := fun r h => by cases h; exact ⟨q1002, q1003, q157⟩
theorem nq_X3_302 : ∀ r : vw_C, cls_[16]? = some r → Cond.classLink RX3 302 r.1 ∈ lw_all ∧ Cond.instantiable r.1 3 ∈ lw_all ∧ Cond.initialized r.1 ∈ lw_all := fun r h => by cases h; exact ⟨q1044, q1045, q158⟩
theorem nq_X4_26 : ∀ r : vw_C, cls_[6]? = some r → Cond.classLink RX4 26 r.1 ∈ lw_all ∧ Cond.instantiable r.1 4 ∈ lw_all ∧ Cond.initialized r.1 ∈ lw_all := fun r h => by cases h; exact ⟨q363, q364, q139⟩
theorem nq_X4_37 : ∀ r : vw_C, cls_[7]? = some r → Cond.classLink RX4 37 r.1 ∈ lw_all ∧ Cond.instantiable r.1 4 ∈ lw_all ∧ Cond.initialized r.1 ∈ lw_all := fun r h => by cases h; exact ⟨q388, q389, q141⟩
theorem nq_X5_9 : ∀ r : vw_C, cls_[2]? = some r → Cond.classLink RX5 9 r.1 ∈ lw_all ∧ Cond.instantiable r.1 3 ∈ lw_all ∧ Cond.initialized r.1 ∈ lw_all := fun r h => by cases h; exact ⟨q305, q173, q134⟩
