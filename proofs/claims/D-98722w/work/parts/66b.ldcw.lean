/-! THE ENGINE: a text constant by ldc_w -/
set_option maxRecDepth 100000
theorem sw_ldcw {p : Program} {l : Launch} {e : Env} {R : Room} {s : State} {m : MethodId} {args : Array Value} {below : List Frame} {meth : Method} {c : Code} {T : State} {locs : List Loc} {cells slots : Nat}
    (X : Stand p l e R s m args below meth c T locs cells slots) (hexec : p.tables.exec = Jvm.exec) {own text : String} {index : Nat} {a : Addr} (hown : s.vm.findClass own = some m.cls)
    (hconst : (Cond.stringRef own index text).before args s = true) (hev : (Term.string own index).eval args s none [] s = some (.ref a)) {g : JFrame} (hg : g.method = m) (hdg : decode c.code g.pc = .ok (.ldc_w index, 3)) :
    ∀ target, Steps p.tables e below (T.setTop { g with pc := g.pc + 3, stack := .ref a :: g.stack }) target → Steps p.tables e below (T.setTop g) target := by
  obtain ⟨k, cf, i, a', hk, hcf, hcp, -, hr, hev'⟩ := Cond.stringRef_spec hown hconst
  cases hev.symm.trans hev'
  obtain ⟨k', hk', he⟩ := X.warmed.alike.2.2 _ _ hk
  have hr' : k'.resolved[index]? = some (some (.string a)) := by
    rcases X.warmed.entry hk hk' index with h | ⟨h, -⟩
    · rw [h]; exact hr
    · rw [hr] at h; cases h
  intro target hrest
  subst hg
  jvm_step X.here [hexec, hdg, ldc_w.wp_string (e := e) (s := T) (f := g) X.here.top hk' (by rw [he]; exact hcf) hcp hr']
  exact hrest
section
variable {G : JG} {R : Room} {y : MethodName} {cc : ByteArray} {nL : Nat} {ret : Option FieldType} {σ0 σ : JH} {Z : List Frame → Array Value → State → State → Prop} {pc : Nat} {ev : List (Option AV)} {st : List AV}
theorem g_ldcSw {i j : Nat} {tx : String} (hj : lit_[j]? = some (y.cls, i, tx)) (hd : decode cc pc = .ok (.ldc_w i, 3)) (k : Go_ G R y cc nL ret σ0 Z (pc + 3) ev (A_ (some (gK_ G j)) :: st) σ) : Go_ G R y cc nL ret σ0 Z pc ev st σ :=
  go_lift (fun p e s m args below meth c H locs cells slots ls C hv w => fun T hT X => by
    have hZ := C.2.2.2.2.2.2.2.2.1.2.2.2.2.2.2.1 j _ hj
    obtain ⟨t, a1, b1⟩ := w T hT X
    exact ⟨t, sw_ldcw X C.1 C.2.2.2.2.1 (text := tx) (a := gK_ G j) hZ.1 hZ.2 (g := F0 m pc ls (st.map av_)) rfl (by rw [C.2.1]; exact hd) t a1, b1⟩) k
end
