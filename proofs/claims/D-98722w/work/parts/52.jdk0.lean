/-! THE ENGINE: statics that hold a reference or null; frames of the start's heap; strings -/
set_option maxRecDepth 100000
section
variable {G : JG} {R : Room} {y : MethodName} {cc : ByteArray} {nL : Nat} {ret : Option FieldType} {σ0 σ : JH} {Z : List Frame → Array Value → State → State → Prop} {pc : Nat} {ev : List (Option AV)} {st : List AV}
theorem g_getsQ {C n dd : String} {i : Nat} (hz : (C, n, dd) ∈ zrf_) (hq : Cond.fieldLink y.cls i C n dd ∈ lw_all) (hd : decode cc pc = .ok (.getstatic i, 3)) (k : ∀ r : Option Nat, Go_ G R y cc nL ret σ0 Z (pc + 3) ev (A_ r :: st) σ) : Go_ G R y cc nL ret σ0 Z pc ev st σ := by
  intro p e s m args below meth c H locs cells slots ls C0 hr hl hv
  have w := fun r => k r p e s m args below meth c H locs cells slots ls C0 hr hl hv
  obtain ⟨hx, hb, -, -, hown, hts, -, -, hKn, hR0, -⟩ := C0
  refine w_mono fun m1 m2 => ?_
  rcases (hKn.2.2.2.2.2.2.2.2.2.2.1 _ hz : va_Zq C n dd _ s (gH_ G)) with q | ⟨t, q⟩
  · exact va_gets hx hb (zk_ hR0 q) (zs_ hR0 hr hl m1) hown (hts _ hq) (fun _ h => h) hd (w none)
  · exact va_gets hx hb (zk_ hR0 q) (zs_ hR0 hr hl m1) hown (hts _ hq) (fun _ h => h) hd (w (some t))
end
/-- a String: its bytes at v, n of them, the chars c -/
def Str_ (σ : JH) (a v : Nat) (n : Nat) (c : Int → Int) : Prop := sh_ σ a = some (.inl 8) ∧ rv_ σ a 0 = some v ∧ sh_ σ v = some (.inr (1, n)) ∧ iv_ σ a 1 = 0 ∧ n ≤ 1000 ∧ ∀ k : Int, 0 ≤ k → k < n → iv_ σ v k = c k ∧ 0 ≤ c k ∧ c k ≤ 127
