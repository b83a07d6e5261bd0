/-! THE ENGINE, part 7: loads with a named value; division's bounds; frames -/
set_option maxRecDepth 100000
section
variable {G : JG} {R : Room} {y : MethodName} {cc : ByteArray} {nL : Nat} {ret : Option FieldType} {σ0 σ : JH} {Z : List Frame → Array Value → State → State → Prop} {pc : Nat} {ev : List (Option AV)} {st : List AV}
theorem g_ialv {a n : Nat} {i v : Int} (hs : sh_ σ a = some (.inr (0, n))) (h : 0 ≤ i ∧ i < n) (hv : iv_ σ a i = v) (hd : decode cc pc = .ok (.iaload, 1)) (kk : Go_ G R y cc nL ret σ0 Z (pc + 1) ev (I_ v :: st) σ) : Go_ G R y cc nL ret σ0 Z pc ev (I_ i :: A_ (some a) :: st) σ := g_iald hs h hd (by rw [hv]; exact kk)
theorem g_balv {a n : Nat} {i v : Int} (hs : sh_ σ a = some (.inr (1, n))) (h : 0 ≤ i ∧ i < n) (hv : iv_ σ a i = v) (hd : decode cc pc = .ok (.baload, 1)) (kk : Go_ G R y cc nL ret σ0 Z (pc + 1) ev (I_ v :: st) σ) : Go_ G R y cc nL ret σ0 Z pc ev (I_ i :: A_ (some a) :: st) σ := g_bald hs h hd (by rw [hv]; exact kk)
theorem g_lalv {a n : Nat} {i v : Int} (hs : sh_ σ a = some (.inr (2, n))) (h : 0 ≤ i ∧ i < n) (hv : iv_ σ a i = v) (hd : decode cc pc = .ok (.laload, 1)) (kk : Go_ G R y cc nL ret σ0 Z (pc + 1) ev (L_ v :: st) σ) : Go_ G R y cc nL ret σ0 Z pc ev (I_ i :: A_ (some a) :: st) σ := g_lald hs h hd (by rw [hv]; exact kk)
theorem f_getv (κ : Int) {a ci k i : Nat} {v : Int} (F : Fk_ y.cls i ci k) (hκ : (k : Int) = κ) (hs : sh_ σ a = some (.inl ci)) (ht : ∀ x r, tv_ (cty_ ci k) x r = av_ (I_ x)) (hv : iv_ σ a κ = v) (hd : decode cc pc = .ok (.getfield i, 3)) (kk : Go_ G R y cc nL ret σ0 Z (pc + 3) ev (I_ v :: st) σ) : Go_ G R y cc nL ret σ0 Z pc ev (A_ (some a) :: st) σ := f_getI κ F hκ hs ht hd (by rw [hv]; exact kk)
/-- the top of the stack gets a name, or another term -/
theorem g_nm {e : Int} (k : ∀ x : Int, x = e → Go_ G R y cc nL ret σ0 Z pc ev (I_ x :: st) σ) : Go_ G R y cc nL ret σ0 Z pc ev (I_ e :: st) σ := k e rfl
theorem g_nmL {e : Int} (k : ∀ x : Int, x = e → Go_ G R y cc nL ret σ0 Z pc ev (L_ x :: st) σ) : Go_ G R y cc nL ret σ0 Z pc ev (L_ e :: st) σ := k e rfl
theorem g_top {e v : Int} (h : e = v) (k : Go_ G R y cc nL ret σ0 Z pc ev (I_ v :: st) σ) : Go_ G R y cc nL ret σ0 Z pc ev (I_ e :: st) σ := by rw [h]; exact k
theorem g_topL {e v : Int} (h : e = v) (k : Go_ G R y cc nL ret σ0 Z pc ev (L_ v :: st) σ) : Go_ G R y cc nL ret σ0 Z pc ev (L_ e :: st) σ := by rw [h]; exact k
end
theorem dm_ {a b : Int} (ha : 0 ≤ a) (hb : 0 < b) : 0 ≤ a / b ∧ a / b ≤ a ∧ 0 ≤ a % b ∧ a % b < b :=
  ⟨Int.ediv_nonneg ha (by omega), Int.ediv_le_self b ha, Int.emod_nonneg a (by omega), Int.emod_lt_of_pos a hb⟩
/-- σ' is σ but for what stands in S -/
def Fr_ (S : Nat → Int → Prop) (σ σ' : JH) : Prop := (∀ b, sh_ σ' b = sh_ σ b) ∧ (∀ b k, rv_ σ' b k = rv_ σ b k) ∧ sz_ σ' = sz_ σ ∧ us_ σ' = us_ σ ∧ ∀ b k, ¬ S b k → iv_ σ' b k = iv_ σ b k
theorem Fr_.rf {S : Nat → Int → Prop} {σ : JH} : Fr_ S σ σ := ⟨fun _ => rfl, fun _ _ => rfl, rfl, rfl, fun _ _ _ => rfl⟩
theorem Fr_.tr {S : Nat → Int → Prop} {σ σ' σ'' : JH} (h : Fr_ S σ σ') (h' : Fr_ S σ' σ'') : Fr_ S σ σ'' :=
  ⟨fun b => (h'.1 b).trans (h.1 b), fun b k => (h'.2.1 b k).trans (h.2.1 b k), h'.2.2.1.trans h.2.2.1, h'.2.2.2.1.trans h.2.2.2.1, fun b k hn => (h'.2.2.2.2 b k hn).trans (h.2.2.2.2 b k hn)⟩
theorem Fr_.pi {S : Nat → Int → Prop} {σ σ' : JH} {a : Nat} {k x : Int} (h : Fr_ S σ σ') (hs : S a k) : Fr_ S σ (pi_ σ' a k x) :=
  ⟨h.1, h.2.1, h.2.2.1, h.2.2.2.1, fun b j hn => by
    rw [iv_pi, if_neg (fun q => hn (by rw [q.1, q.2]; exact hs))]
    exact h.2.2.2.2 b j hn⟩
theorem Fr_.mono {S S' : Nat → Int → Prop} {σ σ' : JH} (h : Fr_ S σ σ') (hs : ∀ b k, S b k → S' b k) : Fr_ S' σ σ' := ⟨h.1, h.2.1, h.2.2.1, h.2.2.2.1, fun b k hn => h.2.2.2.2 b k (fun q => hn (hs b k q))⟩
section
variable {G : JG} {R : Room} {y : MethodName} {cc : ByteArray} {nL : Nat} {ret : Option FieldType} {σ0 σ : JH} {Z : List Frame → Array Value → State → State → Prop} {pc : Nat} {ev : List (Option AV)} {st : List AV}
theorem nz2_ {b : Int} (h : 0 < b ∧ b < 2147483648) : ¬ Int32.ofInt b = 0 := nz_ h
theorem g_idivT {a b : Int} (hd : decode cc pc = .ok (.idiv, 1)) (h : (-2147483648 ≤ a ∧ a < 2147483648) ∧ (0 < b ∧ b < 2147483648)) (k : Go_ G R y cc nL ret σ0 Z (pc + 1) ev (I_ (Int.tdiv a b) :: st) σ) : Go_ G R y cc nL ret σ0 Z pc ev (I_ b :: I_ a :: st) σ := go_lift (fun p e s m args below meth c H locs cells slots ls C hv w => lv_idiv C.1 C.2.1 hd (nz_ h.2) (by
  have e0 := Int32.ofInt_tdiv (a := a) (b := b) (by rw [mni_]; omega) (by rw [mxi_]; omega) (by rw [mni_]; omega) (by rw [mxi_]; omega)
  have e : av_ (I_ (Int.tdiv a b)) = .int (Int32.ofInt a / Int32.ofInt b) := congrArg Value.int e0
  rw [List.map_cons, e] at w
  exact w)) k
end
