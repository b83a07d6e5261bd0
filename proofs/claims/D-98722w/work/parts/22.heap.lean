/-! THE ENGINE, part 3: fields, arrays, new cells -/
set_option maxRecDepth 100000
section
variable {G : JG} {R : Room} {y : MethodName} {cc : ByteArray} {nL : Nat} {ret : Option FieldType} {σ0 σ : JH} {Z : List Frame → Array Value → State → State → Prop} {pc : Nat} {ev es : List (Option AV)} {st : List AV}
theorem Cel_.to {σ' : JH} {a : Nat} {s : JS} {cell : Cell} (h : Cel_ G σ a s cell) (hi : ∀ j, iv_ σ' a j = iv_ σ a j) (hr : ∀ j, rv_ σ' a j = rv_ σ a j) : Cel_ G σ' a s cell := by
  rcases s with ci | ⟨t, n⟩
  · obtain ⟨r, h1, h2, h3⟩ := h
    exact ⟨r, h1, h2, fun k hk => by rw [hi, hr]; exact h3 k hk⟩
  · obtain ⟨h1, h2, h3, h4, h5⟩ := h
    exact ⟨h1, h2, h3, h4, fun k hk => by rw [hi, hr]; exact h5 k hk⟩
/-- one cell is written -/
theorem Rp_.upd {σ' : JH} {H H' : Heap} {a : Nat} {s : JS} {cell cell' : Cell} (h : Rp_ G σ H) (ha : (gH_ G).size ≤ a) (hs : sh_ σ a = some s) (h1 : H[a]? = some cell) (h1' : H'[a]? = some cell') (hz : H'.size = H.size) (ho : ∀ q : Nat, q ≠ a → H'[q]? = H[q]?)
    (hvm : cell'.vm = .none) (hsl : cell'.slots.size = cell.slots.size) (hc : Cel_ G σ' a s cell') (e1 : ∀ b, sh_ σ' b = sh_ σ b) (e2 : ∀ b, b ≠ a → ∀ j, iv_ σ' b j = iv_ σ b j) (e3 : ∀ b, b ≠ a → ∀ j, rv_ σ' b j = rv_ σ b j) (e4 : sz_ σ' = sz_ σ) (e5 : us_ σ' = us_ σ) : Rp_ G σ' H' := by
  obtain ⟨⟨g1, g2, g3, g4, g5⟩, g6, g7⟩ := h
  refine ⟨⟨by rw [hz, e4]; exact g1, by rw [su_set hz h1 h1' hsl ho, e5]; exact g2, by rw [e4]; exact g3, by rw [e4]; exact g4, by rw [e5]; exact g5⟩, fun q hq => by rw [ho q (by omega)]; exact g6 q hq, fun b s' hb => ?_⟩
  rw [e1] at hb
  by_cases hba : b = a
  · subst hba
    have : s = s' := Option.some.inj (hs.symm.trans hb)
    subst this
    exact ⟨cell', h1', ⟨by rw [hvm]; rfl, by rw [hvm]; exact fun q => (by cases q), fun _ => hvm⟩, hc⟩
  · obtain ⟨c0, k1, k2, k3⟩ := g7 b s' hb
    exact ⟨c0, by rw [ho b hba]; exact k1, k2, k3.to (e2 b hba) (e3 b hba)⟩
theorem Rp_.lt {H : Heap} {a : Nat} {s : JS} (h : Rp_ G σ H) (hs : sh_ σ a = some s) : a < sz_ σ := by
  obtain ⟨c0, k1, -⟩ := h.2.2 a s hs
  rw [← h.1.1]
  exact (Array.getElem?_eq_some_iff.mp k1).1
/-- a new cell -/
theorem Rp_.push {H H' : Heap} {s : JS} {n : Nat} {cell' : Cell} (h : Rp_ G σ H) (h1' : H'[sz_ σ]? = some cell') (hz : H'.size = sz_ σ + 1) (ho : ∀ q : Nat, q < sz_ σ → H'[q]? = H[q]?) (hvm : cell'.vm = .none) (hsl : cell'.slots.size = n) (hc : Cel_ G (nw_ σ s n) (sz_ σ) s cell') (hL : sz_ σ + 1 ≤ lc_ G ∧ us_ σ + n ≤ ls_ G) : Rp_ G (nw_ σ s n) H' := by
  obtain ⟨⟨g1, g2, g3, g4, g5⟩, g6, g7⟩ := h
  have eH : H' = H.push cell' := by
    apply Array.ext_getElem?
    intro q
    rw [Array.getElem?_push]
    by_cases hq : q = H.size
    · rw [if_pos hq, hq, g1]; exact h1'
    · rw [if_neg hq]
      by_cases hl : q < H.size
      · exact ho q (by omega)
      · rw [Array.getElem?_eq_none (by omega), Array.getElem?_eq_none (by omega)]
  refine ⟨⟨by rw [hz]; rfl, by rw [eH, su_push, g2, hsl]; rfl, by rw [sz_nw]; omega, hL.1, hL.2⟩, fun q hq => by rw [ho q (by omega)]; exact g6 q hq, fun b s' hb => ?_⟩
  rw [sh_nw] at hb
  by_cases hba : b = sz_ σ
  · rw [if_pos hba] at hb
    have : s = s' := Option.some.inj hb
    subst this; subst hba
    exact ⟨cell', h1', ⟨by rw [hvm]; rfl, by rw [hvm]; exact fun q => (by cases q), fun _ => hvm⟩, hc⟩
  · rw [if_neg hba] at hb
    obtain ⟨c0, k1, k2, k3⟩ := g7 b s' hb
    have hl : b < sz_ σ := by rw [← g1]; exact (Array.getElem?_eq_some_iff.mp k1).1
    exact ⟨c0, by rw [ho b hl]; exact k1, k2, k3.to (fun j => by rw [iv_nw, if_neg hba]) (fun j => by rw [rv_nw, if_neg hba])⟩
/-- a field's entry in a class's pool: the field is the k-th of the class number ci -/
def Fk_ (own : String) (i ci k : Nat) : Prop := ∃ (C : String) (T : u_T) (N : Nat) (ref : String), cls_[ci]? = some (C, T, N) ∧ k < N ∧ Cond.fieldLink own i ref (T k).2.1 (T k).2.2.1 ∈ lw_all ∧ ((T k).1 = ref ∨ Cond.sameField ref (T k).1 (T k).2.1 (T k).2.2.1 ∈ lw_all)
theorem fk_same {own C ref : String} {T : u_T} {k : Nat} {s : State} {args : Array Value} (hts : ∀ w ∈ lw_all, w.before args s = true) (h : (T k).1 = ref ∨ Cond.sameField ref (T k).1 (T k).2.1 (T k).2.2.1 ∈ lw_all) : ∀ x, s.fieldFound? (T k).1 (T k).2.1 (T k).2.2.1 = some x → s.fieldFound? ref (T k).2.1 (T k).2.2.1 = some x := by
  rcases h with h | h
  · intro x hx; rw [← h]; exact hx
  · intro x hx; exact u_same (hts _ h) x hx
theorem g_get {a ci k i : Nat} {v : AV} (F : Fk_ y.cls i ci k) (hs : sh_ σ a = some (.inl ci)) (hv0 : tv_ (cty_ ci k) (iv_ σ a k) (rv_ σ a k) = av_ v) (hd : decode cc pc = .ok (.getfield i, 3)) (kk : Go_ G R y cc nL ret σ0 Z (pc + 3) ev (v :: st) σ) : Go_ G R y cc nL ret σ0 Z pc ev (A_ (some a) :: st) σ := by
  intro p e s m args below meth c H locs cells slots ls C hr hl hv
  have w := kk p e s m args below meth c H locs cells slots ls C hr hl hv
  obtain ⟨cell, h1, ⟨ok1, ok2, ok3⟩, r, hr1, hcls, hsl⟩ := hr.2.2 a _ hs
  obtain ⟨Cn, T, N, ref, hc, hk, hq, hsm⟩ := F
  have er : r = (Cn, T, N) := Option.some.inj (hr1.symm.trans hc)
  subst er
  obtain ⟨hx, hb, -, -, hown, hts, -, -, hKn, -⟩ := C
  obtain ⟨hS, hfc, kC, hkC, hkind⟩ := hKn.1.1 ci _ hc
  obtain ⟨cf, kf, fi, f, hi, hslot⟩ := hS k hk
  refine W.getf hx hb hown (hts _ hq) (fk_same (own := y.cls) (C := Cn) hts hsm _ hi) (u_facts hfc hkC (u_lays hts (cls_in hc) hk) hi).1 h1 ok2 (v := av_ v) ?_ rfl rfl hd w
  rw [hslot]
  exact (hsl k hk).trans (congrArg some hv0)
theorem g_getI {a ci k i : Nat} (F : Fk_ y.cls i ci k) (hs : sh_ σ a = some (.inl ci)) (ht : ∀ x r, tv_ (cty_ ci k) x r = av_ (I_ x)) (hd : decode cc pc = .ok (.getfield i, 3)) (kk : Go_ G R y cc nL ret σ0 Z (pc + 3) ev (I_ (iv_ σ a k) :: st) σ) : Go_ G R y cc nL ret σ0 Z pc ev (A_ (some a) :: st) σ := g_get F hs (ht _ _) hd kk
theorem g_getA {a ci k i : Nat} {r : Option Nat} (F : Fk_ y.cls i ci k) (hs : sh_ σ a = some (.inl ci)) (ht : ∀ x r, tv_ (cty_ ci k) x r = av_ (A_ r)) (hr0 : rv_ σ a k = r) (hd : decode cc pc = .ok (.getfield i, 3)) (kk : Go_ G R y cc nL ret σ0 Z (pc + 3) ev (A_ r :: st) σ) : Go_ G R y cc nL ret σ0 Z pc ev (A_ (some a) :: st) σ := g_get F hs (by rw [ht, hr0]) hd kk
/-- what is stored: its field's type keeps it -/
def Kp_ (ty : FieldType) (v : AV) : Prop := narrow ty (av_ v) = av_ v ∧ fits ty (av_ v) = true
/-- the abstract heap behind a store -/
def pv_ (σ : JH) (a : Nat) (k : Int) (v : AV) : JH := match v with
  | .inl x => pi_ σ a k x
  | .inr (.inl x) => pi_ σ a k x
  | .inr (.inr r) => pr_ σ a k r
theorem pv_sh (σ : JH) (a : Nat) (k : Int) (v : AV) (b : Nat) : sh_ (pv_ σ a k v) b = sh_ σ b := by rcases v with x | x | r <;> rfl
theorem pv_sz (σ : JH) (a : Nat) (k : Int) (v : AV) : sz_ (pv_ σ a k v) = sz_ σ := by rcases v with x | x | r <;> rfl
theorem pv_us (σ : JH) (a : Nat) (k : Int) (v : AV) : us_ (pv_ σ a k v) = us_ σ := by rcases v with x | x | r <;> rfl
theorem pv_iv (σ : JH) (a : Nat) (k : Int) (v : AV) {b : Nat} {j : Int} (h : b ≠ a ∨ j ≠ k) : iv_ (pv_ σ a k v) b j = iv_ σ b j := by
  have hn : ¬ (b = a ∧ j = k) := fun q => h.elim (fun h => h q.1) (fun h => h q.2)
  rcases v with x | x | r
  · exact if_neg hn
  · exact if_neg hn
  · rfl
theorem pv_rv (σ : JH) (a : Nat) (k : Int) (v : AV) {b : Nat} {j : Int} (h : b ≠ a ∨ j ≠ k) : rv_ (pv_ σ a k v) b j = rv_ σ b j := by
  have hn : ¬ (b = a ∧ j = k) := fun q => h.elim (fun h => h q.1) (fun h => h q.2)
  rcases v with x | x | r
  · rfl
  · rfl
  · exact if_neg hn
/-- the type of a place and the kind of what is stored agree -/
def Tk_ (ty : FieldType) (v : AV) : Prop := ∀ (σ : JH) (a : Nat) (k : Int), tv_ ty (iv_ (pv_ σ a k v) a k) (rv_ (pv_ σ a k v) a k) = av_ v
theorem Tk_.i {ty : FieldType} {x : Int} (h : ∀ x r, tv_ ty x r = av_ (I_ x)) : Tk_ ty (I_ x) := fun σ a k => by
  rw [h]; show av_ (I_ (iv_ (pi_ σ a k x) a k)) = _; rw [iv_pi, if_pos ⟨rfl, rfl⟩]
theorem Tk_.l {ty : FieldType} {x : Int} (h : ∀ x r, tv_ ty x r = av_ (L_ x)) : Tk_ ty (L_ x) := fun σ a k => by
  rw [h]; show av_ (L_ (iv_ (pi_ σ a k x) a k)) = _; rw [iv_pi, if_pos ⟨rfl, rfl⟩]
theorem Tk_.a {ty : FieldType} {r : Option Nat} (h : ∀ x r, tv_ ty x r = av_ (A_ r)) : Tk_ ty (A_ r) := fun σ a k => by
  rw [h]; show av_ (A_ (rv_ (pr_ σ a k r) a k)) = _; rw [rv_pr, if_pos ⟨rfl, rfl⟩]
theorem ob_put {a ci k : Nat} {Cn : String} {T : u_T} {N : Nat} {cell : Cell} {v : AV} {args : Array Value} {s : State} (hts : ∀ w ∈ lw_all, w.before args s = true) (hKn : Kn_ G s) (hc : cls_[ci]? = some (Cn, T, N)) (hk : k < N) (hT : Tk_ (cty_ ci k) v) (hcls : cell.cls = gC_ G ci)
    (hsl : ∀ j : Nat, j < N → cell.slots[gD_ G ci j]? = some (tv_ (cty_ ci j) (iv_ σ a (j : Int)) (rv_ σ a (j : Int)))) : Cel_ G (pv_ σ a k v) a (.inl ci) (cell.setSlot (gD_ G ci k) (av_ v)) := by
  have hap := va_apart (own := Cn) (ci := ci) hts (cls_in hc) (cty_ ci) (cls_ty hc) (cls_nm hc) hKn.1 hc
  refine ⟨_, hc, hcls, fun j hj => ?_⟩
  have h := t_set (iS := gD_ G ci) (V := fun j => tv_ (cty_ ci j) (iv_ σ a (j : Int)) (rv_ σ a (j : Int))) hsl hap hk (av_ v) j hj
  rw [h]
  congr 1
  show (if j = k then av_ v else _) = _
  by_cases hjk : j = k
  · subst hjk
    rw [if_pos rfl]
    exact (hT σ a _).symm
  · rw [if_neg hjk]
    have hne : a ≠ a ∨ (j : Int) ≠ (k : Int) := Or.inr (by omega)
    rw [pv_iv _ _ _ _ hne, pv_rv _ _ _ _ hne]
theorem g_put {a ci k i : Nat} {v : AV} (F : Fk_ y.cls i ci k) (hnf : ∀ C T N, cls_[ci]? = some (C, T, N) → (T k).2.2.2 = false) (hs : sh_ σ a = some (.inl ci)) (ha : (gH_ G).size ≤ a) (hT : Tk_ (cty_ ci k) v) (hK : Kp_ (cty_ ci k) v) (hd : decode cc pc = .ok (.putfield i, 3)) (kk : Go_ G R y cc nL ret σ0 Z (pc + 3) ev st (pv_ σ a k v)) : Go_ G R y cc nL ret σ0 Z pc ev (v :: A_ (some a) :: st) σ := by
  intro p e s m args below meth c H locs cells slots ls C hr hl hv
  have w := fun H' locs' hr' hl' => kk p e s m args below meth c H' locs' cells slots ls C hr' hl' hv
  have hr0 := hr
  obtain ⟨cell, h1, ⟨ok1, ok2, ok3⟩, r, hr1, hcls, hsl⟩ := hr.2.2 a _ hs
  obtain ⟨Cn, T, N, ref, hc, hk, hq, hsm⟩ := F
  have er : r = (Cn, T, N) := Option.some.inj (hr1.symm.trans hc)
  subst er
  obtain ⟨hx, hb, -, -, hown, hts, -, -, hKn, -⟩ := C
  obtain ⟨hS, hfc, kC, hkC, hkind⟩ := hKn.1.1 ci _ hc
  obtain ⟨cf, kf, fi, f, hi, hslot⟩ := hS k hk
  have hlay := hts _ (cls_in hc _ (u_in_lay hk))
  unfold u_lay at hlay
  rw [if_neg (by rw [hnf _ _ _ hc]; decide)] at hlay
  have hst := (u_facts hfc hkC (u_lays hts (cls_in hc) hk) hi).1
  have h6 := u_store hfc hkC hkind hlay hi (cls_ty hc k hk) hK.1 hK.2
  refine W.putK hx hb (f := f) ⟨hown, hts _ hq, ⟨_, _, _, fk_same (own := y.cls) (C := Cn) hts hsm _ hi⟩, hst⟩ (by rw [hcls]; exact h6) h1 (ok3 ha) (by rw [hslot]; exact k2_hasslot (hsl k hk)) rfl rfl hd fun H' e1 e2 e3 => ?_
  refine w H' _ (hr0.upd ha hs h1 e1 e2 e3 (ok3 ha) (by simp [Cell.setSlot]) ?_ (pv_sh _ _ _ _) (fun b hb j => pv_iv _ _ _ _ (Or.inl hb)) (fun b hb j => pv_rv _ _ _ _ (Or.inl hb)) (pv_sz _ _ _ _) (pv_us _ _ _ _)) (t_lc hl ha)
  rw [hslot]
  exact ob_put hts hKn hc hk hT hcls hsl
theorem g_putF {a ci k i : Nat} {v : AV} (F : Fk_ y.cls i ci k) (hf : ∀ C T N, cls_[ci]? = some (C, T, N) → (T k).2.2.2 = true ∧ (T k).1 = y.cls) (hin : y.name = "<init>") (hs : sh_ σ a = some (.inl ci)) (ha : (gH_ G).size ≤ a) (hT : Tk_ (cty_ ci k) v) (hK : Kp_ (cty_ ci k) v) (hd : decode cc pc = .ok (.putfield i, 3)) (kk : Go_ G R y cc nL ret σ0 Z (pc + 3) ev st (pv_ σ a k v)) : Go_ G R y cc nL ret σ0 Z pc ev (v :: A_ (some a) :: st) σ := by
  intro p e s m args below meth c H locs cells slots ls C hr hl hv
  have w := fun H' locs' hr' hl' => kk p e s m args below meth c H' locs' cells slots ls C hr' hl' hv
  have hr0 := hr
  obtain ⟨cell, h1, ⟨ok1, ok2, ok3⟩, r, hr1, hcls, hsl⟩ := hr.2.2 a _ hs
  obtain ⟨Cn, T, N, ref, hc, hk, hq, hsm⟩ := F
  have er : r = (Cn, T, N) := Option.some.inj (hr1.symm.trans hc)
  subst er
  obtain ⟨hx, hb, -, -, hown, hts, -, hnm, hKn, -⟩ := C
  obtain ⟨hS, hfc, kC, hkC, hkind⟩ := hKn.1.1 ci _ hc
  obtain ⟨cf, kf, fi, f, hi, hslot⟩ := hS k hk
  have hlay := hts _ (cls_in hc _ (u_in_lay hk))
  unfold u_lay at hlay
  rw [if_pos (hf _ _ _ hc).1] at hlay
  have hst := (u_facts hfc hkC (u_lays hts (cls_in hc) hk) hi).1
  have hcf : m.cls = cf := by
    obtain ⟨_, _, c', _, _, _, -, -, hf', -, -, -, hown2, -⟩ := Cond.laysFinal_spec hlay
    have e1 : c' = cf := by have := hi.symm.trans hf'; simp at this; exact this.1.symm
    rw [(hf _ _ _ hc).2] at hown2
    rw [← e1]; exact Option.some.inj (hown.symm.trans hown2)
  have h6 := u_fits hfc hkC hkind (Or.inr hlay) hi (cls_ty hc k hk) hK.1 hK.2
  refine W.putFinK hx hb hown (hts _ hq) (fk_same (own := y.cls) (C := Cn) hts hsm _ hi) hst hcf (hnm.trans hin) (by rw [hcls]; exact h6) h1 (ok3 ha) (by rw [hslot]; exact k2_hasslot (hsl k hk)) rfl rfl hd fun H' e1 e2 e3 => ?_
  refine w H' _ (hr0.upd ha hs h1 e1 e2 e3 (ok3 ha) (by simp [Cell.setSlot]) ?_ (pv_sh _ _ _ _) (fun b hb j => pv_iv _ _ _ _ (Or.inl hb)) (fun b hb j => pv_rv _ _ _ _ (Or.inl hb)) (pv_sz _ _ _ _) (pv_us _ _ _ _)) (t_lc hl ha)
  rw [hslot]
  exact ob_put hts hKn hc hk hT hcls hsl
/-! arrays -/
theorem ix_ {i : Int} {n : Nat} (hn : n < 2147483648) (h : 0 ≤ i ∧ i < n) : ¬ Int32.ofInt i < 0 ∧ (Int32.ofInt i).toNatClampNeg = i.toNat ∧ i.toNat < n ∧ ((i.toNat : Nat) : Int) = i := by
  have hr : -2147483648 ≤ i ∧ i < 2147483648 := by omega
  refine ⟨fun q => ?_, Int32.toNatClampNeg_ofInt_of_le hr.1 hr.2, by omega, by omega⟩
  have := (cq_lt (r0_ hr)).mp q
  omega
theorem ar_of {t : Nat} {cell : Cell} {s : State} {ty : FieldType} (hK : ArrOfT s (gA_ G t) ty) (ok : cell.vm.isStatics = false) (hcls : cell.cls = gA_ G t) : s.isArrayOf cell ty := by
  obtain ⟨-, k, hk, hkind⟩ := hK 0 (fun _ => .null)
  exact ⟨fun q h => (by rw [h] at ok; cases ok), k, (by rw [hcls]; exact hk), hkind⟩
theorem kn_arr {s : State} (h : Kn_ G s) (t : Nat) (ht : t < 4) : ArrOfT s (gA_ G t) (aty_ t) ∧ va_RA s (gA_ G t) (aty_ t) := by
  match t, ht with
  | 0, _ => exact h.1.2 0 _ rfl
  | 1, _ => exact h.1.2 1 _ rfl
  | 2, _ => exact h.1.2 2 _ rfl
  | 3, _ => exact h.1.2 3 _ rfl
theorem g_iald {a n : Nat} {i : Int} (hs : sh_ σ a = some (.inr (0, n))) (h : 0 ≤ i ∧ i < n) (hd : decode cc pc = .ok (.iaload, 1)) (kk : Go_ G R y cc nL ret σ0 Z (pc + 1) ev (I_ (iv_ σ a i) :: st) σ) : Go_ G R y cc nL ret σ0 Z pc ev (I_ i :: A_ (some a) :: st) σ := by
  intro p e s m args below meth c H locs cells slots ls C hr hl hv
  have w := kk p e s m args below meth c H locs cells slots ls C hr hl hv
  obtain ⟨cell, h1, ⟨ok1, ok2, ok3⟩, hcls, hn, hsz, -, hsl⟩ := hr.2.2 a _ hs
  obtain ⟨j1, j2, j3, j4⟩ := ix_ hn h
  have e1 := hsl _ j3
  rw [j4] at e1
  exact W.iald (v := av_ (I_ (iv_ σ a i))) C.1 C.2.1 h1 (ar_of (kn_arr C.2.2.2.2.2.2.2.2.1 0 (by decide)).1 ok1 hcls) ok2 (fun q => q.elim j1 (fun q => by rw [j2] at q; omega)) (by rw [j2]; exact e1) rfl rfl hd w
theorem g_bald {a n : Nat} {i : Int} (hs : sh_ σ a = some (.inr (1, n))) (h : 0 ≤ i ∧ i < n) (hd : decode cc pc = .ok (.baload, 1)) (kk : Go_ G R y cc nL ret σ0 Z (pc + 1) ev (I_ (iv_ σ a i) :: st) σ) : Go_ G R y cc nL ret σ0 Z pc ev (I_ i :: A_ (some a) :: st) σ := by
  intro p e s m args below meth c H locs cells slots ls C hr hl hv
  have w := kk p e s m args below meth c H locs cells slots ls C hr hl hv
  obtain ⟨cell, h1, ⟨ok1, ok2, ok3⟩, hcls, hn, hsz, -, hsl⟩ := hr.2.2 a _ hs
  obtain ⟨j1, j2, j3, j4⟩ := ix_ hn h
  have e1 := hsl _ j3
  rw [j4] at e1
  exact W.bald (v := av_ (I_ (iv_ σ a i))) C.1 C.2.1 h1 (ar_of (kn_arr C.2.2.2.2.2.2.2.2.1 1 (by decide)).1 ok1 hcls) ok2 (fun q => q.elim j1 (fun q => by rw [j2] at q; omega)) (by rw [j2]; exact e1) rfl rfl hd w
theorem g_lald {a n : Nat} {i : Int} (hs : sh_ σ a = some (.inr (2, n))) (h : 0 ≤ i ∧ i < n) (hd : decode cc pc = .ok (.laload, 1)) (kk : Go_ G R y cc nL ret σ0 Z (pc + 1) ev (L_ (iv_ σ a i) :: st) σ) : Go_ G R y cc nL ret σ0 Z pc ev (I_ i :: A_ (some a) :: st) σ := by
  intro p e s m args below meth c H locs cells slots ls C hr hl hv
  have w := kk p e s m args below meth c H locs cells slots ls C hr hl hv
  obtain ⟨cell, h1, ⟨ok1, ok2, ok3⟩, hcls, hn, hsz, -, hsl⟩ := hr.2.2 a _ hs
  obtain ⟨j1, j2, j3, j4⟩ := ix_ hn h
  have e1 := hsl _ j3
  rw [j4] at e1
  exact W.lald (v := av_ (L_ (iv_ σ a i))) C.1 C.2.1 h1 (ar_of (kn_arr C.2.2.2.2.2.2.2.2.1 2 (by decide)).1 ok1 hcls) ok2 (fun q => q.elim j1 (fun q => by rw [j2] at q; omega)) (by rw [j2]; exact e1) rfl rfl hd w
theorem g_aald {a n : Nat} {i : Int} {r : Option Nat} (hs : sh_ σ a = some (.inr (3, n))) (h : 0 ≤ i ∧ i < n) (hr0 : rv_ σ a i = r) (hd : decode cc pc = .ok (.aaload, 1)) (kk : Go_ G R y cc nL ret σ0 Z (pc + 1) ev (A_ r :: st) σ) : Go_ G R y cc nL ret σ0 Z pc ev (I_ i :: A_ (some a) :: st) σ := by
  intro p e s m args below meth c H locs cells slots ls C hr hl hv
  have w := kk p e s m args below meth c H locs cells slots ls C hr hl hv
  obtain ⟨cell, h1, ⟨ok1, ok2, ok3⟩, hcls, hn, hsz, -, hsl⟩ := hr.2.2 a _ hs
  obtain ⟨j1, j2, j3, j4⟩ := ix_ hn h
  have e1 := hsl _ j3
  rw [j4, hr0] at e1
  exact W.aald (v := av_ (A_ r)) (ty := .object "java/lang/Object") C.1 C.2.1 h1 (ar_of (kn_arr C.2.2.2.2.2.2.2.2.1 3 (by decide)).1 ok1 hcls) rfl ok2 (fun q => q.elim j1 (fun q => by rw [j2] at q; omega)) (by rw [j2]; exact e1) rfl rfl hd w
theorem ar_set {a t n : Nat} {i : Int} {cell : Cell} {v : AV} (hc : Cel_ G σ a (.inr (t, n)) cell) (h : 0 ≤ i ∧ i < n) (hT : Tk_ (aty_ t) v) : Cel_ G (pv_ σ a i v) a (.inr (t, n)) (cell.setSlot i.toNat (av_ v)) := by
  obtain ⟨hcls, hn, hsz, hsz2, hsl⟩ := hc
  refine ⟨hcls, hn, by simp [Cell.setSlot]; exact hsz, by simpa [Cell.setSlot] using hsz2, fun j hj => ?_⟩
  by_cases hji : j = i.toNat
  · subst hji
    have e : ((i.toNat : Nat) : Int) = i := by omega
    rw [e, hT σ a i]
    have hlt : i.toNat < cell.slots.size := by omega
    show (cell.slots.setIfInBounds i.toNat (av_ v))[i.toNat]? = _
    simp [Array.getElem?_setIfInBounds, hlt]
  · rw [slot_ne cell (av_ v) (Ne.symm hji), hsl j hj]
    have hne : a ≠ a ∨ (j : Int) ≠ i := Or.inr (by omega)
    rw [pv_iv _ _ _ _ hne, pv_rv _ _ _ _ hne]
theorem g_iast {a n : Nat} {i x : Int} (hs : sh_ σ a = some (.inr (0, n))) (ha : (gH_ G).size ≤ a) (h : 0 ≤ i ∧ i < n) (hd : decode cc pc = .ok (.iastore, 1)) (kk : Go_ G R y cc nL ret σ0 Z (pc + 1) ev st (pi_ σ a i x)) : Go_ G R y cc nL ret σ0 Z pc ev (I_ x :: I_ i :: A_ (some a) :: st) σ := by
  intro p e s m args below meth c H locs cells slots ls C hr hl hv
  have w := fun H' locs' hr' hl' => kk p e s m args below meth c H' locs' cells slots ls C hr' hl' hv
  obtain ⟨cell, h1, ⟨ok1, ok2, ok3⟩, hcel⟩ := hr.2.2 a _ hs
  have hcel0 := hcel
  obtain ⟨hcls, hn, hsz, -, hsl⟩ := hcel
  obtain ⟨j1, j2, j3, j4⟩ := ix_ hn h
  refine W.iast C.1 C.2.1 h1 (ar_of (kn_arr C.2.2.2.2.2.2.2.2.1 0 (by decide)).1 ok1 hcls) ok2 (fun q => q.elim j1 (fun q => by rw [j2] at q; omega)) rfl rfl hd fun H' e1 e2 e3 => ?_
  rw [j2] at e1 ⊢
  exact w H' _ (hr.upd ha hs h1 e1 e2 e3 (ok3 ha) (by simp [Cell.setSlot]) (ar_set (v := I_ x) hcel0 h (Tk_.i fun _ _ => rfl)) (fun _ => rfl) (fun b hb j => pv_iv _ _ _ (I_ x) (Or.inl hb)) (fun _ _ _ => rfl) rfl rfl) (t_lc hl ha)
theorem g_bast {a n : Nat} {i x : Int} (hs : sh_ σ a = some (.inr (1, n))) (ha : (gH_ G).size ≤ a) (h : 0 ≤ i ∧ i < n) (hx0 : -128 ≤ x ∧ x ≤ 127) (hd : decode cc pc = .ok (.bastore, 1)) (kk : Go_ G R y cc nL ret σ0 Z (pc + 1) ev st (pi_ σ a i x)) : Go_ G R y cc nL ret σ0 Z pc ev (I_ x :: I_ i :: A_ (some a) :: st) σ := by
  intro p e s m args below meth c H locs cells slots ls C hr hl hv
  have w := fun H' locs' hr' hl' => kk p e s m args below meth c H' locs' cells slots ls C hr' hl' hv
  obtain ⟨cell, h1, ⟨ok1, ok2, ok3⟩, hcel⟩ := hr.2.2 a _ hs
  have hcel0 := hcel
  obtain ⟨hcls, hn, hsz, -, hsl⟩ := hcel
  obtain ⟨j1, j2, j3, j4⟩ := ix_ hn h
  have hby : narrow .byte (.int (Int32.ofInt x)) = .int (Int32.ofInt x) := by
    rw [narrow_byte, Int32.toInt8_ofInt, Int8.toInt32_ofInt hx0.1 hx0.2]
  refine W.bast C.1 C.2.1 h1 (ar_of (kn_arr C.2.2.2.2.2.2.2.2.1 1 (by decide)).1 ok1 hcls) ok2 (fun q => q.elim j1 (fun q => by rw [j2] at q; omega)) rfl rfl hd fun H' e1 e2 e3 => ?_
  rw [j2] at e1 ⊢
  rw [hby] at e1
  exact w H' _ (hr.upd ha hs h1 e1 e2 e3 (ok3 ha) (by simp [Cell.setSlot]) (ar_set (v := I_ x) hcel0 h (Tk_.i fun _ _ => rfl)) (fun _ => rfl) (fun b hb j => pv_iv _ _ _ (I_ x) (Or.inl hb)) (fun _ _ _ => rfl) rfl rfl) (t_lc hl ha)
theorem g_last {a n : Nat} {i x : Int} (hs : sh_ σ a = some (.inr (2, n))) (ha : (gH_ G).size ≤ a) (h : 0 ≤ i ∧ i < n) (hd : decode cc pc = .ok (.lastore, 1)) (kk : Go_ G R y cc nL ret σ0 Z (pc + 1) ev st (pi_ σ a i x)) : Go_ G R y cc nL ret σ0 Z pc ev (L_ x :: I_ i :: A_ (some a) :: st) σ := by
  intro p e s m args below meth c H locs cells slots ls C hr hl hv
  have w := fun H' locs' hr' hl' => kk p e s m args below meth c H' locs' cells slots ls C hr' hl' hv
  obtain ⟨cell, h1, ⟨ok1, ok2, ok3⟩, hcel⟩ := hr.2.2 a _ hs
  have hcel0 := hcel
  obtain ⟨hcls, hn, hsz, -, hsl⟩ := hcel
  obtain ⟨j1, j2, j3, j4⟩ := ix_ hn h
  refine W.last C.1 C.2.1 h1 (ar_of (kn_arr C.2.2.2.2.2.2.2.2.1 2 (by decide)).1 ok1 hcls) ok2 (fun q => q.elim j1 (fun q => by rw [j2] at q; omega)) rfl rfl hd fun H' e1 e2 e3 => ?_
  rw [j2] at e1 ⊢
  exact w H' _ (hr.upd ha hs h1 e1 e2 e3 (ok3 ha) (by simp [Cell.setSlot]) (ar_set (v := L_ x) hcel0 h (Tk_.l fun _ _ => rfl)) (fun _ => rfl) (fun b hb j => pv_iv _ _ _ (L_ x) (Or.inl hb)) (fun _ _ _ => rfl) rfl rfl) (t_lc hl ha)
theorem g_aastN {a n : Nat} {i : Int} (hs : sh_ σ a = some (.inr (3, n))) (ha : (gH_ G).size ≤ a) (h : 0 ≤ i ∧ i < n) (hd : decode cc pc = .ok (.aastore, 1)) (kk : Go_ G R y cc nL ret σ0 Z (pc + 1) ev st (pr_ σ a i none)) : Go_ G R y cc nL ret σ0 Z pc ev (A_ none :: I_ i :: A_ (some a) :: st) σ := by
  intro p e s m args below meth c H locs cells slots ls C hr hl hv
  have w := fun H' locs' hr' hl' => kk p e s m args below meth c H' locs' cells slots ls C hr' hl' hv
  obtain ⟨cell, h1, ⟨ok1, ok2, ok3⟩, hcel⟩ := hr.2.2 a _ hs
  have hcel0 := hcel
  obtain ⟨hcls, hn, hsz, -, hsl⟩ := hcel
  obtain ⟨j1, j2, j3, j4⟩ := ix_ hn h
  refine va_WaastN (C := "java/lang/Object") C.1 C.2.1 h1 (ar_of (kn_arr C.2.2.2.2.2.2.2.2.1 3 (by decide)).1 ok1 hcls) ok2 (fun q => q.elim j1 (fun q => by rw [j2] at q; omega)) rfl rfl hd fun H' e1 e2 e3 => ?_
  rw [j2] at e1 ⊢
  exact w H' _ (hr.upd ha hs h1 e1 e2 e3 (ok3 ha) (by simp [Cell.setSlot]) (ar_set (v := A_ none) hcel0 h (Tk_.a fun _ _ => rfl)) (fun _ => rfl) (fun _ _ _ => rfl) (fun b hb j => pv_rv _ _ _ (A_ none) (Or.inl hb)) rfl rfl) (t_lc hl ha)
theorem g_aast {a b ci n : Nat} {i : Int} (hs : sh_ σ a = some (.inr (3, n))) (hb0 : sh_ σ b = some (.inl ci)) (hca : ∀ r : vw_C, cls_[ci]? = some r → (r.1, "java/lang/Object") ∈ nwC_) (ha : (gH_ G).size ≤ a) (h : 0 ≤ i ∧ i < n) (hd : decode cc pc = .ok (.aastore, 1)) (kk : Go_ G R y cc nL ret σ0 Z (pc + 1) ev st (pr_ σ a i (some b))) : Go_ G R y cc nL ret σ0 Z pc ev (A_ (some b) :: I_ i :: A_ (some a) :: st) σ := by
  intro p e s m args below meth c H locs cells slots ls C hr hl hv
  have w := fun H' locs' hr' hl' => kk p e s m args below meth c H' locs' cells slots ls C hr' hl' hv
  obtain ⟨cell, h1, ⟨ok1, ok2, ok3⟩, hcel⟩ := hr.2.2 a _ hs
  obtain ⟨cellV, g1, ⟨okv, -, -⟩, r, hr1, hclsV, -⟩ := hr.2.2 b _ hb0
  have hcel0 := hcel
  obtain ⟨hcls, hn, hsz, -, hsl⟩ := hcel
  obtain ⟨j1, j2, j3, j4⟩ := ix_ hn h
  have hKn := C.2.2.2.2.2.2.2.2.1
  obtain ⟨kA, comp, k1, k2, k3, -⟩ : va_RA s (gA_ G 3) (.object "java/lang/Object") := (kn_arr hKn 3 (by decide)).2
  obtain ⟨kE, hkE, -⟩ := Vm.findClass_spec k3
  obtain ⟨-, hfc, kC, hkC, -⟩ := hKn.1.1 ci _ hr1
  obtain ⟨c0, t1, f1, f2, f3⟩ := Cond.castable_spec (va_Nw.use (A := args) rfl (hKn.2.1 _ (hca r hr1)))
  have f1 : s.vm.findClass r.1 = some c0 := f1
  cases hfc.symm.trans f1
  cases k3.symm.trans f2
  refine W.aast C.1 C.2.1 h1 (fun q h => by rw [h] at ok1; cases ok1) ok2 (by rw [hcls]; exact k1) k2 rfl hkE ⟨j1, by rw [j2]; omega⟩ g1 (fun q h => by rw [h] at okv; cases okv) (by rw [hclsV]; exact hkC) (by rw [hclsV]; exact f3) rfl rfl hd fun H' e1 e2 e3 => ?_
  rw [j2] at e1 ⊢
  exact w H' _ (hr.upd ha hs h1 e1 e2 e3 (ok3 ha) (by simp [Cell.setSlot]) (ar_set (v := A_ (some b)) hcel0 h (Tk_.a fun _ _ => rfl)) (fun _ => rfl) (fun _ _ _ => rfl) (fun b' hb j => pv_rv _ _ _ (A_ (some b)) (Or.inl hb)) rfl rfl) (t_lc hl ha)
theorem g_alen {a t n : Nat} (ht : t < 4) (hs : sh_ σ a = some (.inr (t, n))) (hd : decode cc pc = .ok (.arraylength, 1)) (kk : Go_ G R y cc nL ret σ0 Z (pc + 1) ev (I_ (n : Int) :: st) σ) : Go_ G R y cc nL ret σ0 Z pc ev (A_ (some a) :: st) σ := by
  intro p e s m args below meth c H locs cells slots ls C hr hl hv
  have w := kk p e s m args below meth c H locs cells slots ls C hr hl hv
  obtain ⟨cell, h1, ⟨ok1, ok2, ok3⟩, hcls, hn, hsz, hsz2, hsl⟩ := hr.2.2 a _ hs
  exact W.alen (n := Int32.ofInt (n : Int)) C.1 C.2.1 h1 (ar_of (kn_arr C.2.2.2.2.2.2.2.2.1 t ht).1 ok1 hcls) (by rw [hsz2]; exact Int32.ofInt_eq_ofNat.symm) rfl rfl hd w
/-! new cells -/
theorem ra_nm {s : State} {cA : ClassId} {t : Nat} (ht : t < 3) (h : va_RA s cA (aty_ t)) : s.vm.findClass ("[" ++ (aty_ t).toString) = some cA := by
  rcases (show t = 0 ∨ t = 1 ∨ t = 2 by omega) with rfl | rfl | rfl
  · exact h
  · exact h
  · exact h
theorem aty_nf {t : Nat} (ht : t < 3) : aty_ t ≠ .float ∧ aty_ t ≠ .double := by
  rcases (show t = 0 ∨ t = 1 ∨ t = 2 by omega) with rfl | rfl | rfl <;> exact ⟨fun q => (by cases q), fun q => (by cases q)⟩
theorem g_new {i ci n : Nat} (hq : ∀ r : vw_C, cls_[ci]? = some r → Cond.classLink y.cls i r.1 ∈ lw_all ∧ Cond.instantiable r.1 n ∈ lw_all ∧ Cond.initialized r.1 ∈ lw_all) (hci : ∃ r : vw_C, cls_[ci]? = some r) (hL : sz_ σ + 1 ≤ lc_ G ∧ us_ σ + n ≤ ls_ G) (hd : decode cc pc = .ok (.new i, 3))
    (kk : Go_ G R y cc nL ret σ0 Z (pc + 3) ev (A_ (some (sz_ σ)) :: st) (nw_ σ (.inl ci) n)) : Go_ G R y cc nL ret σ0 Z pc ev st σ := by
  intro p e s m args below meth c H locs cells slots ls C hr hl hv
  obtain ⟨⟨C1, T, N⟩, hc⟩ := hci
  obtain ⟨q1, q2, q3⟩ := hq _ hc
  have C0 := C
  obtain ⟨hx, hb, -, -, hown, hts, -, -, hKn, hR0, hRc, hRs, -⟩ := C
  have hs0 := hR0.1
  have hsz := hr.1
  have hKq := hKn.1.1 ci _ hc
  refine w_mono fun m1 m2 => ?_
  rw [hsz.1, hs0.1] at m1
  rw [hsz.2.1, hs0.2.1] at m2
  refine w_tight (k' := sz_ σ - sz_ σ0) (n' := us_ σ - us_ σ0) (by rw [hsz.1, hs0.1]; omega) (by rw [hsz.2.1, hs0.2.1]; omega) ?_
  refine W.newc hx hb hown (hts _ q1) (hts _ q2) (hts _ q3) rfl hd (by omega) (by omega) fun cC kC h1 h2 h3 h4 => ?_
  have h1' : s.vm.findClass C1 = some cC := h1
  have ecC : cC = gC_ G ci := Option.some.inj (h1'.symm.trans hKq.2.1)
  have w := kk p e s m args below meth c (H.push { cls := cC, slots := kC.instanceTypes.map defaultValue, vm := .none }) locs (sz_ σ - sz_ σ0 + 1) (us_ σ - us_ σ0 + n) ls C0 ?_ hl hv
  · rw [show H.size = sz_ σ from hsz.1]
    exact w
  · have hob := u_born (H := H.push { cls := cC, slots := kC.instanceTypes.map defaultValue, vm := .none }) (o := H.size) (cty_ ci) hts (cls_in hc) hKq (show s.vm.classes[gC_ G ci]? = some kC by rw [← ecC]; exact h2) (show _ = some (blank (gC_ G ci) kC) by rw [← ecC]; simp [blank]) (cls_ty hc)
    obtain ⟨cell, o1, o2, o3, o4⟩ := hob
    have ecell : cell = { cls := cC, slots := kC.instanceTypes.map defaultValue, vm := .none } := by
      rw [Array.getElem?_push_size] at o1
      exact (Option.some.inj o1).symm
    refine hr.push (cell' := cell) (by rw [← hsz.1]; exact o1) (by rw [Array.size_push, hsz.1]) (fun q hq => by rw [Array.getElem?_push, if_neg (by omega)]) o3 (by rw [ecell]; simpa using h4) ⟨_, hc, o2, fun k hk => ?_⟩ hL
    rw [o4 k hk, iv_nw, rv_nw, if_pos rfl, if_pos rfl]
    exact congrArg some (cls_df hc k hk)
theorem g_newa {t n : Nat} {i : Int} {atype : ArrayType} (ht : newarray.typeOf atype = aty_ t) (ht4 : t < 3) (hq : Cond.arrayClass (newarray.typeOf atype) ∈ lw_all) (hi : i = (n : Int)) (hn : n ≤ 65536) (hL : sz_ σ + 1 ≤ lc_ G ∧ us_ σ + n ≤ ls_ G) (hd : decode cc pc = .ok (.newarray atype, 2))
    (kk : Go_ G R y cc nL ret σ0 Z (pc + 2) ev (A_ (some (sz_ σ)) :: st) (nw_ σ (.inr (t, n)) n)) : Go_ G R y cc nL ret σ0 Z pc ev (I_ i :: st) σ := by
  intro p e s m args below meth c H locs cells slots ls C hr hl hv
  have C0 := C
  obtain ⟨hx, hb, -, -, hown, hts, -, -, hKn, hR0, hRc, hRs, -⟩ := C
  have hs0 := hR0.1
  have hsz := hr.1
  subst hi
  obtain ⟨j1, j2, j3, j4⟩ := ix_ (i := (n : Int)) (n := n + 1) (by omega) (by omega)
  refine w_mono fun m1 m2 => ?_
  rw [hsz.1, hs0.1] at m1
  rw [hsz.2.1, hs0.2.1] at m2
  refine w_tight (k' := sz_ σ - sz_ σ0) (n' := us_ σ - us_ σ0) (by rw [hsz.1, hs0.1]; omega) (by rw [hsz.2.1, hs0.2.1]; omega) ?_
  have hcb : componentBytes (newarray.typeOf atype) ≤ 8 := by cases atype <;> decide
  refine va_newaK (N := n) (h := sz_ σ) hx hb (hts _ hq) rfl hd rfl j1 (by rw [j2]; omega) (Nat.le_trans (Nat.mul_le_mul hn hcb) (by decide)) (by omega) (by omega) hsz.1 fun H' cA e1 e2 e3 hAr hNm => ?_
  have w := kk p e s m args below meth c H' locs (sz_ σ - sz_ σ0 + 1) (us_ σ - us_ σ0 + n) ls C0 ?_ hl hv
  · exact w
  · have ecA : cA = gA_ G t := by
      rw [ht] at hNm
      exact Option.some.inj (hNm.symm.trans (ra_nm ht4 (kn_arr hKn t (by omega)).2))
    refine hr.push e1 e2 (fun q hq => e3 q hq) rfl (arrV_size _ _ _) ⟨ecA, by omega, Nat.le_of_eq (arrV_size _ _ _).symm, by rw [arrV_size] <;> rfl, fun j hj => ?_⟩ hL
    rw [arrV_read _ _ hj, iv_nw, rv_nw, if_pos rfl, if_pos rfl, ht]
    exact congrArg some (df_tv (aty_nf ht4))
theorem g_anew {n i : Nat} {x : Int} (hq : Cond.classLink y.cls i "java/lang/Object" ∈ lw_all) (hi : x = (n : Int)) (hn : n ≤ 65536) (hL : sz_ σ + 1 ≤ lc_ G ∧ us_ σ + n ≤ ls_ G) (hd : decode cc pc = .ok (.anewarray i, 3))
    (kk : Go_ G R y cc nL ret σ0 Z (pc + 3) ev (A_ (some (sz_ σ)) :: st) (nw_ σ (.inr (3, n)) n)) : Go_ G R y cc nL ret σ0 Z pc ev (I_ x :: st) σ := by
  intro p e s m args below meth c H locs cells slots ls C hr hl hv
  have C0 := C
  obtain ⟨hx, hb, -, -, hown, hts, -, -, hKn, hR0, hRc, hRs, -⟩ := C
  have hs0 := hR0.1
  have hsz := hr.1
  subst hi
  obtain ⟨j1, j2, j3, j4⟩ := ix_ (i := (n : Int)) (n := n + 1) (by omega) (by omega)
  refine w_mono fun m1 m2 => ?_
  rw [hsz.1, hs0.1] at m1
  rw [hsz.2.1, hs0.2.1] at m2
  refine w_tight (k' := sz_ σ - sz_ σ0) (n' := us_ σ - us_ σ0) (by rw [hsz.1, hs0.1]; omega) (by rw [hsz.2.1, hs0.2.1]; omega) ?_
  have ej : (Int32.ofInt (n : Int)).toNatClampNeg = n := by rw [j2]; omega
  refine W.anew hx hb hown (hts _ hq) (va_AO.use hKn.2.2.2.2.2.1) rfl hd rfl j1 (by rw [ej]; omega) (by omega) (by rw [ej]; omega) fun cA kA comp f1 f2 f3 f4 => ?_
  rw [ej]
  have w := kk p e s m args below meth c (H.push ({ cls := cA, slots := Array.replicate n .null, vm := .none } : Cell)) locs (sz_ σ - sz_ σ0 + 1) (us_ σ - us_ σ0 + n) ls C0 ?_ hl hv
  · rw [show H.size = sz_ σ from hsz.1]
    exact w
  · obtain ⟨kA', comp', k1, k2, k3, k4⟩ : va_RA s (gA_ G 3) (.object "java/lang/Object") := (kn_arr hKn 3 (by decide)).2
    have ecA : cA = gA_ G 3 := Option.some.inj (f1.symm.trans k4)
    refine hr.push (cell' := arrV cA n (fun _ => .null)) (by rw [← hsz.1, Array.getElem?_push_size, ← arrV_new]) (by rw [Array.size_push, hsz.1]) (fun q hq => by rw [Array.getElem?_push, if_neg (by omega)]) rfl (arrV_size _ _ _) ⟨ecA, by omega, Nat.le_of_eq (arrV_size _ _ _).symm, by rw [arrV_size] <;> rfl, fun j hj => ?_⟩ hL
    rw [arrV_read _ _ hj, iv_nw, rv_nw, if_pos rfl, if_pos rfl]
    rfl
end
