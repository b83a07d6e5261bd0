/-! THE LAW's world. lw_P .. lw_At began as the skeleton's rows. Written by mod/ma8.py -/
set_option maxRecDepth 100000
def R_law : String := "WhalePostLaw"
def lw_P (b : Addr) (xs : List Int32) (args : Array Value) (s : State) : Prop := args = #[.ref b] ∧ s.IntsAt b xs ∧ xs.length ≤ 384 ∧ (Jvm.Cond.and given_1 narrow_1).before args s = true
def lw_Q (_ : Array Value) (s : State) (o : Outcome) (t : State) : Prop := o = .returned (some (.int 1)) ∧ Framed s o t [] 1200128 5501098
def lw_Z (below : List Frame) (a : Array Value) (s : State) : State → Prop := fun t => ∃ o, t.status = .running ∧ Ended t below o ∧ lw_Q a s o t
/-- the law's own end, with 1 on the stack, nothing written that was there before, its room as the claim has it -/
theorem lw_ret {p : Program} {l : Launch} {e : Env} {s : State} {m : MethodId} {below : List Frame} {meth : Method} {c : Code} {b : Nat} (hx : p.tables.exec = Jvm.exec) (hb : c.code = code) (hr : meth.sig.returnType = ret) (hlocks : meth.locks = false) {pc : Nat} {H : Heap} {ls : Array Slot} (hdg : decode code pc = .ok (.ireturn, 1)) : W p l e room_1 s m #[Value.ref b] below meth c H [] 1200128 5501098 (lw_Z below #[Value.ref b] s) (F0 m pc ls [.int 1]) := by
  intro T hT X
  obtain ⟨fs, hret, hrun, hended, hW, hframe⟩ := X.leave (v := some (.int 1)) (hlocks := hlocks) (fun h => by rw [hr] at h; cases h)
  have hmeth' : T.vm.method? m = some meth := X.method'
  refine ⟨T.setFrames fs, ?_, .returned (some (.int 1)), hrun, hended, rfl, ⟨_, rfl⟩, hW, hframe⟩
  jvm_step X.here [X.here.top, hx, hb, hdg, hmeth', hr, ret, narrow_b1]
  (try refine ⟨rfl, ?_⟩); (try refine ⟨rfl, ?_⟩)
  first | (intro acts; rw [hret _ acts rfl rfl rfl]) | rw [hret _ _ rfl rfl rfl]
  exact Steps.refl _
/-- what holds at the law's entry: the machine, the code, the tables' words (any of lw_tbl by 'hts w (by decide +kernel)'), the script of L ints xs at the cell b, what the Statement gives of the start (any of its parts by flat_of_before) -/
def lw_At (p : Program) (s : State) (m : MethodId) (meth : Method) (c : Code) (b L : Nat) (xs : Nat → Int32) : Prop :=
  p.tables.exec = Jvm.exec ∧ c.code = code ∧ meth.sig.returnType = ret ∧ c.maxLocals = 7 ∧ s.vm.findClass R_law = some m.cls ∧ (∀ w ∈ lw_tbl, w.before #[Value.ref b] s = true) ∧ va_X b L xs s s.heap ∧ b < s.heap.size ∧ meth.locks = false ∧ (Jvm.Cond.and given_1 narrow_1).before #[Value.ref b] s = true
/-- the law's end, for the script of L ints xs at b -/
def ZL_ (b L : Nat) (xs : Nat → Int32) : List Frame → Array Value → State → State → Prop := fun below args s t => args = #[Value.ref b] → va_X b L xs s s.heap → lw_Z below #[Value.ref b] s t
/-- the law's run from a place on -/
abbrev GoW_ (G : JG) (b L : Nat) (xs : Nat → Int32) (σ0 : JH) (pc : Nat) (ev : List (Option AV)) (st : List AV) (σ : JH) : Prop := Go_ G room_1 yX0_law code 7 ret σ0 (ZL_ b L xs) pc ev st σ
theorem xr_ (v : Int32) : -2147483648 ≤ v.toInt ∧ v.toInt < 2147483648 := by
  have h1 := v.le_toInt
  have h2 := v.toInt_lt
  omega
theorem lcmp_self (a : Int) : lcmp_ a a = 0 := by
  unfold lcmp_ lg_cmp
  simp
section
variable {G : JG} {R : Room} {y : MethodName} {cc : ByteArray} {nL : Nat} {ret' : Option FieldType} {σ0 σ : JH} {Z : List Frame → Array Value → State → State → Prop} {pc : Nat} {ev : List (Option AV)} {st : List AV} {b L : Nat} {xs : Nat → Int32}
theorem g_sameI {a off : Int} {tgt : Nat} (hd : decode cc pc = .ok (.if_icmp .eq off, 3)) (ht : (pc : Int) + off = (tgt : Int)) (k : Go_ G R y cc nL ret' σ0 Z tgt ev st σ) : Go_ G R y cc nL ret' σ0 Z pc ev (I_ a :: I_ a :: st) σ := go_lift (fun p e s m args below meth c H locs cells slots ls C hv w => lv_icmp_eq C.1 C.2.1 hd ht (fun _ => w) (fun q => absurd rfl q)) k
/-- a script's int -/
theorem g_sld {j : Int} (hbl : b < (gH_ G).size) (hj : 0 ≤ j ∧ j < (L : Int)) (hL : L ≤ 384) (hd : decode code pc = .ok (.iaload, 1)) (kk : GoW_ G b L xs σ0 (pc + 1) ev (I_ (xs j.toNat).toInt :: st) σ) : GoW_ G b L xs σ0 pc ev (I_ j :: A_ (some b) :: st) σ := by
  intro p e s m args below meth c H locs cells slots ls C hr hl hv
  by_cases hX : va_X b L xs s s.heap
  · have w := kk p e s m args below meth c H locs cells slots ls C hr hl hv
    have hRh := C.2.2.2.2.2.2.2.2.2.1
    refine w_mono fun m1 _ => ?_
    have hS := zs_ hRh hr hl m1
    obtain ⟨j1, j2, j3, j4⟩ := ix_ (n := L) (by omega) hj
    refine va_sld C.1 C.2.1 hX (by have := hRh.1; omega) (by omega) hS (i := Int32.ofInt j) (fun q => q.elim j1 (fun q => by rw [j2] at q; omega)) hd ?_
    rw [j2]
    have e9 : av_ (I_ (xs j.toNat).toInt) = .int (xs j.toNat) := congrArg Value.int (Int32.ofInt_toInt _)
    rw [List.map_cons, e9] at w
    exact w
  · exact fun T hT X => ⟨_, Steps.refl _, fun _ h => absurd h hX⟩
theorem g_slen (hbl : b < (gH_ G).size) (hd : decode code pc = .ok (.arraylength, 1)) (kk : GoW_ G b L xs σ0 (pc + 1) ev (I_ (L : Int) :: st) σ) : GoW_ G b L xs σ0 pc ev (A_ (some b) :: st) σ := by
  intro p e s m args below meth c H locs cells slots ls C hr hl hv
  by_cases hX : va_X b L xs s s.heap
  · have w := kk p e s m args below meth c H locs cells slots ls C hr hl hv
    have hRh := C.2.2.2.2.2.2.2.2.2.1
    refine w_mono fun m1 _ => ?_
    have hS := zs_ hRh hr hl m1
    refine va_slen C.1 C.2.1 hX (by have := hRh.1; omega) (by omega) hS hd ?_
    have e9 : av_ (I_ (L : Int)) = .int (Int32.ofNat L) := congrArg Value.int Int32.ofInt_eq_ofNat
    rw [List.map_cons, e9] at w
    exact w
  · exact fun T hT X => ⟨_, Steps.refl _, fun _ h => absurd h hX⟩
/-- the law answers true -/
theorem g_lawret (hz : sz_ σ0 = (gH_ G).size) (hu : us_ σ0 = su_ (gH_ G)) (hd : decode code pc = .ok (.ireturn, 1)) : GoW_ G b L xs σ0 pc ev [I_ 1] σ := by
  intro p e s m args below meth c H locs cells slots ls C hr hl hv
  by_cases hX : args = #[Value.ref b] ∧ va_X b L xs s s.heap
  · obtain ⟨rfl, hX⟩ := hX
    have hRh := C.2.2.2.2.2.2.2.2.2.1
    have hR0 := hRh.1
    have hr1 := hr.1
    refine w_tight (k' := 1200128) (n' := 5501098) (by have := hr1.2.2.2.1; unfold lc_ at this; omega) (by have := hr1.2.2.2.2; unfold ls_ at this; omega) ?_
    refine va_forget (fun q hq => by have := hl q hq; omega) ?_
    have w := lw_ret (p := p) (l := gl_ G) (e := e) (s := s) (m := m) (below := below) (meth := meth) (c := c) (b := b) C.1 C.2.1 C.2.2.2.1 C.2.2.2.2.2.2.1 (pc := pc) (H := H) (ls := ls) hd
    exact fun T hT X => by
      obtain ⟨t, st, q⟩ := w T hT X
      exact ⟨t, st, fun _ _ => q⟩
  · exact fun T hT X => ⟨_, Steps.refl _, fun h1 h2 => absurd ⟨h1, h2⟩ hX⟩
end
section
variable {G : JG} {X m : Nat} {σ σ' σ1 σ2 : JH} {tp fa pl tr p un im : Int} {B r s : Int → Int} {U I : Int → Int → Int} {T : XT} {L : XL} {S : Nat → Int → Prop} {dc du : Nat}
theorem MR_.eq (h : MR_ G m σ) (e : ∀ b, m ≤ b → b ≤ m + 16 → sh_ σ' b = sh_ σ b ∧ ∀ k, rv_ σ' b k = rv_ σ b k ∧ iv_ σ' b k = iv_ σ b k) : MR_ G m σ' := by
  have er := fun k => ((e m (by omega) (by omega)).2 k).1
  obtain ⟨a0, a1, c1, c2, c3, c4, c5, c6, c7, c8, c9, c10, c11, c12, c13, c14, c15, c16⟩ := h
  exact ⟨a0, (e m (by omega) (by omega)).1.trans a1, ⟨(er 1).trans c1.1, (e (m + 1) (by omega) (by omega)).1.trans c1.2⟩, ⟨(er 12).trans c2.1, (e (m + 2) (by omega) (by omega)).1.trans c2.2⟩, ⟨(er 15).trans c3.1, (e (m + 3) (by omega) (by omega)).1.trans c3.2⟩, ⟨(er 16).trans c4.1, (e (m + 4) (by omega) (by omega)).1.trans c4.2⟩, ⟨(er 17).trans c5.1, (e (m + 5) (by omega) (by omega)).1.trans c5.2⟩, ⟨(er 18).trans c6.1, (e (m + 6) (by omega) (by omega)).1.trans c6.2⟩, ⟨(er 19).trans c7.1, (e (m + 7) (by omega) (by omega)).1.trans c7.2⟩, ⟨(er 22).trans c8.1, (e (m + 8) (by omega) (by omega)).1.trans c8.2⟩, ⟨(er 24).trans c9.1, (e (m + 9) (by omega) (by omega)).1.trans c9.2⟩, ⟨(er 25).trans c10.1, (e (m + 10) (by omega) (by omega)).1.trans c10.2⟩, ⟨(er 28).trans c11.1, (e (m + 11) (by omega) (by omega)).1.trans c11.2⟩, ⟨(er 29).trans c12.1, (e (m + 12) (by omega) (by omega)).1.trans c12.2⟩, ⟨(er 30).trans c13.1, (e (m + 13) (by omega) (by omega)).1.trans c13.2⟩, ⟨(er 35).trans c14.1, (e (m + 14) (by omega) (by omega)).1.trans c14.2⟩, ⟨(er 36).trans c15.1, (e (m + 15) (by omega) (by omega)).1.trans c15.2⟩, ⟨(er 37).trans c16.1, (e (m + 16) (by omega) (by omega)).1.trans c16.2⟩⟩
theorem MS_.eq (h : MS_ G m σ tp fa pl tr p un im B r s U I) (e : ∀ b, m ≤ b → b ≤ m + 16 → sh_ σ' b = sh_ σ b ∧ ∀ k, rv_ σ' b k = rv_ σ b k ∧ iv_ σ' b k = iv_ σ b k) : MS_ G m σ' tp fa pl tr p un im B r s U I := by
  have ei : ∀ b k, m ≤ b → b ≤ m + 16 → iv_ σ' b k = iv_ σ b k := fun b k h0 h1 => ((e b h0 h1).2 k).2
  have e0 := fun k => ei m k (by omega) (by omega)
  obtain ⟨⟨h1, h2, h3⟩, ⟨t1, t2, t3⟩, ⟨f1, f2, f3⟩, ⟨p1, p2⟩, ⟨u1, u2, u3, u4⟩, i1, i2, i3, i4⟩ := h
  exact ⟨⟨h1.eq e, fun k => (ei _ k (by omega) (by omega)).trans (h2 k), fun k => (ei _ k (by omega) (by omega)).trans (h3 k)⟩, ⟨(e0 2).trans t1, t2, fun k k0 k1 => ⟨(ei _ k (by omega) (by omega)).trans (t3 k k0 k1).1, (t3 k k0 k1).2⟩⟩, ⟨(e0 9).trans f1, (e0 10).trans f2, (e0 11).trans f3⟩, ⟨(e0 14).trans p1, p2⟩,
    ⟨(e0 20).trans u1, u2, fun k j k0 k1 j0 j1 => (ei _ _ (by omega) (by omega)).trans (u3 k j k0 k1 j0 j1), u4⟩, (e0 21).trans i1, i2, fun k j k0 k1 j0 j1 => (ei _ _ (by omega) (by omega)).trans (i3 k j k0 k1 j0 j1), i4⟩
/-- what the law has besides: the texts, the cell for led's answer -/
def LB_ (G : JG) (X : Nat) (σ : JH) : Prop := LS_ G σ ∧ LZ_ G σ ∧ gK_ G 23 < (gH_ G).size ∧ sh_ σ (X + 30) = some (.inr (2, 1)) ∧ X + 31 ≤ sz_ σ ∧ (gH_ G).size ≤ X
theorem LB_.gw (h : LB_ G X σ) (f : Gw_ S dc du σ σ') (hS : ∀ b k, S b k → X ≤ b) : LB_ G X σ' := by
  obtain ⟨h1, h2, h3, h4, h5, h6⟩ := h
  have g := f.ol (ρ := X) (by omega) hS
  exact ⟨h1.ol g h6, ⟨((g.1 _ (by omega)).2 _).2.trans h2.1, ((g.1 _ (by omega)).2 _).2.trans h2.2⟩, h3, (f.1 _ (by omega)).trans h4, by have := g.2; omega, h6⟩
/-- the component's calls leave the reference alone -/
theorem MS_.gx (h : MS_ G (X + 13) σ tp fa pl tr p un im B r s U I) (hB : LB_ G X σ) (f : Gw_ (xw_ X (X + 31)) dc du σ σ') : MS_ G (X + 13) σ' tp fa pl tr p un im B r s U I := by
  have hz := hB.2.2.2.2.1
  exact h.eq fun b b0 b1 => ⟨f.1 b (by omega), fun k => f.2.1 b k (by omega) (fun q => by unfold xw_ at q; omega)⟩
/-- the reference's cells and the law's are none of the post's -/
theorem PQ_.nm {lo : Nat} (h : PQ_ G σ lo T r) (hW : RW_ r) (hM : MR_ G m σ) (ho : sh_ σ (m + 17) = some (.inr (2, 1))) {b : Nat} (h0 : m ≤ b) (h1 : b ≤ m + 17) : ¬ PA_ T r b := by
  intro q
  have hs : sh_ σ b = some (.inl 1) ∨ (∃ n, sh_ σ b = some (.inr (0, n)) ∧ 7 ≤ n) ∨ sh_ σ b = some (.inr (2, 1)) := by
    obtain ⟨i, rfl⟩ : ∃ i, b = m + i := ⟨b - m, by omega⟩
    have hi : i ≤ 17 := by omega
    match i, hi with
    | 0, _ => exact Or.inl hM.sh
    | 1, _ => exact Or.inr (Or.inl ⟨_, hM.a1, by decide⟩)
    | 2, _ => exact Or.inr (Or.inl ⟨_, hM.a12, by decide⟩)
    | 3, _ => exact Or.inr (Or.inl ⟨_, hM.a15, by decide⟩)
    | 4, _ => exact Or.inr (Or.inl ⟨_, hM.a16, by decide⟩)
    | 5, _ => exact Or.inr (Or.inl ⟨_, hM.a17, by decide⟩)
    | 6, _ => exact Or.inr (Or.inl ⟨_, hM.a18, by decide⟩)
    | 7, _ => exact Or.inr (Or.inl ⟨_, hM.a19, by decide⟩)
    | 8, _ => exact Or.inr (Or.inl ⟨_, hM.a22, by decide⟩)
    | 9, _ => exact Or.inr (Or.inl ⟨_, hM.a24, by decide⟩)
    | 10, _ => exact Or.inr (Or.inl ⟨_, hM.a25, by decide⟩)
    | 11, _ => exact Or.inr (Or.inl ⟨_, hM.a28, by decide⟩)
    | 12, _ => exact Or.inr (Or.inl ⟨_, hM.a29, by decide⟩)
    | 13, _ => exact Or.inr (Or.inl ⟨_, hM.a30, by decide⟩)
    | 14, _ => exact Or.inr (Or.inl ⟨_, hM.a35, by decide⟩)
    | 15, _ => exact Or.inr (Or.inl ⟨_, hM.a36, by decide⟩)
    | 16, _ => exact Or.inr (Or.inl ⟨_, hM.a37, by decide⟩)
    | 17, _ => exact Or.inr (Or.inr ho)
    | n + 18, h => exact absurd h (by omega)
  rcases (h.shp q).1 with ⟨ci, c1, c2⟩ | ⟨cap, c1, -⟩ | ⟨i, n, ⟨i0, i1⟩, c2, c1⟩
  · rcases hs with e | ⟨n, e, -⟩ | e
    · rw [e] at c1; cases c1; omega
    · rw [e] at c1; cases c1
    · rw [e] at c1; cases c1
  · rcases hs with e | ⟨n, e, -⟩ | e
    · rw [e] at c1; cases c1
    · rw [e] at c1; cases c1
    · rw [e] at c1; cases c1
  · have w := (h.isl i0 i1).2.2.2.1
    have hw := hW.len i0 i1
    rw [← c2] at w
    rcases hs with e | ⟨n', e, hn⟩ | e
    · rw [e] at c1; cases c1
    · rw [e] at w; cases w; omega
    · rw [e] at c1; cases c1
/-- what lies between the component's cells and its new things is not its -/
theorem XS_.fw (h : XS_ G X (X + 31) σ tp fa pl tr p un im B r s U I T L) (f : Gw_ S dc du σ σ') (hlt : ∀ a s, sh_ σ a = some s → a < sz_ σ) (hS : ∀ b k, S b k → X + 13 ≤ b ∧ b ≤ X + 30) (hM : MR_ G (X + 13) σ) (ho : sh_ σ (X + 30) = some (.inr (2, 1))) (hP : MP_ p r s) : XS_ G X (X + 31) σ' tp fa pl tr p un im B r s U I T L := by
  have hl := h.R.lt hlt
  have hge := h.R.ge
  have hk := h.R.k100
  have nX : ∀ b k, b ≤ X + 12 → ¬ S b k := fun b k hb q => by have := hS b k q; omega
  have nL : ∀ b k, (X + 31 ≤ b ∨ b = gK_ G 100) → ¬ S b k := fun b k hb q => by have := hS b k q; omega
  have hPL : ∀ (a : Nat) (l : Nat × Nat × (Int → Nat)) (n : Int) (V : Int → Int → Int), a ≤ X + 12 → PL_ G σ (X + 31) T r p a l n V → PL_ G σ' (X + 31) T r p a l n V := fun a l n V ha q => PL_.gw (xD_ T) q f hlt (fun k => nX _ _ ha) (fun k => nL _ _ q.2.1) (fun k k0 k1 b j b0 b1 => nL _ _ (Or.inl (by have := (q.2.2.1 k k0 k1).1.1.2.1; omega)))
  have hF := h.2.2.1.gw f hlt (by omega) (fun k => nX _ _ (by omega)) (fun k _ _ => nX _ _ (by omega))
  have hh := h
  obtain ⟨a1, a2, a3, a4, a5, a6, a7, a8, a9⟩ := h
  rcases hP with hp | ⟨hp, hW, hD⟩
  · have h5 : rv_ σ X 5 = none := by
      rcases a1.2 with q | q
      · exact q.2
      · exact absurd q.1 (by omega)
    exact ⟨⟨a1.1.to (fun b hb => f.1 b (by omega)) (fun k _ _ => (f.2.1 X k (by omega) (nX _ _ (by omega))).1), Or.inl ⟨hp, ((f.2.1 X 5 (by omega) (nX _ _ (by omega))).1).trans h5⟩⟩, a2, hF, a4, a5, hPL _ _ _ _ (by omega) a6, hPL _ _ _ _ (by omega) a7, a8, a9⟩
  · subst hp
    have hX := hh.1.get rfl
    exact XS_.mk1 ((hh.core rfl).gw f hlt fun b k q => Or.inr (Or.inr ⟨(hS b k q).1, hX.P.nm hW hM ho (hS b k q).1 (by have := hS b k q; omega)⟩)) a2 (((f.2.1 X 6 (by omega) (nX _ _ (by omega))).1).trans hX.f6) ⟨(hh.dsk rfl).1.gwn f hlt (fun b j b0 b1 => nL _ _ (Or.inl (by have := (hh.dsk rfl).1.1.2.1; omega))), (hh.dsk rfl).2⟩ (hPL _ _ _ _ (by omega) a6) (hPL _ _ _ _ (by omega) a7) a8 (a9 rfl)
theorem DQ_.cr {lo D : Nat} {r' : Int → Int} (h : DQ_ G σ lo D r s) (hW : RW_ r) (e : ∀ j, 0 ≤ j → j < 363 → r' j = r j) : DQ_ G σ lo D r' s := by
  obtain ⟨h1, h2, h3, h4, h5, h6, h7, h8, h9⟩ := h
  have hn := hW.n
  refine ⟨h1, h2, h3, h4, h5, h6, h7, h8, fun b k b0 b1 k0 k1 => ?_⟩
  rw [e 7 (by omega) (by omega)] at b1
  have hb := hW.box b0 b1
  have eb : bl_ r' b = bl_ r b := by
    unfold bl_
    rw [e (128 + 4 * b) (by omega) (by omega)]
    exact e _ (by omega) (by omega)
  rw [eb] at k1
  exact h9 b k b0 b1 k0 k1
/-- a new post's whole state speaks of its numbers alone -/
theorem XS_.cg {lo : Nat} {r' s' : Int → Int} (h : XS_ G X lo σ tp fa pl tr 1 0 0 B r s U I T L) (hW : RW_ r) (hW' : RW_ r') (e : ∀ j, 0 ≤ j → j < 363 → r' j = r j) (e2 : ∀ j, 0 ≤ j → j < 76 → s' j = s j) : XS_ G X lo σ tp fa pl tr 1 0 0 B r' s' U I T L := by
  have hX := h.1.get rfl
  have hn := hW.n
  obtain ⟨a1, a2, a3, a4, a5, a6, a7, a8, a9⟩ := h
  have hPL : ∀ (a : Nat) (l : Nat × Nat × (Int → Nat)) (V : Int → Int → Int), PL_ G σ lo T r 1 a l 0 V → PL_ G σ lo T r' 1 a l 0 V := fun a l V q => ⟨q.1, q.2.1, fun k k0 k1 => absurd k1 (by omega), q.2.2.2⟩
  refine ⟨⟨a1.1, Or.inr ⟨rfl, a1.1, hX.f5, hX.f6, hX.P.cgr (fun i i0 i1 => (hW.len i0 i1).2) (fun j hj => e j ?_ ?_), (hX.K.cr hW e).cg hW' e2⟩⟩, a2, a3, fun _ => ⟨(a4 rfl).1, fun i i0 i1 => (a4 rfl).2 i i0 (by rw [← e 4 (by omega) (by omega)]; exact i1)⟩, fun q => absurd rfl q, hPL _ _ _ a6, hPL _ _ _ a7, a8, a9⟩
  · unfold RL_ at hj; omega
  · unfold RL_ at hj; omega
/-- a round's end -/
def LE_ (G : JG) (X : Nat) (σ σ' : JH) : Prop := (∃ (tp fa pl tr p un im : Int) (B r s : Int → Int) (U I : Int → Int → Int) (T : XT) (L : XL), XS_ G X (X + 31) σ' tp fa pl tr p un im B r s U I T L ∧ MS_ G (X + 13) σ' tp fa pl tr p un im B r s U I ∧ (0 ≤ tr ∧ tr ≤ 6)) ∧ LB_ G X σ' ∧ (sz_ σ' ≤ sz_ σ + 8400 ∧ us_ σ' ≤ us_ σ + 60000)
/-- a round's start -/
def LI_ (G : JG) (b L X : Nat) (i : Int) (σ : JH) (tp fa pl tr p un im : Int) (B r s : Int → Int) (U I : Int → Int → Int) (T : XT) (LL : XL) : Prop := XS_ G X (X + 31) σ tp fa pl tr p un im B r s U I T LL ∧ MS_ G (X + 13) σ tp fa pl tr p un im B r s U I ∧ (0 ≤ tr ∧ tr ≤ 6) ∧ LB_ G X σ ∧ (b < (gH_ G).size ∧ L ≤ 384 ∧ 0 ≤ i ∧ i + 6 ≤ L) ∧ (sz_ σ + 8400 ≤ lc_ G ∧ us_ σ + 60000 ≤ ls_ G) ∧ (gl_ G).stackTraces = false
theorem le_act {tp' fa' pl' t p' un' im' : Int} {B' r' s' : Int → Int} {U' I' : Int → Int → Int} {T' : XT} {L' : XL} (hS1 : XS_ G X (X + 31) σ1 tp' fa' pl' t p' un' im' B' r' s' U' I' T' L') (hM : MS_ G (X + 13) σ tp fa pl tr p un im B r s U I) (hM2 : MS_ G (X + 13) σ2 tp' fa' pl' t p' un' im' B' r' s' U' I') (hB : LB_ G X σ) (hlt1 : ∀ a s, sh_ σ1 a = some s → a < sz_ σ1) (f1 : Gw_ (xw_ X (X + 31)) dc du σ σ1) (f2 : Fr_ (ML_ (X + 13)) σ1 σ2) (hdc : dc ≤ 8400) (hdu : du ≤ 60000) (ht : 0 ≤ t ∧ t ≤ 6) : LE_ G X σ σ2 := by
  have hB1 : LB_ G X σ1 := hB.gw f1 (fun b k q => by unfold xw_ at q; omega)
  have hM1 := hM.gx hB f1
  have hB2 : LB_ G X σ2 := hB1.gw f2.gw (fun b k q => by unfold ML_ at q; omega)
  refine ⟨⟨tp', fa', pl', t, p', un', im', B', r', s', U', I', T', L', hS1.fw f2.gw hlt1 (fun b k q => by unfold ML_ at q; omega) hM1.M.1 hB1.2.2.2.1 hM2.P, hM2, ht⟩, hB2, ?_⟩
  have h1 := f1.2.2
  have h2 := f2.2.2.1
  have h3 := f2.2.2.2.1
  omega
theorem le_q {t : Int} (hS : XS_ G X (X + 31) σ tp fa pl tr p un im B r s U I T L) (hM : MS_ G (X + 13) σ tp fa pl tr p un im B r s U I) (hB : LB_ G X σ) (hlt : ∀ a s, sh_ σ a = some s → a < sz_ σ) (hlt1 : ∀ a s, sh_ σ1 a = some s → a < sz_ σ1) (hE1 : XE_ X σ σ1 t) (hM2 : MD_ G (X + 13) σ2 r s) (hE2 : ME_ (X + 13) σ1 σ2 t) (ht : 0 ≤ t ∧ t ≤ 6 ∧ t ≠ 4) : LE_ G X σ σ2 := by
  have f1 : Gw_ (xw_ X (X + 31)) 7 100 σ σ1 := hE1.w
  exact le_act (hS.q hE1 hlt ht.2.2) hM ((hM.gx hB f1).q hM2 hE2) hB hlt1 f1 (hE2.1.mono (fun b k q => by unfold me_ ms_ at q; unfold ML_; omega)) (by decide) (by decide) ⟨ht.1, ht.2.1⟩
end
