/-! EXCEPTIONS: the one method that throws, and the one that catches. Written by mod/ma6.py -/
set_option maxRecDepth 100000
set_option maxRecDepth 100000
def nse_ : String := "java/util/NoSuchElementException"
def nss_ : List String := ["java/lang/RuntimeException", "java/lang/Exception"]
/-- the throw's words -/
def ledW : List Cond := vx_at0 "WhalePost" 440 nse_ nss_
theorem ledW_in : ∀ w ∈ ledW, w ∈ lw_tbl := by decide +kernel
theorem ledW_nw : ∀ w ∈ ledW.filter (fun w => !goodWord w), w ∈ nwC_.map (fun q => Cond.castable q.1 q.2) ++ nwD_.map Cond.declares := by decide +kernel
theorem ledW_ot : ∀ w ∈ Cond.classLink "WhalePost" 438 nse_ :: Cond.initialized nse_ :: ledW, vx_ot w = true := by decide +kernel
theorem nse_fit : Bundle.fit nse_ = true := by decide +kernel
theorem nss_fit : ∀ n ∈ nss_, Bundle.fit n = true := by decide +kernel
theorem nse_cast : (nse_, nse_) ∈ nwC_ := by decide +kernel
/-- a grown heap's slots -/
theorem su_drop {H H' : Heap} (hs : H.size ≤ H'.size) (h : ∀ q : Nat, q < H.size → (H'[q]?).map (fun c : Cell => c.slots.size) = (H[q]?).map (fun c : Cell => c.slots.size)) : su_ H' = su_ H + ((H'.toList.drop H.size).map (fun c : Cell => c.slots.size)).sum := by
  have e : (H'.toList.take H.size).map (fun c : Cell => c.slots.size) = H.toList.map (fun c : Cell => c.slots.size) := by
    apply List.ext_getElem?
    intro q
    rw [List.getElem?_map, List.getElem?_map, List.getElem?_take]
    by_cases hq : q < H.size
    · rw [if_pos hq, Array.getElem?_toList, Array.getElem?_toList]; exact h q hq
    · rw [if_neg hq, Array.getElem?_toList, Array.getElem?_eq_none (by omega)]
  have e2 : (H'.toList.map (fun c : Cell => c.slots.size)).sum = ((H'.toList.take H.size).map (fun c : Cell => c.slots.size)).sum + ((H'.toList.drop H.size).map (fun c : Cell => c.slots.size)).sum := by
    rw [← List.sum_append, ← List.map_append, List.take_append_drop]
  unfold su_
  rw [e2, e]
/-- the heap grown by cells of which nothing is known -/
def gr_ (σ : JH) (n u : Nat) : JH := (σ.1, σ.2.1, σ.2.2.1, n, u)
theorem sh_gr (σ : JH) (n u a : Nat) : sh_ (gr_ σ n u) a = sh_ σ a := rfl
theorem iv_gr (σ : JH) (n u a : Nat) (k : Int) : iv_ (gr_ σ n u) a k = iv_ σ a k := rfl
theorem rv_gr (σ : JH) (n u a : Nat) (k : Int) : rv_ (gr_ σ n u) a k = rv_ σ a k := rfl
theorem sz_gr (σ : JH) (n u : Nat) : sz_ (gr_ σ n u) = n := rfl
theorem us_gr (σ : JH) (n u : Nat) : us_ (gr_ σ n u) = u := rfl
theorem Rp_.gr {G : JG} {σ : JH} {H H' : Heap} (h : Rp_ G σ H) (hs : H.size ≤ H'.size) (hp : ∀ q : Nat, q < H.size → H'[q]? = H[q]?) (h1 : H'.size ≤ lc_ G) (h2 : su_ H' ≤ ls_ G) : Rp_ G (gr_ σ H'.size (su_ H')) H' := by
  obtain ⟨⟨a1, a2, a3, a4, a5⟩, b, c⟩ := h
  refine ⟨⟨rfl, rfl, by show (gH_ G).size ≤ H'.size; omega, h1, h2⟩, fun q hq => (hp q (by omega)).trans (b q hq), fun a s hs9 => ?_⟩
  obtain ⟨cell, e1, e2, e3⟩ := c a s hs9
  refine ⟨cell, (hp a (Array.getElem?_eq_some_iff.mp e1).1).trans e1, e2, ?_⟩
  cases s <;> exact e3
/-- what is known where it was thrown: P, and the heap as in σ but for one cell more -/
def XL_ (G : JG) (σ : JH) (P : Prop) : String → State → State → Prop := fun E _ t => P ∧ E = nse_ ∧ Rp_ G (gr_ σ t.heap.size (su_ t.heap)) t.heap ∧ sz_ σ ≤ t.heap.size ∧ t.heap.size ≤ sz_ σ + 1 ∧ us_ σ ≤ su_ t.heap ∧ su_ t.heap ≤ us_ σ + 6
def ZX_ (G : JG) (σ0 : JH) (Q : Option AV → JH → Prop) (XC : String → State → State → Prop) : List Frame → Array Value → State → State → Prop := fun below args s => vx_MQ below (Qc_ G Q) XC args s (lc_ G - sz_ σ0) (ls_ G - us_ σ0) (fun q => (gH_ G).size ≤ q)
/-- a call that returns or throws -/
def CallX_ (G : JG) (d : Nat) (y : MethodName) (cc : ByteArray) (nL : Nat) (ret : Option FieldType) (as : List AV) (σ : JH) (Q : Option AV → JH → Prop) (XC : String → State → State → Prop) : Prop :=
  vx_Met (gl_ G) y (ws_ y cc nL ret) (rm_ G d σ) (va_Pc (as.map av_) (Wd_ G σ)) (Qc_ G Q) XC (lc_ G - sz_ σ) (ls_ G - us_ σ) (fun q => (gH_ G).size ≤ q)
section
variable {G : JG} {R : Room} {y : MethodName} {cc : ByteArray} {nL : Nat} {ret : Option FieldType} {σ0 σ : JH} {Z : List Frame → Array Value → State → State → Prop} {pc d : Nat} {ev : List (Option AV)} {st rest : List AV} {Q : Option AV → JH → Prop} {XC : String → State → State → Prop}
theorem g_retX (k : Go_ G R y cc nL ret σ0 (ZM_ G σ0 Q) pc ev st σ) : Go_ G R y cc nL ret σ0 (ZX_ G σ0 Q XC) pc ev st σ := by
  intro p e s m args below meth c H locs cells slots ls C hr hl hv
  exact vx_ret (k p e s m args below meth c H locs cells slots ls C hr hl hv)
theorem callx_go {as : List AV} (ev : List (Option AV)) (hy : plainName y.cls = true) (hlen : (lg_sl (as.map av_)).length ≤ nL) (hev : en_ 0 ev = lv_args 0 (as.map av_)) (k : Go_ G (rm_ G d σ) y cc nL ret σ (ZX_ G σ Q XC) 0 ev [] σ) (htb : hl_led y = false := by decide) : CallX_ G d y cc nL ret as σ Q XC := by
  refine vx_ofW (cc := cc) (maxL := nL) (ret := ret) hy rfl ?_
  intro p e s m args below meth c s₁ B hml hno hv
  obtain ⟨rfl, hKn, hRp⟩ := hv
  have hts := atoms_spec (ws := ws_ y cc nL ret) B.pre
  have hts : ∀ w ∈ lw_all, w.before _ s = true := fun w h => hts w (List.mem_cons_of_mem _ h)
  have htab : c.exceptionTable.toList = tb_ y := by
    unfold tb_
    rw [htb, if_neg (by decide)]
    exact List.eq_nil_iff_forall_not_mem.mpr (fun x hx => hno x hx)
  have hl := lv_entry (as.map av_) (n := nL) hlen
  rw [lg_entry_eq]
  generalize (lg_sl (as.map av_) ++ List.replicate (nL - (lg_sl (as.map av_)).length) Slot.unset).toArray = ls at hl ⊢
  rw [← hev] at hl
  have hb := hRp.1
  exact k p e s m _ below meth c s.heap [] 0 0 ls ⟨B.exec, B.bytes, hml, B.returns, findClass_of_methodNamed B.named, hts, B.notSynchronized, (name_of_methodNamed B.named B.method).1, hKn, hRp, (by show lc_ G - sz_ σ + sz_ σ = lc_ G; omega), (by show ls_ G - us_ σ + us_ σ = ls_ G; omega), htab⟩ hRp (fun q h => by cases h) hl
/-- the throw in led -/
theorem g_throwL {P : Prop} (hP : P) (hst : (gl_ G).stackTraces = false) (hd : 6 ≤ d) (hrm : sz_ σ + 1 ≤ lc_ G ∧ us_ σ + 6 ≤ ls_ G) : Go_ G (rm_ G d σ0) yX1_led cX1_led 4 (some .int) σ0 (ZX_ G σ0 Q (XL_ G σ P)) 58 ev [] σ := by
  intro p e s m args below meth c H locs cells slots ls C hr hl hv
  have hRh := C.2.2.2.2.2.2.2.2.2.1
  have hR0 := hRh.1
  have hr1 := hr.1
  have hKn := C.2.2.2.2.2.2.2.2.1
  have hts := C.2.2.2.2.2.1
  have htb := C.2.2.2.2.2.2.2.2.2.2.2.2
  refine w_mono fun m1 m2 => ?_
  have m1' := m1
  rw [hr1.1, hR0.1] at m1
  rw [hr1.2.1, hR0.2.1] at m2
  refine w_tight (k' := sz_ σ - sz_ σ0) (n' := us_ σ - us_ σ0) (by rw [hr1.1, hR0.1]; omega) (by rw [hr1.2.1, hR0.2.1]; omega) ?_
  have hS := zs_ hRh hr hl m1'
  have hzk : ∀ q ∈ zrx_, vx_Zq q.1 q.2.1 q.2.2 (fun a => (gH_ G).size ≤ a) s s.heap := fun q hq => (hKn.2.2.2.2.2.2.2.2.2.2.2.2 q hq).kept (fun a ha _ => hRh.2.1 a ha)
  have hwd : ∀ w ∈ ledW, w.before args s = true := vx_hat (fun w hw => hts w (lw_g (ledW_in w (List.mem_filter.mp hw).1) (List.mem_filter.mp hw).2)) ledW_nw (fun w hw => by
    rcases List.mem_append.mp hw with hw | hw
    · obtain ⟨q, hq, rfl⟩ := List.mem_map.mp hw
      exact (hKn.2.1 q hq).use rfl
    · obtain ⟨q, hq, rfl⟩ := List.mem_map.mp hw
      exact (hKn.2.2.2.2.1 q hq).use rfl)
  have w := vx_throw0 (Qc := fun _ _ _ _ => False) (XC := fun E _ t => E = nse_ ∧ H.size ≤ t.heap.size ∧ ∀ q : Nat, q < H.size → t.heap[q]? = H[q]?) (free := fun q => (gH_ G).size ≤ q) (mc := sz_ σ - sz_ σ0 + 1) (ms := us_ σ - us_ σ0 + 6) (p := p) (e := e) (below := below) (R := rm_ G d σ0) (names := nss_) (own := "WhalePost") (cls := nse_) (ls := ls) (rest := []) C.1 C.2.1 hst C.2.2.2.2.1 nse_fit nss_fit (hts _ q1606) (hts _ q163) hwd ledW_ot
    (hzk ("java/lang/Throwable", "UNASSIGNED_STACK", "[Ljava/lang/StackTraceElement;") (by decide)) (hzk ("java/lang/Throwable", "SUPPRESSED_SENTINEL", "Ljava/util/List;") (by decide)) hS (hv.1.trans C.2.2.1.symm) dX1_led_58 dX1_led_61 dX1_led_62 dX1_led_65
    (fun x hx => by rw [htb] at hx; exact absurd hx (List.not_mem_nil)) (by show 2 + 3 < d; omega) (by show 0 + (13 * (2 + 1) + 42) ≤ 64 * d; omega) (by show sz_ σ - sz_ σ0 + 1 ≤ lc_ G - sz_ σ0; omega) (by show us_ σ - us_ σ0 + 6 ≤ ls_ G - us_ σ0; omega) C.2.2.2.2.2.2.1
    (fun t _ h1 h2 => ⟨rfl, h1, h2⟩) hl (Nat.le_refl _) (Nat.le_refl _)
  intro T hT X
  obtain ⟨t, st, o, r1, r2, h⟩ := w T hT X
  rcases h with ⟨h, -⟩ | ⟨q, rfl, E, ce, L, ⟨hE, x1, x2⟩, hce, hcv, hcl, hW, hsm, hL⟩
  · exact h.elim
  · obtain ⟨-, y2, y3, -, y5, y6⟩ := id hsm
    have y2 : s.heap.size ≤ t.heap.size := y2
    have y3 : t.heap.size ≤ s.heap.size + (sz_ σ - sz_ σ0 + 1) := y3
    have y5 : ((t.heap.toList.drop s.heap.size).map (fun c : Cell => c.slots.size)).sum ≤ us_ σ - us_ σ0 + 6 := y5
    have e1 := su_drop y2 (fun q9 hq => by
      obtain ⟨c', k1, -, k3, -⟩ := y6 q9 _ (Array.getElem?_eq_getElem hq)
      have k1 : t.heap[q9]? = some c' := k1
      rw [k1, Array.getElem?_eq_getElem hq]
      exact congrArg some k3)
    have e2 := su_drop x1 (fun q9 hq => by rw [x2 q9 hq])
    have a1 := hR0.1
    have a2 := hR0.2.1
    have a3 := hr1.1
    have a4 := hr1.2.1
    exact ⟨t, st, _, r1, r2, Or.inr ⟨q, rfl, E, ce, L, ⟨hP, hE, hr.gr x1 x2 (by omega) (by omega), by omega, by omega, by omega, by omega⟩, hce, hcv, hcl, hW, hsm.mono (by omega) (by omega), hL⟩⟩
end
section
variable {G : JG} {X lo : Nat} {σ : JH} {tp fa pl tr p un im : Int} {B r s : Int → Int} {U I : Int → Int → Int} {T : XT} {L : XL}
theorem xo_led {i : Int} {Q : Int → JH → Prop} (hst : (gl_ G).stackTraces = false) (hS : XS_ G X lo σ tp fa pl tr p un im B r s U I T L) (hP : MP_ p r s) (hi : -2147483648 ≤ i ∧ i < 2147483648) (hrm : sz_ σ + 1 ≤ lc_ G ∧ us_ σ + 6 ≤ ls_ G)
    (hQ : 0 ≤ qLed_ p r s i ∧ qLed_ p r s i ≤ 8 → Q (qLed_ p r s i) σ) : CallX_ G 6 yX1_led cX1_led 4 (some .int) [A_ (some X), I_ i] σ (fun v σ' => ∃ x : Int, v = some (I_ x) ∧ Q x σ') (XL_ G σ (qLed_ p r s i = -1)) := by
  refine callx_go [some (A_ (some X)), some (I_ i), none, none] (by decide) (Nat.le_of_ble_eq_true rfl) rfl ?_
  have hX0 := hS.1
  have hR := hX0.1
  have hp01 := hP.b
  rcases hX0.2 with q | q
  · have hp0 : p = 0 := q.1
    refine g_iconst dX1_led_0 ?_
    refine g_is2 dX1_led_1 (by decide) rfl ?_
    refine g_iconst dX1_led_2 ?_
    refine g_is3 dX1_led_3 (by decide) rfl ?_
    refine g_al0 dX1_led_4 ?_
    refine f_getA 5 fk_X1_104 rfl hR.sh (fun _ _ => rfl) q.2 dX1_led_5 ?_
    refine g_ifnull (tgt := 58) dX1_led_8 (by decide) (fun h8 => ?_) (fun _ h8 => ?_)
    · exact g_throwL (by unfold qLed_; rw [if_neg (by omega)]) hst (by decide) hrm
    cases h8
  · have hp1 : p = 1 := q.1
    have hX := q.2
    obtain ⟨hW, hD⟩ := hP.get hp1
    have hn := hW.n
    have L4 : ∀ (fu : Nat) (n1 : Int) (b : Int), r 7 - b < (fu : Int) → (0 ≤ b) → (b ≤ r 7) → (0 ≤ n1 ∧ n1 ≤ b) → (n1 = sI_ (fun c => if s (12 + c) ≤ 0 then 1 else 0) b) → (∀ j, 0 ≤ j → j < b → (fun b => decide (s (12 + b) ≤ 0 ∧ sI_ (fun c => if s (12 + c) ≤ 0 then 1 else 0) b = i)) j = false) → Go_ G (rm_ G 6 σ) yX1_led cX1_led 4 (some .int) σ (ZX_ G σ (fun v σ' => ∃ x : Int, v = some (I_ x) ∧ Q x σ') (XL_ G σ (qLed_ p r s i = -1))) 4 [some (A_ (some X)), some (I_ i), some (I_ n1), some (I_ b)] [] σ := by
      intro fu
      induction fu with
      | zero => intro n1 b hn h0 h1 hnb hnv hf; exact absurd hn (by omega)
      | succ fu ih =>
        intro n1 b hn h0 h1 hnb hnv hf
        refine g_al0 dX1_led_4 ?_
        refine f_getA 5 fk_X1_104 rfl hR.sh (fun _ _ => rfl) hX.f5 dX1_led_5 ?_
        refine g_ifnull (tgt := 58) dX1_led_8 (by decide) (fun h8 => ?_) (fun _ h8 => ?_)
        · cases h8
        refine g_il3 dX1_led_11 ?_
        refine g_al0 dX1_led_12 ?_
        refine f_getA 5 fk_X1_104 rfl hR.sh (fun _ _ => rfl) hX.f5 dX1_led_13 ?_
        refine f_getA 7 fk_X1_134 rfl hX.P.sh (fun _ _ => rfl) hX.P.f7 dX1_led_16 ?_
        refine g_callV0I (d' := 2) lk_X1_127 hX.P.l3.1 rfl (rm_lt (by decide) (by decide)) (Nat.le_of_ble_eq_true rfl) dX1_led_19 ?_
        refine js_size hX.P.l3 ?_
        refine g_icmp_ge (tgt := 58) dX1_led_22 (by decide) (by omega) (fun h22 => ?_) (fun h22 => ?_)
        · exact g_throwL (by unfold qLed_; rw [if_pos (by omega)]; exact fI_none (fun j j0 j1 => hf j j0 (by omega))) hst (by decide) hrm
        refine g_al0 dX1_led_25 ?_
        refine f_getA 6 fk_X1_111 rfl hR.sh (fun _ _ => rfl) hX.f6 dX1_led_26 ?_
        have hkb := hX.K.bx (b := b) (by omega) (by omega)
        have hdb := hD.box (b := b) (by omega) (by omega)
        have hun : un_ (s (12 + b)) = -2 ∧ s (12 + b) = 0 ∨ un_ (s (12 + b)) = s (12 + b) - 1 ∧ s (12 + b) ≠ 0 := by unfold un_; split <;> omega
        refine f_getA 2 fk_X1_187 rfl hX.K.sh (fun _ _ => rfl) hX.K.f2 dX1_led_29 ?_
        refine g_il3 dX1_led_32 ?_
        refine g_ialv hX.K.a2 (by omega) hkb.1 dX1_led_33 ?_
        refine g_bipush dX1_led_34 (by decide) (by decide) ?_
        refine g_icmp_eq (tgt := 42) dX1_led_36 (by decide) (by omega) (fun h36 => ?_) (fun h36 => ?_)
        · refine g_il2 dX1_led_42 ?_
          refine g_il1 dX1_led_43 ?_
          refine g_icmp_ne (tgt := 49) dX1_led_44 (by decide) (by omega) (fun h44 => ?_) (fun h44 => ?_)
          · refine g_inc2 dX1_led_49 (by decide) rfl ?_
            refine g_inc3 dX1_led_52 (by decide) rfl ?_
            refine g_goto (tgt := 4) dX1_led_55 (by decide) ?_
            refine ih _ _ (by omega) (by omega) (by omega) (by omega) ?_ (fun j j0 j1 => ?_)
            · rw [sI_s _ h0, ← hnv]; (try dsimp only); rw [if_pos (by omega)]
            · by_cases hj : j = b
              · subst hj; exact decide_eq_false (fun q => by omega)
              · exact hf j j0 (by omega)
          have e : qLed_ p r s i = b := by unfold qLed_; rw [if_pos (by omega)]; exact fI_hit h0 (by omega) (decide_eq_true ⟨by omega, by omega⟩) hf
          refine g_il3 dX1_led_47 ?_
          exact g_retX <| g_iret rfl dX1_led_48 ⟨_, rfl, by rw [← e]; exact hQ (by omega)⟩
        refine g_goto (tgt := 52) dX1_led_39 (by decide) ?_
        refine g_inc3 dX1_led_52 (by decide) rfl ?_
        refine g_goto (tgt := 4) dX1_led_55 (by decide) ?_
        refine ih _ _ (by omega) (by omega) (by omega) (by omega) ?_ (fun j j0 j1 => ?_)
        · rw [sI_s _ h0, ← hnv]; (try dsimp only); rw [if_neg (by omega)]; omega
        · by_cases hj : j = b
          · subst hj; exact decide_eq_false (fun q => by omega)
          · exact hf j j0 (by omega)
    refine g_iconst dX1_led_0 ?_
    refine g_is2 dX1_led_1 (by decide) rfl ?_
    refine g_iconst dX1_led_2 ?_
    refine g_is3 dX1_led_3 (by decide) rfl ?_
    exact L4 9 _ _ (by omega) (by omega) (by omega) (by omega) rfl (fun j j0 j1 => by omega)
end
section
variable {G : JG} {R : Room} {cc : ByteArray} {nL : Nat} {ret : Option FieldType} {σ0 σ : JH} {Z : List Frame → Array Value → State → State → Prop} {pc d : Nat} {ev : List (Option AV)} {st rest : List AV} {Q : Option AV → JH → Prop}
/-- the call of led, caught at 12 -/
theorem g_callLed {X : Nat} {i : Int} {P : Prop} {rest : List AV} (hs : sh_ σ X = some (.inl 0)) (hR : 7 ≤ R.frames ∧ 23 + 64 * 6 ≤ R.locals) (hst : (rest.map cw_).sum ≤ 8)
    (hc : CallX_ G 6 yX1_led cX1_led 4 (some .int) [A_ (some X), I_ i] σ (fun v σ' => ∃ x : Int, v = some (I_ x) ∧ Go_ G R yX0_led cX0_led nL ret σ0 Z 7 ev (I_ x :: rest) σ') (XL_ G σ P))
    (hk : ∀ (q n u : Nat), P → sz_ σ ≤ n ∧ n ≤ sz_ σ + 1 → us_ σ ≤ u ∧ u ≤ us_ σ + 6 → Go_ G R yX0_led cX0_led nL ret σ0 Z 12 ev [A_ (some q)] (gr_ σ n u)) : Go_ G R yX0_led cX0_led nL ret σ0 Z 4 ev (I_ i :: A_ (some X) :: rest) σ := by
  intro p e s m args below meth c H locs cells slots ls C hr hl hv
  obtain ⟨q1, q2, q3, q4, q5, hz⟩ := lk_X0_7
  obtain ⟨hx, hb, hml, -, hown, hts, -, -, hKn, hRh, hRc, hRs, htb⟩ := id C
  have hR0 := hRh.1
  have hr1 := hr.1
  refine w_mono fun m1 m2 => ?_
  rw [hr1.1, hR0.1] at m1
  rw [hr1.2.1, hR0.2.1] at m2
  refine w_tight (k' := sz_ σ - sz_ σ0) (n' := us_ σ - us_ σ0) (by rw [hr1.1, hR0.1]; omega) (by rw [hr1.2.1, hR0.2.1]; omega) ?_
  have hrun := vx_runV (p := p) (e := e) (below := below) (meth := meth) (H := H) (locs := locs) (cells := sz_ σ - sz_ σ0) (slots := us_ σ - us_ σ0) (g := F0 m 4 ls (([A_ (some X), I_ i].reverse ++ rest).map av_)) (rest := rest.map av_) (C := yX1_led.cls) (As := [I_ i].map av_) (n := 1) ⟨hx, hb, hml, hown, hts⟩ hc (cwV 1 hts (lw_V q1 q2 q3 q4 q5) rfl rfl rfl ⟨rfl, hz⟩ ⟨hR.1, by show 8 + (4 + 11) + 64 * 6 ≤ R.locals; omega⟩) ⟨wd_blind _, rc_of hr hKn hs (fun r h => by cases h; rfl), fun U hU hW => ⟨rfl, Kn_.moved hW hKn, by rw [hU]; exact hr⟩⟩ rfl rfl hv.1 (st_split [I_ i] rest X) (lv_room (by rw [cw_sum]; exact hst)) dX0_led_4 ⟨by omega, by omega⟩
  intro T hT X9
  rcases hrun T hT X9 with ⟨v, st₀, t, T', L, h0, X', hL, e1, e2, ⟨v', σ', hv', ⟨hKn', hRp'⟩, hQ⟩, st9⟩ | ⟨q, st₀, t, T', L, E, ce, h0, X', hL, e1, e2, ⟨hP, rfl, hRp', b1, b2, b3, b4⟩, hce, hcv, hcl, st9⟩
  · have ev' : v = v'.map av_ := Outcome.returned.inj hv'
    subst ev'
    obtain ⟨x, rfl, hQ⟩ := hQ
    obtain ⟨t2, a1, b1⟩ := hQ p e s m args below meth c T'.heap (locs ++ L) _ _ ls C (by rw [e1]; exact hRp') (fun q hq => by
      rcases List.mem_append.mp hq with h | h
      · exact hl q h
      · exact hL q h) hv T' rfl X'
    exact ⟨t2, st9 t2 a1, b1⟩
  · have hh := hk q t.heap.size (su_ t.heap) hP ⟨b1, b2⟩ ⟨b3, b4⟩
    have hw := hh p e s m args below meth c T'.heap (locs ++ L) (sz_ σ - sz_ σ0 + (lc_ G - sz_ σ)) (us_ σ - us_ σ0 + (ls_ G - us_ σ)) ls C (by rw [e1]; exact hRp') (fun q hq => by
      rcases List.mem_append.mp hq with h | h
      · exact hl q h
      · exact hL q h) hv
    have hcat := vx_catch (pc := 4) (rest := rest.map av_) (own := RX0) (name := nse_) (E := nse_) (ce := ce) (q := q) hown [] ⟨0, 9, 12, 13⟩ [] (by rw [htb]; unfold tb_; rw [if_pos (by decide)]; rfl) (fun z hz => nomatch hz) (by decide) (by decide) (hts _ q1601) ((hKn.2.1 _ nse_cast).use rfl) (by rw [e1]; exact hce) hcv hcl hw
    obtain ⟨t2, a1, b9⟩ := hcat T' rfl X'
    exact ⟨t2, st9.trans a1, b9⟩
/-- a static method with handlers, from outside -/
def CallW_ (G : JG) (d : Nat) (y : MethodName) (cc : ByteArray) (nL : Nat) (ret : Option FieldType) (hh : List (Nat × Nat × Nat × Nat)) (as : List AV) (σ : JH) (Q : Option AV → JH → Prop) : Prop :=
  Met (gl_ G) y (wsW_ y cc nL ret hh) (rm_ G d σ) (va_Pc (as.map av_) (Wd_ G σ)) (Qc_ G Q) (lc_ G - sz_ σ) (ls_ G - us_ σ) (fun q => (gH_ G).size ≤ q)
theorem callw_go {y : MethodName} {hh : List (Nat × Nat × Nat × Nat)} {as : List AV} (ev : List (Option AV)) (hy : plainName y.cls = true) (hlen : (lg_sl (as.map av_)).length ≤ nL) (hev : en_ 0 ev = lv_args 0 (as.map av_)) (k : GoM_ G d y cc nL ret σ Q 0 ev [] σ) (htb : tableOf hh = tb_ y) : CallW_ G d y cc nL ret hh as σ Q := by
  have hX : vx_Met (gl_ G) y (wsW_ y cc nL ret hh) (rm_ G d σ) (va_Pc (as.map av_) (Wd_ G σ)) (Qc_ G Q) (fun _ _ _ => False) (lc_ G - sz_ σ) (ls_ G - us_ σ) (fun q => (gH_ G).size ≤ q) := by
    refine vx_ofWH (cc := cc) (maxL := nL) (ret := ret) (hh := hh) hy rfl ?_
    intro p e s m args below meth c s₁ B hml hv
    obtain ⟨rfl, hKn, hRp⟩ := hv
    have hts0 := atoms_spec (ws := wsW_ y cc nL ret hh) B.pre
    have hts : ∀ w ∈ lw_all, w.before _ s = true := fun w h => hts0 w (List.mem_cons_of_mem _ h)
    have htab : c.exceptionTable.toList = tb_ y := (vx_table (x := y) B (hts0 _ List.mem_cons_self)).trans htb
    have hl := lv_entry (as.map av_) (n := nL) hlen
    rw [lg_entry_eq]
    generalize (lg_sl (as.map av_) ++ List.replicate (nL - (lg_sl (as.map av_)).length) Slot.unset).toArray = ls at hl ⊢
    rw [← hev] at hl
    have hb := hRp.1
    exact vx_ret (k p e s m _ below meth c s.heap [] 0 0 ls ⟨B.exec, B.bytes, hml, B.returns, findClass_of_methodNamed B.named, hts, B.notSynchronized, (name_of_methodNamed B.named B.method).1, hKn, hRp, (by show lc_ G - sz_ σ + sz_ σ = lc_ G; omega), (by show ls_ G - us_ σ + us_ σ = ls_ G; omega), htab⟩ hRp (fun q h => by cases h) hl)
  exact MetFree.mono hX (fun _ _ h => h) (fun _ _ _ _ _ h => h) (fun a s o t _ h => by
    rcases h with h | ⟨q, -, E, ce, L, h, -⟩
    · exact h
    · exact h.elim)
theorem g_callSW (As : List AV) {Qa : Option AV → JH → Prop} {y z : MethodName} {zc : ByteArray} {zL n i d' : Nat} {zr : Option FieldType} {hh : List (Nat × Nat × Nat × Nat)} (q1 : Cond.methodLink y.cls i z ∈ lw_all) (q2 : Cond.static z ∈ lw_all) (q3 : Cond.initialized z.cls ∈ lw_all) (q4 : Cond.codeWith z zc zL zr hh ∈ lw_all) (hz : z.cls ≠ "java/lang/invoke/MethodHandle" ∧ z.cls ≠ "java/lang/invoke/VarHandle" ∧ (parseMethodDescriptor z.desc).map (fun d => d.parameters.length) = some n) (hn : As.length = n) (hR : d' + 1 ≤ R.frames ∧ zL + 19 + 64 * d' ≤ R.locals) (hst : (rest.map cw_).sum ≤ 8) (hd : decode cc pc = .ok (.invokestatic i, 3))
    (hc : CallW_ G d' z zc zL zr hh As σ Qa) (k : ∀ (v : Option AV) (σ' : JH), Qa v σ' → Go_ G R y cc nL ret σ0 Z (pc + 3) ev (v.toList ++ rest) σ') : Go_ G R y cc nL ret σ0 Z pc ev (As.reverse ++ rest) σ := by
  refine go_run (Qa := Qa) (a := (As.map av_).toArray) ?_ k
  intro p e s m args below meth c H locs ls C hr hls hroom
  obtain ⟨hx, hb, hml, -, hown, hts, -, -, hKn, -⟩ := C
  refine vx_runSW (As := As.map av_) (n := n) ⟨hx, hb, hml, hown, hts⟩ hc (vx_cwSW n hts (lw_SW q1 q2 q3 q4) rfl rfl rfl hz ⟨hR.1, by show 8 + (zL + 11) + 64 * d' ≤ R.locals; omega⟩) ⟨wd_blind _, fun U hU hW => ⟨rfl, Kn_.moved hW hKn, by rw [hU]; exact hr⟩⟩ rfl (by rw [List.length_map]; exact hn) hls (by show (As.reverse ++ rest).map av_ = _; rw [List.map_append, List.map_reverse]) (lv_room (by rw [cw_sum]; exact hst)) hd hroom
theorem g_callSW3I {y z : MethodName} {zc : ByteArray} {zL i d' : Nat} {zr : Option FieldType} {hh : List (Nat × Nat × Nat × Nat)} {a1 a2 a3 : AV} (q1 : Cond.methodLink y.cls i z ∈ lw_all) (q2 : Cond.static z ∈ lw_all) (q3 : Cond.initialized z.cls ∈ lw_all) (q4 : Cond.codeWith z zc zL zr hh ∈ lw_all) (hz : z.cls ≠ "java/lang/invoke/MethodHandle" ∧ z.cls ≠ "java/lang/invoke/VarHandle" ∧ (parseMethodDescriptor z.desc).map (fun d => d.parameters.length) = some 3) (hR : d' + 1 ≤ R.frames ∧ zL + 19 + 64 * d' ≤ R.locals) (hst : (rest.map cw_).sum ≤ 8) (hd : decode cc pc = .ok (.invokestatic i, 3))
    (hc : CallW_ G d' z zc zL zr hh [a1, a2, a3] σ (fun v σ' => ∃ x : Int, v = some (I_ x) ∧ Go_ G R y cc nL ret σ0 Z (pc + 3) ev (I_ x :: rest) σ')) : Go_ G R y cc nL ret σ0 Z pc ev (a3 :: a2 :: a1 :: rest) σ := g_callSW [a1, a2, a3] q1 q2 q3 q4 hz rfl hR hst hd hc (fun v σ' h => by obtain ⟨x, rfl, h⟩ := h; exact h)
end
section
variable {G : JG} {X lo O : Nat} {σ : JH} {tp fa pl tr p un im : Int} {B r s : Int → Int} {U I : Int → Int → Int} {T : XT} {L : XL}
/-- the law's led: it stores the answer, or answers 1 where it was thrown -/
theorem xl_led {i : Int} {Q : Int → JH → Prop} (hst : (gl_ G).stackTraces = false) (hS : XS_ G X lo σ tp fa pl tr p un im B r s U I T L) (hP : MP_ p r s) (hi : -2147483648 ≤ i ∧ i < 2147483648) (ho : sh_ σ O = some (.inr (2, 1))) (hge : (gH_ G).size ≤ O) (hrm : sz_ σ + 1 ≤ lc_ G ∧ us_ σ + 6 ≤ ls_ G)
    (hQ0 : 0 ≤ qLed_ p r s i → Q 0 (pi_ σ O 0 (qLed_ p r s i))) (hQ1 : qLed_ p r s i = -1 → ∀ n u : Nat, sz_ σ ≤ n ∧ n ≤ sz_ σ + 1 → us_ σ ≤ u ∧ u ≤ us_ σ + 6 → Q 1 (gr_ σ n u)) : CallW_ G 8 yX0_led cX0_led 4 (some .int) [(0, 9, 12, 13)] [A_ (some X), I_ i, A_ (some O)] σ (fun v σ' => ∃ x : Int, v = some (I_ x) ∧ Q x σ') := by
  refine callw_go [some (A_ (some X)), some (I_ i), some (A_ (some O)), none] (by decide) (Nat.le_of_ble_eq_true rfl) rfl ?_ (by unfold tb_; rw [if_pos (by decide)])
  refine g_al2 dX0_led_0 ?_
  refine g_iconst dX0_led_1 ?_
  refine g_al0 dX0_led_2 ?_
  refine g_il1 dX0_led_3 ?_
  refine g_callLed (rest := [I_ 0, A_ (some O)]) hS.1.1.sh ⟨by show 7 ≤ 8; omega, by show 23 + 64 * 6 ≤ 64 * 8; omega⟩ (Nat.le_of_ble_eq_true rfl) (xo_led (Q := fun x σ' => GoM_ G 8 yX0_led cX0_led 4 (some .int) σ (fun v σ' => ∃ x : Int, v = some (I_ x) ∧ Q x σ') 7 [some (A_ (some X)), some (I_ i), some (A_ (some O)), none] [I_ x, I_ 0, A_ (some O)] σ') hst hS hP hi hrm (fun hq => ?_)) (fun q n u hP9 hn hu => ?_)
  · refine g_i2l dX0_led_7 (by omega) ?_
    refine g_last ho hge (by omega) dX0_led_8 ?_
    refine g_goto (tgt := 15) dX0_led_9 (by decide) ?_
    refine g_iconst dX0_led_15 ?_
    exact g_iret rfl dX0_led_16 ⟨_, rfl, hQ0 hq.1⟩
  · refine g_as3 dX0_led_12 (by decide) rfl ?_
    refine g_iconst dX0_led_13 ?_
    exact g_iret rfl dX0_led_14 ⟨_, rfl, hQ1 hP9 n u hn hu⟩
end
