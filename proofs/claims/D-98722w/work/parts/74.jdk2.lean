/-! THE JDK: numbers, lists. Written by mod/m74.py -/
set_option maxRecDepth 100000
section
variable {G : JG} {R : Room} {y : MethodName} {cc : ByteArray} {nL : Nat} {ret : Option FieldType} {σ0 σ : JH} {Z : List Frame → Array Value → State → State → Prop} {pc : Nat} {ev : List (Option AV)} {st : List AV}
/-- what lies in a heap lies below its end; the room -/
theorem g_lt (k : (∀ a s, sh_ σ a = some s → a < sz_ σ) → (gH_ G).size ≤ sz_ σ → Go_ G R y cc nL ret σ0 Z pc ev st σ) : Go_ G R y cc nL ret σ0 Z pc ev st σ :=
  fun p e s m args below meth c H locs cells slots ls C hr hl hv => k (fun a s h => by
    obtain ⟨cell, h1, -⟩ := hr.2.2 a s h
    have := (Array.getElem?_eq_some_iff.mp h1).1
    rw [hr.1.1] at this
    exact this) hr.1.2.2.1 p e s m args below meth c H locs cells slots ls C hr hl hv
end
/-- σ' goes on from σ: of what was there only S may have changed; dc cells of du slots at most are new -/
def Gw_ (S : Nat → Int → Prop) (dc du : Nat) (σ σ' : JH) : Prop := (∀ b, b < sz_ σ → sh_ σ' b = sh_ σ b) ∧ (∀ b k, b < sz_ σ → ¬ S b k → rv_ σ' b k = rv_ σ b k ∧ iv_ σ' b k = iv_ σ b k) ∧ (sz_ σ ≤ sz_ σ' ∧ sz_ σ' ≤ sz_ σ + dc) ∧ (us_ σ ≤ us_ σ' ∧ us_ σ' ≤ us_ σ + du)
section
variable {S S' : Nat → Int → Prop} {dc du dc' du' : Nat} {σ σ' σ'' : JH}
theorem Gw_.rf : Gw_ S 0 0 σ σ := ⟨fun _ _ => rfl, fun _ _ _ _ => ⟨rfl, rfl⟩, ⟨Nat.le_refl _, Nat.le_refl _⟩, ⟨Nat.le_refl _, Nat.le_refl _⟩⟩
theorem Gw_.tr (h : Gw_ S dc du σ σ') (g : Gw_ S dc' du' σ' σ'') : Gw_ S (dc + dc') (du + du') σ σ'' :=
  ⟨fun b hb => (g.1 b (Nat.lt_of_lt_of_le hb h.2.2.1.1)).trans (h.1 b hb), fun b k hb hs => ⟨(g.2.1 b k (Nat.lt_of_lt_of_le hb h.2.2.1.1) hs).1.trans (h.2.1 b k hb hs).1, (g.2.1 b k (Nat.lt_of_lt_of_le hb h.2.2.1.1) hs).2.trans (h.2.1 b k hb hs).2⟩, by have := h.2.2.1; have := g.2.2.1; omega, by have := h.2.2.2; have := g.2.2.2; omega⟩
theorem Gw_.mono (h : Gw_ S dc du σ σ') (hs : ∀ b k, b < sz_ σ → S b k → S' b k) (h1 : dc ≤ dc') (h2 : du ≤ du') : Gw_ S' dc' du' σ σ' :=
  ⟨h.1, fun b k hb hn => h.2.1 b k hb (fun q => hn (hs b k hb q)), by have := h.2.2.1; omega, by have := h.2.2.2; omega⟩
theorem Gw_.pi {a : Nat} {k x : Int} (h : Gw_ S dc du σ σ') (hs : a < sz_ σ → S a k) : Gw_ S dc du σ (pi_ σ' a k x) :=
  ⟨h.1, fun b j hb hn => ⟨(h.2.1 b j hb hn).1, by rw [iv_pi, if_neg (fun q => hn (by rw [q.1, q.2]; exact hs (by rw [← q.1]; exact hb)))]; exact (h.2.1 b j hb hn).2⟩, h.2.2.1, h.2.2.2⟩
theorem Gw_.pr {a : Nat} {k : Int} {r : Option Nat} (h : Gw_ S dc du σ σ') (hs : a < sz_ σ → S a k) : Gw_ S dc du σ (pr_ σ' a k r) :=
  ⟨h.1, fun b j hb hn => ⟨by rw [rv_pr, if_neg (fun q => hn (by rw [q.1, q.2]; exact hs (by rw [← q.1]; exact hb)))]; exact (h.2.1 b j hb hn).1, (h.2.1 b j hb hn).2⟩, h.2.2.1, h.2.2.2⟩
theorem Gw_.pb {a : Nat} {lo n : Int} {f : Int → Int} (h : Gw_ S dc du σ σ') (hs : a < sz_ σ → ∀ k, lo ≤ k → k < lo + n → S a k) : Gw_ S dc du σ (pb_ σ' a lo n f) :=
  ⟨h.1, fun b j hb hn => ⟨(h.2.1 b j hb hn).1, by rw [iv_pb, if_neg (fun q => hn (by rw [q.1]; exact hs (by rw [← q.1]; exact hb) j q.2.1 q.2.2))]; exact (h.2.1 b j hb hn).2⟩, h.2.2.1, h.2.2.2⟩
theorem Gw_.pbr {a : Nat} {lo n : Int} {f : Int → Option Nat} (h : Gw_ S dc du σ σ') (hs : a < sz_ σ → ∀ k, lo ≤ k → k < lo + n → S a k) : Gw_ S dc du σ (pbr_ σ' a lo n f) :=
  ⟨h.1, fun b j hb hn => ⟨by rw [rv_pbr, if_neg (fun q => hn (by rw [q.1]; exact hs (by rw [← q.1]; exact hb) j q.2.1 q.2.2))]; exact (h.2.1 b j hb hn).1, (h.2.1 b j hb hn).2⟩, h.2.2.1, h.2.2.2⟩
theorem Gw_.nw {s : JS} {n : Nat} (h : Gw_ S dc du σ σ') : Gw_ S (dc + 1) (du + n) σ (nw_ σ' s n) :=
  ⟨fun b hb => by rw [sh_nw, if_neg (by have := h.2.2.1; omega)]; exact h.1 b hb, fun b k hb hn => by rw [rv_nw, iv_nw, if_neg (by have := h.2.2.1; omega), if_neg (by have := h.2.2.1; omega)]; exact h.2.1 b k hb hn, by rw [sz_nw]; have := h.2.2.1; omega, by rw [us_nw]; have := h.2.2.2; omega⟩
theorem Fr_.gw (h : Fr_ S σ σ') : Gw_ S 0 0 σ σ' := ⟨fun b _ => h.1 b, fun b k _ hn => ⟨h.2.1 b k, h.2.2.2.2 b k hn⟩, by rw [h.2.2.1]; omega, by rw [h.2.2.2.1]; omega⟩
end
section
variable {G : JG} {σ : JH}
theorem js_oci {i n : Int} {Q : Int → JH → Prop} (hn : 0 ≤ n ∧ n < 2147483648) (h : 0 ≤ i ∧ i < n)
    (hQ : Q i σ) : CallI_ G 3 yJ12_checkIndex cJ12_checkIndex 2 (some .int) [I_ i, I_ n] σ Q := by
  refine call_go [some (I_ i), some (I_ n)] (by decide) (Nat.le_of_ble_eq_true rfl) rfl ?_
  refine g_il0 dJ12_checkIndex_0 ?_
  refine g_il1 dJ12_checkIndex_1 ?_
  refine g_null dJ12_checkIndex_2 ?_
  refine g_callS3I (d' := 2) lk_J12_105 (rm_lt (by decide) (by decide)) (Nat.le_of_ble_eq_true rfl) dJ12_checkIndex_3 ?_
  refine js_pci hn h ?_
  exact g_iret rfl dJ12_checkIndex_6 ⟨_, rfl, hQ⟩
theorem js_newLength {x z w : Int} {Q : Int → JH → Prop} (hx : 0 ≤ x ∧ x ≤ 1000) (hz : 0 < z ∧ z ≤ 1000) (hw : 0 ≤ w ∧ w ≤ 1000)
    (hQ : Q (x + if z < w then w else z) σ) : CallI_ G 3 yJ7_newLength cJ7_newLength 4 (some .int) [I_ x, I_ z, I_ w] σ Q := by
  refine call_go [some (I_ x), some (I_ z), some (I_ w), none] (by decide) (Nat.le_of_ble_eq_true rfl) rfl ?_
  refine g_il0 dJ7_newLength_0 ?_
  refine g_il1 dJ7_newLength_1 ?_
  refine g_il2 dJ7_newLength_2 ?_
  refine g_mmax q437 (by omega) (rm_64 (by decide)) (Nat.le_of_ble_eq_true rfl) dJ7_newLength_3 ?_
  have hm : 0 < (if z < w then w else z) ∧ (if z < w then w else z) ≤ 1000 := by split <;> omega
  refine g_iadd dJ7_newLength_6 ?_
  refine g_is3 dJ7_newLength_7 (by decide) rfl ?_
  refine g_iconst dJ7_newLength_8 ?_
  refine g_il3 dJ7_newLength_9 ?_
  refine g_icmp_ge (tgt := 21) dJ7_newLength_10 (by decide) (by omega) (fun h10 => ?_) (fun h10 => ?_)
  · exact absurd h10 (by omega)
  refine g_il3 dJ7_newLength_13 ?_
  refine g_ldc (x := 2147483639) q440 dJ7_newLength_14 (by decide) ?_
  refine g_icmp_gt (tgt := 21) dJ7_newLength_16 (by decide) (by omega) (fun h16 => ?_) (fun h16 => ?_)
  · exact absurd h16 (by omega)
  refine g_il3 dJ7_newLength_19 ?_
  exact g_iret rfl dJ7_newLength_20 ⟨_, rfl, hQ⟩
/-- may stand in an array of objects -/
abbrev CA_ (ci : Nat) : Prop := ∀ r : vw_C, cls_[ci]? = some r → (r.1, "java/lang/Object") ∈ nwC_
/-- a list: at a, its array at e of cap places; n things g -/
def Ls_ (G : JG) (σ : JH) (a e cap : Nat) (n : Int) (g : Int → Nat) : Prop :=
  sh_ σ a = some (.inl 2) ∧ (gH_ G).size ≤ a ∧ rv_ σ a 1 = some e ∧ sh_ σ e = some (.inr (3, cap)) ∧ iv_ σ a 2 = n ∧ (0 ≤ n ∧ n ≤ cap) ∧ ((e = gK_ G 100 ∧ cap = 0) ∨ ((gH_ G).size ≤ e ∧ (cap = 10 ∨ cap = 15))) ∧ ∀ i, 0 ≤ i → i < n → rv_ σ e i = some (g i)
theorem Ls_.gw {S : Nat → Int → Prop} {dc du : Nat} {σ' : JH} {a e cap : Nat} {n : Int} {g : Int → Nat} (h : Ls_ G σ a e cap n g) (f : Gw_ S dc du σ σ') (hlt : ∀ a s, sh_ σ a = some s → a < sz_ σ) (ha : ∀ k, ¬ S a k) (he : ∀ k, ¬ S e k) : Ls_ G σ' a e cap n g := by
  obtain ⟨h1, h2, h3, h4, h5, h6, h7, h8⟩ := h
  have la := hlt _ _ h1
  have le := hlt _ _ h4
  exact ⟨(f.1 a la).trans h1, h2, (f.2.1 a 1 la (ha 1)).1.trans h3, (f.1 e le).trans h4, (f.2.1 a 2 la (ha 2)).2.trans h5, h6, h7, fun i i0 i1 => (f.2.1 e i le (he i)).1.trans (h8 i i0 i1)⟩
theorem js_size {a e cap : Nat} {n : Int} {g : Int → Nat} {Q : Int → JH → Prop} (hL : Ls_ G σ a e cap n g)
    (hQ : Q n σ) : CallI_ G 2 yJ2_size cJ2_size 1 (some .int) [A_ (some a)] σ Q := by
  refine call_go [some (A_ (some a))] (by decide) (Nat.le_of_ble_eq_true rfl) rfl ?_
  refine g_al0 dJ2_size_0 ?_
  refine f_getv 2 fk_J2_48 rfl hL.1 (fun _ _ => rfl) hL.2.2.2.2.1 dJ2_size_1 ?_
  exact g_iret rfl dJ2_size_4 ⟨_, rfl, hQ⟩
theorem js_isEmpty {a e cap : Nat} {n : Int} {g : Int → Nat} {Q : Int → JH → Prop} (hL : Ls_ G σ a e cap n g)
    (hQ : Q (if n = 0 then 1 else 0) σ) : CallI_ G 2 yJ2_isEmpty cJ2_isEmpty 1 (some .boolean) [A_ (some a)] σ Q := by
  refine call_go [some (A_ (some a))] (by decide) (Nat.le_of_ble_eq_true rfl) rfl ?_
  refine g_al0 dJ2_isEmpty_0 ?_
  refine f_getv 2 fk_J2_48 rfl hL.1 (fun _ _ => rfl) hL.2.2.2.2.1 dJ2_isEmpty_1 ?_
  have hn := hL.2.2.2.2.2.1
  have hc : cap ≤ 15 := by have := hL.2.2.2.2.2.2.1; omega
  refine g_if_ne (tgt := 11) dJ2_isEmpty_4 (by decide) (by omega) (fun h4 => ?_) (fun h4 => ?_)
  · refine g_iconst dJ2_isEmpty_11 ?_
    exact g_zret rfl (by omega) dJ2_isEmpty_12 ⟨_, rfl, by rw [if_neg (by omega)] at hQ; exact hQ⟩
  refine g_iconst dJ2_isEmpty_7 ?_
  refine g_goto (tgt := 12) dJ2_isEmpty_8 (by decide) ?_
  exact g_zret rfl (by omega) dJ2_isEmpty_12 ⟨_, rfl, by rw [if_pos (by omega)] at hQ; exact hQ⟩
theorem js_elementData {a e cap : Nat} {n : Int} {g : Int → Nat} {i : Int} {Q : Option Nat → JH → Prop} (hL : Ls_ G σ a e cap n g) (hi : 0 ≤ i ∧ i < n)
    (hQ : Q (some (g i)) σ) : CallA_ G 2 yJ2_elementData cJ2_elementData 2 (some (.object "java/lang/Object")) [A_ (some a), I_ i] σ Q := by
  refine call_go [some (A_ (some a)), some (I_ i)] (by decide) (Nat.le_of_ble_eq_true rfl) rfl ?_
  refine g_al0 dJ2_elementData_0 ?_
  refine f_getA 1 fk_J2_9 rfl hL.1 (fun _ _ => rfl) hL.2.2.1 dJ2_elementData_1 ?_
  refine g_il1 dJ2_elementData_4 ?_
  have hn := hL.2.2.2.2.2.1
  refine g_aald hL.2.2.2.1 (by omega) (hL.2.2.2.2.2.2.2 i hi.1 hi.2) dJ2_elementData_5 ?_
  exact g_aret rfl (Or.inl ⟨_, rfl⟩) dJ2_elementData_6 ⟨_, rfl, hQ⟩
theorem js_get {a e cap : Nat} {n : Int} {g : Int → Nat} {i : Int} {Q : Option Nat → JH → Prop} (hL : Ls_ G σ a e cap n g) (hi : 0 ≤ i ∧ i < n)
    (hQ : Q (some (g i)) σ) : CallA_ G 4 yJ2_get cJ2_get 2 (some (.object "java/lang/Object")) [A_ (some a), I_ i] σ Q := by
  refine call_go [some (A_ (some a)), some (I_ i)] (by decide) (Nat.le_of_ble_eq_true rfl) rfl ?_
  refine g_il1 dJ2_get_0 ?_
  refine g_al0 dJ2_get_1 ?_
  refine f_getv 2 fk_J2_48 rfl hL.1 (fun _ _ => rfl) hL.2.2.2.2.1 dJ2_get_2 ?_
  refine g_callS2I (d' := 3) lk_J2_118 (rm_lt (by decide) (by decide)) (Nat.le_of_ble_eq_true rfl) dJ2_get_5 ?_
  refine js_oci (by have := hL.2.2.2.2.2.1; have := hL.2.2.2.2.2.2.1; omega) hi ?_
  refine g_pop dJ2_get_8 rfl ?_
  refine g_al0 dJ2_get_9 ?_
  refine g_il1 dJ2_get_10 ?_
  refine g_callV1A (d' := 2) lk_J2_123 hL.1 rfl (rm_lt (by decide) (by decide)) (Nat.le_of_ble_eq_true rfl) dJ2_get_11 ?_
  refine js_elementData hL hi ?_
  exact g_aret rfl (Or.inl ⟨_, rfl⟩) dJ2_get_14 ⟨_, rfl, hQ⟩
theorem js_cinit {a : Nat} {Q : JH → Prop} 
    (hQ : Q σ) : CallV_ G 2 yJ0_init cJ0_init 1 none [A_ (some a)] σ Q := by
  refine call_go [some (A_ (some a))] (by decide) (Nat.le_of_ble_eq_true rfl) rfl ?_
  refine g_al0 dJ0_init_0 ?_
  refine g_objInit q183 q_oi1 q_oi2 (rm_1 (by decide)) (Nat.le_of_ble_eq_true rfl) dJ0_init_1 ?_
  exact g_vret rfl dJ0_init_4 ⟨rfl, hQ⟩
theorem js_ainit {a : Nat} {Q : JH → Prop} (hs : sh_ σ a = some (.inl 2)) (ha : (gH_ G).size ≤ a)
    (hQ : Q (pi_ σ a 0 0)) : CallV_ G 3 yJ1_init cJ1_init 1 none [A_ (some a)] σ Q := by
  refine call_go [some (A_ (some a))] (by decide) (Nat.le_of_ble_eq_true rfl) rfl ?_
  refine g_al0 dJ1_init_0 ?_
  refine g_callI0 (d' := 2) lk_J1_1 (rm_lt (by decide) (by decide)) (Nat.le_of_ble_eq_true rfl) dJ1_init_1 ?_
  refine js_cinit ?_
  refine g_al0 dJ1_init_4 ?_
  refine g_iconst dJ1_init_5 ?_
  refine f_putI 0 fk_J1_7 rfl (nf_ rfl rfl) hs ha rfl dJ1_init_6 ?_
  exact g_vret rfl dJ1_init_9 ⟨rfl, hQ⟩
theorem js_linit {a : Nat} {Q : JH → Prop} (hs : sh_ σ a = some (.inl 2)) (ha : (gH_ G).size ≤ a)
    (hQ : Q (pr_ (pi_ σ a 0 0) a 1 (some (gK_ G 100)))) : CallV_ G 4 yJ2_init cJ2_init 1 none [A_ (some a)] σ Q := by
  refine call_go [some (A_ (some a))] (by decide) (Nat.le_of_ble_eq_true rfl) rfl ?_
  refine g_al0 dJ2_init_0 ?_
  refine g_callI0 (d' := 3) lk_J2_1 (rm_lt (by decide) (by decide)) (Nat.le_of_ble_eq_true rfl) dJ2_init_1 ?_
  refine js_ainit hs ha ?_
  refine g_al0 dJ2_init_4 ?_
  refine g_getsD q184 dJ2_init_5 ?_
  refine f_putA 1 fk_J2_9 rfl (nf_ rfl rfl) hs ha (Or.inr ⟨_, rfl⟩) dJ2_init_8 ?_
  exact g_vret rfl dJ2_init_11 ⟨rfl, hQ⟩
theorem js_copyOf3 {e : Nat} {Q : Option Nat → JH → Prop} (hlt : ∀ a s, sh_ σ a = some s → a < sz_ σ) (hgz : (gH_ G).size ≤ sz_ σ) (he : sh_ σ e = some (.inr (3, 10))) (hel : ∀ i : Int, 0 ≤ i → i < 10 → ∃ o ci, rv_ σ e i = some o ∧ sh_ σ o = some (.inl ci) ∧ CA_ ci) (hr : sz_ σ + 1 ≤ lc_ G ∧ us_ σ + 15 ≤ ls_ G)
    (hQ : Q (some (sz_ σ)) (pbr_ (nw_ σ (.inr (3, 15)) 15) (sz_ σ) 0 10 (fun j => rv_ (nw_ σ (.inr (3, 15)) 15) e (0 + j)))) : CallA_ G 3 yJ9_copyOf_3 cJ9_copyOf_3 4 (some (.array (.object "java/lang/Object"))) [A_ (some e), I_ 15, A_ (some (gK_ G 101))] σ Q := by
  refine call_go [some (A_ (some e)), some (I_ 15), some (A_ (some (gK_ G 101))), none] (by decide) (Nat.le_of_ble_eq_true rfl) rfl ?_
  refine g_al2 dJ9_copyOf_3_0 ?_
  refine g_ldcM q870 dJ9_copyOf_3_1 ?_
  refine g_acmp_ne (tgt := 13) dJ9_copyOf_3_3 (by decide) (fun h3 => ?_) (fun h3 => ?_)
  · exact absurd rfl h3
  refine g_il1 dJ9_copyOf_3_6 ?_
  refine g_anew (n := 15) q872 rfl (by decide) (by omega) dJ9_copyOf_3_7 ?_
  have he2 : sh_ (nw_ σ (.inr (3, 15)) 15) e = some (.inr (3, 10)) := by rw [sh_nw, if_neg (by have := hlt _ _ he; omega)]; exact he
  have hn : sh_ (nw_ σ (.inr (3, 15)) 15) (sz_ σ) = some (.inr (3, 15)) := by rw [sh_nw, if_pos rfl]
  refine g_goto (tgt := 24) dJ9_copyOf_3_10 (by decide) ?_
  refine g_as3 dJ9_copyOf_3_24 (by decide) rfl ?_
  refine g_al0 dJ9_copyOf_3_25 ?_
  refine g_iconst dJ9_copyOf_3_26 ?_
  refine g_al3 dJ9_copyOf_3_27 ?_
  refine g_iconst dJ9_copyOf_3_28 ?_
  refine g_al0 dJ9_copyOf_3_29 ?_
  refine g_alen (by decide) he2 dJ9_copyOf_3_30 ?_
  refine g_il1 dJ9_copyOf_3_31 ?_
  refine g_mmin q455 (by omega) (rm_64 (by decide)) (Nat.le_of_ble_eq_true rfl) dJ9_copyOf_3_32 ?_
  rw [if_neg (by decide)]
  refine g_acpR q458 he2 hn hgz (by omega) (by omega) (fun j j0 j1 => ?_) (rm_64 (by decide)) (Nat.le_of_ble_eq_true rfl) dJ9_copyOf_3_35 ?_
  · obtain ⟨o, ci, h1, h2, h3⟩ := hel j j0 j1
    refine Or.inr ⟨o, ci, ?_, ?_, h3⟩
    · rw [rv_nw, if_neg (by have := hlt _ _ he; omega), show (0 : Int) + j = j by omega]; exact h1
    · rw [sh_nw, if_neg (by have := hlt _ _ h2; omega)]; exact h2
  refine g_al3 dJ9_copyOf_3_38 ?_
  exact g_aret rfl (Or.inr ⟨_, rfl⟩) dJ9_copyOf_3_39 ⟨_, rfl, hQ⟩
theorem js_copyOf2 {e : Nat} {Q : Option Nat → JH → Prop} (hlt : ∀ a s, sh_ σ a = some s → a < sz_ σ) (hgz : (gH_ G).size ≤ sz_ σ) (he : sh_ σ e = some (.inr (3, 10))) (hel : ∀ i : Int, 0 ≤ i → i < 10 → ∃ o ci, rv_ σ e i = some o ∧ sh_ σ o = some (.inl ci) ∧ CA_ ci) (hr : sz_ σ + 1 ≤ lc_ G ∧ us_ σ + 15 ≤ ls_ G)
    (hQ : Q (some (sz_ σ)) (pbr_ (nw_ σ (.inr (3, 15)) 15) (sz_ σ) 0 10 (fun j => rv_ (nw_ σ (.inr (3, 15)) 15) e (0 + j)))) : CallA_ G 4 yJ9_copyOf_2 cJ9_copyOf_2 2 (some (.array (.object "java/lang/Object"))) [A_ (some e), I_ 15] σ Q := by
  refine call_go [some (A_ (some e)), some (I_ 15)] (by decide) (Nat.le_of_ble_eq_true rfl) rfl ?_
  refine g_al0 dJ9_copyOf_2_0 ?_
  refine g_il1 dJ9_copyOf_2_1 ?_
  refine g_al0 dJ9_copyOf_2_2 ?_
  refine g_getC he q843 (rm_64 (by decide)) (Nat.le_of_ble_eq_true rfl) dJ9_copyOf_2_3 ?_
  
  refine g_callS3A (d' := 3) lk_J9_300 (rm_lt (by decide) (by decide)) (Nat.le_of_ble_eq_true rfl) dJ9_copyOf_2_6 ?_
  refine js_copyOf3 hlt hgz he hel hr ?_
  exact g_aret rfl (Or.inr ⟨_, rfl⟩) dJ9_copyOf_2_9 ⟨_, rfl, hQ⟩
theorem js_grow2 {a e cap : Nat} {n : Int} {g : Int → Nat} {z : Int} {Q : Option Nat → JH → Prop} (hlt : ∀ a s, sh_ σ a = some s → a < sz_ σ) (hgz : (gH_ G).size ≤ sz_ σ) (hE : sh_ σ (gK_ G 100) = some (.inr (3, 0))) (hG : gK_ G 100 < (gH_ G).size) (hL : Ls_ G σ a e cap n g) (hel : ∀ i, 0 ≤ i → i < n → ∃ ci, sh_ σ (g i) = some (.inl ci) ∧ CA_ ci) (hfull : n = cap) (hn : n < 15) (hr : sz_ σ + 1 ≤ lc_ G ∧ us_ σ + 15 ≤ ls_ G) (hz : z = n + 1)
    (hQ : ∀ σ' cap', Ls_ G σ' a (sz_ σ) cap' n g → n < cap' → Gw_ (fun b k => b = a ∧ k = 1) 1 15 σ σ' → Q (some (sz_ σ)) σ') : CallA_ G 5 yJ2_grow_2 cJ2_grow_2 4 (some (.array (.object "java/lang/Object"))) [A_ (some a), I_ z] σ Q := by
  refine call_go [some (A_ (some a)), some (I_ z), none, none] (by decide) (Nat.le_of_ble_eq_true rfl) rfl ?_
  have hla := hlt _ _ hL.1
  have hle := hlt _ _ hL.2.2.2.1
  have hcap := hL.2.2.2.2.2.2.1
  have hn0 := hL.2.2.2.2.2.1
  refine g_al0 dJ2_grow_2_0 ?_
  refine f_getA 1 fk_J2_9 rfl hL.1 (fun _ _ => rfl) hL.2.2.1 dJ2_grow_2_1 ?_
  refine g_alen (by decide) hL.2.2.2.1 dJ2_grow_2_4 ?_
  refine g_is2 dJ2_grow_2_5 (by decide) rfl ?_
  refine g_il2 dJ2_grow_2_6 ?_
  refine g_if_gt (tgt := 20) dJ2_grow_2_7 (by decide) (by omega) (fun h7 => ?_) (fun h7 => ?_)
  · have hc10 : cap = 10 := by omega
    subst hc10
    refine g_il2 dJ2_grow_2_20 ?_
    refine g_il1 dJ2_grow_2_21 ?_
    refine g_il2 dJ2_grow_2_22 ?_
    refine g_isub dJ2_grow_2_23 ?_
    refine g_il2 dJ2_grow_2_24 ?_
    refine g_iconst dJ2_grow_2_25 ?_
    refine g_ishr dJ2_grow_2_26 ?_
    refine g_top (show ishr_ 10 1 = 5 by decide) ?_
    refine g_callS3I (d' := 3) lk_J2_73 (rm_lt (by decide) (by decide)) (Nat.le_of_ble_eq_true rfl) dJ2_grow_2_27 ?_
    refine js_newLength (by omega) (by omega) (by omega) ?_
    refine g_top (show (10 : Int) + (if z - 10 < 5 then 5 else z - 10) = 15 by rw [if_pos (by omega)]; rfl) ?_
    refine g_is3 dJ2_grow_2_30 (by decide) rfl ?_
    refine g_al0 dJ2_grow_2_31 ?_
    refine g_al0 dJ2_grow_2_32 ?_
    refine f_getA 1 fk_J2_9 rfl hL.1 (fun _ _ => rfl) hL.2.2.1 dJ2_grow_2_33 ?_
    refine g_il3 dJ2_grow_2_36 ?_
    refine g_callS2A (d' := 4) lk_J2_66 (rm_lt (by decide) (by decide)) (Nat.le_of_ble_eq_true rfl) dJ2_grow_2_37 ?_
    refine js_copyOf2 hlt hgz hL.2.2.2.1 (fun i i0 i1 => ?_) hr ?_
    · obtain ⟨ci, h1, h2⟩ := hel i i0 (by omega)
      exact ⟨g i, ci, hL.2.2.2.2.2.2.2 i i0 (by omega), h1, h2⟩
    have ha2 : sh_ (pbr_ (nw_ σ (.inr (3, 15)) 15) (sz_ σ) 0 10 (fun j => rv_ (nw_ σ (.inr (3, 15)) 15) e (0 + j))) a = some (.inl 2) := by rw [sh_pbr, sh_nw, if_neg (by omega)]; exact hL.1
    refine g_dup_x1 dJ2_grow_2_40 rfl rfl ?_
    
    refine f_putA 1 fk_J2_9 rfl (nf_ rfl rfl) ha2 hL.2.1 (Or.inr ⟨_, rfl⟩) dJ2_grow_2_41 ?_
    exact g_aret rfl (Or.inr ⟨_, rfl⟩) dJ2_grow_2_44 ⟨_, rfl, by
      refine hQ _ 15 ⟨?_, hL.2.1, ?_, ?_, ?_, by omega, Or.inr ⟨hgz, Or.inr rfl⟩, fun i i0 i1 => ?_⟩ (by omega) ?_
      · rw [sh_pr]; exact ha2
      · rw [rv_pr, if_pos ⟨rfl, rfl⟩]
      · rw [sh_pr, sh_pbr, sh_nw, if_pos rfl]
      · rw [iv_pr, iv_pbr, iv_nw, if_neg (by omega)]; exact hL.2.2.2.2.1
      · rw [rv_pr, if_neg (by omega), rv_pbr, if_pos ⟨rfl, by omega, by omega⟩, rv_nw, if_neg (by omega), show (0 : Int) + (i - 0) = i by omega]
        exact hL.2.2.2.2.2.2.2 i i0 i1
      · exact ((Gw_.rf.nw).pbr (fun q => absurd q (by omega))).pr (fun _ => ⟨rfl, rfl⟩)⟩
  refine g_al0 dJ2_grow_2_10 ?_
  refine f_getA 1 fk_J2_9 rfl hL.1 (fun _ _ => rfl) hL.2.2.1 dJ2_grow_2_11 ?_
  refine g_getsD q184 dJ2_grow_2_14 ?_
  have hc0 : cap = 0 := by omega
  have he : e = gK_ G 100 := by omega
  refine g_acmp_eq (tgt := 45) dJ2_grow_2_17 (by decide) (fun h17 => ?_) (fun h17 => ?_)
  · refine g_al0 dJ2_grow_2_45 ?_
    refine g_bipush dJ2_grow_2_46 (by decide) (by decide) ?_
    refine g_il1 dJ2_grow_2_48 ?_
    refine g_mmax q873 (by omega) (rm_64 (by decide)) (Nat.le_of_ble_eq_true rfl) dJ2_grow_2_49 ?_
    refine g_top (show (if (10 : Int) < z then z else 10) = 10 by rw [if_neg (by omega)]) ?_
    refine g_anew (n := 10) q874 rfl (by decide) (by omega) dJ2_grow_2_52 ?_
    have ha2 : sh_ (nw_ σ (.inr (3, 10)) 10) a = some (.inl 2) := by rw [sh_nw, if_neg (by omega)]; exact hL.1
    refine g_dup_x1 dJ2_grow_2_55 rfl rfl ?_
    refine f_putA 1 fk_J2_9 rfl (nf_ rfl rfl) ha2 hL.2.1 (Or.inr ⟨_, rfl⟩) dJ2_grow_2_56 ?_
    exact g_aret rfl (Or.inr ⟨_, rfl⟩) dJ2_grow_2_59 ⟨_, rfl, by
      refine hQ _ 10 ⟨?_, hL.2.1, ?_, ?_, ?_, by omega, Or.inr ⟨hgz, Or.inl rfl⟩, fun i i0 i1 => by omega⟩ (by omega) ?_
      · rw [sh_pr]; exact ha2
      · rw [rv_pr, if_pos ⟨rfl, rfl⟩]
      · rw [sh_pr, sh_nw, if_pos rfl]
      · rw [iv_pr, iv_nw, if_neg (by omega)]; exact hL.2.2.2.2.1
      · exact ((Gw_.rf.nw).pr (fun _ => ⟨rfl, rfl⟩)).mono (fun _ _ _ q => q) (by omega) (by omega)⟩
  exact absurd (by rw [he]) h17
theorem js_grow {a e cap : Nat} {n : Int} {g : Int → Nat} {Q : Option Nat → JH → Prop} (hlt : ∀ a s, sh_ σ a = some s → a < sz_ σ) (hgz : (gH_ G).size ≤ sz_ σ) (hE : sh_ σ (gK_ G 100) = some (.inr (3, 0))) (hG : gK_ G 100 < (gH_ G).size) (hL : Ls_ G σ a e cap n g) (hel : ∀ i, 0 ≤ i → i < n → ∃ ci, sh_ σ (g i) = some (.inl ci) ∧ CA_ ci) (hfull : n = cap) (hn : n < 15) (hr : sz_ σ + 1 ≤ lc_ G ∧ us_ σ + 15 ≤ ls_ G)
    (hQ : ∀ σ' cap', Ls_ G σ' a (sz_ σ) cap' n g → n < cap' → Gw_ (fun b k => b = a ∧ k = 1) 1 15 σ σ' → Q (some (sz_ σ)) σ') : CallA_ G 6 yJ2_grow cJ2_grow 1 (some (.array (.object "java/lang/Object"))) [A_ (some a)] σ Q := by
  refine call_go [some (A_ (some a))] (by decide) (Nat.le_of_ble_eq_true rfl) rfl ?_
  have hn0 := hL.2.2.2.2.2.1
  refine g_al0 dJ2_grow_0 ?_
  refine g_al0 dJ2_grow_1 ?_
  refine f_getv 2 fk_J2_48 rfl hL.1 (fun _ _ => rfl) hL.2.2.2.2.1 dJ2_grow_2 ?_
  refine g_iconst dJ2_grow_5 ?_
  refine g_iadd dJ2_grow_6 ?_
  refine g_callV1A (d' := 5) lk_J2_69 hL.1 rfl (rm_lt (by decide) (by decide)) (Nat.le_of_ble_eq_true rfl) dJ2_grow_7 ?_
  refine js_grow2 hlt hgz hE hG hL hel hfull hn hr rfl (fun σ' cap' h1 h2 h3 => ?_)
  exact g_aret rfl (Or.inr ⟨_, rfl⟩) dJ2_grow_10 ⟨_, rfl, hQ σ' cap' h1 h2 h3⟩
theorem js_add2 {a e cap o co : Nat} {n : Int} {g : Int → Nat} {Q : JH → Prop} (hlt : ∀ a s, sh_ σ a = some s → a < sz_ σ) (hgz : (gH_ G).size ≤ sz_ σ) (hE : sh_ σ (gK_ G 100) = some (.inr (3, 0))) (hG : gK_ G 100 < (gH_ G).size) (hL : Ls_ G σ a e cap n g) (hel : ∀ i, 0 ≤ i → i < n → ∃ ci, sh_ σ (g i) = some (.inl ci) ∧ CA_ ci) (hn : n < 15) (ho : sh_ σ o = some (.inl co)) (hco : CA_ co) (hr : sz_ σ + 1 ≤ lc_ G ∧ us_ σ + 15 ≤ ls_ G)
    (hQ : ∀ σ' e' cap', Ls_ G σ' a e' cap' (n + 1) (fun i => if i = n then o else g i) → (e' = e ∨ e' = sz_ σ) → Gw_ (fun b _ => b = a ∨ (b = e ∧ (gH_ G).size ≤ e)) 1 15 σ σ' → Q σ') : CallV_ G 7 yJ2_add_2 cJ2_add_2 4 none [A_ (some a), A_ (some o), A_ (some e), I_ n] σ Q := by
  refine call_go [some (A_ (some a)), some (A_ (some o)), some (A_ (some e)), some (I_ n)] (by decide) (Nat.le_of_ble_eq_true rfl) rfl ?_
  refine g_il3 dJ2_add_2_0 ?_
  refine g_al2 dJ2_add_2_1 ?_
  refine g_alen (by decide) hL.2.2.2.1 dJ2_add_2_2 ?_
  have hn0 := hL.2.2.2.2.2.1
  have hcp := hL.2.2.2.2.2.2.1
  have hae : a ≠ e := fun q => by have h1 := hL.1; rw [q, hL.2.2.2.1] at h1; cases h1
  refine g_icmp_ne (tgt := 11) dJ2_add_2_3 (by decide) (by omega) (fun h3 => ?_) (fun h3 => ?_)
  · have hge : (gH_ G).size ≤ e := by omega
    have ho2 := ho
    refine g_al2 dJ2_add_2_11 ?_
    refine g_il3 dJ2_add_2_12 ?_
    refine g_al1 dJ2_add_2_13 ?_
    refine g_aast hL.2.2.2.1 ho2 hco hge (by omega) dJ2_add_2_14 ?_
    refine g_al0 dJ2_add_2_15 ?_
    refine g_il3 dJ2_add_2_16 ?_
    refine g_iconst dJ2_add_2_17 ?_
    refine g_iadd dJ2_add_2_18 ?_
    refine f_putI 2 fk_J2_48 rfl (nf_ rfl rfl) hL.1 hL.2.1 rfl dJ2_add_2_19 ?_
    exact g_vret rfl dJ2_add_2_22 ⟨rfl, by
    refine hQ _ e cap ⟨?_, hL.2.1, ?_, ?_, ?_, by omega, hL.2.2.2.2.2.2.1, fun i i0 i1 => ?_⟩ (Or.inl rfl) ?_
    · exact hL.1
    · rw [rv_pi, rv_pr, if_neg (by omega)]; exact hL.2.2.1
    · exact hL.2.2.2.1
    · rw [iv_pi, if_pos ⟨rfl, rfl⟩]
    · rw [rv_pi, rv_pr]
      show _ = some (if i = n then o else g i)
      by_cases q : i = n
      · rw [if_pos ⟨rfl, q⟩, if_pos q]
      · rw [if_neg (fun w => q w.2), if_neg q]
        exact hL.2.2.2.2.2.2.2 i i0 (by omega)
    · exact (((Gw_.rf (S := fun b _ => b = a ∨ (b = e ∧ (gH_ G).size ≤ e)) (σ := σ)).pr (fun _ => Or.inr ⟨rfl, hge⟩)).pi (fun _ => Or.inl rfl)).mono (fun _ _ _ q => q) (by omega) (by omega)⟩
  refine g_al0 dJ2_add_2_6 ?_
  refine g_callV0A (d' := 6) lk_J2_129 hL.1 rfl (rm_lt (by decide) (by decide)) (Nat.le_of_ble_eq_true rfl) dJ2_add_2_7 ?_
  refine js_grow hlt hgz hE hG hL hel (by omega) hn hr (fun σ' cap' hL2 hc2 hw => ?_)
  have hlo := hlt _ _ ho
  have ho2 : sh_ σ' o = some (.inl co) := (hw.1 o hlo).trans ho
  have hla := hlt _ _ hL.1
  have hge := hgz
  refine g_as2 dJ2_add_2_10 (by decide) rfl ?_
  refine g_al2 dJ2_add_2_11 ?_
  refine g_il3 dJ2_add_2_12 ?_
  refine g_al1 dJ2_add_2_13 ?_
  refine g_aast hL2.2.2.2.1 ho2 hco hge (by omega) dJ2_add_2_14 ?_
  refine g_al0 dJ2_add_2_15 ?_
  refine g_il3 dJ2_add_2_16 ?_
  refine g_iconst dJ2_add_2_17 ?_
  refine g_iadd dJ2_add_2_18 ?_
  refine f_putI 2 fk_J2_48 rfl (nf_ rfl rfl) hL2.1 hL2.2.1 rfl dJ2_add_2_19 ?_
  exact g_vret rfl dJ2_add_2_22 ⟨rfl, by
  refine hQ _ (sz_ σ) cap' ⟨?_, hL.2.1, ?_, ?_, ?_, by omega, hL2.2.2.2.2.2.2.1, fun i i0 i1 => ?_⟩ (Or.inr rfl) ?_
  · exact hL2.1
  · rw [rv_pi, rv_pr, if_neg (by omega)]; exact hL2.2.2.1
  · exact hL2.2.2.2.1
  · rw [iv_pi, if_pos ⟨rfl, rfl⟩]
  · rw [rv_pi, rv_pr]
    show _ = some (if i = n then o else g i)
    by_cases q : i = n
    · rw [if_pos ⟨rfl, q⟩, if_pos q]
    · rw [if_neg (fun w => q w.2), if_neg q]
      exact hL2.2.2.2.2.2.2.2 i i0 (by omega)
  · exact (((hw.mono (fun _ _ _ q => Or.inl q.1) (Nat.le_refl _) (Nat.le_refl _)).pr (fun q => absurd q (by omega))).pi (fun _ => Or.inl rfl))⟩
theorem js_add {a e cap o co : Nat} {n : Int} {g : Int → Nat} {Q : Int → JH → Prop} (hlt : ∀ a s, sh_ σ a = some s → a < sz_ σ) (hgz : (gH_ G).size ≤ sz_ σ) (hE : sh_ σ (gK_ G 100) = some (.inr (3, 0))) (hG : gK_ G 100 < (gH_ G).size) (hL : Ls_ G σ a e cap n g) (hel : ∀ i, 0 ≤ i → i < n → ∃ ci, sh_ σ (g i) = some (.inl ci) ∧ CA_ ci) (hn : n < 15) (ho : sh_ σ o = some (.inl co)) (hco : CA_ co) (hr : sz_ σ + 1 ≤ lc_ G ∧ us_ σ + 15 ≤ ls_ G)
    (hQ : ∀ σ' e' cap', Ls_ G σ' a e' cap' (n + 1) (fun i => if i = n then o else g i) → (e' = e ∨ e' = sz_ σ) → Gw_ (fun b _ => b = a ∨ (b = e ∧ (gH_ G).size ≤ e)) 1 15 σ σ' → Q 1 σ') : CallI_ G 8 yJ2_add cJ2_add 2 (some .boolean) [A_ (some a), A_ (some o)] σ Q := by
  refine call_go [some (A_ (some a)), some (A_ (some o))] (by decide) (Nat.le_of_ble_eq_true rfl) rfl ?_
  refine g_al0 dJ2_add_0 ?_
  refine g_dup dJ2_add_1 rfl ?_
  refine f_getI 0 fk_J2_63 rfl hL.1 (fun _ _ => rfl) dJ2_add_2 ?_
  refine g_iconst dJ2_add_5 ?_
  refine g_iadd dJ2_add_6 ?_
  refine f_putI 0 fk_J2_63 rfl (nf_ rfl rfl) hL.1 hL.2.1 rfl dJ2_add_7 ?_
  refine g_al0 dJ2_add_10 ?_
  refine g_al1 dJ2_add_11 ?_
  refine g_al0 dJ2_add_12 ?_
  refine f_getA 1 fk_J2_9 rfl hL.1 (fun _ _ => rfl) hL.2.2.1 dJ2_add_13 ?_
  refine g_al0 dJ2_add_16 ?_
  refine f_getv 2 fk_J2_48 rfl hL.1 (fun _ _ => rfl) (show iv_ (pi_ σ a 0 (iv_ σ a 0 + 1)) a 2 = n by rw [iv_pi, if_neg (by omega)]; exact hL.2.2.2.2.1) dJ2_add_17 ?_
  refine g_callV3V (d' := 7) lk_J2_131 hL.1 rfl (rm_lt (by decide) (by decide)) (Nat.le_of_ble_eq_true rfl) dJ2_add_20 ?_
  refine js_add2 (σ := pi_ σ a 0 (iv_ σ a 0 + 1)) hlt hgz hE hG ⟨hL.1, hL.2.1, hL.2.2.1, hL.2.2.2.1, by rw [iv_pi, if_neg (by omega)]; exact hL.2.2.2.2.1, hL.2.2.2.2.2⟩ hel hn ho hco hr (fun σ' e' cap' h1 h2 h3 => ?_)
  refine g_iconst dJ2_add_23 ?_
  exact g_zret rfl (by omega) dJ2_add_24 ⟨_, rfl, hQ σ' e' cap' h1 h2 ((((Gw_.rf (S := fun b _ => b = a ∨ (b = e ∧ (gH_ G).size ≤ e)) (σ := σ)).pi (a := a) (k := 0) (x := iv_ σ a 0 + 1) (fun _ => Or.inl rfl)).tr h3).mono (fun _ _ _ q => q) (by omega) (by omega))⟩
/-- the first k places nulled -/
def pn_ (σ : JH) (e : Nat) (k : Int) : JH := pbr_ σ e 0 k (fun _ => none)
theorem pn_0 (σ : JH) (e : Nat) : pn_ σ e 0 = σ := by
  unfold pn_ pbr_
  refine Prod.ext rfl (Prod.ext rfl (Prod.ext (funext fun b => funext fun j => ?_) rfl))
  exact if_neg (by omega)
theorem pn_s (σ : JH) (e : Nat) {k : Int} (h : 0 ≤ k) : pr_ (pn_ σ e k) e k none = pn_ σ e (k + 1) := by
  refine Prod.ext rfl (Prod.ext rfl (Prod.ext (funext fun b => funext fun j => ?_) rfl))
  show rv_ (pr_ (pn_ σ e k) e k none) b j = rv_ (pn_ σ e (k + 1)) b j
  unfold pn_
  rw [rv_pr, rv_pbr, rv_pbr]
  by_cases hb : b = e
  · by_cases hk : j = k
    · rw [if_pos ⟨hb, hk⟩, if_pos ⟨hb, by omega, by omega⟩]
    · rw [if_neg (fun q => hk q.2)]
      by_cases hl : 0 ≤ j ∧ j < 0 + k
      · rw [if_pos ⟨hb, hl⟩, if_pos ⟨hb, by omega, by omega⟩]
      · rw [if_neg (fun q => hl q.2), if_neg (by omega)]
  · rw [if_neg (fun q => hb q.1), if_neg (fun q => hb q.1), if_neg (fun q => hb q.1)]
theorem js_clear {a e cap : Nat} {n : Int} {g : Int → Nat} {Q : JH → Prop} (hL : Ls_ G σ a e cap n g)
    (hQ : ∀ σ', Ls_ G σ' a e cap 0 g → Gw_ (fun b _ => b = a ∨ (b = e ∧ (gH_ G).size ≤ e)) 0 0 σ σ' → Q σ') : CallV_ G 2 yJ2_clear cJ2_clear 4 none [A_ (some a)] σ Q := by
  refine call_go [some (A_ (some a)), none, none, none] (by decide) (Nat.le_of_ble_eq_true rfl) rfl ?_
  have hn0 := hL.2.2.2.2.2.1
  have hcp := hL.2.2.2.2.2.2.1
  have hae : a ≠ e := fun q => by have h1 := hL.1; rw [q, hL.2.2.2.1] at h1; cases h1
  have L27 : ∀ (fu : Nat) (k : Int), n - k < (fu : Int) → (0 ≤ k) → (k ≤ n) → GoM_ G 2 yJ2_clear cJ2_clear 4 none σ (fun v σ' => v = none ∧ Q σ') 27 [some (A_ (some a)), some (A_ (some e)), some (I_ n), some (I_ k)] [] (pn_ (pi_ (pi_ σ a 0 (iv_ σ a 0 + 1)) a 2 0) e k) := by
    intro fu
    induction fu with
    | zero => intro k hn k0 k1; exact absurd hn (by omega)
    | succ fu ih =>
      intro k hn k0 k1
      refine g_il3 dJ2_clear_27 ?_
      refine g_il2 dJ2_clear_28 ?_
      refine g_icmp_ge (tgt := 42) dJ2_clear_29 (by decide) (by omega) (fun h29 => ?_) (fun h29 => ?_)
      · exact g_vret rfl dJ2_clear_42 ⟨rfl, by
  have ek : k = n := by omega
  subst ek
  refine hQ _ ⟨hL.1, hL.2.1, ?_, hL.2.2.2.1, ?_, by omega, hL.2.2.2.2.2.2.1, fun i i0 i1 => by omega⟩ ?_
  · unfold pn_; rw [rv_pbr, if_neg (by omega)]; exact hL.2.2.1
  · unfold pn_; rw [iv_pbr, iv_pi, if_pos ⟨rfl, rfl⟩]
  · exact (((Gw_.rf (S := fun b _ => b = a ∨ (b = e ∧ (gH_ G).size ≤ e)) (σ := σ)).pi (fun _ => Or.inl rfl)).pi (fun _ => Or.inl rfl)).pbr (fun _ j j0 j1 => Or.inr ⟨rfl, by omega⟩)⟩
      refine g_al1 dJ2_clear_32 ?_
      refine g_il3 dJ2_clear_33 ?_
      refine g_null dJ2_clear_34 ?_
      have hge : (gH_ G).size ≤ e := by omega
      refine g_aastN hL.2.2.2.1 hge (by omega) dJ2_clear_35 ?_
      refine g_inc3 dJ2_clear_36 (by decide) rfl ?_
      refine g_goto (tgt := 27) dJ2_clear_39 (by decide) ?_
      have h := ih (k + 1) (by omega) (by omega) (by omega)
      rw [← pn_s _ _ k0] at h
      exact h
  refine g_al0 dJ2_clear_0 ?_
  refine g_dup dJ2_clear_1 rfl ?_
  refine f_getI 0 fk_J2_63 rfl hL.1 (fun _ _ => rfl) dJ2_clear_2 ?_
  refine g_iconst dJ2_clear_5 ?_
  refine g_iadd dJ2_clear_6 ?_
  refine f_putI 0 fk_J2_63 rfl (nf_ rfl rfl) hL.1 hL.2.1 rfl dJ2_clear_7 ?_
  refine g_al0 dJ2_clear_10 ?_
  refine f_getA 1 fk_J2_9 rfl hL.1 (fun _ _ => rfl) hL.2.2.1 dJ2_clear_11 ?_
  refine g_as1 dJ2_clear_14 (by decide) rfl ?_
  refine g_al0 dJ2_clear_15 ?_
  refine f_getv 2 fk_J2_48 rfl hL.1 (fun _ _ => rfl) (show iv_ (pi_ σ a 0 (iv_ σ a 0 + 1)) a 2 = n by rw [iv_pi, if_neg (by omega)]; exact hL.2.2.2.2.1) dJ2_clear_16 ?_
  refine g_is2 dJ2_clear_19 (by decide) rfl ?_
  refine g_al0 dJ2_clear_20 ?_
  refine g_iconst dJ2_clear_21 ?_
  refine g_dup_x1 dJ2_clear_22 rfl rfl ?_
  refine f_putI 2 fk_J2_48 rfl (nf_ rfl rfl) hL.1 hL.2.1 rfl dJ2_clear_23 ?_
  refine g_is3 dJ2_clear_26 (by decide) rfl ?_
  have h := L27 16 0 (by omega) (by omega) (by omega)
  rw [pn_0] at h
  exact h
theorem js_fastRemove {a e cap : Nat} {n : Int} {g : Int → Nat} {i : Int} {Q : JH → Prop} (hL : Ls_ G σ a e cap n g) (hel : ∀ i, 0 ≤ i → i < n → ∃ ci, sh_ σ (g i) = some (.inl ci) ∧ CA_ ci) (hi : 0 ≤ i ∧ i < n)
    (hQ : ∀ σ', Ls_ G σ' a e cap (n - 1) (fun k => if k < i then g k else g (k + 1)) → Gw_ (fun b _ => b = a ∨ (b = e ∧ (gH_ G).size ≤ e)) 0 0 σ σ' → Q σ') : CallV_ G 2 yJ2_fastRemove cJ2_fastRemove 4 none [A_ (some a), A_ (some e), I_ i] σ Q := by
  refine call_go [some (A_ (some a)), some (A_ (some e)), some (I_ i), none] (by decide) (Nat.le_of_ble_eq_true rfl) rfl ?_
  have hn0 := hL.2.2.2.2.2.1
  have hcp := hL.2.2.2.2.2.2.1
  have hae : a ≠ e := fun q => by have h1 := hL.1; rw [q, hL.2.2.2.1] at h1; cases h1
  have hge : (gH_ G).size ≤ e := by omega
  refine g_al0 dJ2_fastRemove_0 ?_
  refine g_dup dJ2_fastRemove_1 rfl ?_
  refine f_getI 0 fk_J2_63 rfl hL.1 (fun _ _ => rfl) dJ2_fastRemove_2 ?_
  refine g_iconst dJ2_fastRemove_5 ?_
  refine g_iadd dJ2_fastRemove_6 ?_
  refine f_putI 0 fk_J2_63 rfl (nf_ rfl rfl) hL.1 hL.2.1 rfl dJ2_fastRemove_7 ?_
  refine g_al0 dJ2_fastRemove_10 ?_
  refine f_getv 2 fk_J2_48 rfl hL.1 (fun _ _ => rfl) (show iv_ (pi_ σ a 0 (iv_ σ a 0 + 1)) a 2 = n by rw [iv_pi, if_neg (by omega)]; exact hL.2.2.2.2.1) dJ2_fastRemove_11 ?_
  refine g_iconst dJ2_fastRemove_14 ?_
  refine g_isub dJ2_fastRemove_15 ?_
  refine g_dup dJ2_fastRemove_16 rfl ?_
  refine g_is3 dJ2_fastRemove_17 (by decide) rfl ?_
  refine g_il2 dJ2_fastRemove_18 ?_
  refine g_icmp_le (tgt := 34) dJ2_fastRemove_19 (by decide) (by omega) (fun h19 => ?_) (fun h19 => ?_)
  · refine g_al1 dJ2_fastRemove_34 ?_
    refine g_al0 dJ2_fastRemove_35 ?_
    refine g_il3 dJ2_fastRemove_36 ?_
    refine g_dup_x1 dJ2_fastRemove_37 rfl rfl ?_
    refine f_putI 2 fk_J2_48 rfl (nf_ rfl rfl) hL.1 hL.2.1 rfl dJ2_fastRemove_38 ?_
    refine g_null dJ2_fastRemove_41 ?_
    refine g_aastN hL.2.2.2.1 hge (by omega) dJ2_fastRemove_42 ?_
    exact g_vret rfl dJ2_fastRemove_43 ⟨rfl, by
    refine hQ _ ⟨hL.1, hL.2.1, ?_, hL.2.2.2.1, ?_, by omega, hL.2.2.2.2.2.2.1, fun k k0 k1 => ?_⟩ ?_
    · rw [rv_pr, if_neg (by omega), rv_pi]; exact hL.2.2.1
    · rw [iv_pr, iv_pi, if_pos ⟨rfl, rfl⟩]
    · rw [rv_pr, if_neg (by omega), rv_pi]
      show _ = some (if k < i then g k else g (k + 1))
      rw [if_pos (by omega)]
      exact hL.2.2.2.2.2.2.2 k k0 (by omega)
    · exact (((Gw_.rf (S := fun b _ => b = a ∨ (b = e ∧ (gH_ G).size ≤ e)) (σ := σ)).pi (fun _ => Or.inl rfl)).pi (fun _ => Or.inl rfl)).pr (fun _ => Or.inr ⟨rfl, hge⟩)⟩
  refine g_al1 dJ2_fastRemove_22 ?_
  refine g_il2 dJ2_fastRemove_23 ?_
  refine g_iconst dJ2_fastRemove_24 ?_
  refine g_iadd dJ2_fastRemove_25 ?_
  refine g_al1 dJ2_fastRemove_26 ?_
  refine g_il2 dJ2_fastRemove_27 ?_
  refine g_il3 dJ2_fastRemove_28 ?_
  refine g_il2 dJ2_fastRemove_29 ?_
  refine g_isub dJ2_fastRemove_30 ?_
  refine g_acpR q1548 (a := e) (b := e) (na := cap) (nb := cap) hL.2.2.2.1 hL.2.2.2.1 hge (by omega) (by omega) (fun j j0 j1 => ?_) (rm_64 (by decide)) (Nat.le_of_ble_eq_true rfl) dJ2_fastRemove_31 ?_
  · obtain ⟨ci, h1, h2⟩ := hel (i + 1 + j) (by omega) (by omega)
    exact Or.inr ⟨_, ci, hL.2.2.2.2.2.2.2 _ (by omega) (by omega), h1, h2⟩
  refine g_al1 dJ2_fastRemove_34 ?_
  refine g_al0 dJ2_fastRemove_35 ?_
  refine g_il3 dJ2_fastRemove_36 ?_
  refine g_dup_x1 dJ2_fastRemove_37 rfl rfl ?_
  refine f_putI 2 fk_J2_48 rfl (nf_ rfl rfl) hL.1 hL.2.1 rfl dJ2_fastRemove_38 ?_
  refine g_null dJ2_fastRemove_41 ?_
  refine g_aastN hL.2.2.2.1 hge (by omega) dJ2_fastRemove_42 ?_
  exact g_vret rfl dJ2_fastRemove_43 ⟨rfl, by
  refine hQ _ ⟨hL.1, hL.2.1, ?_, hL.2.2.2.1, ?_, by omega, hL.2.2.2.2.2.2.1, fun k k0 k1 => ?_⟩ ?_
  · rw [rv_pr, if_neg (by omega), rv_pi]; rw [rv_pbr, if_neg (by omega)]; exact hL.2.2.1
  · rw [iv_pr, iv_pi, if_pos ⟨rfl, rfl⟩]
  · rw [rv_pr, if_neg (by omega), rv_pi]
    show _ = some (if k < i then g k else g (k + 1))
    rw [rv_pbr]
    by_cases q : k < i
    · rw [if_neg (by omega), if_pos q]; exact hL.2.2.2.2.2.2.2 k k0 (by omega)
    · rw [if_pos ⟨rfl, by omega, by omega⟩, if_neg q, rv_pi, show i + 1 + (k - i) = k + 1 by omega]; exact hL.2.2.2.2.2.2.2 (k + 1) (by omega) (by omega)
  · exact ((((Gw_.rf (S := fun b _ => b = a ∨ (b = e ∧ (gH_ G).size ≤ e)) (σ := σ)).pi (fun _ => Or.inl rfl)).pbr (fun _ j j0 j1 => Or.inr ⟨rfl, hge⟩)).pi (fun _ => Or.inl rfl)).pr (fun _ => Or.inr ⟨rfl, hge⟩)⟩
theorem js_remove {a e cap : Nat} {n : Int} {g : Int → Nat} {i : Int} {Q : Option Nat → JH → Prop} (hL : Ls_ G σ a e cap n g) (hel : ∀ i, 0 ≤ i → i < n → ∃ ci, sh_ σ (g i) = some (.inl ci) ∧ CA_ ci) (hi : 0 ≤ i ∧ i < n)
    (hQ : ∀ σ', Ls_ G σ' a e cap (n - 1) (fun k => if k < i then g k else g (k + 1)) → Gw_ (fun b _ => b = a ∨ (b = e ∧ (gH_ G).size ≤ e)) 0 0 σ σ' → Q (some (g i)) σ') : CallA_ G 4 yJ2_remove cJ2_remove 4 (some (.object "java/lang/Object")) [A_ (some a), I_ i] σ Q := by
  refine call_go [some (A_ (some a)), some (I_ i), none, none] (by decide) (Nat.le_of_ble_eq_true rfl) rfl ?_
  refine g_il1 dJ2_remove_0 ?_
  refine g_al0 dJ2_remove_1 ?_
  refine f_getv 2 fk_J2_48 rfl hL.1 (fun _ _ => rfl) hL.2.2.2.2.1 dJ2_remove_2 ?_
  refine g_callS2I (d' := 3) lk_J2_118 (rm_lt (by decide) (by decide)) (Nat.le_of_ble_eq_true rfl) dJ2_remove_5 ?_
  refine js_oci (by have := hL.2.2.2.2.2.1; have := hL.2.2.2.2.2.2.1; omega) hi ?_
  refine g_pop dJ2_remove_8 rfl ?_
  refine g_al0 dJ2_remove_9 ?_
  refine f_getA 1 fk_J2_9 rfl hL.1 (fun _ _ => rfl) hL.2.2.1 dJ2_remove_10 ?_
  refine g_as2 dJ2_remove_13 (by decide) rfl ?_
  refine g_al2 dJ2_remove_14 ?_
  refine g_il1 dJ2_remove_15 ?_
  have hn0 := hL.2.2.2.2.2.1
  refine g_aald hL.2.2.2.1 (by omega) (hL.2.2.2.2.2.2.2 i hi.1 hi.2) dJ2_remove_16 ?_
  refine g_as3 dJ2_remove_17 (by decide) rfl ?_
  refine g_al0 dJ2_remove_18 ?_
  refine g_al2 dJ2_remove_19 ?_
  refine g_il1 dJ2_remove_20 ?_
  refine g_callV2V (d' := 2) lk_J2_144 hL.1 rfl (rm_lt (by decide) (by decide)) (Nat.le_of_ble_eq_true rfl) dJ2_remove_21 ?_
  refine js_fastRemove hL hel hi (fun σ' h1 h2 => ?_)
  refine g_al3 dJ2_remove_24 ?_
  exact g_aret rfl (Or.inl ⟨_, rfl⟩) dJ2_remove_25 ⟨_, rfl, hQ σ' h1 h2⟩
end
