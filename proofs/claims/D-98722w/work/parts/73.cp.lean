/-! THE ENGINE: System.arraycopy, class objects -/
set_option maxRecDepth 100000
theorem sr_get (at_ : Nat) : ∀ (vs : List Value) (i : Nat) (c : Cell), (c.storePairs at_ (vs.zipIdx i)).cls = c.cls ∧ (c.storePairs at_ (vs.zipIdx i)).vm = c.vm ∧ (c.storePairs at_ (vs.zipIdx i)).slots.size = c.slots.size ∧ ∀ k : Nat, k < c.slots.size → (c.storePairs at_ (vs.zipIdx i)).slots[k]? = if at_ + i ≤ k ∧ k < at_ + i + vs.length then some (vs.getD (k - (at_ + i)) .null) else c.slots[k]?
  | [], i, c => ⟨rfl, rfl, rfl, fun k _ => by rw [if_neg (by simp only [List.length_nil]; omega)]; rfl⟩
  | x :: xs, i, c => by
    rw [List.zipIdx_cons]
    obtain ⟨h1, h2, h3, h4⟩ := sr_get at_ xs (i + 1) (c.setSlot (at_ + i) x)
    have e : c.storePairs at_ ((x, i) :: xs.zipIdx (i + 1)) = (c.setSlot (at_ + i) x).storePairs at_ (xs.zipIdx (i + 1)) := rfl
    have hz : (c.setSlot (at_ + i) x).slots.size = c.slots.size := by simp [Cell.setSlot]
    rw [e]
    refine ⟨h1, h2, h3.trans hz, fun k hk => ?_⟩
    rw [h4 k (by rw [hz]; exact hk)]
    by_cases hk2 : k = at_ + i
    · subst hk2
      rw [if_neg (by omega), if_pos (by simp only [List.length_cons]; omega)]
      simp [Cell.setSlot, hk]
    · by_cases h : at_ + (i + 1) ≤ k ∧ k < at_ + (i + 1) + xs.length
      · rw [if_pos h, if_pos (by simp only [List.length_cons]; omega)]
        have e : k - (at_ + i) = (k - (at_ + (i + 1))) + 1 := by omega
        rw [e, List.getD_cons_succ]
      · rw [if_neg h, if_neg (by simp only [List.length_cons]; omega)]
        simp [Cell.setSlot, Array.getElem?_setIfInBounds, Ne.symm hk2]
/-- a row of references set -/
def pbr_ (σ : JH) (a : Nat) (lo n : Int) (f : Int → Option Nat) : JH := (σ.1, σ.2.1, (fun b j => if b = a ∧ lo ≤ j ∧ j < lo + n then f (j - lo) else σ.2.2.1 b j), σ.2.2.2)
theorem rv_pbr (σ : JH) (a : Nat) (lo n : Int) (f : Int → Option Nat) (b : Nat) (j : Int) : rv_ (pbr_ σ a lo n f) b j = if b = a ∧ lo ≤ j ∧ j < lo + n then f (j - lo) else rv_ σ b j := rfl
theorem iv_pbr (σ : JH) (a : Nat) (lo n : Int) (f : Int → Option Nat) (b : Nat) (j : Int) : iv_ (pbr_ σ a lo n f) b j = iv_ σ b j := rfl
theorem sh_pbr (σ : JH) (a : Nat) (lo n : Int) (f : Int → Option Nat) (b : Nat) : sh_ (pbr_ σ a lo n f) b = sh_ σ b := rfl
theorem sz_pbr (σ : JH) (a : Nat) (lo n : Int) (f : Int → Option Nat) : sz_ (pbr_ σ a lo n f) = sz_ σ := rfl
theorem us_pbr (σ : JH) (a : Nat) (lo n : Int) (f : Int → Option Nat) : us_ (pbr_ σ a lo n f) = us_ σ := rfl
theorem sz_pb (σ : JH) (a : Nat) (lo n : Int) (f : Int → Int) : sz_ (pb_ σ a lo n f) = sz_ σ := rfl
theorem us_pb (σ : JH) (a : Nat) (lo n : Int) (f : Int → Int) : us_ (pb_ σ a lo n f) = us_ σ := rfl
theorem rm_64 {G : JG} {d : Nat} {σ0 : JH} (h : 1 ≤ d) : 1 ≤ (rm_ G d σ0).frames ∧ 64 ≤ (rm_ G d σ0).locals := ⟨h, by show 64 ≤ 64 * d; omega⟩
section
variable {G : JG} {R : Room} {y : MethodName} {cc : ByteArray} {nL : Nat} {ret : Option FieldType} {σ0 σ : JH} {Z : List Frame → Array Value → State → State → Prop} {pc : Nat} {ev : List (Option AV)} {st : List AV}
theorem cp_cel {t na nb : Nat} {a b : Nat} {cs cd : Cell} {sp dp n : Nat} {σ' : JH} (hc0 : Cel_ G σ a (.inr (t, na)) cs) (hc1 : Cel_ G σ b (.inr (t, nb)) cd) (h1 : sp + n ≤ na) (h2 : dp + n ≤ nb)
    (hv : ∀ j : Nat, j < n → tv_ (aty_ t) (iv_ σ' b ((dp + j : Nat) : Int)) (rv_ σ' b ((dp + j : Nat) : Int)) = tv_ (aty_ t) (iv_ σ a ((sp + j : Nat) : Int)) (rv_ σ a ((sp + j : Nat) : Int)))
    (ho : ∀ j : Nat, (j < dp ∨ dp + n ≤ j) → iv_ σ' b (j : Int) = iv_ σ b (j : Int) ∧ rv_ σ' b (j : Int) = rv_ σ b (j : Int)) :
    Cel_ G σ' b (.inr (t, nb)) (cd.storeRun dp (cs.stretch sp n)) ∧ (cd.storeRun dp (cs.stretch sp n)).vm = cd.vm ∧ (cd.storeRun dp (cs.stretch sp n)).slots.size = cd.slots.size := by
  obtain ⟨a1, a2, a3, a4, a5⟩ := hc0
  obtain ⟨b1, b2, b3, b4, b5⟩ := hc1
  obtain ⟨s1, s2, s3, s4⟩ := sr_get dp (cs.stretch sp n) 0 cd
  have hl : (cs.stretch sp n).length = n := by simp [Cell.stretch]
  refine ⟨⟨s1.trans b1, b2, by rw [show (cd.storeRun dp (cs.stretch sp n)).slots.size = cd.slots.size from s3]; exact b3, by rw [show (cd.storeRun dp (cs.stretch sp n)).slots.size = cd.slots.size from s3]; exact b4, fun j hj => ?_⟩, s2, s3⟩
  show (cd.storePairs dp ((cs.stretch sp n).zipIdx 0)).slots[j]? = _
  rw [s4 j (by omega), hl]
  by_cases q : dp + 0 ≤ j ∧ j < dp + 0 + n
  · rw [if_pos q]
    have q1 : j - (dp + 0) < n := by omega
    have e1 : (cs.stretch sp n).getD (j - (dp + 0)) .null = tv_ (aty_ t) (iv_ σ a ((sp + (j - (dp + 0)) : Nat) : Int)) (rv_ σ a ((sp + (j - (dp + 0)) : Nat) : Int)) := by
      rw [List.getD_eq_getElem?_getD]
      unfold Cell.stretch
      rw [List.getElem?_map, List.getElem?_range q1]
      show cs.slots.getD (sp + (j - (dp + 0))) .null = _
      rw [Array.getD_eq_getD_getElem?, a5 _ (by omega)]
      rfl
    rw [e1, ← hv _ q1, show dp + (j - (dp + 0)) = j by omega]
  · rw [if_neg q, b5 j hj, (ho j (by omega)).1, (ho j (by omega)).2]
theorem nfw_ : nativeFrameWords "java/lang/System" "arraycopy" 5 ≤ 20 := by decide
theorem g_acp {t a b na nb i : Nat} {sp dp n : Int} (ht : t < 3) (q1 : Cond.methodLink y.cls i arraycopyName ∈ lw_all) (hsa : sh_ σ a = some (.inr (t, na))) (hsb : sh_ σ b = some (.inr (t, nb))) (hgb : (gH_ G).size ≤ b) (h1 : 0 ≤ sp ∧ 0 ≤ n ∧ sp + n ≤ na) (h2 : 0 ≤ dp ∧ dp + n ≤ nb)
    (hf : ∀ j : Int, 0 ≤ j → j < n → fits (aty_ t) (tv_ (aty_ t) (iv_ σ a (sp + j)) (rv_ σ a (sp + j))) = true) (hR : 1 ≤ R.frames ∧ 64 ≤ R.locals) (hst : (st.map cw_).sum ≤ 8) (hd : decode cc pc = .ok (.invokestatic i, 3))
    (k : Go_ G R y cc nL ret σ0 Z (pc + 3) ev st (pb_ σ b dp n (fun j => iv_ σ a (sp + j)))) : Go_ G R y cc nL ret σ0 Z pc ev (I_ n :: I_ dp :: A_ (some b) :: I_ sp :: A_ (some a) :: st) σ := by
  intro p e s m args below meth c H locs cells slots ls C hr hl hv
  have w := fun H' locs' hr' hl' => k p e s m args below meth c H' locs' cells slots ls C hr' hl' hv
  obtain ⟨cs, c1, ⟨ok1, ok2, ok3⟩, hcs⟩ := hr.2.2 a _ hsa
  obtain ⟨cd, d1, ⟨ou1, ou2, ou3⟩, hcd⟩ := hr.2.2 b _ hsb
  have hcs0 := hcs
  have hcd0 := hcd
  obtain ⟨as1, as2, as3, as4, as5⟩ := hcs
  obtain ⟨bs1, bs2, bs3, bs4, bs5⟩ := hcd
  obtain ⟨hx, hb, hml, -, hown, hts, -, -, hKn, -⟩ := C
  obtain ⟨-, k0, hk0, cm0, hkk0⟩ := (kn_arr hKn t (by omega)).1 0 (fun _ => .null)
  have rg : ∀ z : Int, 0 ≤ z → z < 2147483648 → ¬ Int32.ofInt z < 0 ∧ (Int32.ofInt z).toInt = z ∧ (Int32.ofInt z).toNatClampNeg = z.toNat := fun z z0 z1 => ⟨fun q => by have := (cq_lt (r0_ ⟨by omega, z1⟩)).mp q; omega, ti_ ⟨by omega, z1⟩, Int32.toNatClampNeg_ofInt_of_le (by omega) (by omega)⟩
  have rsp := rg sp h1.1 (by omega)
  have rdp := rg dp h2.1 (by omega)
  have rn := rg n h1.2.1 (by omega)
  intro T hT X
  obtain ⟨vm', X', step⟩ := X.arraycopy hx hown (hts _ q1) (hts _ q460) (hts _ q459) (hts _ q147) (src := a) (dst := b) (cs := cs) (cd := cd) (srcPos := Int32.ofInt sp) (destPos := Int32.ofInt dp) (n := Int32.ofInt n) (by rw [hT]; exact c1) (by rw [hT]; exact d1)
    (fun q h => by rw [h] at ok1; cases ok1) (fun q h => by rw [h] at ou1; cases ou1) ok2 ou2 (by rw [as1]; exact hk0) (by rw [bs1]; exact hk0) hkk0 hkk0 (by match t, ht with
      | 0, _ => rfl
      | 1, _ => rfl
      | 2, _ => rfl) rsp.1 rdp.1 rn.1 (by rw [rsp.2.1, rn.2.1]; omega) (by rw [rdp.2.1, rn.2.1]; omega)
    (fun vm1 _ j hj => by
      rw [rn.2.2] at hj
      rw [rsp.2.2]
      have e0 : cs.slots.getD (sp.toNat + j) .null = tv_ (aty_ t) (iv_ σ a (sp + j)) (rv_ σ a (sp + j)) := by
        rw [Array.getD_eq_getD_getElem?, as5 _ (by omega), show ((sp.toNat + j : Nat) : Int) = sp + j by omega]
        rfl
      rw [e0]
      refine ⟨hf j (by omega) (by omega), ?_⟩
      match t, ht with
      | 0, _ => exact trivial
      | 1, _ => exact trivial
      | 2, _ => exact trivial)
    (g := F0 m pc ls ((I_ n :: I_ dp :: A_ (some b) :: I_ sp :: A_ (some a) :: st).map av_)) rfl (by rw [hml]; exact hv.1) (rest := st.map av_) rfl (by rw [hb]; exact hd) hR.1 (by show 2 * 0 + _ + _ ≤ _; have := cw_sum st; have := nfw_; omega)
  obtain ⟨K1, K2, K3⟩ := cp_cel (σ' := pb_ σ b dp n (fun j => iv_ σ a (sp + j))) hcs0 hcd0 (sp := sp.toNat) (dp := dp.toNat) (n := n.toNat) (by omega) (by omega)
    (fun j hj => by
      rw [iv_pb, if_pos ⟨rfl, by omega, by omega⟩, rv_pb, show sp + (((dp.toNat + j : Nat) : Int) - dp) = ((sp.toNat + j : Nat) : Int) by omega]
      match t, ht with
      | 0, _ => rfl
      | 1, _ => rfl
      | 2, _ => rfl)
    (fun j hj => ⟨by rw [iv_pb, if_neg (by omega)], rfl⟩)
  have ec : copied cs cd (Int32.ofInt sp) (Int32.ofInt dp) (Int32.ofInt n) = cd.storeRun dp.toNat (cs.stretch sp.toNat n.toNat) := by
    show cd.storeRun _ (cs.stretch _ _) = _
    rw [rsp.2.2, rdp.2.2, rn.2.2]
  rw [ec] at X' step
  have hlt : b < H.size := (Array.getElem?_eq_some_iff.mp d1).1
  have hheap : ((T.setVm vm').setCell b (cd.storeRun dp.toNat (cs.stretch sp.toNat n.toNat))).heap = H.setIfInBounds b (cd.storeRun dp.toNat (cs.stretch sp.toNat n.toNat)) := by rw [← hT]; rfl
  obtain ⟨t', a1, b1⟩ := w (H.setIfInBounds b (cd.storeRun dp.toNat (cs.stretch sp.toNat n.toNat))) _ (hr.upd hgb hsb d1 (by simp [Array.getElem?_setIfInBounds, hlt]) (by simp) (fun q hq => by simp [Array.getElem?_setIfInBounds, Ne.symm hq]) (K2.trans (ou3 hgb)) K3 K1 (fun _ => rfl) (fun b' hb' j => by rw [iv_pb, if_neg (fun q => hb' q.1)]) (fun _ _ _ => rfl) rfl rfl) (fun q hq => by
      rcases List.mem_append.mp hq with h | h
      · exact hl q h
      · obtain ⟨z, -, hz⟩ := List.mem_map.mp h
        rw [← hz]
        exact hgb) _ hheap X'
  exact ⟨t', step t' a1, b1⟩
theorem g_acpR {a b na nb i : Nat} {sp dp n : Int} (q1 : Cond.methodLink y.cls i arraycopyName ∈ lw_all) (hsa : sh_ σ a = some (.inr (3, na))) (hsb : sh_ σ b = some (.inr (3, nb))) (hgb : (gH_ G).size ≤ b) (h1 : 0 ≤ sp ∧ 0 ≤ n ∧ sp + n ≤ na) (h2 : 0 ≤ dp ∧ dp + n ≤ nb)
    (hf : ∀ j : Int, 0 ≤ j → j < n → rv_ σ a (sp + j) = none ∨ ∃ (o ci : Nat), rv_ σ a (sp + j) = some o ∧ sh_ σ o = some (.inl ci) ∧ ∀ r : vw_C, cls_[ci]? = some r → (r.1, "java/lang/Object") ∈ nwC_) (hR : 1 ≤ R.frames ∧ 64 ≤ R.locals) (hst : (st.map cw_).sum ≤ 8) (hd : decode cc pc = .ok (.invokestatic i, 3))
    (k : Go_ G R y cc nL ret σ0 Z (pc + 3) ev st (pbr_ σ b dp n (fun j => rv_ σ a (sp + j)))) : Go_ G R y cc nL ret σ0 Z pc ev (I_ n :: I_ dp :: A_ (some b) :: I_ sp :: A_ (some a) :: st) σ := by
  intro p e s m args below meth c H locs cells slots ls C hr hl hv
  have w := fun H' locs' hr' hl' => k p e s m args below meth c H' locs' cells slots ls C hr' hl' hv
  obtain ⟨cs, c1, ⟨ok1, ok2, ok3⟩, hcs⟩ := hr.2.2 a _ hsa
  obtain ⟨cd, d1, ⟨ou1, ou2, ou3⟩, hcd⟩ := hr.2.2 b _ hsb
  have hcs0 := hcs
  have hcd0 := hcd
  obtain ⟨as1, as2, as3, as4, as5⟩ := hcs
  obtain ⟨bs1, bs2, bs3, bs4, bs5⟩ := hcd
  obtain ⟨hx, hb, hml, -, hown, hts, -, -, hKn, -⟩ := C
  obtain ⟨kA, comp, r1, r2, r3, -⟩ : va_RA s (gA_ G 3) (.object "java/lang/Object") := (kn_arr hKn 3 (by decide)).2
  have rg : ∀ z : Int, 0 ≤ z → z < 2147483648 → ¬ Int32.ofInt z < 0 ∧ (Int32.ofInt z).toInt = z ∧ (Int32.ofInt z).toNatClampNeg = z.toNat := fun z z0 z1 => ⟨fun q => by have := (cq_lt (r0_ ⟨by omega, z1⟩)).mp q; omega, ti_ ⟨by omega, z1⟩, Int32.toNatClampNeg_ofInt_of_le (by omega) (by omega)⟩
  have rsp := rg sp h1.1 (by omega)
  have rdp := rg dp h2.1 (by omega)
  have rn := rg n h1.2.1 (by omega)
  intro T hT X
  obtain ⟨vm', X', step⟩ := X.arraycopy hx hown (hts _ q1) (hts _ q460) (hts _ q459) (hts _ q147) (src := a) (dst := b) (cs := cs) (cd := cd) (srcPos := Int32.ofInt sp) (destPos := Int32.ofInt dp) (n := Int32.ofInt n) (by rw [hT]; exact c1) (by rw [hT]; exact d1)
    (fun q h => by rw [h] at ok1; cases ok1) (fun q h => by rw [h] at ou1; cases ou1) ok2 ou2 (by rw [as1]; exact r1) (by rw [bs1]; exact r1) r2 r2 rfl rsp.1 rdp.1 rn.1 (by rw [rsp.2.1, rn.2.1]; omega) (by rw [rdp.2.1, rn.2.1]; omega)
    (fun vm1 hal j hj => by
      rw [rn.2.2] at hj
      rw [rsp.2.2]
      have e0 : cs.slots.getD (sp.toNat + j) .null = va_rf (rv_ σ a (sp + j)) := by
        rw [Array.getD_eq_getD_getElem?, as5 _ (by omega), show ((sp.toNat + j : Nat) : Int) = sp + j by omega]
        rfl
      rw [e0]
      rcases hf j (by omega) (by omega) with q | ⟨o, ci, q, qs, qc⟩
      · rw [q]; exact ⟨rfl, trivial⟩
      · rw [q]
        obtain ⟨cellV, g1, ⟨okv, -, -⟩, r, hr1, hclsV, -⟩ := hr.2.2 o _ qs
        obtain ⟨kE, hkE, -⟩ := Vm.findClass_spec r3
        obtain ⟨-, hfc, kC, hkC, -⟩ := hKn.1.1 ci _ hr1
        obtain ⟨c0, t1, f1, f2, f3⟩ := Cond.castable_spec (va_Nw.use (A := args) rfl (hKn.2.1 _ (qc r hr1)))
        have f1 : s.vm.findClass r.1 = some c0 := f1
        cases hfc.symm.trans f1
        cases r3.symm.trans f2
        obtain ⟨kC', hkC', -⟩ := hal.2.2 _ _ hkC
        obtain ⟨kE', hkE', -⟩ := hal.2.2 _ _ hkE
        refine ⟨rfl, cellV, (show T.heap[o]? = some cellV by rw [hT]; exact g1), (fun q h => by rw [h] at okv; cases okv), ⟨kC', by rw [hclsV]; exact hkC'⟩, ?_, ?_⟩
        · exact ⟨kE', hkE'⟩
        · show vm1.assignable _ _ = true
          rw [hal.assignable, hclsV]
          exact f3)
    (g := F0 m pc ls ((I_ n :: I_ dp :: A_ (some b) :: I_ sp :: A_ (some a) :: st).map av_)) rfl (by rw [hml]; exact hv.1) (rest := st.map av_) rfl (by rw [hb]; exact hd) hR.1 (by show 2 * 0 + _ + _ ≤ _; have := cw_sum st; have := nfw_; omega)
  obtain ⟨K1, K2, K3⟩ := cp_cel (σ' := pbr_ σ b dp n (fun j => rv_ σ a (sp + j))) hcs0 hcd0 (sp := sp.toNat) (dp := dp.toNat) (n := n.toNat) (by omega) (by omega)
    (fun j hj => by
      rw [rv_pbr, if_pos ⟨rfl, by omega, by omega⟩, show sp + (((dp.toNat + j : Nat) : Int) - dp) = ((sp.toNat + j : Nat) : Int) by omega]
      rfl)
    (fun j hj => ⟨rfl, by rw [rv_pbr, if_neg (by omega)]⟩)
  have ec : copied cs cd (Int32.ofInt sp) (Int32.ofInt dp) (Int32.ofInt n) = cd.storeRun dp.toNat (cs.stretch sp.toNat n.toNat) := by
    show cd.storeRun _ (cs.stretch _ _) = _
    rw [rsp.2.2, rdp.2.2, rn.2.2]
  rw [ec] at X' step
  have hlt : b < H.size := (Array.getElem?_eq_some_iff.mp d1).1
  have hheap : ((T.setVm vm').setCell b (cd.storeRun dp.toNat (cs.stretch sp.toNat n.toNat))).heap = H.setIfInBounds b (cd.storeRun dp.toNat (cs.stretch sp.toNat n.toNat)) := by rw [← hT]; rfl
  obtain ⟨t', a1, b1⟩ := w (H.setIfInBounds b (cd.storeRun dp.toNat (cs.stretch sp.toNat n.toNat))) _ (hr.upd hgb hsb d1 (by simp [Array.getElem?_setIfInBounds, hlt]) (by simp) (fun q hq => by simp [Array.getElem?_setIfInBounds, Ne.symm hq]) (K2.trans (ou3 hgb)) K3 K1 (fun _ => rfl) (fun _ _ _ => rfl) (fun b' hb' j => by rw [rv_pbr, if_neg (fun q => hb' q.1)]) rfl rfl) (fun q hq => by
      rcases List.mem_append.mp hq with h | h
      · exact hl q h
      · obtain ⟨z, -, hz⟩ := List.mem_map.mp h
        rw [← hz]
        exact hgb) _ hheap X'
  exact ⟨t', step t' a1, b1⟩
theorem g_ldcM {i : Nat} (q : Cond.classLink y.cls i "[Ljava/lang/Object;" ∈ lw_all) (hd : decode cc pc = .ok (.ldc i, 2)) (k : Go_ G R y cc nL ret σ0 Z (pc + 2) ev (A_ (some (gK_ G 101)) :: st) σ) : Go_ G R y cc nL ret σ0 Z pc ev st σ := by
  intro p e s m args below meth c H locs cells slots ls C hr hl hv
  have w := k p e s m args below meth c H locs cells slots ls C hr hl hv
  obtain ⟨hx, hb, hml, -, hown, hts, -, -, hKn, -⟩ := C
  exact va_ldcM hx hb hown (hts _ q) hKn.2.2.2.2.2.2.2.2.2.1 hd w
theorem g_getC {a na i : Nat} (hs : sh_ σ a = some (.inr (3, na))) (q1 : Cond.methodLink y.cls i ⟨"java/lang/Object", "getClass", "()Ljava/lang/Class;"⟩ ∈ lw_all) (hR : 1 ≤ R.frames ∧ 64 ≤ R.locals) (hst : (st.map cw_).sum ≤ 8) (hd : decode cc pc = .ok (.invokevirtual i, 3)) (k : Go_ G R y cc nL ret σ0 Z (pc + 3) ev (A_ (some (gK_ G 101)) :: st) σ) : Go_ G R y cc nL ret σ0 Z pc ev (A_ (some a) :: st) σ := by
  intro p e s m args below meth c H locs cells slots ls C hr hl hv
  have w := k p e s m args below meth c H locs cells slots ls C hr hl hv
  obtain ⟨cs, c1, ⟨ok1, ok2, ok3⟩, hcs⟩ := hr.2.2 a _ hs
  obtain ⟨hx, hb, hml, -, hown, hts, -, -, hKn, -⟩ := C
  have hRA : va_RA s (gA_ G 3) (.object "java/lang/Object") := (kn_arr hKn 3 (by decide)).2
  exact va_getC hx hb (by rw [hml]; exact hv.1.symm) hown (hts _ q1) (va_Nw.use (A := args) rfl (hKn.2.2.2.2.1 ⟨"java/lang/Object", "getClass", "()Ljava/lang/Class;"⟩ (by decide))) (hts _ q2338) (hts _ q844) (hts _ q866) hKn.2.2.2.2.2.2.2.2.2.1 ⟨cs, c1, ok1, by rw [hcs.1]; exact va_nmO hRA rfl⟩ hR.1 (by have := cw_sum st; omega) hd w
/-- the room that is left -/
theorem w_room {p : Program} {e : Env} {s : State} {m : MethodId} {args : Array Value} {below : List Frame} {meth : Method} {c : Code} {H : Heap} {locs : List Loc} {cells slots : Nat} {Q : State → Prop} {f : JFrame} (C : Cx_ G R y cc nL ret σ0 p s m args meth c) (hr : Rp_ G σ H)
    (w : ∀ k n : Nat, k ≤ R.cells → n ≤ R.slots → W p (gl_ G) e R s m args below meth c H locs k n Q f) : W p (gl_ G) e R s m args below meth c H locs cells slots Q f := by
  obtain ⟨-, -, -, -, -, -, -, -, -, hR0, r1, r2⟩ := C
  have a1 := hR0.1
  have a2 := hr.1
  refine w_mono fun m1 m2 => ?_
  exact w_tight (k' := H.size - s.heap.size) (n' := su_ H - su_ s.heap) (by omega) (by omega) (w _ _ (by omega) (by omega))
theorem g_mmax {x z : Int} {i : Nat} (q1 : Cond.methodLink y.cls i ⟨"java/lang/Math", "max", "(II)I"⟩ ∈ lw_all) (h : -2147483648 ≤ x ∧ x < 2147483648 ∧ -2147483648 ≤ z ∧ z < 2147483648) (hR : 1 ≤ R.frames ∧ 64 ≤ R.locals) (hst : (st.map cw_).sum ≤ 8) (hd : decode cc pc = .ok (.invokestatic i, 3)) (k : Go_ G R y cc nL ret σ0 Z (pc + 3) ev (I_ (if x < z then z else x) :: st) σ) : Go_ G R y cc nL ret σ0 Z pc ev (I_ z :: I_ x :: st) σ := by
  intro p e s m args below meth c H locs cells slots ls C hr hl hv
  refine w_room C hr fun k1 n1 hk hn => ?_
  have w := k p e s m args below meth c H locs k1 n1 ls C hr hl hv
  obtain ⟨hx, hb, hml, -, hown, hts, -⟩ := C
  have ev1 : av_ (I_ (if x < z then z else x)) = .int (if Int32.ofInt x < Int32.ofInt z then Int32.ofInt z else Int32.ofInt x) := by
    by_cases q : x < z
    · rw [if_pos q, if_pos ((cq_lt h).mpr q)]; rfl
    · rw [if_neg q, if_neg (fun w => q ((cq_lt h).mp w))]; rfl
  rw [List.map_cons, ev1] at w
  exact va_mmax hx hb (by rw [hml]; exact hv.1.symm) hown (hts _ q1) (hts _ q438) (hts _ q145) (hts _ q439) hR.1 (by have := cw_sum st; omega) hk hn hd w
theorem g_mmin {x z : Int} {i : Nat} (q1 : Cond.methodLink y.cls i ⟨"java/lang/Math", "min", "(II)I"⟩ ∈ lw_all) (h : -2147483648 ≤ x ∧ x < 2147483648 ∧ -2147483648 ≤ z ∧ z < 2147483648) (hR : 1 ≤ R.frames ∧ 64 ≤ R.locals) (hst : (st.map cw_).sum ≤ 8) (hd : decode cc pc = .ok (.invokestatic i, 3)) (k : Go_ G R y cc nL ret σ0 Z (pc + 3) ev (I_ (if z < x then z else x) :: st) σ) : Go_ G R y cc nL ret σ0 Z pc ev (I_ z :: I_ x :: st) σ := by
  intro p e s m args below meth c H locs cells slots ls C hr hl hv
  refine w_room C hr fun k1 n1 hk hn => ?_
  have w := k p e s m args below meth c H locs k1 n1 ls C hr hl hv
  obtain ⟨hx, hb, hml, -, hown, hts, -⟩ := C
  have ev1 : av_ (I_ (if z < x then z else x)) = .int (if Int32.ofInt z < Int32.ofInt x then Int32.ofInt z else Int32.ofInt x) := by
    by_cases q : z < x
    · rw [if_pos q, if_pos ((cq_lt (rs_ h)).mpr q)]; rfl
    · rw [if_neg q, if_neg (fun w => q ((cq_lt (rs_ h)).mp w))]; rfl
  rw [List.map_cons, ev1] at w
  exact va_mmin hx hb (by rw [hml]; exact hv.1.symm) hown (hts _ q1) (hts _ q456) (hts _ q145) (hts _ q457) hR.1 (by have := cw_sum st; omega) hk hn hd w
theorem g_mabs {x : Int} {i : Nat} (q1 : Cond.methodLink y.cls i ⟨"java/lang/Math", "abs", "(I)I"⟩ ∈ lw_all) (h : -2147483648 ≤ x ∧ x < 2147483648) (hR : 1 ≤ R.frames ∧ 64 ≤ R.locals) (hst : (st.map cw_).sum ≤ 8) (hd : decode cc pc = .ok (.invokestatic i, 3)) (k : Go_ G R y cc nL ret σ0 Z (pc + 3) ev (I_ (if 0 ≤ x then x else 0 - x) :: st) σ) : Go_ G R y cc nL ret σ0 Z pc ev (I_ x :: st) σ := by
  intro p e s m args below meth c H locs cells slots ls C hr hl hv
  refine w_room C hr fun k1 n1 hk hn => ?_
  have w := k p e s m args below meth c H locs k1 n1 ls C hr hl hv
  obtain ⟨hx, hb, hml, -, hown, hts, -⟩ := C
  have ev1 : av_ (I_ (if 0 ≤ x then x else 0 - x)) = .int (if 0 ≤ Int32.ofInt x then Int32.ofInt x else 0 - Int32.ofInt x) := by
    have e0 : (0 : Int32) ≤ Int32.ofInt x ↔ 0 ≤ x := cq_le (rs_ (r0_ h))
    by_cases q : 0 ≤ x
    · rw [if_pos q, if_pos (e0.mpr q)]; rfl
    · rw [if_neg q, if_neg (fun w => q (e0.mp w))]
      exact congrArg Value.int (Int32.ofInt_sub 0 x)
  rw [List.map_cons, ev1] at w
  exact va_mabs hx hb (by rw [hml]; exact hv.1.symm) hown (hts _ q1) (hts _ q1488) (hts _ q145) (hts _ q1489) hR.1 (by have := cw_sum st; omega) hk hn hd w
end
