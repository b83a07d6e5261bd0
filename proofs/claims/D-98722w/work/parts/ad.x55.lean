/-! THE START: what the premises say of the heap at the law's entry. Written by mod/mad.py -/
set_option maxRecDepth 100000
/-- a literal's bytes; its hash and whether that is 0; the order of the premises -/
def lib_ : List (List Int32) := [[112, 111, 115, 116], [110, 111, 116, 101, 115], [101, 114, 114, 111, 114, 115], [100, 114, 105, 102, 116], [115, 108, 105, 112], [105, 115, 108, 97, 110, 100], [119, 97, 121], [119, 104, 97, 108, 101], [98, 111, 120], [115, 112, 111, 117, 116], [100, 97, 121, 115], [111, 112, 101, 110], [99, 97, 108, 102], [99, 111, 119], [98, 117, 108, 108], [111, 108, 100], [97, 116], [107, 101, 101, 112, 115], [108, 111, 115, 116], [102, 114, 111, 109], [116, 111], [119, 101, 105, 103, 104, 115], [100, 97, 121], [], [112, 111, 115, 116], [105, 115, 108, 97, 110, 100], [119, 97, 121], [119, 104, 97, 108, 101], [98, 111, 120], [115, 112, 111, 117, 116], [110, 111, 116, 101, 115], [101, 114, 114, 111, 114, 115], [100, 114, 105, 102, 116], [115, 108, 105, 112], [100, 97, 121, 115], [111, 112, 101, 110], [99, 97, 108, 102], [99, 111, 119], [98, 117, 108, 108], [111, 108, 100], [97, 116], [107, 101, 101, 112, 115], [108, 111, 115, 116], [102, 114, 111, 109], [116, 111], [119, 101, 105, 103, 104, 115], [100, 97, 121], [], [112, 111, 115, 116], [105, 115, 108, 97, 110, 100], [119, 97, 121], [119, 104, 97, 108, 101], [98, 111, 120], [115, 112, 111, 117, 116]]
def lih_ : List (Int32 × Int32) := [(3446944, 0), (105008833, 0), ((-1294635157), 0), (95852457, 0), (3533120, 0), ((-1179387371), 0), (117487, 0), (113093929, 0), (97739, 0), (109651921, 0), (3076183, 0), (3417674, 0), (3045976, 0), (98699, 0), (3035411, 0), (110119, 0), (3123, 0), (101926286, 0), (3327780, 0), (3151786, 0), (3707, 0), ((-791592329), 0), (99228, 0), (0, 1), (3446944, 0), ((-1179387371), 0), (117487, 0), (113093929, 0), (97739, 0), (109651921, 0), (105008833, 0), ((-1294635157), 0), (95852457, 0), (3533120, 0), (3076183, 0), (3417674, 0), (3045976, 0), (98699, 0), (3035411, 0), (110119, 0), (3123, 0), (101926286, 0), (3327780, 0), (3151786, 0), (3707, 0), ((-791592329), 0), (99228, 0), (0, 1), (3446944, 0), ((-1179387371), 0), (117487, 0), (113093929, 0), (97739, 0), (109651921, 0)]
def ord_ : List Nat := [47, 23, 24, 25, 26, 27, 28, 29, 30, 31, 32, 33, 48, 49, 50, 51, 52, 53, 34, 35, 36, 37, 38, 39, 40, 41, 42, 43, 44, 45, 46, 0, 1, 2, 3, 4, 5, 6, 7, 8, 9, 10, 11, 12, 13, 14, 15, 16, 17, 18, 19, 20, 21, 22]
def ord2_ : List Nat := [47, 23, 24, 25, 26, 27, 28, 29, 30, 31, 32, 33, 48, 49, 50, 51, 52, 53, 34, 35, 36, 37, 38, 39, 40, 41, 42, 43, 44, 45, 46, 0, 1, 2, 3, 4, 5, 6, 7, 8, 9, 10, 11, 12, 13, 14, 15, 16, 17, 18, 19, 20, 21, 22]
def litx (i : Nat) : String × Nat × String := lit_.getD i ("", 0, "")
def litT (t : String × Nat × String) : Term := .string t.1 t.2.1
def litV (t : String × Nat × String) : Term := .field (litT t) "java/lang/String" "value" "[B"
def litA (t : String × Nat × String) (n : Nat) : List Cond := [.exactly (litT t) "java/lang/String", .eq (.field (litT t) "java/lang/String" "code\x72" "B") (.int 0), .arrayOf (litV t) .byte, .eq (.length (litV t)) (.int (Int32.ofNat n))]
def litB (t : String × Nat × String) (b : List Int32) : List Cond := (List.range b.length).map (fun j => .eq (.elem (litV t) (.int (Int32.ofNat j))) (.int (b.getD j 0)))
def litC (t : String × Nat × String) (h : Int32 × Int32) : List Cond := [.eq (.field (litT t) "java/lang/String" "hash" "I") (.int h.1), .eq (.field (litT t) "java/lang/String" "hashIsZero" "Z") (.int h.2)]
def lib (i : Nat) : List Int32 := lib_.getD i []
def lih (i : Nat) : Int32 × Int32 := lih_.getD i (0, 0)
def litQ (i : Nat) : List Cond := litA (litx i) (lib i).length ++ (litB (litx i) (lib i) ++ litC (litx i) (lih i))
def subl_ : List Cond → List Cond → Bool
  | [], _ => true
  | _ :: _, [] => false
  | a :: as, b :: bs => if a = b then subl_ as bs else subl_ (a :: as) bs
theorem subl_mem : ∀ (bs as : List Cond), subl_ as bs = true → ∀ w ∈ as, w ∈ bs := by
  intro bs
  induction bs with
  | nil =>
    intro as h w hw
    cases as with
    | nil => exact absurd hw List.not_mem_nil
    | cons a as => exact absurd h (by simp [subl_])
  | cons b bs ih =>
    intro as h w hw
    cases as with
    | nil => exact absurd hw List.not_mem_nil
    | cons a as =>
      unfold subl_ at h
      split at h
      · rename_i e
        rcases List.mem_cons.mp hw with q | q
        · rw [q, e]; exact List.mem_cons_self
        · exact List.mem_cons_of_mem _ (ih as h w q)
      · exact List.mem_cons_of_mem _ (ih _ h w hw)
theorem nar_lit : subl_ (ord_.flatMap litQ ++ ord2_.map (fun i => Cond.exactly (litV (litx i)) "[B")) (flatC narrow_1) = true := by decide +kernel
theorem ord_all : ∀ i, i < 54 → i ∈ ord_ ∧ i ∈ ord2_ := by decide +kernel
theorem lib_sm : ∀ i, i < 54 → (lib i).length ≤ 1000 := by decide +kernel
theorem lib_tx : ∀ i, i < 54 → (litx i).2.2.length = (lib i).length ∧ ∀ k, k < (lib i).length → tx_ (litx i).2.2 (k : Int) = ((lib i).getD k 0).toInt ∧ 0 ≤ ((lib i).getD k 0).toInt ∧ ((lib i).getD k 0).toInt ≤ 127 := by decide +kernel
theorem litQ_in {i : Nat} (hi : i < 54) : ∀ w ∈ litQ i, w ∈ flatC narrow_1 := fun w hw => subl_mem _ _ nar_lit w (List.mem_append_left _ (List.mem_flatMap.mpr ⟨i, (ord_all i hi).1, hw⟩))
theorem lit2_in {i : Nat} (hi : i < 54) : Cond.exactly (litV (litx i)) "[B" ∈ flatC narrow_1 := subl_mem _ _ nar_lit _ (List.mem_append_right _ (List.mem_map.mpr ⟨i, (ord_all i hi).2, rfl⟩))
/-- what is known of a literal: its object at a, its bytes at v -/
def LitF_ (args : Array Value) (s : State) (i a v : Nat) : Prop :=
  (litT (litx i)).eval args s none [] s = some (.ref a) ∧ va_O "java/lang/String" a (fun q => s.heap.size ≤ q) s s.heap ∧ va_OF "java/lang/String" "value" "[B" (.ref v) a (fun q => s.heap.size ≤ q) s s.heap ∧ va_OF "java/lang/String" "code\x72" "B" (.int 0) a (fun q => s.heap.size ≤ q) s s.heap ∧ va_OF "java/lang/String" "hash" "I" (.int (lih i).1) a (fun q => s.heap.size ≤ q) s s.heap ∧ va_OF "java/lang/String" "hashIsZero" "Z" (.int (lih i).2) a (fun q => s.heap.size ≤ q) s s.heap ∧
  va_T .byte v (lib i).length (fun j => .int ((lib i).getD j 0)) (fun q => s.heap.size ≤ q) s s.heap ∧ va_O "[B" v (fun q => s.heap.size ≤ q) s s.heap
section
variable {args : Array Value} {s : State}
theorem lit_start (hs : ∀ c ∈ flatC narrow_1, c.before args s = true) : ∃ K V : Nat → Nat, ∀ i : Nat, i < 54 → LitF_ args s i (K i) (V i) := by
  have hA : ∀ a : Nat, a < s.heap.size → ¬ (fun q : Nat => s.heap.size ≤ q) a := fun a h => Nat.not_le.mpr h
  have h0 : ∀ i : Nat, ∃ q : Nat × Nat, i < 54 → LitF_ args s i q.1 q.2 := by
    intro i
    by_cases hi : i < 54
    · have hw := fun w h => hs w (litQ_in hi w h)
      have mA := fun w h => hw w (List.mem_append_left _ h)
      have mB := fun w h => hw w (List.mem_append_right _ (List.mem_append_left _ h))
      have mC := fun w h => hw w (List.mem_append_right _ (List.mem_append_right _ h))
      obtain ⟨a, c, cA, kA, q1, q2, q3, q4, q5, q6, -⟩ := Cond.exactly_spec (args := args) (first := s) (o := none) (s := s) (idx := []) (t := litT (litx i)) (cls := "java/lang/String") (mA _ List.mem_cons_self)
      obtain ⟨t, ht, hT⟩ := va_Tof (f := fun j => .int ((lib i).getD j 0)) (A := fun q => s.heap.size ≤ q) (tm := litV (litx i)) (Nat.lt_of_le_of_lt (lib_sm i hi) (by decide)) (mA _ (List.mem_cons_of_mem _ (List.mem_cons_of_mem _ List.mem_cons_self))) (va_eqt (mA _ (List.mem_cons_of_mem _ (List.mem_cons_of_mem _ (List.mem_cons_of_mem _ List.mem_cons_self))))) (fun j hj => va_eqt (mB _ (List.mem_map.mpr ⟨j, List.mem_range.mpr hj, rfl⟩))) hA
      obtain ⟨a', c', cA', kA', p1, p2, p3, p4, p5, p6, -⟩ := Cond.exactly_spec (args := args) (first := s) (o := none) (s := s) (idx := []) (t := litV (litx i)) (cls := "[B") (hs _ (lit2_in hi))
      have e : a' = t := Value.ref.inj (Option.some.inj (p1.symm.trans ht))
      subst e
      exact ⟨(a, a'), fun _ => ⟨q1, ⟨cA, q3, q5, by rw [q6]; exact q2, hA a (Array.getElem?_eq_some_iff.mp q3).1⟩, vk_OFof q1 ht hA, vk_OFof q1 (va_eqt (mA _ (List.mem_cons_of_mem _ List.mem_cons_self))) hA, vk_OFof q1 (va_eqt (mC _ List.mem_cons_self)) hA, vk_OFof q1 (va_eqt (mC _ (List.mem_cons_of_mem _ List.mem_cons_self))) hA, hT, ⟨cA', p3, p5, by rw [p6]; exact p2, hA a' (Array.getElem?_eq_some_iff.mp p3).1⟩⟩⟩
    · exact ⟨(0, 0), fun h => absurd h hi⟩
  obtain ⟨ad, had⟩ := Classical.axiomOfChoice h0
  exact ⟨fun i => (ad i).1, fun i => (ad i).2, had⟩
theorem u_all (hts : ∀ w ∈ lw_tbl, w.before args s = true) : ∃ (dC : Nat → ClassId) (dI : Nat → Nat → Nat), ∀ (k : Nat) (q : vw_C), cls_[k]? = some q → u_Kn s q.1 q.2.1 q.2.2 (dC k) (dI k) := by
  have h0 : ∀ k : Nat, ∃ z : ClassId × (Nat → Nat), ∀ q : vw_C, cls_[k]? = some q → u_Kn s q.1 q.2.1 q.2.2 z.1 z.2 := by
    intro k
    by_cases hk : k < 19
    · have hi : ∀ q : vw_C, cls_[k]? = some q → ∃ n, (Cond.instantiable q.1 n).before args s = true := by
        intro q h
        match k, h with
        | 0, h => cases h; exact ⟨20, hts _ (lw_all_tbl q165)⟩
        | 1, h => cases h; exact ⟨39, hts _ (lw_all_tbl q1668)⟩
        | 2, h => cases h; exact ⟨3, hts _ (lw_all_tbl q173)⟩
        | 3, h => cases h; exact ⟨5, hts _ (lw_all_tbl q278)⟩
        | 4, h => cases h; exact ⟨3, hts _ (lw_all_tbl q280)⟩
        | 5, h => cases h; exact ⟨9, hts _ (lw_all_tbl q300)⟩
        | 6, h => cases h; exact ⟨4, hts _ (lw_all_tbl q364)⟩
        | 7, h => cases h; exact ⟨4, hts _ (lw_all_tbl q389)⟩
        | 8, h => cases h; exact ⟨4, hts _ (lw_all_tbl q519)⟩
        | 9, h => cases h; exact ⟨2, hts _ (lw_all_tbl q807)⟩
        | 10, h => cases h; exact ⟨4, hts _ (lw_all_tbl q898)⟩
        | 11, h => cases h; exact ⟨4, hts _ (lw_all_tbl q935)⟩
        | 12, h => cases h; exact ⟨4, hts _ (lw_all_tbl q962)⟩
        | 13, h => cases h; exact ⟨4, hts _ (lw_all_tbl q970)⟩
        | 14, h => cases h; exact ⟨4, hts _ (lw_all_tbl q981)⟩
        | 15, h => cases h; exact ⟨5, hts _ (lw_all_tbl q1003)⟩
        | 16, h => cases h; exact ⟨3, hts _ (lw_all_tbl q1045)⟩
        | 17, h => cases h; exact ⟨7, hts _ (lw_all_tbl q1074)⟩
        | 18, h => cases h; exact ⟨6, hts _ (lw_all_tbl q1607)⟩
        | n + 19, h => rw [List.getElem?_eq_none (show 19 ≤ n + 19 by omega)] at h; cases h
      obtain ⟨q, hq⟩ : ∃ q, cls_[k]? = some q := ⟨_, List.getElem?_eq_getElem (show k < cls_.length from hk)⟩
      obtain ⟨n, hn⟩ := hi q hq
      obtain ⟨C, T, N⟩ := q
      obtain ⟨c, iS, h⟩ := u_known (C := C) (T := T) (N := N) (n := n) hts (fun w hw => lw_all_tbl (cls_in hq w hw)) hn
      exact ⟨(c, iS), fun q' hq' => by cases hq.symm.trans hq'; exact h⟩
    · exact ⟨(0, fun _ => 0), fun q hq => absurd ((List.getElem?_eq_some_iff.mp hq).1) hk⟩
  obtain ⟨z, hz⟩ := Classical.axiomOfChoice h0
  exact ⟨fun k => (z k).1, fun k => (z k).2, hz⟩
theorem of_slot {C f d : String} {i a : Nat} {v : Value} {A : Nat → Prop} {H : Heap} {cell : Cell} (h1 : SlotIs s C f d i) (h2 : va_OF C f d v a A s H) (h3 : H[a]? = some cell) : cell.slots[i]? = some v := by
  obtain ⟨cf, kf, fi, fd, e1, e2⟩ := h1
  obtain ⟨cf', kf', fi', fd', cell', g1, -, g3, -, g5, -⟩ := h2
  cases Option.some.inj (e1.symm.trans g1)
  cases Option.some.inj (h3.symm.trans g3)
  rw [← e2]
  exact g5
end
/-! the abstract heap at the start -/
noncomputable def st_sh (K V : Nat → Nat) (E : Nat) (a : Nat) : Option JS := by
  classical
  exact if ∃ i, i < 54 ∧ K i = a then some (.inl 8) else if h : ∃ i, i < 54 ∧ V i = a then some (.inr (1, (lib (Classical.choose h)).length)) else if a = E then some (.inr (3, 0)) else none
noncomputable def st_v (c8 : ClassId) (D8 : Nat → Nat) (H : Heap) (a : Nat) (k : Int) : Value := match H[a]? with
  | none => .null
  | some c => (c.slots[if c.cls = c8 then D8 k.toNat else k.toNat]?).getD .null
def vi_ (v : Value) : Int := match v with | .int x => x.toInt | _ => 0
def vr_ (v : Value) : Option Nat := match v with | .ref q => some q | _ => none
noncomputable def sth_ (K V : Nat → Nat) (E : Nat) (c8 : ClassId) (D8 : Nat → Nat) (H : Heap) : JH := (st_sh K V E, fun a k => vi_ (st_v c8 D8 H a k), fun a k => vr_ (st_v c8 D8 H a k), H.size, su_ H)
theorem cl_ne {s : State} {n n' : String} {c c' : ClassId} (h : s.vm.findClass n = some c) (h' : s.vm.findClass n' = some c') (hn : n ≠ n') : c ≠ c' := by
  rintro rfl
  obtain ⟨k, e1, e2⟩ := Vm.findClass_spec h
  obtain ⟨k', f1, f2⟩ := Vm.findClass_spec h'
  cases Option.some.inj (e1.symm.trans f1)
  exact hn (e2.symm.trans f2)
theorem o32_inj {n m : Nat} (hn : n ≤ 1000) (hm : m ≤ 1000) (h : Int32.ofNat n = Int32.ofNat m) : n = m := by
  have h1 := congrArg Int32.toInt h
  rw [Int32.toInt_ofNat_of_lt (by omega), Int32.toInt_ofNat_of_lt (by omega)] at h1
  omega
section
variable {args : Array Value} {s : State} {K V : Nat → Nat} {E : Nat} {dC : Nat → ClassId} {dI : Nat → Nat → Nat} {cB cO : ClassId}
/-- a literal's cells -/
theorem st_cell (hKc : ∀ (k : Nat) (q : vw_C), cls_[k]? = some q → u_Kn s q.1 q.2.1 q.2.2 (dC k) (dI k)) {i : Nat} (h : LitF_ args s i (K i) (V i)) : ∃ cell : Cell, s.heap[K i]? = some cell ∧ cell.cls = dC 8 ∧ cell.vm.isStatics = false ∧ cell.vm ≠ .unknown ∧ cell.slots[dI 8 0]? = some (.ref (V i)) ∧ cell.slots[dI 8 1]? = some (.int 0) ∧ cell.slots[dI 8 2]? = some (.int (lih i).1) ∧ cell.slots[dI 8 3]? = some (.int (lih i).2) := by
  obtain ⟨-, ⟨cell, g1, g2, g3, -⟩, f0, f1, f2, f3, -⟩ := h
  have h8 := hKc 8 _ rfl
  have hu : cell.vm ≠ .unknown := by
    obtain ⟨-, -, -, -, cell', -, -, e3, e4, -⟩ := id f0
    cases Option.some.inj (g1.symm.trans e3)
    exact e4
  exact ⟨cell, g1, Option.some.inj (g3.symm.trans h8.2.1), g2, hu, of_slot (h8.1 0 (by decide)) f0 g1, of_slot (h8.1 1 (by decide)) f1 g1, of_slot (h8.1 2 (by decide)) f2 g1, of_slot (h8.1 3 (by decide)) f3 g1⟩
theorem st_arr (hB : s.vm.findClass "[B" = some cB) {i : Nat} (h : LitF_ args s i (K i) (V i)) : ∃ cell : Cell, s.heap[V i]? = some cell ∧ cell.cls = cB ∧ cell.vm.isStatics = false ∧ cell.vm ≠ .unknown ∧ (lib i).length ≤ cell.slots.size ∧ cell.slots.size.toInt32 = Int32.ofNat (lib i).length ∧ ∀ j : Nat, j < (lib i).length → cell.slots[j]? = some (.int ((lib i).getD j 0)) := by
  obtain ⟨-, -, -, -, -, -, ⟨cell, g1, -, g3, g4, g5, g6, -⟩, ⟨cell', e1, e2, e3, -⟩⟩ := h
  cases Option.some.inj (g1.symm.trans e1)
  exact ⟨cell, g1, Option.some.inj (e3.symm.trans hB), e2, g3, g4, g5, g6⟩
theorem st_v_str {H : Heap} {c8 : ClassId} {D8 : Nat → Nat} {a : Nat} {cell : Cell} {v : Value} {k : Nat} (h : H[a]? = some cell) (hc : cell.cls = c8) (hv : cell.slots[D8 k]? = some v) : st_v c8 D8 H a (k : Int) = v := by
  unfold st_v
  rw [h]
  show (cell.slots[if cell.cls = c8 then D8 (k : Int).toNat else (k : Int).toNat]?).getD .null = v
  rw [if_pos hc, Int.toNat_natCast, hv]
  rfl
theorem st_v_arr {H : Heap} {c8 : ClassId} {D8 : Nat → Nat} {a : Nat} {cell : Cell} {v : Value} {k : Nat} (h : H[a]? = some cell) (hc : cell.cls ≠ c8) (hv : cell.slots[k]? = some v) : st_v c8 D8 H a (k : Int) = v := by
  unfold st_v
  rw [h]
  show (cell.slots[if cell.cls = c8 then D8 (k : Int).toNat else (k : Int).toNat]?).getD .null = v
  rw [if_neg hc, Int.toNat_natCast, hv]
  rfl
end
/-- the tables' words that are known ones -/
theorem nwC_in : ∀ q ∈ nwC_, Cond.castable q.1 q.2 ∈ lw_tbl := by decide +kernel
theorem nwF_in : ∀ q ∈ nwF_, Cond.fieldLinkNest q.1 q.2.1 q.2.2.1 q.2.2.2.1 q.2.2.2.2.1 q.2.2.2.2.2 ∈ lw_tbl := by decide +kernel
theorem nwM_in : ∀ q ∈ nwM_, Cond.methodLinkNest q.1 q.2.1 q.2.2.1 q.2.2.2 ∈ lw_tbl := by decide +kernel
theorem nwD_in : ∀ q ∈ nwD_, Cond.declares q ∈ lw_tbl := by decide +kernel
theorem lit_in : ∀ i, i < 54 → Cond.stringRef (litx i).1 (litx i).2.1 (litx i).2.2 ∈ lw_tbl := by decide +kernel
theorem sel_priv {args : Array Value} {s : State} {y x' y' : MethodName} {C : String} {n : Nat} (hy : y.cls ≠ "java/lang/invoke/MethodHandle" ∧ y.cls ≠ "java/lang/invoke/VarHandle") (hins : (Cond.instantiable C n).before args s = true) (hpriv : (Cond.privateMethod y).before args s = true) (hinst : (Cond.instanceMethod y).before args s = true) (hs : (Cond.selects C x' y').before args s = true) (he : y'.cls = y.cls) : (Cond.selects C y y).before args s = true := by
  obtain ⟨c, k, hc, -⟩ := Cond.instantiable_spec hins
  obtain ⟨mk, methM, hnamed, hmethM, -, -⟩ := Cond.instanceMethod_spec hinst
  have hfound : s.methodFound? y.cls y.name y.desc = some mk := State.methodFound?_of_named hnamed hy
  obtain ⟨c2, r2, m2, p1, p2, p3, p4, k2, hk2, hki⟩ := Cond.selects_spec hs
  have e : m2.cls = mk.cls := Option.some.inj ((findClass_of_methodNamed p3).symm.trans (by rw [he]; exact findClass_of_methodNamed hnamed))
  rw [e] at hk2
  have hsel : selectMethod {} s.vm c mk = .method mk := selectMethod_private hmethM (Cond.privateMethod_at hpriv mk methM hnamed hmethM)
  simp only [Cond.before, Cond.holds, Cond.value, hc, hfound, hnamed, hsel, hk2]
  simp; exact hki
theorem zst_in : ∀ q ∈ zst_, (Cond.laysStatic q.1 q.2.1 q.2.2.1 ∈ lw_tbl ∧ Cond.initialized q.1 ∈ lw_tbl) ∧ Cond.eq (.static q.1 q.2.1 q.2.2.1) (.int q.2.2.2) ∈ flatC narrow_1 := by decide +kernel
theorem zrf_in : ∀ q ∈ zrf_, (Cond.laysStatic q.1 q.2.1 q.2.2 ∈ lw_tbl ∧ Cond.initialized q.1 ∈ lw_tbl) ∧ Cond.isRef (.static q.1 q.2.1 q.2.2) ∈ flatC narrow_1 := by decide +kernel
theorem zrx_in : ∀ q ∈ zrx_, (Cond.laysStatic q.1 q.2.1 q.2.2 ∈ lw_tbl ∧ Cond.initialized q.1 ∈ lw_tbl) ∧ Cond.isRef (.static q.1 q.2.1 q.2.2) ∈ flatC narrow_1 := by decide +kernel
theorem emp_in : ((Cond.laysStatic "java/util/ArrayList" "DEFAULTCAPACITY_EMPTY_ELEMENTDATA" "[Ljava/lang/Object;" ∈ lw_tbl ∧ Cond.initialized "java/util/ArrayList" ∈ lw_tbl) ∧ Cond.isRef (.mirror "[Ljava/lang/Object;") ∈ flatC narrow_1) ∧ Cond.exactly (.static "java/util/ArrayList" "DEFAULTCAPACITY_EMPTY_ELEMENTDATA" "[Ljava/lang/Object;") "[Ljava/lang/Object;" ∈ flatC narrow_1 ∧ Cond.arrayOf (.static "java/util/ArrayList" "DEFAULTCAPACITY_EMPTY_ELEMENTDATA" "[Ljava/lang/Object;") (.object "java/lang/Object") ∈ flatC narrow_1 ∧ Cond.eq (.length (.static "java/util/ArrayList" "DEFAULTCAPACITY_EMPTY_ELEMENTDATA" "[Ljava/lang/Object;")) (.int (Int32.ofNat 0)) ∈ flatC narrow_1 := by decide +kernel
theorem lit_len : lit_.length = 54 := by decide +kernel
theorem litx_at {i : Nat} {q : String × Nat × String} (h : lit_[i]? = some q) : i < 54 ∧ litx i = q := by
  refine ⟨by have := (List.getElem?_eq_some_iff.mp h).1; rw [lit_len] at this; exact this, ?_⟩
  unfold litx
  rw [List.getD_eq_getElem?_getD, h]
  rfl
theorem law_start {l : Launch} {s : State} {args : Array Value} (hts : ∀ w ∈ lw_tbl, w.before args s = true) (hs : ∀ c ∈ flatC narrow_1, c.before args s = true) : ∃ (G : JG) (σ : JH), gl_ G = l ∧ gH_ G = s.heap ∧ Kn_ G s ∧ Rp_ G σ s.heap ∧ LS_ G σ ∧ LZ_ G σ ∧ gK_ G 23 < s.heap.size ∧ gK_ G 100 < s.heap.size ∧ sh_ σ (gK_ G 100) = some (.inr (3, 0)) ∧ sz_ σ = s.heap.size ∧ us_ σ = su_ s.heap := by
  obtain ⟨dC, dI, hKc⟩ := u_all hts
  obtain ⟨K, V, hL⟩ := lit_start hs
  have hA : ∀ a : Nat, a < s.heap.size → ¬ (fun q : Nat => s.heap.size ≤ q) a := fun a h => Nat.not_le.mpr h
  obtain ⟨cI, kI, pI, i1, i2, i3⟩ := Cond.arrayClass_spec (hts _ (lw_all_tbl q260))
  obtain ⟨cB, kB, pB, b1, b2, b3⟩ := Cond.arrayClass_spec (hts _ (lw_all_tbl q198))
  obtain ⟨cL, kL, pL, l1, l2, l3⟩ := Cond.arrayClass_spec (hts _ (lw_all_tbl q261))
  obtain ⟨pO, cO, kO, o1, -, o3, o4, o5⟩ := Cond.arrayOver_spec (hts _ q871)
  obtain ⟨⟨⟨em1, em2⟩, em3⟩, em4, em5, em6⟩ := emp_in
  obtain ⟨M, hM⟩ := va_Mi.of (hs _ em3)
  obtain ⟨E, c9, cE, kE, x1, x2, x3, x4, x5, x6, -⟩ := Cond.exactly_spec (args := args) (first := s) (o := none) (s := s) (idx := []) (t := .static "java/util/ArrayList" "DEFAULTCAPACITY_EMPTY_ELEMENTDATA" "[Ljava/lang/Object;") (cls := "[Ljava/lang/Object;") (hs _ em4)
  obtain ⟨E', y1, y2⟩ := va_Tof (f := fun _ => .null) (A := fun q => s.heap.size ≤ q) (N := 0) (by decide) (hs _ em5) (va_eqt (hs _ em6)) (fun j hj => absurd hj (by omega)) hA
  have e9 : E' = E := Value.ref.inj (Option.some.inj (y1.symm.trans x1))
  subst e9
  have b1' := b1
  have o5' := o5
  rw [show ("[" ++ FieldType.byte.toString) = "[B" by decide +kernel] at b1
  rw [show ("[" ++ (FieldType.object "java/lang/Object").toString) = "[Ljava/lang/Object;" by decide +kernel] at o5
  have hEc : cE.cls = cO := by rw [x6]; exact Option.some.inj (x2.symm.trans o5)
  have c8 : s.vm.findClass "java/lang/String" = some (dC 8) := (hKc 8 _ rfl).2.1
  have n1 : dC 8 ≠ cB := cl_ne c8 b1 (by decide)
  have n2 : dC 8 ≠ cO := cl_ne c8 o5 (by decide)
  have n3 : cB ≠ cO := cl_ne b1 o5 (by decide)
  have hE : E' < s.heap.size := (Array.getElem?_eq_some_iff.mp x3).1
  have hKs : ∀ i, i < 54 → K i < s.heap.size := fun i hi => by
    obtain ⟨cell, g, -⟩ := st_cell hKc (hL i hi)
    exact (Array.getElem?_eq_some_iff.mp g).1
  have hVs : ∀ i, i < 54 → V i < s.heap.size := fun i hi => by
    obtain ⟨cell, g, -⟩ := st_arr b1 (hL i hi)
    exact (Array.getElem?_eq_some_iff.mp g).1
  have kv : ∀ i j, i < 54 → j < 54 → K i ≠ V j := fun i j hi hj q => by
    obtain ⟨cell, g1, g2, -⟩ := st_cell hKc (hL i hi)
    obtain ⟨cell', f1, f2, -⟩ := st_arr b1 (hL j hj)
    rw [q, f1] at g1
    cases g1
    exact n1 (g2.symm.trans f2)
  have ke : ∀ i, i < 54 → K i ≠ E' := fun i hi q => by
    obtain ⟨cell, g1, g2, -⟩ := st_cell hKc (hL i hi)
    rw [q, x3] at g1
    cases g1
    exact n2 (g2.symm.trans hEc)
  have ve : ∀ i, i < 54 → V i ≠ E' := fun i hi q => by
    obtain ⟨cell, g1, g2, -⟩ := st_arr b1 (hL i hi)
    rw [q, x3] at g1
    cases g1
    exact n3 (g2.symm.trans hEc)
  obtain ⟨G, hG⟩ : ∃ G : JG, G = (l, dC, dI, (fun t => if t = 0 then cI else if t = 1 then cB else if t = 2 then cL else cO), s.heap, (fun i => if i < 54 then K i else if i = 100 then E' else M)) := ⟨_, rfl⟩
  have gk : ∀ i, i < 54 → gK_ G i = K i := fun i hi => by rw [hG]; exact if_pos hi
  have gk100 : gK_ G 100 = E' := by rw [hG]; rfl
  have gk101 : gK_ G 101 = M := by rw [hG]; rfl
  have gH : gH_ G = s.heap := by rw [hG]; rfl
  have gD : ∀ i, gD_ G i = dI i := fun i => by rw [hG]; rfl
  have gC : ∀ i, gC_ G i = dC i := fun i => by rw [hG]; rfl
  have gA1 : gA_ G 1 = cB := by rw [hG]; rfl
  have gA3 : gA_ G 3 = cO := by rw [hG]; rfl
  have sK : ∀ i, i < 54 → sh_ (sth_ K V E' (dC 8) (dI 8) s.heap) (K i) = some (.inl 8) := fun i hi => if_pos ⟨i, hi, rfl⟩
  have sV : ∀ i, i < 54 → sh_ (sth_ K V E' (dC 8) (dI 8) s.heap) (V i) = some (.inr (1, (lib i).length)) := fun i hi => by
    have h1 : ∃ j, j < 54 ∧ V j = V i := ⟨i, hi, rfl⟩
    show st_sh K V E' (V i) = _
    unfold st_sh
    rw [if_neg (fun ⟨j, hj, q⟩ => kv j i hj hi q), dif_pos h1]
    obtain ⟨c1, c2⟩ := Classical.choose_spec h1
    obtain ⟨cell, g1, -, -, -, -, g2, -⟩ := st_arr b1 (hL i hi)
    obtain ⟨cell', f1, -, -, -, -, f2, -⟩ := st_arr b1 (hL _ c1)
    rw [c2, g1] at f1
    cases f1
    rw [o32_inj (lib_sm _ c1) (lib_sm i hi) (f2.symm.trans g2)]
  have sE : sh_ (sth_ K V E' (dC 8) (dI 8) s.heap) E' = some (.inr (3, 0)) := by
    show st_sh K V E' E' = _
    unfold st_sh
    rw [if_neg (fun ⟨j, hj, q⟩ => ke j hj q), dif_neg (fun ⟨j, hj, q⟩ => ve j hj q), if_pos rfl]
  have r0 : ∀ i, i < 54 → rv_ (sth_ K V E' (dC 8) (dI 8) s.heap) (K i) 0 = some (V i) := fun i hi => by
    obtain ⟨cell, g1, g2, -, -, g5, -⟩ := st_cell hKc (hL i hi)
    show vr_ (st_v (dC 8) (dI 8) s.heap (K i) ((0 : Nat) : Int)) = _
    rw [st_v_str g1 g2 g5]
    rfl
  have i1' : ∀ i, i < 54 → iv_ (sth_ K V E' (dC 8) (dI 8) s.heap) (K i) 1 = 0 := fun i hi => by
    obtain ⟨cell, g1, g2, -, -, -, g6, -⟩ := st_cell hKc (hL i hi)
    show vi_ (st_v (dC 8) (dI 8) s.heap (K i) ((1 : Nat) : Int)) = _
    rw [st_v_str g1 g2 g6]
    rfl
  have i2' : ∀ i, i < 54 → iv_ (sth_ K V E' (dC 8) (dI 8) s.heap) (K i) 2 = (lih i).1.toInt := fun i hi => by
    obtain ⟨cell, g1, g2, -, -, -, -, g7, -⟩ := st_cell hKc (hL i hi)
    show vi_ (st_v (dC 8) (dI 8) s.heap (K i) ((2 : Nat) : Int)) = _
    rw [st_v_str g1 g2 g7]
    rfl
  have i3' : ∀ i, i < 54 → iv_ (sth_ K V E' (dC 8) (dI 8) s.heap) (K i) 3 = (lih i).2.toInt := fun i hi => by
    obtain ⟨cell, g1, g2, -, -, -, -, -, g8⟩ := st_cell hKc (hL i hi)
    show vi_ (st_v (dC 8) (dI 8) s.heap (K i) ((3 : Nat) : Int)) = _
    rw [st_v_str g1 g2 g8]
    rfl
  have iV : ∀ i, i < 54 → ∀ j : Nat, j < (lib i).length → iv_ (sth_ K V E' (dC 8) (dI 8) s.heap) (V i) (j : Int) = ((lib i).getD j 0).toInt := fun i hi j hj => by
    obtain ⟨cell, g1, g2, -, -, -, -, g8⟩ := st_arr b1 (hL i hi)
    show vi_ (st_v (dC 8) (dI 8) s.heap (V i) (j : Int)) = _
    rw [st_v_arr g1 (by rw [g2]; exact fun q => n1 q.symm) (g8 j hj)]
    rfl
  have hRp : Rp_ G (sth_ K V E' (dC 8) (dI 8) s.heap) s.heap := by
    refine ⟨⟨rfl, rfl, by rw [gH]; exact Nat.le_refl _, by unfold lc_; rw [gH]; exact Nat.le_add_right _ _, by unfold ls_; rw [gH]; exact Nat.le_add_right _ _⟩, fun q _ => by rw [gH], fun a sp hsp0 => ?_⟩
    have hsp : st_sh K V E' a = some sp := hsp0
    clear hsp0
    unfold st_sh at hsp
    split at hsp
    · rename_i h
      obtain ⟨i, hi, rfl⟩ := h
      cases hsp
      obtain ⟨cell, g1, g2, g3, g4, g5, g6, g7, g8⟩ := st_cell hKc (hL i hi)
      refine ⟨cell, g1, ⟨g3, g4, fun q => by rw [gH] at q; have := hKs i hi; omega⟩, (RJ5, TJ5, 4), rfl, by rw [gC]; exact g2, fun k hk => ?_⟩
      rw [gD]
      match k, hk with
      | 0, _ => rw [show (((0 : Nat) : Int)) = 0 from rfl, r0 i hi]; exact g5
      | 1, _ => rw [show (((1 : Nat) : Int)) = 1 from rfl, i1' i hi]; exact g6
      | 2, _ => rw [show (((2 : Nat) : Int)) = 2 from rfl, i2' i hi]; exact g7.trans (congrArg some (congrArg Value.int (Int32.ofInt_toInt _).symm))
      | 3, _ => rw [show (((3 : Nat) : Int)) = 3 from rfl, i3' i hi]; exact g8.trans (congrArg some (congrArg Value.int (Int32.ofInt_toInt _).symm))
      | n + 4, h => exact absurd h (by show ¬ n + 4 < 4; omega)
    · split at hsp
      · rename_i h
        cases hsp
        obtain ⟨c1, c2⟩ := Classical.choose_spec h
        obtain ⟨cell, g1, g2, g3, g4, g5, g6, g7⟩ := st_arr b1 (hL _ c1)
        have hsm := lib_sm _ c1
        have hvs := hVs _ c1
        have hiv := iV _ c1
        rw [c2] at g1 hvs hiv
        refine ⟨cell, g1, ⟨g3, g4, fun q => by rw [gH] at q; omega⟩, by rw [gA1]; exact g2, by omega, g5, g6, fun j hj => ?_⟩
        rw [hiv j hj]
        exact (g7 j hj).trans (congrArg some (congrArg Value.int (Int32.ofInt_toInt _).symm))
      · split at hsp
        · rename_i h
          subst h
          cases hsp
          obtain ⟨cell, g1, -, g3, g4, g5, -, -⟩ := y2
          cases Option.some.inj (x3.symm.trans g1)
          exact ⟨cE, x3, ⟨x5, g3, fun q => by rw [gH] at q; omega⟩, by rw [gA3]; exact hEc, by decide, Nat.zero_le _, g5, fun j hj => absurd hj (by omega)⟩
        · cases hsp
  refine ⟨G, sth_ K V E' (dC 8) (dI 8) s.heap, by rw [hG]; rfl, gH, ?_, hRp, fun i q hq => ?_, ?_, by rw [gk 23 (by decide)]; exact hKs 23 (by decide), by rw [gk100]; exact hE, by rw [gk100]; exact sE, rfl, rfl⟩
  · have hAr : ∀ (k : Nat) (q : ClassId × FieldType), [(gA_ G 0, FieldType.int), (gA_ G 1, .byte), (gA_ G 2, .long), (gA_ G 3, .object "java/lang/Object")][k]? = some q → ArrOfT s q.1 q.2 ∧ va_RA s q.1 q.2 := by
      intro k q h
      rw [hG] at h
      match k, h with
      | 0, h => cases h; exact (show ArrOfT s cI .int ∧ va_RA s cI .int from ⟨fun n z => ⟨fun k h => (by cases h), kI, i2, pI, i3⟩, i1⟩)
      | 1, h => cases h; exact (show ArrOfT s cB .byte ∧ va_RA s cB .byte from ⟨fun n z => ⟨fun k h => (by cases h), kB, b2, pB, b3⟩, b1'⟩)
      | 2, h => cases h; exact (show ArrOfT s cL .long ∧ va_RA s cL .long from ⟨fun n z => ⟨fun k h => (by cases h), kL, l2, pL, l3⟩, l1⟩)
      | 3, h => cases h; exact (show ArrOfT s cO (.object "java/lang/Object") ∧ va_RA s cO (.object "java/lang/Object") from ⟨fun n z => ⟨fun k h => (by cases h), kO, o3, pO, o4⟩, ⟨kO, pO, o3, o4, o1, o5'⟩⟩)
      | n + 4, h => rw [List.getElem?_eq_none (show 4 ≤ n + 4 by omega)] at h; cases h
    refine ⟨⟨fun k q hq => ?_, hAr⟩, fun q hq => va_Nw.of rfl (hts _ (nwC_in q hq)), fun q hq => va_Nw.of rfl (hts _ (nwF_in q hq)), fun q hq => va_Nw.of rfl (hts _ (nwM_in q hq)), fun q hq => va_Nw.of rfl (hts _ (nwD_in q hq)), va_AO.of (hts _ q871), fun i q hq => ?_, fun q hq => ?_, ?_, by rw [gk101]; exact hM, fun q hq => ?_, va_Nw.of rfl (sel_priv (by decide) (hts _ (lw_all_tbl q389)) (hts _ q427) (hts _ (lw_all_tbl q428)) (hts _ (lw_all_tbl q464)) rfl), fun q hq => ?_⟩
    · rw [show (gC_ G, gD_ G).1 k = dC k from gC k, show (gC_ G, gD_ G).2 k = dI k from gD k]; exact hKc k q hq
    · obtain ⟨hi, e⟩ := litx_at hq
      rw [gk i hi, ← e]
      exact vk_R.of (hts _ (lit_in i hi)) (hL i hi).1
    · obtain ⟨⟨h1, h2⟩, h3⟩ := zst_in q hq
      rw [gH]
      exact va_Zof (hts _ h1) (hts _ h2) (va_eqt (hs _ h3)) hA
    · rw [gH, gk100]
      exact va_Zof (hts _ em1) (hts _ em2) x1 hA
    · obtain ⟨⟨h1, h2⟩, h3⟩ := zrf_in q hq
      rw [gH]
      exact va_Zqof (hts _ h1) (hts _ h2) (hs _ h3) hA
    · obtain ⟨⟨h1, h2⟩, h3⟩ := zrx_in q hq
      rw [gH]
      exact vx_Zqof (hts _ h1) (hts _ h2) (hs _ h3) hA
  · obtain ⟨hi, e⟩ := litx_at hq
    obtain ⟨t1, t2⟩ := lib_tx i hi
    rw [e] at t1 t2
    refine ⟨V i, ⟨by rw [gk i hi]; exact sK i hi, by rw [gk i hi]; exact r0 i hi, by rw [t1]; exact sV i hi, by rw [gk i hi]; exact i1' i hi, by rw [t1]; exact lib_sm i hi, fun k k0 k1 => ?_⟩, by rw [gH, gk i hi]; exact hKs i hi, by rw [gH]; exact hVs i hi⟩
    obtain ⟨j, rfl⟩ : ∃ j : Nat, k = (j : Int) := ⟨k.toNat, by omega⟩
    have hj : j < (lib i).length := by rw [t1] at k1; omega
    have h9 := t2 j hj
    exact ⟨(iV i hi j hj).trans h9.1.symm, by rw [h9.1]; exact h9.2⟩
  · have h23 : lih 23 = (0, 1) := by decide +kernel
    refine ⟨?_, ?_⟩
    · rw [gk 23 (by decide), i2' 23 (by decide), h23]; rfl
    · rw [gk 23 (by decide), i3' 23 (by decide), h23]; rfl
