/-! THE JDK: strings compared, hashed, built. Written by mod/m76.py -/
set_option maxRecDepth 100000
/-- an int as the machine holds it -/
def w32_ (x : Int) : Int := (Int32.ofInt x).toInt
theorem w32_in (x : Int) : -2147483648 ≤ w32_ x ∧ w32_ x < 2147483648 := by
  have h1 := (Int32.ofInt x).le_toInt
  have h2 := (Int32.ofInt x).toInt_le
  unfold w32_
  constructor
  · exact h1
  · exact Int.lt_of_le_of_lt h2 (by decide)
section
variable {G : JG} {R : Room} {y : MethodName} {cc : ByteArray} {nL : Nat} {ret : Option FieldType} {σ0 σ : JH} {Z : List Frame → Array Value → State → State → Prop} {pc : Nat} {ev : List (Option AV)} {st : List AV}
theorem g_w32 {e : Int} (k : Go_ G R y cc nL ret σ0 Z pc ev (I_ (w32_ e) :: st) σ) : Go_ G R y cc nL ret σ0 Z pc ev (I_ e :: st) σ := by
  intro p e' s m args below meth c H locs cells slots ls C hr hl hv
  have w := k p e' s m args below meth c H locs cells slots ls C hr hl hv
  have ev1 : av_ (I_ (w32_ e)) = av_ (I_ e) := congrArg Value.int (Int32.ofInt_toInt _)
  rw [List.map_cons, ev1] at w
  exact w
end
/-- a text's hash, unbounded -/
def hsh_ (c : Int → Int) (n : Int) : Int := iI_ (fun k h => 31 * h + c k) 0 n
theorem hsh_1 (c : Int → Int) : hsh_ c 1 = c 0 := by
  show hsh_ c (0 + 1) = _
  unfold hsh_
  rw [iI_s _ _ (by omega), iI_0]
  omega
theorem hsh_cg {c d : Int → Int} {n : Int} (h : ∀ k, 0 ≤ k → k < n → c k = d k) : hsh_ c n = hsh_ d n := iI_congr fun k x h0 h1 => by rw [h k h0 h1]
theorem i2b_id {x : Int} (h : 0 ≤ x ∧ x ≤ 127) : i2b_ x = x := by
  obtain ⟨n, rfl⟩ := Int.eq_ofNat_of_zero_le h.1
  have hn : n < 128 := by omega
  have : ∀ k : Fin 128, i2b_ ((k.val : Nat) : Int) = ((k.val : Nat) : Int) := by decide +kernel
  exact this ⟨n, hn⟩
section
variable {G : JG} {σ : JH}
theorem js_leq {v w n n' : Nat} {Q : Int → JH → Prop} (hv : sh_ σ v = some (.inr (1, n))) (hw : sh_ σ w = some (.inr (1, n'))) (hn : n ≤ 1000 ∧ n' ≤ 1000) (hb : ∀ k, 0 ≤ k → k < (n : Int) → 0 ≤ iv_ σ v k ∧ iv_ σ v k ≤ 127) (hb' : ∀ k, 0 ≤ k → k < (n' : Int) → 0 ≤ iv_ σ w k ∧ iv_ σ w k ≤ 127)
    (hQ : ∀ z : Int, (z = 1 ∧ (n = n' ∧ ∀ k, 0 ≤ k → k < (n : Int) → iv_ σ v k = iv_ σ w k)) ∨ (z = 0 ∧ ¬ (n = n' ∧ ∀ k, 0 ≤ k → k < (n : Int) → iv_ σ v k = iv_ σ w k)) → Q z σ) : CallI_ G 2 yJ10_equals cJ10_equals 3 (some .boolean) [A_ (some v), A_ (some w)] σ Q := by
  refine call_go [some (A_ (some v)), some (A_ (some w)), none] (by decide) (Nat.le_of_ble_eq_true rfl) rfl ?_
  have L9 : ∀ (fu : Nat) (i : Int), (n : Int) - i < (fu : Int) → (0 ≤ i) → (i ≤ n) → (n = n') → (∀ k, 0 ≤ k → k < i → iv_ σ v k = iv_ σ w k) → GoM_ G 2 yJ10_equals cJ10_equals 3 (some .boolean) σ (fun v σ' => ∃ x : Int, v = some (I_ x) ∧ Q x σ') 9 [some (A_ (some v)), some (A_ (some w)), some (I_ i)] [] σ := by
    intro fu
    induction fu with
    | zero => intro i hn h0 h1 hnn ha; exact absurd hn (by omega)
    | succ fu ih =>
      intro i hn h0 h1 hnn ha
      refine g_il2 dJ10_equals_9 ?_
      refine g_al0 dJ10_equals_10 ?_
      refine g_alen (by decide) hv dJ10_equals_11 ?_
      refine g_icmp_ge (tgt := 32) dJ10_equals_12 (by decide) (by omega) (fun h12 => ?_) (fun h12 => ?_)
      · refine g_iconst dJ10_equals_32 ?_
        exact g_zret rfl (by omega) dJ10_equals_33 ⟨_, rfl, hQ _ (Or.inl ⟨rfl, by omega, fun k k0 k1 => ha k k0 (by omega)⟩)⟩
      refine g_al0 dJ10_equals_15 ?_
      refine g_il2 dJ10_equals_16 ?_
      have b1 := hb i (by omega) (by omega)
      have b2 := hb' i (by omega) (by omega)
      refine g_bald hv (by omega) dJ10_equals_17 ?_
      refine g_al1 dJ10_equals_18 ?_
      refine g_il2 dJ10_equals_19 ?_
      refine g_bald hw (by omega) dJ10_equals_20 ?_
      refine g_icmp_eq (tgt := 26) dJ10_equals_21 (by decide) (by omega) (fun h21 => ?_) (fun h21 => ?_)
      · refine g_inc2 dJ10_equals_26 (by decide) rfl ?_
        refine g_goto (tgt := 9) dJ10_equals_29 (by decide) ?_
        refine ih _ (by omega) (by omega) (by omega) hnn (fun k k0 k1 => ?_)
        by_cases hk : k = i
        · rw [hk]; omega
        · exact ha k k0 (by omega)
      refine g_iconst dJ10_equals_24 ?_
      exact g_zret rfl (by omega) dJ10_equals_25 ⟨_, rfl, hQ _ (Or.inr ⟨rfl, fun q => absurd (q.2 i h0 (by omega)) (by omega)⟩)⟩
  refine g_al0 dJ10_equals_0 ?_
  refine g_alen (by decide) hv dJ10_equals_1 ?_
  refine g_al1 dJ10_equals_2 ?_
  refine g_alen (by decide) hw dJ10_equals_3 ?_
  refine g_icmp_ne (tgt := 34) dJ10_equals_4 (by decide) (by omega) (fun h4 => ?_) (fun h4 => ?_)
  · refine g_iconst dJ10_equals_34 ?_
    exact g_zret rfl (by omega) dJ10_equals_35 ⟨_, rfl, hQ _ (Or.inr ⟨rfl, fun q => by omega⟩)⟩
  refine g_iconst dJ10_equals_7 ?_
  refine g_is2 dJ10_equals_8 (by decide) rfl ?_
  exact L9 (n + 1) _ (by omega) (by omega) (by omega) (by omega) (fun k k0 k1 => by omega)
theorem js_equals {a b v w n n' : Nat} {c c' : Int → Int} {Q : Int → JH → Prop} (hS : Str_ σ a v n c) (hS' : Str_ σ b w n' c')
    (hQ : ∀ z : Int, (z = 1 ∧ (n = n' ∧ ∀ k, 0 ≤ k → k < (n : Int) → c k = c' k)) ∨ (z = 0 ∧ ¬ (n = n' ∧ ∀ k, 0 ≤ k → k < (n : Int) → c k = c' k)) → Q z σ) : CallI_ G 3 yJ5_equals cJ5_equals 3 (some .boolean) [A_ (some a), A_ (some b)] σ Q := by
  refine call_go [some (A_ (some a)), some (A_ (some b)), none] (by decide) (Nat.le_of_ble_eq_true rfl) rfl ?_
  refine g_al0 dJ5_equals_0 ?_
  refine g_al1 dJ5_equals_1 ?_
  refine g_acmp_ne (tgt := 7) dJ5_equals_2 (by decide) (fun h2 => ?_) (fun h2 => ?_)
  · refine g_al1 dJ5_equals_7 ?_
    refine g_inst q662 hS'.1 rfl dJ5_equals_8 ?_
    refine g_if_eq (tgt := 54) dJ5_equals_11 (by decide) (by omega) (fun h11 => ?_) (fun h11 => ?_)
    · exact absurd h11 (by decide)
    refine g_al1 dJ5_equals_14 ?_
    refine g_cast q662 hS'.1 (Or.inl rfl) dJ5_equals_15 ?_
    refine g_as2 dJ5_equals_18 (by decide) rfl ?_
    refine g_getsI (x := 1) (C := "java/lang/String") (n := "COMPACT_STRINGS") (dd := "Z") (v := 1) (by decide) (by decide) q550 dJ5_equals_19 ?_
    refine g_if_eq (tgt := 36) dJ5_equals_22 (by decide) (by omega) (fun h22 => ?_) (fun h22 => ?_)
    · exact absurd h22 (by decide)
    refine g_al0 dJ5_equals_25 ?_
    refine f_getv 1 fk_J5_15 rfl hS.1 (fun _ _ => rfl) hS.2.2.2.1 dJ5_equals_26 ?_
    refine g_al2 dJ5_equals_29 ?_
    refine f_getv 1 fk_J5_15 rfl hS'.1 (fun _ _ => rfl) hS'.2.2.2.1 dJ5_equals_30 ?_
    refine g_icmp_ne (tgt := 54) dJ5_equals_33 (by decide) (by omega) (fun h33 => ?_) (fun h33 => ?_)
    · exact absurd rfl h33
    refine g_al0 dJ5_equals_36 ?_
    refine f_getA 0 fk_J5_9 rfl hS.1 (fun _ _ => rfl) hS.2.1 dJ5_equals_37 ?_
    refine g_al2 dJ5_equals_40 ?_
    refine f_getA 0 fk_J5_9 rfl hS'.1 (fun _ _ => rfl) hS'.2.1 dJ5_equals_41 ?_
    refine g_callS2I (d' := 2) lk_J5_541 (rm_lt (by decide) (by decide)) (Nat.le_of_ble_eq_true rfl) dJ5_equals_44 ?_
    refine js_leq hS.2.2.1 hS'.2.2.1 ⟨hS.2.2.2.2.1, hS'.2.2.2.2.1⟩ (fun k k0 k1 => by have := hS.2.2.2.2.2 k k0 k1; omega) (fun k k0 k1 => by have := hS'.2.2.2.2.2 k k0 k1; omega) (fun z hz => ?_)
    refine g_if_eq (tgt := 54) dJ5_equals_47 (by decide) (by omega) (fun h47 => ?_) (fun h47 => ?_)
    · refine g_iconst dJ5_equals_54 ?_
      exact g_zret rfl (by omega) dJ5_equals_55 ⟨_, rfl, hQ _ (by
  have e1 : ∀ k, 0 ≤ k → k < (n : Int) → iv_ σ v k = c k := fun k k0 k1 => (hS.2.2.2.2.2 k k0 k1).1
  have e2 : ∀ k, 0 ≤ k → k < (n' : Int) → iv_ σ w k = c' k := fun k k0 k1 => (hS'.2.2.2.2.2 k k0 k1).1
  rcases hz with q | q
  · exact Or.inl ⟨by omega, q.2.1, fun k k0 k1 => by rw [← e1 k k0 k1, ← e2 k k0 (by have := q.2.1; omega)]; exact q.2.2 k k0 k1⟩
  · exact Or.inr ⟨by omega, fun u => q.2 ⟨u.1, fun k k0 k1 => by rw [e1 k k0 k1, e2 k k0 (by have := u.1; omega)]; exact u.2 k k0 k1⟩⟩)⟩
    refine g_iconst dJ5_equals_50 ?_
    refine g_goto (tgt := 55) dJ5_equals_51 (by decide) ?_
    exact g_zret rfl (by omega) dJ5_equals_55 ⟨_, rfl, hQ _ (by
  have e1 : ∀ k, 0 ≤ k → k < (n : Int) → iv_ σ v k = c k := fun k k0 k1 => (hS.2.2.2.2.2 k k0 k1).1
  have e2 : ∀ k, 0 ≤ k → k < (n' : Int) → iv_ σ w k = c' k := fun k k0 k1 => (hS'.2.2.2.2.2 k k0 k1).1
  rcases hz with q | q
  · exact Or.inl ⟨by omega, q.2.1, fun k k0 k1 => by rw [← e1 k k0 k1, ← e2 k k0 (by have := q.2.1; omega)]; exact q.2.2 k k0 k1⟩
  · exact Or.inr ⟨by omega, fun u => q.2 ⟨u.1, fun k k0 k1 => by rw [e1 k k0 k1, e2 k k0 (by have := u.1; omega)]; exact u.2 k k0 k1⟩⟩)⟩
  have hab : a = b := by simpa using h2
  subst hab
  have hvw : v = w := by have := hS.2.1; rw [hS'.2.1] at this; exact (Option.some.inj this).symm
  subst hvw
  have hnn : n = n' := by
    have := hS.2.2.1
    rw [hS'.2.2.1] at this
    have := (Prod.mk.inj (Sum.inr.inj (Option.some.inj this))).2
    exact this.symm
  subst hnn
  refine g_iconst dJ5_equals_5 ?_
  exact g_zret rfl (by omega) dJ5_equals_6 ⟨_, rfl, hQ _ (Or.inl ⟨rfl, rfl, fun k k0 k1 => ((hS.2.2.2.2.2 k k0 k1).1).symm.trans (hS'.2.2.2.2.2 k k0 k1).1⟩)⟩
theorem js_shash {v n : Nat} {Q : Int → JH → Prop} (hv : sh_ σ v = some (.inr (1, n))) (hn : n ≤ 1000) (hb : ∀ k, 0 ≤ k → k < (n : Int) → 0 ≤ iv_ σ v k ∧ iv_ σ v k ≤ 127)
    (hQ : Q (hsh_ (iv_ σ v) n) σ) : CallI_ G 2 yJ7_signedHashCode cJ7_signedHashCode 6 (some .int) [I_ 0, A_ (some v), I_ 0, I_ n] σ Q := by
  refine call_go [some (I_ 0), some (A_ (some v)), some (I_ 0), some (I_ n), none, none] (by decide) (Nat.le_of_ble_eq_true rfl) rfl ?_
  have L8 : ∀ (fu : Nat) (i : Int), (n : Int) - i < (fu : Int) → (0 ≤ i) → (i ≤ n) → GoM_ G 2 yJ7_signedHashCode cJ7_signedHashCode 6 (some .int) σ (fun v σ' => ∃ x : Int, v = some (I_ x) ∧ Q x σ') 8 [some (I_ (hsh_ (iv_ σ v) i)), some (A_ (some v)), some (I_ 0), some (I_ n), some (I_ (0 + n)), some (I_ i)] [] σ := by
    intro fu
    induction fu with
    | zero => intro i hn h0 h1; exact absurd hn (by omega)
    | succ fu ih =>
      intro i hn h0 h1
      refine g_il5 dJ7_signedHashCode_8 ?_
      refine g_il4 dJ7_signedHashCode_10 ?_
      refine g_icmp_ge (tgt := 35) dJ7_signedHashCode_12 (by decide) (by omega) (fun h12 => ?_) (fun h12 => ?_)
      · refine g_il0 dJ7_signedHashCode_35 ?_
        exact g_iret rfl dJ7_signedHashCode_36 ⟨_, rfl, by rw [show i = (n : Int) by omega]; exact hQ⟩
      refine g_bipush dJ7_signedHashCode_15 (by decide) (by decide) ?_
      refine g_il0 dJ7_signedHashCode_17 ?_
      refine g_imul dJ7_signedHashCode_18 ?_
      refine g_al1 dJ7_signedHashCode_19 ?_
      refine g_il5 dJ7_signedHashCode_20 ?_
      have b1 := hb i (by omega) (by omega)
      refine g_bald hv (by omega) dJ7_signedHashCode_22 ?_
      refine g_sipush dJ7_signedHashCode_23 (by decide) (by decide) ?_
      refine g_iand dJ7_signedHashCode_26 ?_
      refine g_top (and255_id (by omega)) ?_
      refine g_iadd dJ7_signedHashCode_27 ?_
      refine g_is0 dJ7_signedHashCode_28 (by decide) ?_
      refine g_inc5 dJ7_signedHashCode_29 (by decide) rfl ?_
      refine g_goto (tgt := 8) dJ7_signedHashCode_32 (by decide) ?_
      have h := ih (i + 1) (by omega) (by omega) (by omega)
      unfold hsh_ at h ⊢
      rw [iI_s _ _ h0] at h
      exact h
  refine g_il2 dJ7_signedHashCode_0 ?_
  refine g_il3 dJ7_signedHashCode_1 ?_
  refine g_iadd dJ7_signedHashCode_2 ?_
  refine g_is4 dJ7_signedHashCode_3 (by decide) rfl ?_
  refine g_il2 dJ7_signedHashCode_5 ?_
  refine g_is5 dJ7_signedHashCode_6 (by decide) rfl ?_
  exact L8 (n + 1) 0 (by omega) (by omega) (by omega)
theorem js_vhash {v n : Nat} {Q : Int → JH → Prop} (hv : sh_ σ v = some (.inr (1, n))) (hn : n ≤ 1000) (hb : ∀ k, 0 ≤ k → k < (n : Int) → 0 ≤ iv_ σ v k ∧ iv_ σ v k ≤ 127)
    (hQ : Q (hsh_ (iv_ σ v) n) σ) : CallI_ G 3 yJ7_vectorizedHashCode cJ7_vectorizedHashCode 5 (some .int) [A_ (some v), I_ 0, I_ n, I_ 0, I_ 4] σ Q := by
  refine call_go [some (A_ (some v)), some (I_ 0), some (I_ n), some (I_ 0), some (I_ 4)] (by decide) (Nat.le_of_ble_eq_true rfl) rfl ?_
  refine g_il4 dJ7_vectorizedHashCode_0 ?_
  refine g_tabIn (tgt := 44) dJ7_vectorizedHashCode_2 (by decide) (by decide) rfl (by decide) ?_
  refine g_il3 dJ7_vectorizedHashCode_44 ?_
  refine g_al0 dJ7_vectorizedHashCode_45 ?_
  refine g_castA q618 hv (by decide) (by decide) dJ7_vectorizedHashCode_46 ?_
  refine g_il1 dJ7_vectorizedHashCode_49 ?_
  refine g_il2 dJ7_vectorizedHashCode_50 ?_
  refine g_callS4I (d' := 2) lk_J7_62 (rm_lt (by decide) (by decide)) (Nat.le_of_ble_eq_true rfl) dJ7_vectorizedHashCode_51 ?_
  refine js_shash hv hn hb ?_
  refine g_goto (tgt := 157) dJ7_vectorizedHashCode_54 (by decide) ?_
  exact g_iret rfl dJ7_vectorizedHashCode_157 ⟨_, rfl, hQ⟩
theorem lk2_ {z : Int} (h0 : z ≠ 0) (h1 : z ≠ 1) : Op.lookupswitch.offset [((0 : Int), (26 : Int)), (1, 30)] 40 z = 40 := by
  simp [Op.lookupswitch.offset, h0, h1, Ne.symm h0, Ne.symm h1]
theorem js_lhash {v n : Nat} {Q : Int → JH → Prop} (hv : sh_ σ v = some (.inr (1, n))) (hn : n ≤ 1000) (hb : ∀ k, 0 ≤ k → k < (n : Int) → 0 ≤ iv_ σ v k ∧ iv_ σ v k ≤ 127)
    (hQ : Q (hsh_ (iv_ σ v) n) σ) : CallI_ G 4 yJ10_hashCode cJ10_hashCode 1 (some .int) [A_ (some v)] σ Q := by
  refine call_go [some (A_ (some v))] (by decide) (Nat.le_of_ble_eq_true rfl) rfl ?_
  refine g_al0 dJ10_hashCode_0 ?_
  refine g_alen (by decide) hv dJ10_hashCode_1 ?_
  by_cases n0 : n = 0
  · subst n0
    refine g_look (tgt := 28) (z := 0) (off := 26) dJ10_hashCode_2 (by decide) (by decide) (by decide) (by decide) ?_
    refine g_iconst dJ10_hashCode_28 ?_
    refine g_goto (tgt := 51) dJ10_hashCode_29 (by decide) ?_
    exact g_iret rfl dJ10_hashCode_51 ⟨_, rfl, hQ⟩
  by_cases n1 : n = 1
  · subst n1
    refine g_look (tgt := 32) (z := 1) (off := 30) dJ10_hashCode_2 (by decide) (by decide) (by decide) (by decide) ?_
    refine g_al0 dJ10_hashCode_32 ?_
    refine g_iconst dJ10_hashCode_33 ?_
    have b1 := hb 0 (by omega) (by omega)
    refine g_bald hv (by omega) dJ10_hashCode_34 ?_
    refine g_sipush dJ10_hashCode_35 (by decide) (by decide) ?_
    refine g_iand dJ10_hashCode_38 ?_
    refine g_top (and255_id (by omega)) ?_
    refine g_goto (tgt := 51) dJ10_hashCode_39 (by decide) ?_
    exact g_iret rfl dJ10_hashCode_51 ⟨_, rfl, by rw [show hsh_ (iv_ σ v) ((1 : Nat) : Int) = iv_ σ v 0 from hsh_1 _] at hQ; exact hQ⟩
  refine g_look (tgt := 42) (z := (n : Int)) (off := 40) dJ10_hashCode_2 (by decide) (ti_ (by omega)) (lk2_ (by omega) (by omega)) (by decide) ?_
  refine g_al0 dJ10_hashCode_42 ?_
  refine g_iconst dJ10_hashCode_43 ?_
  refine g_al0 dJ10_hashCode_44 ?_
  refine g_alen (by decide) hv dJ10_hashCode_45 ?_
  refine g_iconst dJ10_hashCode_46 ?_
  refine g_iconst dJ10_hashCode_47 ?_
  refine g_callS5I (d' := 3) lk_J10_84 (rm_lt (by decide) (by decide)) (Nat.le_of_ble_eq_true rfl) dJ10_hashCode_48 ?_
  refine js_vhash hv hn hb ?_
  exact g_iret rfl dJ10_hashCode_51 ⟨_, rfl, hQ⟩
/-- a text's hash as it may lie there -/
def HS_ (σ : JH) (a : Nat) (h : Int) : Prop := (iv_ σ a 2 = 0 ∨ iv_ σ a 2 = h) ∧ (iv_ σ a 3 = 0 ∨ (iv_ σ a 3 = 1 ∧ h = 0))
theorem js_hash {a v n : Nat} {c : Int → Int} {Q : Int → JH → Prop} (hS : Str_ σ a v n c) (ha : (gH_ G).size ≤ a) (hH : HS_ σ a (w32_ (hsh_ c n)))
    (hQ : ∀ σ', Fr_ (fun b k => b = a ∧ (k = 2 ∨ k = 3)) σ σ' → HS_ σ' a (w32_ (hsh_ c n)) → Q (w32_ (hsh_ c n)) σ') : CallI_ G 5 yJ5_hashCode cJ5_hashCode 2 (some .int) [A_ (some a)] σ Q := by
  refine call_go [some (A_ (some a)), none] (by decide) (Nat.le_of_ble_eq_true rfl) rfl ?_
  refine g_al0 dJ5_hashCode_0 ?_
  have hr := w32_in (hsh_ c n)
  have hH0 := hH
  refine f_getI 2 fk_J5_19 rfl hS.1 (fun _ _ => rfl) dJ5_hashCode_1 ?_
  refine g_is1 dJ5_hashCode_4 (by decide) rfl ?_
  refine g_il1 dJ5_hashCode_5 ?_
  have hi2 : -2147483648 ≤ iv_ σ a 2 ∧ iv_ σ a 2 < 2147483648 := by rcases hH.1 with q | q <;> omega
  refine g_if_ne (tgt := 58) dJ5_hashCode_6 (by decide) (by omega) (fun h6 => ?_) (fun h6 => ?_)
  · refine g_il1 dJ5_hashCode_58 ?_
    exact g_iret rfl dJ5_hashCode_59 ⟨_, rfl, by rw [show iv_ σ a 2 = w32_ (hsh_ c n) by (rcases hH.1 with q | q; (omega); (exact q))]; exact hQ σ Fr_.rf hH⟩
  refine g_al0 dJ5_hashCode_9 ?_
  unfold HS_ at hH
  refine f_getI 3 fk_J5_23 rfl hS.1 (fun _ _ => rfl) dJ5_hashCode_10 ?_
  refine g_if_ne (tgt := 58) dJ5_hashCode_13 (by decide) (by omega) (fun h13 => ?_) (fun h13 => ?_)
  · refine g_il1 dJ5_hashCode_58 ?_
    exact g_iret rfl dJ5_hashCode_59 ⟨_, rfl, by rw [show iv_ σ a 2 = w32_ (hsh_ c n) by (unfold HS_ at hH0; omega)]; exact hQ σ Fr_.rf hH0⟩
  refine g_al0 dJ5_hashCode_16 ?_
  refine g_callV0I (d' := 2) lk_J5_492 hS.1 rfl (rm_lt (by decide) (by decide)) (Nat.le_of_ble_eq_true rfl) dJ5_hashCode_17 ?_
  refine js_isLatin1 hS.1 hS.2.2.2.1 ?_
  refine g_if_eq (tgt := 33) dJ5_hashCode_20 (by decide) (by omega) (fun h20 => ?_) (fun h20 => ?_)
  · exact absurd h20 (by decide)
  refine g_al0 dJ5_hashCode_23 ?_
  refine f_getA 0 fk_J5_9 rfl hS.1 (fun _ _ => rfl) hS.2.1 dJ5_hashCode_24 ?_
  refine g_callS1I (d' := 4) lk_J5_628 (rm_lt (by decide) (by decide)) (Nat.le_of_ble_eq_true rfl) dJ5_hashCode_27 ?_
  refine js_lhash hS.2.2.1 hS.2.2.2.2.1 (fun k k0 k1 => by have := hS.2.2.2.2.2 k k0 k1; omega) ?_
  rw [hsh_cg (fun k k0 k1 => (hS.2.2.2.2.2 k k0 k1).1)]
  refine g_w32 ?_
  refine g_goto (tgt := 40) dJ5_hashCode_30 (by decide) ?_
  refine g_is1 dJ5_hashCode_40 (by decide) rfl ?_
  refine g_il1 dJ5_hashCode_41 ?_
  refine g_if_ne (tgt := 53) dJ5_hashCode_42 (by decide) (by omega) (fun h42 => ?_) (fun h42 => ?_)
  · refine g_al0 dJ5_hashCode_53 ?_
    refine g_il1 dJ5_hashCode_54 ?_
    refine f_putI 2 fk_J5_19 rfl (nf_ rfl rfl) hS.1 ha rfl dJ5_hashCode_55 ?_
    refine g_il1 dJ5_hashCode_58 ?_
    exact g_iret rfl dJ5_hashCode_59 ⟨_, rfl, hQ _ (Fr_.rf.pi (by omega)) ⟨Or.inr (by rw [iv_pi, if_pos ⟨rfl, rfl⟩]), by rw [iv_pi, if_neg (by omega)]; exact hH0.2⟩⟩
  refine g_al0 dJ5_hashCode_45 ?_
  refine g_iconst dJ5_hashCode_46 ?_
  refine f_putZ 3 fk_J5_23 rfl (nf_ rfl rfl) hS.1 ha rfl (by omega) dJ5_hashCode_47 ?_
  refine g_goto (tgt := 58) dJ5_hashCode_50 (by decide) ?_
  refine g_il1 dJ5_hashCode_58 ?_
  exact g_iret rfl dJ5_hashCode_59 ⟨_, rfl, hQ _ (Fr_.rf.pi (by omega)) ⟨by rw [iv_pi, if_neg (by omega)]; exact hH0.1, Or.inr ⟨by rw [iv_pi, if_pos ⟨rfl, rfl⟩], by omega⟩⟩⟩
theorem js_hash0 {a : Nat} {Q : Int → JH → Prop} (hs : sh_ σ a = some (.inl 8)) (h2 : iv_ σ a 2 = 0) (h3 : iv_ σ a 3 = 1)
    (hQ : Q 0 σ) : CallI_ G 5 yJ5_hashCode cJ5_hashCode 2 (some .int) [A_ (some a)] σ Q := by
  refine call_go [some (A_ (some a)), none] (by decide) (Nat.le_of_ble_eq_true rfl) rfl ?_
  refine g_al0 dJ5_hashCode_0 ?_
  refine f_getv 2 fk_J5_19 rfl hs (fun _ _ => rfl) h2 dJ5_hashCode_1 ?_
  refine g_is1 dJ5_hashCode_4 (by decide) rfl ?_
  refine g_il1 dJ5_hashCode_5 ?_
  refine g_if_ne (tgt := 58) dJ5_hashCode_6 (by decide) (by omega) (fun h6 => ?_) (fun h6 => ?_)
  · exact absurd rfl h6
  refine g_al0 dJ5_hashCode_9 ?_
  refine f_getv 3 fk_J5_23 rfl hs (fun _ _ => rfl) h3 dJ5_hashCode_10 ?_
  refine g_if_ne (tgt := 58) dJ5_hashCode_13 (by decide) (by omega) (fun h13 => ?_) (fun h13 => ?_)
  · refine g_il1 dJ5_hashCode_58 ?_
    exact g_iret rfl dJ5_hashCode_59 ⟨_, rfl, hQ⟩
  exact absurd h13 (by decide)
/-- a StringBuilder: at b, its bytes at v; n chars c -/
def SB_ (G : JG) (σ : JH) (b v : Nat) (n : Int) (c : Int → Int) : Prop := sh_ σ b = some (.inl 7) ∧ (gH_ G).size ≤ b ∧ rv_ σ b 0 = some v ∧ sh_ σ v = some (.inr (1, 16)) ∧ (gH_ G).size ≤ v ∧ iv_ σ b 1 = 0 ∧ iv_ σ b 3 = n ∧ (0 ≤ n ∧ n ≤ 8) ∧ ∀ k, 0 ≤ k → k < n → iv_ σ v k = c k ∧ 0 ≤ c k ∧ c k ≤ 127
theorem js_bLatin1 {a v : Nat} {n : Int} {c : Int → Int} {Q : Int → JH → Prop} (hB : SB_ G σ a v n c)
    (hQ : Q 1 σ) : CallI_ G 2 yJ3_isLatin1 cJ3_isLatin1 1 (some .boolean) [A_ (some a)] σ Q := by
  refine call_go [some (A_ (some a))] (by decide) (Nat.le_of_ble_eq_true rfl) rfl ?_
  refine g_getsI (x := 1) (C := "java/lang/String") (n := "COMPACT_STRINGS") (dd := "Z") (v := 1) (by decide) (by decide) q397 dJ3_isLatin1_0 ?_
  refine g_if_eq (tgt := 17) dJ3_isLatin1_3 (by decide) (by omega) (fun h3 => ?_) (fun h3 => ?_)
  · exact absurd h3 (by decide)
  refine g_al0 dJ3_isLatin1_6 ?_
  refine f_getv 1 fk_J3_22 rfl hB.1 (fun _ _ => rfl) hB.2.2.2.2.2.1 dJ3_isLatin1_7 ?_
  refine g_if_ne (tgt := 17) dJ3_isLatin1_10 (by decide) (by omega) (fun h10 => ?_) (fun h10 => ?_)
  · exact absurd rfl h10
  refine g_iconst dJ3_isLatin1_13 ?_
  refine g_goto (tgt := 18) dJ3_isLatin1_14 (by decide) ?_
  exact g_zret rfl (by omega) dJ3_isLatin1_18 ⟨_, rfl, hQ⟩
theorem js_ecap {a v : Nat} {n : Int} {c : Int → Int} {x : Int} {Q : JH → Prop} (hB : SB_ G σ a v n c) (hx : 0 ≤ x ∧ x ≤ 16)
    (hQ : Q σ) : CallV_ G 5 yJ3_ensureCapacityInternal cJ3_ensureCapacityInternal 3 none [A_ (some a), I_ x] σ Q := by
  refine call_go [some (A_ (some a)), some (I_ x), none] (by decide) (Nat.le_of_ble_eq_true rfl) rfl ?_
  refine g_al0 dJ3_ensureCapacityInternal_0 ?_
  refine f_getA 0 fk_J3_15 rfl hB.1 (fun _ _ => rfl) hB.2.2.1 dJ3_ensureCapacityInternal_1 ?_
  refine g_alen (by decide) hB.2.2.2.1 dJ3_ensureCapacityInternal_4 ?_
  refine g_al0 dJ3_ensureCapacityInternal_5 ?_
  refine f_getv 1 fk_J3_22 rfl hB.1 (fun _ _ => rfl) hB.2.2.2.2.2.1 dJ3_ensureCapacityInternal_6 ?_
  refine g_ishr dJ3_ensureCapacityInternal_9 ?_
  refine g_top (show ishr_ ((16 : Nat) : Int) 0 = 16 by decide) ?_
  refine g_is2 dJ3_ensureCapacityInternal_10 (by decide) rfl ?_
  refine g_il1 dJ3_ensureCapacityInternal_11 ?_
  refine g_il2 dJ3_ensureCapacityInternal_12 ?_
  refine g_isub dJ3_ensureCapacityInternal_13 ?_
  refine g_if_le (tgt := 38) dJ3_ensureCapacityInternal_14 (by decide) (by omega) (fun h14 => ?_) (fun h14 => ?_)
  · exact g_vret rfl dJ3_ensureCapacityInternal_38 ⟨rfl, hQ⟩
  exact absurd h14 (by omega)
theorem js_canEncode {x : Int} {Q : Int → JH → Prop} (hx : 0 ≤ x ∧ x ≤ 127)
    (hQ : Q 1 σ) : CallI_ G 2 yJ10_canEncode cJ10_canEncode 1 (some .boolean) [I_ x] σ Q := by
  refine call_go [some (I_ x)] (by decide) (Nat.le_of_ble_eq_true rfl) rfl ?_
  refine g_il0 dJ10_canEncode_0 ?_
  refine g_sipush dJ10_canEncode_1 (by decide) (by decide) ?_
  refine g_icmp_gt (tgt := 11) dJ10_canEncode_4 (by decide) (by omega) (fun h4 => ?_) (fun h4 => ?_)
  · exact absurd h4 (by omega)
  refine g_iconst dJ10_canEncode_7 ?_
  refine g_goto (tgt := 12) dJ10_canEncode_8 (by decide) ?_
  exact g_zret rfl (by omega) dJ10_canEncode_12 ⟨_, rfl, hQ⟩
theorem js_bappend {a v : Nat} {n : Int} {c : Int → Int} {x : Int} {Q : Option Nat → JH → Prop} (hB : SB_ G σ a v n c) (hx : 0 ≤ x ∧ x ≤ 127) (hn : n < 8)
    (hQ : Q (some a) (pi_ (pi_ σ a 3 (n + 1)) v n x)) : CallA_ G 8 yJ3_append cJ3_append 2 (some (.object "java/lang/AbstractStringBuilde\x72")) [A_ (some a), I_ x] σ Q := by
  refine call_go [some (A_ (some a)), some (I_ x)] (by decide) (Nat.le_of_ble_eq_true rfl) rfl ?_
  have hn0 := hB.2.2.2.2.2.2.2.1
  refine g_al0 dJ3_append_0 ?_
  refine g_al0 dJ3_append_1 ?_
  refine f_getv 3 fk_J3_79 rfl hB.1 (fun _ _ => rfl) hB.2.2.2.2.2.2.1 dJ3_append_2 ?_
  refine g_iconst dJ3_append_5 ?_
  refine g_iadd dJ3_append_6 ?_
  refine g_ecap (d' := 5) rfl hB.1 (rm_lt (by decide) (by decide)) (Nat.le_of_ble_eq_true rfl) dJ3_append_7 ?_
  refine js_ecap hB (by omega) ?_
  refine g_al0 dJ3_append_10 ?_
  refine g_callU0I (d' := 2) lk_J3_83_c7 hB.1 rfl (rm_lt (by decide) (by decide)) (Nat.le_of_ble_eq_true rfl) dJ3_append_11 ?_
  refine js_bLatin1 hB ?_
  refine g_if_eq (tgt := 45) dJ3_append_14 (by decide) (by omega) (fun h14 => ?_) (fun h14 => ?_)
  · exact absurd h14 (by decide)
  refine g_il1 dJ3_append_17 ?_
  refine g_callS1I (d' := 2) lk_J3_191 (rm_lt (by decide) (by decide)) (Nat.le_of_ble_eq_true rfl) dJ3_append_18 ?_
  refine js_canEncode hx ?_
  refine g_if_eq (tgt := 45) dJ3_append_21 (by decide) (by omega) (fun h21 => ?_) (fun h21 => ?_)
  · exact absurd h21 (by decide)
  refine g_al0 dJ3_append_24 ?_
  refine f_getA 0 fk_J3_15 rfl hB.1 (fun _ _ => rfl) hB.2.2.1 dJ3_append_25 ?_
  refine g_al0 dJ3_append_28 ?_
  refine g_dup dJ3_append_29 rfl ?_
  refine f_getv 3 fk_J3_79 rfl hB.1 (fun _ _ => rfl) hB.2.2.2.2.2.2.1 dJ3_append_30 ?_
  refine g_dup_x1 dJ3_append_33 rfl rfl ?_
  refine g_iconst dJ3_append_34 ?_
  refine g_iadd dJ3_append_35 ?_
  refine f_putI 3 fk_J3_79 rfl (nf_ rfl rfl) hB.1 hB.2.1 rfl dJ3_append_36 ?_
  refine g_il1 dJ3_append_39 ?_
  refine g_i2b dJ3_append_40 ?_
  refine g_top (i2b_id hx) ?_
  refine g_bast hB.2.2.2.1 hB.2.2.2.2.1 (by omega) (by omega) dJ3_append_41 ?_
  refine g_goto (tgt := 75) dJ3_append_42 (by decide) ?_
  refine g_al0 dJ3_append_75 ?_
  exact g_aret rfl (Or.inl ⟨_, rfl⟩) dJ3_append_76 ⟨_, rfl, hQ⟩
theorem js_append {a v : Nat} {n : Int} {c : Int → Int} {x : Int} {Q : Option Nat → JH → Prop} (hB : SB_ G σ a v n c) (hx : 0 ≤ x ∧ x ≤ 127) (hn : n < 8)
    (hQ : Q (some a) (pi_ (pi_ σ a 3 (n + 1)) v n x)) : CallA_ G 9 yJ4_append cJ4_append 2 (some (.object "java/lang/StringBuilde\x72")) [A_ (some a), I_ x] σ Q := by
  refine call_go [some (A_ (some a)), some (I_ x)] (by decide) (Nat.le_of_ble_eq_true rfl) rfl ?_
  refine g_al0 dJ4_append_0 ?_
  refine g_il1 dJ4_append_1 ?_
  refine g_callSU1A (d' := 8) lks_J4_50 hB.1 (rm_lt (by decide) (by decide)) (Nat.le_of_ble_eq_true rfl) dJ4_append_2 ?_
  refine js_bappend hB hx hn ?_
  refine g_pop dJ4_append_5 rfl ?_
  refine g_al0 dJ4_append_6 ?_
  exact g_aret rfl (Or.inl ⟨_, rfl⟩) dJ4_append_7 ⟨_, rfl, hQ⟩
theorem SB_.app {a v : Nat} {n x : Int} {c : Int → Int} (hB : SB_ G σ a v n c) (hx : 0 ≤ x ∧ x ≤ 127) (hn : n < 8) : SB_ G (pi_ (pi_ σ a 3 (n + 1)) v n x) a v (n + 1) (fun k => if k = n then x else c k) := by
  obtain ⟨h1, h2, h3, h4, h5, h6, h7, h8, h9⟩ := hB
  have hav : a ≠ v := fun q => by rw [q, h4] at h1; cases h1
  refine ⟨h1, h2, h3, h4, h5, ?_, ?_, by omega, fun k k0 k1 => ?_⟩
  · rw [iv_pi, if_neg (by omega), iv_pi, if_neg (by omega)]; exact h6
  · rw [iv_pi, if_neg (by omega), iv_pi, if_pos ⟨rfl, rfl⟩]
  · show _ = (if k = n then x else c k) ∧ 0 ≤ (if k = n then x else c k) ∧ (if k = n then x else c k) ≤ 127
    rw [iv_pi]
    by_cases q : k = n
    · rw [if_pos ⟨rfl, q⟩, if_pos q]; exact ⟨rfl, hx⟩
    · rw [if_neg (fun w => q w.2), if_neg q, iv_pi, if_neg (by omega)]; exact h9 k k0 (by omega)
theorem js_binit {a : Nat} {Q : JH → Prop} (hlt : ∀ a s, sh_ σ a = some s → a < sz_ σ) (hs : sh_ σ a = some (.inl 7)) (ha : (gH_ G).size ≤ a) (hr : sz_ σ + 1 ≤ lc_ G ∧ us_ σ + 16 ≤ ls_ G)
    (hQ : Q (pi_ (pr_ (nw_ σ (.inr (1, 16)) 16) a 0 (some (sz_ σ))) a 1 0)) : CallV_ G 4 yJ3_init cJ3_init 2 none [A_ (some a), I_ 16] σ Q := by
  refine call_go [some (A_ (some a)), some (I_ 16)] (by decide) (Nat.le_of_ble_eq_true rfl) rfl ?_
  refine g_al0 dJ3_init_0 ?_
  refine g_objInit q396 q_oi1 q_oi2 (rm_1 (by decide)) (Nat.le_of_ble_eq_true rfl) dJ3_init_1 ?_
  refine g_getsI (x := 1) (C := "java/lang/String") (n := "COMPACT_STRINGS") (dd := "Z") (v := 1) (by decide) (by decide) q397 dJ3_init_4 ?_
  refine g_if_eq (tgt := 25) dJ3_init_7 (by decide) (by omega) (fun h7 => ?_) (fun h7 => ?_)
  · exact absurd h7 (by decide)
  refine g_al0 dJ3_init_10 ?_
  refine g_il1 dJ3_init_11 ?_
  refine g_newa (t := 1) (n := 16) (atype := .byte) rfl (by decide) q198 rfl (by decide) (by omega) dJ3_init_12 ?_
  have hs2 : sh_ (nw_ σ (.inr (1, 16)) 16) a = some (.inl 7) := by rw [sh_nw, if_neg (by have := hlt _ _ hs; omega)]; exact hs
  refine f_putA 0 fk_J3_15 rfl (nf_ rfl rfl) hs2 ha (Or.inr ⟨_, rfl⟩) dJ3_init_14 ?_
  refine g_al0 dJ3_init_17 ?_
  refine g_iconst dJ3_init_18 ?_
  refine f_putB 1 fk_J3_22 rfl (nf_ rfl rfl) hs2 ha rfl (by omega) dJ3_init_19 ?_
  refine g_goto (tgt := 38) dJ3_init_22 (by decide) ?_
  exact g_vret rfl dJ3_init_38 ⟨rfl, hQ⟩
theorem js_sbinit {a : Nat} {Q : JH → Prop} (hlt : ∀ a s, sh_ σ a = some s → a < sz_ σ) (hs : sh_ σ a = some (.inl 7)) (ha : (gH_ G).size ≤ a) (hr : sz_ σ + 1 ≤ lc_ G ∧ us_ σ + 16 ≤ ls_ G)
    (hQ : Q (pi_ (pr_ (nw_ σ (.inr (1, 16)) 16) a 0 (some (sz_ σ))) a 1 0)) : CallV_ G 5 yJ4_init cJ4_init 1 none [A_ (some a)] σ Q := by
  refine call_go [some (A_ (some a))] (by decide) (Nat.le_of_ble_eq_true rfl) rfl ?_
  refine g_al0 dJ4_init_0 ?_
  refine g_bipush dJ4_init_1 (by decide) (by decide) ?_
  refine g_callI1 (d' := 4) lk_J4_1 (rm_lt (by decide) (by decide)) (Nat.le_of_ble_eq_true rfl) dJ4_init_3 ?_
  refine js_binit hlt hs ha hr ?_
  exact g_vret rfl dJ4_init_6 ⟨rfl, hQ⟩
theorem js_getValue {a v : Nat} {n : Int} {c : Int → Int} {Q : Option Nat → JH → Prop} (hB : SB_ G σ a v n c)
    (hQ : Q (some v) σ) : CallA_ G 2 yJ3_getValue cJ3_getValue 1 (some (.array .byte)) [A_ (some a)] σ Q := by
  refine call_go [some (A_ (some a))] (by decide) (Nat.le_of_ble_eq_true rfl) rfl ?_
  refine g_al0 dJ3_getValue_0 ?_
  refine f_getA 0 fk_J3_15 rfl hB.1 (fun _ _ => rfl) hB.2.2.1 dJ3_getValue_1 ?_
  exact g_aret rfl (Or.inr ⟨_, rfl⟩) dJ3_getValue_4 ⟨_, rfl, hQ⟩
theorem js_blength {a v : Nat} {n : Int} {c : Int → Int} {Q : Int → JH → Prop} (hB : SB_ G σ a v n c)
    (hQ : Q n σ) : CallI_ G 2 yJ3_length cJ3_length 1 (some .int) [A_ (some a)] σ Q := by
  refine call_go [some (A_ (some a))] (by decide) (Nat.le_of_ble_eq_true rfl) rfl ?_
  refine g_al0 dJ3_length_0 ?_
  refine f_getv 3 fk_J3_79 rfl hB.1 (fun _ _ => rfl) hB.2.2.2.2.2.2.1 dJ3_length_1 ?_
  exact g_iret rfl dJ3_length_4 ⟨_, rfl, hQ⟩
theorem js_sblength {a v : Nat} {n : Int} {c : Int → Int} {Q : Int → JH → Prop} (hB : SB_ G σ a v n c)
    (hQ : Q n σ) : CallI_ G 3 yJ4_length cJ4_length 1 (some .int) [A_ (some a)] σ Q := by
  refine call_go [some (A_ (some a))] (by decide) (Nat.le_of_ble_eq_true rfl) rfl ?_
  refine g_al0 dJ4_length_0 ?_
  refine g_callSU0I (d' := 2) lks_J4_343 hB.1 (rm_lt (by decide) (by decide)) (Nat.le_of_ble_eq_true rfl) dJ4_length_1 ?_
  refine js_blength hB ?_
  exact g_iret rfl dJ4_length_4 ⟨_, rfl, hQ⟩
theorem js_ckl {x z : Int} {Q : JH → Prop} (hx : 0 ≤ x ∧ x ≤ z ∧ z ≤ 1000)
    (hQ : Q σ) : CallV_ G 2 yJ9_checkLength cJ9_checkLength 2 none [I_ x, I_ z] σ Q := by
  refine call_go [some (I_ x), some (I_ z)] (by decide) (Nat.le_of_ble_eq_true rfl) rfl ?_
  refine g_il1 dJ9_checkLength_0 ?_
  refine g_il0 dJ9_checkLength_1 ?_
  refine g_icmp_ge (tgt := 37) dJ9_checkLength_2 (by decide) (by omega) (fun h2 => ?_) (fun h2 => ?_)
  · exact g_vret rfl dJ9_checkLength_37 ⟨rfl, hQ⟩
  exact absurd h2 (by omega)
theorem fb_ok {x : Int} {r : Option Nat} (h : -128 ≤ x ∧ x ≤ 127) : fits (aty_ 1) (tv_ (aty_ 1) x r) = true := by
  show (decide ((-128 : Int32) ≤ Int32.ofInt x) && decide (Int32.ofInt x ≤ (127 : Int32))) = true
  have h1 : (Int32.ofInt (-128)) ≤ Int32.ofInt x := (cq_le ⟨by decide, by decide, by omega, by omega⟩).mpr h.1
  have h2 : Int32.ofInt x ≤ Int32.ofInt 127 := (cq_le ⟨by omega, by omega, by decide, by decide⟩).mpr h.2
  rw [Bool.and_eq_true]
  exact ⟨decide_eq_true h1, decide_eq_true h2⟩
theorem js_crb {v k : Nat} {Q : Option Nat → JH → Prop} (hlt : ∀ a s, sh_ σ a = some s → a < sz_ σ) (hgz : (gH_ G).size ≤ sz_ σ) (hv : sh_ σ v = some (.inr (1, 16))) (hk : k ≤ 8) (hb : ∀ j, 0 ≤ j → j < (k : Int) → 0 ≤ iv_ σ v j ∧ iv_ σ v j ≤ 127) (hr : sz_ σ + 1 ≤ lc_ G ∧ us_ σ + 8 ≤ ls_ G)
    (hQ : Q (some (sz_ σ)) (pb_ (nw_ σ (.inr (1, k)) k) (sz_ σ) 0 k (fun j => iv_ (nw_ σ (.inr (1, k)) k) v (0 + j)))) : CallA_ G 3 yJ9_copyOfRangeByte cJ9_copyOfRangeByte 5 (some (.array .byte)) [A_ (some v), I_ 0, I_ k] σ Q := by
  refine call_go [some (A_ (some v)), some (I_ 0), some (I_ k), none, none] (by decide) (Nat.le_of_ble_eq_true rfl) rfl ?_
  refine g_il1 dJ9_copyOfRangeByte_0 ?_
  refine g_il2 dJ9_copyOfRangeByte_1 ?_
  refine g_callS2V (d' := 2) lk_J9_343 (rm_lt (by decide) (by decide)) (Nat.le_of_ble_eq_true rfl) dJ9_copyOfRangeByte_2 ?_
  refine js_ckl (by omega) ?_
  refine g_il2 dJ9_copyOfRangeByte_5 ?_
  refine g_il1 dJ9_copyOfRangeByte_6 ?_
  refine g_isub dJ9_copyOfRangeByte_7 ?_
  refine g_top (show (k : Int) - 0 = k by omega) ?_
  refine g_is3 dJ9_copyOfRangeByte_8 (by decide) rfl ?_
  refine g_il3 dJ9_copyOfRangeByte_9 ?_
  refine g_newa (t := 1) (n := k) (atype := .byte) rfl (by decide) q198 rfl (by omega) (by omega) dJ9_copyOfRangeByte_10 ?_
  have hv2 : sh_ (nw_ σ (.inr (1, k)) k) v = some (.inr (1, 16)) := by rw [sh_nw, if_neg (by have := hlt _ _ hv; omega)]; exact hv
  have hn2 : sh_ (nw_ σ (.inr (1, k)) k) (sz_ σ) = some (.inr (1, k)) := by rw [sh_nw, if_pos rfl]
  refine g_as4 dJ9_copyOfRangeByte_12 (by decide) rfl ?_
  refine g_al0 dJ9_copyOfRangeByte_14 ?_
  refine g_il1 dJ9_copyOfRangeByte_15 ?_
  refine g_al4 dJ9_copyOfRangeByte_16 ?_
  refine g_iconst dJ9_copyOfRangeByte_18 ?_
  refine g_al0 dJ9_copyOfRangeByte_19 ?_
  refine g_alen (by decide) hv2 dJ9_copyOfRangeByte_20 ?_
  refine g_il1 dJ9_copyOfRangeByte_21 ?_
  refine g_isub dJ9_copyOfRangeByte_22 ?_
  refine g_il3 dJ9_copyOfRangeByte_23 ?_
  refine g_mmin q455 (by omega) (rm_64 (by decide)) (Nat.le_of_ble_eq_true rfl) dJ9_copyOfRangeByte_24 ?_
  refine g_top (show (if (k : Int) < ((16 : Nat) : Int) - 0 then (k : Int) else ((16 : Nat) : Int) - 0) = k by rw [if_pos (by omega)]) ?_
  refine g_acp (t := 1) (by decide) q458 hv2 hn2 hgz (by omega) (by omega) (fun j j0 j1 => ?_) (rm_64 (by decide)) (Nat.le_of_ble_eq_true rfl) dJ9_copyOfRangeByte_27 ?_
  · have b1 := hb j j0 j1
    rw [iv_nw, if_neg (by have := hlt _ _ hv; omega), show (0 : Int) + j = j by omega]
    exact fb_ok (by omega)
  refine g_al4 dJ9_copyOfRangeByte_30 ?_
  exact g_aret rfl (Or.inr ⟨_, rfl⟩) dJ9_copyOfRangeByte_32 ⟨_, rfl, hQ⟩
theorem js_cor {v k : Nat} {Q : Option Nat → JH → Prop} (hlt : ∀ a s, sh_ σ a = some s → a < sz_ σ) (hgz : (gH_ G).size ≤ sz_ σ) (hv : sh_ σ v = some (.inr (1, 16))) (hk : k ≤ 8) (hb : ∀ j, 0 ≤ j → j < (k : Int) → 0 ≤ iv_ σ v j ∧ iv_ σ v j ≤ 127) (hr : sz_ σ + 1 ≤ lc_ G ∧ us_ σ + 8 ≤ ls_ G)
    (hQ : Q (some (sz_ σ)) (pb_ (nw_ σ (.inr (1, k)) k) (sz_ σ) 0 k (fun j => iv_ (nw_ σ (.inr (1, k)) k) v (0 + j)))) : CallA_ G 4 yJ9_copyOfRange cJ9_copyOfRange 3 (some (.array .byte)) [A_ (some v), I_ 0, I_ k] σ Q := by
  refine call_go [some (A_ (some v)), some (I_ 0), some (I_ k)] (by decide) (Nat.le_of_ble_eq_true rfl) rfl ?_
  refine g_il1 dJ9_copyOfRange_0 ?_
  refine g_if_ne (tgt := 10) dJ9_copyOfRange_1 (by decide) (by omega) (fun h1 => ?_) (fun h1 => ?_)
  · exact absurd rfl h1
  refine g_il2 dJ9_copyOfRange_4 ?_
  refine g_al0 dJ9_copyOfRange_5 ?_
  refine g_alen (by decide) hv dJ9_copyOfRange_6 ?_
  refine g_icmp_eq (tgt := 17) dJ9_copyOfRange_7 (by decide) (by omega) (fun h7 => ?_) (fun h7 => ?_)
  · exact absurd h7 (by omega)
  refine g_al0 dJ9_copyOfRange_10 ?_
  refine g_il1 dJ9_copyOfRange_11 ?_
  refine g_il2 dJ9_copyOfRange_12 ?_
  refine g_callS3A (d' := 3) lk_J9_339 (rm_lt (by decide) (by decide)) (Nat.le_of_ble_eq_true rfl) dJ9_copyOfRange_13 ?_
  refine js_crb hlt hgz hv hk hb hr ?_
  exact g_aret rfl (Or.inr ⟨_, rfl⟩) dJ9_copyOfRange_16 ⟨_, rfl, hQ⟩
theorem js_strinit2 {a b v k : Nat} {c : Int → Int} {Q : JH → Prop} (hlt : ∀ a s, sh_ σ a = some s → a < sz_ σ) (hgz : (gH_ G).size ≤ sz_ σ) (hs : sh_ σ a = some (.inl 8)) (hga : (gH_ G).size ≤ a) (hB : SB_ G σ b v (k : Int) c) (hr : sz_ σ + 1 ≤ lc_ G ∧ us_ σ + 8 ≤ ls_ G)
    (hQ : ∀ σ', Str_ σ' a (sz_ σ) k c → (∀ j, j ≠ 1 → iv_ σ' a j = iv_ σ a j) → Gw_ (fun b k => b = a ∧ (k = 0 ∨ k = 1)) 1 8 σ σ' → Q σ') : CallV_ G 7 yJ5_init_2 cJ5_init_2 5 none [A_ (some a), A_ (some b), A_ none] σ Q := by
  refine call_go [some (A_ (some a)), some (A_ (some b)), some (A_ none), none, none] (by decide) (Nat.le_of_ble_eq_true rfl) rfl ?_
  have hla := hlt _ _ hs
  have hlv := hlt _ _ hB.2.2.2.1
  have hav : a ≠ v := fun q => by have := hB.2.2.2.1; rw [← q, hs] at this; cases this
  have hk8 := hB.2.2.2.2.2.2.2.1
  refine g_al0 dJ5_init_2_0 ?_
  refine g_objInit q526 q_oi1 q_oi2 (rm_1 (by decide)) (Nat.le_of_ble_eq_true rfl) dJ5_init_2_1 ?_
  refine g_al1 dJ5_init_2_4 ?_
  refine g_callU0A (d' := 2) lk_J5_552_c7 hB.1 rfl (rm_lt (by decide) (by decide)) (Nat.le_of_ble_eq_true rfl) dJ5_init_2_5 ?_
  refine js_getValue hB ?_
  refine g_as3 dJ5_init_2_8 (by decide) rfl ?_
  refine g_al1 dJ5_init_2_9 ?_
  refine g_callU0I (d' := 3) lk_J5_549_c7 hB.1 rfl (rm_lt (by decide) (by decide)) (Nat.le_of_ble_eq_true rfl) dJ5_init_2_10 ?_
  refine js_sblength hB ?_
  refine g_is4 dJ5_init_2_13 (by decide) rfl ?_
  refine g_al1 dJ5_init_2_15 ?_
  refine g_callU0I (d' := 2) lk_J5_1047_c7 hB.1 rfl (rm_lt (by decide) (by decide)) (Nat.le_of_ble_eq_true rfl) dJ5_init_2_16 ?_
  refine js_bLatin1 hB ?_
  refine g_if_eq (tgt := 41) dJ5_init_2_19 (by decide) (by omega) (fun h19 => ?_) (fun h19 => ?_)
  · exact absurd h19 (by decide)
  refine g_al0 dJ5_init_2_22 ?_
  refine g_iconst dJ5_init_2_23 ?_
  refine f_putBF 1 fk_J5_15 rfl (fin_ rfl ⟨rfl, rfl⟩) rfl hs hga rfl (by omega) dJ5_init_2_24 ?_
  refine g_al0 dJ5_init_2_27 ?_
  refine g_al3 dJ5_init_2_28 ?_
  refine g_iconst dJ5_init_2_29 ?_
  refine g_il4 dJ5_init_2_30 ?_
  refine g_callS3A (d' := 4) lk_J5_54 (rm_lt (by decide) (by decide)) (Nat.le_of_ble_eq_true rfl) dJ5_init_2_32 ?_
  refine js_cor (σ := pi_ σ a 1 0) hlt hgz hB.2.2.2.1 (by omega) (fun j j0 j1 => ?_) hr ?_
  · have h9 := hB.2.2.2.2.2.2.2.2 j j0 j1
    rw [iv_pi, if_neg (by omega)]
    omega
  have hs1 : sh_ (pb_ (nw_ (pi_ σ a 1 0) (.inr (1, k)) k) (sz_ σ) 0 k (fun j => iv_ (nw_ (pi_ σ a 1 0) (.inr (1, k)) k) v (0 + j))) a = some (.inl 8) := by rw [sh_pb, sh_nw, if_neg (by have := hlt _ _ hs; rw [sz_pi]; omega)]; exact hs
  refine f_putAF 0 fk_J5_9 rfl (fin_ rfl ⟨rfl, rfl⟩) rfl hs1 hga (Or.inr ⟨_, rfl⟩) dJ5_init_2_35 ?_
  refine g_goto (tgt := 97) dJ5_init_2_38 (by decide) ?_
  exact g_vret rfl dJ5_init_2_97 ⟨rfl, by
  have hsz : sz_ (pi_ σ a 1 0) = sz_ σ := rfl
  refine hQ _ ?_ ?_ ?_
  · refine ⟨hs1, ?_, ?_, ?_, by omega, fun j j0 j1 => ?_⟩
    · rw [rv_pr, if_pos ⟨rfl, rfl⟩]; rfl
    · rw [sh_pr, sh_pb, sh_nw, if_pos hsz.symm]
    · rw [iv_pr, iv_pb, if_neg (by omega), iv_nw, if_neg (by rw [sz_pi]; omega), iv_pi, if_pos ⟨rfl, rfl⟩]
    · have h9 := hB.2.2.2.2.2.2.2.2 j j0 j1
      rw [iv_pr, iv_pb, if_pos ⟨rfl, by omega, by omega⟩, iv_nw, if_neg (by rw [sz_pi]; omega), iv_pi, if_neg (by omega), show (0 : Int) + (j - 0) = j by omega]
      exact h9
  · intro j j1
    rw [iv_pr, iv_pb, if_neg (by omega), iv_nw, if_neg (by rw [sz_pi]; omega), iv_pi, if_neg (by omega)]
  · exact ((((Gw_.rf (S := fun b k => b = a ∧ (k = 0 ∨ k = 1)) (σ := σ)).pi (a := a) (k := 1) (x := 0) (fun _ => ⟨rfl, Or.inr rfl⟩)).nw (s := .inr (1, k)) (n := k)).pb (fun q => absurd q (by omega))).pr (fun _ => ⟨rfl, Or.inl rfl⟩) |>.mono (fun _ _ _ q => q) (by omega) (by omega)⟩
theorem js_strinit {a b v k : Nat} {c : Int → Int} {Q : JH → Prop} (hlt : ∀ a s, sh_ σ a = some s → a < sz_ σ) (hgz : (gH_ G).size ≤ sz_ σ) (hs : sh_ σ a = some (.inl 8)) (hga : (gH_ G).size ≤ a) (hB : SB_ G σ b v (k : Int) c) (hr : sz_ σ + 1 ≤ lc_ G ∧ us_ σ + 8 ≤ ls_ G)
    (hQ : ∀ σ', Str_ σ' a (sz_ σ) k c → (∀ j, j ≠ 1 → iv_ σ' a j = iv_ σ a j) → Gw_ (fun b k => b = a ∧ (k = 0 ∨ k = 1)) 1 8 σ σ' → Q σ') : CallV_ G 8 yJ5_init cJ5_init 2 none [A_ (some a), A_ (some b)] σ Q := by
  refine call_go [some (A_ (some a)), some (A_ (some b))] (by decide) (Nat.le_of_ble_eq_true rfl) rfl ?_
  refine g_al0 dJ5_init_0 ?_
  refine g_al1 dJ5_init_1 ?_
  refine g_null dJ5_init_2 ?_
  refine g_callI2 (d' := 7) lk_J5_489 (rm_lt (by decide) (by decide)) (Nat.le_of_ble_eq_true rfl) dJ5_init_3 ?_
  refine js_strinit2 hlt hgz hs hga hB hr (fun σ' h1 h2 h3 => ?_)
  exact g_vret rfl dJ5_init_6 ⟨rfl, hQ σ' h1 h2 h3⟩
theorem js_toString {a v k : Nat} {c : Int → Int} {Q : Option Nat → JH → Prop} (hlt : ∀ a s, sh_ σ a = some s → a < sz_ σ) (hgz : (gH_ G).size ≤ sz_ σ) (hB : SB_ G σ a v (k : Int) c) (hr : sz_ σ + 2 ≤ lc_ G ∧ us_ σ + 12 ≤ ls_ G)
    (hQ : ∀ σ', Str_ σ' (sz_ σ) (sz_ σ + 1) k c → HS_ σ' (sz_ σ) (w32_ (hsh_ c k)) → Gw_ (fun _ _ => False) 2 12 σ σ' → Q (some (sz_ σ)) σ') : CallA_ G 9 yJ4_toString cJ4_toString 1 (some (.object "java/lang/String")) [A_ (some a)] σ Q := by
  refine call_go [some (A_ (some a))] (by decide) (Nat.le_of_ble_eq_true rfl) rfl ?_
  refine g_new (ci := 8) nq_J4_18 ⟨_, rfl⟩ (by omega) dJ4_toString_0 ?_
  have hav : a < sz_ σ ∧ v < sz_ σ := ⟨hlt _ _ hB.1, hlt _ _ hB.2.2.2.1⟩
  have hB2 : SB_ G (nw_ σ (.inl 8) 4) a v (k : Int) c := by
    obtain ⟨h1, h2, h3, h4, h5, h6, h7, h8, h9⟩ := hB
    refine ⟨?_, h2, ?_, ?_, h5, ?_, ?_, h8, fun j j0 j1 => ?_⟩
    · rw [sh_nw, if_neg (by omega)]; exact h1
    · rw [rv_nw, if_neg (by omega)]; exact h3
    · rw [sh_nw, if_neg (by omega)]; exact h4
    · rw [iv_nw, if_neg (by omega)]; exact h6
    · rw [iv_nw, if_neg (by omega)]; exact h7
    · rw [iv_nw, if_neg (by omega)]; exact h9 j j0 j1
  have hlt2 : ∀ a s, sh_ (nw_ σ (.inl 8) 4) a = some s → a < sz_ (nw_ σ (.inl 8) 4) := fun b s h => by
    rw [sz_nw]
    rw [sh_nw] at h
    split at h
    · omega
    · have := hlt _ _ h; omega
  refine g_dup dJ4_toString_3 rfl ?_
  refine g_al0 dJ4_toString_4 ?_
  refine g_callI1 (d' := 8) lk_J4_137 (rm_lt (by decide) (by decide)) (Nat.le_of_ble_eq_true rfl) dJ4_toString_5 ?_
  refine js_strinit (σ := nw_ σ (.inl 8) 4) hlt2 (by rw [sz_nw]; omega) (by rw [sh_nw, if_pos rfl]) hgz hB2 (by rw [sz_nw, us_nw]; omega) (fun σ' h1 h2 h3 => ?_)
  exact g_aret rfl (Or.inl ⟨_, rfl⟩) dJ4_toString_8 ⟨_, rfl, by
  refine hQ σ' h1 ⟨Or.inl ?_, Or.inl ?_⟩ ?_
  · rw [h2 2 (by decide), iv_nw, if_pos rfl]
  · rw [h2 3 (by decide), iv_nw, if_pos rfl]
  · obtain ⟨g1, g2, g3, g4⟩ := h3
    rw [sz_nw] at g3 g1 g2
    rw [us_nw] at g4
    refine ⟨fun b hb => ?_, fun b j hb _ => ?_, by omega, by omega⟩
    · rw [g1 b (by omega), sh_nw, if_neg (by omega)]
    · have := g2 b j (by omega) (by omega)
      rw [rv_nw, iv_nw, if_neg (by omega), if_neg (by omega)] at this
      exact this⟩
end
