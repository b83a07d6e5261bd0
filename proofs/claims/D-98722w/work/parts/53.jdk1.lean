/-! THE JDK: strings. Written by mod/m53.py -/
set_option maxRecDepth 100000
section
variable {G : JG} {σ : JH}
theorem ishr_0 {n : Nat} (h : n < 2147483648) : ishr_ (n : Int) 0 = (n : Int) := by
  have := ishr_n (a := n) (k := 0) h (by decide)
  rw [Nat.shiftRight_zero] at this
  exact this
theorem and255_id {x : Int} (h : 0 ≤ x ∧ x ≤ 255) : iand_ x 255 = x := by
  obtain ⟨n, rfl⟩ := Int.eq_ofNat_of_zero_le h.1
  have := iand_n (a := n) (b := 255) (by omega) (by decide)
  rw [show ((255 : Nat) : Int) = 255 from rfl] at this
  rw [this]
  have : n &&& 255 = n := by
    rw [show (255 : Nat) = 2 ^ 8 - 1 from rfl, Nat.and_two_pow_sub_one_eq_mod]
    exact Nat.mod_eq_of_lt (by omega)
  rw [this]
theorem i2c_id {x : Int} (h : 0 ≤ x ∧ x ≤ 255) : i2c_ x = x := by
  obtain ⟨n, rfl⟩ := Int.eq_ofNat_of_zero_le h.1
  have hn : n < 256 := by omega
  have : ∀ k : Fin 256, i2c_ ((k.val : Nat) : Int) = ((k.val : Nat) : Int) := by decide +kernel
  exact this ⟨n, hn⟩
theorem js_coder {a : Nat} {Q : Int → JH → Prop} (hs : sh_ σ a = some (.inl 8)) (hc : iv_ σ a 1 = 0)
    (hQ : Q 0 σ) : CallI_ G 2 yJ5_coder cJ5_coder 1 (some .byte) [A_ (some a)] σ Q := by
  refine call_go [some (A_ (some a))] (by decide) (Nat.le_of_ble_eq_true rfl) rfl ?_
  refine g_getsI (x := 1) (C := "java/lang/String") (n := "COMPACT_STRINGS") (dd := "Z") (v := 1) (by decide) (by decide) q550 dJ5_coder_0 ?_
  refine g_if_eq (tgt := 13) dJ5_coder_3 (by decide) (by omega) (fun h3 => ?_) (fun h3 => ?_)
  · exact absurd h3 (by decide)
  refine g_al0 dJ5_coder_6 ?_
  refine f_getv 1 fk_J5_15 rfl hs (fun _ _ => rfl) hc dJ5_coder_7 ?_
  refine g_goto (tgt := 14) dJ5_coder_10 (by decide) ?_
  exact g_bret rfl (by omega) dJ5_coder_14 ⟨_, rfl, hQ⟩
theorem js_isLatin1 {a : Nat} {Q : Int → JH → Prop} (hs : sh_ σ a = some (.inl 8)) (hc : iv_ σ a 1 = 0)
    (hQ : Q 1 σ) : CallI_ G 2 yJ5_isLatin1 cJ5_isLatin1 1 (some .boolean) [A_ (some a)] σ Q := by
  refine call_go [some (A_ (some a))] (by decide) (Nat.le_of_ble_eq_true rfl) rfl ?_
  refine g_getsI (x := 1) (C := "java/lang/String") (n := "COMPACT_STRINGS") (dd := "Z") (v := 1) (by decide) (by decide) q550 dJ5_isLatin1_0 ?_
  refine g_if_eq (tgt := 17) dJ5_isLatin1_3 (by decide) (by omega) (fun h3 => ?_) (fun h3 => ?_)
  · exact absurd h3 (by decide)
  refine g_al0 dJ5_isLatin1_6 ?_
  refine f_getv 1 fk_J5_15 rfl hs (fun _ _ => rfl) hc dJ5_isLatin1_7 ?_
  refine g_if_ne (tgt := 17) dJ5_isLatin1_10 (by decide) (by omega) (fun h10 => ?_) (fun h10 => ?_)
  · exact absurd h10 (by decide)
  refine g_iconst dJ5_isLatin1_13 ?_
  refine g_goto (tgt := 18) dJ5_isLatin1_14 (by decide) ?_
  exact g_zret rfl (by omega) dJ5_isLatin1_18 ⟨_, rfl, hQ⟩
theorem js_length {a v n : Nat} {c : Int → Int} {Q : Int → JH → Prop} (hS : Str_ σ a v n c)
    (hQ : Q n σ) : CallI_ G 3 yJ5_length cJ5_length 1 (some .int) [A_ (some a)] σ Q := by
  refine call_go [some (A_ (some a))] (by decide) (Nat.le_of_ble_eq_true rfl) rfl ?_
  refine g_al0 dJ5_length_0 ?_
  refine f_getA 0 fk_J5_9 rfl hS.1 (fun _ _ => rfl) hS.2.1 dJ5_length_1 ?_
  refine g_alen (by decide) hS.2.2.1 dJ5_length_4 ?_
  refine g_al0 dJ5_length_5 ?_
  refine g_callV0I (d' := 2) lk_J5_335 hS.1 rfl (rm_lt (by decide) (by decide)) (Nat.le_of_ble_eq_true rfl) dJ5_length_6 ?_
  refine js_coder hS.1 hS.2.2.2.1 ?_
  refine g_ishr dJ5_length_9 ?_
  refine g_top (ishr_0 (by have := hS.2.2.2.2.1; omega)) ?_
  exact g_iret rfl dJ5_length_10 ⟨_, rfl, hQ⟩
theorem js_pci {i n : Int} {f : Option Nat} {Q : Int → JH → Prop} (hn : 0 ≤ n ∧ n < 2147483648) (h : 0 ≤ i ∧ i < n)
    (hQ : Q i σ) : CallI_ G 2 yJ11_checkIndex cJ11_checkIndex 3 (some .int) [I_ i, I_ n, A_ f] σ Q := by
  cases f with
  | none =>
    refine call_go [some (I_ i), some (I_ n), some (A_ none)] (by decide) (Nat.le_of_ble_eq_true rfl) rfl ?_
    refine g_il0 dJ11_checkIndex_0 ?_
    refine g_if_lt (tgt := 9) dJ11_checkIndex_1 (by decide) (by omega) (fun h1 => ?_) (fun h1 => ?_)
    · exact absurd h1 (by omega)
    refine g_il0 dJ11_checkIndex_4 ?_
    refine g_il1 dJ11_checkIndex_5 ?_
    refine g_icmp_lt (tgt := 16) dJ11_checkIndex_6 (by decide) (by omega) (fun h6 => ?_) (fun h6 => ?_)
    · refine g_il0 dJ11_checkIndex_16 ?_
      exact g_iret rfl dJ11_checkIndex_17 ⟨_, rfl, hQ⟩
    exact absurd h6 (by omega)
  | some t =>
    refine call_go [some (I_ i), some (I_ n), some (A_ (some t))] (by decide) (Nat.le_of_ble_eq_true rfl) rfl ?_
    refine g_il0 dJ11_checkIndex_0 ?_
    refine g_if_lt (tgt := 9) dJ11_checkIndex_1 (by decide) (by omega) (fun h1 => ?_) (fun h1 => ?_)
    · exact absurd h1 (by omega)
    refine g_il0 dJ11_checkIndex_4 ?_
    refine g_il1 dJ11_checkIndex_5 ?_
    refine g_icmp_lt (tgt := 16) dJ11_checkIndex_6 (by decide) (by omega) (fun h6 => ?_) (fun h6 => ?_)
    · refine g_il0 dJ11_checkIndex_16 ?_
      exact g_iret rfl dJ11_checkIndex_17 ⟨_, rfl, hQ⟩
    exact absurd h6 (by omega)
theorem js_sci {i n : Int} {Q : JH → Prop} (hn : 0 ≤ n ∧ n < 2147483648) (h : 0 ≤ i ∧ i < n)
    (hQ : Q σ) : CallV_ G 3 yJ5_checkIndex cJ5_checkIndex 2 none [I_ i, I_ n] σ Q := by
  refine call_go [some (I_ i), some (I_ n)] (by decide) (Nat.le_of_ble_eq_true rfl) rfl ?_
  refine g_il0 dJ5_checkIndex_0 ?_
  refine g_il1 dJ5_checkIndex_1 ?_
  refine g_getsQ (C := "jdk/internal/util/Preconditions") (n := "SIOOBE_FORMATTER") (dd := "Ljava/util/function/BiFunction;") (by decide) q488 dJ5_checkIndex_2 (fun rf => ?_)
  refine g_callS3I (d' := 2) lk_J5_1059 (rm_lt (by decide) (by decide)) (Nat.le_of_ble_eq_true rfl) dJ5_checkIndex_5 ?_
  refine js_pci hn h ?_
  refine g_pop dJ5_checkIndex_8 rfl ?_
  exact g_vret rfl dJ5_checkIndex_9 ⟨rfl, hQ⟩
theorem js_lat {v n : Nat} {i x : Int} {Q : Int → JH → Prop} (hv : sh_ σ v = some (.inr (1, n))) (hn : n < 2147483648) (h : 0 ≤ i ∧ i < n) (hc : iv_ σ v i = x) (hx : 0 ≤ x ∧ x ≤ 127)
    (hQ : Q x σ) : CallI_ G 4 yJ10_charAt cJ10_charAt 2 (some .char) [A_ (some v), I_ i] σ Q := by
  refine call_go [some (A_ (some v)), some (I_ i)] (by decide) (Nat.le_of_ble_eq_true rfl) rfl ?_
  refine g_il1 dJ10_charAt_0 ?_
  refine g_al0 dJ10_charAt_1 ?_
  refine g_alen (by decide) hv dJ10_charAt_2 ?_
  refine g_callS2V (d' := 3) lk_J10_9 (rm_lt (by decide) (by decide)) (Nat.le_of_ble_eq_true rfl) dJ10_charAt_3 ?_
  refine js_sci (by omega) h ?_
  refine g_al0 dJ10_charAt_6 ?_
  refine g_il1 dJ10_charAt_7 ?_
  refine g_balv hv (by omega) hc dJ10_charAt_8 ?_
  refine g_sipush dJ10_charAt_9 (by decide) (by decide) ?_
  refine g_iand dJ10_charAt_12 ?_
  refine g_top (and255_id (by omega)) ?_
  refine g_i2c dJ10_charAt_13 ?_
  refine g_top (i2c_id (by omega)) ?_
  exact g_cret rfl (by omega) dJ10_charAt_14 ⟨_, rfl, hQ⟩
theorem js_charAt {a v n : Nat} {c : Int → Int} {i : Int} {Q : Int → JH → Prop} (hS : Str_ σ a v n c) (h : 0 ≤ i ∧ i < n)
    (hQ : Q (c i) σ) : CallI_ G 6 yJ5_charAt cJ5_charAt 2 (some .char) [A_ (some a), I_ i] σ Q := by
  refine call_go [some (A_ (some a)), some (I_ i)] (by decide) (Nat.le_of_ble_eq_true rfl) rfl ?_
  refine g_al0 dJ5_charAt_0 ?_
  refine g_callV0I (d' := 2) lk_J5_492 hS.1 rfl (rm_lt (by decide) (by decide)) (Nat.le_of_ble_eq_true rfl) dJ5_charAt_1 ?_
  refine js_isLatin1 hS.1 hS.2.2.2.1 ?_
  refine g_if_eq (tgt := 16) dJ5_charAt_4 (by decide) (by omega) (fun h4 => ?_) (fun h4 => ?_)
  · exact absurd h4 (by decide)
  refine g_al0 dJ5_charAt_7 ?_
  refine f_getA 0 fk_J5_9 rfl hS.1 (fun _ _ => rfl) hS.2.1 dJ5_charAt_8 ?_
  refine g_il1 dJ5_charAt_11 ?_
  refine g_callS2I (d' := 4) lk_J5_495 (rm_lt (by decide) (by decide)) (Nat.le_of_ble_eq_true rfl) dJ5_charAt_12 ?_
  refine js_lat hS.2.2.1 (by have := hS.2.2.2.2.1; omega) h (hS.2.2.2.2.2 i h.1 h.2).1 (hS.2.2.2.2.2 i h.1 h.2).2 ?_
  have hx := (hS.2.2.2.2.2 i h.1 h.2).2
  exact g_cret rfl (by omega) dJ5_charAt_15 ⟨_, rfl, hQ⟩
end
