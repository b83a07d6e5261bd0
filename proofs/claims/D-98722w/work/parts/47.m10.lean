/-! THE REFERENCE: ways to watch, to walk; decades. Written by mod/m47.py -/
set_option maxRecDepth 100000
section
variable {G : JG} {m : Nat} {σ : JH} {r s : Int → Int}
theorem en2_w (hW : RW_ r) {k : Int} (h0 : 0 ≤ k) (h1 : k < r 5) : ior_ (ishl_ 1 (r (59 + 4 * k))) (ishl_ 1 (r (60 + 4 * k))) = ((en2_ r k : Nat) : Int) := by
  have hw := hW.way h0 h1
  have hn := hW.n
  have a := p2_lt (a := r (59 + 4 * k)) (n := 7) (by omega) (by omega)
  have b := p2_lt (a := r (60 + 4 * k)) (n := 7) (by omega) (by omega)
  rw [ishl_i (by omega) (by omega), ishl_i (by omega) (by omega), ior_n (by omega) (by omega)]
  rfl
theorem ior_0 {X : Nat} (h : X < 2147483648) : ior_ (X : Int) 0 = (X : Int) := by
  have := ior_n (b := 0) h (by decide)
  rw [Nat.or_zero] at this
  exact this
theorem LD_.start0 {u i kk : Int} (h0 : 0 ≤ i) (h1 : i < 7) : LD_ r s u i (2 ^ i.toNat) 0 kk := by
  obtain ⟨x1, x2, x3, x4, -⟩ := LD_.start (r := r) (s := s) (u := u) h0 h1
  refine ⟨x1, x2, x3, x4, fun e => ?_⟩
  have := Nat.two_pow_pos i.toNat
  omega
theorem on_in (x : Int) : 0 ≤ on_ x ∧ on_ x ≤ 12 := by
  have := sI_bd (f := fun k => iand_ (ishr_ x k) 1) (n := 12) (lo := 0) (hi := 1) (fun k _ _ => by have := bit01 x k; omega) (by decide)
  unfold on_
  omega
theorem top_bit {n : Nat} (hn : n ≤ 12) {k : Int} (h0 : 0 ≤ k) (h1 : k < n) : hb_ (((2 ^ n : Nat) : Int) - 1) k := by
  have hp := Nat.two_pow_pos n
  have hq : 2 ^ n ≤ 2 ^ 12 := Nat.pow_le_pow_right (by decide) hn
  rw [show (((2 ^ n : Nat) : Int) - 1) = ((2 ^ n - 1 : Nat) : Int) by omega, hb_i (by omega) h0 (by omega), Nat.testBit_two_pow_sub_one]
  exact decide_eq_true (by omega)
theorem on_all {n : Nat} (hn : n ≤ 12) {Y : Int} (h0 : 0 ≤ Y) (h1 : Y < (2 ^ n : Nat)) : on_ Y ≤ on_ (((2 ^ n : Nat) : Int) - 1) ∧ (on_ Y = on_ (((2 ^ n : Nat) : Int) - 1) → Y = ((2 ^ n : Nat) : Int) - 1) := by
  obtain ⟨X, rfl⟩ := Int.eq_ofNat_of_zero_le h0
  have hq : 2 ^ n ≤ 2 ^ 12 := Nat.pow_le_pow_right (by decide) hn
  have hX : X < 2 ^ n := by omega
  have sub : ∀ k : Int, 0 ≤ k → k < 12 → hb_ (X : Int) k → hb_ (((2 ^ n : Nat) : Int) - 1) k := by
    intro k k0 k1 hb
    refine top_bit hn k0 ?_
    rw [hb_i (by omega) k0 (by omega)] at hb
    by_cases hk : k < n
    · exact hk
    · rw [Nat.testBit_lt_two_pow (Nat.lt_of_lt_of_le hX (Nat.pow_le_pow_right (by decide) (by omega)))] at hb
      exact absurd hb (by decide)
  refine ⟨on_le sub, fun e => ?_⟩
  have : X = 2 ^ n - 1 := by
    refine Nat.eq_of_testBit_eq fun k => ?_
    rw [Nat.testBit_two_pow_sub_one]
    by_cases hk : k < n
    · rw [decide_eq_true hk]
      by_cases hb : X.testBit k = true
      · exact hb
      · exfalso
        have := on_lt sub (j := (k : Int)) (by omega) (by omega) (by rw [hb_i (by omega) (by omega) (by omega), Int.toNat_natCast]; exact hb) (top_bit hn (by omega) (by omega))
        omega
    · rw [decide_eq_false hk]
      exact Nat.testBit_lt_two_pow (Nat.lt_of_lt_of_le hX (Nat.pow_le_pow_right (by decide) (by omega)))
  have hp := Nat.two_pow_pos n
  omega
theorem wf_ (hW : RW_ r) (hD : DW_ r s) {i j B : Int} (hij : i ≠ j) (h1 : 0 ≤ B ∧ B < (2 ^ (r 5).toNat : Nat)) (h2 : B = ((2 ^ (r 5).toNat : Nat) : Int) - 1 ∨ ¬ ld_ r s B i j) (h3 : ∀ Y : Int, 0 ≤ Y → Y < (2 ^ (r 5).toNat : Nat) → ¬ ld_ r s Y i j → on_ B < on_ Y ∨ (on_ B = on_ Y ∧ B ≤ Y)) : iand_ B (ixor_ (s 1) (-1)) = wt_ r s i j := by
  have hn := hW.n
  have hd := hD.n
  have hq : 2 ^ (r 5).toNat ≤ 2 ^ 12 := Nat.pow_le_pow_right (by decide) (by omega)
  have hc : ¬ ld_ r s B i j := by
    rcases h2 with h | h
    · rw [h]; exact all_cut hij (fun k k0 k1 => top_bit (by omega) k0 (by omega))
    · exact h
  have hT : WT_ r s i j B := ⟨h1, hc, h3⟩
  obtain ⟨X, rfl⟩ := Int.eq_ofNat_of_zero_le h1.1
  have hs : s 1 = ((s 1).toNat : Int) := by omega
  have hm := hT.mk (C := (s 1).toNat) ⟨by omega, by omega⟩ (by omega) hs
  rw [wt_eq hT, hs, mk_w (by omega) (by omega), hm]
theorem mo_ones {x : Int} {Q : Int → JH → Prop} (hQ : Q (on_ x) σ) : CallI_ G 2 yX2_ones cX2_ones 3 (some .int) [I_ x] σ Q := by
  refine call_go [some (I_ x), none, none] (by decide) (Nat.le_of_ble_eq_true rfl) rfl ?_
  have L4 : ∀ (n : Nat) (c : Int) (k : Int), 12 - k < (n : Int) → (0 ≤ k) → (k ≤ 12) → (c = sI_ (fun k => iand_ (ishr_ x k) 1) k) → GoM_ G 2 yX2_ones cX2_ones 3 (some .int) σ (fun v σ' => ∃ x : Int, v = some (I_ x) ∧ Q x σ') 4 [some (I_ x), some (I_ c), some (I_ k)] [] σ := by
    intro n
    induction n with
    | zero => intro c k hn h0 h1 hc; exact absurd hn (by omega)
    | succ n ih =>
      intro c k hn h0 h1 hc
      refine g_il2 dX2_ones_4 ?_
      refine g_bipush dX2_ones_5 (by decide) (by decide) ?_
      refine g_icmp_ge (tgt := 24) dX2_ones_7 (by decide) (by omega) (fun h7 => ?_) (fun h7 => ?_)
      · refine g_il1 dX2_ones_24 ?_
        exact g_iret rfl dX2_ones_25 ⟨_, rfl, by rw [show k = 12 by omega] at hc; unfold on_ at hQ; rw [← hc] at hQ; exact hQ⟩
      refine g_il1 dX2_ones_10 ?_
      refine g_il0 dX2_ones_11 ?_
      refine g_il2 dX2_ones_12 ?_
      refine g_ishr dX2_ones_13 ?_
      refine g_iconst dX2_ones_14 ?_
      refine g_iand dX2_ones_15 ?_
      refine g_iadd dX2_ones_16 ?_
      refine g_is1 dX2_ones_17 (by decide) rfl ?_
      refine g_inc2 dX2_ones_18 (by decide) rfl ?_
      refine g_goto (tgt := 4) dX2_ones_21 (by decide) ?_
      refine ih _ _ (by omega) (by omega) (by omega) ?_
      rw [sI_s _ h0, ← hc]
  refine g_iconst dX2_ones_0 ?_
  refine g_is1 dX2_ones_1 (by decide) rfl ?_
  refine g_iconst dX2_ones_2 ?_
  refine g_is2 dX2_ones_3 (by decide) rfl ?_
  exact L4 13 _ _ (by omega) (by omega) (by omega) rfl
theorem mo_doLead {i j u : Int} {Q : Int → JH → Prop} (hM : MD_ G m σ r s) (hW : RW_ r) (hi : 0 ≤ i ∧ i < r 4) (hj : 0 ≤ j ∧ j < r 4)
    (hQ : ∀ z : Int, (z = 1 ∧ ld_ r s u i j) ∨ (z = 0 ∧ ¬ ld_ r s u i j) → Q z σ) : CallI_ G 4 yX2_doLead cX2_doLead 8 (some .boolean) [A_ (some m), I_ i, I_ j, I_ u] σ Q := by
  refine call_go [some (A_ (some m)), some (I_ i), some (I_ j), some (I_ u), none, none, none, none] (by decide) (Nat.le_of_ble_eq_true rfl) rfl ?_
  have hn := hW.n
  have L8 : ∀ (n : Nat) (X : Nat) (W : Nat) (q : Int) (v6 : Option AV) (v7 : Option AV), q < (n : Int) → (0 ≤ q) → (W = X ∨ 129 - (X : Int) ≤ q) → (LD_ r s u i X W (r 5)) → GoM_ G 4 yX2_doLead cX2_doLead 8 (some .boolean) σ (fun v σ' => ∃ x : Int, v = some (I_ x) ∧ Q x σ') 8 [some (A_ (some m)), some (I_ i), some (I_ j), some (I_ u), some (I_ (X : Int)), some (I_ (W : Int)), v6, v7] [] σ := by
    intro n
    induction n with
    | zero => intro X W q v6 v7 hn hq0 hq hL; exact absurd hn (by omega)
    | succ n ih =>
      intro X W q v6 v7 hn hq0 hq hL
      have hX := hL.1
      have hWX := hL.2.2.2.1
      refine g_il5 dX2_doLead_8 ?_
      refine g_il4 dX2_doLead_10 ?_
      refine g_icmp_eq (tgt := 115) dX2_doLead_12 (by decide) (by omega) (fun h12 => ?_) (fun h12 => ?_)
      · refine g_il4 dX2_doLead_115 ?_
        refine g_il2 dX2_doLead_117 ?_
        refine g_callS2I (d' := 2) lk_X2_298 (rm_lt (by decide) (by decide)) (Nat.le_of_ble_eq_true rfl) dX2_doLead_118 ?_
        refine mo_hasBit (fun y hy => ?_)
        exact g_zret rfl (by omega) dX2_doLead_121 ⟨_, rfl, hQ _ (by have e : W = X := (by omega); subst e; rw [hb_i (by omega) (by omega) (by omega), ← hL.done hW (by omega) (by omega)] at hy; exact hy)⟩
      obtain ⟨W0, hW0⟩ : ∃ W0 : Nat, W0 = X := ⟨X, rfl⟩
      have L22 : ∀ (n : Nat) (X : Nat) (k : Int) (v7 : Option AV), r 5 - k < (n : Int) → (0 ≤ k) → (k ≤ r 5) → (LD_ r s u i X W0 k) → GoM_ G 4 yX2_doLead cX2_doLead 8 (some .boolean) σ (fun v σ' => ∃ x : Int, v = some (I_ x) ∧ Q x σ') 22 [some (A_ (some m)), some (I_ i), some (I_ j), some (I_ u), some (I_ (X : Int)), some (I_ (W0 : Int)), some (I_ k), v7] [] σ := by
        intro n2
        induction n2 with
        | zero => intro X k v7 hn g0 g1 gL; exact absurd hn (by omega)
        | succ n2 ih2 =>
          intro X k v7 hn g0 g1 gL
          refine g_il6 dX2_doLead_22 ?_
          refine g_al0 dX2_doLead_24 ?_
          refine f_getA 15 fk_X2_20 rfl hM.sh (fun _ _ => rfl) hM.f15 dX2_doLead_25 ?_
          refine g_iconst dX2_doLead_28 ?_
          refine g_ialv hM.a15 (by omega) (hM.rr _) dX2_doLead_29 ?_
          refine g_icmp_ge (tgt := 112) dX2_doLead_30 (by decide) (by omega) (fun h30 => ?_) (fun h30 => ?_)
          · refine g_goto (tgt := 8) dX2_doLead_112 (by decide) ?_
            refine ih _ _ (q - 1) _ _ (by omega) (by omega) ?_ (by rw [show k = r 5 by omega] at gL; exact gL)
            have := gL.2.2.2.1
            omega
          refine g_al0 dX2_doLead_33 ?_
          refine g_il6 dX2_doLead_34 ?_
          refine g_callV1I (d' := 3) lk_X2_302 hM.sh rfl (rm_lt (by decide) (by decide)) (Nat.le_of_ble_eq_true rfl) dX2_doLead_36 ?_
          refine mo_isClosed hM (fun z hz => ?_)
          refine g_if_ne (tgt := 106) dX2_doLead_39 (by decide) (by omega) (fun h39 => ?_) (fun h39 => ?_)
          · refine g_inc6 dX2_doLead_106 (by decide) rfl ?_
            refine g_goto (tgt := 22) dX2_doLead_109 (by decide) ?_
            exact ih2 _ _ _ (by omega) (by omega) (by omega) (gL.skip (Or.inl (by omega)))
          refine g_il3 dX2_doLead_42 ?_
          refine g_il6 dX2_doLead_43 ?_
          refine g_callS2I (d' := 2) lk_X2_298 (rm_lt (by decide) (by decide)) (Nat.le_of_ble_eq_true rfl) dX2_doLead_45 ?_
          refine mo_hasBit (fun y hy => ?_)
          refine g_if_eq (tgt := 54) dX2_doLead_48 (by decide) (by omega) (fun h48 => ?_) (fun h48 => ?_)
          · refine g_iconst dX2_doLead_54 ?_
            refine g_al0 dX2_doLead_55 ?_
            refine f_getA 15 fk_X2_20 rfl hM.sh (fun _ _ => rfl) hM.f15 dX2_doLead_56 ?_
            refine g_bipush dX2_doLead_59 (by decide) (by decide) ?_
            refine g_iconst dX2_doLead_61 ?_
            refine g_il6 dX2_doLead_62 ?_
            refine g_imul dX2_doLead_64 ?_
            refine g_iadd dX2_doLead_65 ?_
            refine g_ialv hM.a15 (by omega) (hM.rr _) dX2_doLead_66 ?_
            refine g_ishl dX2_doLead_67 ?_
            refine g_iconst dX2_doLead_68 ?_
            refine g_al0 dX2_doLead_69 ?_
            refine f_getA 15 fk_X2_20 rfl hM.sh (fun _ _ => rfl) hM.f15 dX2_doLead_70 ?_
            refine g_bipush dX2_doLead_73 (by decide) (by decide) ?_
            refine g_iconst dX2_doLead_75 ?_
            refine g_il6 dX2_doLead_76 ?_
            refine g_imul dX2_doLead_78 ?_
            refine g_iadd dX2_doLead_79 ?_
            refine g_iconst dX2_doLead_80 ?_
            refine g_iadd dX2_doLead_81 ?_
            refine g_ialv hM.a15 (by omega) (hM.rrx (j := 60 + 4 * k) (by omega)) dX2_doLead_82 ?_
            refine g_ishl dX2_doLead_83 ?_
            refine g_ior dX2_doLead_84 ?_
            refine g_top (en2_w hW (by omega) (by omega)) ?_
            have hen := en2_lt hW (k := k) (by omega) (by omega)
            have hX2 := gL.1
            refine g_is7 dX2_doLead_85 (by decide) rfl ?_
            refine g_il4 dX2_doLead_87 ?_
            refine g_il4 dX2_doLead_89 ?_
            refine g_il7 dX2_doLead_91 ?_
            refine g_iand dX2_doLead_93 ?_
            refine g_top (iand_n (by omega) (by omega)) ?_
            have hal : X &&& en2_ r k ≤ X := Nat.and_le_left
            refine g_if_eq (tgt := 102) dX2_doLead_94 (by decide) (by omega) (fun h94 => ?_) (fun h94 => ?_)
            · refine g_iconst dX2_doLead_102 ?_
              refine g_ior dX2_doLead_103 ?_
              refine g_top (ior_0 (by omega)) ?_
              refine g_is4 dX2_doLead_104 (by decide) rfl ?_
              refine g_inc6 dX2_doLead_106 (by decide) rfl ?_
              refine g_goto (tgt := 22) dX2_doLead_109 (by decide) ?_
              exact ih2 _ _ _ (by omega) (by omega) (by omega) (gL.off (by omega))
            refine g_il7 dX2_doLead_97 ?_
            refine g_goto (tgt := 103) dX2_doLead_99 (by decide) ?_
            refine g_ior dX2_doLead_103 ?_
            refine g_top (ior_n (by omega) (by omega)) ?_
            refine g_is4 dX2_doLead_104 (by decide) rfl ?_
            refine g_inc6 dX2_doLead_106 (by decide) rfl ?_
            refine g_goto (tgt := 22) dX2_doLead_109 (by decide) ?_
            exact ih2 _ _ _ (by omega) (by omega) (by omega) (gL.go hW (by omega) (by omega) (by omega) (by omega) (by omega))
          refine g_goto (tgt := 106) dX2_doLead_51 (by decide) ?_
          refine g_inc6 dX2_doLead_106 (by decide) rfl ?_
          refine g_goto (tgt := 22) dX2_doLead_109 (by decide) ?_
          exact ih2 _ _ _ (by omega) (by omega) (by omega) (gL.skip (Or.inr (by omega)))
      refine g_il4 dX2_doLead_15 ?_
      refine g_is5 dX2_doLead_17 (by decide) rfl ?_
      refine g_iconst dX2_doLead_19 ?_
      refine g_is6 dX2_doLead_20 (by decide) rfl ?_
      subst hW0
      exact L22 ((r 5).toNat + 1) _ _ _ (by omega) (by omega) (by omega) hL.again
  refine g_iconst dX2_doLead_0 ?_
  refine g_il1 dX2_doLead_1 ?_
  refine g_ishl dX2_doLead_2 ?_
  refine g_top (ishl_i (by omega) (by omega)) ?_
  refine g_is4 dX2_doLead_3 (by decide) rfl ?_
  refine g_iconst dX2_doLead_5 ?_
  refine g_is5 dX2_doLead_6 (by decide) rfl ?_
  exact L8 200 _ 0 199 _ _ (by omega) (by omega) (Or.inr (by have h := Int.natCast_nonneg (2 ^ i.toNat); generalize ((2 ^ i.toNat : Nat) : Int) = y at *; omega)) (LD_.start0 (by omega) (by omega))
theorem mo_watch {p : Int} {i j : Int} {Q : Int → JH → Prop} (hM : MD_ G m σ r s) (hp : iv_ σ m 14 = p) (hP : MP_ p r s) (hi : -2147483648 ≤ i ∧ i < 2147483648) (hj : -2147483648 ≤ j ∧ j < 2147483648)
    (hQ : ∀ (x t : Int) (σ' : JH), qWatch_ p r s i j = (x, t) → MD_ G m σ' r s → ME_ m σ σ' t → Q x σ') : CallI_ G 5 yX2_watch cX2_watch 5 (some .int) [A_ (some m), I_ i, I_ j] σ Q := by
  refine call_go [some (A_ (some m)), some (I_ i), some (I_ j), none, none] (by decide) (Nat.le_of_ble_eq_true rfl) rfl ?_
  have hp01 := hP.b
  refine g_al0 dX2_watch_0 ?_
  refine g_callV0V (d' := 2) lk_X2_167 hM.sh rfl (rm_lt (by decide) (by decide)) (Nat.le_of_ble_eq_true rfl) dX2_watch_1 ?_
  refine mo_good hM (fun σ1 hM hE => ?_)
  have hp := hE.p14.trans hp
  refine g_al0 dX2_watch_4 ?_
  refine g_il1 dX2_watch_5 ?_
  refine g_callV1I (d' := 3) lk_X2_277 hM.sh rfl (rm_lt (by decide) (by decide)) (Nat.le_of_ble_eq_true rfl) dX2_watch_6 ?_
  refine mo_isIsland hM hp hP.rw (by omega) (fun x6 hx6 => ?_)
  unfold isI_ at hx6
  refine g_if_eq (tgt := 25) dX2_watch_9 (by decide) (by omega) (fun h9 => ?_) (fun h9 => ?_)
  · refine g_al0 dX2_watch_25 ?_
    refine g_iconst dX2_watch_26 ?_
    refine g_callV1I (d' := 2) lk_X2_170 hM.sh rfl (rm_lt (by decide) (by decide)) (Nat.le_of_ble_eq_true rfl) dX2_watch_27 ?_
    refine mo_no hM hE (fun σ2 hM hE => ?_)
    exact g_iret rfl dX2_watch_30 ⟨_, rfl, hQ _ _ _ (by unfold qWatch_; rw [if_neg (by omega)]) hM hE⟩
  refine g_al0 dX2_watch_12 ?_
  refine g_il2 dX2_watch_13 ?_
  refine g_callV1I (d' := 3) lk_X2_277 hM.sh rfl (rm_lt (by decide) (by decide)) (Nat.le_of_ble_eq_true rfl) dX2_watch_14 ?_
  refine mo_isIsland hM hp hP.rw (by omega) (fun x14 hx14 => ?_)
  unfold isI_ at hx14
  refine g_if_eq (tgt := 25) dX2_watch_17 (by decide) (by omega) (fun h17 => ?_) (fun h17 => ?_)
  · refine g_al0 dX2_watch_25 ?_
    refine g_iconst dX2_watch_26 ?_
    refine g_callV1I (d' := 2) lk_X2_170 hM.sh rfl (rm_lt (by decide) (by decide)) (Nat.le_of_ble_eq_true rfl) dX2_watch_27 ?_
    refine mo_no hM hE (fun σ2 hM hE => ?_)
    exact g_iret rfl dX2_watch_30 ⟨_, rfl, hQ _ _ _ (by unfold qWatch_; rw [if_neg (by omega)]) hM hE⟩
  refine g_il1 dX2_watch_20 ?_
  refine g_il2 dX2_watch_21 ?_
  refine g_icmp_ne (tgt := 31) dX2_watch_22 (by decide) (by omega) (fun h22 => ?_) (fun h22 => ?_)
  · obtain ⟨hW, hD⟩ := hP.get (by omega)
    have hn := hW.n
    have f1 : 0 ≤ i ∧ i < r 4 := by omega
    have f2 : 0 ≤ j ∧ j < r 4 := by omega
    have f3 : p = 1 := by omega
    clear hx6 hx14
    obtain ⟨N, hN⟩ : ∃ N : Nat, N = 2 ^ (r 5).toNat := ⟨_, rfl⟩
    have hNp : 1 ≤ N := by rw [hN]; exact Nat.two_pow_pos _
    have hNq : N ≤ 4096 := by rw [hN]; exact (Nat.pow_le_pow_right (by decide) (by omega) : 2 ^ (r 5).toNat ≤ 2 ^ 12)
    have hsh : ishl_ 1 (r 5) = (N : Int) := by rw [hN]; exact ishl_i (by omega) (by omega)
    have L45 : ∀ (n : Nat) (B : Int) (S : Int), (N : Int) - S < (n : Int) → (0 ≤ S) → (S ≤ (N : Int)) → (0 ≤ B ∧ B < (N : Int)) → (B = (N : Int) - 1 ∨ (B < S ∧ ¬ ld_ r s B i j)) → (∀ Y : Int, 0 ≤ Y → Y < S → ¬ ld_ r s Y i j → on_ B < on_ Y ∨ (on_ B = on_ Y ∧ B ≤ Y)) → GoM_ G 5 yX2_watch cX2_watch 5 (some .int) σ (fun v σ' => ∃ x : Int, v = some (I_ x) ∧ Q x σ') 45 [some (A_ (some m)), some (I_ i), some (I_ j), some (I_ B), some (I_ S)] [] σ1 := by
      intro n
      induction n with
      | zero => intro B S hn h0 h1 hB hc hm; exact absurd hn (by omega)
      | succ n ih =>
        intro B S hn h0 h1 hB hc hm
        refine g_il4 dX2_watch_45 ?_
        refine g_iconst dX2_watch_47 ?_
        refine g_al0 dX2_watch_48 ?_
        refine f_getA 15 fk_X2_20 rfl hM.sh (fun _ _ => rfl) hM.f15 dX2_watch_49 ?_
        refine g_iconst dX2_watch_52 ?_
        refine g_ialv hM.a15 (by omega) (hM.rr _) dX2_watch_53 ?_
        refine g_ishl dX2_watch_54 ?_
        refine g_top hsh ?_
        refine g_icmp_ge (tgt := 90) dX2_watch_55 (by decide) (by omega) (fun h55 => ?_) (fun h55 => ?_)
        · refine g_il3 dX2_watch_90 ?_
          refine g_al0 dX2_watch_91 ?_
          refine f_getA 17 fk_X2_26 rfl hM.sh (fun _ _ => rfl) hM.f17 dX2_watch_92 ?_
          refine g_iconst dX2_watch_95 ?_
          refine g_ialv hM.a17 (by omega) (hM.ss _) dX2_watch_96 ?_
          refine g_iconst dX2_watch_97 ?_
          refine g_ixor dX2_watch_98 ?_
          refine g_iand dX2_watch_99 ?_
          exact g_iret rfl dX2_watch_100 ⟨_, rfl, hQ _ _ _ (by rw [wf_ hW hD (by omega) (by rw [← hN]; exact hB) (by rw [← hN]; exact hc.elim Or.inl (fun q => Or.inr q.2)) (fun Y y0 y1 y2 => hm Y y0 (by rw [← hN] at y1; omega) y2)]; unfold qWatch_; rw [if_pos (by omega)]) hM hE⟩
        refine g_il4 dX2_watch_58 ?_
        refine g_callS1I (d' := 2) lk_X2_404 (rm_lt (by decide) (by decide)) (Nat.le_of_ble_eq_true rfl) dX2_watch_60 ?_
        refine mo_ones ?_
        refine g_il3 dX2_watch_63 ?_
        refine g_callS1I (d' := 2) lk_X2_404 (rm_lt (by decide) (by decide)) (Nat.le_of_ble_eq_true rfl) dX2_watch_64 ?_
        refine mo_ones ?_
        have o1 := on_in S
        have o2 := on_in B
        refine g_icmp_ge (tgt := 84) dX2_watch_67 (by decide) (by omega) (fun h67 => ?_) (fun h67 => ?_)
        · refine g_inc4 dX2_watch_84 (by decide) rfl ?_
          refine g_goto (tgt := 45) dX2_watch_87 (by decide) ?_
          refine ih _ _ (by omega) (by omega) (by omega) hB (hc.imp id (fun q => ⟨by omega, q.2⟩)) (fun Y y0 y1 y2 => ?_)
          by_cases hY : Y = S
          · subst hY
            rcases hc with q | q
            · have oa := on_all (n := (r 5).toNat) (Y := Y) (by omega) (by omega) (by rw [← hN]; omega)
              rw [← hN, ← q] at oa; omega
            · omega
          · exact hm Y y0 (by omega) y2
        refine g_al0 dX2_watch_70 ?_
        refine g_il1 dX2_watch_71 ?_
        refine g_il2 dX2_watch_72 ?_
        refine g_il4 dX2_watch_73 ?_
        refine g_callV3I (d' := 4) lk_X2_407 hM.sh rfl (rm_lt (by decide) (by decide)) (Nat.le_of_ble_eq_true rfl) dX2_watch_75 ?_
        refine mo_doLead hM hW (by omega) (by omega) (fun z hz => ?_)
        refine g_if_ne (tgt := 84) dX2_watch_78 (by decide) (by omega) (fun h78 => ?_) (fun h78 => ?_)
        · refine g_inc4 dX2_watch_84 (by decide) rfl ?_
          refine g_goto (tgt := 45) dX2_watch_87 (by decide) ?_
          refine ih _ _ (by omega) (by omega) (by omega) hB (hc.imp id (fun q => ⟨by omega, q.2⟩)) (fun Y y0 y1 y2 => ?_)
          by_cases hY : Y = S
          · subst hY; rcases hz with q | q; (exact absurd q.2 y2); (omega)
          · exact hm Y y0 (by omega) y2
        refine g_il4 dX2_watch_81 ?_
        refine g_is3 dX2_watch_83 (by decide) rfl ?_
        refine g_inc4 dX2_watch_84 (by decide) rfl ?_
        refine g_goto (tgt := 45) dX2_watch_87 (by decide) ?_
        refine ih _ _ (by omega) (by omega) (by omega) (by omega) (Or.inr ⟨by omega, by rcases hz with q | q; (omega); (exact q.2)⟩) (fun Y y0 y1 y2 => ?_)
        by_cases hY : Y = S
        · subst hY; exact Or.inr ⟨rfl, Int.le_refl _⟩
        · have := hm Y y0 (by omega) y2; omega
    refine g_iconst dX2_watch_31 ?_
    refine g_al0 dX2_watch_32 ?_
    refine f_getA 15 fk_X2_20 rfl hM.sh (fun _ _ => rfl) hM.f15 dX2_watch_33 ?_
    refine g_iconst dX2_watch_36 ?_
    refine g_ialv hM.a15 (by omega) (hM.rr _) dX2_watch_37 ?_
    refine g_ishl dX2_watch_38 ?_
    refine g_top hsh ?_
    refine g_iconst dX2_watch_39 ?_
    refine g_isub dX2_watch_40 ?_
    refine g_is3 dX2_watch_41 (by decide) rfl ?_
    refine g_iconst dX2_watch_42 ?_
    refine g_is4 dX2_watch_43 (by decide) rfl ?_
    exact L45 (N + 1) _ _ (by omega) (by omega) (by omega) (by omega) (by omega) (fun Y y0 y1 => by omega)
  refine g_al0 dX2_watch_25 ?_
  refine g_iconst dX2_watch_26 ?_
  refine g_callV1I (d' := 2) lk_X2_170 hM.sh rfl (rm_lt (by decide) (by decide)) (Nat.le_of_ble_eq_true rfl) dX2_watch_27 ?_
  refine mo_no hM hE (fun σ2 hM hE => ?_)
  exact g_iret rfl dX2_watch_30 ⟨_, rfl, hQ _ _ _ (by unfold qWatch_; rw [if_neg (by omega)]) hM hE⟩
end
