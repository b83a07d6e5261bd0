/-! THE COMPONENT: registered letters; who brings which. Written by mod/m86.py -/
set_option maxRecDepth 100000
section
variable {G : JG} {X : Nat} {σ : JH} {T : XT} {r s : Int → Int}
theorem xo_common {up : Int} {Q : Int → JH → Prop} (hu : 1 ≤ up ∧ up ≤ 10000)
    (hQ : Q (Int.gcd up 10000 : Int) σ) : CallL_ G 2 yX1_common cX1_common 10 (some .long) [L_ up, L_ 10000] σ Q := by
  refine call_go [some (L_ up), none, some (L_ 10000), none, none, none, none, none, none, none] (by decide) (Nat.le_of_ble_eq_true rfl) rfl ?_
  have L6 : ∀ (n : Nat) (x : Int) (z : Int) (v9 : Option AV) (v10 : Option AV), z < (n : Int) → (0 < x ∧ x ≤ 10000) → (0 ≤ z ∧ z ≤ 10000) → (Int.gcd x z = Int.gcd up 10000) → GoM_ G 2 yX1_common cX1_common 10 (some .long) σ (fun v σ' => ∃ x : Int, v = some (L_ x) ∧ Q x σ') 6 [some (L_ up), none, some (L_ 10000), none, some (L_ x), none, some (L_ z), none, v9, v10] [] σ := by
    intro n
    induction n with
    | zero => intro x z v9 v10 hn h0 h1 hg; exact absurd hn (by omega)
    | succ n ih =>
      intro x z v9 v10 hn h0 h1 hg
      refine g_ll6 dX1_common_6 ?_
      refine g_lconst (x := 0) dX1_common_8 (by decide) ?_
      refine g_lcmp dX1_common_9 ?_
      rw [lcmp_0 (by omega)]
      refine g_if_eq (tgt := 31) dX1_common_10 (by decide) (by split <;> omega) (fun h10 => ?_) (fun h10 => ?_)
      · have hz : z = 0 := by split at h10 <;> omega
        subst hz
        have eg : (Int.gcd up 10000 : Int) = x := by rw [← hg, Int.gcd_zero_right]; omega
        refine g_ll4 dX1_common_31 ?_
        exact g_lret rfl dX1_common_33 ⟨_, rfl, by have q := hQ; rw [eg] at q; exact q⟩
      refine g_ll4 dX1_common_13 ?_
      refine g_ll6 dX1_common_15 ?_
      refine g_lrem dX1_common_17 (by omega) ?_
      have hdm := dm_ (a := x) (b := z) (by omega) (by omega)
      refine g_ls8 dX1_common_18 (by decide) rfl ?_
      refine g_ll6 dX1_common_20 ?_
      refine g_ls4 dX1_common_22 (by decide) rfl ?_
      refine g_ll8 dX1_common_24 ?_
      refine g_ls6 dX1_common_26 (by decide) rfl ?_
      refine g_goto (tgt := 6) dX1_common_28 (by decide) ?_
      refine ih _ _ _ _ (by omega) (by omega) (by omega) ?_
      rw [gcd_step (by omega) (by omega)]; exact hg
  refine g_ll0 dX1_common_0 ?_
  refine g_ls4 dX1_common_1 (by decide) rfl ?_
  refine g_ll2 dX1_common_3 ?_
  refine g_ls6 dX1_common_4 (by decide) rfl ?_
  exact L6 10001 _ _ _ _ (by omega) (by omega) (by omega) rfl
theorem gcd_up {up : Int} (hu : 1 ≤ up ∧ up ≤ 10000) : 1 ≤ (Int.gcd up 10000 : Int) ∧ (Int.gcd up 10000 : Int) ≤ 10000 := by
  have h1 : Int.gcd up 10000 ≠ 0 := fun h => by
    have := (Int.gcd_eq_zero_iff.mp h).1
    omega
  have h2 := Int.gcd_le_right (a := up) (b := 10000) (by decide)
  omega
theorem xo_fraction  {up lower : Int} {Q : Int → JH → Prop} (hR : XR_ G X σ) (hu : 1 ≤ up ∧ up ≤ 10000) (hl : lower = 0 ∨ lower = 1)
    (hQ : Q ((if lower = 1 then 10000 else up) / (Int.gcd up 10000 : Int)) (pi_ (pi_ σ X 4 0) X 3 (-1))) : CallL_ G 3 yX1_fraction cX1_fraction 6 (some .long) [A_ (some X), L_ up, L_ 10000, I_ lower] σ Q := by
  refine call_go [some (A_ (some X)), some (L_ up), none, some (L_ 10000), none, some (I_ lower)] (by decide) (Nat.le_of_ble_eq_true rfl) rfl ?_
  refine g_al0 dX1_fraction_0 ?_
  refine g_iconst dX1_fraction_1 ?_
  refine g_callV1I (d' := 2) lk_X1_69 hR.sh rfl (rm_lt (by decide) (by decide)) (Nat.le_of_ble_eq_true rfl) dX1_fraction_2 ?_
  refine xo_well hR ?_
  refine g_pop dX1_fraction_5 rfl ?_
  refine g_il5 dX1_fraction_6 ?_
  refine g_if_eq (tgt := 15) dX1_fraction_8 (by decide) (by omega) (fun h8 => ?_) (fun h8 => ?_)
  · refine g_ll1 dX1_fraction_15 ?_
    refine g_ll1 dX1_fraction_16 ?_
    refine g_ll3 dX1_fraction_17 ?_
    refine g_callS2L (d' := 2) lk_X1_72 (rm_lt (by decide) (by decide)) (Nat.le_of_ble_eq_true rfl) dX1_fraction_18 ?_
    refine xo_common hu ?_
    have hgu := gcd_up hu
    refine g_ldiv dX1_fraction_21 (by omega) ?_
    exact g_lret rfl dX1_fraction_22 ⟨_, rfl, by have q := hQ; rw [if_neg (by omega)] at q; exact q⟩
  refine g_ll3 dX1_fraction_11 ?_
  refine g_goto (tgt := 16) dX1_fraction_12 (by decide) ?_
  refine g_ll1 dX1_fraction_16 ?_
  refine g_ll3 dX1_fraction_17 ?_
  refine g_callS2L (d' := 2) lk_X1_72 (rm_lt (by decide) (by decide)) (Nat.le_of_ble_eq_true rfl) dX1_fraction_18 ?_
  refine xo_common hu ?_
  have hgu := gcd_up hu
  refine g_ldiv dX1_fraction_21 (by omega) ?_
  exact g_lret rfl dX1_fraction_22 ⟨_, rfl, by have q := hQ; rw [if_pos (by omega)] at q; exact q⟩
theorem xo_registered {p : Int} {b lo : Int} {Q : Int → JH → Prop} (hX0 : XQ_ G X σ p T r s) (hP : MP_ p r s) (hb : -2147483648 ≤ b ∧ b < 2147483648) (hlo : -2147483648 ≤ lo ∧ lo < 2147483648) (hl2 : lo = 0 ∨ lo = 1)
    (hQ : ∀ (x t : Int) (σ' : JH), qReg_ p r s b lo = (x, t) → XQ_ G X σ' p T r s → XE_ X σ σ' t → Q x σ') : CallL_ G 13 yX1_registered cX1_registered 7 (some .long) [A_ (some X), I_ b, I_ lo] σ Q := by
  refine call_go [some (A_ (some X)), some (I_ b), some (I_ lo), none, none, none, none] (by decide) (Nat.le_of_ble_eq_true rfl) rfl ?_
  refine g_lt (fun hlt hgz => ?_)
  have hR := hX0.1
  have hp01 := hP.b
  refine g_al0 dX1_registered_0 ?_
  refine g_il1 dX1_registered_1 ?_
  refine g_callV1I (d' := 3) lk_X1_168 hR.sh rfl (rm_lt (by decide) (by decide)) (Nat.le_of_ble_eq_true rfl) dX1_registered_2 ?_
  refine xo_isBox hX0 hP.rw (by omega) (fun x2 hx2 => ?_)
  unfold isB_ at hx2
  refine g_if_ne (tgt := 15) dX1_registered_5 (by decide) (by omega) (fun h5 => ?_) (fun h5 => ?_)
  · refine g_al0 dX1_registered_15 ?_
    refine g_il1 dX1_registered_16 ?_
    refine g_bipush dX1_registered_17 (by decide) (by decide) ?_
    refine g_callV2I (d' := 12) lk_X1_337 hR.sh rfl (rm_lt (by decide) (by decide)) (Nat.le_of_ble_eq_true rfl) dX1_registered_19 ?_
    obtain ⟨hW, hD⟩ := hP.get (by omega)
    have hX := hX0.get (by omega)
    have hn := hW.n
    have hlt0 := hlt
    refine xo_surestBut hX hW hD hlt (by omega) (by omega) (fun σ1 hF1 => ?_)
    have hX := hX.xs hF1.fx hlt
    have hR := hX.R
    have hlt := lt_fr hlt hF1
    rw [← sb_none]
    have hs1 := sb_in (r := r) (s := s) (by omega) b (-1)
    refine g_is3 dX1_registered_22 (by decide) rfl ?_
    refine g_il3 dX1_registered_23 ?_
    refine g_bipush dX1_registered_24 (by decide) (by decide) ?_
    refine g_icmp_ne (tgt := 37) dX1_registered_26 (by decide) (by omega) (fun h26 => ?_) (fun h26 => ?_)
    · refine g_al0 dX1_registered_37 ?_
      refine g_il1 dX1_registered_38 ?_
      refine g_il3 dX1_registered_39 ?_
      refine g_callV2I (d' := 12) lk_X1_337 hR.sh rfl (rm_lt (by decide) (by decide)) (Nat.le_of_ble_eq_true rfl) dX1_registered_40 ?_
      refine xo_surestBut hX hW hD hlt (by omega) (by omega) (fun σ2 hF2 => ?_)
      have hX := hX.xs hF2.fx hlt
      have hR := hX.R
      have hlt := lt_fr hlt hF2
      have hs2 := sb_in (r := r) (s := s) (by omega) b (sb_ r s b (-1))
      have hlo := lo_in hW (r := r) (s := s) (b := b) (by omega)
      refine g_is4 dX1_registered_43 (by decide) rfl ?_
      refine g_il4 dX1_registered_45 ?_
      refine g_bipush dX1_registered_47 (by decide) (by decide) ?_
      refine g_icmp_ne (tgt := 68) dX1_registered_49 (by decide) (by omega) (fun h49 => ?_) (fun h49 => ?_)
      · refine g_al0 dX1_registered_68 ?_
        refine g_il3 dX1_registered_69 ?_
        refine g_callV1A (d' := 5) lk_X1_149 hR.sh rfl (rm_lt (by decide) (by decide)) (Nat.le_of_ble_eq_true rfl) dX1_registered_70 ?_
        refine xo_whaleOf hX hW hD (by omega) ?_
        obtain ⟨⟨κ, hκ, hkd, hsw⟩, hw2⟩ := hX.P.whl (w := sb_ r s b (-1)) (by omega) (by omega)
        have hww := hW.whale (w := sb_ r s b (-1)) (by omega) (by omega)
        refine f_getv 3 (fk_X1_165 _ hκ) rfl hsw (wty_ hκ (by decide)) hw2.2.2.2 dX1_registered_73 ?_
        refine g_i2l dX1_registered_76 (by omega) ?_
        refine g_al0 dX1_registered_77 ?_
        refine g_il4 dX1_registered_78 ?_
        refine g_callV1A (d' := 5) lk_X1_149 hR.sh rfl (rm_lt (by decide) (by decide)) (Nat.le_of_ble_eq_true rfl) dX1_registered_80 ?_
        refine xo_whaleOf hX hW hD (by omega) ?_
        obtain ⟨⟨κ, hκ, hkd, hsw⟩, hw2⟩ := hX.P.whl (w := sb_ r s b (sb_ r s b (-1))) (by omega) (by omega)
        have hww := hW.whale (w := sb_ r s b (sb_ r s b (-1))) (by omega) (by omega)
        refine f_getv 3 (fk_X1_165 _ hκ) rfl hsw (wty_ hκ (by decide)) hw2.2.2.2 dX1_registered_83 ?_
        refine g_i2l dX1_registered_86 (by omega) ?_
        refine g_lmul dX1_registered_87 ?_
        refine g_topL (show _ = lo_ r s b by unfold lo_; rw [if_neg (by omega)]) ?_
        refine g_ls5 dX1_registered_88 (by decide) rfl ?_
        refine g_al0 dX1_registered_90 ?_
        refine g_ldc2 (x := 10000) q1424 dX1_registered_91 (by decide) ?_
        refine g_ll5 dX1_registered_94 ?_
        refine g_lsub dX1_registered_96 ?_
        refine g_ldc2 (x := 10000) q1424 dX1_registered_97 (by decide) ?_
        refine g_il2 dX1_registered_100 ?_
        refine g_callV3L (d' := 3) lk_X1_344 hR.sh rfl (rm_lt (by decide) (by decide)) (Nat.le_of_ble_eq_true rfl) dX1_registered_101 ?_
        refine xo_fraction hR (by omega) hl2 ?_
        exact g_lret rfl dX1_registered_104 ⟨_, rfl, hQ _ _ _ (by unfold qReg_; rw [if_pos (by omega), if_neg (by omega)]; unfold rg_; rw [Int.gcd_comm]) (hX0.e (XE_.fr (hF1.tr hF2).fx) hlt0) (XE_.fr (hF1.tr hF2).fx)⟩
      refine g_ldc2 (x := 100) q1423 dX1_registered_52 (by decide) ?_
      refine g_al0 dX1_registered_55 ?_
      refine g_il3 dX1_registered_56 ?_
      refine g_callV1A (d' := 5) lk_X1_149 hR.sh rfl (rm_lt (by decide) (by decide)) (Nat.le_of_ble_eq_true rfl) dX1_registered_57 ?_
      refine xo_whaleOf hX hW hD (by omega) ?_
      obtain ⟨⟨κ, hκ, hkd, hsw⟩, hw2⟩ := hX.P.whl (w := sb_ r s b (-1)) (by omega) (by omega)
      have hww := hW.whale (w := sb_ r s b (-1)) (by omega) (by omega)
      refine f_getv 3 (fk_X1_165 _ hκ) rfl hsw (wty_ hκ (by decide)) hw2.2.2.2 dX1_registered_60 ?_
      refine g_i2l dX1_registered_63 (by omega) ?_
      refine g_lmul dX1_registered_64 ?_
      refine g_topL (show _ = lo_ r s b by unfold lo_; rw [if_pos (by omega), Int.mul_comm]) ?_
      refine g_goto (tgt := 88) dX1_registered_65 (by decide) ?_
      refine g_ls5 dX1_registered_88 (by decide) rfl ?_
      refine g_al0 dX1_registered_90 ?_
      refine g_ldc2 (x := 10000) q1424 dX1_registered_91 (by decide) ?_
      refine g_ll5 dX1_registered_94 ?_
      refine g_lsub dX1_registered_96 ?_
      refine g_ldc2 (x := 10000) q1424 dX1_registered_97 (by decide) ?_
      refine g_il2 dX1_registered_100 ?_
      refine g_callV3L (d' := 3) lk_X1_344 hR.sh rfl (rm_lt (by decide) (by decide)) (Nat.le_of_ble_eq_true rfl) dX1_registered_101 ?_
      refine xo_fraction hR (by omega) hl2 ?_
      exact g_lret rfl dX1_registered_104 ⟨_, rfl, hQ _ _ _ (by unfold qReg_; rw [if_pos (by omega), if_neg (by omega)]; unfold rg_; rw [Int.gcd_comm]) (hX0.e (XE_.fr (hF1.tr hF2).fx) hlt0) (XE_.fr (hF1.tr hF2).fx)⟩
    refine g_al0 dX1_registered_29 ?_
    refine g_bipush dX1_registered_30 (by decide) (by decide) ?_
    refine g_callV1I (d' := 2) lk_X1_65 hR.sh rfl (rm_lt (by decide) (by decide)) (Nat.le_of_ble_eq_true rfl) dX1_registered_32 ?_
    refine xo_refused hR ?_
    refine g_i2l dX1_registered_35 (by omega) ?_
    exact g_lret rfl dX1_registered_36 ⟨_, rfl, hQ _ _ _ (by unfold qReg_; rw [if_pos (by omega), if_pos (by omega)]) (hX0.e (XE_.fr hF1.fx) hlt0) (XE_.fr hF1.fx)⟩
  refine g_al0 dX1_registered_8 ?_
  refine g_iconst dX1_registered_9 ?_
  refine g_callV1I (d' := 2) lk_X1_65 hR.sh rfl (rm_lt (by decide) (by decide)) (Nat.le_of_ble_eq_true rfl) dX1_registered_10 ?_
  refine xo_refused hR ?_
  refine g_i2l dX1_registered_13 (by omega) ?_
  exact g_lret rfl dX1_registered_14 ⟨_, rfl, hQ _ _ _ (by unfold qReg_; rw [if_neg (by omega)]) (hX0.e (XE_.rf) hlt) (XE_.rf)⟩
theorem cm_iff (w b : Int) : cy_ r s w b ∧ xcm_ r s w b = ar_ r s w b ∧ xtw_ r s w b = tk_ r s w b ∨ ¬ cy_ r s w b ∧ xcm_ r s w b = -2 := by
  by_cases c : cy_ r s w b
  · exact Or.inl ⟨c, if_pos c, if_pos c.1⟩
  · exact Or.inr ⟨c, if_neg c⟩
theorem meet_n {p b w c x : Int} (h0 : p = 1 ∧ (0 ≤ b ∧ b < r 7) ∧ (0 ≤ c ∧ c < r 7) ∧ (0 ≤ w ∧ w < r 6) ∧ (0 ≤ x ∧ x < r 6) ∧ b ≠ c ∧ w ≠ x) (h : xcm_ r s w b = -2 ∨ xcm_ r s x c = -2 ∨ hn_ r s b ≠ r (127 + 4 * c) ∨ hn_ r s c ≠ r (127 + 4 * b)) : qMeet_ p r s b w c x = (-2, 0) := by
  unfold qMeet_
  rw [if_pos h0, if_neg]
  rintro ⟨q1, q2, q3, q4, -⟩
  have e1 : xcm_ r s w b = ar_ r s w b := if_pos q1
  have e2 : xcm_ r s x c = ar_ r s x c := if_pos q2
  have a1 := q1.2
  have a2 := q2.2
  clear q1 q2
  omega
theorem meet_y {p b w c x : Int} (h0 : p = 1 ∧ (0 ≤ b ∧ b < r 7) ∧ (0 ≤ c ∧ c < r 7) ∧ (0 ≤ w ∧ w < r 6) ∧ (0 ≤ x ∧ x < r 6) ∧ b ≠ c ∧ w ≠ x) (h1 : xcm_ r s w b ≠ -2) (h2 : xcm_ r s x c ≠ -2) (h3 : hn_ r s b = r (127 + 4 * c)) (h4 : hn_ r s c = r (127 + 4 * b)) :
    qMeet_ p r s b w c x = (if (if xtw_ r s w b < xtw_ r s x c then xtw_ r s x c else xtw_ r s w b) < (if xcm_ r s x c < xcm_ r s w b then xcm_ r s x c else xcm_ r s w b) then (if xtw_ r s w b < xtw_ r s x c then xtw_ r s x c else xtw_ r s w b) else -2, 0) := by
  unfold qMeet_
  rw [if_pos h0]
  rcases cm_iff (r := r) (s := s) w b with ⟨c1, e1, f1⟩ | ⟨-, e1⟩
  · rcases cm_iff (r := r) (s := s) x c with ⟨c2, e2, f2⟩ | ⟨-, e2⟩
    · rw [e1, e2, f1, f2]
      congr 1
      generalize tk_ r s w b = t1
      generalize tk_ r s x c = t2
      by_cases q : (t1 < ar_ r s w b ∧ t2 < ar_ r s w b) ∧ (t1 < ar_ r s x c ∧ t2 < ar_ r s x c)
      · rw [if_pos ⟨c1, c2, h3, h4, q.1, q.2⟩]
        clear c1 c2
        generalize ar_ r s w b = a1 at q ⊢
        generalize ar_ r s x c = a2 at q ⊢
        (repeat' split) <;> omega
      · rw [if_neg (fun z => q ⟨z.2.2.2.2.1, z.2.2.2.2.2⟩)]
        clear c1 c2
        generalize ar_ r s w b = a1 at q ⊢
        generalize ar_ r s x c = a2 at q ⊢
        (repeat' split) <;> omega
    · exact absurd e2 h2
  · exact absurd e1 h1
theorem xo_meet {p : Int} {b w c v : Int} {Q : Int → JH → Prop} (hX0 : XQ_ G X σ p T r s) (hP : MP_ p r s) (hb : -2147483648 ≤ b ∧ b < 2147483648) (hw : -2147483648 ≤ w ∧ w < 2147483648) (hc : -2147483648 ≤ c ∧ c < 2147483648) (hv : -2147483648 ≤ v ∧ v < 2147483648)
    (hQ : ∀ (x t : Int) (σ' : JH), qMeet_ p r s b w c v = (x, t) → XQ_ G X σ' p T r s → XE_ X σ σ' t → Q x σ') : CallI_ G 11 yX1_meet cX1_meet 8 (some .int) [A_ (some X), I_ b, I_ w, I_ c, I_ v] σ Q := by
  refine call_go [some (A_ (some X)), some (I_ b), some (I_ w), some (I_ c), some (I_ v), none, none, none] (by decide) (Nat.le_of_ble_eq_true rfl) rfl ?_
  refine g_lt (fun hlt hgz => ?_)
  have hR := hX0.1
  have hp01 := hP.b
  refine g_al0 dX1_meet_0 ?_
  refine g_il1 dX1_meet_1 ?_
  refine g_callV1I (d' := 3) lk_X1_168 hR.sh rfl (rm_lt (by decide) (by decide)) (Nat.le_of_ble_eq_true rfl) dX1_meet_2 ?_
  refine xo_isBox hX0 hP.rw (by omega) (fun x2 hx2 => ?_)
  unfold isB_ at hx2
  refine g_if_eq (tgt := 44) dX1_meet_5 (by decide) (by omega) (fun h5 => ?_) (fun h5 => ?_)
  · refine g_al0 dX1_meet_44 ?_
    refine g_iconst dX1_meet_45 ?_
    refine g_callV1I (d' := 2) lk_X1_65 hR.sh rfl (rm_lt (by decide) (by decide)) (Nat.le_of_ble_eq_true rfl) dX1_meet_46 ?_
    refine xo_refused hR ?_
    exact g_iret rfl dX1_meet_49 ⟨_, rfl, hQ _ _ _ (by unfold qMeet_; rw [if_neg (by omega)]) (hX0.e (XE_.rf) hlt) (XE_.rf)⟩
  refine g_al0 dX1_meet_8 ?_
  refine g_il3 dX1_meet_9 ?_
  refine g_callV1I (d' := 3) lk_X1_168 hR.sh rfl (rm_lt (by decide) (by decide)) (Nat.le_of_ble_eq_true rfl) dX1_meet_10 ?_
  refine xo_isBox hX0 hP.rw (by omega) (fun x10 hx10 => ?_)
  unfold isB_ at hx10
  refine g_if_eq (tgt := 44) dX1_meet_13 (by decide) (by omega) (fun h13 => ?_) (fun h13 => ?_)
  · refine g_al0 dX1_meet_44 ?_
    refine g_iconst dX1_meet_45 ?_
    refine g_callV1I (d' := 2) lk_X1_65 hR.sh rfl (rm_lt (by decide) (by decide)) (Nat.le_of_ble_eq_true rfl) dX1_meet_46 ?_
    refine xo_refused hR ?_
    exact g_iret rfl dX1_meet_49 ⟨_, rfl, hQ _ _ _ (by unfold qMeet_; rw [if_neg (by omega)]) (hX0.e (XE_.rf) hlt) (XE_.rf)⟩
  refine g_al0 dX1_meet_16 ?_
  refine g_il2 dX1_meet_17 ?_
  refine g_callV1I (d' := 3) lk_X1_145 hR.sh rfl (rm_lt (by decide) (by decide)) (Nat.le_of_ble_eq_true rfl) dX1_meet_18 ?_
  refine xo_isWhale hX0 hP.rw (by omega) (fun x18 hx18 => ?_)
  unfold isW_ at hx18
  refine g_if_eq (tgt := 44) dX1_meet_21 (by decide) (by omega) (fun h21 => ?_) (fun h21 => ?_)
  · refine g_al0 dX1_meet_44 ?_
    refine g_iconst dX1_meet_45 ?_
    refine g_callV1I (d' := 2) lk_X1_65 hR.sh rfl (rm_lt (by decide) (by decide)) (Nat.le_of_ble_eq_true rfl) dX1_meet_46 ?_
    refine xo_refused hR ?_
    exact g_iret rfl dX1_meet_49 ⟨_, rfl, hQ _ _ _ (by unfold qMeet_; rw [if_neg (by omega)]) (hX0.e (XE_.rf) hlt) (XE_.rf)⟩
  refine g_al0 dX1_meet_24 ?_
  refine g_il4 dX1_meet_25 ?_
  refine g_callV1I (d' := 3) lk_X1_145 hR.sh rfl (rm_lt (by decide) (by decide)) (Nat.le_of_ble_eq_true rfl) dX1_meet_27 ?_
  refine xo_isWhale hX0 hP.rw (by omega) (fun x27 hx27 => ?_)
  unfold isW_ at hx27
  refine g_if_eq (tgt := 44) dX1_meet_30 (by decide) (by omega) (fun h30 => ?_) (fun h30 => ?_)
  · refine g_al0 dX1_meet_44 ?_
    refine g_iconst dX1_meet_45 ?_
    refine g_callV1I (d' := 2) lk_X1_65 hR.sh rfl (rm_lt (by decide) (by decide)) (Nat.le_of_ble_eq_true rfl) dX1_meet_46 ?_
    refine xo_refused hR ?_
    exact g_iret rfl dX1_meet_49 ⟨_, rfl, hQ _ _ _ (by unfold qMeet_; rw [if_neg (by omega)]) (hX0.e (XE_.rf) hlt) (XE_.rf)⟩
  refine g_il1 dX1_meet_33 ?_
  refine g_il3 dX1_meet_34 ?_
  refine g_icmp_eq (tgt := 44) dX1_meet_35 (by decide) (by omega) (fun h35 => ?_) (fun h35 => ?_)
  · refine g_al0 dX1_meet_44 ?_
    refine g_iconst dX1_meet_45 ?_
    refine g_callV1I (d' := 2) lk_X1_65 hR.sh rfl (rm_lt (by decide) (by decide)) (Nat.le_of_ble_eq_true rfl) dX1_meet_46 ?_
    refine xo_refused hR ?_
    exact g_iret rfl dX1_meet_49 ⟨_, rfl, hQ _ _ _ (by unfold qMeet_; rw [if_neg (by omega)]) (hX0.e (XE_.rf) hlt) (XE_.rf)⟩
  refine g_il2 dX1_meet_38 ?_
  refine g_il4 dX1_meet_39 ?_
  refine g_icmp_ne (tgt := 50) dX1_meet_41 (by decide) (by omega) (fun h41 => ?_) (fun h41 => ?_)
  · refine g_al0 dX1_meet_50 ?_
    refine g_il2 dX1_meet_51 ?_
    refine g_il1 dX1_meet_52 ?_
    refine g_callV2I (d' := 10) lk_X1_331 hR.sh rfl (rm_lt (by decide) (by decide)) (Nat.le_of_ble_eq_true rfl) dX1_meet_53 ?_
    obtain ⟨hW, hD⟩ := hP.get (by omega)
    have hX := hX0.get (by omega)
    have hn := hW.n
    have hlt0 := hlt
    have h00 : p = 1 ∧ (0 ≤ b ∧ b < r 7) ∧ (0 ≤ c ∧ c < r 7) ∧ (0 ≤ w ∧ w < r 6) ∧ (0 ≤ v ∧ v < r 6) ∧ b ≠ c ∧ w ≠ v := by omega
    refine xo_comes hX hW hD hlt (by omega) (by omega) (fun σ1 hF1 => ?_)
    have hX := hX.xs hF1.fx hlt
    have hR := hX.R
    have hlt := lt_fr hlt hF1
    have hc1 := xcm_in hW hD (w := w) (b := b) (by omega) (by omega)
    refine g_is5 dX1_meet_56 (by decide) rfl ?_
    refine g_al0 dX1_meet_58 ?_
    refine g_il4 dX1_meet_59 ?_
    refine g_il3 dX1_meet_61 ?_
    refine g_callV2I (d' := 10) lk_X1_331 hR.sh rfl (rm_lt (by decide) (by decide)) (Nat.le_of_ble_eq_true rfl) dX1_meet_62 ?_
    refine xo_comes hX hW hD hlt (by omega) (by omega) (fun σ2 hF2 => ?_)
    have hX := hX.xs hF2.fx hlt
    have hR := hX.R
    have hlt := lt_fr hlt hF2
    have hc2 := xcm_in hW hD (w := v) (b := c) (by omega) (by omega)
    have hh1 : hn_ r s b = -2 ∨ (0 ≤ hn_ r s b ∧ hn_ r s b < r 4) := hd_in (by omega)
    have hh2 : hn_ r s c = -2 ∨ (0 ≤ hn_ r s c ∧ hn_ r s c < r 4) := hd_in (by omega)
    refine g_is6 dX1_meet_65 (by decide) rfl ?_
    refine g_il5 dX1_meet_67 ?_
    refine g_bipush dX1_meet_69 (by decide) (by decide) ?_
    refine g_icmp_eq (tgt := 113) dX1_meet_71 (by decide) (by omega) (fun h71 => ?_) (fun h71 => ?_)
    · refine g_al0 dX1_meet_113 ?_
      refine g_bipush dX1_meet_114 (by decide) (by decide) ?_
      refine g_callV1I (d' := 2) lk_X1_69 hR.sh rfl (rm_lt (by decide) (by decide)) (Nat.le_of_ble_eq_true rfl) dX1_meet_116 ?_
      refine xo_well hR ?_
      exact g_iret rfl dX1_meet_119 ⟨_, rfl, hQ _ _ _ (meet_n h00 (by omega)) (hX0.e (XE_.fr (hF1.tr hF2).fx) hlt0) (XE_.fr (hF1.tr hF2).fx)⟩
    refine g_il6 dX1_meet_74 ?_
    refine g_bipush dX1_meet_76 (by decide) (by decide) ?_
    refine g_icmp_eq (tgt := 113) dX1_meet_78 (by decide) (by omega) (fun h78 => ?_) (fun h78 => ?_)
    · refine g_al0 dX1_meet_113 ?_
      refine g_bipush dX1_meet_114 (by decide) (by decide) ?_
      refine g_callV1I (d' := 2) lk_X1_69 hR.sh rfl (rm_lt (by decide) (by decide)) (Nat.le_of_ble_eq_true rfl) dX1_meet_116 ?_
      refine xo_well hR ?_
      exact g_iret rfl dX1_meet_119 ⟨_, rfl, hQ _ _ _ (meet_n h00 (by omega)) (hX0.e (XE_.fr (hF1.tr hF2).fx) hlt0) (XE_.fr (hF1.tr hF2).fx)⟩
    refine g_al0 dX1_meet_81 ?_
    refine g_il1 dX1_meet_82 ?_
    refine g_callV1I (d' := 8) lk_X1_216 hR.sh rfl (rm_lt (by decide) (by decide)) (Nat.le_of_ble_eq_true rfl) dX1_meet_83 ?_
    refine xo_heardNow hX hW hD (by omega) ?_
    refine g_al0 dX1_meet_86 ?_
    refine g_il3 dX1_meet_87 ?_
    refine g_callV1A (d' := 5) lk_X1_171 hR.sh rfl (rm_lt (by decide) (by decide)) (Nat.le_of_ble_eq_true rfl) dX1_meet_88 ?_
    refine xo_boxOf hX hW hD (by omega) ?_
    have hBx := hX.P.box (b := c) (by omega) (by omega)
    have hbw := hW.box (b := c) (by omega) (by omega)
    refine f_getv 1 fk_X1_175 rfl hBx.1 (fun _ _ => rfl) hBx.2.2.1 dX1_meet_91 ?_
    refine g_icmp_ne (tgt := 113) dX1_meet_94 (by decide) (by omega) (fun h94 => ?_) (fun h94 => ?_)
    · refine g_al0 dX1_meet_113 ?_
      refine g_bipush dX1_meet_114 (by decide) (by decide) ?_
      refine g_callV1I (d' := 2) lk_X1_69 hR.sh rfl (rm_lt (by decide) (by decide)) (Nat.le_of_ble_eq_true rfl) dX1_meet_116 ?_
      refine xo_well hR ?_
      exact g_iret rfl dX1_meet_119 ⟨_, rfl, hQ _ _ _ (meet_n h00 (by omega)) (hX0.e (XE_.fr (hF1.tr hF2).fx) hlt0) (XE_.fr (hF1.tr hF2).fx)⟩
    refine g_al0 dX1_meet_97 ?_
    refine g_il3 dX1_meet_98 ?_
    refine g_callV1I (d' := 8) lk_X1_216 hR.sh rfl (rm_lt (by decide) (by decide)) (Nat.le_of_ble_eq_true rfl) dX1_meet_99 ?_
    refine xo_heardNow hX hW hD (by omega) ?_
    refine g_al0 dX1_meet_102 ?_
    refine g_il1 dX1_meet_103 ?_
    refine g_callV1A (d' := 5) lk_X1_171 hR.sh rfl (rm_lt (by decide) (by decide)) (Nat.le_of_ble_eq_true rfl) dX1_meet_104 ?_
    refine xo_boxOf hX hW hD (by omega) ?_
    have hBx := hX.P.box (b := b) (by omega) (by omega)
    have hbw := hW.box (b := b) (by omega) (by omega)
    refine f_getv 1 fk_X1_175 rfl hBx.1 (fun _ _ => rfl) hBx.2.2.1 dX1_meet_107 ?_
    refine g_icmp_eq (tgt := 120) dX1_meet_110 (by decide) (by omega) (fun h110 => ?_) (fun h110 => ?_)
    · refine g_al0 dX1_meet_120 ?_
      refine g_il2 dX1_meet_121 ?_
      refine g_il1 dX1_meet_122 ?_
      refine g_callV2I (d' := 9) lk_X1_328 hR.sh rfl (rm_lt (by decide) (by decide)) (Nat.le_of_ble_eq_true rfl) dX1_meet_123 ?_
      refine xo_takes hX hW hD hlt (by omega) (by omega) (fun σ3 hF3 => ?_)
      have hX := hX.xs hF3.fx hlt
      have hR := hX.R
      have hlt := lt_fr hlt hF3
      have hc3 := xtw_in hW hD (w := w) (b := b) (by omega) (by omega)
      refine g_al0 dX1_meet_126 ?_
      refine g_il4 dX1_meet_127 ?_
      refine g_il3 dX1_meet_129 ?_
      refine g_callV2I (d' := 9) lk_X1_328 hR.sh rfl (rm_lt (by decide) (by decide)) (Nat.le_of_ble_eq_true rfl) dX1_meet_130 ?_
      refine xo_takes hX hW hD hlt (by omega) (by omega) (fun σ4 hF4 => ?_)
      have hX := hX.xs hF4.fx hlt
      have hR := hX.R
      have hlt := lt_fr hlt hF4
      have hc4 := xtw_in hW hD (w := v) (b := c) (by omega) (by omega)
      refine g_mmax q1402 (by omega) (rm_64 (by decide)) (Nat.le_of_ble_eq_true rfl) dX1_meet_133 ?_
      refine g_is7 dX1_meet_136 (by decide) rfl ?_
      refine g_al0 dX1_meet_138 ?_
      refine g_il7 dX1_meet_139 ?_
      refine g_il5 dX1_meet_141 ?_
      refine g_il6 dX1_meet_143 ?_
      refine g_mmin q1272 (by omega) (rm_64 (by decide)) (Nat.le_of_ble_eq_true rfl) dX1_meet_145 ?_
      refine g_icmp_ge (tgt := 156) dX1_meet_148 (by decide) (by (repeat' split) <;> omega) (fun h148 => ?_) (fun h148 => ?_)
      · refine g_bipush dX1_meet_156 (by decide) (by decide) ?_
        refine g_callV1I (d' := 2) lk_X1_69 hR.sh rfl (rm_lt (by decide) (by decide)) (Nat.le_of_ble_eq_true rfl) dX1_meet_158 ?_
        refine xo_well hR ?_
        exact g_iret rfl dX1_meet_161 ⟨_, rfl, hQ _ _ _ ((meet_y h00 (by omega) (by omega) (by omega) (by omega)).trans (by rw [if_neg (by omega)])) (hX0.e (XE_.fr (((hF1.tr hF2).tr hF3).tr hF4).fx) hlt0) (XE_.fr (((hF1.tr hF2).tr hF3).tr hF4).fx)⟩
      refine g_il7 dX1_meet_151 ?_
      refine g_goto (tgt := 158) dX1_meet_153 (by decide) ?_
      refine g_callV1I (d' := 2) lk_X1_69 hR.sh rfl (rm_lt (by decide) (by decide)) (Nat.le_of_ble_eq_true rfl) dX1_meet_158 ?_
      refine xo_well hR ?_
      exact g_iret rfl dX1_meet_161 ⟨_, rfl, hQ _ _ _ ((meet_y h00 (by omega) (by omega) (by omega) (by omega)).trans (by rw [if_pos (by omega)])) (hX0.e (XE_.fr (((hF1.tr hF2).tr hF3).tr hF4).fx) hlt0) (XE_.fr (((hF1.tr hF2).tr hF3).tr hF4).fx)⟩
    refine g_al0 dX1_meet_113 ?_
    refine g_bipush dX1_meet_114 (by decide) (by decide) ?_
    refine g_callV1I (d' := 2) lk_X1_69 hR.sh rfl (rm_lt (by decide) (by decide)) (Nat.le_of_ble_eq_true rfl) dX1_meet_116 ?_
    refine xo_well hR ?_
    exact g_iret rfl dX1_meet_119 ⟨_, rfl, hQ _ _ _ (meet_n h00 (by omega)) (hX0.e (XE_.fr (hF1.tr hF2).fx) hlt0) (XE_.fr (hF1.tr hF2).fx)⟩
  refine g_al0 dX1_meet_44 ?_
  refine g_iconst dX1_meet_45 ?_
  refine g_callV1I (d' := 2) lk_X1_65 hR.sh rfl (rm_lt (by decide) (by decide)) (Nat.le_of_ble_eq_true rfl) dX1_meet_46 ?_
  refine xo_refused hR ?_
  exact g_iret rfl dX1_meet_49 ⟨_, rfl, hQ _ _ _ (by unfold qMeet_; rw [if_neg (by omega)]) (hX0.e (XE_.rf) hlt) (XE_.rf)⟩
end
