/-! THE COMPONENT: whales that bring boxes. Written by mod/m84.py -/
set_option maxRecDepth 100000
/-- what goes writes -/
def xfd_ (X : Nat) (b : Nat) (_ : Int) : Prop := b = X + 6 ∨ b = X + 7
theorem xfd_xs {X : Nat} : ∀ b k, xfd_ X b k → xs_ X b k := fun b k q => by unfold xfd_ at q; unfold xs_; omega
section
variable {G : JG} {X : Nat} {σ : JH} {T : XT} {r s : Int → Int}
theorem Fr_.fx {σ σ' : JH} (h : Fr_ (xfd_ X) σ σ') : Fr_ (xs_ X) σ σ' := h.mono xfd_xs
/-- the day on which it takes it; nobody -/
def xtw_ (r s : Int → Int) (w b : Int) : Int := if ct_ r s w b then tk_ r s w b else -2
/-- the day on which it is there; nobody -/
def xcm_ (r s : Int → Int) (w b : Int) : Int := if cy_ r s w b then ar_ r s w b else -2
theorem xcm_in (hW : RW_ r) (hD : DW_ r s) {w b : Int} (hw : 0 ≤ w ∧ w < r 6) (hb : 0 ≤ b ∧ b < r 7) : xcm_ r s w b = -2 ∨ (0 ≤ xcm_ r s w b ∧ xcm_ r s w b ≤ 200000) := by
  have h := ar_in hW hD hw hb
  have hn := hW.n
  have hd := hD.whale (w := w) (by omega) (by omega)
  unfold xcm_
  split <;> omega
theorem xtw_in (hW : RW_ r) (hD : DW_ r s) {w b : Int} (hw : 0 ≤ w ∧ w < r 6) (hb : 0 ≤ b ∧ b < r 7) : xtw_ r s w b = -2 ∨ (0 ≤ xtw_ r s w b ∧ xtw_ r s w b ≤ 200000) := by
  have h := tk_in hW hD hw hb
  have hn := hW.n
  have hd := hD.whale (w := w) (by omega) (by omega)
  unfold xtw_
  split <;> omega
theorem xo_arrives {o κ : Nat} {fr to dy : Int} {Q : Int → JH → Prop} (hX : XD_ G X σ T r s) (hW : RW_ r) (hD : DW_ r s) (hlt : ∀ a s, sh_ σ a = some s → a < sz_ σ) (hκ : κ < 4) (hso : sh_ σ o = some (.inl (11 + κ))) (hfr : 0 ≤ fr ∧ fr < 7) (hto : 0 ≤ to ∧ to < 7) (hdy : 0 ≤ dy ∧ dy ≤ 200000)
    (hQ : ∀ σ', Fr_ (xfd_ X) σ σ' → Q (av1_ r s κ fr to dy) σ') : CallI_ G 7 yX1_arrives cX1_arrives 5 (some .int) [A_ (some X), A_ (some o), I_ fr, I_ to, I_ dy] σ Q := by
  refine call_go [some (A_ (some X)), some (A_ (some o)), some (I_ fr), some (I_ to), some (I_ dy)] (by decide) (Nat.le_of_ble_eq_true rfl) rfl ?_
  have hR := hX.R
  have hn := hW.n
  refine g_al0 dX1_arrives_0 ?_
  refine g_al1 dX1_arrives_1 ?_
  refine g_il2 dX1_arrives_2 ?_
  refine g_il4 dX1_arrives_3 ?_
  refine g_callV3V (d' := 6) lk_X1_315 hR.sh rfl (rm_lt (by decide) (by decide)) (Nat.le_of_ble_eq_true rfl) dX1_arrives_5 ?_
  refine xo_goes hX hW hD hlt hκ hso (by omega) (by omega) (fun σ1 hF1 hv1 => ?_)
  replace hF1 : Fr_ (xfd_ X) σ σ1 := hF1
  have hX := hX.xs hF1.fx hlt
  have hR := hX.R
  have hlt := lt_fr hlt hF1
  have he := er_in (s := s) hW κ fr hdy to
  have hnv : nv_ (er_ r s κ fr dy to) = 9999999 ∧ er_ r s κ fr dy to = 1000000 ∨ nv_ (er_ r s κ fr dy to) = er_ r s κ fr dy to ∧ er_ r s κ fr dy to ≠ 1000000 := by unfold nv_; split <;> omega
  refine g_al0 dX1_arrives_8 ?_
  refine f_getA 11 fk_X1_34 rfl hR.sh (fun _ _ => rfl) hR.f11 dX1_arrives_9 ?_
  refine g_il3 dX1_arrives_12 ?_
  refine g_ialv hR.a11 (by omega) (hv1 _ (by omega) (by omega)) dX1_arrives_13 ?_
  refine g_ldcw (x := 9999999) q1343 dX1_arrives_14 (by decide) ?_
  refine g_icmp_ne (tgt := 25) dX1_arrives_17 (by decide) (by omega) (fun h17 => ?_) (fun h17 => ?_)
  · refine g_al0 dX1_arrives_25 ?_
    refine f_getA 11 fk_X1_34 rfl hR.sh (fun _ _ => rfl) hR.f11 dX1_arrives_26 ?_
    refine g_il3 dX1_arrives_29 ?_
    refine g_ialv hR.a11 (by omega) (hv1 _ (by omega) (by omega)) dX1_arrives_30 ?_
    exact g_iret rfl dX1_arrives_31 ⟨_, rfl, by have q := hQ _ hF1; unfold av1_ at q; rw [if_neg (by omega), ← show nv_ (er_ r s κ fr dy to) = er_ r s κ fr dy to by omega] at q; exact q⟩
  refine g_bipush dX1_arrives_20 (by decide) (by decide) ?_
  refine g_goto (tgt := 31) dX1_arrives_22 (by decide) ?_
  exact g_iret rfl dX1_arrives_31 ⟨_, rfl, by have q := hQ _ hF1; unfold av1_ at q; rw [if_pos (by omega)] at q; exact q⟩
theorem xo_arrival {p : Int} {w fr to d : Int} {Q : Int → JH → Prop} (hX0 : XQ_ G X σ p T r s) (hP : MP_ p r s) (hw : -2147483648 ≤ w ∧ w < 2147483648) (hfr : -2147483648 ≤ fr ∧ fr < 2147483648) (hto : -2147483648 ≤ to ∧ to < 2147483648) (hd : -2147483648 ≤ d ∧ d < 2147483648)
    (hQ : ∀ (x t : Int) (σ' : JH), qArrival_ p r s w fr to d = (x, t) → XQ_ G X σ' p T r s → XE_ X σ σ' t → Q x σ') : CallI_ G 8 yX1_arrival cX1_arrival 5 (some .int) [A_ (some X), I_ w, I_ fr, I_ to, I_ d] σ Q := by
  refine call_go [some (A_ (some X)), some (I_ w), some (I_ fr), some (I_ to), some (I_ d)] (by decide) (Nat.le_of_ble_eq_true rfl) rfl ?_
  refine g_lt (fun hlt hgz => ?_)
  have hR := hX0.1
  have hp01 := hP.b
  refine g_al0 dX1_arrival_0 ?_
  refine g_il1 dX1_arrival_1 ?_
  refine g_callV1I (d' := 3) lk_X1_145 hR.sh rfl (rm_lt (by decide) (by decide)) (Nat.le_of_ble_eq_true rfl) dX1_arrival_2 ?_
  refine xo_isWhale hX0 hP.rw (by omega) (fun x2 hx2 => ?_)
  unfold isW_ at hx2
  refine g_if_eq (tgt := 24) dX1_arrival_5 (by decide) (by omega) (fun h5 => ?_) (fun h5 => ?_)
  · refine g_al0 dX1_arrival_24 ?_
    refine g_iconst dX1_arrival_25 ?_
    refine g_callV1I (d' := 2) lk_X1_65 hR.sh rfl (rm_lt (by decide) (by decide)) (Nat.le_of_ble_eq_true rfl) dX1_arrival_26 ?_
    refine xo_refused hR ?_
    exact g_iret rfl dX1_arrival_29 ⟨_, rfl, hQ _ _ _ (by unfold qArrival_; rw [if_neg (by omega)]) (hX0.e (XE_.rf) hlt) (XE_.rf)⟩
  refine g_al0 dX1_arrival_8 ?_
  refine g_il2 dX1_arrival_9 ?_
  refine g_callV1I (d' := 3) lk_X1_193 hR.sh rfl (rm_lt (by decide) (by decide)) (Nat.le_of_ble_eq_true rfl) dX1_arrival_10 ?_
  refine xo_isIsland hX0 hP.rw (by omega) (fun x10 hx10 => ?_)
  unfold isI_ at hx10
  refine g_if_eq (tgt := 24) dX1_arrival_13 (by decide) (by omega) (fun h13 => ?_) (fun h13 => ?_)
  · refine g_al0 dX1_arrival_24 ?_
    refine g_iconst dX1_arrival_25 ?_
    refine g_callV1I (d' := 2) lk_X1_65 hR.sh rfl (rm_lt (by decide) (by decide)) (Nat.le_of_ble_eq_true rfl) dX1_arrival_26 ?_
    refine xo_refused hR ?_
    exact g_iret rfl dX1_arrival_29 ⟨_, rfl, hQ _ _ _ (by unfold qArrival_; rw [if_neg (by omega)]) (hX0.e (XE_.rf) hlt) (XE_.rf)⟩
  refine g_al0 dX1_arrival_16 ?_
  refine g_il3 dX1_arrival_17 ?_
  refine g_callV1I (d' := 3) lk_X1_193 hR.sh rfl (rm_lt (by decide) (by decide)) (Nat.le_of_ble_eq_true rfl) dX1_arrival_18 ?_
  refine xo_isIsland hX0 hP.rw (by omega) (fun x18 hx18 => ?_)
  unfold isI_ at hx18
  refine g_if_ne (tgt := 30) dX1_arrival_21 (by decide) (by omega) (fun h21 => ?_) (fun h21 => ?_)
  · refine g_il4 dX1_arrival_30 ?_
    refine g_iconst dX1_arrival_32 ?_
    refine g_sipush dX1_arrival_33 (by decide) (by decide) ?_
    refine g_callS3I (d' := 2) lk_X1_79 (rm_lt (by decide) (by decide)) (Nat.le_of_ble_eq_true rfl) dX1_arrival_36 ?_
    refine xo_in (by omega) (by omega) (by omega) (fun x36 hx36 => ?_)
    refine g_if_eq (tgt := 62) dX1_arrival_39 (by decide) (by omega) (fun h39 => ?_) (fun h39 => ?_)
    · refine g_al0 dX1_arrival_62 ?_
      refine g_iconst dX1_arrival_63 ?_
      refine g_callV1I (d' := 2) lk_X1_65 hR.sh rfl (rm_lt (by decide) (by decide)) (Nat.le_of_ble_eq_true rfl) dX1_arrival_64 ?_
      refine xo_refused hR ?_
      exact g_iret rfl dX1_arrival_67 ⟨_, rfl, hQ _ _ _ (by unfold qArrival_; rw [if_pos (by omega), if_neg (by omega)]) (hX0.e (XE_.rf) hlt) (XE_.rf)⟩
    refine g_al0 dX1_arrival_42 ?_
    refine g_al0 dX1_arrival_43 ?_
    refine g_al0 dX1_arrival_44 ?_
    refine g_il1 dX1_arrival_45 ?_
    refine g_callV1A (d' := 5) lk_X1_149 hR.sh rfl (rm_lt (by decide) (by decide)) (Nat.le_of_ble_eq_true rfl) dX1_arrival_46 ?_
    obtain ⟨hW, hD⟩ := hP.get (by omega)
    have hX := hX0.get (by omega)
    have hn := hW.n
    have hlt0 := hlt
    refine xo_whaleOf hX hW hD (by omega) ?_
    obtain ⟨⟨κ, hκ, hkd, hsw⟩, hw2⟩ := hX.P.whl (w := w) (by omega) (by omega)
    have hww := hW.whale (w := w) (by omega) (by omega)
    refine g_il2 dX1_arrival_49 ?_
    refine g_il3 dX1_arrival_50 ?_
    refine g_il4 dX1_arrival_51 ?_
    refine g_callV4I (d' := 7) lk_X1_318 hR.sh rfl (rm_lt (by decide) (by decide)) (Nat.le_of_ble_eq_true rfl) dX1_arrival_53 ?_
    refine xo_arrives hX hW hD hlt hκ hsw (by omega) (by omega) (by omega) (fun σ1 hF1 => ?_)
    have hX := hX.xs hF1.fx hlt
    have hR := hX.R
    have hlt := lt_fr hlt hF1
    rw [← hkd]
    refine g_callV1I (d' := 2) lk_X1_69 hR.sh rfl (rm_lt (by decide) (by decide)) (Nat.le_of_ble_eq_true rfl) dX1_arrival_56 ?_
    refine xo_well hR ?_
    refine g_goto (tgt := 67) dX1_arrival_59 (by decide) ?_
    exact g_iret rfl dX1_arrival_67 ⟨_, rfl, hQ _ _ _ (by unfold qArrival_; rw [if_pos (by omega), if_pos (by omega)]) (hX0.e (XE_.fr hF1.fx) hlt0) (XE_.fr hF1.fx)⟩
  refine g_al0 dX1_arrival_24 ?_
  refine g_iconst dX1_arrival_25 ?_
  refine g_callV1I (d' := 2) lk_X1_65 hR.sh rfl (rm_lt (by decide) (by decide)) (Nat.le_of_ble_eq_true rfl) dX1_arrival_26 ?_
  refine xo_refused hR ?_
  exact g_iret rfl dX1_arrival_29 ⟨_, rfl, hQ _ _ _ (by unfold qArrival_; rw [if_neg (by omega)]) (hX0.e (XE_.rf) hlt) (XE_.rf)⟩
theorem xo_takes  {w b : Int} {Q : Int → JH → Prop} (hX : XD_ G X σ T r s) (hW : RW_ r) (hD : DW_ r s) (hlt : ∀ a s, sh_ σ a = some s → a < sz_ σ) (hw : 0 ≤ w ∧ w < r 6) (hb : 0 ≤ b ∧ b < r 7)
    (hQ : ∀ σ', Fr_ (xfd_ X) σ σ' → Q (xtw_ r s w b) σ') : CallI_ G 9 yX1_takes cX1_takes 5 (some .int) [A_ (some X), I_ w, I_ b] σ Q := by
  refine call_go [some (A_ (some X)), some (I_ w), some (I_ b), none, none] (by decide) (Nat.le_of_ble_eq_true rfl) rfl ?_
  have hR := hX.R
  have hn := hW.n
  have hwh := hW.whale hw.1 hw.2
  have hbx := hW.box hb.1 hb.2
  have hdw := hD.whale (w := w) (by omega) (by omega)
  have hdb := hD.box (b := b) (by omega) (by omega)
  have hhn : hn_ r s b = -2 ∨ (0 ≤ hn_ r s b ∧ hn_ r s b < r 4) := hd_in (by omega)
  have hth := th_in hW hD (b := b) hw
  have htk := tk_in hW hD hw hb
  have har := ar_in hW hD hw hb
  have hmo : mo_ (r (107 + 4 * w)) ≤ 99 ∧ 0 ≤ mo_ (r (107 + 4 * w)) := by (unfold mo_; (repeat' split) <;> omega)
  have hun : un_ (s (12 + b)) = -2 ∧ s (12 + b) = 0 ∨ un_ (s (12 + b)) = s (12 + b) - 1 ∧ s (12 + b) ≠ 0 := by (unfold un_; split <;> omega)
  refine g_al0 dX1_takes_0 ?_
  refine g_il2 dX1_takes_1 ?_
  refine g_callV1A (d' := 5) lk_X1_171 hR.sh rfl (rm_lt (by decide) (by decide)) (Nat.le_of_ble_eq_true rfl) dX1_takes_2 ?_
  refine xo_boxOf hX hW hD (by omega) ?_
  have hBx := hX.P.box (b := b) (by omega) (by omega)
  have hbw := hW.box (b := b) (by omega) (by omega)
  refine g_as3 dX1_takes_5 (by decide) rfl ?_
  refine g_al3 dX1_takes_6 ?_
  refine f_getv 3 fk_X1_181 rfl hBx.1 (fun _ _ => rfl) hBx.2.2.2.2.1 dX1_takes_7 ?_
  refine g_al0 dX1_takes_10 ?_
  refine g_il1 dX1_takes_11 ?_
  refine g_callV1A (d' := 5) lk_X1_149 hR.sh rfl (rm_lt (by decide) (by decide)) (Nat.le_of_ble_eq_true rfl) dX1_takes_12 ?_
  refine xo_whaleOf hX hW hD (by omega) ?_
  obtain ⟨⟨κ, hκ, hkd, hsw⟩, hw2⟩ := hX.P.whl (w := w) (by omega) (by omega)
  have hww := hW.whale (w := w) (by omega) (by omega)
  refine gv_X1_322 rfl hκ hsw (by decide) (Nat.le_of_ble_eq_true rfl) dX1_takes_15 ?_
  rw [← hkd]
  refine g_icmp_gt (tgt := 45) dX1_takes_18 (by decide) (by omega) (fun h18 => ?_) (fun h18 => ?_)
  · refine g_bipush dX1_takes_45 (by decide) (by decide) ?_
    exact g_iret rfl dX1_takes_47 ⟨_, rfl, by have q := hQ _ Fr_.rf; unfold xtw_ at q; rw [if_neg (by omega)] at q; exact q⟩
  refine g_al0 dX1_takes_21 ?_
  refine f_getA 6 fk_X1_111 rfl hR.sh (fun _ _ => rfl) hX.f6 dX1_takes_22 ?_
  refine f_getA 2 fk_X1_187 rfl hX.K.sh (fun _ _ => rfl) hX.K.f2 dX1_takes_25 ?_
  refine g_il2 dX1_takes_28 ?_
  refine g_ialv hX.K.a2 (by omega) (hX.K.bx (b := b) (by omega) (by omega)).1 dX1_takes_29 ?_
  refine g_bipush dX1_takes_30 (by decide) (by decide) ?_
  refine g_icmp_ne (tgt := 45) dX1_takes_32 (by decide) (by omega) (fun h32 => ?_) (fun h32 => ?_)
  · refine g_bipush dX1_takes_45 (by decide) (by decide) ?_
    exact g_iret rfl dX1_takes_47 ⟨_, rfl, by have q := hQ _ Fr_.rf; unfold xtw_ at q; rw [if_neg (by omega)] at q; exact q⟩
  refine g_al0 dX1_takes_35 ?_
  refine g_il2 dX1_takes_36 ?_
  refine g_callV1I (d' := 8) lk_X1_216 hR.sh rfl (rm_lt (by decide) (by decide)) (Nat.le_of_ble_eq_true rfl) dX1_takes_37 ?_
  refine xo_heardNow hX hW hD hb ?_
  refine g_bipush dX1_takes_40 (by decide) (by decide) ?_
  refine g_icmp_ne (tgt := 48) dX1_takes_42 (by decide) (by omega) (fun h42 => ?_) (fun h42 => ?_)
  · refine g_al0 dX1_takes_48 ?_
    refine g_al0 dX1_takes_49 ?_
    refine g_il1 dX1_takes_50 ?_
    refine g_callV1A (d' := 5) lk_X1_149 hR.sh rfl (rm_lt (by decide) (by decide)) (Nat.le_of_ble_eq_true rfl) dX1_takes_51 ?_
    refine xo_whaleOf hX hW hD (by omega) ?_
    obtain ⟨⟨κ, hκ, hkd, hsw⟩, hw2⟩ := hX.P.whl (w := w) (by omega) (by omega)
    have hww := hW.whale (w := w) (by omega) (by omega)
    refine g_al0 dX1_takes_54 ?_
    refine f_getA 6 fk_X1_111 rfl hR.sh (fun _ _ => rfl) hX.f6 dX1_takes_55 ?_
    refine f_getA 0 fk_X1_156 rfl hX.K.sh (fun _ _ => rfl) hX.K.f0 dX1_takes_58 ?_
    refine g_il1 dX1_takes_61 ?_
    refine g_ialv hX.K.a0 (by omega) (hX.K.wh (w := w) (by omega) (by omega)).1 dX1_takes_62 ?_
    refine g_al3 dX1_takes_63 ?_
    refine f_getv 1 fk_X1_175 rfl hBx.1 (fun _ _ => rfl) hBx.2.2.1 dX1_takes_64 ?_
    refine g_al0 dX1_takes_67 ?_
    refine f_getA 6 fk_X1_111 rfl hR.sh (fun _ _ => rfl) hX.f6 dX1_takes_68 ?_
    refine f_getA 1 fk_X1_159 rfl hX.K.sh (fun _ _ => rfl) hX.K.f1 dX1_takes_71 ?_
    refine g_il1 dX1_takes_74 ?_
    refine g_ialv hX.K.a1 (by omega) (hX.K.wh (w := w) (by omega) (by omega)).2 dX1_takes_75 ?_
    refine g_callV4I (d' := 7) lk_X1_318 hR.sh rfl (rm_lt (by decide) (by decide)) (Nat.le_of_ble_eq_true rfl) dX1_takes_76 ?_
    refine xo_arrives hX hW hD hlt hκ hsw (by omega) (by omega) (by omega) (fun σ1 hF1 => ?_)
    have hX := hX.xs hF1.fx hlt
    have hR := hX.R
    have hlt := lt_fr hlt hF1
    rw [← hkd]
    refine g_top (show _ = th_ r s w b from rfl) ?_
    have hBx := hX.P.box (b := b) (by omega) (by omega)
    refine g_is4 dX1_takes_79 (by decide) rfl ?_
    refine g_il4 dX1_takes_81 ?_
    refine g_bipush dX1_takes_83 (by decide) (by decide) ?_
    refine g_icmp_ne (tgt := 93) dX1_takes_85 (by decide) (by omega) (fun h85 => ?_) (fun h85 => ?_)
    · refine g_il4 dX1_takes_93 ?_
      refine g_al3 dX1_takes_95 ?_
      refine f_getv 4 fk_X1_184 rfl hBx.1 (fun _ _ => rfl) hBx.2.2.2.2.2 dX1_takes_96 ?_
      refine g_mmax q1402 (by omega) (rm_64 (by decide)) (Nat.le_of_ble_eq_true rfl) dX1_takes_99 ?_
      exact g_iret rfl dX1_takes_102 ⟨_, rfl, by have q := hQ _ hF1; unfold xtw_ at q; rw [if_pos ⟨by omega, by omega, by omega, by omega⟩, show tk_ r s w b = (if th_ r s w b < r (130 + 4 * b) then r (130 + 4 * b) else th_ r s w b) by (unfold tk_; (repeat' split) <;> omega)] at q; exact q⟩
    refine g_bipush dX1_takes_88 (by decide) (by decide) ?_
    refine g_goto (tgt := 102) dX1_takes_90 (by decide) ?_
    exact g_iret rfl dX1_takes_102 ⟨_, rfl, by have q := hQ _ hF1; unfold xtw_ at q; rw [if_neg (by omega)] at q; exact q⟩
  refine g_bipush dX1_takes_45 (by decide) (by decide) ?_
  exact g_iret rfl dX1_takes_47 ⟨_, rfl, by have q := hQ _ Fr_.rf; unfold xtw_ at q; rw [if_neg (by omega)] at q; exact q⟩
theorem xo_comes  {w b : Int} {Q : Int → JH → Prop} (hX : XD_ G X σ T r s) (hW : RW_ r) (hD : DW_ r s) (hlt : ∀ a s, sh_ σ a = some s → a < sz_ σ) (hw : 0 ≤ w ∧ w < r 6) (hb : 0 ≤ b ∧ b < r 7)
    (hQ : ∀ σ', Fr_ (xfd_ X) σ σ' → Q (xcm_ r s w b) σ') : CallI_ G 10 yX1_comes cX1_comes 4 (some .int) [A_ (some X), I_ w, I_ b] σ Q := by
  refine call_go [some (A_ (some X)), some (I_ w), some (I_ b), none] (by decide) (Nat.le_of_ble_eq_true rfl) rfl ?_
  have hR := hX.R
  have hn := hW.n
  have hwh := hW.whale hw.1 hw.2
  have hbx := hW.box hb.1 hb.2
  have hdw := hD.whale (w := w) (by omega) (by omega)
  have hdb := hD.box (b := b) (by omega) (by omega)
  have hhn : hn_ r s b = -2 ∨ (0 ≤ hn_ r s b ∧ hn_ r s b < r 4) := hd_in (by omega)
  have hth := th_in hW hD (b := b) hw
  have htk := tk_in hW hD hw hb
  have har := ar_in hW hD hw hb
  have hmo : mo_ (r (107 + 4 * w)) ≤ 99 ∧ 0 ≤ mo_ (r (107 + 4 * w)) := by (unfold mo_; (repeat' split) <;> omega)
  have hun : un_ (s (12 + b)) = -2 ∧ s (12 + b) = 0 ∨ un_ (s (12 + b)) = s (12 + b) - 1 ∧ s (12 + b) ≠ 0 := by (unfold un_; split <;> omega)
  refine g_al0 dX1_comes_0 ?_
  refine g_il1 dX1_comes_1 ?_
  refine g_il2 dX1_comes_2 ?_
  refine g_callV2I (d' := 9) lk_X1_328 hR.sh rfl (rm_lt (by decide) (by decide)) (Nat.le_of_ble_eq_true rfl) dX1_comes_3 ?_
  refine xo_takes hX hW hD hlt hw hb (fun σ1 hF1 => ?_)
  have hX := hX.xs hF1.fx hlt
  have hR := hX.R
  have hlt := lt_fr hlt hF1
  have htw := xtw_in hW hD hw hb
  refine g_is3 dX1_comes_6 (by decide) rfl ?_
  refine g_il3 dX1_comes_7 ?_
  refine g_bipush dX1_comes_8 (by decide) (by decide) ?_
  refine g_icmp_ne (tgt := 18) dX1_comes_10 (by decide) (by omega) (fun h10 => ?_) (fun h10 => ?_)
  · refine g_al0 dX1_comes_18 ?_
    refine g_al0 dX1_comes_19 ?_
    refine g_il1 dX1_comes_20 ?_
    refine g_callV1A (d' := 5) lk_X1_149 hR.sh rfl (rm_lt (by decide) (by decide)) (Nat.le_of_ble_eq_true rfl) dX1_comes_21 ?_
    refine xo_whaleOf hX hW hD (by omega) ?_
    obtain ⟨⟨κ, hκ, hkd, hsw⟩, hw2⟩ := hX.P.whl (w := w) (by omega) (by omega)
    have hww := hW.whale (w := w) (by omega) (by omega)
    refine g_al0 dX1_comes_24 ?_
    refine g_il2 dX1_comes_25 ?_
    refine g_callV1A (d' := 5) lk_X1_171 hR.sh rfl (rm_lt (by decide) (by decide)) (Nat.le_of_ble_eq_true rfl) dX1_comes_26 ?_
    refine xo_boxOf hX hW hD (by omega) ?_
    have hBx := hX.P.box (b := b) (by omega) (by omega)
    have hbw := hW.box (b := b) (by omega) (by omega)
    refine f_getv 1 fk_X1_175 rfl hBx.1 (fun _ _ => rfl) hBx.2.2.1 dX1_comes_29 ?_
    refine g_al0 dX1_comes_32 ?_
    refine g_il2 dX1_comes_33 ?_
    refine g_callV1I (d' := 8) lk_X1_216 hR.sh rfl (rm_lt (by decide) (by decide)) (Nat.le_of_ble_eq_true rfl) dX1_comes_34 ?_
    refine xo_heardNow hX hW hD hb ?_
    refine g_il3 dX1_comes_37 ?_
    refine g_callV4I (d' := 7) lk_X1_318 hR.sh rfl (rm_lt (by decide) (by decide)) (Nat.le_of_ble_eq_true rfl) dX1_comes_38 ?_
    have hct : ct_ r s w b := by (by_cases c : ct_ r s w b; (exact c); (exfalso; unfold xtw_ at h10; rw [if_neg c] at h10; omega))
    refine xo_arrives hX hW hD hlt hκ hsw (by omega) (by omega) (by omega) (fun σ2 hF2 => ?_)
    have hX := hX.xs hF2.fx hlt
    have hR := hX.R
    have hlt := lt_fr hlt hF2
    rw [← hkd]
    refine g_top (show _ = ar_ r s w b by (unfold ar_ xtw_; rw [if_pos hct])) ?_
    exact g_iret rfl dX1_comes_41 ⟨_, rfl, by have q := hQ _ (hF1.tr hF2); unfold xcm_ at q; by_cases c : 0 ≤ ar_ r s w b; (rw [if_pos ⟨hct, c⟩] at q; exact q); (rw [if_neg (fun w => c w.2), ← show ar_ r s w b = -2 by omega] at q; exact q)⟩
  refine g_bipush dX1_comes_13 (by decide) (by decide) ?_
  refine g_goto (tgt := 41) dX1_comes_15 (by decide) ?_
  exact g_iret rfl dX1_comes_41 ⟨_, rfl, by have q := hQ _ hF1; unfold xcm_ at q; rw [if_neg (fun c => by unfold xtw_ at h10; rw [if_pos c.1] at h10; omega)] at q; exact q⟩
theorem xo_broughtBy  {w b : Int} {Q : Int → JH → Prop} (hX : XD_ G X σ T r s) (hW : RW_ r) (hD : DW_ r s) (hlt : ∀ a s, sh_ σ a = some s → a < sz_ σ) (hw : 0 ≤ w ∧ w < r 6) (hb : 0 ≤ b ∧ b < r 7)
    (hQ : ∀ σ', Fr_ (xfd_ X) σ σ' → Q (bg_ r s w b) σ') : CallI_ G 11 yX1_broughtBy cX1_broughtBy 4 (some .int) [A_ (some X), I_ w, I_ b] σ Q := by
  refine call_go [some (A_ (some X)), some (I_ w), some (I_ b), none] (by decide) (Nat.le_of_ble_eq_true rfl) rfl ?_
  have hR := hX.R
  have hn := hW.n
  have hwh := hW.whale hw.1 hw.2
  have hbx := hW.box hb.1 hb.2
  have hdw := hD.whale (w := w) (by omega) (by omega)
  have hdb := hD.box (b := b) (by omega) (by omega)
  have hhn : hn_ r s b = -2 ∨ (0 ≤ hn_ r s b ∧ hn_ r s b < r 4) := hd_in (by omega)
  have hth := th_in hW hD (b := b) hw
  have htk := tk_in hW hD hw hb
  have har := ar_in hW hD hw hb
  have hmo : mo_ (r (107 + 4 * w)) ≤ 99 ∧ 0 ≤ mo_ (r (107 + 4 * w)) := by (unfold mo_; (repeat' split) <;> omega)
  have hun : un_ (s (12 + b)) = -2 ∧ s (12 + b) = 0 ∨ un_ (s (12 + b)) = s (12 + b) - 1 ∧ s (12 + b) ≠ 0 := by (unfold un_; split <;> omega)
  refine g_al0 dX1_broughtBy_0 ?_
  refine g_il1 dX1_broughtBy_1 ?_
  refine g_il2 dX1_broughtBy_2 ?_
  refine g_callV2I (d' := 10) lk_X1_331 hR.sh rfl (rm_lt (by decide) (by decide)) (Nat.le_of_ble_eq_true rfl) dX1_broughtBy_3 ?_
  refine xo_comes hX hW hD hlt hw hb (fun σ1 hF1 => ?_)
  have hX := hX.xs hF1.fx hlt
  have hR := hX.R
  have hlt := lt_fr hlt hF1
  have hcm := xcm_in hW hD hw hb
  refine g_is3 dX1_broughtBy_6 (by decide) rfl ?_
  refine g_il3 dX1_broughtBy_7 ?_
  refine g_bipush dX1_broughtBy_8 (by decide) (by decide) ?_
  refine g_icmp_ne (tgt := 18) dX1_broughtBy_10 (by decide) (by omega) (fun h10 => ?_) (fun h10 => ?_)
  · refine g_il3 dX1_broughtBy_18 ?_
    refine g_al0 dX1_broughtBy_19 ?_
    refine g_il1 dX1_broughtBy_20 ?_
    refine g_callV1A (d' := 5) lk_X1_149 hR.sh rfl (rm_lt (by decide) (by decide)) (Nat.le_of_ble_eq_true rfl) dX1_broughtBy_21 ?_
    refine xo_whaleOf hX hW hD (by omega) ?_
    obtain ⟨⟨κ, hκ, hkd, hsw⟩, hw2⟩ := hX.P.whl (w := w) (by omega) (by omega)
    have hww := hW.whale (w := w) (by omega) (by omega)
    refine f_getv 2 (fk_X1_162 _ hκ) rfl hsw (wty_ hκ (by decide)) hw2.2.2.1 dX1_broughtBy_24 ?_
    refine g_iadd dX1_broughtBy_27 ?_
    exact g_iret rfl dX1_broughtBy_28 ⟨_, rfl, by have q := hQ _ hF1; have c : cy_ r s w b := (by by_cases c : cy_ r s w b; (exact c); (exfalso; have e : xcm_ r s w b = -2 := if_neg c; omega)); unfold bg_ at q; rw [if_pos c] at q; unfold xcm_; rw [if_pos c]; exact q⟩
  refine g_bipush dX1_broughtBy_13 (by decide) (by decide) ?_
  refine g_goto (tgt := 28) dX1_broughtBy_15 (by decide) ?_
  exact g_iret rfl dX1_broughtBy_28 ⟨_, rfl, by have q := hQ _ hF1; have c : ¬ cy_ r s w b := fun c => (by have e : xcm_ r s w b = ar_ r s w b := if_pos c; have := c.2; omega); unfold bg_ at q; rw [if_neg c] at q; exact q⟩
theorem xo_brings {p : Int} {w b : Int} {Q : Int → JH → Prop} (hX0 : XQ_ G X σ p T r s) (hP : MP_ p r s) (hw : -2147483648 ≤ w ∧ w < 2147483648) (hb : -2147483648 ≤ b ∧ b < 2147483648)
    (hQ : ∀ (x t : Int) (σ' : JH), qBrings_ p r s w b = (x, t) → XQ_ G X σ' p T r s → XE_ X σ σ' t → Q x σ') : CallI_ G 12 yX1_brings cX1_brings 3 (some .int) [A_ (some X), I_ w, I_ b] σ Q := by
  refine call_go [some (A_ (some X)), some (I_ w), some (I_ b)] (by decide) (Nat.le_of_ble_eq_true rfl) rfl ?_
  refine g_lt (fun hlt hgz => ?_)
  have hR := hX0.1
  have hp01 := hP.b
  refine g_al0 dX1_brings_0 ?_
  refine g_il1 dX1_brings_1 ?_
  refine g_callV1I (d' := 3) lk_X1_145 hR.sh rfl (rm_lt (by decide) (by decide)) (Nat.le_of_ble_eq_true rfl) dX1_brings_2 ?_
  refine xo_isWhale hX0 hP.rw (by omega) (fun x2 hx2 => ?_)
  unfold isW_ at hx2
  refine g_if_eq (tgt := 29) dX1_brings_5 (by decide) (by omega) (fun h5 => ?_) (fun h5 => ?_)
  · refine g_al0 dX1_brings_29 ?_
    refine g_iconst dX1_brings_30 ?_
    refine g_callV1I (d' := 2) lk_X1_65 hR.sh rfl (rm_lt (by decide) (by decide)) (Nat.le_of_ble_eq_true rfl) dX1_brings_31 ?_
    refine xo_refused hR ?_
    exact g_iret rfl dX1_brings_34 ⟨_, rfl, hQ _ _ _ (by unfold qBrings_; rw [if_neg (by omega)]) (hX0.e (XE_.rf) hlt) (XE_.rf)⟩
  refine g_al0 dX1_brings_8 ?_
  refine g_il2 dX1_brings_9 ?_
  refine g_callV1I (d' := 3) lk_X1_168 hR.sh rfl (rm_lt (by decide) (by decide)) (Nat.le_of_ble_eq_true rfl) dX1_brings_10 ?_
  refine xo_isBox hX0 hP.rw (by omega) (fun x10 hx10 => ?_)
  unfold isB_ at hx10
  refine g_if_eq (tgt := 29) dX1_brings_13 (by decide) (by omega) (fun h13 => ?_) (fun h13 => ?_)
  · refine g_al0 dX1_brings_29 ?_
    refine g_iconst dX1_brings_30 ?_
    refine g_callV1I (d' := 2) lk_X1_65 hR.sh rfl (rm_lt (by decide) (by decide)) (Nat.le_of_ble_eq_true rfl) dX1_brings_31 ?_
    refine xo_refused hR ?_
    exact g_iret rfl dX1_brings_34 ⟨_, rfl, hQ _ _ _ (by unfold qBrings_; rw [if_neg (by omega)]) (hX0.e (XE_.rf) hlt) (XE_.rf)⟩
  refine g_al0 dX1_brings_16 ?_
  refine g_al0 dX1_brings_17 ?_
  refine g_il1 dX1_brings_18 ?_
  refine g_il2 dX1_brings_19 ?_
  refine g_callV2I (d' := 11) lk_X1_334 hR.sh rfl (rm_lt (by decide) (by decide)) (Nat.le_of_ble_eq_true rfl) dX1_brings_20 ?_
  obtain ⟨hW, hD⟩ := hP.get (by omega)
  have hX := hX0.get (by omega)
  have hn := hW.n
  have hlt0 := hlt
  refine xo_broughtBy hX hW hD hlt (by omega) (by omega) (fun σ1 hF1 => ?_)
  have hX := hX.xs hF1.fx hlt
  have hR := hX.R
  have hlt := lt_fr hlt hF1
  have hb1 := bg_bd hW hD (w := w) (b := b) (by omega) (by omega)
  refine g_callV1I (d' := 2) lk_X1_69 hR.sh rfl (rm_lt (by decide) (by decide)) (Nat.le_of_ble_eq_true rfl) dX1_brings_23 ?_
  refine xo_well hR ?_
  refine g_goto (tgt := 34) dX1_brings_26 (by decide) ?_
  exact g_iret rfl dX1_brings_34 ⟨_, rfl, hQ _ _ _ (by unfold qBrings_; rw [if_pos (by omega)]) (hX0.e (XE_.fr hF1.fx) hlt0) (XE_.fr hF1.fx)⟩
theorem xo_soonest {p : Int} {b : Int} {Q : Int → JH → Prop} (hX0 : XQ_ G X σ p T r s) (hP : MP_ p r s) (hb : -2147483648 ≤ b ∧ b < 2147483648)
    (hQ : ∀ (x t : Int) (σ' : JH), qSoonest_ p r s b = (x, t) → XQ_ G X σ' p T r s → XE_ X σ σ' t → Q x σ') : CallI_ G 12 yX1_soonest cX1_soonest 5 (some .int) [A_ (some X), I_ b] σ Q := by
  refine call_go [some (A_ (some X)), some (I_ b), none, none, none] (by decide) (Nat.le_of_ble_eq_true rfl) rfl ?_
  refine g_lt (fun hlt hgz => ?_)
  have hR := hX0.1
  have hp01 := hP.b
  refine g_al0 dX1_soonest_0 ?_
  refine g_il1 dX1_soonest_1 ?_
  refine g_callV1I (d' := 3) lk_X1_168 hR.sh rfl (rm_lt (by decide) (by decide)) (Nat.le_of_ble_eq_true rfl) dX1_soonest_2 ?_
  refine xo_isBox hX0 hP.rw (by omega) (fun x2 hx2 => ?_)
  unfold isB_ at hx2
  refine g_if_ne (tgt := 14) dX1_soonest_5 (by decide) (by omega) (fun h5 => ?_) (fun h5 => ?_)
  · obtain ⟨hW, hD⟩ := hP.get (by omega)
    have hX := hX0.get (by omega)
    have hn := hW.n
    have L19 : ∀ (fu : Nat) (σ' : JH) (a : Int) (w : Int) (v4 : Option AV), r 6 - w < (fu : Int) → (Fr_ (xfd_ X) σ σ') → (0 ≤ w) → (w ≤ r 6) → (a = -2 ∨ (0 ≤ a ∧ a < w)) → (a = iI_ (sof_ r s b) (-2) w) → GoM_ G 12 yX1_soonest cX1_soonest 5 (some .int) σ (fun v σ' => ∃ x : Int, v = some (I_ x) ∧ Q x σ') 19 [some (A_ (some X)), some (I_ b), some (I_ a), some (I_ w), v4] [] σ' := by
      intro fu
      induction fu with
      | zero => intro σ' a w v4 hn hF h0 h1 ha hv; exact absurd hn (by omega)
      | succ fu ih =>
        intro σ' a w v4 hn hF h0 h1 ha hv
        have hX := hX.xs hF.fx hlt
        have hR := hX.R
        have hlt0 := hlt
        have hlt := lt_fr hlt hF
        refine g_il3 dX1_soonest_19 ?_
        refine g_al0 dX1_soonest_20 ?_
        refine f_getA 5 fk_X1_104 rfl hR.sh (fun _ _ => rfl) hX.f5 dX1_soonest_21 ?_
        refine f_getA 6 fk_X1_131 rfl hX.P.sh (fun _ _ => rfl) hX.P.f6 dX1_soonest_24 ?_
        refine g_callV0I (d' := 2) lk_X1_127 hX.P.l2.1 rfl (rm_lt (by decide) (by decide)) (Nat.le_of_ble_eq_true rfl) dX1_soonest_27 ?_
        refine js_size hX.P.l2 ?_
        refine g_icmp_ge (tgt := 73) dX1_soonest_30 (by decide) (by omega) (fun h30 => ?_) (fun h30 => ?_)
        · refine g_al0 dX1_soonest_73 ?_
          refine g_il2 dX1_soonest_74 ?_
          refine g_callV1I (d' := 2) lk_X1_69 hR.sh rfl (rm_lt (by decide) (by decide)) (Nat.le_of_ble_eq_true rfl) dX1_soonest_75 ?_
          refine xo_well hR ?_
          exact g_iret rfl dX1_soonest_78 ⟨_, rfl, hQ _ _ _ (by unfold qSoonest_; rw [if_pos (by omega), hv, show r 6 = w by omega]) (hX0.e (XE_.fr hF.fx) hlt0) (XE_.fr hF.fx)⟩
        refine g_al0 dX1_soonest_33 ?_
        refine g_il3 dX1_soonest_34 ?_
        refine g_il1 dX1_soonest_35 ?_
        refine g_callV2I (d' := 11) lk_X1_334 hR.sh rfl (rm_lt (by decide) (by decide)) (Nat.le_of_ble_eq_true rfl) dX1_soonest_36 ?_
        refine xo_broughtBy hX hW hD hlt (by omega) (by omega) (fun σ3 hF3 => ?_)
        have hX := hX.xs hF3.fx hlt
        have hR := hX.R
        have hlt := lt_fr hlt hF3
        have hb3 := bg_bd hW hD (w := w) (b := b) (by omega) (by omega)
        have hF := hF.tr hF3
        refine g_is4 dX1_soonest_39 (by decide) rfl ?_
        refine g_il4 dX1_soonest_41 ?_
        refine g_bipush dX1_soonest_43 (by decide) (by decide) ?_
        refine g_icmp_eq (tgt := 67) dX1_soonest_45 (by decide) (by omega) (fun h45 => ?_) (fun h45 => ?_)
        · refine g_inc3 dX1_soonest_67 (by decide) rfl ?_
          refine g_goto (tgt := 19) dX1_soonest_70 (by decide) ?_
          refine ih _ _ _ _ (by omega) hF (by omega) (by omega) (by omega) ?_
          rw [iI_s _ _ h0, ← hv]
          unfold sof_
          rw [if_neg (by omega)]
        refine g_il2 dX1_soonest_48 ?_
        refine g_bipush dX1_soonest_49 (by decide) (by decide) ?_
        refine g_icmp_eq (tgt := 65) dX1_soonest_51 (by decide) (by omega) (fun h51 => ?_) (fun h51 => ?_)
        · refine g_il3 dX1_soonest_65 ?_
          refine g_is2 dX1_soonest_66 (by decide) rfl ?_
          refine g_inc3 dX1_soonest_67 (by decide) rfl ?_
          refine g_goto (tgt := 19) dX1_soonest_70 (by decide) ?_
          refine ih _ _ _ _ (by omega) hF (by omega) (by omega) (by omega) ?_
          rw [iI_s _ _ h0, ← hv]
          unfold sof_
          rw [if_pos (by omega)]
        refine g_il4 dX1_soonest_54 ?_
        refine g_al0 dX1_soonest_56 ?_
        refine g_il2 dX1_soonest_57 ?_
        refine g_il1 dX1_soonest_58 ?_
        refine g_callV2I (d' := 11) lk_X1_334 hR.sh rfl (rm_lt (by decide) (by decide)) (Nat.le_of_ble_eq_true rfl) dX1_soonest_59 ?_
        refine xo_broughtBy hX hW hD hlt (by omega) (by omega) (fun σ4 hF4 => ?_)
        have hX := hX.xs hF4.fx hlt
        have hR := hX.R
        have hlt := lt_fr hlt hF4
        have hb4 := bg_bd hW hD (w := a) (b := b) (by omega) (by omega)
        have hF := hF.tr hF4
        refine g_icmp_ge (tgt := 67) dX1_soonest_62 (by decide) (by omega) (fun h62 => ?_) (fun h62 => ?_)
        · refine g_inc3 dX1_soonest_67 (by decide) rfl ?_
          refine g_goto (tgt := 19) dX1_soonest_70 (by decide) ?_
          refine ih _ _ _ _ (by omega) hF (by omega) (by omega) (by omega) ?_
          rw [iI_s _ _ h0, ← hv]
          unfold sof_
          rw [if_neg (by omega)]
        refine g_il3 dX1_soonest_65 ?_
        refine g_is2 dX1_soonest_66 (by decide) rfl ?_
        refine g_inc3 dX1_soonest_67 (by decide) rfl ?_
        refine g_goto (tgt := 19) dX1_soonest_70 (by decide) ?_
        refine ih _ _ _ _ (by omega) hF (by omega) (by omega) (by omega) ?_
        rw [iI_s _ _ h0, ← hv]
        unfold sof_
        rw [if_pos (by omega)]
    refine g_bipush dX1_soonest_14 (by decide) (by decide) ?_
    refine g_is2 dX1_soonest_16 (by decide) rfl ?_
    refine g_iconst dX1_soonest_17 ?_
    refine g_is3 dX1_soonest_18 (by decide) rfl ?_
    exact L19 ((r 6).toNat + 1) _ _ _ _ (by omega) Fr_.rf (by omega) (by omega) (by omega) rfl
  refine g_al0 dX1_soonest_8 ?_
  refine g_iconst dX1_soonest_9 ?_
  refine g_callV1I (d' := 2) lk_X1_65 hR.sh rfl (rm_lt (by decide) (by decide)) (Nat.le_of_ble_eq_true rfl) dX1_soonest_10 ?_
  refine xo_refused hR ?_
  exact g_iret rfl dX1_soonest_13 ⟨_, rfl, hQ _ _ _ (by unfold qSoonest_; rw [if_neg (by omega)]) (hX0.e (XE_.rf) hlt) (XE_.rf)⟩
theorem xo_surestBut  {b bu : Int} {Q : Int → JH → Prop} (hX : XD_ G X σ T r s) (hW : RW_ r) (hD : DW_ r s) (hlt : ∀ a s, sh_ σ a = some s → a < sz_ σ) (hb : 0 ≤ b ∧ b < r 7) (hbu : -2 ≤ bu ∧ bu < r 6)
    (hQ : ∀ σ', Fr_ (xfd_ X) σ σ' → Q (sb_ r s b bu) σ') : CallI_ G 12 yX1_surestBut cX1_surestBut 5 (some .int) [A_ (some X), I_ b, I_ bu] σ Q := by
  refine call_go [some (A_ (some X)), some (I_ b), some (I_ bu), none, none] (by decide) (Nat.le_of_ble_eq_true rfl) rfl ?_
  have hR := hX.R
  have hn := hW.n
  have L6 : ∀ (fu : Nat) (σ' : JH) (a : Int) (w : Int), r 6 - w < (fu : Int) → (Fr_ (xfd_ X) σ σ') → (0 ≤ w) → (w ≤ r 6) → (a = -2 ∨ (0 ≤ a ∧ a < w)) → (a = iI_ (sbf_ r s b bu) (-2) w) → GoM_ G 12 yX1_surestBut cX1_surestBut 5 (some .int) σ (fun v σ' => ∃ x : Int, v = some (I_ x) ∧ Q x σ') 6 [some (A_ (some X)), some (I_ b), some (I_ bu), some (I_ a), some (I_ w)] [] σ' := by
    intro fu
    induction fu with
    | zero => intro σ' a w hn hF h0 h1 ha hv; exact absurd hn (by omega)
    | succ fu ih =>
      intro σ' a w hn hF h0 h1 ha hv
      have hX := hX.xs hF.fx hlt
      have hR := hX.R
      have hlt0 := hlt
      have hlt := lt_fr hlt hF
      refine g_il4 dX1_surestBut_6 ?_
      refine g_al0 dX1_surestBut_8 ?_
      refine f_getA 5 fk_X1_104 rfl hR.sh (fun _ _ => rfl) hX.f5 dX1_surestBut_9 ?_
      refine f_getA 6 fk_X1_131 rfl hX.P.sh (fun _ _ => rfl) hX.P.f6 dX1_surestBut_12 ?_
      refine g_callV0I (d' := 2) lk_X1_127 hX.P.l2.1 rfl (rm_lt (by decide) (by decide)) (Nat.le_of_ble_eq_true rfl) dX1_surestBut_15 ?_
      refine js_size hX.P.l2 ?_
      refine g_icmp_ge (tgt := 74) dX1_surestBut_18 (by decide) (by omega) (fun h18 => ?_) (fun h18 => ?_)
      · refine g_il3 dX1_surestBut_74 ?_
        exact g_iret rfl dX1_surestBut_75 ⟨_, rfl, by have q := hQ _ hF; unfold sb_ at q; rw [show r 6 = w by omega, ← hv] at q; exact q⟩
      refine g_il4 dX1_surestBut_21 ?_
      refine g_il2 dX1_surestBut_23 ?_
      refine g_icmp_eq (tgt := 68) dX1_surestBut_24 (by decide) (by omega) (fun h24 => ?_) (fun h24 => ?_)
      · refine g_inc4 dX1_surestBut_68 (by decide) rfl ?_
        refine g_goto (tgt := 6) dX1_surestBut_71 (by decide) ?_
        refine ih _ _ _ (by omega) hF (by omega) (by omega) (by omega) ?_
        rw [iI_s _ _ h0, ← hv]
        unfold sbf_
        rw [if_neg (by omega)]
      refine g_al0 dX1_surestBut_27 ?_
      refine g_il4 dX1_surestBut_28 ?_
      refine g_il1 dX1_surestBut_30 ?_
      refine g_callV2I (d' := 11) lk_X1_334 hR.sh rfl (rm_lt (by decide) (by decide)) (Nat.le_of_ble_eq_true rfl) dX1_surestBut_31 ?_
      refine xo_broughtBy hX hW hD hlt (by omega) (by omega) (fun σ3 hF3 => ?_)
      have hX := hX.xs hF3.fx hlt
      have hR := hX.R
      have hlt := lt_fr hlt hF3
      have hb3 := bg_bd hW hD (w := w) (b := b) (by omega) (by omega)
      have hF := hF.tr hF3
      refine g_bipush dX1_surestBut_34 (by decide) (by decide) ?_
      refine g_icmp_eq (tgt := 68) dX1_surestBut_36 (by decide) (by omega) (fun h36 => ?_) (fun h36 => ?_)
      · refine g_inc4 dX1_surestBut_68 (by decide) rfl ?_
        refine g_goto (tgt := 6) dX1_surestBut_71 (by decide) ?_
        refine ih _ _ _ (by omega) hF (by omega) (by omega) (by omega) ?_
        rw [iI_s _ _ h0, ← hv]
        unfold sbf_
        rw [if_neg (by omega)]
      refine g_il3 dX1_surestBut_39 ?_
      refine g_bipush dX1_surestBut_40 (by decide) (by decide) ?_
      refine g_icmp_eq (tgt := 65) dX1_surestBut_42 (by decide) (by omega) (fun h42 => ?_) (fun h42 => ?_)
      · refine g_il4 dX1_surestBut_65 ?_
        refine g_is3 dX1_surestBut_67 (by decide) rfl ?_
        refine g_inc4 dX1_surestBut_68 (by decide) rfl ?_
        refine g_goto (tgt := 6) dX1_surestBut_71 (by decide) ?_
        refine ih _ _ _ (by omega) hF (by omega) (by omega) (by omega) ?_
        rw [iI_s _ _ h0, ← hv]
        unfold sbf_
        rw [if_pos (by omega)]
      refine g_al0 dX1_surestBut_45 ?_
      refine g_il4 dX1_surestBut_46 ?_
      refine g_callV1A (d' := 5) lk_X1_149 hR.sh rfl (rm_lt (by decide) (by decide)) (Nat.le_of_ble_eq_true rfl) dX1_surestBut_48 ?_
      refine xo_whaleOf hX hW hD (by omega) ?_
      obtain ⟨⟨κ, hκ, hkd, hsw⟩, hw2⟩ := hX.P.whl (w := w) (by omega) (by omega)
      have hww := hW.whale (w := w) (by omega) (by omega)
      refine f_getv 3 (fk_X1_165 _ hκ) rfl hsw (wty_ hκ (by decide)) hw2.2.2.2 dX1_surestBut_51 ?_
      refine g_al0 dX1_surestBut_54 ?_
      refine g_il3 dX1_surestBut_55 ?_
      refine g_callV1A (d' := 5) lk_X1_149 hR.sh rfl (rm_lt (by decide) (by decide)) (Nat.le_of_ble_eq_true rfl) dX1_surestBut_56 ?_
      refine xo_whaleOf hX hW hD (by omega) ?_
      obtain ⟨⟨κ, hκ, hkd, hsw⟩, hw2⟩ := hX.P.whl (w := a) (by omega) (by omega)
      have hww := hW.whale (w := a) (by omega) (by omega)
      refine f_getv 3 (fk_X1_165 _ hκ) rfl hsw (wty_ hκ (by decide)) hw2.2.2.2 dX1_surestBut_59 ?_
      refine g_icmp_ge (tgt := 68) dX1_surestBut_62 (by decide) (by omega) (fun h62 => ?_) (fun h62 => ?_)
      · refine g_inc4 dX1_surestBut_68 (by decide) rfl ?_
        refine g_goto (tgt := 6) dX1_surestBut_71 (by decide) ?_
        refine ih _ _ _ (by omega) hF (by omega) (by omega) (by omega) ?_
        rw [iI_s _ _ h0, ← hv]
        unfold sbf_
        rw [if_neg (by omega)]
      refine g_il4 dX1_surestBut_65 ?_
      refine g_is3 dX1_surestBut_67 (by decide) rfl ?_
      refine g_inc4 dX1_surestBut_68 (by decide) rfl ?_
      refine g_goto (tgt := 6) dX1_surestBut_71 (by decide) ?_
      refine ih _ _ _ (by omega) hF (by omega) (by omega) (by omega) ?_
      rw [iI_s _ _ h0, ← hv]
      unfold sbf_
      rw [if_pos (by omega)]
  refine g_bipush dX1_surestBut_0 (by decide) (by decide) ?_
  refine g_is3 dX1_surestBut_2 (by decide) rfl ?_
  refine g_iconst dX1_surestBut_3 ?_
  refine g_is4 dX1_surestBut_4 (by decide) rfl ?_
  exact L6 ((r 6).toNat + 1) _ _ _ (by omega) Fr_.rf (by omega) (by omega) (by omega) rfl
theorem xo_surest {p : Int} {b : Int} {Q : Int → JH → Prop} (hX0 : XQ_ G X σ p T r s) (hP : MP_ p r s) (hb : -2147483648 ≤ b ∧ b < 2147483648)
    (hQ : ∀ (x t : Int) (σ' : JH), qSurest_ p r s b = (x, t) → XQ_ G X σ' p T r s → XE_ X σ σ' t → Q x σ') : CallI_ G 13 yX1_surest cX1_surest 2 (some .int) [A_ (some X), I_ b] σ Q := by
  refine call_go [some (A_ (some X)), some (I_ b)] (by decide) (Nat.le_of_ble_eq_true rfl) rfl ?_
  refine g_lt (fun hlt hgz => ?_)
  have hR := hX0.1
  have hp01 := hP.b
  refine g_al0 dX1_surest_0 ?_
  refine g_il1 dX1_surest_1 ?_
  refine g_callV1I (d' := 3) lk_X1_168 hR.sh rfl (rm_lt (by decide) (by decide)) (Nat.le_of_ble_eq_true rfl) dX1_surest_2 ?_
  refine xo_isBox hX0 hP.rw (by omega) (fun x2 hx2 => ?_)
  unfold isB_ at hx2
  refine g_if_eq (tgt := 22) dX1_surest_5 (by decide) (by omega) (fun h5 => ?_) (fun h5 => ?_)
  · refine g_al0 dX1_surest_22 ?_
    refine g_iconst dX1_surest_23 ?_
    refine g_callV1I (d' := 2) lk_X1_65 hR.sh rfl (rm_lt (by decide) (by decide)) (Nat.le_of_ble_eq_true rfl) dX1_surest_24 ?_
    refine xo_refused hR ?_
    exact g_iret rfl dX1_surest_27 ⟨_, rfl, hQ _ _ _ (by unfold qSurest_; rw [if_neg (by omega)]) (hX0.e (XE_.rf) hlt) (XE_.rf)⟩
  refine g_al0 dX1_surest_8 ?_
  refine g_al0 dX1_surest_9 ?_
  refine g_il1 dX1_surest_10 ?_
  refine g_bipush dX1_surest_11 (by decide) (by decide) ?_
  refine g_callV2I (d' := 12) lk_X1_337 hR.sh rfl (rm_lt (by decide) (by decide)) (Nat.le_of_ble_eq_true rfl) dX1_surest_13 ?_
  obtain ⟨hW, hD⟩ := hP.get (by omega)
  have hX := hX0.get (by omega)
  have hn := hW.n
  have hlt0 := hlt
  refine xo_surestBut hX hW hD hlt (by omega) (by omega) (fun σ1 hF1 => ?_)
  have hX := hX.xs hF1.fx hlt
  have hR := hX.R
  have hlt := lt_fr hlt hF1
  rw [← sb_none]
  refine g_callV1I (d' := 2) lk_X1_69 hR.sh rfl (rm_lt (by decide) (by decide)) (Nat.le_of_ble_eq_true rfl) dX1_surest_16 ?_
  refine xo_well hR ?_
  refine g_goto (tgt := 27) dX1_surest_19 (by decide) ?_
  exact g_iret rfl dX1_surest_27 ⟨_, rfl, hQ _ _ _ (by unfold qSurest_; rw [if_pos (by omega)]) (hX0.e (XE_.fr hF1.fx) hlt0) (XE_.fr hF1.fx)⟩
theorem xo_by {p : Int} {b d : Int} {Q : Int → JH → Prop} (hX0 : XQ_ G X σ p T r s) (hP : MP_ p r s) (hb : -2147483648 ≤ b ∧ b < 2147483648) (hd : -2147483648 ≤ d ∧ d < 2147483648)
    (hQ : ∀ (x t : Int) (σ' : JH), qBy_ p r s b d = (x, t) → XQ_ G X σ' p T r s → XE_ X σ σ' t → Q x σ') : CallI_ G 12 yX1_by cX1_by 5 (some .int) [A_ (some X), I_ b, I_ d] σ Q := by
  refine call_go [some (A_ (some X)), some (I_ b), some (I_ d), none, none] (by decide) (Nat.le_of_ble_eq_true rfl) rfl ?_
  refine g_lt (fun hlt hgz => ?_)
  have hR := hX0.1
  have hp01 := hP.b
  refine g_al0 dX1_by_0 ?_
  refine g_il1 dX1_by_1 ?_
  refine g_callV1I (d' := 3) lk_X1_168 hR.sh rfl (rm_lt (by decide) (by decide)) (Nat.le_of_ble_eq_true rfl) dX1_by_2 ?_
  refine xo_isBox hX0 hP.rw (by omega) (fun x2 hx2 => ?_)
  unfold isB_ at hx2
  refine g_if_ne (tgt := 14) dX1_by_5 (by decide) (by omega) (fun h5 => ?_) (fun h5 => ?_)
  · refine g_il2 dX1_by_14 ?_
    refine g_iconst dX1_by_15 ?_
    refine g_ldc (x := 99999) q1228 dX1_by_16 (by decide) ?_
    refine g_callS3I (d' := 2) lk_X1_79 (rm_lt (by decide) (by decide)) (Nat.le_of_ble_eq_true rfl) dX1_by_18 ?_
    refine xo_in (by omega) (by omega) (by omega) (fun x18 hx18 => ?_)
    refine g_if_ne (tgt := 30) dX1_by_21 (by decide) (by omega) (fun h21 => ?_) (fun h21 => ?_)
    · obtain ⟨hW, hD⟩ := hP.get (by omega)
      have hX := hX0.get (by omega)
      have hn := hW.n
      have L35 : ∀ (fu : Nat) (σ' : JH) (a : Int) (w : Int), r 6 - w < (fu : Int) → (Fr_ (xfd_ X) σ σ') → (0 ≤ w) → (w ≤ r 6) → (a = iI_ (fun w a => ior_ a (if 0 ≤ bg_ r s w b ∧ bg_ r s w b ≤ d then ishl_ 1 w else 0)) 0 w) → GoM_ G 12 yX1_by cX1_by 5 (some .int) σ (fun v σ' => ∃ x : Int, v = some (I_ x) ∧ Q x σ') 35 [some (A_ (some X)), some (I_ b), some (I_ d), some (I_ a), some (I_ w)] [] σ' := by
        intro fu
        induction fu with
        | zero => intro σ' a w hn hF h0 h1 hv; exact absurd hn (by omega)
        | succ fu ih =>
          intro σ' a w hn hF h0 h1 hv
          have hX := hX.xs hF.fx hlt
          have hR := hX.R
          have hlt0 := hlt
          have hlt := lt_fr hlt hF
          refine g_il4 dX1_by_35 ?_
          refine g_al0 dX1_by_37 ?_
          refine f_getA 5 fk_X1_104 rfl hR.sh (fun _ _ => rfl) hX.f5 dX1_by_38 ?_
          refine f_getA 6 fk_X1_131 rfl hX.P.sh (fun _ _ => rfl) hX.P.f6 dX1_by_41 ?_
          refine g_callV0I (d' := 2) lk_X1_127 hX.P.l2.1 rfl (rm_lt (by decide) (by decide)) (Nat.le_of_ble_eq_true rfl) dX1_by_44 ?_
          refine js_size hX.P.l2 ?_
          refine g_icmp_ge (tgt := 90) dX1_by_47 (by decide) (by omega) (fun h47 => ?_) (fun h47 => ?_)
          · refine g_al0 dX1_by_90 ?_
            refine g_il3 dX1_by_91 ?_
            refine g_callV1I (d' := 2) lk_X1_69 hR.sh rfl (rm_lt (by decide) (by decide)) (Nat.le_of_ble_eq_true rfl) dX1_by_92 ?_
            refine xo_well hR ?_
            exact g_iret rfl dX1_by_95 ⟨_, rfl, hQ _ _ _ (by unfold qBy_; rw [if_pos (by omega), if_pos (by omega), hv, show r 6 = w by omega]) (hX0.e (XE_.fr hF.fx) hlt0) (XE_.fr hF.fx)⟩
          refine g_il3 dX1_by_50 ?_
          refine g_al0 dX1_by_51 ?_
          refine g_il4 dX1_by_52 ?_
          refine g_il1 dX1_by_54 ?_
          refine g_callV2I (d' := 11) lk_X1_334 hR.sh rfl (rm_lt (by decide) (by decide)) (Nat.le_of_ble_eq_true rfl) dX1_by_55 ?_
          refine xo_broughtBy hX hW hD hlt (by omega) (by omega) (fun σ3 hF3 => ?_)
          have hX := hX.xs hF3.fx hlt
          have hR := hX.R
          have hlt := lt_fr hlt hF3
          have hb3 := bg_bd hW hD (w := w) (b := b) (by omega) (by omega)
          have hF := hF.tr hF3
          refine g_bipush dX1_by_58 (by decide) (by decide) ?_
          refine g_icmp_eq (tgt := 81) dX1_by_60 (by decide) (by omega) (fun h60 => ?_) (fun h60 => ?_)
          · refine g_iconst dX1_by_81 ?_
            refine g_ior dX1_by_82 ?_
            refine g_is3 dX1_by_83 (by decide) rfl ?_
            refine g_inc4 dX1_by_84 (by decide) rfl ?_
            refine g_goto (tgt := 35) dX1_by_87 (by decide) ?_
            refine ih _ _ _ (by omega) hF (by omega) (by omega) ?_
            rw [iI_s _ _ h0, ← hv]
            rw [if_neg (by omega)]
          refine g_al0 dX1_by_63 ?_
          refine g_il4 dX1_by_64 ?_
          refine g_il1 dX1_by_66 ?_
          refine g_callV2I (d' := 11) lk_X1_334 hR.sh rfl (rm_lt (by decide) (by decide)) (Nat.le_of_ble_eq_true rfl) dX1_by_67 ?_
          refine xo_broughtBy hX hW hD hlt (by omega) (by omega) (fun σ4 hF4 => ?_)
          have hX := hX.xs hF4.fx hlt
          have hR := hX.R
          have hlt := lt_fr hlt hF4
          have hb4 := bg_bd hW hD (w := w) (b := b) (by omega) (by omega)
          have hF := hF.tr hF4
          refine g_il2 dX1_by_70 ?_
          refine g_icmp_gt (tgt := 81) dX1_by_71 (by decide) (by omega) (fun h71 => ?_) (fun h71 => ?_)
          · refine g_iconst dX1_by_81 ?_
            refine g_ior dX1_by_82 ?_
            refine g_is3 dX1_by_83 (by decide) rfl ?_
            refine g_inc4 dX1_by_84 (by decide) rfl ?_
            refine g_goto (tgt := 35) dX1_by_87 (by decide) ?_
            refine ih _ _ _ (by omega) hF (by omega) (by omega) ?_
            rw [iI_s _ _ h0, ← hv]
            rw [if_neg (by omega)]
          refine g_iconst dX1_by_74 ?_
          refine g_il4 dX1_by_75 ?_
          refine g_ishl dX1_by_77 ?_
          refine g_goto (tgt := 82) dX1_by_78 (by decide) ?_
          refine g_ior dX1_by_82 ?_
          refine g_is3 dX1_by_83 (by decide) rfl ?_
          refine g_inc4 dX1_by_84 (by decide) rfl ?_
          refine g_goto (tgt := 35) dX1_by_87 (by decide) ?_
          refine ih _ _ _ (by omega) hF (by omega) (by omega) ?_
          rw [iI_s _ _ h0, ← hv]
          rw [if_pos (by omega)]
      refine g_iconst dX1_by_30 ?_
      refine g_is3 dX1_by_31 (by decide) rfl ?_
      refine g_iconst dX1_by_32 ?_
      refine g_is4 dX1_by_33 (by decide) rfl ?_
      exact L35 ((r 6).toNat + 1) _ _ _ (by omega) Fr_.rf (by omega) (by omega) rfl
    refine g_al0 dX1_by_24 ?_
    refine g_iconst dX1_by_25 ?_
    refine g_callV1I (d' := 2) lk_X1_65 hR.sh rfl (rm_lt (by decide) (by decide)) (Nat.le_of_ble_eq_true rfl) dX1_by_26 ?_
    refine xo_refused hR ?_
    exact g_iret rfl dX1_by_29 ⟨_, rfl, hQ _ _ _ (by unfold qBy_; rw [if_pos (by omega), if_neg (by omega)]) (hX0.e (XE_.rf) hlt) (XE_.rf)⟩
  refine g_al0 dX1_by_8 ?_
  refine g_iconst dX1_by_9 ?_
  refine g_callV1I (d' := 2) lk_X1_65 hR.sh rfl (rm_lt (by decide) (by decide)) (Nat.le_of_ble_eq_true rfl) dX1_by_10 ?_
  refine xo_refused hR ?_
  exact g_iret rfl dX1_by_13 ⟨_, rfl, hQ _ _ _ (by unfold qBy_; rw [if_neg (by omega)]) (hX0.e (XE_.rf) hlt) (XE_.rf)⟩
end
