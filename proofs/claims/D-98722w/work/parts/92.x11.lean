/-! THE COMPONENT: ways to watch. Written by mod/m92.py -/
set_option maxRecDepth 100000
section
variable {G : JG} {X : Nat} {σ : JH} {T : XT} {r s : Int → Int}
theorem xo_bits {x : Nat} {Q : Int → JH → Prop} (hx : x < 4096) (hQ : Q (onN_ x : Int) σ) : CallI_ G 2 yX1_bits cX1_bits 3 (some .int) [I_ (x : Int)] σ Q := by
  refine call_go [some (I_ (x : Int)), none, none] (by decide) (Nat.le_of_ble_eq_true rfl) rfl ?_
  have L4 : ∀ (fu : Nat) (n1 : Int) (y : Nat), (y : Int) < (fu : Int) → (y < 4096) → (0 ≤ n1) → (n1 + onN_ y = onN_ x) → GoM_ G 2 yX1_bits cX1_bits 3 (some .int) σ (fun v σ' => ∃ x : Int, v = some (I_ x) ∧ Q x σ') 4 [some (I_ (x : Int)), some (I_ n1), some (I_ (y : Int))] [] σ := by
    intro fu
    induction fu with
    | zero => intro n1 y hn hy hn1 hv; exact absurd hn (by omega)
    | succ fu ih =>
      intro n1 y hn hy hn1 hv
      refine g_il2 dX1_bits_4 ?_
      refine g_if_eq (tgt := 20) dX1_bits_5 (by decide) (by omega) (fun h5 => ?_) (fun h5 => ?_)
      · refine g_il1 dX1_bits_20 ?_
        exact g_iret rfl dX1_bits_21 ⟨_, rfl, (by have e : y = 0 := (by omega); subst e; rw [← hv, show (onN_ 0 : Int) = 0 from rfl, Int.add_zero] at hQ; exact hQ)⟩
      refine g_inc1 dX1_bits_8 (by decide) rfl ?_
      refine g_il2 dX1_bits_11 ?_
      refine g_il2 dX1_bits_12 ?_
      refine g_iconst dX1_bits_13 ?_
      refine g_isub dX1_bits_14 ?_
      refine g_iand dX1_bits_15 ?_
      have hand : iand_ (y : Int) ((y : Int) - 1) = ((y &&& (y - 1) : Nat) : Int) := by rw [show (y : Int) - 1 = ((y - 1 : Nat) : Int) by omega]; exact iand_n (by omega) (by omega)
      rw [hand]
      have hle : y &&& (y - 1) ≤ y - 1 := Nat.and_le_right
      have hon := onN_s hy (by omega)
      refine g_is2 dX1_bits_16 (by decide) rfl ?_
      refine g_goto (tgt := 4) dX1_bits_17 (by decide) ?_
      exact ih _ (y &&& (y - 1)) (by omega) (by omega) (by omega) (by omega)
  refine g_iconst dX1_bits_0 ?_
  refine g_is1 dX1_bits_1 (by decide) rfl ?_
  refine g_il0 dX1_bits_2 ?_
  refine g_is2 dX1_bits_3 (by decide) rfl ?_
  exact L4 (x + 1) _ x (by omega) hx (by omega) (by omega)
theorem xo_leads  {i j u : Int} {Q : Int → JH → Prop} (hX : XD_ G X σ T r s) (hW : RW_ r) (hD : DW_ r s) (hi : 0 ≤ i ∧ i < r 4) (hj : 0 ≤ j ∧ j < r 4)
    (hQ : ∀ z : Int, (z = 1 ∧ ld_ r s u i j) ∨ (z = 0 ∧ ¬ ld_ r s u i j) → Q z σ) : CallI_ G 5 yX1_leads cX1_leads 8 (some .boolean) [A_ (some X), I_ i, I_ j, I_ u] σ Q := by
  refine call_go [some (A_ (some X)), some (I_ i), some (I_ j), some (I_ u), none, none, none, none] (by decide) (Nat.le_of_ble_eq_true rfl) rfl ?_
  have hR := hX.R
  have hn := hW.n
  have L8 : ∀ (fu : Nat) (n1 : Int) (W : Nat) (v6 : Option AV) (v7 : Option AV), 7 - n1 < (fu : Int) → (0 ≤ n1) → (n1 ≤ 7) → (LR_ r s u i W W 0) → (LS2_ r s u i W n1) → GoM_ G 5 yX1_leads cX1_leads 8 (some .boolean) σ (fun v σ' => ∃ x : Int, v = some (I_ x) ∧ Q x σ') 8 [some (A_ (some X)), some (I_ i), some (I_ j), some (I_ u), some (I_ ((W : Nat) : Int)), some (I_ n1), v6, v7] [] σ := by
    intro fu
    induction fu with
    | zero => intro n1 W v6 v7 hn h0 h1 hL hS; exact absurd hn (by omega)
    | succ fu ih =>
      intro n1 W v6 v7 hn h0 h1 hL hS
      have hWb := hL.1.1
      refine g_il5 dX1_leads_8 ?_
      refine g_bipush dX1_leads_10 (by decide) (by decide) ?_
      refine g_icmp_ge (tgt := 126) dX1_leads_12 (by decide) (by omega) (fun h12 => ?_) (fun h12 => ?_)
      · refine g_il4 dX1_leads_126 ?_
        refine g_il2 dX1_leads_128 ?_
        refine g_callS2I (d' := 2) lk_X1_222 (rm_lt (by decide) (by decide)) (Nat.le_of_ble_eq_true rfl) dX1_leads_129 ?_
        refine xo_has (fun z1 hz1 => ?_)
        rw [hb_i (by omega) (by omega) (by omega)] at hz1
        exact g_zret rfl (by omega) dX1_leads_132 ⟨_, rfl, hQ _ (by have e := LS2_.done hW hL (by rw [show n1 = 7 by omega] at hS; exact hS) (j := j) (by omega) (by omega); rw [e]; exact hz1)⟩
      have L18 : ∀ (fu2 : Nat) (k : Int) (Y : Nat) (v7 : Option AV), r 5 - k < (fu2 : Int) → (0 ≤ k) → (k ≤ r 5) → (LR_ r s u i Y W k) → GoM_ G 5 yX1_leads cX1_leads 8 (some .boolean) σ (fun v σ' => ∃ x : Int, v = some (I_ x) ∧ Q x σ') 18 [some (A_ (some X)), some (I_ i), some (I_ j), some (I_ u), some (I_ ((Y : Nat) : Int)), some (I_ n1), some (I_ k), v7] [] σ := by
        intro fu2
        induction fu2 with
        | zero => intro k Y v7 hn g0 g1 gL; exact absurd hn (by omega)
        | succ fu2 ih2 =>
          intro k Y v7 hn g0 g1 gL
          have hY := gL.1.1
          refine g_il6 dX1_leads_18 ?_
          refine g_al0 dX1_leads_20 ?_
          refine f_getA 5 fk_X1_104 rfl hR.sh (fun _ _ => rfl) hX.f5 dX1_leads_21 ?_
          refine f_getA 5 fk_X1_226 rfl hX.P.sh (fun _ _ => rfl) hX.P.f5 dX1_leads_24 ?_
          refine g_callV0I (d' := 2) lk_X1_127 hX.P.l1.1 rfl (rm_lt (by decide) (by decide)) (Nat.le_of_ble_eq_true rfl) dX1_leads_27 ?_
          refine js_size hX.P.l1 ?_
          refine g_icmp_ge (tgt := 120) dX1_leads_30 (by decide) (by omega) (fun h30 => ?_) (fun h30 => ?_)
          · have gN := LR_.next (by rw [show k = r 5 by omega] at gL; exact gL) hS
            refine g_inc5 dX1_leads_120 (by decide) rfl ?_
            refine g_goto (tgt := 8) dX1_leads_123 (by decide) ?_
            exact ih _ Y _ _ (by omega) (by omega) (by omega) gN.1 gN.2
          refine g_al0 dX1_leads_33 ?_
          refine f_getA 5 fk_X1_104 rfl hR.sh (fun _ _ => rfl) hX.f5 dX1_leads_34 ?_
          refine f_getA 5 fk_X1_226 rfl hX.P.sh (fun _ _ => rfl) hX.P.f5 dX1_leads_37 ?_
          refine g_il6 dX1_leads_40 ?_
          refine g_callV1A (d' := 4) lk_X1_137 hX.P.l1.1 rfl (rm_lt (by decide) (by decide)) (Nat.le_of_ble_eq_true rfl) dX1_leads_42 ?_
          refine js_get hX.P.l1 (by omega) ?_
          have hYw := hX.P.way (k := k) (by omega) (by omega)
          have hyw := hW.way (k := k) (by omega) (by omega)
          have hea := en2_and (r := r) (X := Y) (k := k) hW (by omega) (by omega)
          refine g_cast q1215 hYw.1 (Or.inl rfl) dX1_leads_45 ?_
          refine g_as7 dX1_leads_48 (by decide) rfl ?_
          refine g_al0 dX1_leads_50 ?_
          refine g_il6 dX1_leads_51 ?_
          refine g_callV1I (d' := 3) lk_X1_234 hR.sh rfl (rm_lt (by decide) (by decide)) (Nat.le_of_ble_eq_true rfl) dX1_leads_53 ?_
          refine xo_isClosed hX hW hD (fun zc hzc => ?_)
          refine g_if_ne (tgt := 114) dX1_leads_56 (by decide) (by omega) (fun h56 => ?_) (fun h56 => ?_)
          · refine g_inc6 dX1_leads_114 (by decide) rfl ?_
            refine g_goto (tgt := 18) dX1_leads_117 (by decide) ?_
            exact ih2 _ Y _ (by omega) (by omega) (by omega) (gL.skip (Or.inl (by omega)))
          refine g_il3 dX1_leads_59 ?_
          refine g_il6 dX1_leads_60 ?_
          refine g_callS2I (d' := 2) lk_X1_222 (rm_lt (by decide) (by decide)) (Nat.le_of_ble_eq_true rfl) dX1_leads_62 ?_
          refine xo_has (fun zu hzu => ?_)
          refine g_if_ne (tgt := 114) dX1_leads_65 (by decide) (by omega) (fun h65 => ?_) (fun h65 => ?_)
          · refine g_inc6 dX1_leads_114 (by decide) rfl ?_
            refine g_goto (tgt := 18) dX1_leads_117 (by decide) ?_
            exact ih2 _ Y _ (by omega) (by omega) (by omega) (gL.skip (Or.inr (by omega)))
          refine g_il4 dX1_leads_68 ?_
          refine g_al7 dX1_leads_70 ?_
          refine f_getv 0 fk_X1_304 rfl hYw.1 (fun _ _ => rfl) hYw.2.2.1 dX1_leads_72 ?_
          refine g_callS2I (d' := 2) lk_X1_222 (rm_lt (by decide) (by decide)) (Nat.le_of_ble_eq_true rfl) dX1_leads_75 ?_
          refine xo_has (fun z1 hz1 => ?_)
          rw [hb_i (by omega) (by omega) (by omega)] at hz1
          refine g_if_ne (tgt := 94) dX1_leads_78 (by decide) (by omega) (fun h78 => ?_) (fun h78 => ?_)
          · refine g_il4 dX1_leads_94 ?_
            refine g_iconst dX1_leads_96 ?_
            refine g_al7 dX1_leads_97 ?_
            refine f_getv 0 fk_X1_304 rfl hYw.1 (fun _ _ => rfl) hYw.2.2.1 dX1_leads_99 ?_
            refine g_ishl dX1_leads_102 ?_
            refine g_iconst dX1_leads_103 ?_
            refine g_al7 dX1_leads_104 ?_
            refine f_getv 1 fk_X1_307 rfl hYw.1 (fun _ _ => rfl) hYw.2.2.2.1 dX1_leads_106 ?_
            refine g_ishl dX1_leads_109 ?_
            refine g_ior dX1_leads_110 ?_
            refine g_ior dX1_leads_111 ?_
            rw [ld_new hW hY g0 (by omega)]
            refine g_is4 dX1_leads_112 (by decide) rfl ?_
            refine g_inc6 dX1_leads_114 (by decide) rfl ?_
            refine g_goto (tgt := 18) dX1_leads_117 (by decide) ?_
            exact ih2 _ (Y ||| en2_ r k) _ (by omega) (by omega) (by omega) (gL.go hW g0 (by omega) (by omega) (by omega) (hea.mpr (Or.inl (hz1.elim (fun q => q.2) (fun q => by omega)))))
          refine g_il4 dX1_leads_81 ?_
          refine g_al7 dX1_leads_83 ?_
          refine f_getv 1 fk_X1_307 rfl hYw.1 (fun _ _ => rfl) hYw.2.2.2.1 dX1_leads_85 ?_
          refine g_callS2I (d' := 2) lk_X1_222 (rm_lt (by decide) (by decide)) (Nat.le_of_ble_eq_true rfl) dX1_leads_88 ?_
          refine xo_has (fun z2 hz2 => ?_)
          rw [hb_i (by omega) (by omega) (by omega)] at hz2
          refine g_if_eq (tgt := 114) dX1_leads_91 (by decide) (by omega) (fun h91 => ?_) (fun h91 => ?_)
          · refine g_inc6 dX1_leads_114 (by decide) rfl ?_
            refine g_goto (tgt := 18) dX1_leads_117 (by decide) ?_
            exact ih2 _ Y _ (by omega) (by omega) (by omega) (gL.off (Classical.byContradiction fun w => (hea.mp w).elim (fun q => hz1.elim (fun w => by omega) (fun w => w.2 q)) (fun q => hz2.elim (fun w => by omega) (fun w => w.2 q))))
          refine g_il4 dX1_leads_94 ?_
          refine g_iconst dX1_leads_96 ?_
          refine g_al7 dX1_leads_97 ?_
          refine f_getv 0 fk_X1_304 rfl hYw.1 (fun _ _ => rfl) hYw.2.2.1 dX1_leads_99 ?_
          refine g_ishl dX1_leads_102 ?_
          refine g_iconst dX1_leads_103 ?_
          refine g_al7 dX1_leads_104 ?_
          refine f_getv 1 fk_X1_307 rfl hYw.1 (fun _ _ => rfl) hYw.2.2.2.1 dX1_leads_106 ?_
          refine g_ishl dX1_leads_109 ?_
          refine g_ior dX1_leads_110 ?_
          refine g_ior dX1_leads_111 ?_
          rw [ld_new hW hY g0 (by omega)]
          refine g_is4 dX1_leads_112 (by decide) rfl ?_
          refine g_inc6 dX1_leads_114 (by decide) rfl ?_
          refine g_goto (tgt := 18) dX1_leads_117 (by decide) ?_
          exact ih2 _ (Y ||| en2_ r k) _ (by omega) (by omega) (by omega) (gL.go hW g0 (by omega) (by omega) (by omega) (hea.mpr (Or.inr (hz2.elim (fun q => q.2) (fun q => by omega)))))
      refine g_iconst dX1_leads_15 ?_
      refine g_is6 dX1_leads_16 (by decide) rfl ?_
      exact L18 ((r 5).toNat + 1) _ W _ (by omega) (by omega) (by omega) hL
  refine g_iconst dX1_leads_0 ?_
  refine g_il1 dX1_leads_1 ?_
  refine g_ishl dX1_leads_2 ?_
  rw [ishl_i (by omega) (by omega)]
  have hf := LR_.first (r := r) (s := s) (u := u) (i := i) (by omega) (by omega)
  refine g_is4 dX1_leads_3 (by decide) rfl ?_
  refine g_iconst dX1_leads_5 ?_
  refine g_is5 dX1_leads_6 (by decide) rfl ?_
  exact L8 8 _ (2 ^ i.toNat) _ _ (by omega) (by omega) (by omega) hf.1 hf.2
theorem xo_watch {p : Int} {i j : Int} {Q : Int → JH → Prop} (hX0 : XQ_ G X σ p T r s) (hP : MP_ p r s) (hi : -2147483648 ≤ i ∧ i < 2147483648) (hj : -2147483648 ≤ j ∧ j < 2147483648)
    (hQ : ∀ (x t : Int) (σ' : JH), qWatch_ p r s i j = (x, t) → XQ_ G X σ' p T r s → XE_ X σ σ' t → Q x σ') : CallI_ G 6 yX1_watch cX1_watch 5 (some .int) [A_ (some X), I_ i, I_ j] σ Q := by
  refine call_go [some (A_ (some X)), some (I_ i), some (I_ j), none, none] (by decide) (Nat.le_of_ble_eq_true rfl) rfl ?_
  refine g_lt (fun hlt hgz => ?_)
  have hR := hX0.1
  have hp01 := hP.b
  refine g_al0 dX1_watch_0 ?_
  refine g_il1 dX1_watch_1 ?_
  refine g_callV1I (d' := 3) lk_X1_193 hR.sh rfl (rm_lt (by decide) (by decide)) (Nat.le_of_ble_eq_true rfl) dX1_watch_2 ?_
  refine xo_isIsland hX0 hP.rw (by omega) (fun x2 hx2 => ?_)
  unfold isI_ at hx2
  refine g_if_eq (tgt := 21) dX1_watch_5 (by decide) (by omega) (fun h5 => ?_) (fun h5 => ?_)
  · refine g_al0 dX1_watch_21 ?_
    refine g_iconst dX1_watch_22 ?_
    refine g_callV1I (d' := 2) lk_X1_65 hR.sh rfl (rm_lt (by decide) (by decide)) (Nat.le_of_ble_eq_true rfl) dX1_watch_23 ?_
    refine xo_refused hR ?_
    exact g_iret rfl dX1_watch_26 ⟨_, rfl, hQ _ _ _ (by unfold qWatch_; rw [if_neg (by omega)]) (hX0.e (XE_.rf) hlt) (XE_.rf)⟩
  refine g_al0 dX1_watch_8 ?_
  refine g_il2 dX1_watch_9 ?_
  refine g_callV1I (d' := 3) lk_X1_193 hR.sh rfl (rm_lt (by decide) (by decide)) (Nat.le_of_ble_eq_true rfl) dX1_watch_10 ?_
  refine xo_isIsland hX0 hP.rw (by omega) (fun x10 hx10 => ?_)
  unfold isI_ at hx10
  refine g_if_eq (tgt := 21) dX1_watch_13 (by decide) (by omega) (fun h13 => ?_) (fun h13 => ?_)
  · refine g_al0 dX1_watch_21 ?_
    refine g_iconst dX1_watch_22 ?_
    refine g_callV1I (d' := 2) lk_X1_65 hR.sh rfl (rm_lt (by decide) (by decide)) (Nat.le_of_ble_eq_true rfl) dX1_watch_23 ?_
    refine xo_refused hR ?_
    exact g_iret rfl dX1_watch_26 ⟨_, rfl, hQ _ _ _ (by unfold qWatch_; rw [if_neg (by omega)]) (hX0.e (XE_.rf) hlt) (XE_.rf)⟩
  refine g_il1 dX1_watch_16 ?_
  refine g_il2 dX1_watch_17 ?_
  refine g_icmp_ne (tgt := 27) dX1_watch_18 (by decide) (by omega) (fun h18 => ?_) (fun h18 => ?_)
  · obtain ⟨hW, hD⟩ := hP.get (by omega)
    have hX := hX0.get (by omega)
    have hn := hW.n
    have hd0 := hD.n
    obtain ⟨C, hs1⟩ := Int.eq_ofNat_of_zero_le (show 0 ≤ s 1 by omega)
    have hC : C < 4096 := by omega
    have h5 := p5_ (r := r) (by omega)
    have hm5 : mk_ (2 ^ (r 5).toNat - 1) C ≤ 2 ^ (r 5).toNat - 1 := Nat.and_le_left
    have L55 : ∀ (fu : Nat) (v : Int) (B : Nat), v + 1 < (fu : Int) → (-1 ≤ v) → (v ≤ (((mk_ (2 ^ (r 5).toNat - 1) C) : Nat) : Int)) → (WB_ r s i j C (mk_ (2 ^ (r 5).toNat - 1) C) v B) → GoM_ G 6 yX1_watch cX1_watch 5 (some .int) σ (fun v σ' => ∃ x : Int, v = some (I_ x) ∧ Q x σ') 55 [some (A_ (some X)), some (I_ i), some (I_ j), some (I_ (B : Int)), some (I_ v)] [] σ := by
      intro fu
      induction fu with
      | zero => intro v B hn h0 h1 hB; exact absurd hn (by omega)
      | succ fu ih =>
        intro v B hn h0 h1 hB
        have hBle := hB.1.1
        have hob := onN_le (x := B) (by omega)
        refine g_il4 dX1_watch_55 ?_
        refine g_if_lt (tgt := 105) dX1_watch_57 (by decide) (by omega) (fun h57 => ?_) (fun h57 => ?_)
        · refine g_al0 dX1_watch_105 ?_
          refine g_il3 dX1_watch_106 ?_
          refine g_callV1I (d' := 2) lk_X1_69 hR.sh rfl (rm_lt (by decide) (by decide)) (Nat.le_of_ble_eq_true rfl) dX1_watch_107 ?_
          refine xo_well hR ?_
          exact g_iret rfl dX1_watch_110 ⟨_, rfl, hQ _ _ _ (by unfold qWatch_; rw [if_pos (by omega), wt_eq (WB_.done (by omega) hC hs1 (by rw [show v = -1 by omega] at hB; exact hB))]) (hX0.e XE_.rf hlt) XE_.rf⟩
        obtain ⟨V, rfl⟩ := Int.eq_ofNat_of_zero_le (show 0 ≤ v by omega)
        have hov := onN_le (x := V) (by omega)
        have hac : iand_ (V : Int) (s 1) = ((V &&& C : Nat) : Int) := by rw [hs1]; exact iand_n (by omega) (by omega)
        have hacl : V &&& C ≤ V := Nat.and_le_left
        refine g_il4 dX1_watch_60 ?_
        refine g_al0 dX1_watch_62 ?_
        refine f_getA 6 fk_X1_111 rfl hR.sh (fun _ _ => rfl) hX.f6 dX1_watch_63 ?_
        refine f_getv 6 fk_X1_219 rfl hX.K.sh (fun _ _ => rfl) hX.K.c dX1_watch_66 ?_
        refine g_iand dX1_watch_69 ?_
        rw [hac]
        refine g_if_ne (tgt := 99) dX1_watch_70 (by decide) (by omega) (fun h70 => ?_) (fun h70 => ?_)
        · refine g_inc4 dX1_watch_99 (by decide) rfl ?_
          refine g_goto (tgt := 55) dX1_watch_102 (by decide) ?_
          rw [show (V : Int) + -1 = (V : Int) - 1 by omega]
          exact ih _ B (by omega) (by omega) (by omega) (hB.pass (fun q _ => by omega))
        refine g_il4 dX1_watch_73 ?_
        refine g_callS1I (d' := 2) lk_X1_392 (rm_lt (by decide) (by decide)) (Nat.le_of_ble_eq_true rfl) dX1_watch_75 ?_
        refine xo_bits (by omega) ?_
        refine g_il3 dX1_watch_78 ?_
        refine g_callS1I (d' := 2) lk_X1_392 (rm_lt (by decide) (by decide)) (Nat.le_of_ble_eq_true rfl) dX1_watch_79 ?_
        refine xo_bits (by omega) ?_
        refine g_icmp_gt (tgt := 99) dX1_watch_82 (by decide) (by omega) (fun h82 => ?_) (fun h82 => ?_)
        · refine g_inc4 dX1_watch_99 (by decide) rfl ?_
          refine g_goto (tgt := 55) dX1_watch_102 (by decide) ?_
          rw [show (V : Int) + -1 = (V : Int) - 1 by omega]
          exact ih _ B (by omega) (by omega) (by omega) (hB.pass (fun _ _ => by omega))
        refine g_al0 dX1_watch_85 ?_
        refine g_il1 dX1_watch_86 ?_
        refine g_il2 dX1_watch_87 ?_
        refine g_il4 dX1_watch_88 ?_
        refine g_callV3I (d' := 5) lk_X1_395 hR.sh rfl (rm_lt (by decide) (by decide)) (Nat.le_of_ble_eq_true rfl) dX1_watch_90 ?_
        refine xo_leads hX hW hD (by omega) (by omega) (fun zl hzl => ?_)
        refine g_if_ne (tgt := 99) dX1_watch_93 (by decide) (by omega) (fun h93 => ?_) (fun h93 => ?_)
        · refine g_inc4 dX1_watch_99 (by decide) rfl ?_
          refine g_goto (tgt := 55) dX1_watch_102 (by decide) ?_
          rw [show (V : Int) + -1 = (V : Int) - 1 by omega]
          exact ih _ B (by omega) (by omega) (by omega) (hB.pass (fun _ w => hzl.elim (fun q => absurd q.2 w) (fun q => by omega)))
        refine g_il4 dX1_watch_96 ?_
        refine g_is3 dX1_watch_98 (by decide) rfl ?_
        refine g_inc4 dX1_watch_99 (by decide) rfl ?_
        refine g_goto (tgt := 55) dX1_watch_102 (by decide) ?_
        rw [show (V : Int) + -1 = (V : Int) - 1 by omega]
        exact ih _ V (by omega) (by omega) (by omega) (hB.take (by omega) (by omega) (by omega) (hzl.elim (fun q => by omega) (fun q => q.2)))
    refine g_iconst dX1_watch_27 ?_
    refine g_al0 dX1_watch_28 ?_
    refine f_getA 5 fk_X1_104 rfl hR.sh (fun _ _ => rfl) hX.f5 dX1_watch_29 ?_
    refine f_getA 5 fk_X1_226 rfl hX.P.sh (fun _ _ => rfl) hX.P.f5 dX1_watch_32 ?_
    refine g_callV0I (d' := 2) lk_X1_127 hX.P.l1.1 rfl (rm_lt (by decide) (by decide)) (Nat.le_of_ble_eq_true rfl) dX1_watch_35 ?_
    refine js_size hX.P.l1 ?_
    refine g_ishl dX1_watch_38 ?_
    refine g_iconst dX1_watch_39 ?_
    refine g_isub dX1_watch_40 ?_
    refine g_al0 dX1_watch_41 ?_
    refine f_getA 6 fk_X1_111 rfl hR.sh (fun _ _ => rfl) hX.f6 dX1_watch_42 ?_
    refine f_getv 6 fk_X1_219 rfl hX.K.sh (fun _ _ => rfl) hX.K.c dX1_watch_45 ?_
    refine g_iconst dX1_watch_48 ?_
    refine g_ixor dX1_watch_49 ?_
    refine g_iand dX1_watch_50 ?_
    refine g_top (show _ = (((mk_ (2 ^ (r 5).toNat - 1) C) : Nat) : Int) by rw [hs1, ishl_i (by omega) (by omega), ← mk_w (X := 2 ^ (r 5).toNat - 1) (by omega) hC, show ((2 ^ (r 5).toNat : Nat) : Int) - 1 = ((2 ^ (r 5).toNat - 1 : Nat) : Int) by omega]) ?_
    refine g_is3 dX1_watch_51 (by decide) rfl ?_
    refine g_il3 dX1_watch_52 ?_
    refine g_is4 dX1_watch_53 (by decide) rfl ?_
    exact L55 ((mk_ (2 ^ (r 5).toNat - 1) C) + 1 + 1) _ (mk_ (2 ^ (r 5).toNat - 1) C) (by omega) (by omega) (by omega) (WB_.first (by omega) hC hs1 (by omega))
  refine g_al0 dX1_watch_21 ?_
  refine g_iconst dX1_watch_22 ?_
  refine g_callV1I (d' := 2) lk_X1_65 hR.sh rfl (rm_lt (by decide) (by decide)) (Nat.le_of_ble_eq_true rfl) dX1_watch_23 ?_
  refine xo_refused hR ?_
  exact g_iret rfl dX1_watch_26 ⟨_, rfl, hQ _ _ _ (by unfold qWatch_; rw [if_neg (by omega)]) (hX0.e (XE_.rf) hlt) (XE_.rf)⟩
end
