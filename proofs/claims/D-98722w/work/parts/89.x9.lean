/-! THE COMPONENT: spouts. Written by mod/m89.py -/
set_option maxRecDepth 100000
/-- what spouts write -/
def xft_ (X : Nat) (b : Nat) (k : Int) : Prop := (b = X + 6 ∨ b = X + 7) ∨ (b = X ∧ (k = 16 ∨ k = 17))
section
variable {G : JG} {X : Nat} {σ : JH} {T : XT} {r s : Int → Int}
theorem Fr_.tx {σ σ' : JH} (h : Fr_ (xft_ X) σ σ') : Fr_ (xs_ X) σ σ' := h.mono (fun b k q => by unfold xft_ at q; unfold xs_; omega)
theorem Fr_.ft {σ σ' : JH} (h : Fr_ (xfd_ X) σ σ') : Fr_ (xft_ X) σ σ' := h.mono (fun b k q => Or.inl q)
theorem Fr_.fX {σ σ' : JH} (h : Fr_ (xfd_ X) σ σ') (k : Int) : iv_ σ' X k = iv_ σ X k := h.2.2.2.2 _ _ (fun q => by unfold xfd_ at q; omega)
theorem f16_ {k x : Int} (hk : k = 16 ∨ k = 17) : Fr_ (xft_ X) σ (pi_ σ X k x) := Fr_.rf.pi (Or.inr ⟨rfl, hk⟩)
theorem ff_st {w k n : Int} (hk : 0 ≤ k) (h : (iI_ (ff_ r s w) (r (108 + 4 * w), 0, 1) k).2.2 = 0) (hn : k ≤ n) : (iI_ (ff_ r s w) (r (108 + 4 * w), 0, 1) n).2.2 = 0 := by
  obtain ⟨j, rfl⟩ : ∃ j : Nat, n = k + j := ⟨(n - k).toNat, by omega⟩
  clear hn
  induction j with
  | zero => rw [show k + ((0 : Nat) : Int) = k by omega]; exact h
  | succ j ih =>
    rw [show k + ((j + 1 : Nat) : Int) = k + j + 1 by omega, iI_s _ _ (by omega)]
    generalize iI_ (ff_ r s w) (r (108 + 4 * w), 0, 1) (k + j) = q at ih ⊢
    unfold ff_
    split
    · dsimp only; rw [if_neg (by omega)]
    · exact ih
theorem ff_g {w k : Int} {q : Int × Int × Int} (h : r (159 + 3 * k) = w) (h1 : q.2.2 = 1) (h2 : 0 ≤ av1_ r s (r (107 + 4 * w)) q.1 (r (160 + 3 * k)) q.2.1) (h3 : av1_ r s (r (107 + 4 * w)) q.1 (r (160 + 3 * k)) q.2.1 ≤ r (161 + 3 * k)) : ff_ r s w k q = (r (160 + 3 * k), r (161 + 3 * k), 1) := by
  unfold ff_; rw [if_pos h, if_pos ⟨h1, h2, h3⟩]
theorem ff_b {w k : Int} {q : Int × Int × Int} (h : r (159 + 3 * k) = w) (h2 : ¬ (0 ≤ av1_ r s (r (107 + 4 * w)) q.1 (r (160 + 3 * k)) q.2.1 ∧ av1_ r s (r (107 + 4 * w)) q.1 (r (160 + 3 * k)) q.2.1 ≤ r (161 + 3 * k))) : (ff_ r s w k q).2.2 = 0 := by
  unfold ff_; rw [if_pos h, if_neg (fun z => h2 z.2)]
theorem ff_y {w k : Int} {q : Int × Int × Int} (h : r (159 + 3 * k) = w) : (ff_ r s w k q).1 = r (160 + 3 * k) ∧ (ff_ r s w k q).2.1 = r (161 + 3 * k) := by
  unfold ff_; rw [if_pos h]; exact ⟨rfl, rfl⟩
theorem ff_o {w k : Int} {q : Int × Int × Int} (h : r (159 + 3 * k) ≠ w) : ff_ r s w k q = q := if_neg h
theorem xo_isFit  {w : Int} {Q : Int → JH → Prop} (hX : XD_ G X σ T r s) (hW : RW_ r) (hD : DW_ r s) (hlt : ∀ a s, sh_ σ a = some s → a < sz_ σ) (hw : 0 ≤ w ∧ w < r 6)
    (hQ : ∀ (z : Int) σ', Fr_ (xft_ X) σ σ' → (z = 1 ∧ (fa_ r s w).2.2 = 1) ∨ (z = 0 ∧ (fa_ r s w).2.2 = 0) → Q z σ') : CallI_ G 8 yX1_isFit cX1_isFit 5 (some .boolean) [A_ (some X), I_ w] σ Q := by
  refine call_go [some (A_ (some X)), some (I_ w), none, none, none] (by decide) (Nat.le_of_ble_eq_true rfl) rfl ?_
  have hR := hX.R
  have hn := hW.n
  have L19 : ∀ (fu : Nat) (σ' : JH) (k : Int) (v3 : Option AV) (v4 : Option AV), r 8 - k < (fu : Int) → (Fr_ (xft_ X) σ σ') → (0 ≤ k) → (k ≤ r 8) → (iv_ σ' X 16 = (iI_ (ff_ r s w) (r (108 + 4 * w), 0, 1) k).1) → (iv_ σ' X 17 = (iI_ (ff_ r s w) (r (108 + 4 * w), 0, 1) k).2.1) → ((iI_ (ff_ r s w) (r (108 + 4 * w), 0, 1) k).2.2 = 1) → GoM_ G 8 yX1_isFit cX1_isFit 5 (some .boolean) σ (fun v σ' => ∃ x : Int, v = some (I_ x) ∧ Q x σ') 19 [some (A_ (some X)), some (I_ w), some (I_ k), v3, v4] [] σ' := by
    intro fu
    induction fu with
    | zero => intro σ' k v3 v4 hn hF h0 h1 h16 h17 hg; exact absurd hn (by omega)
    | succ fu ih =>
      intro σ' k v3 v4 hn hF h0 h1 h16 h17 hg
      have hX := hX.xs hF.tx hlt
      have hR := hX.R
      have hlt := lt_fr hlt hF
      have hff := ff_in (s := s) (w := w) (n := k) hW hw ⟨h0, h1⟩
      refine g_il2 dX1_isFit_19 ?_
      refine g_al0 dX1_isFit_20 ?_
      refine f_getA 5 fk_X1_104 rfl hR.sh (fun _ _ => rfl) hX.f5 dX1_isFit_21 ?_
      refine f_getA 8 fk_X1_373 rfl hX.P.sh (fun _ _ => rfl) hX.P.f8 dX1_isFit_24 ?_
      refine g_callV0I (d' := 2) lk_X1_127 hX.P.l4.1 rfl (rm_lt (by decide) (by decide)) (Nat.le_of_ble_eq_true rfl) dX1_isFit_27 ?_
      refine js_size hX.P.l4 ?_
      refine g_icmp_ge (tgt := 122) dX1_isFit_30 (by decide) (by omega) (fun h30 => ?_) (fun h30 => ?_)
      · refine g_iconst dX1_isFit_122 ?_
        exact g_zret rfl (by omega) dX1_isFit_123 ⟨_, rfl, hQ _ _ hF (Or.inl ⟨rfl, by unfold fa_; rw [show r 8 = k by omega]; exact hg⟩)⟩
      refine g_al0 dX1_isFit_33 ?_
      refine f_getA 5 fk_X1_104 rfl hR.sh (fun _ _ => rfl) hX.f5 dX1_isFit_34 ?_
      refine f_getA 8 fk_X1_373 rfl hX.P.sh (fun _ _ => rfl) hX.P.f8 dX1_isFit_37 ?_
      refine g_il2 dX1_isFit_40 ?_
      refine g_callV1A (d' := 4) lk_X1_137 hX.P.l4.1 rfl (rm_lt (by decide) (by decide)) (Nat.le_of_ble_eq_true rfl) dX1_isFit_41 ?_
      refine js_get hX.P.l4 (by omega) ?_
      have hSp := hX.P.spt (k := k) (by omega) (by omega)
      have hsw2 := hW.spout (k := k) (by omega) (by omega)
      refine g_cast q1474 hSp.1 (Or.inl rfl) dX1_isFit_44 ?_
      refine g_as3 dX1_isFit_47 (by decide) rfl ?_
      refine g_al3 dX1_isFit_48 ?_
      refine f_getv 0 fk_X1_378 rfl hSp.1 (fun _ _ => rfl) hSp.2.2.1 dX1_isFit_49 ?_
      refine g_il1 dX1_isFit_52 ?_
      refine g_icmp_eq (tgt := 59) dX1_isFit_53 (by decide) (by omega) (fun h53 => ?_) (fun h53 => ?_)
      · refine g_al0 dX1_isFit_59 ?_
        refine g_al0 dX1_isFit_60 ?_
        refine g_il1 dX1_isFit_61 ?_
        refine g_callV1A (d' := 5) lk_X1_149 hR.sh rfl (rm_lt (by decide) (by decide)) (Nat.le_of_ble_eq_true rfl) dX1_isFit_62 ?_
        refine xo_whaleOf hX hW hD (by omega) ?_
        obtain ⟨⟨κ, hκ, hkd, hsw⟩, hw2⟩ := hX.P.whl (w := w) (by omega) (by omega)
        have hww := hW.whale (w := w) (by omega) (by omega)
        refine g_al0 dX1_isFit_65 ?_
        refine f_getv 16 fk_X1_367 rfl hR.sh (fun _ _ => rfl) h16 dX1_isFit_66 ?_
        refine g_al3 dX1_isFit_69 ?_
        refine f_getv 1 fk_X1_381 rfl hSp.1 (fun _ _ => rfl) hSp.2.2.2.1 dX1_isFit_70 ?_
        refine g_al0 dX1_isFit_73 ?_
        refine f_getv 17 fk_X1_370 rfl hR.sh (fun _ _ => rfl) h17 dX1_isFit_74 ?_
        refine g_callV4I (d' := 7) lk_X1_318 hR.sh rfl (rm_lt (by decide) (by decide)) (Nat.le_of_ble_eq_true rfl) dX1_isFit_77 ?_
        refine xo_arrives hX hW hD hlt hκ hsw (by omega) (by omega) (by omega) (fun σ1 hF1 => ?_)
        have hX := hX.xs hF1.fx hlt
        have hR := hX.R
        have hlt := lt_fr hlt hF1
        rw [← hkd]
        have hF := hF.tr hF1.ft
        have hav := av1_in (s := s) hW (r (107 + 4 * w)) (iI_ (ff_ r s w) (r (108 + 4 * w), 0, 1) k).1 (r (160 + 3 * k)) (dy := (iI_ (ff_ r s w) (r (108 + 4 * w), 0, 1) k).2.1) (by omega)
        have hSp := hX.P.spt (k := k) (by omega) (by omega)
        refine g_is4 dX1_isFit_80 (by decide) rfl ?_
        refine g_il4 dX1_isFit_82 ?_
        refine g_bipush dX1_isFit_84 (by decide) (by decide) ?_
        refine g_icmp_eq (tgt := 98) dX1_isFit_86 (by decide) (by omega) (fun h86 => ?_) (fun h86 => ?_)
        · refine g_iconst dX1_isFit_98 ?_
          exact g_zret rfl (by omega) dX1_isFit_99 ⟨_, rfl, hQ _ _ hF (Or.inr ⟨rfl, ff_st (k := k + 1) (by omega) (by rw [iI_s _ _ h0]; exact ff_b (by omega) (by omega)) (by omega)⟩)⟩
        refine g_il4 dX1_isFit_89 ?_
        refine g_al3 dX1_isFit_91 ?_
        refine f_getv 2 fk_X1_382 rfl hSp.1 (fun _ _ => rfl) hSp.2.2.2.2 dX1_isFit_92 ?_
        refine g_icmp_le (tgt := 100) dX1_isFit_95 (by decide) (by omega) (fun h95 => ?_) (fun h95 => ?_)
        · refine g_al0 dX1_isFit_100 ?_
          refine g_al3 dX1_isFit_101 ?_
          refine f_getv 1 fk_X1_381 rfl hSp.1 (fun _ _ => rfl) hSp.2.2.2.1 dX1_isFit_102 ?_
          refine f_putI 16 fk_X1_367 rfl (nf_ rfl rfl) hR.sh hR.ge rfl dX1_isFit_105 ?_
          have hP16 : Fr_ (xft_ X) σ1 (pi_ σ1 X 16 (r (160 + 3 * k))) := f16_ (by omega)
          have hX := hX.xs hP16.tx hlt
          have hR := hX.R
          have hlt := lt_fr hlt hP16
          have hF := hF.tr hP16
          have hSp := hX.P.spt (k := k) (by omega) (by omega)
          refine g_al0 dX1_isFit_108 ?_
          refine g_al3 dX1_isFit_109 ?_
          refine f_getv 2 fk_X1_382 rfl hSp.1 (fun _ _ => rfl) hSp.2.2.2.2 dX1_isFit_110 ?_
          refine f_putI 17 fk_X1_370 rfl (nf_ rfl rfl) hR.sh hR.ge rfl dX1_isFit_113 ?_
          have hP17 : Fr_ (xft_ X) (pi_ σ1 X 16 (r (160 + 3 * k))) (pi_ (pi_ σ1 X 16 (r (160 + 3 * k))) X 17 (r (161 + 3 * k))) := f16_ (by omega)
          have hX := hX.xs hP17.tx hlt
          have hR := hX.R
          have hlt := lt_fr hlt hP17
          have hF := hF.tr hP17
          refine g_inc2 dX1_isFit_116 (by decide) rfl ?_
          refine g_goto (tgt := 19) dX1_isFit_119 (by decide) ?_
          have e1 : ff_ r s w k (iI_ (ff_ r s w) (r (108 + 4 * w), 0, 1) k) = (r (160 + 3 * k), r (161 + 3 * k), 1) := ff_g (by omega) hg (by omega) (by omega)
          refine ih _ _ _ _ (by omega) hF (by omega) (by omega) (by rw [iI_s _ _ h0, e1, iv_pi, if_neg (by omega), iv_pi, if_pos ⟨rfl, rfl⟩]) (by rw [iI_s _ _ h0, e1, iv_pi, if_pos ⟨rfl, rfl⟩]) (by rw [iI_s _ _ h0, e1])
        refine g_iconst dX1_isFit_98 ?_
        exact g_zret rfl (by omega) dX1_isFit_99 ⟨_, rfl, hQ _ _ hF (Or.inr ⟨rfl, ff_st (k := k + 1) (by omega) (by rw [iI_s _ _ h0]; exact ff_b (by omega) (by omega)) (by omega)⟩)⟩
      refine g_goto (tgt := 116) dX1_isFit_56 (by decide) ?_
      refine g_inc2 dX1_isFit_116 (by decide) rfl ?_
      refine g_goto (tgt := 19) dX1_isFit_119 (by decide) ?_
      have e1 : ff_ r s w k (iI_ (ff_ r s w) (r (108 + 4 * w), 0, 1) k) = iI_ (ff_ r s w) (r (108 + 4 * w), 0, 1) k := ff_o (by omega)
      refine ih _ _ _ _ (by omega) hF (by omega) (by omega) (by rw [iI_s _ _ h0, e1]; exact h16) (by rw [iI_s _ _ h0, e1]; exact h17) (by rw [iI_s _ _ h0, e1]; exact hg)
  refine g_al0 dX1_isFit_0 ?_
  refine g_al0 dX1_isFit_1 ?_
  refine g_il1 dX1_isFit_2 ?_
  refine g_callV1A (d' := 5) lk_X1_149 hR.sh rfl (rm_lt (by decide) (by decide)) (Nat.le_of_ble_eq_true rfl) dX1_isFit_3 ?_
  refine xo_whaleOf hX hW hD (by omega) ?_
  obtain ⟨⟨κ, hκ, hkd, hsw⟩, hw2⟩ := hX.P.whl (w := w) (by omega) (by omega)
  have hww := hW.whale (w := w) (by omega) (by omega)
  refine f_getv 1 (fk_X1_365 _ hκ) rfl hsw (wty_ hκ (by decide)) hw2.2.1 dX1_isFit_6 ?_
  refine f_putI 16 fk_X1_367 rfl (nf_ rfl rfl) hR.sh hR.ge rfl dX1_isFit_9 ?_
  have hF : Fr_ (xft_ X) σ σ := Fr_.rf
  have hP16 : Fr_ (xft_ X) σ (pi_ σ X 16 (r (108 + 4 * w))) := f16_ (by omega)
  have hX := hX.xs hP16.tx hlt
  have hR := hX.R
  have hlt := lt_fr hlt hP16
  have hF := hF.tr hP16
  refine g_al0 dX1_isFit_12 ?_
  refine g_iconst dX1_isFit_13 ?_
  refine f_putI 17 fk_X1_370 rfl (nf_ rfl rfl) hR.sh hR.ge rfl dX1_isFit_14 ?_
  have hP17 : Fr_ (xft_ X) (pi_ σ X 16 (r (108 + 4 * w))) (pi_ (pi_ σ X 16 (r (108 + 4 * w))) X 17 0) := f16_ (by omega)
  have hX := hX.xs hP17.tx hlt
  have hR := hX.R
  have hlt := lt_fr hlt hP17
  have hF := hF.tr hP17
  refine g_iconst dX1_isFit_17 ?_
  refine g_is2 dX1_isFit_18 (by decide) rfl ?_
  exact L19 ((r 8).toNat + 1) _ _ _ _ (by omega) hF (by omega) (by omega) (by rw [iI_0, iv_pi, if_neg (by omega), iv_pi, if_pos ⟨rfl, rfl⟩]) (by rw [iI_0, iv_pi, if_pos ⟨rfl, rfl⟩]) rfl
theorem xo_fits {p : Int} {Q : Int → JH → Prop} (hX0 : XQ_ G X σ p T r s) (hP : MP_ p r s) 
    (hQ : ∀ (x t : Int) (σ' : JH), qFits_ p r s = (x, t) → XQ_ G X σ' p T r s → XE_ X σ σ' t → Q x σ') : CallI_ G 9 yX1_fits cX1_fits 3 (some .int) [A_ (some X)] σ Q := by
  refine call_go [some (A_ (some X)), none, none] (by decide) (Nat.le_of_ble_eq_true rfl) rfl ?_
  refine g_lt (fun hlt hgz => ?_)
  have hR := hX0.1
  have hp01 := hP.b
  rcases hX0.2 with q | q
  · have hp0 : p = 0 := q.1
    refine g_al0 dX1_fits_0 ?_
    refine f_getA 5 fk_X1_104 rfl hR.sh (fun _ _ => rfl) q.2 dX1_fits_1 ?_
    refine g_ifnonnull (tgt := 13) dX1_fits_4 (by decide) (fun _ h4 => ?_) (fun h4 => ?_)
    · cases h4
    refine g_al0 dX1_fits_7 ?_
    refine g_iconst dX1_fits_8 ?_
    refine g_callV1I (d' := 2) lk_X1_65 hR.sh rfl (rm_lt (by decide) (by decide)) (Nat.le_of_ble_eq_true rfl) dX1_fits_9 ?_
    refine xo_refused hR ?_
    exact g_iret rfl dX1_fits_12 ⟨_, rfl, hQ _ _ _ (by unfold qFits_; rw [if_neg (by omega)]) (hX0.e (XE_.rf) hlt) (XE_.rf)⟩
  · have hp1 : p = 1 := q.1
    have hX := q.2
    obtain ⟨hW, hD⟩ := hP.get hp1
    have hn := hW.n
    refine g_al0 dX1_fits_0 ?_
    refine f_getA 5 fk_X1_104 rfl hR.sh (fun _ _ => rfl) hX.f5 dX1_fits_1 ?_
    refine g_ifnonnull (tgt := 13) dX1_fits_4 (by decide) (fun _ h4 => ?_) (fun h4 => ?_)
    · have L17 : ∀ (fu : Nat) (σ' : JH) (a : Int) (w : Int), r 6 - w < (fu : Int) → (Fr_ (xft_ X) σ σ') → (0 ≤ w) → (w ≤ r 6) → (a = iI_ (fun w a => ior_ a (if (fa_ r s w).2.2 = 1 then ishl_ 1 w else 0)) 0 w) → GoM_ G 9 yX1_fits cX1_fits 3 (some .int) σ (fun v σ' => ∃ x : Int, v = some (I_ x) ∧ Q x σ') 17 [some (A_ (some X)), some (I_ a), some (I_ w)] [] σ' := by
        intro fu
        induction fu with
        | zero => intro σ' a w hn hF h0 h1 hv; exact absurd hn (by omega)
        | succ fu ih =>
          intro σ' a w hn hF h0 h1 hv
          have hX := hX.xs hF.tx hlt
          have hR := hX.R
          have hlt0 := hlt
          have hlt := lt_fr hlt hF
          refine g_il2 dX1_fits_17 ?_
          refine g_al0 dX1_fits_18 ?_
          refine f_getA 5 fk_X1_104 rfl hR.sh (fun _ _ => rfl) hX.f5 dX1_fits_19 ?_
          refine f_getA 6 fk_X1_131 rfl hX.P.sh (fun _ _ => rfl) hX.P.f6 dX1_fits_22 ?_
          refine g_callV0I (d' := 2) lk_X1_127 hX.P.l2.1 rfl (rm_lt (by decide) (by decide)) (Nat.le_of_ble_eq_true rfl) dX1_fits_25 ?_
          refine js_size hX.P.l2 ?_
          refine g_icmp_ge (tgt := 55) dX1_fits_28 (by decide) (by omega) (fun h28 => ?_) (fun h28 => ?_)
          · refine g_al0 dX1_fits_55 ?_
            refine g_il1 dX1_fits_56 ?_
            refine g_callV1I (d' := 2) lk_X1_69 hR.sh rfl (rm_lt (by decide) (by decide)) (Nat.le_of_ble_eq_true rfl) dX1_fits_57 ?_
            refine xo_well hR ?_
            exact g_iret rfl dX1_fits_60 ⟨_, rfl, hQ _ _ _ (by unfold qFits_; rw [if_pos (by omega), hv, show r 6 = w by omega]) (hX0.e (XE_.fr hF.tx) hlt0) (XE_.fr hF.tx)⟩
          refine g_il1 dX1_fits_31 ?_
          refine g_al0 dX1_fits_32 ?_
          refine g_il2 dX1_fits_33 ?_
          refine g_callV1I (d' := 8) lk_X1_383 hR.sh rfl (rm_lt (by decide) (by decide)) (Nat.le_of_ble_eq_true rfl) dX1_fits_34 ?_
          refine xo_isFit hX hW hD hlt (by omega) (fun z3 σ3 hF3 hz3 => ?_)
          have hX := hX.xs hF3.tx hlt
          have hR := hX.R
          have hlt := lt_fr hlt hF3
          have hF := hF.tr hF3
          refine g_if_eq (tgt := 46) dX1_fits_37 (by decide) (by omega) (fun h37 => ?_) (fun h37 => ?_)
          · refine g_iconst dX1_fits_46 ?_
            refine g_ior dX1_fits_47 ?_
            refine g_is1 dX1_fits_48 (by decide) rfl ?_
            refine g_inc2 dX1_fits_49 (by decide) rfl ?_
            refine g_goto (tgt := 17) dX1_fits_52 (by decide) ?_
            refine ih _ _ _ (by omega) hF (by omega) (by omega) ?_
            rw [iI_s _ _ h0, ← hv]
            rw [if_neg (by omega)]
          refine g_iconst dX1_fits_40 ?_
          refine g_il2 dX1_fits_41 ?_
          refine g_ishl dX1_fits_42 ?_
          refine g_goto (tgt := 47) dX1_fits_43 (by decide) ?_
          refine g_ior dX1_fits_47 ?_
          refine g_is1 dX1_fits_48 (by decide) rfl ?_
          refine g_inc2 dX1_fits_49 (by decide) rfl ?_
          refine g_goto (tgt := 17) dX1_fits_52 (by decide) ?_
          refine ih _ _ _ (by omega) hF (by omega) (by omega) ?_
          rw [iI_s _ _ h0, ← hv]
          rw [if_pos (by omega)]
      refine g_iconst dX1_fits_13 ?_
      refine g_is1 dX1_fits_14 (by decide) rfl ?_
      refine g_iconst dX1_fits_15 ?_
      refine g_is2 dX1_fits_16 (by decide) rfl ?_
      exact L17 ((r 6).toNat + 1) _ _ _ (by omega) Fr_.rf (by omega) (by omega) rfl
    cases h4
theorem xo_reached  {w d : Int} {Q : Int → JH → Prop} (hX : XD_ G X σ T r s) (hW : RW_ r) (hD : DW_ r s) (hlt : ∀ a s, sh_ σ a = some s → a < sz_ σ) (hw : 0 ≤ w ∧ w < r 6) (hd : 0 ≤ d ∧ d ≤ 99999)
    (hQ : ∀ σ', Fr_ (xft_ X) σ σ' → Q (rc_ r s w d) σ') : CallI_ G 7 yX1_reached cX1_reached 5 (some .int) [A_ (some X), I_ w, I_ d] σ Q := by
  refine call_go [some (A_ (some X)), some (I_ w), some (I_ d), none, none] (by decide) (Nat.le_of_ble_eq_true rfl) rfl ?_
  have hR := hX.R
  have hn := hW.n
  have J105 : ∀ (σ' : JH) (k : Int), Fr_ (xft_ X) σ σ' → iv_ σ' X 16 = (fa_ r s w).1 → iv_ σ' X 17 = (fa_ r s w).2.1 → GoM_ G 7 yX1_reached cX1_reached 5 (some .int) σ (fun v σ' => ∃ x : Int, v = some (I_ x) ∧ Q x σ') 105 [some (A_ (some X)), some (I_ w), some (I_ d), some (I_ k), none] [] σ' := by
    intro σ' k hF h16 h17
    have hX := hX.xs hF.tx hlt
    have hR := hX.R
    have hlt := lt_fr hlt hF
    have hfa := fa_in (s := s) hW hw
    refine g_al0 dX1_reached_105 ?_
    refine g_al0 dX1_reached_106 ?_
    refine g_il1 dX1_reached_107 ?_
    refine g_callV1A (d' := 5) lk_X1_149 hR.sh rfl (rm_lt (by decide) (by decide)) (Nat.le_of_ble_eq_true rfl) dX1_reached_108 ?_
    refine xo_whaleOf hX hW hD (by omega) ?_
    obtain ⟨⟨κ, hκ, hkd, hsw⟩, hw2⟩ := hX.P.whl (w := w) (by omega) (by omega)
    have hww := hW.whale (w := w) (by omega) (by omega)
    refine g_al0 dX1_reached_111 ?_
    refine f_getv 16 fk_X1_367 rfl hR.sh (fun _ _ => rfl) h16 dX1_reached_112 ?_
    refine g_al0 dX1_reached_115 ?_
    refine f_getv 17 fk_X1_370 rfl hR.sh (fun _ _ => rfl) h17 dX1_reached_116 ?_
    refine g_callV3V (d' := 6) lk_X1_315 hR.sh rfl (rm_lt (by decide) (by decide)) (Nat.le_of_ble_eq_true rfl) dX1_reached_119 ?_
    refine xo_goes hX hW hD hlt hκ hsw (by omega) (by omega) (fun σ1 hF1 hv1 => ?_)
    replace hF1 : Fr_ (xfd_ X) σ' σ1 := hF1
    have hX := hX.xs hF1.fx hlt
    have hR := hX.R
    have hlt := lt_fr hlt hF1
    have hF := hF.tr hF1.ft
    rw [← hkd] at hv1
    have L127 : ∀ (fu2 : Nat) (a : Int) (i : Int), r 4 - i < (fu2 : Int) → (0 ≤ i) → (i ≤ r 4) → (a = iI_ (fun i a => ior_ a (if er_ r s (r (107 + 4 * w)) (fa_ r s w).1 (fa_ r s w).2.1 i ≤ d then ishl_ 1 i else 0)) 0 i) → GoM_ G 7 yX1_reached cX1_reached 5 (some .int) σ (fun v σ' => ∃ x : Int, v = some (I_ x) ∧ Q x σ') 127 [some (A_ (some X)), some (I_ w), some (I_ d), some (I_ a), some (I_ i)] [] σ1 := by
      intro fu2
      induction fu2 with
      | zero => intro a i hn g0 g1 gv; exact absurd hn (by omega)
      | succ fu2 ih2 =>
        intro a i hn g0 g1 gv
        refine g_il4 dX1_reached_127 ?_
        refine g_al0 dX1_reached_129 ?_
        refine f_getA 5 fk_X1_104 rfl hR.sh (fun _ _ => rfl) hX.f5 dX1_reached_130 ?_
        refine f_getA 4 fk_X1_122 rfl hX.P.sh (fun _ _ => rfl) hX.P.f4 dX1_reached_133 ?_
        refine g_callV0I (d' := 2) lk_X1_127 hX.P.l0.1 rfl (rm_lt (by decide) (by decide)) (Nat.le_of_ble_eq_true rfl) dX1_reached_136 ?_
        refine js_size hX.P.l0 ?_
        refine g_icmp_ge (tgt := 170) dX1_reached_139 (by decide) (by omega) (fun h139 => ?_) (fun h139 => ?_)
        · refine g_il3 dX1_reached_170 ?_
          exact g_iret rfl dX1_reached_171 ⟨_, rfl, by have q := hQ _ hF; unfold rc_ at q; rw [show r 4 = i by omega, ← gv] at q; exact q⟩
        refine g_il3 dX1_reached_142 ?_
        refine g_al0 dX1_reached_143 ?_
        refine f_getA 11 fk_X1_34 rfl hR.sh (fun _ _ => rfl) hR.f11 dX1_reached_144 ?_
        refine g_il4 dX1_reached_147 ?_
        refine g_ialv hR.a11 (by omega) (hv1 i (by omega) (by omega)) dX1_reached_149 ?_
        have hnv : nv_ (er_ r s (r (107 + 4 * w)) (fa_ r s w).1 (fa_ r s w).2.1 i) = 9999999 ∧ er_ r s (r (107 + 4 * w)) (fa_ r s w).1 (fa_ r s w).2.1 i = 1000000 ∨ nv_ (er_ r s (r (107 + 4 * w)) (fa_ r s w).1 (fa_ r s w).2.1 i) = er_ r s (r (107 + 4 * w)) (fa_ r s w).1 (fa_ r s w).2.1 i := by unfold nv_; split <;> omega
        have hei := er_in (s := s) hW (r (107 + 4 * w)) (fa_ r s w).1 (dy := (fa_ r s w).2.1) (by omega) i
        refine g_il2 dX1_reached_150 ?_
        refine g_icmp_gt (tgt := 161) dX1_reached_151 (by decide) (by omega) (fun h151 => ?_) (fun h151 => ?_)
        · refine g_iconst dX1_reached_161 ?_
          refine g_ior dX1_reached_162 ?_
          refine g_is3 dX1_reached_163 (by decide) rfl ?_
          refine g_inc4 dX1_reached_164 (by decide) rfl ?_
          refine g_goto (tgt := 127) dX1_reached_167 (by decide) ?_
          refine ih2 _ _ (by omega) (by omega) (by omega) ?_
          rw [iI_s _ _ g0, ← gv]
          rw [if_neg (by omega)]
        refine g_iconst dX1_reached_154 ?_
        refine g_il4 dX1_reached_155 ?_
        refine g_ishl dX1_reached_157 ?_
        refine g_goto (tgt := 162) dX1_reached_158 (by decide) ?_
        refine g_ior dX1_reached_162 ?_
        refine g_is3 dX1_reached_163 (by decide) rfl ?_
        refine g_inc4 dX1_reached_164 (by decide) rfl ?_
        refine g_goto (tgt := 127) dX1_reached_167 (by decide) ?_
        refine ih2 _ _ (by omega) (by omega) (by omega) ?_
        rw [iI_s _ _ g0, ← gv]
        rw [if_pos (by omega)]
    refine g_iconst dX1_reached_122 ?_
    refine g_is3 dX1_reached_123 (by decide) rfl ?_
    refine g_iconst dX1_reached_124 ?_
    refine g_is4 dX1_reached_125 (by decide) rfl ?_
    exact L127 ((r 4).toNat + 1) _ _ (by omega) (by omega) (by omega) rfl
  have L19 : ∀ (fu : Nat) (σ' : JH) (k : Int), r 8 - k < (fu : Int) → (Fr_ (xft_ X) σ σ') → (0 ≤ k) → (k ≤ r 8) → (iv_ σ' X 16 = (iI_ (ff_ r s w) (r (108 + 4 * w), 0, 1) k).1) → (iv_ σ' X 17 = (iI_ (ff_ r s w) (r (108 + 4 * w), 0, 1) k).2.1) → GoM_ G 7 yX1_reached cX1_reached 5 (some .int) σ (fun v σ' => ∃ x : Int, v = some (I_ x) ∧ Q x σ') 19 [some (A_ (some X)), some (I_ w), some (I_ d), some (I_ k), none] [] σ' := by
    intro fu
    induction fu with
    | zero => intro σ' k hn hF h0 h1 h16 h17; exact absurd hn (by omega)
    | succ fu ih =>
      intro σ' k hn hF h0 h1 h16 h17
      have hX := hX.xs hF.tx hlt
      have hR := hX.R
      have hlt := lt_fr hlt hF
      have hff := ff_in (s := s) (w := w) (n := k) hW hw ⟨h0, h1⟩
      refine g_il3 dX1_reached_19 ?_
      refine g_al0 dX1_reached_20 ?_
      refine f_getA 5 fk_X1_104 rfl hR.sh (fun _ _ => rfl) hX.f5 dX1_reached_21 ?_
      refine f_getA 8 fk_X1_373 rfl hX.P.sh (fun _ _ => rfl) hX.P.f8 dX1_reached_24 ?_
      refine g_callV0I (d' := 2) lk_X1_127 hX.P.l4.1 rfl (rm_lt (by decide) (by decide)) (Nat.le_of_ble_eq_true rfl) dX1_reached_27 ?_
      refine js_size hX.P.l4 ?_
      refine g_icmp_ge (tgt := 105) dX1_reached_30 (by decide) (by omega) (fun h30 => ?_) (fun h30 => ?_)
      · exact J105 _ _ hF (by rw [h16]; unfold fa_; rw [show r 8 = k by omega]) (by rw [h17]; unfold fa_; rw [show r 8 = k by omega])
      refine g_al0 dX1_reached_33 ?_
      refine f_getA 5 fk_X1_104 rfl hR.sh (fun _ _ => rfl) hX.f5 dX1_reached_34 ?_
      refine f_getA 8 fk_X1_373 rfl hX.P.sh (fun _ _ => rfl) hX.P.f8 dX1_reached_37 ?_
      refine g_il3 dX1_reached_40 ?_
      refine g_callV1A (d' := 4) lk_X1_137 hX.P.l4.1 rfl (rm_lt (by decide) (by decide)) (Nat.le_of_ble_eq_true rfl) dX1_reached_41 ?_
      refine js_get hX.P.l4 (by omega) ?_
      have hSp := hX.P.spt (k := k) (by omega) (by omega)
      have hsw2 := hW.spout (k := k) (by omega) (by omega)
      refine g_cast q1474 hSp.1 (Or.inl rfl) dX1_reached_44 ?_
      refine f_getv 0 fk_X1_378 rfl hSp.1 (fun _ _ => rfl) hSp.2.2.1 dX1_reached_47 ?_
      refine g_il1 dX1_reached_50 ?_
      refine g_icmp_eq (tgt := 57) dX1_reached_51 (by decide) (by omega) (fun h51 => ?_) (fun h51 => ?_)
      · refine g_al0 dX1_reached_57 ?_
        refine g_al0 dX1_reached_58 ?_
        refine f_getA 5 fk_X1_104 rfl hR.sh (fun _ _ => rfl) hX.f5 dX1_reached_59 ?_
        refine f_getA 8 fk_X1_373 rfl hX.P.sh (fun _ _ => rfl) hX.P.f8 dX1_reached_62 ?_
        refine g_il3 dX1_reached_65 ?_
        refine g_callV1A (d' := 4) lk_X1_137 hX.P.l4.1 rfl (rm_lt (by decide) (by decide)) (Nat.le_of_ble_eq_true rfl) dX1_reached_66 ?_
        refine js_get hX.P.l4 (by omega) ?_
        have hSp := hX.P.spt (k := k) (by omega) (by omega)
        have hsw2 := hW.spout (k := k) (by omega) (by omega)
        refine g_cast q1474 hSp.1 (Or.inl rfl) dX1_reached_69 ?_
        refine f_getv 1 fk_X1_381 rfl hSp.1 (fun _ _ => rfl) hSp.2.2.2.1 dX1_reached_72 ?_
        refine f_putI 16 fk_X1_367 rfl (nf_ rfl rfl) hR.sh hR.ge rfl dX1_reached_75 ?_
        have hP16 : Fr_ (xft_ X) σ' (pi_ σ' X 16 (r (160 + 3 * k))) := f16_ (by omega)
        have hX := hX.xs hP16.tx hlt
        have hR := hX.R
        have hlt := lt_fr hlt hP16
        have hF := hF.tr hP16
        have hSp := hX.P.spt (k := k) (by omega) (by omega)
        refine g_al0 dX1_reached_78 ?_
        refine g_al0 dX1_reached_79 ?_
        refine f_getA 5 fk_X1_104 rfl hR.sh (fun _ _ => rfl) hX.f5 dX1_reached_80 ?_
        refine f_getA 8 fk_X1_373 rfl hX.P.sh (fun _ _ => rfl) hX.P.f8 dX1_reached_83 ?_
        refine g_il3 dX1_reached_86 ?_
        refine g_callV1A (d' := 4) lk_X1_137 hX.P.l4.1 rfl (rm_lt (by decide) (by decide)) (Nat.le_of_ble_eq_true rfl) dX1_reached_87 ?_
        refine js_get hX.P.l4 (by omega) ?_
        have hSp := hX.P.spt (k := k) (by omega) (by omega)
        have hsw2 := hW.spout (k := k) (by omega) (by omega)
        refine g_cast q1474 hSp.1 (Or.inl rfl) dX1_reached_90 ?_
        refine f_getv 2 fk_X1_382 rfl hSp.1 (fun _ _ => rfl) hSp.2.2.2.2 dX1_reached_93 ?_
        refine f_putI 17 fk_X1_370 rfl (nf_ rfl rfl) hR.sh hR.ge rfl dX1_reached_96 ?_
        have hP17 : Fr_ (xft_ X) (pi_ σ' X 16 (r (160 + 3 * k))) (pi_ (pi_ σ' X 16 (r (160 + 3 * k))) X 17 (r (161 + 3 * k))) := f16_ (by omega)
        have hX := hX.xs hP17.tx hlt
        have hR := hX.R
        have hlt := lt_fr hlt hP17
        have hF := hF.tr hP17
        refine g_inc3 dX1_reached_99 (by decide) rfl ?_
        refine g_goto (tgt := 19) dX1_reached_102 (by decide) ?_
        have e1 := ff_y (s := s) (w := w) (k := k) (q := iI_ (ff_ r s w) (r (108 + 4 * w), 0, 1) k) (by omega)
        refine ih _ _ (by omega) hF (by omega) (by omega) (by rw [iI_s _ _ h0, e1.1, iv_pi, if_neg (by omega), iv_pi, if_pos ⟨rfl, rfl⟩]) (by rw [iI_s _ _ h0, e1.2, iv_pi, if_pos ⟨rfl, rfl⟩])
      refine g_goto (tgt := 99) dX1_reached_54 (by decide) ?_
      refine g_inc3 dX1_reached_99 (by decide) rfl ?_
      refine g_goto (tgt := 19) dX1_reached_102 (by decide) ?_
      have e1 : ff_ r s w k (iI_ (ff_ r s w) (r (108 + 4 * w), 0, 1) k) = iI_ (ff_ r s w) (r (108 + 4 * w), 0, 1) k := ff_o (by omega)
      refine ih _ _ (by omega) hF (by omega) (by omega) (by rw [iI_s _ _ h0, e1]; exact h16) (by rw [iI_s _ _ h0, e1]; exact h17)
  refine g_al0 dX1_reached_0 ?_
  refine g_al0 dX1_reached_1 ?_
  refine g_il1 dX1_reached_2 ?_
  refine g_callV1A (d' := 5) lk_X1_149 hR.sh rfl (rm_lt (by decide) (by decide)) (Nat.le_of_ble_eq_true rfl) dX1_reached_3 ?_
  refine xo_whaleOf hX hW hD (by omega) ?_
  obtain ⟨⟨κ, hκ, hkd, hsw⟩, hw2⟩ := hX.P.whl (w := w) (by omega) (by omega)
  have hww := hW.whale (w := w) (by omega) (by omega)
  refine f_getv 1 (fk_X1_365 _ hκ) rfl hsw (wty_ hκ (by decide)) hw2.2.1 dX1_reached_6 ?_
  refine f_putI 16 fk_X1_367 rfl (nf_ rfl rfl) hR.sh hR.ge rfl dX1_reached_9 ?_
  have hF : Fr_ (xft_ X) σ σ := Fr_.rf
  have hP16 : Fr_ (xft_ X) σ (pi_ σ X 16 (r (108 + 4 * w))) := f16_ (by omega)
  have hX := hX.xs hP16.tx hlt
  have hR := hX.R
  have hlt := lt_fr hlt hP16
  have hF := hF.tr hP16
  refine g_al0 dX1_reached_12 ?_
  refine g_iconst dX1_reached_13 ?_
  refine f_putI 17 fk_X1_370 rfl (nf_ rfl rfl) hR.sh hR.ge rfl dX1_reached_14 ?_
  have hP17 : Fr_ (xft_ X) (pi_ σ X 16 (r (108 + 4 * w))) (pi_ (pi_ σ X 16 (r (108 + 4 * w))) X 17 0) := f16_ (by omega)
  have hX := hX.xs hP17.tx hlt
  have hR := hX.R
  have hlt := lt_fr hlt hP17
  have hF := hF.tr hP17
  refine g_iconst dX1_reached_17 ?_
  refine g_is3 dX1_reached_18 (by decide) rfl ?_
  exact L19 ((r 8).toNat + 1) _ _ (by omega) hF (by omega) (by omega) (by rw [iI_0, iv_pi, if_neg (by omega), iv_pi, if_pos ⟨rfl, rfl⟩]) (by rw [iI_0, iv_pi, if_pos ⟨rfl, rfl⟩])
theorem xo_reach {p : Int} {w d : Int} {Q : Int → JH → Prop} (hX0 : XQ_ G X σ p T r s) (hP : MP_ p r s) (hw : -2147483648 ≤ w ∧ w < 2147483648) (hd : -2147483648 ≤ d ∧ d < 2147483648)
    (hQ : ∀ (x t : Int) (σ' : JH), qReach_ p r s w d = (x, t) → XQ_ G X σ' p T r s → XE_ X σ σ' t → Q x σ') : CallI_ G 8 yX1_reach cX1_reach 3 (some .int) [A_ (some X), I_ w, I_ d] σ Q := by
  refine call_go [some (A_ (some X)), some (I_ w), some (I_ d)] (by decide) (Nat.le_of_ble_eq_true rfl) rfl ?_
  refine g_lt (fun hlt hgz => ?_)
  have hR := hX0.1
  have hp01 := hP.b
  refine g_al0 dX1_reach_0 ?_
  refine g_il1 dX1_reach_1 ?_
  refine g_callV1I (d' := 3) lk_X1_145 hR.sh rfl (rm_lt (by decide) (by decide)) (Nat.le_of_ble_eq_true rfl) dX1_reach_2 ?_
  refine xo_isWhale hX0 hP.rw (by omega) (fun x2 hx2 => ?_)
  unfold isW_ at hx2
  refine g_if_ne (tgt := 14) dX1_reach_5 (by decide) (by omega) (fun h5 => ?_) (fun h5 => ?_)
  · refine g_il2 dX1_reach_14 ?_
    refine g_iconst dX1_reach_15 ?_
    refine g_ldc (x := 99999) q1228 dX1_reach_16 (by decide) ?_
    refine g_callS3I (d' := 2) lk_X1_79 (rm_lt (by decide) (by decide)) (Nat.le_of_ble_eq_true rfl) dX1_reach_18 ?_
    refine xo_in (by omega) (by omega) (by omega) (fun x18 hx18 => ?_)
    refine g_if_eq (tgt := 37) dX1_reach_21 (by decide) (by omega) (fun h21 => ?_) (fun h21 => ?_)
    · refine g_al0 dX1_reach_37 ?_
      refine g_iconst dX1_reach_38 ?_
      refine g_callV1I (d' := 2) lk_X1_65 hR.sh rfl (rm_lt (by decide) (by decide)) (Nat.le_of_ble_eq_true rfl) dX1_reach_39 ?_
      refine xo_refused hR ?_
      exact g_iret rfl dX1_reach_42 ⟨_, rfl, hQ _ _ _ (by unfold qReach_; rw [if_pos (by omega), if_neg (by omega)]) (hX0.e (XE_.rf) hlt) (XE_.rf)⟩
    refine g_al0 dX1_reach_24 ?_
    refine g_al0 dX1_reach_25 ?_
    refine g_il1 dX1_reach_26 ?_
    refine g_il2 dX1_reach_27 ?_
    refine g_callV2I (d' := 7) lk_X1_386 hR.sh rfl (rm_lt (by decide) (by decide)) (Nat.le_of_ble_eq_true rfl) dX1_reach_28 ?_
    obtain ⟨hW, hD⟩ := hP.get (by omega)
    have hX := hX0.get (by omega)
    have hn := hW.n
    have hlt0 := hlt
    refine xo_reached hX hW hD hlt (by omega) (by omega) (fun σ1 hF1 => ?_)
    have hX := hX.xs hF1.tx hlt
    have hR := hX.R
    have hlt := lt_fr hlt hF1
    refine g_callV1I (d' := 2) lk_X1_69 hR.sh rfl (rm_lt (by decide) (by decide)) (Nat.le_of_ble_eq_true rfl) dX1_reach_31 ?_
    refine xo_well hR ?_
    refine g_goto (tgt := 42) dX1_reach_34 (by decide) ?_
    exact g_iret rfl dX1_reach_42 ⟨_, rfl, hQ _ _ _ (by unfold qReach_; rw [if_pos (by omega), if_pos (by omega)]) (hX0.e (XE_.fr hF1.tx) hlt0) (XE_.fr hF1.tx)⟩
  refine g_al0 dX1_reach_8 ?_
  refine g_iconst dX1_reach_9 ?_
  refine g_callV1I (d' := 2) lk_X1_65 hR.sh rfl (rm_lt (by decide) (by decide)) (Nat.le_of_ble_eq_true rfl) dX1_reach_10 ?_
  refine xo_refused hR ?_
  exact g_iret rfl dX1_reach_13 ⟨_, rfl, hQ _ _ _ (by unfold qReach_; rw [if_neg (by omega)]) (hX0.e (XE_.rf) hlt) (XE_.rf)⟩
end
