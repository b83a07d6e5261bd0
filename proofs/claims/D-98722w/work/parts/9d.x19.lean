/-! THE COMPONENT: acts. Written by mod/m9d.py -/
set_option maxRecDepth 100000
section
variable {G : JG} {X lo : Nat} {σ : JH} {tp fa pl tr p un im : Int} {B r s : Int → Int} {U I : Int → Int → Int} {T : XT} {L : XL}
/-- a desk's ints are written -/
theorem DQ_.send {D : Nat} {w b day to : Int} (h : DQ_ G σ lo D r s) (hW : RW_ r) (hw : 0 ≤ w ∧ w < r 6) (hb : 0 ≤ b ∧ b < r 7) (hd : 0 ≤ day) (ht : 0 ≤ to) : DQ_ G (pi_ (pi_ (pi_ (pi_ σ (D + 1) w to) (D + 2) w day) (D + 3) b day) (D + 4) b to) lo D r (se_ s w b day to) := by
  have hn := hW.n
  have es : ∀ j, j ≠ 20 + b → j ≠ 12 + b → j ≠ 7 + w → j ≠ 2 + w → se_ s w b day to j = s j := fun j j1 j2 j3 j4 => by
    unfold se_
    rw [if_neg j1, if_neg j2, if_neg j3, if_neg j4]
  have e1 : se_ s w b day to (2 + w) = to := by unfold se_; rw [if_neg (by omega), if_neg (by omega), if_neg (by omega), if_pos rfl]
  have e2 : se_ s w b day to (7 + w) = day := by unfold se_; rw [if_neg (by omega), if_neg (by omega), if_pos rfl]
  have e3 : se_ s w b day to (12 + b) = day + 1 := by unfold se_; rw [if_neg (by omega), if_pos rfl]
  have e4 : se_ s w b day to (20 + b) = to + 1 := by unfold se_; rw [if_pos rfl]
  refine DQ_.mk h.da h.1.2.1 ?_ ?_ (fun v v0 v1 => ?_) (fun c c0 c1 => ?_) (fun c k c0 c1 k0 k1 => ?_)
  · rw [es 0 (by omega) (by omega) (by omega) (by omega), iv_pi, if_neg (by omega), iv_pi, if_neg (by omega), iv_pi, if_neg (by omega), iv_pi, if_neg (by omega)]; exact h.y
  · rw [es 1 (by omega) (by omega) (by omega) (by omega), iv_pi, if_neg (by omega), iv_pi, if_neg (by omega), iv_pi, if_neg (by omega), iv_pi, if_neg (by omega)]; exact h.c
  · have q := h.wh v0 v1
    by_cases e : v = w
    · rw [e, e1, e2]
      exact ⟨by rw [iv_pi, if_neg (by omega), iv_pi, if_neg (by omega), iv_pi, if_neg (by omega), iv_pi, if_pos ⟨rfl, rfl⟩], by rw [iv_pi, if_neg (by omega), iv_pi, if_neg (by omega), iv_pi, if_pos ⟨rfl, rfl⟩]⟩
    · rw [es (2 + v) (by omega) (by omega) (by omega) (by omega), es (7 + v) (by omega) (by omega) (by omega) (by omega)]
      exact ⟨by rw [iv_pi, if_neg (by omega), iv_pi, if_neg (by omega), iv_pi, if_neg (by omega), iv_pi, if_neg (by omega)]; exact q.1, by rw [iv_pi, if_neg (by omega), iv_pi, if_neg (by omega), iv_pi, if_neg (by omega), iv_pi, if_neg (by omega)]; exact q.2⟩
  · have q := h.bx c0 c1
    by_cases e : c = b
    · rw [e, e3, e4]
      unfold un_
      rw [if_neg (by omega), if_neg (by omega)]
      exact ⟨by rw [iv_pi, if_neg (by omega), iv_pi, if_pos ⟨rfl, rfl⟩]; omega, by rw [iv_pi, if_pos ⟨rfl, rfl⟩]; omega⟩
    · rw [es (12 + c) (by omega) (by omega) (by omega) (by omega), es (20 + c) (by omega) (by omega) (by omega) (by omega)]
      exact ⟨by rw [iv_pi, if_neg (by omega), iv_pi, if_neg (by omega), iv_pi, if_neg (by omega), iv_pi, if_neg (by omega)]; exact q.1, by rw [iv_pi, if_neg (by omega), iv_pi, if_neg (by omega), iv_pi, if_neg (by omega), iv_pi, if_neg (by omega)]; exact q.2⟩
  · have q := h.sg c0 c1 k0 k1
    have hbl := bl_in hW c0 c1
    rw [es _ (by omega) (by omega) (by omega) (by omega), iv_pi, if_neg (by omega), iv_pi, if_neg (by omega), iv_pi, if_neg (by omega), iv_pi, if_neg (by omega)]
    exact q
theorem DQ_.tune {D : Nat} {b k x : Int} (h : DQ_ G σ lo D r s) (hW : RW_ r) (hb : 0 ≤ b ∧ b < r 7) (hk : 0 ≤ k ∧ k < bl_ r b) : DQ_ G (pi_ σ (D + 5) (6 * b + k) x) lo D r (pt_ s (28 + 6 * b + k) x) := by
  have hn := hW.n
  have hbl := bl_in hW hb.1 hb.2
  refine DQ_.mk h.da h.1.2.1 ?_ ?_ (fun v v0 v1 => ?_) (fun c c0 c1 => ?_) (fun c j c0 c1 j0 j1 => ?_)
  · simp only [iv_pi]; unfold pt_; rw [if_neg (by omega), if_neg (by omega)]; exact h.y
  · simp only [iv_pi]; unfold pt_; rw [if_neg (by omega), if_neg (by omega)]; exact h.c
  · simp only [iv_pi]; unfold pt_; rw [if_neg (by omega), if_neg (by omega), if_neg (by omega), if_neg (by omega)]; exact h.wh v0 v1
  · simp only [iv_pi]; unfold pt_; rw [if_neg (by omega), if_neg (by omega), if_neg (by omega), if_neg (by omega)]; exact h.bx c0 c1
  · have hbc := bl_in hW c0 c1
    simp only [iv_pi]
    unfold pt_
    by_cases q : c = b ∧ j = k
    · rw [if_pos ⟨trivial, by omega⟩, if_pos (by omega)]
    · rw [if_neg (by omega), if_neg (by omega)]; exact h.sg c0 c1 j0 j1
theorem DQ_.year {D : Nat} {x : Int} (h : DQ_ G σ lo D r s) (hW : RW_ r) : DQ_ G (pi_ σ D 5 x) lo D r (pt_ s 0 x) := by
  have hn := hW.n
  refine DQ_.mk h.da h.1.2.1 ?_ ?_ (fun v v0 v1 => ?_) (fun c c0 c1 => ?_) (fun c j c0 c1 j0 j1 => ?_)
  · unfold pt_; rw [iv_pi, if_pos ⟨rfl, rfl⟩, if_pos rfl]
  · simp only [iv_pi]; unfold pt_; rw [if_neg (by omega), if_neg (by omega)]; exact h.c
  · simp only [iv_pi]; unfold pt_; rw [if_neg (by omega), if_neg (by omega), if_neg (by omega), if_neg (by omega)]; exact h.wh v0 v1
  · simp only [iv_pi]; unfold pt_; rw [if_neg (by omega), if_neg (by omega), if_neg (by omega), if_neg (by omega)]; exact h.bx c0 c1
  · have hbc := bl_in hW c0 c1
    simp only [iv_pi]; unfold pt_; rw [if_neg (by omega), if_neg (by omega)]; exact h.sg c0 c1 j0 j1
theorem DQ_.clos {D : Nat} {x : Int} (h : DQ_ G σ lo D r s) (hW : RW_ r) : DQ_ G (pi_ σ D 6 x) lo D r (pt_ s 1 x) := by
  have hn := hW.n
  refine DQ_.mk h.da h.1.2.1 ?_ ?_ (fun v v0 v1 => ?_) (fun c c0 c1 => ?_) (fun c j c0 c1 j0 j1 => ?_)
  · simp only [iv_pi]; unfold pt_; rw [if_neg (by omega), if_neg (by omega)]; exact h.y
  · unfold pt_; rw [iv_pi, if_pos ⟨rfl, rfl⟩, if_pos rfl]
  · simp only [iv_pi]; unfold pt_; rw [if_neg (by omega), if_neg (by omega), if_neg (by omega), if_neg (by omega)]; exact h.wh v0 v1
  · simp only [iv_pi]; unfold pt_; rw [if_neg (by omega), if_neg (by omega), if_neg (by omega), if_neg (by omega)]; exact h.bx c0 c1
  · have hbc := bl_in hW c0 c1
    simp only [iv_pi]; unfold pt_; rw [if_neg (by omega), if_neg (by omega)]; exact h.sg c0 c1 j0 j1
theorem DQ_.cg {D : Nat} {u : Int → Int} (h : DQ_ G σ lo D r u) (hW : RW_ r) (e : ∀ j, 0 ≤ j → j < 76 → s j = u j) : DQ_ G σ lo D r s := by
  have hn := hW.n
  refine DQ_.mk h.da h.1.2.1 ((e 0 (by decide) (by decide)).symm ▸ h.y) ((e 1 (by decide) (by decide)).symm ▸ h.c) (fun v v0 v1 => ?_) (fun c c0 c1 => ?_) (fun c j c0 c1 j0 j1 => ?_)
  · rw [e _ (by omega) (by omega), e _ (by omega) (by omega)]; exact h.wh v0 v1
  · rw [e _ (by omega) (by omega), e _ (by omega) (by omega)]; exact h.bx c0 c1
  · have hbc := bl_in hW c0 c1
    rw [e _ (by omega) (by omega)]; exact h.sg c0 c1 j0 j1
theorem xo_send  {w b : Int} {Q : Int → JH → Prop} (hS : XS_ G X lo σ tp fa pl tr p un im B r s U I T L) (hP : MP_ p r s) (hu : 0 ≤ un ∧ un ≤ 12) (hi2 : 0 ≤ im ∧ im ≤ 3) (hw : -2147483648 ≤ w ∧ w < 2147483648) (hb : -2147483648 ≤ b ∧ b < 2147483648) (hrm : sz_ σ + 7 ≤ lc_ G ∧ us_ σ + 100 ≤ ls_ G)
    (hQ : ∀ (x t : Int) (un' : Int) (U' : Int → Int → Int) (s' : Int → Int) (T' : XT) (L' : XL) (σ' : JH), aSend_ p r s un U w b = (x, t, un', U', s') → XS_ G X lo σ' tp fa pl t p un' im B r s' U' I T' L' → Gw_ (xw_ X lo) 7 100 σ σ' → Q x σ') : CallI_ G 12 yX1_send cX1_send 5 (some .int) [A_ (some X), I_ w, I_ b] σ Q := by
  refine call_go [some (A_ (some X)), some (I_ w), some (I_ b), none, none] (by decide) (Nat.le_of_ble_eq_true rfl) rfl ?_
  refine g_lt (fun hlt hgz => ?_)
  have hX0 := hS.1
  have hR := hX0.1
  have hge := hR.ge
  have hlo := hS.2.1
  have hl := hR.lt hlt
  have hp01 := hP.b
  have hS0 := hS
  have hlt0 := hlt
  refine g_al0 dX1_send_0 ?_
  refine g_il1 dX1_send_1 ?_
  refine g_callV1I (d' := 3) lk_X1_145 hR.sh rfl (rm_lt (by decide) (by decide)) (Nat.le_of_ble_eq_true rfl) dX1_send_2 ?_
  refine xo_isWhale hX0 hP.rw (by omega) (fun x2 hx2 => ?_)
  unfold isW_ at hx2
  refine g_if_eq (tgt := 16) dX1_send_5 (by decide) (by omega) (fun h5 => ?_) (fun h5 => ?_)
  · refine g_al0 dX1_send_16 ?_
    refine g_iconst dX1_send_17 ?_
    refine g_callV1I (d' := 2) lk_X1_65 hR.sh rfl (rm_lt (by decide) (by decide)) (Nat.le_of_ble_eq_true rfl) dX1_send_18 ?_
    refine xo_refused hR ?_
    exact g_iret rfl dX1_send_21 ⟨_, rfl, hQ _ _ _ _ _ T L _ (by unfold aSend_; rw [if_neg (by omega)]) (hS0.q XE_.rf hlt0 (by decide)) XE_.rf.w⟩
  refine g_al0 dX1_send_8 ?_
  refine g_il2 dX1_send_9 ?_
  refine g_callV1I (d' := 3) lk_X1_168 hR.sh rfl (rm_lt (by decide) (by decide)) (Nat.le_of_ble_eq_true rfl) dX1_send_10 ?_
  refine xo_isBox hX0 hP.rw (by omega) (fun x10 hx10 => ?_)
  unfold isB_ at hx10
  refine g_if_ne (tgt := 22) dX1_send_13 (by decide) (by omega) (fun h13 => ?_) (fun h13 => ?_)
  · refine g_al0 dX1_send_22 ?_
    refine g_il1 dX1_send_23 ?_
    refine g_il2 dX1_send_24 ?_
    refine g_callV2I (d' := 11) lk_X1_334 hR.sh rfl (rm_lt (by decide) (by decide)) (Nat.le_of_ble_eq_true rfl) dX1_send_25 ?_
    obtain rfl : p = 1 := by omega
    obtain ⟨hW, hD⟩ := hP.get rfl
    have hX := hX0.get rfl
    have hn := hW.n
    refine xo_broughtBy hX hW hD hlt (by omega) (by omega) (fun σ1 hF1 => ?_)
    have hb1 := bg_bd hW hD (w := w) (b := b) (by omega) (by omega)
    have hS1 := hS.xs hF1.fx hlt
    have hX := hX.xs hF1.fx hlt
    have hR := hX.R
    have hlt := lt_fr hlt hF1
    refine g_is3 dX1_send_28 (by decide) rfl ?_
    refine g_il3 dX1_send_29 ?_
    refine g_bipush dX1_send_30 (by decide) (by decide) ?_
    refine g_icmp_ne (tgt := 41) dX1_send_32 (by decide) (by omega) (fun h32 => ?_) (fun h32 => ?_)
    · refine g_al0 dX1_send_41 ?_
      refine g_il2 dX1_send_42 ?_
      refine g_callV1I (d' := 8) lk_X1_216 hR.sh rfl (rm_lt (by decide) (by decide)) (Nat.le_of_ble_eq_true rfl) dX1_send_43 ?_
      refine xo_heardNow hX hW hD (by omega) ?_
      refine g_is4 dX1_send_46 (by decide) rfl ?_
      refine g_al0 dX1_send_48 ?_
      refine g_callV0V (d' := 9) lk_X1_425 hR.sh rfl (rm_lt (by decide) (by decide)) (Nat.le_of_ble_eq_true rfl) dX1_send_49 ?_
      refine xo_remembers hS1 hW hu (by have := hF1.2.2; omega) (fun σ4 D4 L4 hS4 hD4 hG4 => ?_)
      have hX := hS4.1.get rfl
      have hR := hX.R
      have hdk := hS4.dsk rfl
      have hDl := hdk.1.1.2.1
      have hlo4 := hS4.2.1
      refine g_lt (fun hlt4 hgz4 => ?_)
      have hK := hdk.1
      have hxd : xD_ (xT_ T D4) = D4 := rfl
      rw [hxd] at hK hdk hDl
      have hGW := (hF1.fx.xw (lo := lo)).tr hG4
      have hhn : 0 ≤ hn_ r s b := by
        have hc : cy_ r s w b := Classical.byContradiction fun q => by
          have e : bg_ r s w b = -2 := if_neg q
          omega
        exact hc.1.2.2.1
      refine g_al0 dX1_send_52 ?_
      refine f_getA 6 fk_X1_111 rfl hR.sh (fun _ _ => rfl) hX.f6 dX1_send_53 ?_
      refine f_getA 0 fk_X1_156 rfl hK.sh (fun _ _ => rfl) hK.f0 dX1_send_56 ?_
      refine g_il1 dX1_send_59 ?_
      refine g_il4 dX1_send_60 ?_
      refine g_iast hK.a0 (show (gH_ G).size ≤ D4 + 1 by omega) (by omega) dX1_send_62 ?_
      refine g_al0 dX1_send_63 ?_
      refine f_getA 6 fk_X1_111 rfl hR.sh (fun _ _ => rfl) hX.f6 dX1_send_64 ?_
      refine f_getA 1 fk_X1_159 rfl hK.sh (fun _ _ => rfl) hK.f1 dX1_send_67 ?_
      refine g_il1 dX1_send_70 ?_
      refine g_il3 dX1_send_71 ?_
      refine g_iast hK.a1 (show (gH_ G).size ≤ D4 + 2 by omega) (by omega) dX1_send_72 ?_
      refine g_al0 dX1_send_73 ?_
      refine f_getA 6 fk_X1_111 rfl hR.sh (fun _ _ => rfl) hX.f6 dX1_send_74 ?_
      refine f_getA 2 fk_X1_187 rfl hK.sh (fun _ _ => rfl) hK.f2 dX1_send_77 ?_
      refine g_il2 dX1_send_80 ?_
      refine g_il3 dX1_send_81 ?_
      refine g_iast hK.a2 (show (gH_ G).size ≤ D4 + 3 by omega) (by omega) dX1_send_82 ?_
      refine g_al0 dX1_send_83 ?_
      refine f_getA 6 fk_X1_111 rfl hR.sh (fun _ _ => rfl) hX.f6 dX1_send_84 ?_
      refine f_getA 3 fk_X1_190 rfl hK.sh (fun _ _ => rfl) hK.f3 dX1_send_87 ?_
      refine g_il2 dX1_send_90 ?_
      refine g_il4 dX1_send_91 ?_
      refine g_iast hK.a3 (show (gH_ G).size ≤ D4 + 4 by omega) (by omega) dX1_send_93 ?_
      refine g_al0 dX1_send_94 ?_
      refine g_il3 dX1_send_95 ?_
      refine g_callV1I (d' := 2) lk_X1_69 hR.sh rfl (rm_lt (by decide) (by decide)) (Nat.le_of_ble_eq_true rfl) dX1_send_96 ?_
      refine xo_well hR ?_
      exact g_iret rfl dX1_send_99 ⟨_, rfl, hQ _ _ _ _ _ _ _ _ (by unfold aSend_; rw [if_pos (by omega), if_neg (by omega)]) ((hS4.dk (((((Fr_.rf (S := fun b _ => xD_ (xT_ T D4) ≤ b ∧ b ≤ xD_ (xT_ T D4) + 5) (σ := σ4)).pi (a := D4 + 1) (k := w) (x := hn_ r s b) (show D4 ≤ D4 + 1 ∧ D4 + 1 ≤ D4 + 5 by omega)).pi (a := D4 + 2) (k := w) (x := bg_ r s w b) (show D4 ≤ D4 + 2 ∧ D4 + 2 ≤ D4 + 5 by omega)).pi (a := D4 + 3) (k := b) (x := bg_ r s w b) (show D4 ≤ D4 + 3 ∧ D4 + 3 ≤ D4 + 5 by omega)).pi (a := D4 + 4) (k := b) (x := hn_ r s b) (show D4 ≤ D4 + 4 ∧ D4 + 4 ≤ D4 + 5 by omega)) hlt4 (hK.send hW (by omega) (by omega) (by omega) hhn)).q XE_.rf (lt_fr hlt4 (((((Fr_.rf (S := fun b _ => xD_ (xT_ T D4) ≤ b ∧ b ≤ xD_ (xT_ T D4) + 5) (σ := σ4)).pi (a := D4 + 1) (k := w) (x := hn_ r s b) (show D4 ≤ D4 + 1 ∧ D4 + 1 ≤ D4 + 5 by omega)).pi (a := D4 + 2) (k := w) (x := bg_ r s w b) (show D4 ≤ D4 + 2 ∧ D4 + 2 ≤ D4 + 5 by omega)).pi (a := D4 + 3) (k := b) (x := bg_ r s w b) (show D4 ≤ D4 + 3 ∧ D4 + 3 ≤ D4 + 5 by omega)).pi (a := D4 + 4) (k := b) (x := hn_ r s b) (show D4 ≤ D4 + 4 ∧ D4 + 4 ≤ D4 + 5 by omega))) (by decide)) ((((hGW.tr (((((((Fr_.rf (S := fun b _ => xD_ (xT_ T D4) ≤ b ∧ b ≤ xD_ (xT_ T D4) + 5) (σ := σ4)).pi (a := D4 + 1) (k := w) (x := hn_ r s b) (show D4 ≤ D4 + 1 ∧ D4 + 1 ≤ D4 + 5 by omega)).pi (a := D4 + 2) (k := w) (x := bg_ r s w b) (show D4 ≤ D4 + 2 ∧ D4 + 2 ≤ D4 + 5 by omega)).pi (a := D4 + 3) (k := b) (x := bg_ r s w b) (show D4 ≤ D4 + 3 ∧ D4 + 3 ≤ D4 + 5 by omega)).pi (a := D4 + 4) (k := b) (x := hn_ r s b) (show D4 ≤ D4 + 4 ∧ D4 + 4 ≤ D4 + 5 by omega)).gw).mono (S' := xw_ X lo) (fun b k _ q => by unfold xw_; omega) (Nat.le_refl _) (Nat.le_refl _))).mono (fun _ _ _ q => q) (by omega) (by omega)).pi (fun _ => Or.inl (by omega))).pi (fun _ => Or.inl (by omega)))⟩
    refine g_al0 dX1_send_35 ?_
    refine g_iconst dX1_send_36 ?_
    refine g_callV1I (d' := 2) lk_X1_65 hR.sh rfl (rm_lt (by decide) (by decide)) (Nat.le_of_ble_eq_true rfl) dX1_send_37 ?_
    refine xo_refused hR ?_
    exact g_iret rfl dX1_send_40 ⟨_, rfl, hQ _ _ _ _ _ T L _ (by unfold aSend_; rw [if_pos (by omega), if_pos (by omega)]) (hS0.q (XE_.fr hF1.fx) hlt0 (by decide)) (XE_.fr hF1.fx).w⟩
  refine g_al0 dX1_send_16 ?_
  refine g_iconst dX1_send_17 ?_
  refine g_callV1I (d' := 2) lk_X1_65 hR.sh rfl (rm_lt (by decide) (by decide)) (Nat.le_of_ble_eq_true rfl) dX1_send_18 ?_
  refine xo_refused hR ?_
  exact g_iret rfl dX1_send_21 ⟨_, rfl, hQ _ _ _ _ _ T L _ (by unfold aSend_; rw [if_neg (by omega)]) (hS0.q XE_.rf hlt0 (by decide)) XE_.rf.w⟩
theorem xo_tune  {b k note : Int} {Q : Int → JH → Prop} (hS : XS_ G X lo σ tp fa pl tr p un im B r s U I T L) (hP : MP_ p r s) (hu : 0 ≤ un ∧ un ≤ 12) (hi2 : 0 ≤ im ∧ im ≤ 3) (hb : -2147483648 ≤ b ∧ b < 2147483648) (hk : -2147483648 ≤ k ∧ k < 2147483648) (hnote : -2147483648 ≤ note ∧ note < 2147483648) (hrm : sz_ σ + 7 ≤ lc_ G ∧ us_ σ + 100 ≤ ls_ G)
    (hQ : ∀ (x t : Int) (un' : Int) (U' : Int → Int → Int) (s' : Int → Int) (T' : XT) (L' : XL) (σ' : JH), aTune_ p r s un U b k note = (x, t, un', U', s') → XS_ G X lo σ' tp fa pl t p un' im B r s' U' I T' L' → Gw_ (xw_ X lo) 7 100 σ σ' → Q x σ') : CallI_ G 10 yX1_tune cX1_tune 4 (some .boolean) [A_ (some X), I_ b, I_ k, I_ note] σ Q := by
  refine call_go [some (A_ (some X)), some (I_ b), some (I_ k), some (I_ note)] (by decide) (Nat.le_of_ble_eq_true rfl) rfl ?_
  refine g_lt (fun hlt hgz => ?_)
  have hX0 := hS.1
  have hR := hX0.1
  have hge := hR.ge
  have hlo := hS.2.1
  have hl := hR.lt hlt
  have hp01 := hP.b
  have hS0 := hS
  have hlt0 := hlt
  refine g_al0 dX1_tune_0 ?_
  refine g_il1 dX1_tune_1 ?_
  refine g_callV1I (d' := 3) lk_X1_168 hR.sh rfl (rm_lt (by decide) (by decide)) (Nat.le_of_ble_eq_true rfl) dX1_tune_2 ?_
  refine xo_isBox hX0 hP.rw (by omega) (fun x2 hx2 => ?_)
  unfold isB_ at hx2
  refine g_if_eq (tgt := 23) dX1_tune_5 (by decide) (by omega) (fun h5 => ?_) (fun h5 => ?_)
  · refine g_al0 dX1_tune_23 ?_
    refine g_iconst dX1_tune_24 ?_
    refine g_callV1I (d' := 3) lk_X1_428 hR.sh rfl (rm_lt (by decide) (by decide)) (Nat.le_of_ble_eq_true rfl) dX1_tune_25 ?_
    refine xo_denied hR ?_
    exact g_zret rfl (by omega) dX1_tune_28 ⟨_, rfl, hQ _ _ _ _ _ T L _ (by unfold aTune_; rw [if_neg (by omega)]) (hS0.q XE_.rf hlt0 (by decide)) XE_.rf.w⟩
  refine g_il2 dX1_tune_8 ?_
  refine g_iconst dX1_tune_9 ?_
  refine g_al0 dX1_tune_10 ?_
  refine g_il1 dX1_tune_11 ?_
  refine g_callV1I (d' := 6) lk_X1_206 hR.sh rfl (rm_lt (by decide) (by decide)) (Nat.le_of_ble_eq_true rfl) dX1_tune_12 ?_
  obtain rfl : p = 1 := by omega
  obtain ⟨hW, hD⟩ := hP.get rfl
  have hX := hX0.get rfl
  have hn := hW.n
  have hbl := bl_in hW (b := b) (by omega) (by omega)
  refine xo_sungNotes hX hW hD (by omega) ?_
  refine g_iconst dX1_tune_15 ?_
  refine g_isub dX1_tune_16 ?_
  refine g_callS3I (d' := 2) lk_X1_79 (rm_lt (by decide) (by decide)) (Nat.le_of_ble_eq_true rfl) dX1_tune_17 ?_
  refine xo_in (by omega) (by omega) (by omega) (fun x17 hx17 => ?_)
  refine g_if_ne (tgt := 29) dX1_tune_20 (by decide) (by omega) (fun h20 => ?_) (fun h20 => ?_)
  · refine g_il3 dX1_tune_29 ?_
    refine g_iconst dX1_tune_30 ?_
    refine g_al0 dX1_tune_31 ?_
    refine f_getA 5 fk_X1_104 rfl hR.sh (fun _ _ => rfl) hX.f5 dX1_tune_32 ?_
    refine f_getv 0 fk_X1_259 rfl hX.P.sh (fun _ _ => rfl) hX.P.n0 dX1_tune_35 ?_
    refine g_iconst dX1_tune_38 ?_
    refine g_isub dX1_tune_39 ?_
    refine g_callS3I (d' := 2) lk_X1_79 (rm_lt (by decide) (by decide)) (Nat.le_of_ble_eq_true rfl) dX1_tune_40 ?_
    refine xo_in (by omega) (by omega) (by omega) (fun x40 hx40 => ?_)
    refine g_if_ne (tgt := 52) dX1_tune_43 (by decide) (by omega) (fun h43 => ?_) (fun h43 => ?_)
    · refine g_al0 dX1_tune_52 ?_
      refine f_getA 6 fk_X1_111 rfl hR.sh (fun _ _ => rfl) hX.f6 dX1_tune_53 ?_
      refine f_getA 2 fk_X1_187 rfl hX.K.sh (fun _ _ => rfl) hX.K.f2 dX1_tune_56 ?_
      refine g_il1 dX1_tune_59 ?_
      have hdb := hD.box (b := b) (by omega) (by omega)
      have hun : un_ (s (12 + b)) = -2 ∧ s (12 + b) = 0 ∨ un_ (s (12 + b)) = s (12 + b) - 1 ∧ s (12 + b) ≠ 0 := by (unfold un_; split <;> omega)
      refine g_ialv hX.K.a2 (by omega) (hX.K.bx (b := b) (by omega) (by omega)).1 dX1_tune_60 ?_
      refine g_bipush dX1_tune_61 (by decide) (by decide) ?_
      refine g_icmp_ne (tgt := 84) dX1_tune_63 (by decide) (by omega) (fun h63 => ?_) (fun h63 => ?_)
      · refine g_al0 dX1_tune_84 ?_
        refine g_iconst dX1_tune_85 ?_
        refine g_callV1I (d' := 3) lk_X1_428 hR.sh rfl (rm_lt (by decide) (by decide)) (Nat.le_of_ble_eq_true rfl) dX1_tune_86 ?_
        refine xo_denied hR ?_
        exact g_zret rfl (by omega) dX1_tune_89 ⟨_, rfl, hQ _ _ _ _ _ T L _ (by unfold aTune_; rw [if_pos (by omega), if_pos (by omega), if_pos (by omega)]) (hS0.q XE_.rf hlt0 (by decide)) XE_.rf.w⟩
      refine g_al0 dX1_tune_66 ?_
      refine f_getA 6 fk_X1_111 rfl hR.sh (fun _ _ => rfl) hX.f6 dX1_tune_67 ?_
      refine f_getA 4 fk_X1_209 rfl hX.K.sh (fun _ _ => rfl) hX.K.f4 dX1_tune_70 ?_
      refine g_bipush dX1_tune_73 (by decide) (by decide) ?_
      refine g_il1 dX1_tune_75 ?_
      refine g_imul dX1_tune_76 ?_
      refine g_il2 dX1_tune_77 ?_
      refine g_iadd dX1_tune_78 ?_
      have hsu := hD.sung (j := 6 * b + k) (by omega) (by omega)
      rw [show 28 + (6 * b + k) = 28 + 6 * b + k by omega] at hsu
      refine g_ialv hX.K.a4 (by omega) (hX.K.sg (b := b) (k := k) (by omega) (by omega) (by omega) (by omega)) dX1_tune_79 ?_
      refine g_il3 dX1_tune_80 ?_
      refine g_icmp_ne (tgt := 90) dX1_tune_81 (by decide) (by omega) (fun h81 => ?_) (fun h81 => ?_)
      · refine g_al0 dX1_tune_90 ?_
        refine g_callV0V (d' := 9) lk_X1_425 hR.sh rfl (rm_lt (by decide) (by decide)) (Nat.le_of_ble_eq_true rfl) dX1_tune_91 ?_
        refine xo_remembers hS hW hu (by omega) (fun σ4 D4 L4 hS4 hD4 hG4 => ?_)
        have hX := hS4.1.get rfl
        have hR := hX.R
        have hdk := hS4.dsk rfl
        have hDl := hdk.1.1.2.1
        have hlo4 := hS4.2.1
        refine g_lt (fun hlt4 hgz4 => ?_)
        have hK := hdk.1
        have hxd : xD_ (xT_ T D4) = D4 := rfl
        rw [hxd] at hK hdk hDl
        have hGW := hG4
        refine g_al0 dX1_tune_94 ?_
        refine f_getA 6 fk_X1_111 rfl hR.sh (fun _ _ => rfl) hX.f6 dX1_tune_95 ?_
        refine f_getA 4 fk_X1_209 rfl hK.sh (fun _ _ => rfl) hK.f4 dX1_tune_98 ?_
        refine g_bipush dX1_tune_101 (by decide) (by decide) ?_
        refine g_il1 dX1_tune_103 ?_
        refine g_imul dX1_tune_104 ?_
        refine g_il2 dX1_tune_105 ?_
        refine g_iadd dX1_tune_106 ?_
        refine g_il3 dX1_tune_107 ?_
        refine g_iast hK.a4 (show (gH_ G).size ≤ D4 + 5 by omega) (by omega) dX1_tune_108 ?_
        refine g_al0 dX1_tune_109 ?_
        refine g_callV0I (d' := 3) lk_X1_431 hR.sh rfl (rm_lt (by decide) (by decide)) (Nat.le_of_ble_eq_true rfl) dX1_tune_110 ?_
        refine xo_granted hR ?_
        exact g_zret rfl (by omega) dX1_tune_113 ⟨_, rfl, hQ _ _ _ _ _ _ _ _ (by unfold aTune_; rw [if_pos (by omega), if_pos (by omega), if_neg (by omega)]) ((hS4.dk ((Fr_.rf (S := fun b _ => xD_ (xT_ T D4) ≤ b ∧ b ≤ xD_ (xT_ T D4) + 5) (σ := σ4)).pi (a := D4 + 5) (k := 6 * b + k) (x := note) (show D4 ≤ D4 + 5 ∧ D4 + 5 ≤ D4 + 5 by omega)) hlt4 (hK.tune hW (by omega) (by omega))).q XE_.rf (lt_fr hlt4 ((Fr_.rf (S := fun b _ => xD_ (xT_ T D4) ≤ b ∧ b ≤ xD_ (xT_ T D4) + 5) (σ := σ4)).pi (a := D4 + 5) (k := 6 * b + k) (x := note) (show D4 ≤ D4 + 5 ∧ D4 + 5 ≤ D4 + 5 by omega))) (by decide)) ((((hGW.tr ((((Fr_.rf (S := fun b _ => xD_ (xT_ T D4) ≤ b ∧ b ≤ xD_ (xT_ T D4) + 5) (σ := σ4)).pi (a := D4 + 5) (k := 6 * b + k) (x := note) (show D4 ≤ D4 + 5 ∧ D4 + 5 ≤ D4 + 5 by omega)).gw).mono (S' := xw_ X lo) (fun b k _ q => by unfold xw_; omega) (Nat.le_refl _) (Nat.le_refl _))).mono (fun _ _ _ q => q) (by omega) (by omega)).pi (fun _ => Or.inl (by omega))).pi (fun _ => Or.inl (by omega)))⟩
      refine g_al0 dX1_tune_84 ?_
      refine g_iconst dX1_tune_85 ?_
      refine g_callV1I (d' := 3) lk_X1_428 hR.sh rfl (rm_lt (by decide) (by decide)) (Nat.le_of_ble_eq_true rfl) dX1_tune_86 ?_
      refine xo_denied hR ?_
      exact g_zret rfl (by omega) dX1_tune_89 ⟨_, rfl, hQ _ _ _ _ _ T L _ (by unfold aTune_; rw [if_pos (by omega), if_pos (by omega), if_pos (by omega)]) (hS0.q XE_.rf hlt0 (by decide)) XE_.rf.w⟩
    refine g_al0 dX1_tune_46 ?_
    refine g_iconst dX1_tune_47 ?_
    refine g_callV1I (d' := 3) lk_X1_428 hR.sh rfl (rm_lt (by decide) (by decide)) (Nat.le_of_ble_eq_true rfl) dX1_tune_48 ?_
    refine xo_denied hR ?_
    exact g_zret rfl (by omega) dX1_tune_51 ⟨_, rfl, hQ _ _ _ _ _ T L _ (by unfold aTune_; rw [if_pos (by omega), if_neg (by omega)]) (hS0.q XE_.rf hlt0 (by decide)) XE_.rf.w⟩
  refine g_al0 dX1_tune_23 ?_
  refine g_iconst dX1_tune_24 ?_
  refine g_callV1I (d' := 3) lk_X1_428 hR.sh rfl (rm_lt (by decide) (by decide)) (Nat.le_of_ble_eq_true rfl) dX1_tune_25 ?_
  refine xo_denied hR ?_
  exact g_zret rfl (by omega) dX1_tune_28 ⟨_, rfl, hQ _ _ _ _ _ T L _ (by unfold aTune_; rw [if_neg (by omega)]) (hS0.q XE_.rf hlt0 (by decide)) XE_.rf.w⟩
theorem xo_years  {n : Int} {Q : Int → JH → Prop} (hS : XS_ G X lo σ tp fa pl tr p un im B r s U I T L) (hP : MP_ p r s) (hu : 0 ≤ un ∧ un ≤ 12) (hi2 : 0 ≤ im ∧ im ≤ 3) (hn : -2147483648 ≤ n ∧ n < 2147483648) (hrm : sz_ σ + 7 ≤ lc_ G ∧ us_ σ + 100 ≤ ls_ G)
    (hQ : ∀ (x t : Int) (un' : Int) (U' : Int → Int → Int) (s' : Int → Int) (T' : XT) (L' : XL) (σ' : JH), aYears_ p s un U n = (x, t, un', U', s') → XS_ G X lo σ' tp fa pl t p un' im B r s' U' I T' L' → Gw_ (xw_ X lo) 7 100 σ σ' → Q x σ') : CallI_ G 10 yX1_years cX1_years 2 (some .int) [A_ (some X), I_ n] σ Q := by
  refine call_go [some (A_ (some X)), some (I_ n)] (by decide) (Nat.le_of_ble_eq_true rfl) rfl ?_
  refine g_lt (fun hlt hgz => ?_)
  have hX0 := hS.1
  have hR := hX0.1
  have hge := hR.ge
  have hlo := hS.2.1
  have hl := hR.lt hlt
  have hp01 := hP.b
  have hS0 := hS
  have hlt0 := hlt
  rcases hX0.2 with q | q
  · have hp0 : p = 0 := q.1
    refine g_al0 dX1_years_0 ?_
    refine f_getA 5 fk_X1_104 rfl hR.sh (fun _ _ => rfl) q.2 dX1_years_1 ?_
    refine g_ifnonnull (tgt := 13) dX1_years_4 (by decide) (fun _ h4 => ?_) (fun h4 => ?_)
    · cases h4
    refine g_al0 dX1_years_7 ?_
    refine g_iconst dX1_years_8 ?_
    refine g_callV1I (d' := 2) lk_X1_65 hR.sh rfl (rm_lt (by decide) (by decide)) (Nat.le_of_ble_eq_true rfl) dX1_years_9 ?_
    refine xo_refused hR ?_
    exact g_iret rfl dX1_years_12 ⟨_, rfl, hQ _ _ _ _ _ T L _ (by unfold aYears_; rw [if_neg (by omega)]) (hS0.q XE_.rf hlt0 (by decide)) XE_.rf.w⟩
  · have hp1 : p = 1 := q.1
    have hX := q.2
    obtain ⟨hW, hD⟩ := hP.get hp1
    have hn := hW.n
    refine g_al0 dX1_years_0 ?_
    refine f_getA 5 fk_X1_104 rfl hR.sh (fun _ _ => rfl) hX.f5 dX1_years_1 ?_
    refine g_ifnonnull (tgt := 13) dX1_years_4 (by decide) (fun _ h4 => ?_) (fun h4 => ?_)
    · refine g_il1 dX1_years_13 ?_
      refine g_iconst dX1_years_14 ?_
      refine g_bipush dX1_years_15 (by decide) (by decide) ?_
      refine g_callS3I (d' := 2) lk_X1_79 (rm_lt (by decide) (by decide)) (Nat.le_of_ble_eq_true rfl) dX1_years_17 ?_
      refine xo_in (by omega) (by omega) (by omega) (fun x17 hx17 => ?_)
      refine g_if_ne (tgt := 29) dX1_years_20 (by decide) (by omega) (fun h20 => ?_) (fun h20 => ?_)
      · refine g_al0 dX1_years_29 ?_
        refine f_getA 6 fk_X1_111 rfl hR.sh (fun _ _ => rfl) hX.f6 dX1_years_30 ?_
        refine f_getv 5 fk_X1_199 rfl hX.K.sh (fun _ _ => rfl) hX.K.y dX1_years_33 ?_
        refine g_il1 dX1_years_36 ?_
        refine g_iadd dX1_years_37 ?_
        refine g_sipush dX1_years_38 (by decide) (by decide) ?_
        have hd0 := hD.n
        refine g_icmp_le (tgt := 50) dX1_years_41 (by decide) (by omega) (fun h41 => ?_) (fun h41 => ?_)
        · refine g_al0 dX1_years_50 ?_
          refine g_callV0V (d' := 9) lk_X1_425 hR.sh rfl (rm_lt (by decide) (by decide)) (Nat.le_of_ble_eq_true rfl) dX1_years_51 ?_
          obtain rfl : p = 1 := by omega
          refine xo_remembers hS hW hu (by omega) (fun σ4 D4 L4 hS4 hD4 hG4 => ?_)
          have hX := hS4.1.get rfl
          have hR := hX.R
          have hdk := hS4.dsk rfl
          have hDl := hdk.1.1.2.1
          have hlo4 := hS4.2.1
          refine g_lt (fun hlt4 hgz4 => ?_)
          have hK := hdk.1
          have hxd : xD_ (xT_ T D4) = D4 := rfl
          rw [hxd] at hK hdk hDl
          have hGW := hG4
          refine g_al0 dX1_years_54 ?_
          refine f_getA 6 fk_X1_111 rfl hR.sh (fun _ _ => rfl) hX.f6 dX1_years_55 ?_
          refine g_dup dX1_years_58 rfl ?_
          refine f_getv 5 fk_X1_199 rfl hK.sh (fun _ _ => rfl) hK.y dX1_years_59 ?_
          refine g_il1 dX1_years_62 ?_
          refine g_iadd dX1_years_63 ?_
          refine f_putI 5 fk_X1_199 rfl (nf_ rfl rfl) hK.sh (show (gH_ G).size ≤ D4 by omega) rfl dX1_years_64 ?_
          refine g_al0 dX1_years_67 ?_
          refine g_al0 dX1_years_68 ?_
          refine f_getA 6 fk_X1_111 rfl hR.sh (fun _ _ => rfl) hX.f6 dX1_years_69 ?_
          refine f_getv 5 fk_X1_199 rfl hK.sh (fun _ _ => rfl) (show iv_ (pi_ σ4 D4 5 (s 0 + n)) D4 5 = s 0 + n by rw [iv_pi, if_pos ⟨rfl, rfl⟩]) dX1_years_72 ?_
          refine g_callV1I (d' := 2) lk_X1_69 hR.sh rfl (rm_lt (by decide) (by decide)) (Nat.le_of_ble_eq_true rfl) dX1_years_75 ?_
          refine xo_well hR ?_
          exact g_iret rfl dX1_years_78 ⟨_, rfl, hQ _ _ _ _ _ _ _ _ (by unfold aYears_; rw [if_pos (by omega), if_pos (by omega), if_neg (by omega)]) ((hS4.dk ((Fr_.rf (S := fun b _ => xD_ (xT_ T D4) ≤ b ∧ b ≤ xD_ (xT_ T D4) + 5) (σ := σ4)).pi (a := D4) (k := 5) (x := s 0 + n) (show D4 ≤ D4 ∧ D4 ≤ D4 + 5 by omega)) hlt4 (hK.year hW)).q XE_.rf (lt_fr hlt4 ((Fr_.rf (S := fun b _ => xD_ (xT_ T D4) ≤ b ∧ b ≤ xD_ (xT_ T D4) + 5) (σ := σ4)).pi (a := D4) (k := 5) (x := s 0 + n) (show D4 ≤ D4 ∧ D4 ≤ D4 + 5 by omega))) (by decide)) ((((hGW.tr ((((Fr_.rf (S := fun b _ => xD_ (xT_ T D4) ≤ b ∧ b ≤ xD_ (xT_ T D4) + 5) (σ := σ4)).pi (a := D4) (k := 5) (x := s 0 + n) (show D4 ≤ D4 ∧ D4 ≤ D4 + 5 by omega)).gw).mono (S' := xw_ X lo) (fun b k _ q => by unfold xw_; omega) (Nat.le_refl _) (Nat.le_refl _))).mono (fun _ _ _ q => q) (by omega) (by omega)).pi (fun _ => Or.inl (by omega))).pi (fun _ => Or.inl (by omega)))⟩
        refine g_al0 dX1_years_44 ?_
        refine g_iconst dX1_years_45 ?_
        refine g_callV1I (d' := 2) lk_X1_65 hR.sh rfl (rm_lt (by decide) (by decide)) (Nat.le_of_ble_eq_true rfl) dX1_years_46 ?_
        refine xo_refused hR ?_
        exact g_iret rfl dX1_years_49 ⟨_, rfl, hQ _ _ _ _ _ T L _ (by unfold aYears_; rw [if_pos (by omega), if_pos (by omega), if_pos (by omega)]) (hS0.q XE_.rf hlt0 (by decide)) XE_.rf.w⟩
      refine g_al0 dX1_years_23 ?_
      refine g_iconst dX1_years_24 ?_
      refine g_callV1I (d' := 2) lk_X1_65 hR.sh rfl (rm_lt (by decide) (by decide)) (Nat.le_of_ble_eq_true rfl) dX1_years_25 ?_
      refine xo_refused hR ?_
      exact g_iret rfl dX1_years_28 ⟨_, rfl, hQ _ _ _ _ _ T L _ (by unfold aYears_; rw [if_pos (by omega), if_neg (by omega)]) (hS0.q XE_.rf hlt0 (by decide)) XE_.rf.w⟩
    cases h4
theorem xo_close  {k is : Int} {Q : Int → JH → Prop} (hS : XS_ G X lo σ tp fa pl tr p un im B r s U I T L) (hP : MP_ p r s) (hu : 0 ≤ un ∧ un ≤ 12) (hi2 : 0 ≤ im ∧ im ≤ 3) (hk : -2147483648 ≤ k ∧ k < 2147483648) (his : -2147483648 ≤ is ∧ is < 2147483648) (hrm : sz_ σ + 7 ≤ lc_ G ∧ us_ σ + 100 ≤ ls_ G) (his : is = 0 ∨ is = 1)
    (hQ : ∀ (x t : Int) (un' : Int) (U' : Int → Int → Int) (s' : Int → Int) (T' : XT) (L' : XL) (σ' : JH), aClose_ p r s un U k is = (x, t, un', U', s') → XS_ G X lo σ' tp fa pl t p un' im B r s' U' I T' L' → Gw_ (xw_ X lo) 7 100 σ σ' → Q x σ') : CallI_ G 10 yX1_close cX1_close 3 (some .boolean) [A_ (some X), I_ k, I_ is] σ Q := by
  refine call_go [some (A_ (some X)), some (I_ k), some (I_ is)] (by decide) (Nat.le_of_ble_eq_true rfl) rfl ?_
  refine g_lt (fun hlt hgz => ?_)
  have hX0 := hS.1
  have hR := hX0.1
  have hge := hR.ge
  have hlo := hS.2.1
  have hl := hR.lt hlt
  have hp01 := hP.b
  have hS0 := hS
  have hlt0 := hlt
  refine g_al0 dX1_close_0 ?_
  refine g_il1 dX1_close_1 ?_
  refine g_callV1I (d' := 3) lk_X1_240 hR.sh rfl (rm_lt (by decide) (by decide)) (Nat.le_of_ble_eq_true rfl) dX1_close_2 ?_
  refine xo_isWay hX0 hP.rw (by omega) (fun x2 hx2 => ?_)
  unfold isY_ at hx2
  refine g_if_ne (tgt := 14) dX1_close_5 (by decide) (by omega) (fun h5 => ?_) (fun h5 => ?_)
  · refine g_al0 dX1_close_14 ?_
    refine g_il1 dX1_close_15 ?_
    refine g_callV1I (d' := 3) lk_X1_234 hR.sh rfl (rm_lt (by decide) (by decide)) (Nat.le_of_ble_eq_true rfl) dX1_close_16 ?_
    obtain rfl : p = 1 := by omega
    obtain ⟨hW, hD⟩ := hP.get rfl
    have hX := hX0.get rfl
    have hn := hW.n
    refine xo_isClosed hX hW hD (fun x16 hx16 => ?_)
    refine g_il2 dX1_close_19 ?_
    refine g_icmp_ne (tgt := 29) dX1_close_20 (by decide) (by omega) (fun h20 => ?_) (fun h20 => ?_)
    · refine g_al0 dX1_close_29 ?_
      refine g_callV0V (d' := 9) lk_X1_425 hR.sh rfl (rm_lt (by decide) (by decide)) (Nat.le_of_ble_eq_true rfl) dX1_close_30 ?_
      refine xo_remembers hS hW hu (by omega) (fun σ4 D4 L4 hS4 hD4 hG4 => ?_)
      have hX := hS4.1.get rfl
      have hR := hX.R
      have hdk := hS4.dsk rfl
      have hDl := hdk.1.1.2.1
      have hlo4 := hS4.2.1
      refine g_lt (fun hlt4 hgz4 => ?_)
      have hK := hdk.1
      have hxd : xD_ (xT_ T D4) = D4 := rfl
      rw [hxd] at hK hdk hDl
      have hGW := hG4
      refine g_al0 dX1_close_33 ?_
      refine f_getA 6 fk_X1_111 rfl hR.sh (fun _ _ => rfl) hX.f6 dX1_close_34 ?_
      refine g_dup dX1_close_37 rfl ?_
      refine f_getv 6 fk_X1_219 rfl hK.sh (fun _ _ => rfl) hK.c dX1_close_38 ?_
      refine g_iconst dX1_close_41 ?_
      refine g_il1 dX1_close_42 ?_
      refine g_ishl dX1_close_43 ?_
      refine g_ixor dX1_close_44 ?_
      refine f_putI 6 fk_X1_219 rfl (nf_ rfl rfl) hK.sh (show (gH_ G).size ≤ D4 by omega) rfl dX1_close_45 ?_
      refine g_al0 dX1_close_48 ?_
      refine g_callV0I (d' := 3) lk_X1_431 hR.sh rfl (rm_lt (by decide) (by decide)) (Nat.le_of_ble_eq_true rfl) dX1_close_49 ?_
      refine xo_granted hR ?_
      exact g_zret rfl (by omega) dX1_close_52 ⟨_, rfl, hQ _ _ _ _ _ _ _ _ (by unfold aClose_; rw [if_pos (by omega), if_neg (by omega)]) ((hS4.dk ((Fr_.rf (S := fun b _ => xD_ (xT_ T D4) ≤ b ∧ b ≤ xD_ (xT_ T D4) + 5) (σ := σ4)).pi (a := D4) (k := 6) (x := ixor_ (s 1) (ishl_ 1 k)) (show D4 ≤ D4 ∧ D4 ≤ D4 + 5 by omega)) hlt4 (hK.clos hW)).q XE_.rf (lt_fr hlt4 ((Fr_.rf (S := fun b _ => xD_ (xT_ T D4) ≤ b ∧ b ≤ xD_ (xT_ T D4) + 5) (σ := σ4)).pi (a := D4) (k := 6) (x := ixor_ (s 1) (ishl_ 1 k)) (show D4 ≤ D4 ∧ D4 ≤ D4 + 5 by omega))) (by decide)) ((((hGW.tr ((((Fr_.rf (S := fun b _ => xD_ (xT_ T D4) ≤ b ∧ b ≤ xD_ (xT_ T D4) + 5) (σ := σ4)).pi (a := D4) (k := 6) (x := ixor_ (s 1) (ishl_ 1 k)) (show D4 ≤ D4 ∧ D4 ≤ D4 + 5 by omega)).gw).mono (S' := xw_ X lo) (fun b k _ q => by unfold xw_; omega) (Nat.le_refl _) (Nat.le_refl _))).mono (fun _ _ _ q => q) (by omega) (by omega)).pi (fun _ => Or.inl (by omega))).pi (fun _ => Or.inl (by omega)))⟩
    refine g_al0 dX1_close_23 ?_
    refine g_iconst dX1_close_24 ?_
    refine g_callV1I (d' := 3) lk_X1_428 hR.sh rfl (rm_lt (by decide) (by decide)) (Nat.le_of_ble_eq_true rfl) dX1_close_25 ?_
    refine xo_denied hR ?_
    exact g_zret rfl (by omega) dX1_close_28 ⟨_, rfl, hQ _ _ _ _ _ T L _ (by unfold aClose_; rw [if_pos (by omega), if_pos (by omega)]) (hS0.q XE_.rf hlt0 (by decide)) XE_.rf.w⟩
  refine g_al0 dX1_close_8 ?_
  refine g_iconst dX1_close_9 ?_
  refine g_callV1I (d' := 3) lk_X1_428 hR.sh rfl (rm_lt (by decide) (by decide)) (Nat.le_of_ble_eq_true rfl) dX1_close_10 ?_
  refine xo_denied hR ?_
  exact g_zret rfl (by omega) dX1_close_13 ⟨_, rfl, hQ _ _ _ _ _ T L _ (by unfold aClose_; rw [if_neg (by omega)]) (hS0.q XE_.rf hlt0 (by decide)) XE_.rf.w⟩
end
