/-! THE COMPONENT: who brings which. Written by mod/m87.py -/
set_option maxRecDepth 100000
/-- what matching writes -/
def xmt_ (X : Nat) (b : Nat) (_ : Int) : Prop := X + 6 ≤ b ∧ b ≤ X + 10
section
variable {G : JG} {X : Nat} {σ : JH} {T : XT} {r s : Int → Int}
theorem Fr_.mx {σ σ' : JH} (h : Fr_ (xmt_ X) σ σ') : Fr_ (xs_ X) σ σ' := h.mono (fun b k q => by unfold xmt_ at q; unfold xs_; omega)
theorem Fr_.fm {σ σ' : JH} (h : Fr_ (xfd_ X) σ σ') : Fr_ (xmt_ X) σ σ' := h.mono (fun b k q => by unfold xfd_ at q; unfold xmt_; omega)
/-- the table from box b on; of box b the sets below u -/
def MT_ (X : Nat) (σ : JH) (r s : Int → Int) (b u : Int) : Prop := ∀ c v, 0 ≤ v → v < 32 → c ≤ r 7 → (b < c ∨ (c = b ∧ v < u)) → iv_ σ (X + 8) (32 * c + v) = wv_ (mW_ r s c v) ∧ (c < r 7 → iv_ σ (X + 9) (32 * c + v) = (mW_ r s c v).2.2)
theorem MT_.fr {S : Nat → Int → Prop} {σ' : JH} {b u : Int} (h : MT_ X σ r s b u) (f : Fr_ S σ σ') (h8 : ∀ k, ¬ S (X + 8) k) (h9 : ∀ k, ¬ S (X + 9) k) : MT_ X σ' r s b u := fun c v v0 v1 c1 q => by
  rw [f.2.2.2.2 _ _ (h8 _), f.2.2.2.2 _ _ (h9 _)]
  exact h c v v0 v1 c1 q
theorem MT_.last {u : Int} (h : MT_ X σ r s (r 7) u) (hu : 0 ≤ u ∧ u < 32) : MT_ X (pi_ σ (X + 8) (32 * r 7 + u) 0) r s (r 7) (u + 1) := fun c v v0 v1 c1 q => by
  have ec : c = r 7 := by omega
  subst ec
  refine ⟨?_, fun w => absurd w (by omega)⟩
  rw [iv_pi, mW_0]
  by_cases e : v = u
  · rw [if_pos ⟨rfl, by omega⟩]; rfl
  · rw [if_neg (by omega)]
    have := (h (r 7) v v0 v1 (by omega) (Or.inr ⟨rfl, by omega⟩)).1
    rw [mW_0] at this
    exact this
theorem MT_.next {b u : Int} (h : MT_ X σ r s b u) (hu : 32 ≤ u) : MT_ X σ r s (b - 1) 0 := fun c v v0 v1 c1 q => h c v v0 v1 c1 (by omega)
theorem MT_.step {b u : Int} (h : MT_ X σ r s b u) (hu : 0 ≤ u ∧ u < 32) (hb : 0 ≤ b ∧ b < r 7) : MT_ X (pi_ (pi_ σ (X + 8) (32 * b + u) (wv_ (mW_ r s b u))) (X + 9) (32 * b + u) (mW_ r s b u).2.2) r s b (u + 1) := fun c v v0 v1 c1 q => by
  by_cases e : c = b ∧ v = u
  · obtain ⟨e1, e2⟩ := e
    subst e1 e2
    refine ⟨?_, fun _ => ?_⟩
    · rw [iv_pi, if_neg (by omega), iv_pi, if_pos ⟨rfl, rfl⟩]
    · rw [iv_pi, if_pos ⟨rfl, rfl⟩]
  · have := h c v v0 v1 c1 (by omega)
    rw [iv_pi, if_neg (by omega), iv_pi, if_neg (by omega), iv_pi, if_neg (by omega), iv_pi, if_neg (by omega)]
    exact this
theorem xo_laysBrought  {b : Int} {Q : JH → Prop} (hX : XD_ G X σ T r s) (hW : RW_ r) (hD : DW_ r s) (hlt : ∀ a s, sh_ σ a = some s → a < sz_ σ) (hb : 0 ≤ b ∧ b < r 7)
    (hQ : ∀ σ', Fr_ (fun b k => xfd_ X b k ∨ b = X + 10) σ σ' → (∀ j, 0 ≤ j → j < 5 → iv_ σ' (X + 10) j = bW_ r s b j) → Q σ') : CallV_ G 12 yX1_laysBrought cX1_laysBrought 3 none [A_ (some X), I_ b] σ Q := by
  refine call_go [some (A_ (some X)), some (I_ b), none] (by decide) (Nat.le_of_ble_eq_true rfl) rfl ?_
  have hR := hX.R
  have hn := hW.n
  have L2 : ∀ (fu : Nat) (σ' : JH) (w : Int), 5 - w < (fu : Int) → (Fr_ (fun b k => xfd_ X b k ∨ b = X + 10) σ σ') → (0 ≤ w) → (w ≤ 5) → (∀ j, 0 ≤ j → j < w → iv_ σ' (X + 10) j = bW_ r s b j) → GoM_ G 12 yX1_laysBrought cX1_laysBrought 3 none σ (fun v σ' => v = none ∧ Q σ') 2 [some (A_ (some X)), some (I_ b), some (I_ w)] [] σ' := by
    intro fu
    induction fu with
    | zero => intro σ' w hn hF h0 h1 hv; exact absurd hn (by omega)
    | succ fu ih =>
      intro σ' w hn hF h0 h1 hv
      have hX := hX.xs (hF.mono (fun b k q => by unfold xfd_ at q; unfold xs_; omega)) hlt
      have hR := hX.R
      have hlt := lt_fr hlt hF
      refine g_il2 dX1_laysBrought_2 ?_
      refine g_iconst dX1_laysBrought_3 ?_
      refine g_icmp_ge (tgt := 44) dX1_laysBrought_4 (by decide) (by omega) (fun h4 => ?_) (fun h4 => ?_)
      · exact g_vret rfl dX1_laysBrought_44 ⟨rfl, hQ _ hF (fun j j0 j1 => hv j j0 (by omega))⟩
      refine g_al0 dX1_laysBrought_7 ?_
      refine f_getA 15 fk_X1_47 rfl hR.sh (fun _ _ => rfl) hR.f15 dX1_laysBrought_8 ?_
      refine g_il2 dX1_laysBrought_11 ?_
      refine g_il2 dX1_laysBrought_12 ?_
      refine g_al0 dX1_laysBrought_13 ?_
      refine f_getA 5 fk_X1_104 rfl hR.sh (fun _ _ => rfl) hX.f5 dX1_laysBrought_14 ?_
      refine f_getA 6 fk_X1_131 rfl hX.P.sh (fun _ _ => rfl) hX.P.f6 dX1_laysBrought_17 ?_
      refine g_callV0I (d' := 2) lk_X1_127 hX.P.l2.1 rfl (rm_lt (by decide) (by decide)) (Nat.le_of_ble_eq_true rfl) dX1_laysBrought_20 ?_
      refine js_size hX.P.l2 ?_
      refine g_icmp_ge (tgt := 35) dX1_laysBrought_23 (by decide) (by omega) (fun h23 => ?_) (fun h23 => ?_)
      · refine g_bipush dX1_laysBrought_35 (by decide) (by decide) ?_
        refine g_iast hR.a15 hR.g15 (by omega) dX1_laysBrought_37 ?_
        refine g_inc2 dX1_laysBrought_38 (by decide) rfl ?_
        refine g_goto (tgt := 2) dX1_laysBrought_41 (by decide) ?_
        refine ih _ _ (by omega) (hF.pi (Or.inr rfl)) (by omega) (by omega) (fun j j0 j1 => ?_)
        rw [iv_pi]
        by_cases hj : j = w
        · subst hj; rw [if_pos ⟨rfl, rfl⟩]; exact (if_neg (by omega)).symm
        · rw [if_neg (by omega)]; exact hv j j0 (by omega)
      refine g_al0 dX1_laysBrought_26 ?_
      refine g_il2 dX1_laysBrought_27 ?_
      refine g_il1 dX1_laysBrought_28 ?_
      refine g_callV2I (d' := 11) lk_X1_334 hR.sh rfl (rm_lt (by decide) (by decide)) (Nat.le_of_ble_eq_true rfl) dX1_laysBrought_29 ?_
      refine xo_broughtBy hX hW hD hlt (by omega) (by omega) (fun σ3 hF3 => ?_)
      have hX := hX.xs hF3.fx hlt
      have hR := hX.R
      have hlt := lt_fr hlt hF3
      have hb3 := bg_bd hW hD (w := w) (b := b) (by omega) (by omega)
      have hF := hF.tr (hF3.mono (fun b k q => Or.inl q))
      have hv : ∀ j, 0 ≤ j → j < w → iv_ σ3 (X + 10) j = bW_ r s b j := fun j j0 j1 => (hF3.2.2.2.2 _ _ (by unfold xfd_; omega)).trans (hv j j0 j1)
      refine g_goto (tgt := 37) dX1_laysBrought_32 (by decide) ?_
      refine g_iast hR.a15 hR.g15 (by omega) dX1_laysBrought_37 ?_
      refine g_inc2 dX1_laysBrought_38 (by decide) rfl ?_
      refine g_goto (tgt := 2) dX1_laysBrought_41 (by decide) ?_
      refine ih _ _ (by omega) (hF.pi (Or.inr rfl)) (by omega) (by omega) (fun j j0 j1 => ?_)
      rw [iv_pi]
      by_cases hj : j = w
      · subst hj; rw [if_pos ⟨rfl, rfl⟩]; exact (if_pos ⟨h0, by omega⟩).symm
      · rw [if_neg (by omega)]; exact hv j j0 (by omega)
  refine g_iconst dX1_laysBrought_0 ?_
  refine g_is2 dX1_laysBrought_1 (by decide) rfl ?_
  exact L2 6 _ _ (by omega) Fr_.rf (by omega) (by omega) (fun j j0 j1 => by omega)
theorem mf_bet {B : Int → Int} {F : Int → Int × Int × Int} {u w : Int} {a : Int × Int × Int} (h : ¬ (hb_ u w ∨ B w < 0)) (hb : mb_ ((F (ior_ u (ishl_ 1 w))).1 + 1) ((F (ior_ u (ishl_ 1 w))).2.1 + B w) a.1 a.2.1) : mf_ B F u w a = ((F (ior_ u (ishl_ 1 w))).1 + 1, (F (ior_ u (ishl_ 1 w))).2.1 + B w, w) := by
  unfold mf_; rw [if_neg h, if_pos hb]
theorem mf_not {B : Int → Int} {F : Int → Int × Int × Int} {u w : Int} {a : Int × Int × Int} (hb : ¬ mb_ ((F (ior_ u (ishl_ 1 w))).1 + 1) ((F (ior_ u (ishl_ 1 w))).2.1 + B w) a.1 a.2.1) : mf_ B F u w a = a := by
  unfold mf_; rw [if_neg hb, ite_self]
theorem wv_3 {m1 s1 w x : Int} (h : 0 ≤ m1) (e : x = 10000000 * m1 - s1) : wv_ (m1, s1, w) = x := by rw [e]; exact if_neg (by show ¬ m1 < 0; omega)
theorem xo_matchesBox {B : Int → Int} {F : Int → Int × Int × Int} {b u : Int} {Q : JH → Prop} (hR : XR_ G X σ) (hB : BM_ B) (hF : FM_ F) (hb : 0 ≤ b ∧ b < 8) (hu : 0 ≤ u ∧ u < 32) (hvB : ∀ j, 0 ≤ j → j < 5 → iv_ σ (X + 10) j = B j) (hvF : ∀ v, 0 ≤ v → v < 32 → iv_ σ (X + 8) (32 * (b + 1) + v) = wv_ (F v))
    (hQ : Q (pi_ (pi_ σ (X + 8) (32 * b + u) (wv_ (mm_ B F u))) (X + 9) (32 * b + u) (mm_ B F u).2.2)) : CallV_ G 3 yX1_matchesBox cX1_matchesBox 10 none [A_ (some X), I_ b, I_ u] σ Q := by
  refine call_go [some (A_ (some X)), some (I_ b), some (I_ u), none, none, none, none, none, none, none] (by decide) (Nat.le_of_ble_eq_true rfl) rfl ?_
  have L15 : ∀ (fu : Nat) (be : Int) (wh : Int) (w : Int) (v8 : Option AV) (v9 : Option AV), 5 - w < (fu : Int) → (0 ≤ w) → (w ≤ 5) → (be = wv_ (iI_ (mf_ B F u) (-100, 0, -2) w)) → (wh = (iI_ (mf_ B F u) (-100, 0, -2) w).2.2) → (ma_ w (iI_ (mf_ B F u) (-100, 0, -2) w)) → GoM_ G 3 yX1_matchesBox cX1_matchesBox 10 none σ (fun v σ' => v = none ∧ Q σ') 15 [some (A_ (some X)), some (I_ b), some (I_ u), some (I_ 32), some (L_ be), none, some (I_ wh), some (I_ w), v8, v9] [] σ := by
    intro fu
    induction fu with
    | zero => intro be wh w v8 v9 hn h0 h1 hbe hwh hma; exact absurd hn (by omega)
    | succ fu ih =>
      intro be wh w v8 v9 hn h0 h1 hbe hwh hma
      have hwv := ma_wv hma
      refine g_il7 dX1_matchesBox_15 ?_
      refine g_iconst dX1_matchesBox_17 ?_
      refine g_icmp_ge (tgt := 102) dX1_matchesBox_18 (by decide) (by omega) (fun h18 => ?_) (fun h18 => ?_)
      · have e5 : w = 5 := by omega
        subst e5
        have hFu := hF u
        have hwu : wv_ (F u) = 10000000 * (F u).1 - (F u).2.1 := if_neg (by omega)
        have hbw := mb_wv hma (m1 := (F u).1) (s1 := (F u).2.1) (by omega) (by omega)
        unfold mm_ at hQ
        refine g_al0 dX1_matchesBox_102 ?_
        refine f_getA 13 fk_X1_40 rfl hR.sh (fun _ _ => rfl) hR.f13 dX1_matchesBox_103 ?_
        refine g_il3 dX1_matchesBox_106 ?_
        refine g_il1 dX1_matchesBox_107 ?_
        refine g_iconst dX1_matchesBox_108 ?_
        refine g_iadd dX1_matchesBox_109 ?_
        refine g_imul dX1_matchesBox_110 ?_
        refine g_il2 dX1_matchesBox_111 ?_
        refine g_iadd dX1_matchesBox_112 ?_
        refine g_lalv hR.a13 (by omega) (hvF _ hu.1 hu.2) dX1_matchesBox_113 ?_
        refine g_ll4 dX1_matchesBox_114 ?_
        refine g_lcmp dX1_matchesBox_116 ?_
        rw [lcmp_v (by omega) (by omega)]
        refine g_if_le (tgt := 138) dX1_matchesBox_117 (by decide) (by (repeat' split) <;> omega) (fun h117 => ?_) (fun h117 => ?_)
        · refine g_al0 dX1_matchesBox_138 ?_
          refine f_getA 13 fk_X1_40 rfl hR.sh (fun _ _ => rfl) hR.f13 dX1_matchesBox_139 ?_
          refine g_il3 dX1_matchesBox_142 ?_
          refine g_il1 dX1_matchesBox_143 ?_
          refine g_imul dX1_matchesBox_144 ?_
          refine g_il2 dX1_matchesBox_145 ?_
          refine g_iadd dX1_matchesBox_146 ?_
          refine g_ll4 dX1_matchesBox_147 ?_
          refine g_last hR.a13 hR.g13 (by omega) dX1_matchesBox_149 ?_
          refine g_al0 dX1_matchesBox_150 ?_
          refine f_getA 14 fk_X1_44 rfl hR.sh (fun _ _ => rfl) hR.f14 dX1_matchesBox_151 ?_
          refine g_il3 dX1_matchesBox_154 ?_
          refine g_il1 dX1_matchesBox_155 ?_
          refine g_imul dX1_matchesBox_156 ?_
          refine g_il2 dX1_matchesBox_157 ?_
          refine g_iadd dX1_matchesBox_158 ?_
          refine g_il6 dX1_matchesBox_159 ?_
          refine g_iast hR.a14 hR.g14 (by omega) dX1_matchesBox_161 ?_
          exact g_vret rfl dX1_matchesBox_162 ⟨rfl, by rw [if_neg (fun q => by have := hbw.mp q; (repeat' split at h117) <;> omega), ← hbe, ← hwh] at hQ; exact hQ⟩
        refine g_al0 dX1_matchesBox_120 ?_
        refine f_getA 13 fk_X1_40 rfl hR.sh (fun _ _ => rfl) hR.f13 dX1_matchesBox_121 ?_
        refine g_il3 dX1_matchesBox_124 ?_
        refine g_il1 dX1_matchesBox_125 ?_
        refine g_iconst dX1_matchesBox_126 ?_
        refine g_iadd dX1_matchesBox_127 ?_
        refine g_imul dX1_matchesBox_128 ?_
        refine g_il2 dX1_matchesBox_129 ?_
        refine g_iadd dX1_matchesBox_130 ?_
        refine g_lalv hR.a13 (by omega) (hvF _ hu.1 hu.2) dX1_matchesBox_131 ?_
        refine g_ls4 dX1_matchesBox_132 (by decide) rfl ?_
        refine g_bipush dX1_matchesBox_134 (by decide) (by decide) ?_
        refine g_is6 dX1_matchesBox_136 (by decide) rfl ?_
        refine g_al0 dX1_matchesBox_138 ?_
        refine f_getA 13 fk_X1_40 rfl hR.sh (fun _ _ => rfl) hR.f13 dX1_matchesBox_139 ?_
        refine g_il3 dX1_matchesBox_142 ?_
        refine g_il1 dX1_matchesBox_143 ?_
        refine g_imul dX1_matchesBox_144 ?_
        refine g_il2 dX1_matchesBox_145 ?_
        refine g_iadd dX1_matchesBox_146 ?_
        refine g_ll4 dX1_matchesBox_147 ?_
        refine g_last hR.a13 hR.g13 (by omega) dX1_matchesBox_149 ?_
        refine g_al0 dX1_matchesBox_150 ?_
        refine f_getA 14 fk_X1_44 rfl hR.sh (fun _ _ => rfl) hR.f14 dX1_matchesBox_151 ?_
        refine g_il3 dX1_matchesBox_154 ?_
        refine g_il1 dX1_matchesBox_155 ?_
        refine g_imul dX1_matchesBox_156 ?_
        refine g_il2 dX1_matchesBox_157 ?_
        refine g_iadd dX1_matchesBox_158 ?_
        refine g_il6 dX1_matchesBox_159 ?_
        refine g_iast hR.a14 hR.g14 (by omega) dX1_matchesBox_161 ?_
        exact g_vret rfl dX1_matchesBox_162 ⟨rfl, by rw [if_pos (hbw.mpr (by (repeat' split at h117) <;> omega))] at hQ; exact hQ⟩
      refine g_il2 dX1_matchesBox_21 ?_
      refine g_il7 dX1_matchesBox_22 ?_
      refine g_callS2I (d' := 2) lk_X1_222 (rm_lt (by decide) (by decide)) (Nat.le_of_ble_eq_true rfl) dX1_matchesBox_24 ?_
      refine xo_has (fun z hz => ?_)
      have hBw := hB w
      have hu5 : w < 5 → 0 ≤ ior_ u (ishl_ 1 w) ∧ ior_ u (ishl_ 1 w) < 32 := fun q => u32_ hu ⟨h0, q⟩
      have hFw := hF (ior_ u (ishl_ 1 w))
      have hwF : wv_ (F (ior_ u (ishl_ 1 w))) = 10000000 * (F (ior_ u (ishl_ 1 w))).1 - (F (ior_ u (ishl_ 1 w))).2.1 := if_neg (by omega)
      refine g_if_ne (tgt := 96) dX1_matchesBox_27 (by decide) (by omega) (fun h27 => ?_) (fun h27 => ?_)
      · refine g_inc7 dX1_matchesBox_96 (by decide) rfl ?_
        refine g_goto (tgt := 15) dX1_matchesBox_99 (by decide) ?_
        have e1 : mf_ B F u w (iI_ (mf_ B F u) (-100, 0, -2) w) = iI_ (mf_ B F u) (-100, 0, -2) w := if_pos (Or.inl (by omega))
        have hma2 := mf_ma hB hF u hma h0
        refine ih _ _ _ _ _ (by omega) (by omega) (by omega) (by rw [iI_s _ _ h0, e1]; exact hbe) (by rw [iI_s _ _ h0, e1]; exact hwh) (by rw [iI_s _ _ h0]; exact hma2)
      refine g_al0 dX1_matchesBox_30 ?_
      refine f_getA 15 fk_X1_47 rfl hR.sh (fun _ _ => rfl) hR.f15 dX1_matchesBox_31 ?_
      refine g_il7 dX1_matchesBox_34 ?_
      refine g_ialv hR.a15 (by omega) (hvB w h0 (by omega)) dX1_matchesBox_36 ?_
      refine g_bipush dX1_matchesBox_37 (by decide) (by decide) ?_
      refine g_icmp_ne (tgt := 45) dX1_matchesBox_39 (by decide) (by omega) (fun h39 => ?_) (fun h39 => ?_)
      · refine g_ldc2 (x := 10000000) q1453 dX1_matchesBox_45 (by decide) ?_
        refine g_al0 dX1_matchesBox_48 ?_
        refine f_getA 15 fk_X1_47 rfl hR.sh (fun _ _ => rfl) hR.f15 dX1_matchesBox_49 ?_
        refine g_il7 dX1_matchesBox_52 ?_
        refine g_ialv hR.a15 (by omega) (hvB w h0 (by omega)) dX1_matchesBox_54 ?_
        refine g_i2l dX1_matchesBox_55 (by omega) ?_
        refine g_lsub dX1_matchesBox_56 ?_
        refine g_al0 dX1_matchesBox_57 ?_
        refine f_getA 13 fk_X1_40 rfl hR.sh (fun _ _ => rfl) hR.f13 dX1_matchesBox_58 ?_
        refine g_il3 dX1_matchesBox_61 ?_
        refine g_il1 dX1_matchesBox_62 ?_
        refine g_iconst dX1_matchesBox_63 ?_
        refine g_iadd dX1_matchesBox_64 ?_
        refine g_imul dX1_matchesBox_65 ?_
        refine g_il2 dX1_matchesBox_66 ?_
        refine g_iconst dX1_matchesBox_67 ?_
        refine g_il7 dX1_matchesBox_68 ?_
        refine g_ishl dX1_matchesBox_70 ?_
        refine g_ior dX1_matchesBox_71 ?_
        refine g_iadd dX1_matchesBox_72 ?_
        have hu6 := hu5 (by omega)
        refine g_lalv hR.a13 (by omega) (hvF _ hu6.1 hu6.2) dX1_matchesBox_73 ?_
        rw [hwF]
        refine g_ladd dX1_matchesBox_74 ?_
        refine g_ls8 dX1_matchesBox_75 (by decide) rfl ?_
        refine g_ll8 dX1_matchesBox_77 ?_
        refine g_ll4 dX1_matchesBox_79 ?_
        refine g_lcmp dX1_matchesBox_81 ?_
        rw [lcmp_v (by omega) (by omega)]
        refine g_if_gt (tgt := 88) dX1_matchesBox_82 (by decide) (by (repeat' split) <;> omega) (fun h82 => ?_) (fun h82 => ?_)
        · refine g_ll8 dX1_matchesBox_88 ?_
          refine g_ls4 dX1_matchesBox_90 (by decide) rfl ?_
          refine g_il7 dX1_matchesBox_92 ?_
          refine g_is6 dX1_matchesBox_94 (by decide) rfl ?_
          refine g_inc7 dX1_matchesBox_96 (by decide) rfl ?_
          refine g_goto (tgt := 15) dX1_matchesBox_99 (by decide) ?_
          have hlt82 : be < 10000000 - B w + (10000000 * (F (ior_ u (ishl_ 1 w))).1 - (F (ior_ u (ishl_ 1 w))).2.1) := by (repeat' split at h82) <;> omega
          have hmbw := mb_wv hma (m1 := (F (ior_ u (ishl_ 1 w))).1 + 1) (s1 := (F (ior_ u (ishl_ 1 w))).2.1 + B w) (by omega) (by omega)
          have e1 : mf_ B F u w (iI_ (mf_ B F u) (-100, 0, -2) w) = ((F (ior_ u (ishl_ 1 w))).1 + 1, (F (ior_ u (ishl_ 1 w))).2.1 + B w, w) := mf_bet (by omega) (hmbw.mpr (by omega))
          have hma2 := mf_ma hB hF u hma h0
          refine ih _ _ _ _ _ (by omega) (by omega) (by omega) (by rw [iI_s _ _ h0, e1]; exact (wv_3 (by omega) (by omega)).symm) (by rw [iI_s _ _ h0, e1]) (by rw [iI_s _ _ h0]; exact hma2)
        refine g_goto (tgt := 96) dX1_matchesBox_85 (by decide) ?_
        refine g_inc7 dX1_matchesBox_96 (by decide) rfl ?_
        refine g_goto (tgt := 15) dX1_matchesBox_99 (by decide) ?_
        have hlt82 : ¬ be < 10000000 - B w + (10000000 * (F (ior_ u (ishl_ 1 w))).1 - (F (ior_ u (ishl_ 1 w))).2.1) := by (repeat' split at h82) <;> omega
        have hmbw := mb_wv hma (m1 := (F (ior_ u (ishl_ 1 w))).1 + 1) (s1 := (F (ior_ u (ishl_ 1 w))).2.1 + B w) (by omega) (by omega)
        have e1 : mf_ B F u w (iI_ (mf_ B F u) (-100, 0, -2) w) = iI_ (mf_ B F u) (-100, 0, -2) w := mf_not (fun q => hlt82 (by have := hmbw.mp q; omega))
        have hma2 := mf_ma hB hF u hma h0
        refine ih _ _ _ _ _ (by omega) (by omega) (by omega) (by rw [iI_s _ _ h0, e1]; exact hbe) (by rw [iI_s _ _ h0, e1]; exact hwh) (by rw [iI_s _ _ h0]; exact hma2)
      refine g_goto (tgt := 96) dX1_matchesBox_42 (by decide) ?_
      refine g_inc7 dX1_matchesBox_96 (by decide) rfl ?_
      refine g_goto (tgt := 15) dX1_matchesBox_99 (by decide) ?_
      have e1 : mf_ B F u w (iI_ (mf_ B F u) (-100, 0, -2) w) = iI_ (mf_ B F u) (-100, 0, -2) w := if_pos (Or.inr (by omega))
      have hma2 := mf_ma hB hF u hma h0
      refine ih _ _ _ _ _ (by omega) (by omega) (by omega) (by rw [iI_s _ _ h0, e1]; exact hbe) (by rw [iI_s _ _ h0, e1]; exact hwh) (by rw [iI_s _ _ h0]; exact hma2)
  refine g_bipush dX1_matchesBox_0 (by decide) (by decide) ?_
  refine g_is3 dX1_matchesBox_2 (by decide) rfl ?_
  refine g_ldc2 (x := -1) q1452 dX1_matchesBox_3 (by decide) ?_
  refine g_ls4 dX1_matchesBox_6 (by decide) rfl ?_
  refine g_bipush dX1_matchesBox_8 (by decide) (by decide) ?_
  refine g_is6 dX1_matchesBox_10 (by decide) rfl ?_
  refine g_iconst dX1_matchesBox_12 ?_
  refine g_is7 dX1_matchesBox_13 (by decide) rfl ?_
  exact L15 6 _ _ _ _ _ (by omega) (by omega) (by omega) rfl rfl (Or.inl rfl)
theorem xo_matches  {Q : JH → Prop} (hX : XD_ G X σ T r s) (hW : RW_ r) (hD : DW_ r s) (hlt : ∀ a s, sh_ σ a = some s → a < sz_ σ)
    (hQ : ∀ σ', Fr_ (xmt_ X) σ σ' → MT_ X σ' r s (-1) 0 → Q σ') : CallV_ G 13 yX1_matches cX1_matches 4 none [A_ (some X)] σ Q := by
  refine call_go [some (A_ (some X)), none, none, none] (by decide) (Nat.le_of_ble_eq_true rfl) rfl ?_
  have hR := hX.R
  have hn := hW.n
  have L49 : ∀ (fu : Nat) (σ' : JH) (b : Int) (v3 : Option AV), b + 1 < (fu : Int) → (Fr_ (xmt_ X) σ σ') → (-1 ≤ b) → (b < r 7) → (MT_ X σ' r s b 0) → GoM_ G 13 yX1_matches cX1_matches 4 none σ (fun v σ' => v = none ∧ Q σ') 49 [some (A_ (some X)), some (I_ 32), some (I_ b), v3] [] σ' := by
    intro fu
    induction fu with
    | zero => intro σ' b v3 hn hF h0 h1 hT; exact absurd hn (by omega)
    | succ fu ih =>
      intro σ' b v3 hn hF h0 h1 hT
      have hX9 := hX
      have hlt9 := hlt
      have hX := hX.xs hF.mx hlt
      have hR := hX.R
      have hlt := lt_fr hlt hF
      refine g_il2 dX1_matches_49 ?_
      refine g_if_lt (tgt := 83) dX1_matches_50 (by decide) (by omega) (fun h50 => ?_) (fun h50 => ?_)
      · exact g_vret rfl dX1_matches_83 ⟨rfl, hQ _ hF (by rw [show b = -1 by omega] at hT; exact hT)⟩
      refine g_al0 dX1_matches_53 ?_
      refine g_il2 dX1_matches_54 ?_
      refine g_callV1V (d' := 12) lk_X1_348 hR.sh rfl (rm_lt (by decide) (by decide)) (Nat.le_of_ble_eq_true rfl) dX1_matches_55 ?_
      refine xo_laysBrought hX hW hD hlt (by omega) (fun σ1 hF1 hv1 => ?_)
      have hF3 : Fr_ (xmt_ X) σ σ1 := hF.tr (hF1.mono (fun b k q => by unfold xfd_ at q; unfold xmt_; omega))
      have hT1 := hT.fr hF1 (fun k q => by unfold xfd_ at q; omega) (fun k q => by unfold xfd_ at q; omega)
      have L60 : ∀ (fu2 : Nat) (σ2 : JH) (u : Int), 32 - u < (fu2 : Int) → (Fr_ (xmt_ X) σ σ2) → (0 ≤ u) → (u ≤ 32) → (MT_ X σ2 r s b u) → (∀ j, 0 ≤ j → j < 5 → iv_ σ2 (X + 10) j = bW_ r s b j) → GoM_ G 13 yX1_matches cX1_matches 4 none σ (fun v σ' => v = none ∧ Q σ') 60 [some (A_ (some X)), some (I_ 32), some (I_ b), some (I_ u)] [] σ2 := by
        intro fu2
        induction fu2 with
        | zero => intro σ2 u hn hF2 g0 g1 hT2 hv2; exact absurd hn (by omega)
        | succ fu2 ih2 =>
          intro σ2 u hn hF2 g0 g1 hT2 hv2
          have hX := hX9.xs hF2.mx hlt9
          have hR := hX.R
          refine g_il3 dX1_matches_60 ?_
          refine g_il1 dX1_matches_61 ?_
          refine g_icmp_ge (tgt := 77) dX1_matches_62 (by decide) (by omega) (fun h62 => ?_) (fun h62 => ?_)
          · refine g_inc2 dX1_matches_77 (by decide) rfl ?_
            refine g_goto (tgt := 49) dX1_matches_80 (by decide) ?_
            exact ih _ _ _ (by omega) hF2 (by omega) (by omega) (hT2.next (by omega))
          refine g_al0 dX1_matches_65 ?_
          refine g_il2 dX1_matches_66 ?_
          refine g_il3 dX1_matches_67 ?_
          refine g_callV2V (d' := 3) lk_X1_352 hR.sh rfl (rm_lt (by decide) (by decide)) (Nat.le_of_ble_eq_true rfl) dX1_matches_68 ?_
          refine xo_matchesBox hR (bW_BM hW hD (by omega)) (mW_FM hW hD (c := b + 1) (by omega)) (by omega) (by omega) hv2 (fun v v0 v1 => (hT2 (b + 1) v v0 v1 (by omega) (Or.inl (by omega))).1) ?_
          rw [← mW_s hW (by omega)]
          refine g_inc3 dX1_matches_71 (by decide) rfl ?_
          refine g_goto (tgt := 60) dX1_matches_74 (by decide) ?_
          refine ih2 _ _ (by omega) ((hF2.pi (by unfold xmt_; omega)).pi (by unfold xmt_; omega)) (by omega) (by omega) (hT2.step (by omega) (by omega)) (fun j j0 j1 => ?_)
          rw [iv_pi, if_neg (by omega), iv_pi, if_neg (by omega)]
          exact hv2 j j0 j1
      refine g_iconst dX1_matches_58 ?_
      refine g_is3 dX1_matches_59 (by decide) rfl ?_
      exact L60 33 _ _ (by omega) hF3 (by omega) (by omega) hT1 hv1
  have L5 : ∀ (fu : Nat) (σ' : JH) (u : Int), 32 - u < (fu : Int) → (Fr_ (xmt_ X) σ σ') → (0 ≤ u) → (u ≤ 32) → (MT_ X σ' r s (r 7) u) → GoM_ G 13 yX1_matches cX1_matches 4 none σ (fun v σ' => v = none ∧ Q σ') 5 [some (A_ (some X)), some (I_ 32), some (I_ u), none] [] σ' := by
    intro fu
    induction fu with
    | zero => intro σ' u hn hF h0 h1 hT; exact absurd hn (by omega)
    | succ fu ih =>
      intro σ' u hn hF h0 h1 hT
      have hX9 := hX
      have hlt9 := hlt
      have hX := hX.xs hF.mx hlt
      have hR := hX.R
      have hlt := lt_fr hlt hF
      refine g_il2 dX1_matches_5 ?_
      refine g_il1 dX1_matches_6 ?_
      refine g_icmp_ge (tgt := 36) dX1_matches_7 (by decide) (by omega) (fun h7 => ?_) (fun h7 => ?_)
      · refine g_al0 dX1_matches_36 ?_
        refine f_getA 5 fk_X1_104 rfl hR.sh (fun _ _ => rfl) hX.f5 dX1_matches_37 ?_
        refine f_getA 7 fk_X1_134 rfl hX.P.sh (fun _ _ => rfl) hX.P.f7 dX1_matches_40 ?_
        refine g_callV0I (d' := 2) lk_X1_127 hX.P.l3.1 rfl (rm_lt (by decide) (by decide)) (Nat.le_of_ble_eq_true rfl) dX1_matches_43 ?_
        refine js_size hX.P.l3 ?_
        refine g_iconst dX1_matches_46 ?_
        refine g_isub dX1_matches_47 ?_
        refine g_is2 dX1_matches_48 (by decide) rfl ?_
        exact L49 ((r 7).toNat + 1) _ _ _ (by omega) hF (by omega) (by omega) (hT.next (by omega))
      refine g_al0 dX1_matches_10 ?_
      refine f_getA 13 fk_X1_40 rfl hR.sh (fun _ _ => rfl) hR.f13 dX1_matches_11 ?_
      refine g_il1 dX1_matches_14 ?_
      refine g_al0 dX1_matches_15 ?_
      refine f_getA 5 fk_X1_104 rfl hR.sh (fun _ _ => rfl) hX.f5 dX1_matches_16 ?_
      refine f_getA 7 fk_X1_134 rfl hX.P.sh (fun _ _ => rfl) hX.P.f7 dX1_matches_19 ?_
      refine g_callV0I (d' := 2) lk_X1_127 hX.P.l3.1 rfl (rm_lt (by decide) (by decide)) (Nat.le_of_ble_eq_true rfl) dX1_matches_22 ?_
      refine js_size hX.P.l3 ?_
      refine g_imul dX1_matches_25 ?_
      refine g_il2 dX1_matches_26 ?_
      refine g_iadd dX1_matches_27 ?_
      refine g_lconst (x := 0) dX1_matches_28 (by decide) ?_
      refine g_last hR.a13 hR.g13 (by omega) dX1_matches_29 ?_
      refine g_inc2 dX1_matches_30 (by decide) rfl ?_
      refine g_goto (tgt := 5) dX1_matches_33 (by decide) ?_
      exact ih _ _ (by omega) (hF.pi (by unfold xmt_; omega)) (by omega) (by omega) (hT.last (by omega))
  refine g_bipush dX1_matches_0 (by decide) (by decide) ?_
  refine g_is1 dX1_matches_2 (by decide) rfl ?_
  refine g_iconst dX1_matches_3 ?_
  refine g_is2 dX1_matches_4 (by decide) rfl ?_
  exact L5 33 _ _ (by omega) Fr_.rf (by omega) (by omega) (fun c v v0 v1 c1 q => absurd q (by omega))
theorem xo_matched  {of : Int} {Q : Int → JH → Prop} (hX : XD_ G X σ T r s) (hW : RW_ r) (hD : DW_ r s) (hlt : ∀ a s, sh_ σ a = some s → a < sz_ σ) (hof : of = -1 ∨ (0 ≤ of ∧ of < r 7))
    (hQ : ∀ (x : Int) σ', Fr_ (xmt_ X) σ σ' → iv_ σ' (X + 8) 0 = wv_ (mW_ r s 0 0) → (of = -1 ∧ x = (mW_ r s 0 0).1) ∨ (0 ≤ of ∧ x = ch_ r s (r 7).toNat 0 of) → Q x σ') : CallI_ G 14 yX1_matched cX1_matched 6 (some .int) [A_ (some X), I_ of] σ Q := by
  refine call_go [some (A_ (some X)), some (I_ of), none, none, none, none] (by decide) (Nat.le_of_ble_eq_true rfl) rfl ?_
  have hR := hX.R
  have hn := hW.n
  refine g_al0 dX1_matched_0 ?_
  refine g_callV0V (d' := 13) lk_X1_359 hR.sh rfl (rm_lt (by decide) (by decide)) (Nat.le_of_ble_eq_true rfl) dX1_matched_1 ?_
  refine xo_matches hX hW hD hlt (fun σ1 hF hT => ?_)
  have hX := hX.xs hF.mx hlt
  have hR := hX.R
  have hw0 : iv_ σ1 (X + 8) 0 = wv_ (mW_ r s 0 0) := (hT 0 0 (by omega) (by omega) (by omega) (Or.inl (by omega))).1
  have L11 : ∀ (fu : Nat) (u : Int) (n1 : Int) (b : Int) (v5 : Option AV), r 7 - b < (fu : Int) → (0 ≤ b) → (b ≤ r 7) → (0 ≤ u ∧ u < 32) → (0 ≤ n1 ∧ n1 ≤ b) → (of = -1 ∨ b ≤ of) → (n1 + (mW_ r s b u).1 = (mW_ r s 0 0).1) → (of = -1 ∨ ch_ r s (r 7 - b).toNat u of = ch_ r s (r 7 - 0).toNat 0 of) → GoM_ G 14 yX1_matched cX1_matched 6 (some .int) σ (fun v σ' => ∃ x : Int, v = some (I_ x) ∧ Q x σ') 11 [some (A_ (some X)), some (I_ of), some (I_ u), some (I_ n1), some (I_ b), v5] [] σ1 := by
    intro fu
    induction fu with
    | zero => intro u n1 b v5 hn h0 h1 hu hn1 ho hm hc; exact absurd hn (by omega)
    | succ fu ih =>
      intro u n1 b v5 hn h0 h1 hu hn1 ho hm hc
      refine g_il4 dX1_matched_11 ?_
      refine g_al0 dX1_matched_13 ?_
      refine f_getA 5 fk_X1_104 rfl hR.sh (fun _ _ => rfl) hX.f5 dX1_matched_14 ?_
      refine f_getA 7 fk_X1_134 rfl hX.P.sh (fun _ _ => rfl) hX.P.f7 dX1_matched_17 ?_
      refine g_callV0I (d' := 2) lk_X1_127 hX.P.l3.1 rfl (rm_lt (by decide) (by decide)) (Nat.le_of_ble_eq_true rfl) dX1_matched_20 ?_
      refine js_size hX.P.l3 ?_
      refine g_icmp_ge (tgt := 75) dX1_matched_23 (by decide) (by omega) (fun h23 => ?_) (fun h23 => ?_)
      · refine g_il3 dX1_matched_75 ?_
        exact g_iret rfl dX1_matched_76 ⟨_, rfl, hQ _ _ hF hw0 (Or.inl ⟨by omega, by rw [show b = r 7 by omega, mW_0] at hm; omega⟩)⟩
      refine g_al0 dX1_matched_26 ?_
      refine f_getA 14 fk_X1_44 rfl hR.sh (fun _ _ => rfl) hR.f14 dX1_matched_27 ?_
      refine g_bipush dX1_matched_30 (by decide) (by decide) ?_
      refine g_il4 dX1_matched_32 ?_
      refine g_imul dX1_matched_34 ?_
      refine g_il2 dX1_matched_35 ?_
      refine g_iadd dX1_matched_36 ?_
      have hFM := mW_FM hW hD (c := b + 1) (by omega)
      have hwh := mm_who (B := bW_ r s b) hFM u
      rw [← mW_s hW (by omega)] at hwh
      refine g_ialv hR.a14 (by omega) ((hT b u hu.1 hu.2 (by omega) (Or.inl (by omega))).2 (by omega)) dX1_matched_37 ?_
      refine g_is5 dX1_matched_38 (by decide) rfl ?_
      refine g_il4 dX1_matched_40 ?_
      refine g_il1 dX1_matched_42 ?_
      refine g_icmp_ne (tgt := 49) dX1_matched_43 (by decide) (by omega) (fun h43 => ?_) (fun h43 => ?_)
      · refine g_il5 dX1_matched_49 ?_
        refine g_bipush dX1_matched_51 (by decide) (by decide) ?_
        refine g_icmp_ne (tgt := 59) dX1_matched_53 (by decide) (by omega) (fun h53 => ?_) (fun h53 => ?_)
        · refine g_il2 dX1_matched_59 ?_
          refine g_iconst dX1_matched_60 ?_
          refine g_il5 dX1_matched_61 ?_
          refine g_ishl dX1_matched_63 ?_
          refine g_ior dX1_matched_64 ?_
          refine g_is2 dX1_matched_65 (by decide) rfl ?_
          refine g_inc3 dX1_matched_66 (by decide) rfl ?_
          refine g_inc4 dX1_matched_69 (by decide) rfl ?_
          refine g_goto (tgt := 11) dX1_matched_72 (by decide) ?_
          have hch : of = -1 ∨ ch_ r s (r 7 - (b + 1)).toNat (ub_ u (mW_ r s b u).2.2) of = ch_ r s (r 7 - 0).toNat 0 of := by
            rcases hc with q | q
            · exact Or.inl q
            · rw [ch_s (by omega), if_neg (by omega)] at q
              exact Or.inr q
          have e : ub_ u (mW_ r s b u).2.2 = ior_ u (ishl_ 1 (mW_ r s b u).2.2) := if_neg (by omega)
          rw [e] at hch
          exact ih _ _ _ _ (by omega) (by omega) (by omega) (u32_ hu (by omega)) (by omega) (by omega) (by omega) hch
        refine g_goto (tgt := 69) dX1_matched_56 (by decide) ?_
        refine g_inc4 dX1_matched_69 (by decide) rfl ?_
        refine g_goto (tgt := 11) dX1_matched_72 (by decide) ?_
        have hch : of = -1 ∨ ch_ r s (r 7 - (b + 1)).toNat (ub_ u (mW_ r s b u).2.2) of = ch_ r s (r 7 - 0).toNat 0 of := by
          rcases hc with q | q
          · exact Or.inl q
          · rw [ch_s (by omega), if_neg (by omega)] at q
            exact Or.inr q
        have e : ub_ u (mW_ r s b u).2.2 = u := if_pos (by omega)
        rw [e] at hch
        exact ih _ _ _ _ (by omega) (by omega) (by omega) hu (by omega) (by omega) (by omega) hch
      refine g_il5 dX1_matched_46 ?_
      exact g_iret rfl dX1_matched_48 ⟨_, rfl, hQ _ _ hF hw0 (Or.inr ⟨by omega, by rw [ch_s (by omega), if_pos (by omega)] at hc; have := hc.resolve_left (by omega); rw [show r 7 - 0 = r 7 by omega] at this; exact this⟩)⟩
  refine g_iconst dX1_matched_4 ?_
  refine g_is2 dX1_matched_5 (by decide) rfl ?_
  refine g_iconst dX1_matched_6 ?_
  refine g_is3 dX1_matched_7 (by decide) rfl ?_
  refine g_iconst dX1_matched_8 ?_
  refine g_is4 dX1_matched_9 (by decide) rfl ?_
  exact L11 ((r 7).toNat + 1) _ _ _ _ (by omega) (by omega) (by omega) (by omega) (by omega) (by omega) (by omega) (Or.inr rfl)
theorem xo_match {p : Int} {Q : Int → JH → Prop} (hX0 : XQ_ G X σ p T r s) (hP : MP_ p r s) 
    (hQ : ∀ (x t : Int) (σ' : JH), qMatch_ p r s = (x, t) → XQ_ G X σ' p T r s → XE_ X σ σ' t → Q x σ') : CallI_ G 15 yX1_match cX1_match 1 (some .int) [A_ (some X)] σ Q := by
  refine call_go [some (A_ (some X))] (by decide) (Nat.le_of_ble_eq_true rfl) rfl ?_
  refine g_lt (fun hlt hgz => ?_)
  have hR := hX0.1
  have hp01 := hP.b
  rcases hX0.2 with q | q
  · have hp0 : p = 0 := q.1
    refine g_al0 dX1_match_0 ?_
    refine f_getA 5 fk_X1_104 rfl hR.sh (fun _ _ => rfl) q.2 dX1_match_1 ?_
    refine g_ifnonnull (tgt := 15) dX1_match_4 (by decide) (fun _ h4 => ?_) (fun h4 => ?_)
    · cases h4
    refine g_al0 dX1_match_7 ?_
    refine g_iconst dX1_match_8 ?_
    refine g_callV1I (d' := 2) lk_X1_65 hR.sh rfl (rm_lt (by decide) (by decide)) (Nat.le_of_ble_eq_true rfl) dX1_match_9 ?_
    refine xo_refused hR ?_
    refine g_goto (tgt := 24) dX1_match_12 (by decide) ?_
    exact g_iret rfl dX1_match_24 ⟨_, rfl, hQ _ _ _ (by unfold qMatch_; rw [if_neg (by omega)]) (hX0.e (XE_.rf) hlt) (XE_.rf)⟩
  · have hp1 : p = 1 := q.1
    have hX := q.2
    obtain ⟨hW, hD⟩ := hP.get hp1
    have hn := hW.n
    refine g_al0 dX1_match_0 ?_
    refine f_getA 5 fk_X1_104 rfl hR.sh (fun _ _ => rfl) hX.f5 dX1_match_1 ?_
    refine g_ifnonnull (tgt := 15) dX1_match_4 (by decide) (fun _ h4 => ?_) (fun h4 => ?_)
    · refine g_al0 dX1_match_15 ?_
      refine g_al0 dX1_match_16 ?_
      refine g_iconst dX1_match_17 ?_
      refine g_callV1I (d' := 14) lk_X1_362 hR.sh rfl (rm_lt (by decide) (by decide)) (Nat.le_of_ble_eq_true rfl) dX1_match_18 ?_
      have hlt0 := hlt
      refine xo_matched hX hW hD hlt (by omega) (fun x1 σ1 hF1 hw1 hx1 => ?_)
      have hX := hX.xs hF1.mx hlt
      have hR := hX.R
      have hlt := lt_fr hlt hF1
      have hmW := mW_FM (s := s) hW hD (c := 0) (by omega) 0
      have hm0 : mW_ r s 0 0 = mw_ r s (r 7).toNat 0 := by (unfold mW_; rw [show r 7 - 0 = r 7 by omega])
      refine g_callV1I (d' := 2) lk_X1_69 hR.sh rfl (rm_lt (by decide) (by decide)) (Nat.le_of_ble_eq_true rfl) dX1_match_21 ?_
      refine xo_well hR ?_
      exact g_iret rfl dX1_match_24 ⟨_, rfl, hQ _ _ _ (by unfold qMatch_; rw [if_pos (by omega), ← hm0]; congr 1; omega) (hX0.e (XE_.fr hF1.mx) hlt0) (XE_.fr hF1.mx)⟩
    cases h4
theorem xo_matchDays {p : Int} {Q : Int → JH → Prop} (hX0 : XQ_ G X σ p T r s) (hP : MP_ p r s) 
    (hQ : ∀ (x t : Int) (σ' : JH), qMatchDays_ p r s = (x, t) → XQ_ G X σ' p T r s → XE_ X σ σ' t → Q x σ') : CallI_ G 15 yX1_matchDays cX1_matchDays 2 (some .int) [A_ (some X)] σ Q := by
  refine call_go [some (A_ (some X)), none] (by decide) (Nat.le_of_ble_eq_true rfl) rfl ?_
  refine g_lt (fun hlt hgz => ?_)
  have hR := hX0.1
  have hp01 := hP.b
  rcases hX0.2 with q | q
  · have hp0 : p = 0 := q.1
    refine g_al0 dX1_matchDays_0 ?_
    refine f_getA 5 fk_X1_104 rfl hR.sh (fun _ _ => rfl) q.2 dX1_matchDays_1 ?_
    refine g_ifnonnull (tgt := 13) dX1_matchDays_4 (by decide) (fun _ h4 => ?_) (fun h4 => ?_)
    · cases h4
    refine g_al0 dX1_matchDays_7 ?_
    refine g_iconst dX1_matchDays_8 ?_
    refine g_callV1I (d' := 2) lk_X1_65 hR.sh rfl (rm_lt (by decide) (by decide)) (Nat.le_of_ble_eq_true rfl) dX1_matchDays_9 ?_
    refine xo_refused hR ?_
    exact g_iret rfl dX1_matchDays_12 ⟨_, rfl, hQ _ _ _ (by unfold qMatchDays_; rw [if_neg (by omega)]) (hX0.e (XE_.rf) hlt) (XE_.rf)⟩
  · have hp1 : p = 1 := q.1
    have hX := q.2
    obtain ⟨hW, hD⟩ := hP.get hp1
    have hn := hW.n
    refine g_al0 dX1_matchDays_0 ?_
    refine f_getA 5 fk_X1_104 rfl hR.sh (fun _ _ => rfl) hX.f5 dX1_matchDays_1 ?_
    refine g_ifnonnull (tgt := 13) dX1_matchDays_4 (by decide) (fun _ h4 => ?_) (fun h4 => ?_)
    · refine g_al0 dX1_matchDays_13 ?_
      refine g_iconst dX1_matchDays_14 ?_
      refine g_callV1I (d' := 14) lk_X1_362 hR.sh rfl (rm_lt (by decide) (by decide)) (Nat.le_of_ble_eq_true rfl) dX1_matchDays_15 ?_
      have hlt0 := hlt
      refine xo_matched hX hW hD hlt (by omega) (fun x1 σ1 hF1 hw1 hx1 => ?_)
      have hX := hX.xs hF1.mx hlt
      have hR := hX.R
      have hlt := lt_fr hlt hF1
      have hmW := mW_FM (s := s) hW hD (c := 0) (by omega) 0
      have hm0 : mW_ r s 0 0 = mw_ r s (r 7).toNat 0 := by (unfold mW_; rw [show r 7 - 0 = r 7 by omega])
      have hwv : wv_ (mW_ r s 0 0) = 10000000 * (mW_ r s 0 0).1 - (mW_ r s 0 0).2.1 := if_neg (by omega)
      refine g_is1 dX1_matchDays_18 (by decide) rfl ?_
      refine g_al0 dX1_matchDays_19 ?_
      refine g_il1 dX1_matchDays_20 ?_
      refine g_i2l dX1_matchDays_21 (by omega) ?_
      refine g_ldc2 (x := 10000000) q1453 dX1_matchDays_22 (by decide) ?_
      refine g_lmul dX1_matchDays_25 ?_
      refine g_al0 dX1_matchDays_26 ?_
      refine f_getA 13 fk_X1_40 rfl hR.sh (fun _ _ => rfl) hR.f13 dX1_matchDays_27 ?_
      refine g_iconst dX1_matchDays_30 ?_
      refine g_lalv hR.a13 (by omega) hw1 dX1_matchDays_31 ?_
      refine g_lsub dX1_matchDays_32 ?_
      refine g_l2i dX1_matchDays_33 ?_
      refine g_callV1I (d' := 2) lk_X1_69 hR.sh rfl (rm_lt (by decide) (by decide)) (Nat.le_of_ble_eq_true rfl) dX1_matchDays_34 ?_
      refine xo_well hR ?_
      exact g_iret rfl dX1_matchDays_37 ⟨_, rfl, hQ _ _ _ (by unfold qMatchDays_; rw [if_pos (by omega), ← hm0]; congr 1; omega) (hX0.e (XE_.fr hF1.mx) hlt0) (XE_.fr hF1.mx)⟩
    cases h4
theorem xo_matchOf {p : Int} {b : Int} {Q : Int → JH → Prop} (hX0 : XQ_ G X σ p T r s) (hP : MP_ p r s) (hb : -2147483648 ≤ b ∧ b < 2147483648)
    (hQ : ∀ (x t : Int) (σ' : JH), qMatchOf_ p r s b = (x, t) → XQ_ G X σ' p T r s → XE_ X σ σ' t → Q x σ') : CallI_ G 15 yX1_matchOf cX1_matchOf 2 (some .int) [A_ (some X), I_ b] σ Q := by
  refine call_go [some (A_ (some X)), some (I_ b)] (by decide) (Nat.le_of_ble_eq_true rfl) rfl ?_
  refine g_lt (fun hlt hgz => ?_)
  have hR := hX0.1
  have hp01 := hP.b
  refine g_al0 dX1_matchOf_0 ?_
  refine g_il1 dX1_matchOf_1 ?_
  refine g_callV1I (d' := 3) lk_X1_168 hR.sh rfl (rm_lt (by decide) (by decide)) (Nat.le_of_ble_eq_true rfl) dX1_matchOf_2 ?_
  refine xo_isBox hX0 hP.rw (by omega) (fun x2 hx2 => ?_)
  unfold isB_ at hx2
  refine g_if_eq (tgt := 20) dX1_matchOf_5 (by decide) (by omega) (fun h5 => ?_) (fun h5 => ?_)
  · refine g_al0 dX1_matchOf_20 ?_
    refine g_iconst dX1_matchOf_21 ?_
    refine g_callV1I (d' := 2) lk_X1_65 hR.sh rfl (rm_lt (by decide) (by decide)) (Nat.le_of_ble_eq_true rfl) dX1_matchOf_22 ?_
    refine xo_refused hR ?_
    exact g_iret rfl dX1_matchOf_25 ⟨_, rfl, hQ _ _ _ (by unfold qMatchOf_; rw [if_neg (by omega)]) (hX0.e (XE_.rf) hlt) (XE_.rf)⟩
  refine g_al0 dX1_matchOf_8 ?_
  refine g_al0 dX1_matchOf_9 ?_
  refine g_il1 dX1_matchOf_10 ?_
  refine g_callV1I (d' := 14) lk_X1_362 hR.sh rfl (rm_lt (by decide) (by decide)) (Nat.le_of_ble_eq_true rfl) dX1_matchOf_11 ?_
  obtain ⟨hW, hD⟩ := hP.get (by omega)
  have hX := hX0.get (by omega)
  have hn := hW.n
  have hlt0 := hlt
  refine xo_matched hX hW hD hlt (by omega) (fun x1 σ1 hF1 hw1 hx1 => ?_)
  have hX := hX.xs hF1.mx hlt
  have hR := hX.R
  have hlt := lt_fr hlt hF1
  have hmW := mW_FM (s := s) hW hD (c := 0) (by omega) 0
  have hm0 : mW_ r s 0 0 = mw_ r s (r 7).toNat 0 := by (unfold mW_; rw [show r 7 - 0 = r 7 by omega])
  refine g_callV1I (d' := 2) lk_X1_69 hR.sh rfl (rm_lt (by decide) (by decide)) (Nat.le_of_ble_eq_true rfl) dX1_matchOf_14 ?_
  refine xo_well hR ?_
  refine g_goto (tgt := 25) dX1_matchOf_17 (by decide) ?_
  exact g_iret rfl dX1_matchOf_25 ⟨_, rfl, hQ _ _ _ (by unfold qMatchOf_; rw [if_pos (by omega)]; congr 1; omega) (hX0.e (XE_.fr hF1.mx) hlt0) (XE_.fr hF1.mx)⟩
end
