/-! THE COMPONENT: decades. Written by mod/m93.py -/
set_option maxRecDepth 100000
section
variable {G : JG} {X : Nat} {σ : JH} {T : XT} {r s : Int → Int}
theorem xo_drawn {d : Int} {Q : Int → JH → Prop} (hd : 0 ≤ d ∧ d ≤ 65536) (hQ : Q (nx_ d) σ) : CallI_ G 2 yX1_drawn cX1_drawn 1 (some .int) [I_ d] σ Q := by
  refine call_go [some (I_ d)] (by decide) (Nat.le_of_ble_eq_true rfl) rfl ?_
  refine g_ldc2 (x := 75) q1529 dX1_drawn_0 (by decide) ?_
  refine g_il0 dX1_drawn_3 ?_
  refine g_i2l dX1_drawn_4 (by omega) ?_
  refine g_lmul dX1_drawn_5 ?_
  refine g_ldc2 (x := 74) q1530 dX1_drawn_6 (by decide) ?_
  refine g_ladd dX1_drawn_9 ?_
  refine g_ldc2 (x := 65537) q1531 dX1_drawn_10 (by decide) ?_
  refine g_lrem dX1_drawn_13 (by omega) ?_
  refine g_l2i dX1_drawn_14 ?_
  exact g_iret rfl dX1_drawn_15 ⟨_, rfl, hQ⟩
theorem xo_decade {p : Int} {sd ny : Int} {Q : Int → JH → Prop} (hX0 : XQ_ G X σ p T r s) (hP : MP_ p r s) (hsd : -2147483648 ≤ sd ∧ sd < 2147483648) (hny : -2147483648 ≤ ny ∧ ny < 2147483648)
    (hQ : ∀ (x t : Int) (σ' : JH), qDecade_ p r s sd ny = (x, t) → XQ_ G X σ' p T r s → XE_ X σ σ' t → Q x σ') : CallI_ G 8 yX1_decade cX1_decade 9 (some .int) [A_ (some X), I_ sd, I_ ny] σ Q := by
  refine call_go [some (A_ (some X)), some (I_ sd), some (I_ ny), none, none, none, none, none, none] (by decide) (Nat.le_of_ble_eq_true rfl) rfl ?_
  refine g_lt (fun hlt hgz => ?_)
  have hR := hX0.1
  have hp01 := hP.b
  rcases hX0.2 with q | q
  · have hp0 : p = 0 := q.1
    refine g_al0 dX1_decade_0 ?_
    refine f_getA 5 fk_X1_104 rfl hR.sh (fun _ _ => rfl) q.2 dX1_decade_1 ?_
    refine g_ifnonnull (tgt := 13) dX1_decade_4 (by decide) (fun _ h4 => ?_) (fun h4 => ?_)
    · cases h4
    refine g_al0 dX1_decade_7 ?_
    refine g_iconst dX1_decade_8 ?_
    refine g_callV1I (d' := 2) lk_X1_65 hR.sh rfl (rm_lt (by decide) (by decide)) (Nat.le_of_ble_eq_true rfl) dX1_decade_9 ?_
    refine xo_refused hR ?_
    exact g_iret rfl dX1_decade_12 ⟨_, rfl, hQ _ _ _ (by unfold qDecade_; rw [if_neg (by omega)]) (hX0.e (XE_.rf) hlt) (XE_.rf)⟩
  · have hp1 : p = 1 := q.1
    have hX := q.2
    obtain ⟨hW, hD⟩ := hP.get hp1
    have hn := hW.n
    refine g_al0 dX1_decade_0 ?_
    refine f_getA 5 fk_X1_104 rfl hR.sh (fun _ _ => rfl) hX.f5 dX1_decade_1 ?_
    refine g_ifnonnull (tgt := 13) dX1_decade_4 (by decide) (fun _ h4 => ?_) (fun h4 => ?_)
    · refine g_il1 dX1_decade_13 ?_
      refine g_iconst dX1_decade_14 ?_
      refine g_ldcw (x := 65536) q1525 dX1_decade_15 (by decide) ?_
      refine g_callS3I (d' := 2) lk_X1_79 (rm_lt (by decide) (by decide)) (Nat.le_of_ble_eq_true rfl) dX1_decade_18 ?_
      refine xo_in (by omega) (by omega) (by omega) (fun x18 hx18 => ?_)
      refine g_if_eq (tgt := 34) dX1_decade_21 (by decide) (by omega) (fun h21 => ?_) (fun h21 => ?_)
      · refine g_al0 dX1_decade_34 ?_
        refine g_iconst dX1_decade_35 ?_
        refine g_callV1I (d' := 2) lk_X1_65 hR.sh rfl (rm_lt (by decide) (by decide)) (Nat.le_of_ble_eq_true rfl) dX1_decade_36 ?_
        refine xo_refused hR ?_
        exact g_iret rfl dX1_decade_39 ⟨_, rfl, hQ _ _ _ (by unfold qDecade_; rw [if_pos (by omega), if_neg (by omega)]) (hX0.e (XE_.rf) hlt) (XE_.rf)⟩
      refine g_il2 dX1_decade_24 ?_
      refine g_iconst dX1_decade_25 ?_
      refine g_bipush dX1_decade_26 (by decide) (by decide) ?_
      refine g_callS3I (d' := 2) lk_X1_79 (rm_lt (by decide) (by decide)) (Nat.le_of_ble_eq_true rfl) dX1_decade_28 ?_
      refine xo_in (by omega) (by omega) (by omega) (fun x28 hx28 => ?_)
      refine g_if_ne (tgt := 40) dX1_decade_31 (by decide) (by omega) (fun h31 => ?_) (fun h31 => ?_)
      · have hd9 := hD.n
        have L48 : ∀ (fu : Nat) (σ' : JH) (d0 : Int) (c : Int) (y : Int) (v6 : Option AV) (v7 : Option AV) (v8 : Option AV), ny - y < (fu : Int) → (Fr_ (fun b _ => b = X + 5) σ σ') → (0 ≤ y) → (y ≤ ny) → (0 ≤ d0 ∧ d0 ≤ 65536) → (0 ≤ c ∧ c ≤ 8 * y) → ((d0, c) = iI_ (fun y q => iI_ (df_ r s y) q (r 7)) (sd, 0) y) → GoM_ G 8 yX1_decade cX1_decade 9 (some .int) σ (fun v σ' => ∃ x : Int, v = some (I_ x) ∧ Q x σ') 48 [some (A_ (some X)), some (I_ sd), some (I_ ny), some (I_ d0), some (I_ c), some (I_ y), v6, v7, v8] [] σ' := by
          intro fu
          induction fu with
          | zero => intro σ' d0 c y v6 v7 v8 hn hF h0 h1 hd0 hc hv; exact absurd hn (by omega)
          | succ fu ih =>
            intro σ' d0 c y v6 v7 v8 hn hF h0 h1 hd0 hc hv
            have hR : XR_ G X σ' := hX.R.fr hF
            have hlt0 := hlt
            refine g_il5 dX1_decade_48 ?_
            refine g_il2 dX1_decade_50 ?_
            refine g_icmp_ge (tgt := 211) dX1_decade_51 (by decide) (by omega) (fun h51 => ?_) (fun h51 => ?_)
            · refine g_al0 dX1_decade_211 ?_
              refine g_il4 dX1_decade_212 ?_
              refine g_callV1I (d' := 2) lk_X1_69 hR.sh rfl (rm_lt (by decide) (by decide)) (Nat.le_of_ble_eq_true rfl) dX1_decade_214 ?_
              refine xo_well hR ?_
              exact g_iret rfl dX1_decade_217 ⟨_, rfl, hQ _ _ _ (by unfold qDecade_; rw [if_pos (by omega), if_pos (by omega), show ny = y by omega, ← hv]) (hX0.e (XE_.fr hF.x5) hlt0) (XE_.fr hF.x5)⟩
            have L57 : ∀ (fu2 : Nat) (σ2 : JH) (d0 : Int) (c : Int) (b : Int) (v7 : Option AV) (v8 : Option AV), r 7 - b < (fu2 : Int) → (Fr_ (fun b _ => b = X + 5) σ σ2) → (0 ≤ b) → (b ≤ r 7) → (0 ≤ d0 ∧ d0 ≤ 65536) → (0 ≤ c ∧ c ≤ 8 * y + b) → ((d0, c) = iI_ (df_ r s y) (iI_ (fun y q => iI_ (df_ r s y) q (r 7)) (sd, 0) y) b) → GoM_ G 8 yX1_decade cX1_decade 9 (some .int) σ (fun v σ' => ∃ x : Int, v = some (I_ x) ∧ Q x σ') 57 [some (A_ (some X)), some (I_ sd), some (I_ ny), some (I_ d0), some (I_ c), some (I_ y), some (I_ b), v7, v8] [] σ2 := by
              intro fu2
              induction fu2 with
              | zero => intro σ2 d0 c b v7 v8 hn hF g0 g1 gd gc gv; exact absurd hn (by omega)
              | succ fu2 ih2 =>
                intro σ2 d0 c b v7 v8 hn hF g0 g1 gd gc gv
                have hX := hX.xs hF.x5 hlt
                have hR := hX.R
                have hlt9 := hlt
                have hlt := lt_fr hlt hF
                refine g_il6 dX1_decade_57 ?_
                refine g_al0 dX1_decade_59 ?_
                refine f_getA 5 fk_X1_104 rfl hR.sh (fun _ _ => rfl) hX.f5 dX1_decade_60 ?_
                refine f_getA 7 fk_X1_134 rfl hX.P.sh (fun _ _ => rfl) hX.P.f7 dX1_decade_63 ?_
                refine g_callV0I (d' := 2) lk_X1_127 hX.P.l3.1 rfl (rm_lt (by decide) (by decide)) (Nat.le_of_ble_eq_true rfl) dX1_decade_66 ?_
                refine js_size hX.P.l3 ?_
                refine g_icmp_ge (tgt := 205) dX1_decade_69 (by decide) (by omega) (fun h69 => ?_) (fun h69 => ?_)
                · refine g_inc5 dX1_decade_205 (by decide) rfl ?_
                  refine g_goto (tgt := 48) dX1_decade_208 (by decide) ?_
                  exact ih _ _ _ _ _ _ _ (by omega) hF (by omega) (by omega) (by omega) (by omega) (by rw [iI_s _ _ h0]; rw [show b = r 7 by omega] at gv; exact gv)
                refine g_al0 dX1_decade_72 ?_
                refine g_il6 dX1_decade_73 ?_
                refine g_callV1I (d' := 6) lk_X1_206 hR.sh rfl (rm_lt (by decide) (by decide)) (Nat.le_of_ble_eq_true rfl) dX1_decade_75 ?_
                have hbl := bl_in (r := r) (b := b) hW (by omega) (by omega)
                have hbw := hW.box (b := b) (by omega) (by omega)
                refine xo_sungNotes hX hW hD (by omega) ?_
                refine g_is7 dX1_decade_78 (by decide) rfl ?_
                refine g_al0 dX1_decade_80 ?_
                refine f_getA 6 fk_X1_111 rfl hR.sh (fun _ _ => rfl) hX.f6 dX1_decade_81 ?_
                refine f_getA 4 fk_X1_209 rfl hX.K.sh (fun _ _ => rfl) hX.K.f4 dX1_decade_84 ?_
                refine g_bipush dX1_decade_87 (by decide) (by decide) ?_
                refine g_il6 dX1_decade_89 ?_
                refine g_imul dX1_decade_91 ?_
                refine g_al0 dX1_decade_92 ?_
                refine f_getA 10 fk_X1_31 rfl hR.sh (fun _ _ => rfl) hR.f10 dX1_decade_93 ?_
                refine g_iconst dX1_decade_96 ?_
                refine g_il7 dX1_decade_97 ?_
                refine g_acp (t := 0) (by decide) q1354 hX.K.a4 hR.a10 hR.g10 (by omega) (by omega) (fun j _ _ => rfl) (rm_64 (by decide)) (Nat.le_of_ble_eq_true rfl) dX1_decade_99 ?_
                have hFc : Fr_ (fun b _ => b = X + 5) σ2 (pb_ σ2 (X + 5) 0 (bl_ r b) (fun j => iv_ σ2 (xD_ T + 5) (6 * b + j))) := ⟨fun _ => rfl, fun _ _ => rfl, rfl, rfl, fun b j q => by rw [iv_pb, if_neg (by omega)]⟩
                have hcp : ∀ k, 0 ≤ k → k < bl_ r b → iv_ (pb_ σ2 (X + 5) 0 (bl_ r b) (fun j => iv_ σ2 (xD_ T + 5) (6 * b + j))) (X + 5) k = rb_ s b (-1) 0 k := fun k k0 k1 => by
                  rw [iv_pb, if_pos ⟨rfl, k0, by omega⟩, show 6 * b + (k - 0) = 6 * b + k by omega]
                  exact (rb_row hX hW hD (b := b) (by omega) k k0 k1).1
                generalize (pb_ σ2 (X + 5) 0 (bl_ r b) (fun j => iv_ σ2 (xD_ T + 5) (6 * b + j))) = σc at hFc hcp ⊢
                have hrb := rb_row hX hW hD (b := b) (by omega)
                have hX := hX.xs hFc.x5 hlt
                have hR := hX.R
                have hlt := lt_fr hlt hFc
                have hF := hF.tr hFc
                refine g_il3 dX1_decade_102 ?_
                refine g_callS1I (d' := 2) lk_X1_408 (rm_lt (by decide) (by decide)) (Nat.le_of_ble_eq_true rfl) dX1_decade_103 ?_
                refine xo_drawn (by omega) ?_
                have n1 := nx_in d0
                refine g_is3 dX1_decade_106 (by decide) rfl ?_
                refine g_il3 dX1_decade_107 ?_
                refine g_bipush dX1_decade_108 (by decide) (by decide) ?_
                refine g_irem dX1_decade_110 (by omega) ?_
                have hmd : 0 ≤ nx_ d0 % 100 ∧ nx_ d0 % 100 < 100 := by omega
                refine g_al0 dX1_decade_111 ?_
                refine f_getA 5 fk_X1_104 rfl hR.sh (fun _ _ => rfl) hX.f5 dX1_decade_112 ?_
                refine f_getv 3 fk_X1_411 rfl hX.P.sh (fun _ _ => rfl) hX.P.n3 dX1_decade_115 ?_
                refine g_icmp_ge (tgt := 153) dX1_decade_118 (by decide) (by omega) (fun h118 => ?_) (fun h118 => ?_)
                · refine g_il4 dX1_decade_153 ?_
                  refine g_al0 dX1_decade_155 ?_
                  refine f_getA 5 fk_X1_104 rfl hR.sh (fun _ _ => rfl) hX.f5 dX1_decade_156 ?_
                  refine g_al0 dX1_decade_159 ?_
                  refine f_getA 10 fk_X1_31 rfl hR.sh (fun _ _ => rfl) hR.f10 dX1_decade_160 ?_
                  refine g_iconst dX1_decade_163 ?_
                  refine g_il7 dX1_decade_164 ?_
                  refine g_al0 dX1_decade_166 ?_
                  refine f_getA 6 fk_X1_111 rfl hR.sh (fun _ _ => rfl) hX.f6 dX1_decade_167 ?_
                  refine f_getv 5 fk_X1_199 rfl hX.K.sh (fun _ _ => rfl) hX.K.y dX1_decade_170 ?_
                  refine g_il5 dX1_decade_173 ?_
                  refine g_iadd dX1_decade_175 ?_
                  refine g_callV4I (d' := 7) lk_X1_212 hX.P.sh rfl (rm_lt (by decide) (by decide)) (Nat.le_of_ble_eq_true rfl) dX1_decade_176 ?_
                  refine xp_heard hX.P hW hbl (by omega) hR.a10 (ρ := rb_ s b (-1) 0) (fun k k0 k1 => ⟨by rw [show (0 : Int) + k = k by omega]; exact hcp k k0 k1, (hrb k k0 k1).2⟩) (by omega) ?_
                  have hhd := hd_in (r := r) (row := rb_ s b (-1) 0) (L := bl_ r b) (y := s 0 + y) (by omega)
                  refine g_al0 dX1_decade_179 ?_
                  refine g_il6 dX1_decade_180 ?_
                  refine g_callV1A (d' := 5) lk_X1_171 hR.sh rfl (rm_lt (by decide) (by decide)) (Nat.le_of_ble_eq_true rfl) dX1_decade_182 ?_
                  refine xo_boxOf hX hW hD (by omega) ?_
                  have hBx := hX.P.box (b := b) (by omega) (by omega)
                  have hbw := hW.box (b := b) (by omega) (by omega)
                  refine f_getv 2 fk_X1_178 rfl hBx.1 (fun _ _ => rfl) hBx.2.2.2.1 dX1_decade_185 ?_
                  refine g_icmp_ne (tgt := 195) dX1_decade_188 (by decide) (by omega) (fun h188 => ?_) (fun h188 => ?_)
                  · refine g_iconst dX1_decade_195 ?_
                    refine g_iadd dX1_decade_196 ?_
                    refine g_top (show _ = c + dg_ r s y b (-1) 0 by unfold dg_; rw [if_neg (by omega)]) ?_
                    have hdg := dg_in r s y b (-1) 0
                    refine g_is4 dX1_decade_197 (by decide) rfl ?_
                    refine g_inc6 dX1_decade_199 (by decide) rfl ?_
                    refine g_goto (tgt := 57) dX1_decade_202 (by decide) ?_
                    refine ih2 _ _ _ _ _ _ (by omega) hF (by omega) (by omega) (by omega) (by omega) ?_
                    rw [iI_s _ _ g0, ← gv]
                    unfold df_
                    dsimp only
                    rw [if_neg (by omega)]
                  refine g_iconst dX1_decade_191 ?_
                  refine g_goto (tgt := 196) dX1_decade_192 (by decide) ?_
                  refine g_iadd dX1_decade_196 ?_
                  refine g_top (show _ = c + dg_ r s y b (-1) 0 by unfold dg_; rw [if_pos (by omega)]) ?_
                  have hdg := dg_in r s y b (-1) 0
                  refine g_is4 dX1_decade_197 (by decide) rfl ?_
                  refine g_inc6 dX1_decade_199 (by decide) rfl ?_
                  refine g_goto (tgt := 57) dX1_decade_202 (by decide) ?_
                  refine ih2 _ _ _ _ _ _ (by omega) hF (by omega) (by omega) (by omega) (by omega) ?_
                  rw [iI_s _ _ g0, ← gv]
                  unfold df_
                  dsimp only
                  rw [if_neg (by omega)]
                refine g_il3 dX1_decade_121 ?_
                refine g_callS1I (d' := 2) lk_X1_408 (rm_lt (by decide) (by decide)) (Nat.le_of_ble_eq_true rfl) dX1_decade_122 ?_
                refine xo_drawn (by omega) ?_
                have n2 := nx_in (nx_ d0)
                refine g_is3 dX1_decade_125 (by decide) rfl ?_
                refine g_il3 dX1_decade_126 ?_
                refine g_il7 dX1_decade_127 ?_
                refine g_irem dX1_decade_129 (by omega) ?_
                refine g_nm fun wh hwh => ?_
                have hwh2 : 0 ≤ wh ∧ wh < bl_ r b := by rw [hwh]; exact ⟨Int.emod_nonneg _ (by omega), Int.emod_lt_of_pos _ (by omega)⟩
                refine g_is8 dX1_decade_130 (by decide) rfl ?_
                refine g_il3 dX1_decade_132 ?_
                refine g_callS1I (d' := 2) lk_X1_408 (rm_lt (by decide) (by decide)) (Nat.le_of_ble_eq_true rfl) dX1_decade_133 ?_
                refine xo_drawn (by omega) ?_
                have n3 := nx_in (nx_ (nx_ d0))
                refine g_is3 dX1_decade_136 (by decide) rfl ?_
                refine g_al0 dX1_decade_137 ?_
                refine f_getA 10 fk_X1_31 rfl hR.sh (fun _ _ => rfl) hR.f10 dX1_decade_138 ?_
                refine g_il8 dX1_decade_141 ?_
                refine g_il3 dX1_decade_143 ?_
                refine g_al0 dX1_decade_144 ?_
                refine f_getA 5 fk_X1_104 rfl hR.sh (fun _ _ => rfl) hX.f5 dX1_decade_145 ?_
                refine f_getv 0 fk_X1_259 rfl hX.P.sh (fun _ _ => rfl) hX.P.n0 dX1_decade_148 ?_
                refine g_irem dX1_decade_151 (by omega) ?_
                refine g_nm fun ot hot => ?_
                have hot2 : 0 ≤ ot ∧ ot < r 0 := by rw [hot]; exact ⟨Int.emod_nonneg _ (by omega), Int.emod_lt_of_pos _ (by omega)⟩
                refine g_iast hR.a10 hR.g10 (by omega) dX1_decade_152 ?_
                have hFp : Fr_ (fun b _ => b = X + 5) σc (pi_ σc (X + 5) wh ot) := Fr_.rf.pi rfl
                have hX := hX.xs hFp.x5 hlt
                have hR := hX.R
                have hlt := lt_fr hlt hFp
                have hF := hF.tr hFp
                refine g_il4 dX1_decade_153 ?_
                refine g_al0 dX1_decade_155 ?_
                refine f_getA 5 fk_X1_104 rfl hR.sh (fun _ _ => rfl) hX.f5 dX1_decade_156 ?_
                refine g_al0 dX1_decade_159 ?_
                refine f_getA 10 fk_X1_31 rfl hR.sh (fun _ _ => rfl) hR.f10 dX1_decade_160 ?_
                refine g_iconst dX1_decade_163 ?_
                refine g_il7 dX1_decade_164 ?_
                refine g_al0 dX1_decade_166 ?_
                refine f_getA 6 fk_X1_111 rfl hR.sh (fun _ _ => rfl) hX.f6 dX1_decade_167 ?_
                refine f_getv 5 fk_X1_199 rfl hX.K.sh (fun _ _ => rfl) hX.K.y dX1_decade_170 ?_
                refine g_il5 dX1_decade_173 ?_
                refine g_iadd dX1_decade_175 ?_
                refine g_callV4I (d' := 7) lk_X1_212 hX.P.sh rfl (rm_lt (by decide) (by decide)) (Nat.le_of_ble_eq_true rfl) dX1_decade_176 ?_
                refine xp_heard hX.P hW hbl (by omega) hR.a10 (ρ := rb_ s b wh ot) (fun k k0 k1 => by rw [show (0 : Int) + k = k by omega, iv_pi]; by_cases hk : k = wh; (subst hk; rw [if_pos ⟨rfl, rfl⟩, show rb_ s b k ot k = ot from if_pos rfl]; exact ⟨rfl, by omega, by omega⟩); (rw [if_neg (fun q => hk q.2), show rb_ s b wh ot k = rb_ s b (-1) 0 k by (unfold rb_; rw [if_neg hk, if_neg (by omega)])]; exact ⟨hcp k k0 k1, (hrb k k0 k1).2⟩)) (by omega) ?_
                have hhd := hd_in (r := r) (row := rb_ s b wh ot) (L := bl_ r b) (y := s 0 + y) (by omega)
                refine g_al0 dX1_decade_179 ?_
                refine g_il6 dX1_decade_180 ?_
                refine g_callV1A (d' := 5) lk_X1_171 hR.sh rfl (rm_lt (by decide) (by decide)) (Nat.le_of_ble_eq_true rfl) dX1_decade_182 ?_
                refine xo_boxOf hX hW hD (by omega) ?_
                have hBx := hX.P.box (b := b) (by omega) (by omega)
                have hbw := hW.box (b := b) (by omega) (by omega)
                refine f_getv 2 fk_X1_178 rfl hBx.1 (fun _ _ => rfl) hBx.2.2.2.1 dX1_decade_185 ?_
                refine g_icmp_ne (tgt := 195) dX1_decade_188 (by decide) (by omega) (fun h188 => ?_) (fun h188 => ?_)
                · refine g_iconst dX1_decade_195 ?_
                  refine g_iadd dX1_decade_196 ?_
                  refine g_top (show _ = c + dg_ r s y b wh ot by unfold dg_; rw [if_neg (by omega)]) ?_
                  have hdg := dg_in r s y b wh ot
                  refine g_is4 dX1_decade_197 (by decide) rfl ?_
                  refine g_inc6 dX1_decade_199 (by decide) rfl ?_
                  refine g_goto (tgt := 57) dX1_decade_202 (by decide) ?_
                  refine ih2 _ _ _ _ _ _ (by omega) hF (by omega) (by omega) (by omega) (by omega) ?_
                  rw [iI_s _ _ g0, ← gv]
                  unfold df_
                  dsimp only
                  rw [if_pos (by omega), ← hwh, ← hot]
                refine g_iconst dX1_decade_191 ?_
                refine g_goto (tgt := 196) dX1_decade_192 (by decide) ?_
                refine g_iadd dX1_decade_196 ?_
                refine g_top (show _ = c + dg_ r s y b wh ot by unfold dg_; rw [if_pos (by omega)]) ?_
                have hdg := dg_in r s y b wh ot
                refine g_is4 dX1_decade_197 (by decide) rfl ?_
                refine g_inc6 dX1_decade_199 (by decide) rfl ?_
                refine g_goto (tgt := 57) dX1_decade_202 (by decide) ?_
                refine ih2 _ _ _ _ _ _ (by omega) hF (by omega) (by omega) (by omega) (by omega) ?_
                rw [iI_s _ _ g0, ← gv]
                unfold df_
                dsimp only
                rw [if_pos (by omega), ← hwh, ← hot]
            refine g_iconst dX1_decade_54 ?_
            refine g_is6 dX1_decade_55 (by decide) rfl ?_
            exact L57 ((r 7).toNat + 1) _ _ _ _ _ _ (by omega) hF (by omega) (by omega) (by omega) (by omega) hv
        refine g_il1 dX1_decade_40 ?_
        refine g_is3 dX1_decade_41 (by decide) rfl ?_
        refine g_iconst dX1_decade_42 ?_
        refine g_is4 dX1_decade_43 (by decide) rfl ?_
        refine g_iconst dX1_decade_45 ?_
        refine g_is5 dX1_decade_46 (by decide) rfl ?_
        exact L48 (ny.toNat + 1) _ _ _ _ _ _ _ (by omega) Fr_.rf (by omega) (by omega) (by omega) (by omega) rfl
      refine g_al0 dX1_decade_34 ?_
      refine g_iconst dX1_decade_35 ?_
      refine g_callV1I (d' := 2) lk_X1_65 hR.sh rfl (rm_lt (by decide) (by decide)) (Nat.le_of_ble_eq_true rfl) dX1_decade_36 ?_
      refine xo_refused hR ?_
      exact g_iret rfl dX1_decade_39 ⟨_, rfl, hQ _ _ _ (by unfold qDecade_; rw [if_pos (by omega), if_neg (by omega)]) (hX0.e (XE_.rf) hlt) (XE_.rf)⟩
    cases h4
end
