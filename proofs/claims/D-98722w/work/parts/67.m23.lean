/-! THE REFERENCE: lines of whales, boxes, spouts; a line. Written by mod/m67.py -/
set_option maxRecDepth 100000
section
variable {G : JG} {m : Nat} {σ : JH}
theorem mp_whaleLine  {Q : JH → Prop} (hX0 : RB_ G m σ) (hc : iv_ σ m 13 = 0 → iv_ σ (m + 4) 6 < 5)
    (hQ : Q (hl_ m σ)) : CallV_ G 12 yX2_whaleLine cX2_whaleLine 3 none [A_ (some m)] σ Q := by
  refine call_go [some (A_ (some m)), none, none] (by decide) (Nat.le_of_ble_eq_true rfl) rfl ?_
  have hR := hX0.1
  have hq0 := hX0.2.1.2.2.1
  refine g_al0 dX2_whaleLine_0 ?_
  refine f_getI 13 fk_X2_100 rfl hR.sh (fun _ _ => rfl) dX2_whaleLine_1 ?_
  refine g_if_eq (tgt := 8) dX2_whaleLine_4 (by decide) (by omega) (fun h4 => ?_) (fun h4 => ?_)
  · refine g_bipush dX2_whaleLine_8 (by decide) (by decide) ?_
    refine g_iconst dX2_whaleLine_10 ?_
    refine g_al0 dX2_whaleLine_11 ?_
    refine f_getA 16 fk_X2_23 rfl hR.sh (fun _ _ => rfl) hR.f16 dX2_whaleLine_12 ?_
    refine g_bipush dX2_whaleLine_15 (by decide) (by decide) ?_
    refine g_iald hR.a16 (by omega) dX2_whaleLine_17 ?_
    have hi0 := hX0.c4 (k := 6) (by decide) (by decide)
    have hi1 := hc (by omega)
    refine g_imul dX2_whaleLine_18 ?_
    refine g_iadd dX2_whaleLine_19 ?_
    refine g_is1 dX2_whaleLine_20 (by decide) rfl ?_
    refine g_al0 dX2_whaleLine_21 ?_
    refine g_bipush dX2_whaleLine_22 (by decide) (by decide) ?_
    refine g_al0 dX2_whaleLine_24 ?_
    refine f_getA 16 fk_X2_23 rfl hR.sh (fun _ _ => rfl) hR.f16 dX2_whaleLine_25 ?_
    refine g_bipush dX2_whaleLine_28 (by decide) (by decide) ?_
    refine g_iald hR.a16 (by omega) dX2_whaleLine_30 ?_
    refine g_iadd dX2_whaleLine_31 ?_
    refine g_callV1V (d' := 9) lk_X2_223 hR.sh rfl (rm_lt (by decide) (by decide)) (Nat.le_of_ble_eq_true rfl) dX2_whaleLine_32 ?_
    refine mp_newName hX0 (by omega) (fun σ1 e1 hX1 hA1 => ?_)
    have hR := hX1.1
    have J88 : ∀ k : Int, k = kd_ m σ1 → GoM_ G 12 yX2_whaleLine cX2_whaleLine 3 none σ (fun v σ' => v = none ∧ Q σ') 88 [some (A_ (some m)), some (I_ (107 + 4 * iv_ σ (m + 4) 6)), none] [I_ k] σ1 := by
      intro k hk
      have k3 : k ≤ 3 ∧ -1 ≤ k := by
        rw [hk]
        unfold kd_
        repeat' split
        all_goals omega
      refine g_is2 dX2_whaleLine_88 (by decide) rfl ?_
      refine g_il2 dX2_whaleLine_89 ?_
      refine g_if_ge (tgt := 102) dX2_whaleLine_90 (by decide) (by omega) (fun h90 => ?_) (fun h90 => ?_)
      · have h130 : iv_ σ1 m 13 = 0 := Classical.byContradiction fun q => by
          have : kd_ m σ1 = -1 := by
            unfold kd_
            rw [if_neg (fun w => q (iw_13 w).1), if_neg (fun w => q (iw_13 w).1), if_neg (fun w => q (iw_13 w).1), if_neg (fun w => q (iw_13 w).1)]
          omega
        refine g_al0 dX2_whaleLine_102 ?_
        refine f_getv 13 fk_X2_100 rfl hR.sh (fun _ _ => rfl) h130 dX2_whaleLine_103 ?_
        refine g_if_eq (tgt := 110) dX2_whaleLine_106 (by decide) (by omega) (fun h106 => ?_) (fun h106 => ?_)
        · refine g_al0 dX2_whaleLine_110 ?_
          refine g_callV0V (d' := 3) lk_X2_121 hR.sh rfl (rm_lt (by decide) (by decide)) (Nat.le_of_ble_eq_true rfl) dX2_whaleLine_111 ?_
          refine mp_next hX1 (fun σ2 e2 hX2 hA2 => ?_)
          have hR := hX2.1
          refine g_al0 dX2_whaleLine_114 ?_
          refine f_getA 16 fk_X2_23 rfl hR.sh (fun _ _ => rfl) hR.f16 dX2_whaleLine_115 ?_
          refine g_il1 dX2_whaleLine_118 ?_
          refine g_il2 dX2_whaleLine_119 ?_
          refine g_iast hR.a16 hR.g16 (by omega) dX2_whaleLine_120 ?_
          generalize g3 : pi_ σ2 (m + 4) (107 + 4 * iv_ σ (m + 4) 6) (k) = σ3
          have hX3 : RB_ G m σ3 := by rw [← g3]; exact hX2.p4 (by omega)
          have hR := hX3.1
          refine g_al0 dX2_whaleLine_121 ?_
          refine f_getA 16 fk_X2_23 rfl hR.sh (fun _ _ => rfl) hR.f16 dX2_whaleLine_122 ?_
          refine g_il1 dX2_whaleLine_125 ?_
          refine g_iconst dX2_whaleLine_126 ?_
          refine g_iadd dX2_whaleLine_127 ?_
          refine g_al0 dX2_whaleLine_128 ?_
          refine g_ldcS (j := 16) rfl dX2_whaleLine_129 ?_
          refine g_callV1I (d' := 11) lk_X2_246 hR.sh rfl (rm_lt (by decide) (by decide)) (Nat.le_of_ble_eq_true rfl) dX2_whaleLine_131 ?_
          obtain ⟨v3, hS3, -, -⟩ := hX3.2.2.2 16 _ rfl
          refine mp_behind (w := "at") hX3 hS3 (fun x4 σ4 e4 f4 hX4 hA4 hb4 => ?_)
          have hR := hX4.1
          refine g_iast hR.a16 hR.g16 (by omega) dX2_whaleLine_134 ?_
          generalize g5 : pi_ σ4 (m + 4) (107 + 4 * iv_ σ (m + 4) 6 + 1) x4 = σ5
          have hX5 : RB_ G m σ5 := by rw [← g5]; exact hX4.p4 (by omega)
          have hR := hX5.1
          have p5 : σ5 = pq_ m σ3 (107 + 4 * iv_ σ (m + 4) 6 + 1) "at" := by rw [← g5, e4, f4]; rfl
          refine g_al0 dX2_whaleLine_135 ?_
          refine f_getA 16 fk_X2_23 rfl hR.sh (fun _ _ => rfl) hR.f16 dX2_whaleLine_136 ?_
          refine g_il1 dX2_whaleLine_139 ?_
          refine g_iconst dX2_whaleLine_140 ?_
          refine g_iadd dX2_whaleLine_141 ?_
          refine g_al0 dX2_whaleLine_142 ?_
          refine g_ldcS (j := 17) rfl dX2_whaleLine_143 ?_
          refine g_iconst dX2_whaleLine_145 ?_
          refine g_bipush dX2_whaleLine_146 (by decide) (by decide) ?_
          refine g_callV3I (d' := 10) lk_X2_213 hR.sh rfl (rm_lt (by decide) (by decide)) (Nat.le_of_ble_eq_true rfl) dX2_whaleLine_148 ?_
          obtain ⟨v5, hS5, -, -⟩ := hX5.2.2.2 17 _ rfl
          refine mp_after (w := "keeps") hX5 hS5 (by omega) (by omega) (fun x6 σ6 e6 f6 hX6 hA6 hb6 => ?_)
          have hR := hX6.1
          refine g_iast hR.a16 hR.g16 (by omega) dX2_whaleLine_151 ?_
          generalize g7 : pi_ σ6 (m + 4) (107 + 4 * iv_ σ (m + 4) 6 + 2) x6 = σ7
          have hX7 : RB_ G m σ7 := by rw [← g7]; exact hX6.p4 (by omega)
          have hR := hX7.1
          have p7 : σ7 = ps_ m σ5 (107 + 4 * iv_ σ (m + 4) 6 + 2) "keeps" 0 99 := by rw [← g7, e6, f6]; rfl
          refine g_al0 dX2_whaleLine_152 ?_
          refine f_getA 16 fk_X2_23 rfl hR.sh (fun _ _ => rfl) hR.f16 dX2_whaleLine_153 ?_
          refine g_il1 dX2_whaleLine_156 ?_
          refine g_iconst dX2_whaleLine_157 ?_
          refine g_iadd dX2_whaleLine_158 ?_
          refine g_al0 dX2_whaleLine_159 ?_
          refine g_ldcS (j := 18) rfl dX2_whaleLine_160 ?_
          refine g_iconst dX2_whaleLine_162 ?_
          refine g_bipush dX2_whaleLine_163 (by decide) (by decide) ?_
          refine g_callV3I (d' := 10) lk_X2_213 hR.sh rfl (rm_lt (by decide) (by decide)) (Nat.le_of_ble_eq_true rfl) dX2_whaleLine_165 ?_
          obtain ⟨v7, hS7, -, -⟩ := hX7.2.2.2 18 _ rfl
          refine mp_after (w := "lost") hX7 hS7 (by omega) (by omega) (fun x8 σ8 e8 f8 hX8 hA8 hb8 => ?_)
          have hR := hX8.1
          refine g_iast hR.a16 hR.g16 (by omega) dX2_whaleLine_168 ?_
          generalize g9 : pi_ σ8 (m + 4) (107 + 4 * iv_ σ (m + 4) 6 + 3) x8 = σ9
          have hX9 : RB_ G m σ9 := by rw [← g9]; exact hX8.p4 (by omega)
          have hR := hX9.1
          have p9 : σ9 = ps_ m σ7 (107 + 4 * iv_ σ (m + 4) 6 + 3) "lost" 0 99 := by rw [← g9, e8, f8]; rfl
          have hz : σ9 = hl2_ m σ1 (107 + 4 * iv_ σ (m + 4) 6) k := by rw [p9, p7, p5, ← g3, e2]; rfl
          have hq9 := hX9.2.1.2.2.1
          have e96 : iv_ σ9 (m + 4) 6 = iv_ σ (m + 4) 6 := by
            rw [hz]
            unfold hl2_
            rw [ps_4, if_neg (by omega), ps_4, if_neg (by omega), pq_4, if_neg (by omega), p4_4, if_neg (by omega), nxt_4, e1, nna_4 hX0.2.1 (by omega) (by decide)]
          refine g_al0 dX2_whaleLine_169 ?_
          refine f_getI 13 fk_X2_100 rfl hR.sh (fun _ _ => rfl) dX2_whaleLine_170 ?_
          refine g_if_ne (tgt := 187) dX2_whaleLine_173 (by decide) (by omega) (fun h173 => ?_) (fun h173 => ?_)
          · exact g_vret rfl dX2_whaleLine_187 ⟨rfl, by unfold hl_ hl1_ at hQ; rw [if_pos (by omega), ← e1, if_neg (by omega), ← hk, ← hz] at hQ; unfold mor_ at hQ; rw [if_neg (by omega)] at hQ; exact hQ⟩
          refine g_al0 dX2_whaleLine_176 ?_
          refine f_getA 16 fk_X2_23 rfl hR.sh (fun _ _ => rfl) hR.f16 dX2_whaleLine_177 ?_
          refine g_bipush dX2_whaleLine_180 (by decide) (by decide) ?_
          refine g_dup2 dX2_whaleLine_182 rfl rfl ?_
          refine g_iald hR.a16 (by omega) dX2_whaleLine_183 ?_
          refine g_iconst dX2_whaleLine_184 ?_
          refine g_iadd dX2_whaleLine_185 ?_
          refine g_iast hR.a16 hR.g16 (by omega) dX2_whaleLine_186 ?_
          exact g_vret rfl dX2_whaleLine_187 ⟨rfl, by unfold hl_ hl1_ at hQ; rw [if_pos (by omega), ← e1, if_neg (by omega), ← hk, ← hz] at hQ; unfold mor_ at hQ; rw [if_pos (by omega)] at hQ; exact hQ⟩
        exact absurd rfl h106
      refine g_al0 dX2_whaleLine_93 ?_
      refine g_iconst dX2_whaleLine_94 ?_
      refine g_al0 dX2_whaleLine_95 ?_
      refine f_getI 4 fk_X2_81 rfl hR.sh (fun _ _ => rfl) dX2_whaleLine_96 ?_
      refine g_callV2V (d' := 2) lk_X2_127 hR.sh rfl (rm_lt (by decide) (by decide)) (Nat.le_of_ble_eq_true rfl) dX2_whaleLine_99 ?_
      refine mp_wrong hX1 (fun σ2 e2 hX2 hA2 h13 => ?_)
      have hR := hX2.1
      refine g_al0 dX2_whaleLine_102 ?_
      refine f_getv 13 fk_X2_100 rfl hR.sh (fun _ _ => rfl) h13 dX2_whaleLine_103 ?_
      refine g_if_eq (tgt := 110) dX2_whaleLine_106 (by decide) (by omega) (fun h106 => ?_) (fun h106 => ?_)
      · exact absurd h106 (by decide)
      exact g_vret rfl dX2_whaleLine_109 ⟨rfl, by unfold hl_ hl1_ at hQ; rw [if_pos (by omega), ← e1, if_pos (by omega), ← e2] at hQ; exact hQ⟩
    refine g_al0 dX2_whaleLine_35 ?_
    refine g_ldcS (j := 12) rfl dX2_whaleLine_36 ?_
    refine g_callV1I (d' := 7) lk_X2_117 hR.sh rfl (rm_lt (by decide) (by decide)) (Nat.le_of_ble_eq_true rfl) dX2_whaleLine_38 ?_
    obtain ⟨v10, hS10, -, -⟩ := hX1.2.2.2 12 _ rfl
    refine mo_isWord hX1.1 hX1.2.1 hS10 (fun za hza => ?_)
    refine g_if_eq (tgt := 48) dX2_whaleLine_41 (by decide) (by omega) (fun h41 => ?_) (fun h41 => ?_)
    · refine g_al0 dX2_whaleLine_48 ?_
      refine g_ldcS (j := 13) rfl dX2_whaleLine_49 ?_
      refine g_callV1I (d' := 7) lk_X2_117 hR.sh rfl (rm_lt (by decide) (by decide)) (Nat.le_of_ble_eq_true rfl) dX2_whaleLine_51 ?_
      obtain ⟨v11, hS11, -, -⟩ := hX1.2.2.2 13 _ rfl
      refine mo_isWord hX1.1 hX1.2.1 hS11 (fun zb hzb => ?_)
      refine g_if_eq (tgt := 61) dX2_whaleLine_54 (by decide) (by omega) (fun h54 => ?_) (fun h54 => ?_)
      · refine g_al0 dX2_whaleLine_61 ?_
        refine g_ldcS (j := 14) rfl dX2_whaleLine_62 ?_
        refine g_callV1I (d' := 7) lk_X2_117 hR.sh rfl (rm_lt (by decide) (by decide)) (Nat.le_of_ble_eq_true rfl) dX2_whaleLine_64 ?_
        obtain ⟨v12, hS12, -, -⟩ := hX1.2.2.2 14 _ rfl
        refine mo_isWord hX1.1 hX1.2.1 hS12 (fun zc hzc => ?_)
        refine g_if_eq (tgt := 74) dX2_whaleLine_67 (by decide) (by omega) (fun h67 => ?_) (fun h67 => ?_)
        · refine g_al0 dX2_whaleLine_74 ?_
          refine g_ldcS (j := 15) rfl dX2_whaleLine_75 ?_
          refine g_callV1I (d' := 7) lk_X2_117 hR.sh rfl (rm_lt (by decide) (by decide)) (Nat.le_of_ble_eq_true rfl) dX2_whaleLine_77 ?_
          obtain ⟨v13, hS13, -, -⟩ := hX1.2.2.2 15 _ rfl
          refine mo_isWord hX1.1 hX1.2.1 hS13 (fun zd hzd => ?_)
          refine g_if_eq (tgt := 87) dX2_whaleLine_80 (by decide) (by omega) (fun h80 => ?_) (fun h80 => ?_)
          · refine g_iconst dX2_whaleLine_87 ?_
            exact J88 _ (by unfold kd_; rw [if_neg (by rcases hza with q | q; (omega); (rw [q.2]; decide)), if_neg (by rcases hzb with q | q; (omega); (rw [q.2]; decide)), if_neg (by rcases hzc with q | q; (omega); (rw [q.2]; decide)), if_neg (by rcases hzd with q | q; (omega); (rw [q.2]; decide))])
          refine g_iconst dX2_whaleLine_83 ?_
          refine g_goto (tgt := 88) dX2_whaleLine_84 (by decide) ?_
          exact J88 _ (by unfold kd_; rw [if_neg (by rcases hza with q | q; (omega); (rw [q.2]; decide)), if_neg (by rcases hzb with q | q; (omega); (rw [q.2]; decide)), if_neg (by rcases hzc with q | q; (omega); (rw [q.2]; decide)), if_pos (by rcases hzd with q | q; (exact q.2); (omega))])
        refine g_iconst dX2_whaleLine_70 ?_
        refine g_goto (tgt := 88) dX2_whaleLine_71 (by decide) ?_
        exact J88 _ (by unfold kd_; rw [if_neg (by rcases hza with q | q; (omega); (rw [q.2]; decide)), if_neg (by rcases hzb with q | q; (omega); (rw [q.2]; decide)), if_pos (by rcases hzc with q | q; (exact q.2); (omega))])
      refine g_iconst dX2_whaleLine_57 ?_
      refine g_goto (tgt := 88) dX2_whaleLine_58 (by decide) ?_
      exact J88 _ (by unfold kd_; rw [if_neg (by rcases hza with q | q; (omega); (rw [q.2]; decide)), if_pos (by rcases hzb with q | q; (exact q.2); (omega))])
    refine g_iconst dX2_whaleLine_44 ?_
    refine g_goto (tgt := 88) dX2_whaleLine_45 (by decide) ?_
    exact J88 _ (by unfold kd_; rw [if_pos (by rcases hza with q | q; (exact q.2); (omega))])
  exact g_vret rfl dX2_whaleLine_7 ⟨rfl, by unfold hl_ at hQ; rw [if_neg (by omega)] at hQ; exact hQ⟩
theorem mp_boxLine  {Q : JH → Prop} (hX0 : RB_ G m σ) (hc : iv_ σ m 13 = 0 → iv_ σ (m + 4) 7 < 8)
    (hQ : Q (bl2_ m σ)) : CallV_ G 12 yX2_boxLine cX2_boxLine 2 none [A_ (some m)] σ Q := by
  refine call_go [some (A_ (some m)), none] (by decide) (Nat.le_of_ble_eq_true rfl) rfl ?_
  have hR := hX0.1
  have hq0 := hX0.2.1.2.2.1
  refine g_al0 dX2_boxLine_0 ?_
  refine f_getI 13 fk_X2_100 rfl hR.sh (fun _ _ => rfl) dX2_boxLine_1 ?_
  refine g_if_eq (tgt := 8) dX2_boxLine_4 (by decide) (by omega) (fun h4 => ?_) (fun h4 => ?_)
  · refine g_bipush dX2_boxLine_8 (by decide) (by decide) ?_
    refine g_iconst dX2_boxLine_10 ?_
    refine g_al0 dX2_boxLine_11 ?_
    refine f_getA 16 fk_X2_23 rfl hR.sh (fun _ _ => rfl) hR.f16 dX2_boxLine_12 ?_
    refine g_bipush dX2_boxLine_15 (by decide) (by decide) ?_
    refine g_iald hR.a16 (by omega) dX2_boxLine_17 ?_
    have hi0 := hX0.c4 (k := 7) (by decide) (by decide)
    have hi1 := hc (by omega)
    refine g_imul dX2_boxLine_18 ?_
    refine g_iadd dX2_boxLine_19 ?_
    refine g_is1 dX2_boxLine_20 (by decide) rfl ?_
    refine g_al0 dX2_boxLine_21 ?_
    refine g_bipush dX2_boxLine_22 (by decide) (by decide) ?_
    refine g_al0 dX2_boxLine_24 ?_
    refine f_getA 16 fk_X2_23 rfl hR.sh (fun _ _ => rfl) hR.f16 dX2_boxLine_25 ?_
    refine g_bipush dX2_boxLine_28 (by decide) (by decide) ?_
    refine g_iald hR.a16 (by omega) dX2_boxLine_30 ?_
    refine g_iadd dX2_boxLine_31 ?_
    refine g_callV1V (d' := 9) lk_X2_223 hR.sh rfl (rm_lt (by decide) (by decide)) (Nat.le_of_ble_eq_true rfl) dX2_boxLine_32 ?_
    refine mp_newName hX0 (by omega) (fun σ1 e1 hX1 hA1 => ?_)
    have hR := hX1.1
    refine g_al0 dX2_boxLine_35 ?_
    refine f_getA 16 fk_X2_23 rfl hR.sh (fun _ _ => rfl) hR.f16 dX2_boxLine_36 ?_
    refine g_il1 dX2_boxLine_39 ?_
    refine g_al0 dX2_boxLine_40 ?_
    refine g_ldcS (j := 19) rfl dX2_boxLine_41 ?_
    refine g_callV1I (d' := 11) lk_X2_246 hR.sh rfl (rm_lt (by decide) (by decide)) (Nat.le_of_ble_eq_true rfl) dX2_boxLine_43 ?_
    obtain ⟨v1, hS1, -, -⟩ := hX1.2.2.2 19 _ rfl
    refine mp_behind (w := "from") hX1 hS1 (fun x2 σ2 e2 f2 hX2 hA2 hb2 => ?_)
    have hR := hX2.1
    refine g_iast hR.a16 hR.g16 (by omega) dX2_boxLine_46 ?_
    generalize g3 : pi_ σ2 (m + 4) (127 + 4 * iv_ σ (m + 4) 7) x2 = σ3
    have hX3 : RB_ G m σ3 := by rw [← g3]; exact hX2.p4 (by omega)
    have hR := hX3.1
    have p3 : σ3 = pq_ m σ1 (127 + 4 * iv_ σ (m + 4) 7) "from" := by rw [← g3, e2, f2]; rfl
    refine g_al0 dX2_boxLine_47 ?_
    refine f_getA 16 fk_X2_23 rfl hR.sh (fun _ _ => rfl) hR.f16 dX2_boxLine_48 ?_
    refine g_il1 dX2_boxLine_51 ?_
    refine g_iconst dX2_boxLine_52 ?_
    refine g_iadd dX2_boxLine_53 ?_
    refine g_al0 dX2_boxLine_54 ?_
    refine g_ldcSw (j := 20) rfl dX2_boxLine_55 ?_
    refine g_callV1I (d' := 11) lk_X2_246 hR.sh rfl (rm_lt (by decide) (by decide)) (Nat.le_of_ble_eq_true rfl) dX2_boxLine_58 ?_
    obtain ⟨v3, hS3, -, -⟩ := hX3.2.2.2 20 _ rfl
    refine mp_behind (w := "to") hX3 hS3 (fun x4 σ4 e4 f4 hX4 hA4 hb4 => ?_)
    have hR := hX4.1
    refine g_iast hR.a16 hR.g16 (by omega) dX2_boxLine_61 ?_
    generalize g5 : pi_ σ4 (m + 4) (127 + 4 * iv_ σ (m + 4) 7 + 1) x4 = σ5
    have hX5 : RB_ G m σ5 := by rw [← g5]; exact hX4.p4 (by omega)
    have hR := hX5.1
    have p5 : σ5 = pq_ m σ3 (127 + 4 * iv_ σ (m + 4) 7 + 1) "to" := by rw [← g5, e4, f4]; rfl
    refine g_al0 dX2_boxLine_62 ?_
    refine f_getA 16 fk_X2_23 rfl hR.sh (fun _ _ => rfl) hR.f16 dX2_boxLine_63 ?_
    refine g_il1 dX2_boxLine_66 ?_
    refine g_iconst dX2_boxLine_67 ?_
    refine g_iadd dX2_boxLine_68 ?_
    refine g_al0 dX2_boxLine_69 ?_
    refine g_ldcSw (j := 21) rfl dX2_boxLine_70 ?_
    refine g_iconst dX2_boxLine_73 ?_
    refine g_bipush dX2_boxLine_74 (by decide) (by decide) ?_
    refine g_callV3I (d' := 10) lk_X2_213 hR.sh rfl (rm_lt (by decide) (by decide)) (Nat.le_of_ble_eq_true rfl) dX2_boxLine_76 ?_
    obtain ⟨v5, hS5, -, -⟩ := hX5.2.2.2 21 _ rfl
    refine mp_after (w := "weighs") hX5 hS5 (by omega) (by omega) (fun x6 σ6 e6 f6 hX6 hA6 hb6 => ?_)
    have hR := hX6.1
    refine g_iast hR.a16 hR.g16 (by omega) dX2_boxLine_79 ?_
    generalize g7 : pi_ σ6 (m + 4) (127 + 4 * iv_ σ (m + 4) 7 + 2) x6 = σ7
    have hX7 : RB_ G m σ7 := by rw [← g7]; exact hX6.p4 (by omega)
    have hR := hX7.1
    have p7 : σ7 = ps_ m σ5 (127 + 4 * iv_ σ (m + 4) 7 + 2) "weighs" 1 99 := by rw [← g7, e6, f6]; rfl
    refine g_al0 dX2_boxLine_80 ?_
    refine f_getA 16 fk_X2_23 rfl hR.sh (fun _ _ => rfl) hR.f16 dX2_boxLine_81 ?_
    refine g_il1 dX2_boxLine_84 ?_
    refine g_iconst dX2_boxLine_85 ?_
    refine g_iadd dX2_boxLine_86 ?_
    refine g_al0 dX2_boxLine_87 ?_
    refine g_ldcSw (j := 22) rfl dX2_boxLine_88 ?_
    refine g_iconst dX2_boxLine_91 ?_
    refine g_sipush dX2_boxLine_92 (by decide) (by decide) ?_
    refine g_callV3I (d' := 10) lk_X2_213 hR.sh rfl (rm_lt (by decide) (by decide)) (Nat.le_of_ble_eq_true rfl) dX2_boxLine_95 ?_
    obtain ⟨v7, hS7, -, -⟩ := hX7.2.2.2 22 _ rfl
    refine mp_after (w := "day") hX7 hS7 (by omega) (by omega) (fun x8 σ8 e8 f8 hX8 hA8 hb8 => ?_)
    have hR := hX8.1
    refine g_iast hR.a16 hR.g16 (by omega) dX2_boxLine_98 ?_
    generalize g9 : pi_ σ8 (m + 4) (127 + 4 * iv_ σ (m + 4) 7 + 3) x8 = σ9
    have hX9 : RB_ G m σ9 := by rw [← g9]; exact hX8.p4 (by omega)
    have hR := hX9.1
    have p9 : σ9 = ps_ m σ7 (127 + 4 * iv_ σ (m + 4) 7 + 3) "day" 0 9999 := by rw [← g9, e8, f8]; rfl
    have hq9 := hX9.2.1.2.2.1
    have e97 : iv_ σ9 (m + 4) 7 = iv_ σ (m + 4) 7 := by
      rw [p9, ps_4, if_neg (by omega), p7, ps_4, if_neg (by omega), p5, pq_4, if_neg (by omega), p3, pq_4, if_neg (by omega), e1, nna_4 hX0.2.1 (by omega) (by decide)]
    refine g_al0 dX2_boxLine_99 ?_
    refine f_getI 13 fk_X2_100 rfl hR.sh (fun _ _ => rfl) dX2_boxLine_100 ?_
    refine g_if_ne (tgt := 117) dX2_boxLine_103 (by decide) (by omega) (fun h103 => ?_) (fun h103 => ?_)
    · exact g_vret rfl dX2_boxLine_117 ⟨rfl, by unfold bl2_ bl1_ at hQ; rw [if_pos (by omega), ← e1, ← p3, ← p5, ← p7, ← p9] at hQ; unfold mor_ at hQ; rw [if_neg (by omega)] at hQ; exact hQ⟩
    refine g_al0 dX2_boxLine_106 ?_
    refine f_getA 16 fk_X2_23 rfl hR.sh (fun _ _ => rfl) hR.f16 dX2_boxLine_107 ?_
    refine g_bipush dX2_boxLine_110 (by decide) (by decide) ?_
    refine g_dup2 dX2_boxLine_112 rfl rfl ?_
    refine g_iald hR.a16 (by omega) dX2_boxLine_113 ?_
    refine g_iconst dX2_boxLine_114 ?_
    refine g_iadd dX2_boxLine_115 ?_
    refine g_iast hR.a16 hR.g16 (by omega) dX2_boxLine_116 ?_
    exact g_vret rfl dX2_boxLine_117 ⟨rfl, by unfold bl2_ bl1_ at hQ; rw [if_pos (by omega), ← e1, ← p3, ← p5, ← p7, ← p9] at hQ; unfold mor_ at hQ; rw [if_pos (by omega)] at hQ; exact hQ⟩
  exact g_vret rfl dX2_boxLine_7 ⟨rfl, by unfold bl2_ at hQ; rw [if_neg (by omega)] at hQ; exact hQ⟩
theorem mp_spoutLine  {Q : JH → Prop} (hX0 : RB_ G m σ) (hc : iv_ σ m 13 = 0 → iv_ σ (m + 4) 8 < 8)
    (hQ : Q (sl_ m σ)) : CallV_ G 11 yX2_spoutLine cX2_spoutLine 6 none [A_ (some m)] σ Q := by
  refine call_go [some (A_ (some m)), none, none, none, none, none] (by decide) (Nat.le_of_ble_eq_true rfl) rfl ?_
  have hR := hX0.1
  have hq0 := hX0.2.1.2.2.1
  refine g_al0 dX2_spoutLine_0 ?_
  refine f_getI 13 fk_X2_100 rfl hR.sh (fun _ _ => rfl) dX2_spoutLine_1 ?_
  refine g_if_eq (tgt := 8) dX2_spoutLine_4 (by decide) (by omega) (fun h4 => ?_) (fun h4 => ?_)
  · refine g_sipush dX2_spoutLine_8 (by decide) (by decide) ?_
    refine g_iconst dX2_spoutLine_11 ?_
    refine g_al0 dX2_spoutLine_12 ?_
    refine f_getA 16 fk_X2_23 rfl hR.sh (fun _ _ => rfl) hR.f16 dX2_spoutLine_13 ?_
    refine g_bipush dX2_spoutLine_16 (by decide) (by decide) ?_
    refine g_iald hR.a16 (by omega) dX2_spoutLine_18 ?_
    have hi0 := hX0.c4 (k := 8) (by decide) (by decide)
    have hi1 := hc (by omega)
    refine g_imul dX2_spoutLine_19 ?_
    refine g_iadd dX2_spoutLine_20 ?_
    refine g_is1 dX2_spoutLine_21 (by decide) rfl ?_
    refine g_al0 dX2_spoutLine_22 ?_
    refine g_bipush dX2_spoutLine_23 (by decide) (by decide) ?_
    refine g_bipush dX2_spoutLine_25 (by decide) (by decide) ?_
    refine g_callV2I (d' := 9) lk_X2_153 hR.sh rfl (rm_lt (by decide) (by decide)) (Nat.le_of_ble_eq_true rfl) dX2_spoutLine_27 ?_
    refine mp_named hX0 (by omega) (by omega) (fun x1 σ1 e1 f1 hX1 hA1 hb1 => ?_)
    have hR := hX1.1
    have hq1 := hX1.2.1.2.2.1
    have J42 : ∀ σ2 : JH, σ2 = onn_ m σ1 → RB_ G m σ2 → iv_ σ2 (m + 4) 8 = iv_ σ (m + 4) 8 → GoM_ G 11 yX2_spoutLine cX2_spoutLine 6 none σ (fun v σ' => v = none ∧ Q σ') 42 [some (A_ (some m)), some (I_ (159 + 3 * iv_ σ (m + 4) 8)), some (I_ x1), none, none, none] [] σ2 := by
      intro σ2 e2 hX2 hs2
      have hR := hX2.1
      refine g_al0 dX2_spoutLine_42 ?_
      refine g_callV0I (d' := 10) lk_X2_161 hR.sh rfl (rm_lt (by decide) (by decide)) (Nat.le_of_ble_eq_true rfl) dX2_spoutLine_43 ?_
      refine mp_passed hX2 (fun x3 σ3 e3 f3 hX3 hA3 hb3 => ?_)
      have hR := hX3.1
      have hs3 : iv_ σ3 (m + 4) 8 = iv_ σ (m + 4) 8 := (hA3.1.f4 8).trans hs2
      have L53 : ∀ (n : Nat) (l : Int) (k : Int), iv_ σ3 (m + 4) 8 - k < (n : Int) → (0 ≤ k) → (k ≤ iv_ σ3 (m + 4) 8) → (l = iI_ (fun k a => if iv_ σ3 (m + 4) (159 + 3 * k) = x1 then iv_ σ3 (m + 4) (159 + 3 * k + 2) + 1 else a) 0 k) → GoM_ G 11 yX2_spoutLine cX2_spoutLine 6 none σ (fun v σ' => v = none ∧ Q σ') 53 [some (A_ (some m)), some (I_ (159 + 3 * iv_ σ (m + 4) 8)), some (I_ x1), some (I_ x3), some (I_ l), some (I_ k)] [] σ3 := by
        intro n
        induction n with
        | zero => intro l k hn g0 g1 gI; exact absurd hn (by omega)
        | succ n ih =>
          intro l k hn g0 g1 gI
          refine g_il5 dX2_spoutLine_53 ?_
          refine g_al0 dX2_spoutLine_55 ?_
          refine f_getA 16 fk_X2_23 rfl hR.sh (fun _ _ => rfl) hR.f16 dX2_spoutLine_56 ?_
          refine g_bipush dX2_spoutLine_59 (by decide) (by decide) ?_
          refine g_iald hR.a16 (by omega) dX2_spoutLine_61 ?_
          refine g_icmp_ge (tgt := 107) dX2_spoutLine_62 (by decide) (by omega) (fun h62 => ?_) (fun h62 => ?_)
          · have hlk : l = lst_ m σ3 x1 := by
              rw [gI]
              unfold lst_
              congr 1
              omega
            have hll := lst_in hX3 (by omega) x1
            refine g_al0 dX2_spoutLine_107 ?_
            refine g_ldcSw (j := 22) rfl dX2_spoutLine_108 ?_
            refine g_il4 dX2_spoutLine_111 ?_
            refine g_sipush dX2_spoutLine_113 (by decide) (by decide) ?_
            refine g_callV3I (d' := 10) lk_X2_213 hR.sh rfl (rm_lt (by decide) (by decide)) (Nat.le_of_ble_eq_true rfl) dX2_spoutLine_116 ?_
            obtain ⟨v3, hS3, -, -⟩ := hX3.2.2.2 22 _ rfl
            refine mp_after (w := "day") hX3 hS3 (by omega) (by omega) (fun x4 σ4 e4 f4 hX4 hA4 hb4 => ?_)
            have hR := hX4.1
            refine g_is5 dX2_spoutLine_119 (by decide) rfl ?_
            refine g_al0 dX2_spoutLine_121 ?_
            have hq4 := hX4.2.1.2.2.1
            refine f_getI 13 fk_X2_100 rfl hR.sh (fun _ _ => rfl) dX2_spoutLine_122 ?_
            refine g_if_eq (tgt := 129) dX2_spoutLine_125 (by decide) (by omega) (fun h125 => ?_) (fun h125 => ?_)
            · have hd := aw_ok (m := m) "day" hX3.2.1 (lo := l) (hi := 9999) (by rw [← f4]; omega)
              rw [← e4] at hd
              have e48 : iv_ σ4 (m + 4) 8 = iv_ σ (m + 4) 8 := (hA4.1.f4 8).trans hs3
              refine g_al0 dX2_spoutLine_129 ?_
              refine f_getA 16 fk_X2_23 rfl hR.sh (fun _ _ => rfl) hR.f16 dX2_spoutLine_130 ?_
              refine g_il1 dX2_spoutLine_133 ?_
              refine g_il2 dX2_spoutLine_134 ?_
              refine g_iast hR.a16 hR.g16 (by omega) dX2_spoutLine_135 ?_
              generalize g5 : pi_ σ4 (m + 4) (159 + 3 * iv_ σ (m + 4) 8) (x1) = σ5
              have hX5 : RB_ G m σ5 := by rw [← g5]; exact hX4.p4 (by omega)
              have hR := hX5.1
              refine g_al0 dX2_spoutLine_136 ?_
              refine f_getA 16 fk_X2_23 rfl hR.sh (fun _ _ => rfl) hR.f16 dX2_spoutLine_137 ?_
              refine g_il1 dX2_spoutLine_140 ?_
              refine g_iconst dX2_spoutLine_141 ?_
              refine g_iadd dX2_spoutLine_142 ?_
              refine g_il3 dX2_spoutLine_143 ?_
              refine g_iast hR.a16 hR.g16 (by omega) dX2_spoutLine_144 ?_
              generalize g6 : pi_ σ5 (m + 4) (159 + 3 * iv_ σ (m + 4) 8 + 1) (x3) = σ6
              have hX6 : RB_ G m σ6 := by rw [← g6]; exact hX5.p4 (by omega)
              have hR := hX6.1
              refine g_al0 dX2_spoutLine_145 ?_
              refine f_getA 16 fk_X2_23 rfl hR.sh (fun _ _ => rfl) hR.f16 dX2_spoutLine_146 ?_
              refine g_il1 dX2_spoutLine_149 ?_
              refine g_iconst dX2_spoutLine_150 ?_
              refine g_iadd dX2_spoutLine_151 ?_
              refine g_il5 dX2_spoutLine_152 ?_
              refine g_iast hR.a16 hR.g16 (by omega) dX2_spoutLine_154 ?_
              generalize g7 : pi_ σ6 (m + 4) (159 + 3 * iv_ σ (m + 4) 8 + 2) (x4) = σ7
              have hX7 : RB_ G m σ7 := by rw [← g7]; exact hX6.p4 (by omega)
              have hR := hX7.1
              refine g_al0 dX2_spoutLine_155 ?_
              refine f_getA 16 fk_X2_23 rfl hR.sh (fun _ _ => rfl) hR.f16 dX2_spoutLine_156 ?_
              refine g_bipush dX2_spoutLine_159 (by decide) (by decide) ?_
              refine g_dup2 dX2_spoutLine_161 rfl rfl ?_
              refine g_ialv hR.a16 (by omega) (show iv_ σ7 (m + 4) 8 = iv_ σ4 (m + 4) 8 by rw [← g7, p4_4, if_neg (by omega), ← g6, p4_4, if_neg (by omega), ← g5, p4_4, if_neg (by omega)]) dX2_spoutLine_162 ?_
              refine g_iconst dX2_spoutLine_163 ?_
              refine g_iadd dX2_spoutLine_164 ?_
              refine g_iast hR.a16 hR.g16 (by omega) dX2_spoutLine_165 ?_
              exact g_vret rfl dX2_spoutLine_166 ⟨rfl, by unfold sl_ sl1_ sl2_ at hQ; rw [if_pos (by omega), ← e1, ← f1, ← e2, ← e3, ← f3, ← hlk, ← e4, ← f4, if_pos (by omega)] at hQ; unfold sl3_ at hQ; rw [g5, g6, g7] at hQ; exact hQ⟩
            exact g_vret rfl dX2_spoutLine_128 ⟨rfl, by unfold sl_ sl1_ sl2_ at hQ; rw [if_pos (by omega), ← e1, ← f1, ← e2, ← e3, ← f3, ← hlk, ← e4, ← f4, if_neg (by omega)] at hQ; exact hQ⟩
          refine g_al0 dX2_spoutLine_65 ?_
          refine f_getA 16 fk_X2_23 rfl hR.sh (fun _ _ => rfl) hR.f16 dX2_spoutLine_66 ?_
          refine g_sipush dX2_spoutLine_69 (by decide) (by decide) ?_
          refine g_iconst dX2_spoutLine_72 ?_
          refine g_il5 dX2_spoutLine_73 ?_
          refine g_imul dX2_spoutLine_75 ?_
          refine g_iadd dX2_spoutLine_76 ?_
          have hc1 := hX3.c4 (k := 159 + 3 * k) (by omega) (by omega)
          refine g_iald hR.a16 (by omega) dX2_spoutLine_77 ?_
          refine g_il2 dX2_spoutLine_78 ?_
          refine g_icmp_ne (tgt := 101) dX2_spoutLine_79 (by decide) (by omega) (fun h79 => ?_) (fun h79 => ?_)
          · refine g_inc5 dX2_spoutLine_101 (by decide) rfl ?_
            refine g_goto (tgt := 53) dX2_spoutLine_104 (by decide) ?_
            refine ih _ _ (by omega) (by omega) (by omega) (by rw [iI_s _ _ g0, if_neg (by omega)]; exact gI)
          refine g_al0 dX2_spoutLine_82 ?_
          refine f_getA 16 fk_X2_23 rfl hR.sh (fun _ _ => rfl) hR.f16 dX2_spoutLine_83 ?_
          refine g_sipush dX2_spoutLine_86 (by decide) (by decide) ?_
          refine g_iconst dX2_spoutLine_89 ?_
          refine g_il5 dX2_spoutLine_90 ?_
          refine g_imul dX2_spoutLine_92 ?_
          refine g_iadd dX2_spoutLine_93 ?_
          refine g_iconst dX2_spoutLine_94 ?_
          refine g_iadd dX2_spoutLine_95 ?_
          have hc2 := hX3.c4 (k := 159 + 3 * k + 2) (by omega) (by omega)
          refine g_iald hR.a16 (by omega) dX2_spoutLine_96 ?_
          refine g_iconst dX2_spoutLine_97 ?_
          refine g_iadd dX2_spoutLine_98 ?_
          refine g_is4 dX2_spoutLine_99 (by decide) rfl ?_
          refine g_inc5 dX2_spoutLine_101 (by decide) rfl ?_
          refine g_goto (tgt := 53) dX2_spoutLine_104 (by decide) ?_
          refine ih _ _ (by omega) (by omega) (by omega) (by rw [iI_s _ _ g0, if_pos (by omega)])
      refine g_is3 dX2_spoutLine_46 (by decide) rfl ?_
      refine g_iconst dX2_spoutLine_47 ?_
      refine g_is4 dX2_spoutLine_48 (by decide) rfl ?_
      refine g_iconst dX2_spoutLine_50 ?_
      refine g_is5 dX2_spoutLine_51 (by decide) rfl ?_
      exact L53 9 _ _ (by omega) (by omega) (by omega) (iI_0 _ _).symm
    refine g_is2 dX2_spoutLine_30 (by decide) rfl ?_
    refine g_al0 dX2_spoutLine_31 ?_
    refine f_getI 13 fk_X2_100 rfl hR.sh (fun _ _ => rfl) dX2_spoutLine_32 ?_
    refine g_if_ne (tgt := 42) dX2_spoutLine_35 (by decide) (by omega) (fun h35 => ?_) (fun h35 => ?_)
    · exact J42 σ1 (by unfold onn_; rw [if_neg (by omega)]) hX1 (hA1.1.f4 8)
    refine g_al0 dX2_spoutLine_38 ?_
    refine g_callV0V (d' := 3) lk_X2_121 hR.sh rfl (rm_lt (by decide) (by decide)) (Nat.le_of_ble_eq_true rfl) dX2_spoutLine_39 ?_
    refine mp_next hX1 (fun σ2 e2 hX2 hA2 => ?_)
    have hR := hX2.1
    exact J42 σ2 (by unfold onn_; rw [if_pos (by omega)]; exact e2) hX2 ((hA2.1.f4 8).trans (hA1.1.f4 8))
  exact g_vret rfl dX2_spoutLine_7 ⟨rfl, by unfold sl_ at hQ; rw [if_neg (by omega)] at hQ; exact hQ⟩
theorem mp_readLine  {Q : JH → Prop} (hX0 : RB_ G m σ)
    (hQ : Q (rl_ m σ)) : CallV_ G 13 yX2_readLine cX2_readLine 1 none [A_ (some m)] σ Q := by
  refine call_go [some (A_ (some m))] (by decide) (Nat.le_of_ble_eq_true rfl) rfl ?_
  have hR := hX0.1
  have hq0 := hX0.2.1.2.2.1
  refine g_al0 dX2_readLine_0 ?_
  refine g_ldcS (j := 0) rfl dX2_readLine_1 ?_
  refine g_callV1I (d' := 7) lk_X2_117 hR.sh rfl (rm_lt (by decide) (by decide)) (Nat.le_of_ble_eq_true rfl) dX2_readLine_3 ?_
  obtain ⟨v0, hS0, -, -⟩ := hX0.2.2.2 0 _ rfl
  refine mo_isWord hX0.1 hX0.2.1 hS0 (fun z hz => ?_)
  refine g_if_eq (tgt := 16) dX2_readLine_6 (by decide) (by omega) (fun h6 => ?_) (fun h6 => ?_)
  · have nw0 : iw_ m σ (("post".length : Nat) : Int) (tx_ "post") = false := by rcases hz with q | q; (omega); (exact q.2)
    have B0 : ∀ can : Int, can = ca1_ (iv_ σ (m + 4) 4) 7 → GoM_ G 13 yX2_readLine cX2_readLine 1 none σ (fun v σ' => v = none ∧ Q σ') 35 [some (A_ (some m))] [I_ can, A_ (some (gK_ G 5)), A_ (some m)] σ := by
      intro can hcan
      have c01 : can = 0 ∨ can = 1 := by
        rw [hcan]
        unfold ca1_
        split <;> omega
      obtain ⟨vb0, hSb0, -, -⟩ := hX0.2.2.2 5 _ rfl
      refine g_callV2I (d' := 8) lk_X2_192 hR.sh rfl (rm_lt (by decide) (by decide)) (Nat.le_of_ble_eq_true rfl) dX2_readLine_35 ?_
      refine mp_begins hX0 hSb0 c01 (fun hw1 => ?_) (fun nw1 => ?_)
      · subst hcan
        have hR := (bgs_RS hX0 (ca1_ (iv_ σ (m + 4) 4) 7)).1.1
        refine g_if_eq (tgt := 48) dX2_readLine_38 (by decide) (by omega) (fun h38 => ?_) (fun h38 => ?_)
        · exact absurd h38 (by decide)
        refine g_al0 dX2_readLine_41 ?_
        refine g_callV0V (d' := 10) lk_X2_196 hR.sh rfl (rm_lt (by decide) (by decide)) (Nat.le_of_ble_eq_true rfl) dX2_readLine_42 ?_
        refine mp_islandLine (bgs_RS hX0 _).1 (bgs_lt (iw_13 hw1).1 rfl) ?_
        refine g_goto (tgt := 187) dX2_readLine_45 (by decide) ?_
        exact g_vret rfl dX2_readLine_187 ⟨rfl, by unfold rl_ at hQ; rw [if_neg (by rw [nw0]; decide), if_pos hw1] at hQ; exact hQ⟩
      · refine g_if_eq (tgt := 48) dX2_readLine_38 (by decide) (by omega) (fun h38 => ?_) (fun h38 => ?_)
        · have B1 : ∀ can : Int, can = ca1_ (iv_ σ (m + 4) 5) 12 → GoM_ G 13 yX2_readLine cX2_readLine 1 none σ (fun v σ' => v = none ∧ Q σ') 67 [some (A_ (some m))] [I_ can, A_ (some (gK_ G 6)), A_ (some m)] σ := by
            intro can hcan
            have c01 : can = 0 ∨ can = 1 := by
              rw [hcan]
              unfold ca1_
              split <;> omega
            obtain ⟨vb1, hSb1, -, -⟩ := hX0.2.2.2 6 _ rfl
            refine g_callV2I (d' := 8) lk_X2_192 hR.sh rfl (rm_lt (by decide) (by decide)) (Nat.le_of_ble_eq_true rfl) dX2_readLine_67 ?_
            refine mp_begins hX0 hSb1 c01 (fun hw2 => ?_) (fun nw2 => ?_)
            · subst hcan
              have hR := (bgs_RS hX0 (ca1_ (iv_ σ (m + 4) 5) 12)).1.1
              refine g_if_eq (tgt := 80) dX2_readLine_70 (by decide) (by omega) (fun h70 => ?_) (fun h70 => ?_)
              · exact absurd h70 (by decide)
              refine g_al0 dX2_readLine_73 ?_
              refine g_callV0V (d' := 11) lk_X2_199 hR.sh rfl (rm_lt (by decide) (by decide)) (Nat.le_of_ble_eq_true rfl) dX2_readLine_74 ?_
              refine mp_wayLine (bgs_RS hX0 _).1 (bgs_lt (iw_13 hw2).1 rfl) ?_
              refine g_goto (tgt := 187) dX2_readLine_77 (by decide) ?_
              exact g_vret rfl dX2_readLine_187 ⟨rfl, by unfold rl_ at hQ; rw [if_neg (by rw [nw0]; decide), if_neg (by rw [nw1]; decide), if_pos hw2] at hQ; exact hQ⟩
            · refine g_if_eq (tgt := 80) dX2_readLine_70 (by decide) (by omega) (fun h70 => ?_) (fun h70 => ?_)
              · have B2 : ∀ can : Int, can = ca1_ (iv_ σ (m + 4) 6) 5 → GoM_ G 13 yX2_readLine cX2_readLine 1 none σ (fun v σ' => v = none ∧ Q σ') 99 [some (A_ (some m))] [I_ can, A_ (some (gK_ G 7)), A_ (some m)] σ := by
                  intro can hcan
                  have c01 : can = 0 ∨ can = 1 := by
                    rw [hcan]
                    unfold ca1_
                    split <;> omega
                  obtain ⟨vb2, hSb2, -, -⟩ := hX0.2.2.2 7 _ rfl
                  refine g_callV2I (d' := 8) lk_X2_192 hR.sh rfl (rm_lt (by decide) (by decide)) (Nat.le_of_ble_eq_true rfl) dX2_readLine_99 ?_
                  refine mp_begins hX0 hSb2 c01 (fun hw3 => ?_) (fun nw3 => ?_)
                  · subst hcan
                    have hR := (bgs_RS hX0 (ca1_ (iv_ σ (m + 4) 6) 5)).1.1
                    refine g_if_eq (tgt := 112) dX2_readLine_102 (by decide) (by omega) (fun h102 => ?_) (fun h102 => ?_)
                    · exact absurd h102 (by decide)
                    refine g_al0 dX2_readLine_105 ?_
                    refine g_callV0V (d' := 12) lk_X2_202 hR.sh rfl (rm_lt (by decide) (by decide)) (Nat.le_of_ble_eq_true rfl) dX2_readLine_106 ?_
                    refine mp_whaleLine (bgs_RS hX0 _).1 (bgs_lt (iw_13 hw3).1 rfl) ?_
                    refine g_goto (tgt := 187) dX2_readLine_109 (by decide) ?_
                    exact g_vret rfl dX2_readLine_187 ⟨rfl, by unfold rl_ at hQ; rw [if_neg (by rw [nw0]; decide), if_neg (by rw [nw1]; decide), if_neg (by rw [nw2]; decide), if_pos hw3] at hQ; exact hQ⟩
                  · refine g_if_eq (tgt := 112) dX2_readLine_102 (by decide) (by omega) (fun h102 => ?_) (fun h102 => ?_)
                    · have B3 : ∀ can : Int, can = ca1_ (iv_ σ (m + 4) 7) 8 → GoM_ G 13 yX2_readLine cX2_readLine 1 none σ (fun v σ' => v = none ∧ Q σ') 132 [some (A_ (some m))] [I_ can, A_ (some (gK_ G 8)), A_ (some m)] σ := by
                        intro can hcan
                        have c01 : can = 0 ∨ can = 1 := by
                          rw [hcan]
                          unfold ca1_
                          split <;> omega
                        obtain ⟨vb3, hSb3, -, -⟩ := hX0.2.2.2 8 _ rfl
                        refine g_callV2I (d' := 8) lk_X2_192 hR.sh rfl (rm_lt (by decide) (by decide)) (Nat.le_of_ble_eq_true rfl) dX2_readLine_132 ?_
                        refine mp_begins hX0 hSb3 c01 (fun hw4 => ?_) (fun nw4 => ?_)
                        · subst hcan
                          have hR := (bgs_RS hX0 (ca1_ (iv_ σ (m + 4) 7) 8)).1.1
                          refine g_if_eq (tgt := 145) dX2_readLine_135 (by decide) (by omega) (fun h135 => ?_) (fun h135 => ?_)
                          · exact absurd h135 (by decide)
                          refine g_al0 dX2_readLine_138 ?_
                          refine g_callV0V (d' := 12) lk_X2_205 hR.sh rfl (rm_lt (by decide) (by decide)) (Nat.le_of_ble_eq_true rfl) dX2_readLine_139 ?_
                          refine mp_boxLine (bgs_RS hX0 _).1 (bgs_lt (iw_13 hw4).1 rfl) ?_
                          refine g_goto (tgt := 187) dX2_readLine_142 (by decide) ?_
                          exact g_vret rfl dX2_readLine_187 ⟨rfl, by unfold rl_ at hQ; rw [if_neg (by rw [nw0]; decide), if_neg (by rw [nw1]; decide), if_neg (by rw [nw2]; decide), if_neg (by rw [nw3]; decide), if_pos hw4] at hQ; exact hQ⟩
                        · refine g_if_eq (tgt := 145) dX2_readLine_135 (by decide) (by omega) (fun h135 => ?_) (fun h135 => ?_)
                          · have B4 : ∀ can : Int, can = ca1_ (iv_ σ (m + 4) 8) 8 → GoM_ G 13 yX2_readLine cX2_readLine 1 none σ (fun v σ' => v = none ∧ Q σ') 165 [some (A_ (some m))] [I_ can, A_ (some (gK_ G 9)), A_ (some m)] σ := by
                              intro can hcan
                              have c01 : can = 0 ∨ can = 1 := by
                                rw [hcan]
                                unfold ca1_
                                split <;> omega
                              obtain ⟨vb4, hSb4, -, -⟩ := hX0.2.2.2 9 _ rfl
                              refine g_callV2I (d' := 8) lk_X2_192 hR.sh rfl (rm_lt (by decide) (by decide)) (Nat.le_of_ble_eq_true rfl) dX2_readLine_165 ?_
                              refine mp_begins hX0 hSb4 c01 (fun hw5 => ?_) (fun nw5 => ?_)
                              · subst hcan
                                have hR := (bgs_RS hX0 (ca1_ (iv_ σ (m + 4) 8) 8)).1.1
                                refine g_if_eq (tgt := 178) dX2_readLine_168 (by decide) (by omega) (fun h168 => ?_) (fun h168 => ?_)
                                · exact absurd h168 (by decide)
                                refine g_al0 dX2_readLine_171 ?_
                                refine g_callV0V (d' := 11) lk_X2_208 hR.sh rfl (rm_lt (by decide) (by decide)) (Nat.le_of_ble_eq_true rfl) dX2_readLine_172 ?_
                                refine mp_spoutLine (bgs_RS hX0 _).1 (bgs_lt (iw_13 hw5).1 rfl) ?_
                                refine g_goto (tgt := 187) dX2_readLine_175 (by decide) ?_
                                exact g_vret rfl dX2_readLine_187 ⟨rfl, by unfold rl_ at hQ; rw [if_neg (by rw [nw0]; decide), if_neg (by rw [nw1]; decide), if_neg (by rw [nw2]; decide), if_neg (by rw [nw3]; decide), if_neg (by rw [nw4]; decide), if_pos hw5] at hQ; exact hQ⟩
                              · refine g_if_eq (tgt := 178) dX2_readLine_168 (by decide) (by omega) (fun h168 => ?_) (fun h168 => ?_)
                                · refine g_al0 dX2_readLine_178 ?_
                                  refine g_iconst dX2_readLine_179 ?_
                                  refine g_al0 dX2_readLine_180 ?_
                                  refine f_getI 4 fk_X2_81 rfl hR.sh (fun _ _ => rfl) dX2_readLine_181 ?_
                                  refine g_callV2V (d' := 2) lk_X2_127 hR.sh rfl (rm_lt (by decide) (by decide)) (Nat.le_of_ble_eq_true rfl) dX2_readLine_184 ?_
                                  refine mp_wrong hX0 (fun σ1 e1 hX1 hA1 h13 => ?_)
                                  exact g_vret rfl dX2_readLine_187 ⟨rfl, by unfold rl_ at hQ; rw [if_neg (by rw [nw0]; decide), if_neg (by rw [nw1]; decide), if_neg (by rw [nw2]; decide), if_neg (by rw [nw3]; decide), if_neg (by rw [nw4]; decide), if_neg (by rw [nw5]; decide), ← e1] at hQ; exact hQ⟩
                                exact absurd rfl h168
                            refine g_al0 dX2_readLine_145 ?_
                            refine g_ldcS (j := 9) rfl dX2_readLine_146 ?_
                            refine g_al0 dX2_readLine_148 ?_
                            refine f_getA 16 fk_X2_23 rfl hR.sh (fun _ _ => rfl) hR.f16 dX2_readLine_149 ?_
                            refine g_bipush dX2_readLine_152 (by decide) (by decide) ?_
                            have hb8 := hX0.c4 (k := 8) (by decide) (by decide)
                            refine g_iald hR.a16 (by omega) dX2_readLine_154 ?_
                            refine g_bipush dX2_readLine_155 (by decide) (by decide) ?_
                            refine g_icmp_ge (tgt := 164) dX2_readLine_157 (by decide) (by omega) (fun h157 => ?_) (fun h157 => ?_)
                            · refine g_iconst dX2_readLine_164 ?_
                              exact B4 _ (by unfold ca1_; rw [if_neg (by omega)])
                            refine g_iconst dX2_readLine_160 ?_
                            refine g_goto (tgt := 165) dX2_readLine_161 (by decide) ?_
                            exact B4 _ (by unfold ca1_; rw [if_pos (by omega)])
                          exact absurd rfl h135
                      refine g_al0 dX2_readLine_112 ?_
                      refine g_ldcS (j := 8) rfl dX2_readLine_113 ?_
                      refine g_al0 dX2_readLine_115 ?_
                      refine f_getA 16 fk_X2_23 rfl hR.sh (fun _ _ => rfl) hR.f16 dX2_readLine_116 ?_
                      refine g_bipush dX2_readLine_119 (by decide) (by decide) ?_
                      have hb7 := hX0.c4 (k := 7) (by decide) (by decide)
                      refine g_iald hR.a16 (by omega) dX2_readLine_121 ?_
                      refine g_bipush dX2_readLine_122 (by decide) (by decide) ?_
                      refine g_icmp_ge (tgt := 131) dX2_readLine_124 (by decide) (by omega) (fun h124 => ?_) (fun h124 => ?_)
                      · refine g_iconst dX2_readLine_131 ?_
                        exact B3 _ (by unfold ca1_; rw [if_neg (by omega)])
                      refine g_iconst dX2_readLine_127 ?_
                      refine g_goto (tgt := 132) dX2_readLine_128 (by decide) ?_
                      exact B3 _ (by unfold ca1_; rw [if_pos (by omega)])
                    exact absurd rfl h102
                refine g_al0 dX2_readLine_80 ?_
                refine g_ldcS (j := 7) rfl dX2_readLine_81 ?_
                refine g_al0 dX2_readLine_83 ?_
                refine f_getA 16 fk_X2_23 rfl hR.sh (fun _ _ => rfl) hR.f16 dX2_readLine_84 ?_
                refine g_bipush dX2_readLine_87 (by decide) (by decide) ?_
                have hb6 := hX0.c4 (k := 6) (by decide) (by decide)
                refine g_iald hR.a16 (by omega) dX2_readLine_89 ?_
                refine g_iconst dX2_readLine_90 ?_
                refine g_icmp_ge (tgt := 98) dX2_readLine_91 (by decide) (by omega) (fun h91 => ?_) (fun h91 => ?_)
                · refine g_iconst dX2_readLine_98 ?_
                  exact B2 _ (by unfold ca1_; rw [if_neg (by omega)])
                refine g_iconst dX2_readLine_94 ?_
                refine g_goto (tgt := 99) dX2_readLine_95 (by decide) ?_
                exact B2 _ (by unfold ca1_; rw [if_pos (by omega)])
              exact absurd rfl h70
          refine g_al0 dX2_readLine_48 ?_
          refine g_ldcS (j := 6) rfl dX2_readLine_49 ?_
          refine g_al0 dX2_readLine_51 ?_
          refine f_getA 16 fk_X2_23 rfl hR.sh (fun _ _ => rfl) hR.f16 dX2_readLine_52 ?_
          refine g_iconst dX2_readLine_55 ?_
          have hb5 := hX0.c4 (k := 5) (by decide) (by decide)
          refine g_iald hR.a16 (by omega) dX2_readLine_56 ?_
          refine g_bipush dX2_readLine_57 (by decide) (by decide) ?_
          refine g_icmp_ge (tgt := 66) dX2_readLine_59 (by decide) (by omega) (fun h59 => ?_) (fun h59 => ?_)
          · refine g_iconst dX2_readLine_66 ?_
            exact B1 _ (by unfold ca1_; rw [if_neg (by omega)])
          refine g_iconst dX2_readLine_62 ?_
          refine g_goto (tgt := 67) dX2_readLine_63 (by decide) ?_
          exact B1 _ (by unfold ca1_; rw [if_pos (by omega)])
        exact absurd rfl h38
    refine g_al0 dX2_readLine_16 ?_
    refine g_ldcS (j := 5) rfl dX2_readLine_17 ?_
    refine g_al0 dX2_readLine_19 ?_
    refine f_getA 16 fk_X2_23 rfl hR.sh (fun _ _ => rfl) hR.f16 dX2_readLine_20 ?_
    refine g_iconst dX2_readLine_23 ?_
    have hb4 := hX0.c4 (k := 4) (by decide) (by decide)
    refine g_iald hR.a16 (by omega) dX2_readLine_24 ?_
    refine g_bipush dX2_readLine_25 (by decide) (by decide) ?_
    refine g_icmp_ge (tgt := 34) dX2_readLine_27 (by decide) (by omega) (fun h27 => ?_) (fun h27 => ?_)
    · refine g_iconst dX2_readLine_34 ?_
      exact B0 _ (by unfold ca1_; rw [if_neg (by omega)])
    refine g_iconst dX2_readLine_30 ?_
    refine g_goto (tgt := 35) dX2_readLine_31 (by decide) ?_
    exact B0 _ (by unfold ca1_; rw [if_pos (by omega)])
  refine g_al0 dX2_readLine_9 ?_
  refine g_callV0V (d' := 11) lk_X2_189 hR.sh rfl (rm_lt (by decide) (by decide)) (Nat.le_of_ble_eq_true rfl) dX2_readLine_10 ?_
  have hw : iw_ m σ (("post".length : Nat) : Int) (tx_ "post") = true := by rcases hz with q | q; (exact q.2); (omega)
  refine mp_postLine hX0 (iw_13 hw).1 ?_
  refine g_goto (tgt := 187) dX2_readLine_13 (by decide) ?_
  exact g_vret rfl dX2_readLine_187 ⟨rfl, by unfold rl_ at hQ; rw [if_pos hw] at hQ; exact hQ⟩
end
