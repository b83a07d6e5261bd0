/-! THE REFERENCE: an island's line, a way's line. Written by mod/m66.py -/
set_option maxRecDepth 100000
section
variable {G : JG} {m : Nat} {σ : JH}
theorem mp_islandLine  {Q : JH → Prop} (hX0 : RB_ G m σ) (hc : iv_ σ m 13 = 0 → iv_ σ (m + 4) 4 < 7)
    (hQ : Q (il_ m σ)) : CallV_ G 10 yX2_islandLine cX2_islandLine 6 none [A_ (some m)] σ Q := by
  refine call_go [some (A_ (some m)), none, none, none, none, none] (by decide) (Nat.le_of_ble_eq_true rfl) rfl ?_
  have hR := hX0.1
  have hq0 := hX0.2.1.2.2.1
  refine g_al0 dX2_islandLine_0 ?_
  refine f_getI 13 fk_X2_100 rfl hR.sh (fun _ _ => rfl) dX2_islandLine_1 ?_
  refine g_if_eq (tgt := 8) dX2_islandLine_4 (by decide) (by omega) (fun h4 => ?_) (fun h4 => ?_)
  · refine g_al0 dX2_islandLine_8 ?_
    refine f_getA 16 fk_X2_23 rfl hR.sh (fun _ _ => rfl) hR.f16 dX2_islandLine_9 ?_
    refine g_iconst dX2_islandLine_12 ?_
    refine g_iald hR.a16 (by omega) dX2_islandLine_13 ?_
    have hi0 := hX0.c4 (k := 4) (by decide) (by decide)
    have hi1 := hc (by omega)
    generalize hi : iv_ σ (m + 4) 4 = i at *
    refine g_is1 dX2_islandLine_14 (by decide) rfl ?_
    refine g_al0 dX2_islandLine_15 ?_
    refine g_il1 dX2_islandLine_16 ?_
    refine g_callV1V (d' := 9) lk_X2_223 hR.sh rfl (rm_lt (by decide) (by decide)) (Nat.le_of_ble_eq_true rfl) dX2_islandLine_17 ?_
    refine mp_newName hX0 (by omega) (fun σ1 e1 hX1 hA1 => ?_)
    have hR := hX1.1
    have hq1 := hX1.2.1.2.2.1
    have ht1 := hX1.2.1.2.2.2.2.1
    have J52 : iv_ σ1 m 13 = 0 → iv_ σ1 m 6 = 2 → GoM_ G 10 yX2_islandLine cX2_islandLine 6 none σ (fun v σ' => v = none ∧ Q σ') 52 [some (A_ (some m)), some (I_ i), none, none, none, none] [] σ1 := by
      intro h130 h26
      have hp8 := hX1.2.1.2.2.2.2.2.2.2 h26
      have L65 : ∀ (n : Nat) (z : Int) (k : Int), iv_ σ1 m 8 - k < (n : Int) → (0 ≤ k) → (k ≤ iv_ σ1 m 8) → ((z = 1 ∧ (2 ≤ iv_ σ1 m 8 ∧ iv_ σ1 m 8 ≤ 6) ∧ ∀ j : Int, 0 ≤ j → j < k → iv_ σ1 (m + 2) j - 97 < iv_ σ1 (m + 4) 0) ∨ (z = 0 ∧ sgi_ m σ1 = false)) → GoM_ G 10 yX2_islandLine cX2_islandLine 6 none σ (fun v σ' => v = none ∧ Q σ') 65 [some (A_ (some m)), some (I_ i), some (I_ z), some (I_ k), none, none] [] σ1 := by
        intro n
        induction n with
        | zero => intro z k hn g0 g1 gI; exact absurd hn (by omega)
        | succ n ih =>
          intro z k hn g0 g1 gI
          refine g_il3 dX2_islandLine_65 ?_
          refine g_al0 dX2_islandLine_66 ?_
          refine f_getI 8 fk_X2_84 rfl hR.sh (fun _ _ => rfl) dX2_islandLine_67 ?_
          refine g_icmp_ge (tgt := 107) dX2_islandLine_70 (by decide) (by omega) (fun h70 => ?_) (fun h70 => ?_)
          · have hz : (z = 1 ∧ sgi_ m σ1 = true) ∨ (z = 0 ∧ sgi_ m σ1 = false) := by
              rcases gI with q | q
              · refine Or.inl ⟨q.1, ?_⟩
                unfold sgi_
                rw [Bool.and_eq_true, al_iff (by omega)]
                exact ⟨decide_eq_true q.2.1, fun j j0 j1 => decide_eq_true (q.2.2 j j0 (by omega))⟩
              · exact Or.inr q
            have L112 : ∀ (n : Nat) (t : Int) (j : Int), i - j < (n : Int) → (0 ≤ j) → (j ≤ i) → ((t = 1 ∧ tld_ m σ1 i = true) ∨ (t = 0 ∧ ∀ q, 0 ≤ q → q < j → sg1_ m σ1 q = false)) → GoM_ G 10 yX2_islandLine cX2_islandLine 6 none σ (fun v σ' => v = none ∧ Q σ') 112 [some (A_ (some m)), some (I_ i), some (I_ z), some (I_ t), some (I_ j), none] [] σ1 := by
              intro n
              induction n with
              | zero => intro t j hn k0 k1 gt; exact absurd hn (by omega)
              | succ n ih =>
                intro t j hn k0 k1 gt
                refine g_il4 dX2_islandLine_112 ?_
                refine g_il1 dX2_islandLine_114 ?_
                refine g_icmp_ge (tgt := 143) dX2_islandLine_115 (by decide) (by omega) (fun h115 => ?_) (fun h115 => ?_)
                · refine g_il3 dX2_islandLine_143 ?_
                  have ht01 : t = 0 ∨ t = 1 := by omega
                  refine g_if_eq (tgt := 159) dX2_islandLine_144 (by decide) (by omega) (fun h144 => ?_) (fun h144 => ?_)
                  · refine g_il2 dX2_islandLine_159 ?_
                    have hT : tld_ m σ1 i = false := by
                      rcases gt with q | q
                      · omega
                      · unfold tld_
                        rw [(al_iff (by omega)).mpr (fun j j0 j1 => by rw [q.2 j j0 (by omega)]; rfl)]
                        rfl
                    refine g_if_ne (tgt := 173) dX2_islandLine_160 (by decide) (by omega) (fun h160 => ?_) (fun h160 => ?_)
                    · refine g_al0 dX2_islandLine_173 ?_
                      refine f_getv 13 fk_X2_100 rfl hR.sh (fun _ _ => rfl) h130 dX2_islandLine_174 ?_
                      refine g_if_eq (tgt := 181) dX2_islandLine_177 (by decide) (by omega) (fun h177 => ?_) (fun h177 => ?_)
                      · have hG : sgi_ m σ1 = true := by
                          rcases hz with q | q
                          · exact q.2
                          · omega
                        have hn6 : iv_ σ1 m 8 ≤ 6 := by
                          unfold sgi_ at hG
                          rw [Bool.and_eq_true] at hG
                          exact (of_decide_eq_true hG.1).2
                        have hXs := (psg_RS hX1 h26 i).1
                        refine g_bipush dX2_islandLine_181 (by decide) (by decide) ?_
                        refine g_bipush dX2_islandLine_183 (by decide) (by decide) ?_
                        refine g_il1 dX2_islandLine_185 ?_
                        refine g_imul dX2_islandLine_186 ?_
                        refine g_iadd dX2_islandLine_187 ?_
                        refine g_is4 dX2_islandLine_188 (by decide) rfl ?_
                        refine g_al0 dX2_islandLine_190 ?_
                        refine f_getA 16 fk_X2_23 rfl hR.sh (fun _ _ => rfl) hR.f16 dX2_islandLine_191 ?_
                        refine g_il4 dX2_islandLine_194 ?_
                        refine g_al0 dX2_islandLine_196 ?_
                        refine f_getI 8 fk_X2_84 rfl hR.sh (fun _ _ => rfl) dX2_islandLine_197 ?_
                        refine g_iast hR.a16 hR.g16 (by omega) dX2_islandLine_200 ?_
                        refine g_iconst dX2_islandLine_201 ?_
                        refine g_is5 dX2_islandLine_202 (by decide) rfl ?_
                        have hR0 := hR
                        have L204 : ∀ (n : Nat) (k : Int), iv_ σ1 m 8 - k < (n : Int) → (0 ≤ k) → (k ≤ iv_ σ1 m 8) → GoM_ G 10 yX2_islandLine cX2_islandLine 6 none σ (fun v σ' => v = none ∧ Q σ') 204 [some (A_ (some m)), some (I_ i), some (I_ z), some (I_ t), some (I_ (10 + 7 * i)), some (I_ k)] [] (pb_ (pi_ σ1 (m + 4) (10 + 7 * i) (iv_ σ1 m 8)) (m + 4) (10 + 7 * i + 1) k (fun k => iv_ σ1 (m + 2) k - 97)) := by
                          intro n
                          induction n with
                          | zero => intro k hn g0 g1; exact absurd hn (by omega)
                          | succ n ih =>
                            intro k hn g0 g1
                            refine g_il5 dX2_islandLine_204 ?_
                            refine g_al0 dX2_islandLine_206 ?_
                            refine f_getv 8 fk_X2_84 rfl hR.sh (fun _ _ => rfl) (show iv_ (pb_ _ _ _ _ _) m 8 = iv_ σ1 m 8 by rw [iv_pb, if_neg (by omega), iv_pi, if_neg (by omega)]) dX2_islandLine_207 ?_
                            refine g_icmp_ge (tgt := 241) dX2_islandLine_210 (by decide) (by omega) (fun h210 => ?_) (fun h210 => ?_)
                            · refine g_al0 dX2_islandLine_241 ?_
                              refine g_callV0V (d' := 3) lk_X2_121 hR.sh rfl (rm_lt (by decide) (by decide)) (Nat.le_of_ble_eq_true rfl) dX2_islandLine_242 ?_
                              have ek : k = iv_ σ1 m 8 := by omega
                              subst ek
                              refine mp_next (σ := psg_ m σ1 i) hXs (fun σ3 e3 hX3 hA3 => ?_)
                              have hR := hX3.1
                              refine g_al0 dX2_islandLine_245 ?_
                              refine f_getA 16 fk_X2_23 rfl hR.sh (fun _ _ => rfl) hR.f16 dX2_islandLine_246 ?_
                              refine g_iconst dX2_islandLine_249 ?_
                              refine g_dup2 dX2_islandLine_250 rfl rfl ?_
                              refine g_iald hR.a16 (by omega) dX2_islandLine_251 ?_
                              refine g_iconst dX2_islandLine_252 ?_
                              refine g_iadd dX2_islandLine_253 ?_
                              refine g_iast hR.a16 hR.g16 (by omega) dX2_islandLine_254 ?_
                              exact g_vret rfl dX2_islandLine_255 ⟨rfl, by unfold il_ il1_ il2_ at hQ; rw [if_pos (by omega), hi, ← e1, if_pos h130, if_pos h26, if_neg (by rw [hT]; decide), if_pos hG, ← e3] at hQ; exact hQ⟩
                            refine g_al0 dX2_islandLine_213 ?_
                            refine f_getA 16 fk_X2_23 rfl hR.sh (fun _ _ => rfl) hR.f16 dX2_islandLine_214 ?_
                            refine g_il4 dX2_islandLine_217 ?_
                            refine g_iconst dX2_islandLine_219 ?_
                            refine g_iadd dX2_islandLine_220 ?_
                            refine g_il5 dX2_islandLine_221 ?_
                            refine g_iadd dX2_islandLine_223 ?_
                            refine g_al0 dX2_islandLine_224 ?_
                            refine f_getA 12 fk_X2_17 rfl hR.sh (fun _ _ => rfl) hR.f12 dX2_islandLine_225 ?_
                            refine g_il5 dX2_islandLine_228 ?_
                            refine g_ialv hR.a12 (by omega) (show iv_ (pb_ _ _ _ _ _) (m + 2) k = iv_ σ1 (m + 2) k by rw [iv_pb, if_neg (by omega), iv_pi, if_neg (by omega)]) dX2_islandLine_230 ?_
                            refine g_bipush dX2_islandLine_231 (by decide) (by decide) ?_
                            refine g_isub dX2_islandLine_233 ?_
                            refine g_iast hR.a16 hR.g16 (by omega) dX2_islandLine_234 ?_
                            refine g_inc5 dX2_islandLine_235 (by decide) rfl ?_
                            refine g_goto (tgt := 204) dX2_islandLine_238 (by decide) ?_
                            have h := ih (k + 1) (by omega) (by omega) (by omega)
                            rw [← pb_s _ _ _ _ g0] at h
                            exact h
                        have h := L204 9 0 (by omega) (by omega) (by omega)
                        rw [pb_0] at h
                        exact h
                      exact absurd rfl h177
                    refine g_al0 dX2_islandLine_163 ?_
                    refine g_bipush dX2_islandLine_164 (by decide) (by decide) ?_
                    refine g_al0 dX2_islandLine_166 ?_
                    refine f_getI 4 fk_X2_81 rfl hR.sh (fun _ _ => rfl) dX2_islandLine_167 ?_
                    refine g_callV2V (d' := 2) lk_X2_127 hR.sh rfl (rm_lt (by decide) (by decide)) (Nat.le_of_ble_eq_true rfl) dX2_islandLine_170 ?_
                    have hG : ¬ sgi_ m σ1 = true := fun w => by
                      rcases hz with q | q
                      · omega
                      · rw [q.2] at w; exact absurd w (by decide)
                    refine mp_wrong hX1 (fun σ2 e2 hX2 hA2 h13 => ?_)
                    have hR := hX2.1
                    refine g_al0 dX2_islandLine_173 ?_
                    refine f_getv 13 fk_X2_100 rfl hR.sh (fun _ _ => rfl) h13 dX2_islandLine_174 ?_
                    refine g_if_eq (tgt := 181) dX2_islandLine_177 (by decide) (by omega) (fun h177 => ?_) (fun h177 => ?_)
                    · exact absurd h177 (by decide)
                    exact g_vret rfl dX2_islandLine_180 ⟨rfl, by unfold il_ il1_ il2_ at hQ; rw [if_pos (by omega), hi, ← e1, if_pos h130, if_pos h26, if_neg (by rw [hT]; decide), if_neg hG, ← e2] at hQ; exact hQ⟩
                  refine g_al0 dX2_islandLine_147 ?_
                  refine g_iconst dX2_islandLine_148 ?_
                  refine g_al0 dX2_islandLine_149 ?_
                  refine f_getI 4 fk_X2_81 rfl hR.sh (fun _ _ => rfl) dX2_islandLine_150 ?_
                  refine g_callV2V (d' := 2) lk_X2_127 hR.sh rfl (rm_lt (by decide) (by decide)) (Nat.le_of_ble_eq_true rfl) dX2_islandLine_153 ?_
                  have hT : tld_ m σ1 i = true := by
                    rcases gt with q | q
                    · exact q.2
                    · omega
                  refine mp_wrong hX1 (fun σ2 e2 hX2 hA2 h13 => ?_)
                  have hR := hX2.1
                  refine g_goto (tgt := 173) dX2_islandLine_156 (by decide) ?_
                  refine g_al0 dX2_islandLine_173 ?_
                  refine f_getv 13 fk_X2_100 rfl hR.sh (fun _ _ => rfl) h13 dX2_islandLine_174 ?_
                  refine g_if_eq (tgt := 181) dX2_islandLine_177 (by decide) (by omega) (fun h177 => ?_) (fun h177 => ?_)
                  · exact absurd h177 (by decide)
                  exact g_vret rfl dX2_islandLine_180 ⟨rfl, by unfold il_ il1_ il2_ at hQ; rw [if_pos (by omega), hi, ← e1, if_pos h130, if_pos h26, if_pos hT, ← e2] at hQ; exact hQ⟩
                refine g_il3 dX2_islandLine_118 ?_
                refine g_if_ne (tgt := 131) dX2_islandLine_119 (by decide) (by omega) (fun h119 => ?_) (fun h119 => ?_)
                · refine g_iconst dX2_islandLine_131 ?_
                  refine g_goto (tgt := 136) dX2_islandLine_132 (by decide) ?_
                  refine g_is3 dX2_islandLine_136 (by decide) rfl ?_
                  refine g_inc4 dX2_islandLine_137 (by decide) rfl ?_
                  refine g_goto (tgt := 112) dX2_islandLine_140 (by decide) ?_
                  refine ih _ _ (by omega) (by omega) (by omega) (Or.inl ⟨rfl, by rcases gt with q | q; (exact q.2); (omega)⟩)
                refine g_al0 dX2_islandLine_122 ?_
                refine g_il4 dX2_islandLine_123 ?_
                refine g_callV1I (d' := 2) lk_X2_227 hR.sh rfl (rm_lt (by decide) (by decide)) (Nat.le_of_ble_eq_true rfl) dX2_islandLine_125 ?_
                refine mp_isSong hX1 h26 (by omega) (fun zs hzs => ?_)
                refine g_if_eq (tgt := 135) dX2_islandLine_128 (by decide) (by omega) (fun h128 => ?_) (fun h128 => ?_)
                · refine g_iconst dX2_islandLine_135 ?_
                  refine g_is3 dX2_islandLine_136 (by decide) rfl ?_
                  refine g_inc4 dX2_islandLine_137 (by decide) rfl ?_
                  refine g_goto (tgt := 112) dX2_islandLine_140 (by decide) ?_
                  refine ih _ _ (by omega) (by omega) (by omega) (Or.inr ⟨rfl, fun q q0 q1 => by by_cases hq : q = j; (rw [hq]; rcases hzs with w | w; (omega); (exact w.2)); (rcases gt with w | w; (omega); (exact w.2 q q0 (by omega)))⟩)
                refine g_iconst dX2_islandLine_131 ?_
                refine g_goto (tgt := 136) dX2_islandLine_132 (by decide) ?_
                refine g_is3 dX2_islandLine_136 (by decide) rfl ?_
                refine g_inc4 dX2_islandLine_137 (by decide) rfl ?_
                refine g_goto (tgt := 112) dX2_islandLine_140 (by decide) ?_
                refine ih _ _ (by omega) (by omega) (by omega) (Or.inl ⟨rfl, by rcases hzs with q | q; (unfold tld_; rw [Bool.eq_false_iff.mpr fun w => absurd ((al_iff (by omega)).mp w j k0 (by omega)) (by rw [q.2]; decide)]; rfl); (omega)⟩)
            refine g_iconst dX2_islandLine_107 ?_
            refine g_is3 dX2_islandLine_108 (by decide) rfl ?_
            refine g_iconst dX2_islandLine_109 ?_
            refine g_is4 dX2_islandLine_110 (by decide) rfl ?_
            exact L112 (i.toNat + 1) _ _ (by omega) (by omega) (by omega) (Or.inr ⟨rfl, fun q q0 q1 => by omega⟩)
          refine g_il2 dX2_islandLine_73 ?_
          refine g_if_eq (tgt := 99) dX2_islandLine_74 (by decide) (by omega) (fun h74 => ?_) (fun h74 => ?_)
          · refine g_iconst dX2_islandLine_99 ?_
            refine g_is2 dX2_islandLine_100 (by decide) rfl ?_
            refine g_inc3 dX2_islandLine_101 (by decide) rfl ?_
            refine g_goto (tgt := 65) dX2_islandLine_104 (by decide) ?_
            refine ih _ _ (by omega) (by omega) (by omega) (Or.inr ⟨rfl, by rcases gI with q | q; (omega); (exact q.2)⟩)
          refine g_al0 dX2_islandLine_77 ?_
          refine f_getA 12 fk_X2_17 rfl hR.sh (fun _ _ => rfl) hR.f12 dX2_islandLine_78 ?_
          refine g_il3 dX2_islandLine_81 ?_
          have hl := hp8.2 k (by omega) (by omega)
          refine g_iald hR.a12 (by omega) dX2_islandLine_82 ?_
          refine g_bipush dX2_islandLine_83 (by decide) (by decide) ?_
          refine g_isub dX2_islandLine_85 ?_
          refine g_al0 dX2_islandLine_86 ?_
          refine f_getA 16 fk_X2_23 rfl hR.sh (fun _ _ => rfl) hR.f16 dX2_islandLine_87 ?_
          refine g_iconst dX2_islandLine_90 ?_
          have hb0 := hX1.c4 (k := 0) (by decide) (by decide)
          refine g_iald hR.a16 (by omega) dX2_islandLine_91 ?_
          refine g_icmp_ge (tgt := 99) dX2_islandLine_92 (by decide) (by omega) (fun h92 => ?_) (fun h92 => ?_)
          · refine g_iconst dX2_islandLine_99 ?_
            refine g_is2 dX2_islandLine_100 (by decide) rfl ?_
            refine g_inc3 dX2_islandLine_101 (by decide) rfl ?_
            refine g_goto (tgt := 65) dX2_islandLine_104 (by decide) ?_
            refine ih _ _ (by omega) (by omega) (by omega) (Or.inr ⟨rfl, Bool.eq_false_iff.mpr fun w => by unfold sgi_ at w; rw [Bool.and_eq_true, al_iff (by omega)] at w; exact absurd (of_decide_eq_true (w.2 k g0 (by omega))) (by omega)⟩)
          refine g_iconst dX2_islandLine_95 ?_
          refine g_goto (tgt := 100) dX2_islandLine_96 (by decide) ?_
          refine g_is2 dX2_islandLine_100 (by decide) rfl ?_
          refine g_inc3 dX2_islandLine_101 (by decide) rfl ?_
          refine g_goto (tgt := 65) dX2_islandLine_104 (by decide) ?_
          refine ih _ _ (by omega) (by omega) (by omega) (Or.inl ⟨rfl, by rcases gI with q | q; (exact q.2.1); (omega), fun j j0 j1 => by rcases gI with q | q; (by_cases hj : j = k; (rw [hj]; omega); (exact q.2.2 j j0 (by omega))); (omega)⟩)
      refine g_al0 dX2_islandLine_52 ?_
      refine f_getI 8 fk_X2_84 rfl hR.sh (fun _ _ => rfl) dX2_islandLine_53 ?_
      refine g_iconst dX2_islandLine_56 ?_
      refine g_bipush dX2_islandLine_57 (by decide) (by decide) ?_
      refine g_callS3I (d' := 2) lk_X2_149 (rm_lt (by decide) (by decide)) (Nat.le_of_ble_eq_true rfl) dX2_islandLine_59 ?_
      refine mo_in (by omega) (by omega) (by omega) (fun z hz => ?_)
      refine g_is2 dX2_islandLine_62 (by decide) rfl ?_
      refine g_iconst dX2_islandLine_63 ?_
      refine g_is3 dX2_islandLine_64 (by decide) rfl ?_
      exact L65 9 _ _ (by omega) (by omega) (by omega) (by rcases hz with q | q; (exact Or.inl ⟨q.1, q.2, fun j j0 j1 => by omega⟩); (exact Or.inr ⟨q.1, by unfold sgi_; rw [decide_eq_false q.2]; rfl⟩))
    refine g_al0 dX2_islandLine_20 ?_
    refine f_getI 13 fk_X2_100 rfl hR.sh (fun _ _ => rfl) dX2_islandLine_21 ?_
    refine g_if_ne (tgt := 44) dX2_islandLine_24 (by decide) (by omega) (fun h24 => ?_) (fun h24 => ?_)
    · refine g_al0 dX2_islandLine_44 ?_
      refine f_getI 13 fk_X2_100 rfl hR.sh (fun _ _ => rfl) dX2_islandLine_45 ?_
      refine g_if_eq (tgt := 52) dX2_islandLine_48 (by decide) (by omega) (fun h48 => ?_) (fun h48 => ?_)
      · exact absurd h48 (by omega)
      exact g_vret rfl dX2_islandLine_51 ⟨rfl, by unfold il_ il1_ at hQ; rw [if_pos (by omega), hi, ← e1, if_neg (by omega)] at hQ; exact hQ⟩
    refine g_al0 dX2_islandLine_27 ?_
    refine f_getI 6 fk_X2_90 rfl hR.sh (fun _ _ => rfl) dX2_islandLine_28 ?_
    refine g_iconst dX2_islandLine_31 ?_
    refine g_icmp_eq (tgt := 44) dX2_islandLine_32 (by decide) (by omega) (fun h32 => ?_) (fun h32 => ?_)
    · refine g_al0 dX2_islandLine_44 ?_
      refine f_getI 13 fk_X2_100 rfl hR.sh (fun _ _ => rfl) dX2_islandLine_45 ?_
      refine g_if_eq (tgt := 52) dX2_islandLine_48 (by decide) (by omega) (fun h48 => ?_) (fun h48 => ?_)
      · exact J52 (by omega) (by omega)
      exact absurd h24 h48
    refine g_al0 dX2_islandLine_35 ?_
    refine g_iconst dX2_islandLine_36 ?_
    refine g_al0 dX2_islandLine_37 ?_
    refine f_getI 4 fk_X2_81 rfl hR.sh (fun _ _ => rfl) dX2_islandLine_38 ?_
    refine g_callV2V (d' := 2) lk_X2_127 hR.sh rfl (rm_lt (by decide) (by decide)) (Nat.le_of_ble_eq_true rfl) dX2_islandLine_41 ?_
    refine mp_wrong hX1 (fun σ2 e2 hX2 hA2 h13 => ?_)
    have hR := hX2.1
    refine g_al0 dX2_islandLine_44 ?_
    refine f_getv 13 fk_X2_100 rfl hR.sh (fun _ _ => rfl) h13 dX2_islandLine_45 ?_
    refine g_if_eq (tgt := 52) dX2_islandLine_48 (by decide) (by omega) (fun h48 => ?_) (fun h48 => ?_)
    · exact absurd h48 (by decide)
    exact g_vret rfl dX2_islandLine_51 ⟨rfl, by unfold il_ il1_ il2_ at hQ; rw [if_pos (by omega), hi, ← e1, if_pos (by omega), if_neg (by omega), ← e2] at hQ; exact hQ⟩
  exact g_vret rfl dX2_islandLine_7 ⟨rfl, by unfold il_ at hQ; rw [if_neg (by omega)] at hQ; exact hQ⟩
theorem mp_wayLine  {Q : JH → Prop} (hX0 : RB_ G m σ) (hc : iv_ σ m 13 = 0 → iv_ σ (m + 4) 5 < 12)
    (hQ : Q (wl_ m σ)) : CallV_ G 11 yX2_wayLine cX2_wayLine 6 none [A_ (some m)] σ Q := by
  refine call_go [some (A_ (some m)), none, none, none, none, none] (by decide) (Nat.le_of_ble_eq_true rfl) rfl ?_
  have hR := hX0.1
  have hq0 := hX0.2.1.2.2.1
  refine g_al0 dX2_wayLine_0 ?_
  refine f_getI 13 fk_X2_100 rfl hR.sh (fun _ _ => rfl) dX2_wayLine_1 ?_
  refine g_if_eq (tgt := 8) dX2_wayLine_4 (by decide) (by omega) (fun h4 => ?_) (fun h4 => ?_)
  · refine g_bipush dX2_wayLine_8 (by decide) (by decide) ?_
    refine g_iconst dX2_wayLine_10 ?_
    refine g_al0 dX2_wayLine_11 ?_
    refine f_getA 16 fk_X2_23 rfl hR.sh (fun _ _ => rfl) hR.f16 dX2_wayLine_12 ?_
    refine g_iconst dX2_wayLine_15 ?_
    refine g_iald hR.a16 (by omega) dX2_wayLine_16 ?_
    have hi0 := hX0.c4 (k := 5) (by decide) (by decide)
    have hi1 := hc (by omega)
    refine g_imul dX2_wayLine_17 ?_
    refine g_iadd dX2_wayLine_18 ?_
    refine g_is1 dX2_wayLine_19 (by decide) rfl ?_
    refine g_al0 dX2_wayLine_20 ?_
    refine g_callV0I (d' := 10) lk_X2_161 hR.sh rfl (rm_lt (by decide) (by decide)) (Nat.le_of_ble_eq_true rfl) dX2_wayLine_21 ?_
    refine mp_passed hX0 (fun x1 σ1 e1 f1 hX1 hA1 hb1 => ?_)
    have hR := hX1.1
    refine g_is2 dX2_wayLine_24 (by decide) rfl ?_
    refine g_al0 dX2_wayLine_25 ?_
    refine g_iconst dX2_wayLine_26 ?_
    refine g_bipush dX2_wayLine_27 (by decide) (by decide) ?_
    refine g_callV2I (d' := 9) lk_X2_153 hR.sh rfl (rm_lt (by decide) (by decide)) (Nat.le_of_ble_eq_true rfl) dX2_wayLine_29 ?_
    refine mp_named hX1 (by omega) (by omega) (fun x2 σ2 e2 f2 hX2 hA2 hb2 => ?_)
    have hR := hX2.1
    have hq2 := hX2.2.1.2.2.1
    have hs2 : iv_ σ2 (m + 4) 5 = iv_ σ (m + 4) 5 := (hA2.1.f4 5).trans (hA1.1.f4 5)
    have J120 : ∀ (z k : Int), iv_ σ2 (m + 4) 5 = iv_ σ (m + 4) 5 → iv_ σ2 m 13 = 0 → ¬ wag_ m σ2 x1 x2 = true → GoM_ G 11 yX2_wayLine cX2_wayLine 6 none σ (fun v σ' => v = none ∧ Q σ') 120 [some (A_ (some m)), some (I_ (59 + 4 * iv_ σ (m + 4) 5)), some (I_ x1), some (I_ x2), some (I_ z), some (I_ k)] [] σ2 := by
      intro z k hs20 hz0 hag
      refine g_al0 dX2_wayLine_120 ?_
      refine g_callV0V (d' := 3) lk_X2_121 hR.sh rfl (rm_lt (by decide) (by decide)) (Nat.le_of_ble_eq_true rfl) dX2_wayLine_121 ?_
      refine mp_next hX2 (fun σ3 e3 hX3 hA3 => ?_)
      have hR := hX3.1
      refine g_al0 dX2_wayLine_124 ?_
      refine f_getA 16 fk_X2_23 rfl hR.sh (fun _ _ => rfl) hR.f16 dX2_wayLine_125 ?_
      refine g_il1 dX2_wayLine_128 ?_
      refine g_il2 dX2_wayLine_129 ?_
      refine g_iast hR.a16 hR.g16 (by omega) dX2_wayLine_130 ?_
      generalize g4 : pi_ σ3 (m + 4) (59 + 4 * iv_ σ (m + 4) 5) (x1) = σ4
      have hX4 : RB_ G m σ4 := by rw [← g4]; exact hX3.p4 (by omega)
      have hR := hX4.1
      refine g_al0 dX2_wayLine_131 ?_
      refine f_getA 16 fk_X2_23 rfl hR.sh (fun _ _ => rfl) hR.f16 dX2_wayLine_132 ?_
      refine g_il1 dX2_wayLine_135 ?_
      refine g_iconst dX2_wayLine_136 ?_
      refine g_iadd dX2_wayLine_137 ?_
      refine g_il3 dX2_wayLine_138 ?_
      refine g_iast hR.a16 hR.g16 (by omega) dX2_wayLine_139 ?_
      generalize g5 : pi_ σ4 (m + 4) (59 + 4 * iv_ σ (m + 4) 5 + 1) (x2) = σ5
      have hX5 : RB_ G m σ5 := by rw [← g5]; exact hX4.p4 (by omega)
      have hR := hX5.1
      refine g_al0 dX2_wayLine_140 ?_
      refine f_getA 16 fk_X2_23 rfl hR.sh (fun _ _ => rfl) hR.f16 dX2_wayLine_141 ?_
      refine g_il1 dX2_wayLine_144 ?_
      refine g_iconst dX2_wayLine_145 ?_
      refine g_iadd dX2_wayLine_146 ?_
      refine g_al0 dX2_wayLine_147 ?_
      refine g_ldcS (j := 10) rfl dX2_wayLine_148 ?_
      refine g_iconst dX2_wayLine_150 ?_
      refine g_bipush dX2_wayLine_151 (by decide) (by decide) ?_
      refine g_callV3I (d' := 10) lk_X2_213 hR.sh rfl (rm_lt (by decide) (by decide)) (Nat.le_of_ble_eq_true rfl) dX2_wayLine_153 ?_
      obtain ⟨v5, hS5, -, -⟩ := hX5.2.2.2 10 _ rfl
      refine mp_after (w := "days") hX5 hS5 (by omega) (by omega) (fun x6 σ6 e6 f6 hX6 hA6 hb6 => ?_)
      have hR := hX6.1
      refine g_iast hR.a16 hR.g16 (by omega) dX2_wayLine_156 ?_
      generalize g7 : pi_ σ6 (m + 4) (59 + 4 * iv_ σ (m + 4) 5 + 2) x6 = σ7
      have hX7 : RB_ G m σ7 := by rw [← g7]; exact hX6.p4 (by omega)
      have hR := hX7.1
      have p7 : σ7 = ps_ m σ5 (59 + 4 * iv_ σ (m + 4) 5 + 2) "days" 1 99 := by rw [← g7, e6, f6]; rfl
      refine g_al0 dX2_wayLine_157 ?_
      refine f_getA 16 fk_X2_23 rfl hR.sh (fun _ _ => rfl) hR.f16 dX2_wayLine_158 ?_
      refine g_il1 dX2_wayLine_161 ?_
      refine g_iconst dX2_wayLine_162 ?_
      refine g_iadd dX2_wayLine_163 ?_
      refine g_al0 dX2_wayLine_164 ?_
      refine g_ldcS (j := 11) rfl dX2_wayLine_165 ?_
      refine g_iconst dX2_wayLine_167 ?_
      refine g_bipush dX2_wayLine_168 (by decide) (by decide) ?_
      refine g_callV3I (d' := 10) lk_X2_213 hR.sh rfl (rm_lt (by decide) (by decide)) (Nat.le_of_ble_eq_true rfl) dX2_wayLine_170 ?_
      obtain ⟨v7, hS7, -, -⟩ := hX7.2.2.2 11 _ rfl
      refine mp_after (w := "open") hX7 hS7 (by omega) (by omega) (fun x8 σ8 e8 f8 hX8 hA8 hb8 => ?_)
      have hR := hX8.1
      refine g_iast hR.a16 hR.g16 (by omega) dX2_wayLine_173 ?_
      generalize g9 : pi_ σ8 (m + 4) (59 + 4 * iv_ σ (m + 4) 5 + 3) x8 = σ9
      have hX9 : RB_ G m σ9 := by rw [← g9]; exact hX8.p4 (by omega)
      have hR := hX9.1
      have p9 : σ9 = ps_ m σ7 (59 + 4 * iv_ σ (m + 4) 5 + 3) "open" 1 15 := by rw [← g9, e8, f8]; rfl
      have hz : σ9 = wl3_ m σ2 (59 + 4 * iv_ σ (m + 4) 5) x1 x2 := by rw [p9, p7, ← g5, ← g4, e3]; rfl
      have hq9 := hX9.2.1.2.2.1
      have e95 : iv_ σ9 (m + 4) 5 = iv_ σ (m + 4) 5 := by
        rw [hz]
        unfold wl3_
        rw [ps_4, if_neg (by omega), ps_4, if_neg (by omega), p4_4, if_neg (by omega), p4_4, if_neg (by omega), nxt_4, hs20]
      refine g_al0 dX2_wayLine_174 ?_
      refine f_getI 13 fk_X2_100 rfl hR.sh (fun _ _ => rfl) dX2_wayLine_175 ?_
      refine g_if_ne (tgt := 191) dX2_wayLine_178 (by decide) (by omega) (fun h178 => ?_) (fun h178 => ?_)
      · exact g_vret rfl dX2_wayLine_191 ⟨rfl, by unfold wl_ wl1_ wl2_ at hQ; rw [if_pos (by omega), ← e1, ← f1, ← e2, ← f2, if_pos hz0, if_neg hag, ← hz] at hQ; unfold mor_ at hQ; rw [if_neg (by omega)] at hQ; exact hQ⟩
      refine g_al0 dX2_wayLine_181 ?_
      refine f_getA 16 fk_X2_23 rfl hR.sh (fun _ _ => rfl) hR.f16 dX2_wayLine_182 ?_
      refine g_iconst dX2_wayLine_185 ?_
      refine g_dup2 dX2_wayLine_186 rfl rfl ?_
      refine g_iald hR.a16 (by omega) dX2_wayLine_187 ?_
      refine g_iconst dX2_wayLine_188 ?_
      refine g_iadd dX2_wayLine_189 ?_
      refine g_iast hR.a16 hR.g16 (by omega) dX2_wayLine_190 ?_
      exact g_vret rfl dX2_wayLine_191 ⟨rfl, by unfold wl_ wl1_ wl2_ at hQ; rw [if_pos (by omega), ← e1, ← f1, ← e2, ← f2, if_pos hz0, if_neg hag, ← hz] at hQ; unfold mor_ at hQ; rw [if_pos (by omega)] at hQ; exact hQ⟩
    have L48 : ∀ (n : Nat) (z : Int) (k : Int), iv_ σ2 (m + 4) 5 - k < (n : Int) → (0 ≤ k) → (k ≤ iv_ σ2 (m + 4) 5) → ((z = 1 ∧ wag_ m σ2 x1 x2 = true) ∨ (z = 0 ∧ ¬ x1 = x2 ∧ ∀ j : Int, 0 ≤ j → j < k → ¬ jn_ (iv_ σ2 (m + 4)) j x1 x2)) → GoM_ G 11 yX2_wayLine cX2_wayLine 6 none σ (fun v σ' => v = none ∧ Q σ') 48 [some (A_ (some m)), some (I_ (59 + 4 * iv_ σ (m + 4) 5)), some (I_ x1), some (I_ x2), some (I_ z), some (I_ k)] [] σ2 := by
      intro n
      induction n with
      | zero => intro z k hn g0 g1 gI; exact absurd hn (by omega)
      | succ n ih =>
        intro z k hn g0 g1 gI
        refine g_il5 dX2_wayLine_48 ?_
        refine g_al0 dX2_wayLine_50 ?_
        refine f_getA 16 fk_X2_23 rfl hR.sh (fun _ _ => rfl) hR.f16 dX2_wayLine_51 ?_
        refine g_iconst dX2_wayLine_54 ?_
        refine g_iald hR.a16 (by omega) dX2_wayLine_55 ?_
        refine g_icmp_ge (tgt := 91) dX2_wayLine_56 (by decide) (by omega) (fun h56 => ?_) (fun h56 => ?_)
        · have hag : (z = 1 ∧ wag_ m σ2 x1 x2 = true) ∨ (z = 0 ∧ ¬ wag_ m σ2 x1 x2 = true) := by
            rcases gI with q | q
            · exact Or.inl q
            · refine Or.inr ⟨q.1, ?_⟩
              unfold wag_
              rw [(al_iff (by omega)).mpr (fun j j0 j1 => decide_eq_true (q.2.2 j j0 (by omega))), decide_eq_false q.2.1]
              decide
          refine g_al0 dX2_wayLine_91 ?_
          refine f_getI 13 fk_X2_100 rfl hR.sh (fun _ _ => rfl) dX2_wayLine_92 ?_
          refine g_if_ne (tgt := 112) dX2_wayLine_95 (by decide) (by omega) (fun h95 => ?_) (fun h95 => ?_)
          · refine g_al0 dX2_wayLine_112 ?_
            refine f_getI 13 fk_X2_100 rfl hR.sh (fun _ _ => rfl) dX2_wayLine_113 ?_
            refine g_if_eq (tgt := 120) dX2_wayLine_116 (by decide) (by omega) (fun h116 => ?_) (fun h116 => ?_)
            · exact absurd h116 (by omega)
            exact g_vret rfl dX2_wayLine_119 ⟨rfl, by unfold wl_ wl1_ wl2_ at hQ; rw [if_pos (by omega), ← e1, ← f1, ← e2, ← f2, if_neg (by omega)] at hQ; exact hQ⟩
          refine g_il4 dX2_wayLine_98 ?_
          refine g_if_eq (tgt := 112) dX2_wayLine_100 (by decide) (by omega) (fun h100 => ?_) (fun h100 => ?_)
          · refine g_al0 dX2_wayLine_112 ?_
            refine f_getI 13 fk_X2_100 rfl hR.sh (fun _ _ => rfl) dX2_wayLine_113 ?_
            refine g_if_eq (tgt := 120) dX2_wayLine_116 (by decide) (by omega) (fun h116 => ?_) (fun h116 => ?_)
            · exact J120 _ _ hs2 (by omega) (by rcases hag with q | q; (omega); (exact q.2))
            exact absurd h95 h116
          refine g_al0 dX2_wayLine_103 ?_
          refine g_iconst dX2_wayLine_104 ?_
          refine g_al0 dX2_wayLine_105 ?_
          refine f_getI 4 fk_X2_81 rfl hR.sh (fun _ _ => rfl) dX2_wayLine_106 ?_
          refine g_callV2V (d' := 2) lk_X2_127 hR.sh rfl (rm_lt (by decide) (by decide)) (Nat.le_of_ble_eq_true rfl) dX2_wayLine_109 ?_
          refine mp_wrong hX2 (fun σ3 e3 hX3 hA3 h13 => ?_)
          have hR := hX3.1
          refine g_al0 dX2_wayLine_112 ?_
          refine f_getv 13 fk_X2_100 rfl hR.sh (fun _ _ => rfl) h13 dX2_wayLine_113 ?_
          refine g_if_eq (tgt := 120) dX2_wayLine_116 (by decide) (by omega) (fun h116 => ?_) (fun h116 => ?_)
          · exact absurd h116 (by decide)
          exact g_vret rfl dX2_wayLine_119 ⟨rfl, by unfold wl_ wl1_ wl2_ at hQ; rw [if_pos (by omega), ← e1, ← f1, ← e2, ← f2, if_pos (by omega), if_pos (by rcases hag with q | q; (exact q.2); (omega)), ← e3] at hQ; exact hQ⟩
        refine g_il4 dX2_wayLine_59 ?_
        refine g_if_ne (tgt := 78) dX2_wayLine_61 (by decide) (by omega) (fun h61 => ?_) (fun h61 => ?_)
        · refine g_iconst dX2_wayLine_78 ?_
          refine g_goto (tgt := 83) dX2_wayLine_79 (by decide) ?_
          refine g_is4 dX2_wayLine_83 (by decide) rfl ?_
          refine g_inc5 dX2_wayLine_85 (by decide) rfl ?_
          refine g_goto (tgt := 48) dX2_wayLine_88 (by decide) ?_
          refine ih _ _ (by omega) (by omega) (by omega) (Or.inl ⟨rfl, by rcases gI with q | q; (exact q.2); (omega)⟩)
        refine g_al0 dX2_wayLine_64 ?_
        refine f_getA 16 fk_X2_23 rfl hR.sh (fun _ _ => rfl) hR.f16 dX2_wayLine_65 ?_
        refine g_il5 dX2_wayLine_68 ?_
        refine g_il2 dX2_wayLine_70 ?_
        refine g_il3 dX2_wayLine_71 ?_
        refine g_callS4I (d' := 2) lk_X2_230 (rm_lt (by decide) (by decide)) (Nat.le_of_ble_eq_true rfl) dX2_wayLine_72 ?_
        have hc1 := hX2.c4 (k := 59 + 4 * k) (by omega) (by omega)
        have hc2 := hX2.c4 (k := 60 + 4 * k) (by omega) (by omega)
        refine mo_joins hR.a16 (fun j => rfl) (by omega) (by omega) (by omega) (by omega) (by omega) (fun z2 hz2 => ?_)
        refine g_if_eq (tgt := 82) dX2_wayLine_75 (by decide) (by omega) (fun h75 => ?_) (fun h75 => ?_)
        · refine g_iconst dX2_wayLine_82 ?_
          refine g_is4 dX2_wayLine_83 (by decide) rfl ?_
          refine g_inc5 dX2_wayLine_85 (by decide) rfl ?_
          refine g_goto (tgt := 48) dX2_wayLine_88 (by decide) ?_
          refine ih _ _ (by omega) (by omega) (by omega) (Or.inr ⟨rfl, by rcases gI with q | q; (omega); (exact q.2.1), fun j j0 j1 => by by_cases hj : j = k; (rw [hj]; rcases hz2 with w | w; (omega); (exact w.2)); (rcases gI with q | q; (omega); (exact q.2.2 j j0 (by omega)))⟩)
        refine g_iconst dX2_wayLine_78 ?_
        refine g_goto (tgt := 83) dX2_wayLine_79 (by decide) ?_
        refine g_is4 dX2_wayLine_83 (by decide) rfl ?_
        refine g_inc5 dX2_wayLine_85 (by decide) rfl ?_
        refine g_goto (tgt := 48) dX2_wayLine_88 (by decide) ?_
        refine ih _ _ (by omega) (by omega) (by omega) (Or.inl ⟨rfl, by unfold wag_; rw [Bool.eq_false_iff.mpr fun w => absurd (of_decide_eq_true ((al_iff (by omega)).mp w k g0 (by omega))) (by rcases hz2 with q | q; (exact fun x => x q.2); (omega))]; simp⟩)
    refine g_is3 dX2_wayLine_32 (by decide) rfl ?_
    refine g_il2 dX2_wayLine_33 ?_
    refine g_il3 dX2_wayLine_34 ?_
    refine g_icmp_ne (tgt := 42) dX2_wayLine_35 (by decide) (by omega) (fun h35 => ?_) (fun h35 => ?_)
    · refine g_iconst dX2_wayLine_42 ?_
      refine g_is4 dX2_wayLine_43 (by decide) rfl ?_
      refine g_iconst dX2_wayLine_45 ?_
      refine g_is5 dX2_wayLine_46 (by decide) rfl ?_
      exact L48 13 _ _ (by omega) (by omega) (by omega) (Or.inr ⟨rfl, by omega, fun j j0 j1 => by omega⟩)
    refine g_iconst dX2_wayLine_38 ?_
    refine g_goto (tgt := 43) dX2_wayLine_39 (by decide) ?_
    refine g_is4 dX2_wayLine_43 (by decide) rfl ?_
    refine g_iconst dX2_wayLine_45 ?_
    refine g_is5 dX2_wayLine_46 (by decide) rfl ?_
    exact L48 13 _ _ (by omega) (by omega) (by omega) (Or.inl ⟨rfl, by unfold wag_; rw [decide_eq_true (by omega)]; rfl⟩)
  exact g_vret rfl dX2_wayLine_7 ⟨rfl, by unfold wl_ at hQ; rw [if_neg (by omega)] at hQ; exact hQ⟩
end
