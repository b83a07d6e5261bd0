/-! THE COMPONENT: songs. Written by mod/m81.py -/
set_option maxRecDepth 100000
section
variable {G : JG} {X : Nat} {σ : JH} {T : XT} {r s : Int → Int}
theorem xo_bear {p : Int} {Q : Int → JH → Prop} (hX0 : XQ_ G X σ p T r s) (hP : MP_ p r s) 
    (hQ : ∀ (x t : Int) (σ' : JH), qBear_ p r = (x, t) → XQ_ G X σ' p T r s → XE_ X σ σ' t → Q x σ') : CallI_ G 8 yX1_bear cX1_bear 4 (some .int) [A_ (some X)] σ Q := by
  refine call_go [some (A_ (some X)), none, none, none] (by decide) (Nat.le_of_ble_eq_true rfl) rfl ?_
  refine g_lt (fun hlt hgz => ?_)
  have hR := hX0.1
  have hp01 := hP.b
  rcases hX0.2 with q | q
  · have hp0 : p = 0 := q.1
    refine g_al0 dX1_bear_0 ?_
    refine f_getA 5 fk_X1_104 rfl hR.sh (fun _ _ => rfl) q.2 dX1_bear_1 ?_
    refine g_ifnonnull (tgt := 13) dX1_bear_4 (by decide) (fun _ h4 => ?_) (fun h4 => ?_)
    · cases h4
    refine g_al0 dX1_bear_7 ?_
    refine g_iconst dX1_bear_8 ?_
    refine g_callV1I (d' := 2) lk_X1_65 hR.sh rfl (rm_lt (by decide) (by decide)) (Nat.le_of_ble_eq_true rfl) dX1_bear_9 ?_
    refine xo_refused hR ?_
    exact g_iret rfl dX1_bear_12 ⟨_, rfl, hQ _ _ _ (by unfold qBear_; rw [if_neg (by omega)]) (hX0.e (XE_.rf) hlt) (XE_.rf)⟩
  · have hp1 : p = 1 := q.1
    have hX := q.2
    obtain ⟨hW, hD⟩ := hP.get hp1
    have hn := hW.n
    refine g_al0 dX1_bear_0 ?_
    refine f_getA 5 fk_X1_104 rfl hR.sh (fun _ _ => rfl) hX.f5 dX1_bear_1 ?_
    refine g_ifnonnull (tgt := 13) dX1_bear_4 (by decide) (fun _ h4 => ?_) (fun h4 => ?_)
    · have L18 : ∀ (fu : Nat) (l0 : Int) (i : Int) (v3 : Option AV), r 4 - i < (fu : Int) → (0 ≤ i) → (i ≤ r 4) → (0 ≤ l0 ∧ l0 ≤ 7) → (l0 = iI_ (fun i a => iI_ (fun j a => if 0 ≤ ap_ r i j ∧ ap_ r i j < a then ap_ r i j else a) a i) 7 i) → GoM_ G 8 yX1_bear cX1_bear 4 (some .int) σ (fun v σ' => ∃ x : Int, v = some (I_ x) ∧ Q x σ') 18 [some (A_ (some X)), some (I_ l0), some (I_ i), v3] [] σ := by
        intro fu
        induction fu with
        | zero => intro l0 i v3 hn h0 h1 hl hc; exact absurd hn (by omega)
        | succ fu ih =>
          intro l0 i v3 hn h0 h1 hl hc
          refine g_il2 dX1_bear_18 ?_
          refine g_al0 dX1_bear_19 ?_
          refine f_getA 5 fk_X1_104 rfl hR.sh (fun _ _ => rfl) hX.f5 dX1_bear_20 ?_
          refine f_getA 4 fk_X1_122 rfl hX.P.sh (fun _ _ => rfl) hX.P.f4 dX1_bear_23 ?_
          refine g_callV0I (d' := 2) lk_X1_127 hX.P.l0.1 rfl (rm_lt (by decide) (by decide)) (Nat.le_of_ble_eq_true rfl) dX1_bear_26 ?_
          refine js_size hX.P.l0 ?_
          refine g_icmp_ge (tgt := 79) dX1_bear_29 (by decide) (by omega) (fun h29 => ?_) (fun h29 => ?_)
          · refine g_al0 dX1_bear_79 ?_
            refine g_il1 dX1_bear_80 ?_
            refine g_bipush dX1_bear_81 (by decide) (by decide) ?_
            refine g_icmp_le (tgt := 91) dX1_bear_83 (by decide) (by omega) (fun h83 => ?_) (fun h83 => ?_)
            · refine g_il1 dX1_bear_91 ?_
              refine g_iconst dX1_bear_92 ?_
              refine g_isub dX1_bear_93 ?_
              refine g_iconst dX1_bear_94 ?_
              refine g_idivT dX1_bear_95 (by omega) ?_
              refine g_callV1I (d' := 2) lk_X1_69 hR.sh rfl (rm_lt (by decide) (by decide)) (Nat.le_of_ble_eq_true rfl) dX1_bear_96 ?_
              refine xo_well hR ?_
              exact g_iret rfl dX1_bear_99 ⟨_, rfl, hQ _ _ _ (by unfold qBear_; rw [if_pos (by omega), show br_ r = l0 by (unfold br_; rw [show r 4 = i by omega, ← hc]), if_neg (by omega)]) (hX0.e (XE_.rf) hlt) (XE_.rf)⟩
            refine g_bipush dX1_bear_86 (by decide) (by decide) ?_
            refine g_goto (tgt := 96) dX1_bear_88 (by decide) ?_
            refine g_callV1I (d' := 2) lk_X1_69 hR.sh rfl (rm_lt (by decide) (by decide)) (Nat.le_of_ble_eq_true rfl) dX1_bear_96 ?_
            refine xo_well hR ?_
            exact g_iret rfl dX1_bear_99 ⟨_, rfl, hQ _ _ _ (by unfold qBear_; rw [if_pos (by omega), show br_ r = l0 by (unfold br_; rw [show r 4 = i by omega, ← hc]), if_pos (by omega)]) (hX0.e (XE_.rf) hlt) (XE_.rf)⟩
          have L34 : ∀ (fu2 : Nat) (le : Int) (j : Int), i - j < (fu2 : Int) → (0 ≤ j) → (j ≤ i) → (0 ≤ le ∧ le ≤ 7) → (le = iI_ (fun j a => if 0 ≤ ap_ r i j ∧ ap_ r i j < a then ap_ r i j else a) l0 j) → GoM_ G 8 yX1_bear cX1_bear 4 (some .int) σ (fun v σ' => ∃ x : Int, v = some (I_ x) ∧ Q x σ') 34 [some (A_ (some X)), some (I_ le), some (I_ i), some (I_ j)] [] σ := by
            intro fu2
            induction fu2 with
            | zero => intro le j hn g0 g1 gl gc; exact absurd hn (by omega)
            | succ fu2 ih2 =>
              intro le j hn g0 g1 gl gc
              refine g_il3 dX1_bear_34 ?_
              refine g_il2 dX1_bear_35 ?_
              refine g_icmp_ge (tgt := 73) dX1_bear_36 (by decide) (by omega) (fun h36 => ?_) (fun h36 => ?_)
              · refine g_inc2 dX1_bear_73 (by decide) rfl ?_
                refine g_goto (tgt := 18) dX1_bear_76 (by decide) ?_
                exact ih _ _ _ (by omega) (by omega) (by omega) gl (by rw [iI_s _ _ h0, ← hc, gc, show i = j by omega])
              refine g_al0 dX1_bear_39 ?_
              refine f_getA 5 fk_X1_104 rfl hR.sh (fun _ _ => rfl) hX.f5 dX1_bear_40 ?_
              refine g_il2 dX1_bear_43 ?_
              refine g_il3 dX1_bear_44 ?_
              refine g_callV2I (d' := 7) lk_X1_247 hX.P.sh rfl (rm_lt (by decide) (by decide)) (Nat.le_of_ble_eq_true rfl) dX1_bear_45 ?_
              have hap := ap_in hW (i := i) (j := j) (by omega) (by omega)
              refine xp_apart hX.P hW (by omega) (by omega) ?_
              refine g_bipush dX1_bear_48 (by decide) (by decide) ?_
              refine g_icmp_eq (tgt := 67) dX1_bear_50 (by decide) (by omega) (fun h50 => ?_) (fun h50 => ?_)
              · refine g_inc3 dX1_bear_67 (by decide) rfl ?_
                refine g_goto (tgt := 34) dX1_bear_70 (by decide) ?_
                exact ih2 _ _ (by omega) (by omega) (by omega) gl (by rw [iI_s _ _ g0, ← gc, if_neg (by omega)])
              refine g_il1 dX1_bear_53 ?_
              refine g_al0 dX1_bear_54 ?_
              refine f_getA 5 fk_X1_104 rfl hR.sh (fun _ _ => rfl) hX.f5 dX1_bear_55 ?_
              refine g_il2 dX1_bear_58 ?_
              refine g_il3 dX1_bear_59 ?_
              refine g_callV2I (d' := 7) lk_X1_247 hX.P.sh rfl (rm_lt (by decide) (by decide)) (Nat.le_of_ble_eq_true rfl) dX1_bear_60 ?_
              refine xp_apart hX.P hW (by omega) (by omega) ?_
              refine g_mmin q1272 (by omega) (rm_64 (by decide)) (Nat.le_of_ble_eq_true rfl) dX1_bear_63 ?_
              have hm : (if ap_ r i j < le then ap_ r i j else le) = (if 0 ≤ ap_ r i j ∧ ap_ r i j < le then ap_ r i j else le) := by
                by_cases q : ap_ r i j < le
                · rw [if_pos q, if_pos ⟨by omega, q⟩]
                · rw [if_neg q, if_neg (fun w => q w.2)]
              rw [hm]
              have hb1 : 0 ≤ (if 0 ≤ ap_ r i j ∧ ap_ r i j < le then ap_ r i j else le) ∧ (if 0 ≤ ap_ r i j ∧ ap_ r i j < le then ap_ r i j else le) ≤ 7 := by split <;> omega
              refine g_is1 dX1_bear_66 (by decide) rfl ?_
              refine g_inc3 dX1_bear_67 (by decide) rfl ?_
              refine g_goto (tgt := 34) dX1_bear_70 (by decide) ?_
              exact ih2 _ _ (by omega) (by omega) (by omega) hb1 (by rw [iI_s _ _ g0, ← gc])
          refine g_iconst dX1_bear_32 ?_
          refine g_is3 dX1_bear_33 (by decide) rfl ?_
          exact L34 8 _ _ (by omega) (by omega) (by omega) hl (iI_0 _ _).symm
      refine g_bipush dX1_bear_13 (by decide) (by decide) ?_
      refine g_is1 dX1_bear_15 (by decide) rfl ?_
      refine g_iconst dX1_bear_16 ?_
      refine g_is2 dX1_bear_17 (by decide) rfl ?_
      exact L18 8 _ _ _ (by omega) (by omega) (by omega) (by omega) (iI_0 _ _).symm
    cases h4
theorem xo_mixed {p : Int} {Q : Int → JH → Prop} (hX0 : XQ_ G X σ p T r s) (hP : MP_ p r s) 
    (hQ : ∀ (x t : Int) (σ' : JH), qMixed_ p r = (x, t) → XQ_ G X σ' p T r s → XE_ X σ σ' t → Q x σ') : CallI_ G 8 yX1_mixed cX1_mixed 4 (some .int) [A_ (some X)] σ Q := by
  refine call_go [some (A_ (some X)), none, none, none] (by decide) (Nat.le_of_ble_eq_true rfl) rfl ?_
  refine g_lt (fun hlt hgz => ?_)
  have hR := hX0.1
  have hp01 := hP.b
  rcases hX0.2 with q | q
  · have hp0 : p = 0 := q.1
    refine g_al0 dX1_mixed_0 ?_
    refine f_getA 5 fk_X1_104 rfl hR.sh (fun _ _ => rfl) q.2 dX1_mixed_1 ?_
    refine g_ifnonnull (tgt := 13) dX1_mixed_4 (by decide) (fun _ h4 => ?_) (fun h4 => ?_)
    · cases h4
    refine g_al0 dX1_mixed_7 ?_
    refine g_iconst dX1_mixed_8 ?_
    refine g_callV1I (d' := 2) lk_X1_65 hR.sh rfl (rm_lt (by decide) (by decide)) (Nat.le_of_ble_eq_true rfl) dX1_mixed_9 ?_
    refine xo_refused hR ?_
    exact g_iret rfl dX1_mixed_12 ⟨_, rfl, hQ _ _ _ (by unfold qMixed_; rw [if_neg (by omega)]) (hX0.e (XE_.rf) hlt) (XE_.rf)⟩
  · have hp1 : p = 1 := q.1
    have hX := q.2
    obtain ⟨hW, hD⟩ := hP.get hp1
    have hn := hW.n
    refine g_al0 dX1_mixed_0 ?_
    refine f_getA 5 fk_X1_104 rfl hR.sh (fun _ _ => rfl) hX.f5 dX1_mixed_1 ?_
    refine g_ifnonnull (tgt := 13) dX1_mixed_4 (by decide) (fun _ h4 => ?_) (fun h4 => ?_)
    · have L17 : ∀ (fu : Nat) (n0 : Int) (i : Int) (v3 : Option AV), r 4 - i < (fu : Int) → (0 ≤ i) → (i ≤ r 4) → (0 ≤ n0 ∧ n0 ≤ 7 * i) → (n0 = iI_ (fun i a => iI_ (fun j a => a + (if 0 ≤ ap_ r i j ∧ ap_ r i j ≤ 2 * r 1 then 1 else 0)) a i) 0 i) → GoM_ G 8 yX1_mixed cX1_mixed 4 (some .int) σ (fun v σ' => ∃ x : Int, v = some (I_ x) ∧ Q x σ') 17 [some (A_ (some X)), some (I_ n0), some (I_ i), v3] [] σ := by
        intro fu
        induction fu with
        | zero => intro n0 i v3 hn h0 h1 hl hc; exact absurd hn (by omega)
        | succ fu ih =>
          intro n0 i v3 hn h0 h1 hl hc
          refine g_il2 dX1_mixed_17 ?_
          refine g_al0 dX1_mixed_18 ?_
          refine f_getA 5 fk_X1_104 rfl hR.sh (fun _ _ => rfl) hX.f5 dX1_mixed_19 ?_
          refine f_getA 4 fk_X1_122 rfl hX.P.sh (fun _ _ => rfl) hX.P.f4 dX1_mixed_22 ?_
          refine g_callV0I (d' := 2) lk_X1_127 hX.P.l0.1 rfl (rm_lt (by decide) (by decide)) (Nat.le_of_ble_eq_true rfl) dX1_mixed_25 ?_
          refine js_size hX.P.l0 ?_
          refine g_icmp_ge (tgt := 83) dX1_mixed_28 (by decide) (by omega) (fun h28 => ?_) (fun h28 => ?_)
          · refine g_al0 dX1_mixed_83 ?_
            refine g_il1 dX1_mixed_84 ?_
            refine g_callV1I (d' := 2) lk_X1_69 hR.sh rfl (rm_lt (by decide) (by decide)) (Nat.le_of_ble_eq_true rfl) dX1_mixed_85 ?_
            refine xo_well hR ?_
            exact g_iret rfl dX1_mixed_88 ⟨_, rfl, hQ _ _ _ (by unfold qMixed_; rw [if_pos (by omega), show mx_ r = n0 by (unfold mx_; rw [show r 4 = i by omega, ← hc])]) (hX0.e (XE_.rf) hlt) (XE_.rf)⟩
          have L33 : ∀ (fu2 : Nat) (n1 : Int) (j : Int), i - j < (fu2 : Int) → (0 ≤ j) → (j ≤ i) → (n0 ≤ n1 ∧ n1 ≤ n0 + j) → (n1 = iI_ (fun j a => a + (if 0 ≤ ap_ r i j ∧ ap_ r i j ≤ 2 * r 1 then 1 else 0)) n0 j) → GoM_ G 8 yX1_mixed cX1_mixed 4 (some .int) σ (fun v σ' => ∃ x : Int, v = some (I_ x) ∧ Q x σ') 33 [some (A_ (some X)), some (I_ n1), some (I_ i), some (I_ j)] [] σ := by
            intro fu2
            induction fu2 with
            | zero => intro n1 j hn g0 g1 gl gc; exact absurd hn (by omega)
            | succ fu2 ih2 =>
              intro n1 j hn g0 g1 gl gc
              refine g_il3 dX1_mixed_33 ?_
              refine g_il2 dX1_mixed_34 ?_
              refine g_icmp_ge (tgt := 77) dX1_mixed_35 (by decide) (by omega) (fun h35 => ?_) (fun h35 => ?_)
              · refine g_inc2 dX1_mixed_77 (by decide) rfl ?_
                refine g_goto (tgt := 17) dX1_mixed_80 (by decide) ?_
                exact ih _ _ _ (by omega) (by omega) (by omega) (by omega) (by rw [iI_s _ _ h0, ← hc, gc, show i = j by omega])
              refine g_il1 dX1_mixed_38 ?_
              refine g_al0 dX1_mixed_39 ?_
              refine f_getA 5 fk_X1_104 rfl hR.sh (fun _ _ => rfl) hX.f5 dX1_mixed_40 ?_
              refine g_il2 dX1_mixed_43 ?_
              refine g_il3 dX1_mixed_44 ?_
              refine g_callV2I (d' := 7) lk_X1_247 hX.P.sh rfl (rm_lt (by decide) (by decide)) (Nat.le_of_ble_eq_true rfl) dX1_mixed_45 ?_
              have hap := ap_in hW (i := i) (j := j) (by omega) (by omega)
              refine xp_apart hX.P hW (by omega) (by omega) ?_
              refine g_iconst dX1_mixed_48 ?_
              refine g_iconst dX1_mixed_49 ?_
              refine g_al0 dX1_mixed_50 ?_
              refine f_getA 5 fk_X1_104 rfl hR.sh (fun _ _ => rfl) hX.f5 dX1_mixed_51 ?_
              refine f_getv 1 fk_X1_256 rfl hX.P.sh (fun _ _ => rfl) hX.P.n1 dX1_mixed_54 ?_
              refine g_imul dX1_mixed_57 ?_
              refine g_callS3I (d' := 2) lk_X1_79 (rm_lt (by decide) (by decide)) (Nat.le_of_ble_eq_true rfl) dX1_mixed_58 ?_
              refine xo_in (by omega) (by omega) (by omega) (fun z hz => ?_)
              refine g_if_eq (tgt := 68) dX1_mixed_61 (by decide) (by omega) (fun h61 => ?_) (fun h61 => ?_)
              · refine g_iconst dX1_mixed_68 ?_
                refine g_iadd dX1_mixed_69 ?_
                refine g_is1 dX1_mixed_70 (by decide) rfl ?_
                refine g_inc3 dX1_mixed_71 (by decide) rfl ?_
                refine g_goto (tgt := 33) dX1_mixed_74 (by decide) ?_
                exact ih2 _ _ (by omega) (by omega) (by omega) (by omega) (by rw [iI_s _ _ g0, ← gc, if_neg (by omega)])
              refine g_iconst dX1_mixed_64 ?_
              refine g_goto (tgt := 69) dX1_mixed_65 (by decide) ?_
              refine g_iadd dX1_mixed_69 ?_
              refine g_is1 dX1_mixed_70 (by decide) rfl ?_
              refine g_inc3 dX1_mixed_71 (by decide) rfl ?_
              refine g_goto (tgt := 33) dX1_mixed_74 (by decide) ?_
              exact ih2 _ _ (by omega) (by omega) (by omega) (by omega) (by rw [iI_s _ _ g0, ← gc, if_pos (by omega)])
          refine g_iconst dX1_mixed_31 ?_
          refine g_is3 dX1_mixed_32 (by decide) rfl ?_
          exact L33 8 _ _ (by omega) (by omega) (by omega) (by omega) (iI_0 _ _).symm
      refine g_iconst dX1_mixed_13 ?_
      refine g_is1 dX1_mixed_14 (by decide) rfl ?_
      refine g_iconst dX1_mixed_15 ?_
      refine g_is2 dX1_mixed_16 (by decide) rfl ?_
      exact L17 8 _ _ _ (by omega) (by omega) (by omega) (by omega) (iI_0 _ _).symm
    cases h4
theorem hi_hd {i y : Int} (hW : RW_ r) (hi : 0 ≤ i ∧ i < r 4) : hi_ r i y = true ↔ hd_ r (fun k => r (11 + 7 * i + k)) (r (10 + 7 * i)) y = i := by
  have hn := hW.n
  have hl := hW.len hi.1 hi.2
  rw [hd_self (by omega) hn.2.1 hi (by omega)]
  unfold hi_ so_
  rw [Bool.and_eq_true, al_iff (by omega)]
  constructor
  · rintro ⟨a, b⟩
    refine ⟨rfl, of_decide_eq_true a, fun j j0 j1 hne hj => ?_⟩
    rcases of_decide_eq_true (b j j0 j1) with q | q | q
    · exact absurd q hne
    · exact absurd hj q
    · exact q
  · rintro ⟨-, a, b⟩
    refine ⟨decide_eq_true a, fun j j0 j1 => decide_eq_true ?_⟩
    by_cases c1 : j = i
    · exact Or.inl c1
    · by_cases c2 : r (10 + 7 * j) = r (10 + 7 * i)
      · exact Or.inr (Or.inr (b j j0 j1 c1 c2))
      · exact Or.inr (Or.inl c2)
theorem xo_strange {p : Int} {i : Int} {Q : Int → JH → Prop} (hX0 : XQ_ G X σ p T r s) (hP : MP_ p r s) (hi : -2147483648 ≤ i ∧ i < 2147483648)
    (hQ : ∀ (x t : Int) (σ' : JH), qStrange_ p r s i = (x, t) → XQ_ G X σ' p T r s → XE_ X σ σ' t → Q x σ') : CallI_ G 8 yX1_strange cX1_strange 3 (some .int) [A_ (some X), I_ i] σ Q := by
  refine call_go [some (A_ (some X)), some (I_ i), none] (by decide) (Nat.le_of_ble_eq_true rfl) rfl ?_
  refine g_lt (fun hlt hgz => ?_)
  have hR := hX0.1
  have hp01 := hP.b
  refine g_al0 dX1_strange_0 ?_
  refine g_il1 dX1_strange_1 ?_
  refine g_callV1I (d' := 3) lk_X1_193 hR.sh rfl (rm_lt (by decide) (by decide)) (Nat.le_of_ble_eq_true rfl) dX1_strange_2 ?_
  refine xo_isIsland hX0 hP.rw (by omega) (fun x2 hx2 => ?_)
  unfold isI_ at hx2
  refine g_if_ne (tgt := 14) dX1_strange_5 (by decide) (by omega) (fun h5 => ?_) (fun h5 => ?_)
  · obtain ⟨hW, hD⟩ := hP.get (by omega)
    have hX := hX0.get (by omega)
    have hn := hW.n
    have L16 : ∀ (fu : Nat) (n : Int), 100 - n < (fu : Int) → (0 ≤ n) → (n ≤ 100) → (∀ j, 0 ≤ j → j < n → (!hi_ r i (s 0 + j)) = false) → GoM_ G 8 yX1_strange cX1_strange 3 (some .int) σ (fun v σ' => ∃ x : Int, v = some (I_ x) ∧ Q x σ') 16 [some (A_ (some X)), some (I_ i), some (I_ n)] [] σ := by
      intro fu
      induction fu with
      | zero => intro n hn h0 h1 hf; exact absurd hn (by omega)
      | succ fu ih =>
        intro n hn h0 h1 hf
        refine g_il2 dX1_strange_16 ?_
        refine g_bipush dX1_strange_17 (by decide) (by decide) ?_
        refine g_icmp_gt (tgt := 80) dX1_strange_19 (by decide) (by omega) (fun h19 => ?_) (fun h19 => ?_)
        · refine g_al0 dX1_strange_80 ?_
          refine g_bipush dX1_strange_81 (by decide) (by decide) ?_
          refine g_callV1I (d' := 2) lk_X1_69 hR.sh rfl (rm_lt (by decide) (by decide)) (Nat.le_of_ble_eq_true rfl) dX1_strange_83 ?_
          refine xo_well hR ?_
          exact g_iret rfl dX1_strange_86 ⟨_, rfl, by have e : fI_ (fun n => !hi_ r i (s 0 + n)) 100 = -1 := fI_none (fun j j0 j1 => hf j j0 (by omega)); exact hQ _ _ _ (by unfold qStrange_; rw [if_pos (by omega), e, if_pos (by omega)]) (hX0.e XE_.rf hlt) XE_.rf⟩
        refine g_al0 dX1_strange_22 ?_
        refine f_getA 5 fk_X1_104 rfl hR.sh (fun _ _ => rfl) hX.f5 dX1_strange_23 ?_
        refine g_al0 dX1_strange_26 ?_
        refine f_getA 5 fk_X1_104 rfl hR.sh (fun _ _ => rfl) hX.f5 dX1_strange_27 ?_
        refine f_getA 4 fk_X1_122 rfl hX.P.sh (fun _ _ => rfl) hX.P.f4 dX1_strange_30 ?_
        refine g_il1 dX1_strange_33 ?_
        refine g_callV1A (d' := 4) lk_X1_137 hX.P.l0.1 rfl (rm_lt (by decide) (by decide)) (Nat.le_of_ble_eq_true rfl) dX1_strange_34 ?_
        refine js_get hX.P.l0 (by omega) ?_
        have hI := hX.P.isl (i := i) (by omega) (by omega)
        have hl := hW.len (i := i) (by omega) (by omega)
        have hd0 := hD.n
        refine g_cast q1330 hI.1 (Or.inl rfl) dX1_strange_37 ?_
        refine f_getA 1 fk_X1_288 rfl hI.1 (fun _ _ => rfl) hI.2.2.1 dX1_strange_40 ?_
        refine g_iconst dX1_strange_43 ?_
        refine g_al0 dX1_strange_44 ?_
        refine f_getA 5 fk_X1_104 rfl hR.sh (fun _ _ => rfl) hX.f5 dX1_strange_45 ?_
        refine g_il1 dX1_strange_48 ?_
        refine g_callV1I (d' := 5) lk_X1_196 hX.P.sh rfl (rm_lt (by decide) (by decide)) (Nat.le_of_ble_eq_true rfl) dX1_strange_49 ?_
        refine xp_length hX.P hW (by omega) ?_
        refine g_al0 dX1_strange_52 ?_
        refine f_getA 6 fk_X1_111 rfl hR.sh (fun _ _ => rfl) hX.f6 dX1_strange_53 ?_
        refine f_getv 5 fk_X1_199 rfl hX.K.sh (fun _ _ => rfl) hX.K.y dX1_strange_56 ?_
        refine g_il2 dX1_strange_59 ?_
        refine g_iadd dX1_strange_60 ?_
        refine g_callV4I (d' := 7) lk_X1_212 hX.P.sh rfl (rm_lt (by decide) (by decide)) (Nat.le_of_ble_eq_true rfl) dX1_strange_61 ?_
        refine xp_heard hX.P hW hl (by omega) (ρ := fun k => r (11 + 7 * i + k)) hI.2.2.2.1 (fun k k0 k1 => ?_) (by omega) ?_
        · have h1 := hW.song (i := i) (k := k) (by omega) (by omega) k0 (by omega)
          refine ⟨?_, by omega, by omega⟩
          rw [show (0 : Int) + k = k by omega]
          exact hI.2.2.2.2.2 k k0 k1
        have hh := hi_hd (y := s 0 + n) hW (i := i) (by omega)
        have hdi := hd_in (r := r) (row := fun k => r (11 + 7 * i + k)) (L := r (10 + 7 * i)) (y := s 0 + n) (by omega)
        refine g_il1 dX1_strange_64 ?_
        refine g_icmp_eq (tgt := 74) dX1_strange_65 (by decide) (by omega) (fun h65 => ?_) (fun h65 => ?_)
        · refine g_inc2 dX1_strange_74 (by decide) rfl ?_
          refine g_goto (tgt := 16) dX1_strange_77 (by decide) ?_
          refine ih _ (by omega) (by omega) (by omega) (fun j j0 j1 => ?_)
          by_cases hj : j = n
          · rw [hj, hh.mpr (by omega)]; rfl
          · exact hf j j0 (by omega)
        refine g_al0 dX1_strange_68 ?_
        refine g_il2 dX1_strange_69 ?_
        refine g_callV1I (d' := 2) lk_X1_69 hR.sh rfl (rm_lt (by decide) (by decide)) (Nat.le_of_ble_eq_true rfl) dX1_strange_70 ?_
        refine xo_well hR ?_
        exact g_iret rfl dX1_strange_73 ⟨_, rfl, by have e : fI_ (fun n => !hi_ r i (s 0 + n)) 100 = n := fI_hit h0 (by omega) (by rw [Bool.eq_false_iff.mpr (fun w => absurd (hh.mp w) (by omega))]; rfl) hf; exact hQ _ _ _ (by unfold qStrange_; rw [if_pos (by omega), e, if_neg (by omega)]) (hX0.e XE_.rf hlt) XE_.rf⟩
    refine g_iconst dX1_strange_14 ?_
    refine g_is2 dX1_strange_15 (by decide) rfl ?_
    exact L16 101 _ (by omega) (by omega) (by omega) (fun j j0 j1 => by omega)
  refine g_al0 dX1_strange_8 ?_
  refine g_iconst dX1_strange_9 ?_
  refine g_callV1I (d' := 2) lk_X1_65 hR.sh rfl (rm_lt (by decide) (by decide)) (Nat.le_of_ble_eq_true rfl) dX1_strange_10 ?_
  refine xo_refused hR ?_
  exact g_iret rfl dX1_strange_13 ⟨_, rfl, hQ _ _ _ (by unfold qStrange_; rw [if_neg (by omega)]) (hX0.e (XE_.rf) hlt) (XE_.rf)⟩
theorem xo_unlikeNow  {b i : Int} {Q : Int → JH → Prop} (hX : XD_ G X σ T r s) (hW : RW_ r) (hD : DW_ r s) (hb : 0 ≤ b ∧ b < r 7) (hi : 0 ≤ i ∧ i < r 4)
    (hQ : Q (uN_ r s b i) σ) : CallI_ G 7 yX1_unlikeNow cX1_unlikeNow 3 (some .int) [A_ (some X), I_ b, I_ i] σ Q := by
  refine call_go [some (A_ (some X)), some (I_ b), some (I_ i)] (by decide) (Nat.le_of_ble_eq_true rfl) rfl ?_
  have hR := hX.R
  have hn := hW.n
  refine g_al0 dX1_unlikeNow_0 ?_
  refine f_getA 5 fk_X1_104 rfl hR.sh (fun _ _ => rfl) hX.f5 dX1_unlikeNow_1 ?_
  refine g_il2 dX1_unlikeNow_4 ?_
  refine g_callV1I (d' := 5) lk_X1_196 hX.P.sh rfl (rm_lt (by decide) (by decide)) (Nat.le_of_ble_eq_true rfl) dX1_unlikeNow_5 ?_
  refine xp_length hX.P hW hi ?_
  have hl := hW.len hi.1 hi.2
  refine g_al0 dX1_unlikeNow_8 ?_
  refine g_il1 dX1_unlikeNow_9 ?_
  refine g_callV1I (d' := 6) lk_X1_206 hR.sh rfl (rm_lt (by decide) (by decide)) (Nat.le_of_ble_eq_true rfl) dX1_unlikeNow_10 ?_
  refine xo_sungNotes hX hW hD hb ?_
  have hbl := bl_in hW hb.1 hb.2
  refine g_icmp_ne (tgt := 45) dX1_unlikeNow_13 (by decide) (by omega) (fun h13 => ?_) (fun h13 => ?_)
  · refine g_bipush dX1_unlikeNow_45 (by decide) (by decide) ?_
    exact g_iret rfl dX1_unlikeNow_47 ⟨_, rfl, by unfold uN_ at hQ; rw [if_neg (by omega)] at hQ; exact hQ⟩
  refine g_al0 dX1_unlikeNow_16 ?_
  refine f_getA 5 fk_X1_104 rfl hR.sh (fun _ _ => rfl) hX.f5 dX1_unlikeNow_17 ?_
  refine g_al0 dX1_unlikeNow_20 ?_
  refine f_getA 6 fk_X1_111 rfl hR.sh (fun _ _ => rfl) hX.f6 dX1_unlikeNow_21 ?_
  refine f_getA 4 fk_X1_209 rfl hX.K.sh (fun _ _ => rfl) hX.K.f4 dX1_unlikeNow_24 ?_
  refine g_bipush dX1_unlikeNow_27 (by decide) (by decide) ?_
  refine g_il1 dX1_unlikeNow_29 ?_
  refine g_imul dX1_unlikeNow_30 ?_
  refine g_il2 dX1_unlikeNow_31 ?_
  refine g_al0 dX1_unlikeNow_32 ?_
  refine f_getA 6 fk_X1_111 rfl hR.sh (fun _ _ => rfl) hX.f6 dX1_unlikeNow_33 ?_
  refine f_getv 5 fk_X1_199 rfl hX.K.sh (fun _ _ => rfl) hX.K.y dX1_unlikeNow_36 ?_
  refine g_callV4I (d' := 6) lk_X1_266 hX.P.sh rfl (rm_lt (by decide) (by decide)) (Nat.le_of_ble_eq_true rfl) dX1_unlikeNow_39 ?_
  have ee : r (10 + 7 * i) = bl_ r b := by omega
  have hd0 := hD.n
  refine xp_unlike hX.P hW hi (by omega) hX.K.a4 (by rw [ee]; exact rb_row hX hW hD hb) (by omega) ?_
  rw [ee]
  refine g_goto (tgt := 47) dX1_unlikeNow_42 (by decide) ?_
  exact g_iret rfl dX1_unlikeNow_47 ⟨_, rfl, by unfold uN_ at hQ; rw [if_pos (by omega)] at hQ; exact hQ⟩
theorem uN_in (hW : RW_ r) {b : Int} (hb : 0 ≤ b ∧ b < r 7) (i : Int) : 0 ≤ uN_ r s b i ∧ uN_ r s b i ≤ 7 := by
  have hl := bl_in hW hb.1 hb.2
  have hu := ul_in r (rb_ s b (-1) 0) i (s 0) (L := bl_ r b) (by omega)
  unfold uN_
  split <;> omega
theorem xo_nearest  {b : Int} {Q : Int → JH → Prop} (hX : XD_ G X σ T r s) (hW : RW_ r) (hD : DW_ r s) (hb : 0 ≤ b ∧ b < r 7)
    (hQ : Q (nr_ r s b).1 σ) : CallI_ G 8 yX1_nearest cX1_nearest 4 (some .int) [A_ (some X), I_ b] σ Q := by
  refine call_go [some (A_ (some X)), some (I_ b), none, none] (by decide) (Nat.le_of_ble_eq_true rfl) rfl ?_
  have hR := hX.R
  have hn := hW.n
  have L5 : ∀ (fu : Nat) (le : Int) (i : Int), r 4 - i < (fu : Int) → (0 ≤ i) → (i ≤ r 4) → (0 ≤ le ∧ le ≤ 7) → (le = (iI_ (ns_ r (rb_ s b (-1) 0) (bl_ r b) (s 0)) (7, 0) i).1) → GoM_ G 8 yX1_nearest cX1_nearest 4 (some .int) σ (fun v σ' => ∃ x : Int, v = some (I_ x) ∧ Q x σ') 5 [some (A_ (some X)), some (I_ b), some (I_ le), some (I_ i)] [] σ := by
    intro fu
    induction fu with
    | zero => intro le i hn h0 h1 hl hc; exact absurd hn (by omega)
    | succ fu ih =>
      intro le i hn h0 h1 hl hc
      refine g_il3 dX1_nearest_5 ?_
      refine g_al0 dX1_nearest_6 ?_
      refine f_getA 5 fk_X1_104 rfl hR.sh (fun _ _ => rfl) hX.f5 dX1_nearest_7 ?_
      refine f_getA 4 fk_X1_122 rfl hX.P.sh (fun _ _ => rfl) hX.P.f4 dX1_nearest_10 ?_
      refine g_callV0I (d' := 2) lk_X1_127 hX.P.l0.1 rfl (rm_lt (by decide) (by decide)) (Nat.le_of_ble_eq_true rfl) dX1_nearest_13 ?_
      refine js_size hX.P.l0 ?_
      refine g_icmp_ge (tgt := 36) dX1_nearest_16 (by decide) (by omega) (fun h16 => ?_) (fun h16 => ?_)
      · refine g_il2 dX1_nearest_36 ?_
        exact g_iret rfl dX1_nearest_37 ⟨_, rfl, by unfold nr_ at hQ; rw [show r 4 = i by omega, ← hc] at hQ; exact hQ⟩
      refine g_il2 dX1_nearest_19 ?_
      refine g_al0 dX1_nearest_20 ?_
      refine g_il1 dX1_nearest_21 ?_
      refine g_il3 dX1_nearest_22 ?_
      refine g_callV2I (d' := 7) lk_X1_280 hR.sh rfl (rm_lt (by decide) (by decide)) (Nat.le_of_ble_eq_true rfl) dX1_nearest_23 ?_
      have hu := uN_in (s := s) hW hb i
      refine xo_unlikeNow hX hW hD hb (by omega) ?_
      refine g_mmin q1272 (by omega) (rm_64 (by decide)) (Nat.le_of_ble_eq_true rfl) dX1_nearest_26 ?_
      have hb1 : 0 ≤ (if uN_ r s b i < le then uN_ r s b i else le) ∧ (if uN_ r s b i < le then uN_ r s b i else le) ≤ 7 := by split <;> omega
      refine g_is2 dX1_nearest_29 (by decide) rfl ?_
      refine g_inc3 dX1_nearest_30 (by decide) rfl ?_
      refine g_goto (tgt := 5) dX1_nearest_33 (by decide) ?_
      refine ih _ _ (by omega) (by omega) (by omega) hb1 ?_
      rw [iI_s _ _ h0]
      generalize iI_ (ns_ r (rb_ s b (-1) 0) (bl_ r b) (s 0)) (7, 0) i = q at hc ⊢
      unfold ns_ uN_
      by_cases c : r (10 + 7 * i) = bl_ r b
      · rw [if_pos c, if_pos c, hc]
      · rw [if_neg c, if_neg c, if_neg (by omega)]
        exact hc
  refine g_bipush dX1_nearest_0 (by decide) (by decide) ?_
  refine g_is2 dX1_nearest_2 (by decide) rfl ?_
  refine g_iconst dX1_nearest_3 ?_
  refine g_is3 dX1_nearest_4 (by decide) rfl ?_
  exact L5 8 _ _ (by omega) (by omega) (by omega) (by omega) rfl
theorem xo_near {p : Int} {b : Int} {Q : Int → JH → Prop} (hX0 : XQ_ G X σ p T r s) (hP : MP_ p r s) (hb : -2147483648 ≤ b ∧ b < 2147483648)
    (hQ : ∀ (x t : Int) (σ' : JH), qNear_ p r s b = (x, t) → XQ_ G X σ' p T r s → XE_ X σ σ' t → Q x σ') : CallI_ G 9 yX1_near cX1_near 2 (some .int) [A_ (some X), I_ b] σ Q := by
  refine call_go [some (A_ (some X)), some (I_ b)] (by decide) (Nat.le_of_ble_eq_true rfl) rfl ?_
  refine g_lt (fun hlt hgz => ?_)
  have hR := hX0.1
  have hp01 := hP.b
  refine g_al0 dX1_near_0 ?_
  refine g_il1 dX1_near_1 ?_
  refine g_callV1I (d' := 3) lk_X1_168 hR.sh rfl (rm_lt (by decide) (by decide)) (Nat.le_of_ble_eq_true rfl) dX1_near_2 ?_
  refine xo_isBox hX0 hP.rw (by omega) (fun x2 hx2 => ?_)
  unfold isB_ at hx2
  refine g_if_eq (tgt := 20) dX1_near_5 (by decide) (by omega) (fun h5 => ?_) (fun h5 => ?_)
  · refine g_al0 dX1_near_20 ?_
    refine g_iconst dX1_near_21 ?_
    refine g_callV1I (d' := 2) lk_X1_65 hR.sh rfl (rm_lt (by decide) (by decide)) (Nat.le_of_ble_eq_true rfl) dX1_near_22 ?_
    refine xo_refused hR ?_
    exact g_iret rfl dX1_near_25 ⟨_, rfl, hQ _ _ _ (by unfold qNear_; rw [if_neg (by omega)]) (hX0.e (XE_.rf) hlt) (XE_.rf)⟩
  refine g_al0 dX1_near_8 ?_
  refine g_al0 dX1_near_9 ?_
  refine g_il1 dX1_near_10 ?_
  refine g_callV1I (d' := 8) lk_X1_283 hR.sh rfl (rm_lt (by decide) (by decide)) (Nat.le_of_ble_eq_true rfl) dX1_near_11 ?_
  obtain ⟨hW, hD⟩ := hP.get (by omega)
  have hX := hX0.get (by omega)
  have hn := hW.n
  refine xo_nearest hX hW hD (by omega) ?_
  refine g_callV1I (d' := 2) lk_X1_69 hR.sh rfl (rm_lt (by decide) (by decide)) (Nat.le_of_ble_eq_true rfl) dX1_near_14 ?_
  refine xo_well hR ?_
  refine g_goto (tgt := 25) dX1_near_17 (by decide) ?_
  exact g_iret rfl dX1_near_25 ⟨_, rfl, hQ _ _ _ (by unfold qNear_; rw [if_pos (by omega)]) (hX0.e (XE_.rf) hlt) (XE_.rf)⟩
theorem nr_0 (hW : RW_ r) {b : Int} (hb : 0 ≤ b ∧ b < r 7) : 0 ≤ (nr_ r s b).1 := by
  have hl := bl_in hW hb.1 hb.2
  have hn := hW.n
  unfold nr_
  refine iI_inv (f := ns_ r (rb_ s b (-1) 0) (bl_ r b) (s 0)) (a := ((7 : Int), (0 : Int))) (n := r 4) (P := fun _ q => 0 ≤ q.1) (by decide) (fun k q k0 k1 hq => ?_) (by omega)
  have hu := ul_in r (rb_ s b (-1) 0) k (s 0) (L := bl_ r b) (by omega)
  unfold ns_
  split
  · dsimp only; split <;> omega
  · exact hq
theorem xo_asNear {p : Int} {b : Int} {Q : Int → JH → Prop} (hX0 : XQ_ G X σ p T r s) (hP : MP_ p r s) (hb : -2147483648 ≤ b ∧ b < 2147483648)
    (hQ : ∀ (x t : Int) (σ' : JH), qAsNear_ p r s b = (x, t) → XQ_ G X σ' p T r s → XE_ X σ σ' t → Q x σ') : CallI_ G 9 yX1_asNear cX1_asNear 4 (some .int) [A_ (some X), I_ b] σ Q := by
  refine call_go [some (A_ (some X)), some (I_ b), none, none] (by decide) (Nat.le_of_ble_eq_true rfl) rfl ?_
  refine g_lt (fun hlt hgz => ?_)
  have hR := hX0.1
  have hp01 := hP.b
  refine g_al0 dX1_asNear_0 ?_
  refine g_il1 dX1_asNear_1 ?_
  refine g_callV1I (d' := 3) lk_X1_168 hR.sh rfl (rm_lt (by decide) (by decide)) (Nat.le_of_ble_eq_true rfl) dX1_asNear_2 ?_
  refine xo_isBox hX0 hP.rw (by omega) (fun x2 hx2 => ?_)
  unfold isB_ at hx2
  refine g_if_ne (tgt := 14) dX1_asNear_5 (by decide) (by omega) (fun h5 => ?_) (fun h5 => ?_)
  · obtain ⟨hW, hD⟩ := hP.get (by omega)
    have hX := hX0.get (by omega)
    have hn := hW.n
    have hnc := nr_cnt (s := s) (b := b) hW (by omega)
    have hn0 : 0 ≤ (nr_ r s b).1 := nr_0 hW (by omega)
    have L18 : ∀ (fu : Nat) (n1 : Int) (i : Int), r 4 - i < (fu : Int) → (0 ≤ i) → (i ≤ r 4) → (0 ≤ n1 ∧ n1 ≤ i) → (n1 = sI_ (fun i => if uN_ r s b i = (nr_ r s b).1 then 1 else 0) i) → GoM_ G 9 yX1_asNear cX1_asNear 4 (some .int) σ (fun v σ' => ∃ x : Int, v = some (I_ x) ∧ Q x σ') 18 [some (A_ (some X)), some (I_ b), some (I_ n1), some (I_ i)] [] σ := by
      intro fu
      induction fu with
      | zero => intro n1 i hn h0 h1 hl hc; exact absurd hn (by omega)
      | succ fu ih =>
        intro n1 i hn h0 h1 hl hc
        refine g_il3 dX1_asNear_18 ?_
        refine g_al0 dX1_asNear_19 ?_
        refine f_getA 5 fk_X1_104 rfl hR.sh (fun _ _ => rfl) hX.f5 dX1_asNear_20 ?_
        refine f_getA 4 fk_X1_122 rfl hX.P.sh (fun _ _ => rfl) hX.P.f4 dX1_asNear_23 ?_
        refine g_callV0I (d' := 2) lk_X1_127 hX.P.l0.1 rfl (rm_lt (by decide) (by decide)) (Nat.le_of_ble_eq_true rfl) dX1_asNear_26 ?_
        refine js_size hX.P.l0 ?_
        refine g_icmp_ge (tgt := 60) dX1_asNear_29 (by decide) (by omega) (fun h29 => ?_) (fun h29 => ?_)
        · refine g_al0 dX1_asNear_60 ?_
          refine g_il2 dX1_asNear_61 ?_
          refine g_callV1I (d' := 2) lk_X1_69 hR.sh rfl (rm_lt (by decide) (by decide)) (Nat.le_of_ble_eq_true rfl) dX1_asNear_62 ?_
          refine xo_well hR ?_
          exact g_iret rfl dX1_asNear_65 ⟨_, rfl, hQ _ _ _ (by unfold qAsNear_; rw [if_pos (by omega), hnc.2, show r 4 = i by omega, ← hc]) (hX0.e (XE_.rf) hlt) (XE_.rf)⟩
        refine g_il2 dX1_asNear_32 ?_
        refine g_al0 dX1_asNear_33 ?_
        refine g_il1 dX1_asNear_34 ?_
        refine g_il3 dX1_asNear_35 ?_
        refine g_callV2I (d' := 7) lk_X1_280 hR.sh rfl (rm_lt (by decide) (by decide)) (Nat.le_of_ble_eq_true rfl) dX1_asNear_36 ?_
        have hu := uN_in (s := s) (b := b) hW (by omega) i
        refine xo_unlikeNow hX hW hD (by omega) (by omega) ?_
        refine g_al0 dX1_asNear_39 ?_
        refine g_il1 dX1_asNear_40 ?_
        refine g_callV1I (d' := 8) lk_X1_283 hR.sh rfl (rm_lt (by decide) (by decide)) (Nat.le_of_ble_eq_true rfl) dX1_asNear_41 ?_
        refine xo_nearest hX hW hD (by omega) ?_
        refine g_icmp_ne (tgt := 51) dX1_asNear_44 (by decide) (by omega) (fun h44 => ?_) (fun h44 => ?_)
        · refine g_iconst dX1_asNear_51 ?_
          refine g_iadd dX1_asNear_52 ?_
          refine g_is2 dX1_asNear_53 (by decide) rfl ?_
          refine g_inc3 dX1_asNear_54 (by decide) rfl ?_
          refine g_goto (tgt := 18) dX1_asNear_57 (by decide) ?_
          exact ih _ _ (by omega) (by omega) (by omega) (by omega) (by rw [sI_s _ h0, ← hc, if_neg (by omega)])
        refine g_iconst dX1_asNear_47 ?_
        refine g_goto (tgt := 52) dX1_asNear_48 (by decide) ?_
        refine g_iadd dX1_asNear_52 ?_
        refine g_is2 dX1_asNear_53 (by decide) rfl ?_
        refine g_inc3 dX1_asNear_54 (by decide) rfl ?_
        refine g_goto (tgt := 18) dX1_asNear_57 (by decide) ?_
        exact ih _ _ (by omega) (by omega) (by omega) (by omega) (by rw [sI_s _ h0, ← hc, if_pos (by omega)])
    refine g_iconst dX1_asNear_14 ?_
    refine g_is2 dX1_asNear_15 (by decide) rfl ?_
    refine g_iconst dX1_asNear_16 ?_
    refine g_is3 dX1_asNear_17 (by decide) rfl ?_
    exact L18 8 _ _ (by omega) (by omega) (by omega) (by omega) (sI_0 _).symm
  refine g_al0 dX1_asNear_8 ?_
  refine g_iconst dX1_asNear_9 ?_
  refine g_callV1I (d' := 2) lk_X1_65 hR.sh rfl (rm_lt (by decide) (by decide)) (Nat.le_of_ble_eq_true rfl) dX1_asNear_10 ?_
  refine xo_refused hR ?_
  exact g_iret rfl dX1_asNear_13 ⟨_, rfl, hQ _ _ _ (by unfold qAsNear_; rw [if_neg (by omega)]) (hX0.e (XE_.rf) hlt) (XE_.rf)⟩
end
