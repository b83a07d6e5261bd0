/-! THE REFERENCE: beginnings of lines; the post's line. Written by mod/m65.py -/
set_option maxRecDepth 100000
section
variable {G : JG} {m : Nat} {σ : JH}
theorem mp_wrong {w at1 : Int} {Q : JH → Prop} (hX : RB_ G m σ)
    (hQ : ∀ σ1, σ1 = wr_ m σ w at1 → RB_ G m σ1 → A0_ (pf0_ m) m σ σ1 → iv_ σ1 m 13 = 1 → Q σ1) : CallV_ G 2 yX2_wrong cX2_wrong 3 none [A_ (some m), I_ w, I_ at1] σ Q := mo_wrong hX.1 hX.2.1.2.2.1 (hQ _ rfl (hX.sw _ _).1 (wr_A0 _ _) (wr_13 hX.2.1.2.2.1))
theorem mp_next {Q : JH → Prop} (hX : RB_ G m σ)
    (hQ : ∀ σ1, σ1 = nxt_ m σ → RB_ G m σ1 → A0_ (pf0_ m) m σ σ1 → Q σ1) : CallV_ G 3 yX2_next cX2_next 4 none [A_ (some m)] σ Q := mo_next hX.1 hX.2.1.1 hX.2.1.2.1 (hQ _ rfl hX.sn.1 (nxt_A0 hX.2.1))
theorem mp_after {a v : Nat} {lo hi : Int} {w : String} {Q : Int → JH → Prop} (hX : RB_ G m σ) (hS : Str_ σ a v w.length (tx_ w)) (hlo : 0 ≤ lo ∧ lo ≤ 10000) (hhi : 0 ≤ hi ∧ hi ≤ 10000)
    (hQ : ∀ x σ1, x = awv_ m σ w lo hi → σ1 = aw_ m σ w lo hi → RB_ G m σ1 → A0_ (pf0_ m) m σ σ1 → (x = lo ∨ (lo ≤ x ∧ x ≤ hi)) → Q x σ1) : CallI_ G 10 yX2_after cX2_after 4 (some .int) [A_ (some m), A_ (some a), I_ lo, I_ hi] σ Q := mo_after hX.1 hX.2.1 hS hlo hhi (hQ _ _ rfl rfl (hX.sa w lo hi).1 (aft_A0 hX.2.1 _ _ _ _) (awv_in hX.2.1 w))
theorem mp_behind {a v : Nat} {w : String} {Q : Int → JH → Prop} (hX : RB_ G m σ) (hS : Str_ σ a v w.length (tx_ w))
    (hQ : ∀ x σ1, x = bwv_ m σ w → σ1 = bw_ m σ w → RB_ G m σ1 → A0_ (pf0_ m) m σ σ1 → (0 ≤ x ∧ x ≤ 6) → Q x σ1) : CallI_ G 11 yX2_islandBehind cX2_islandBehind 2 (some .int) [A_ (some m), A_ (some a)] σ Q := mo_islandBehind hX.1 hX.2.1 hX.2.2.1 hX.2.2.2 hS (hQ _ _ rfl rfl (hX.of (ibh_A0 hX.2.1 _ _) (hX.2.1.ibh _ _)) (ibh_A0 hX.2.1 _ _) (bwv_in σ w))
theorem mp_named {lo hi : Int} {Q : Int → JH → Prop} (hX : RB_ G m σ) (hlo : 0 ≤ lo ∧ lo ≤ 100) (hhi : 0 ≤ hi ∧ hi ≤ 100)
    (hQ : ∀ x σ1, x = ndv_ m σ lo hi → σ1 = ndd_ m σ lo hi → RB_ G m σ1 → A0_ (pf0_ m) m σ σ1 → (x = 0 ∨ (0 ≤ x ∧ x ≤ hi - lo)) → Q x σ1) : CallI_ G 9 yX2_named cX2_named 4 (some .int) [A_ (some m), I_ lo, I_ hi] σ Q := mo_named hX.1 hX.2.1 hX.2.2.1 hX.2.2.2 hlo hhi (hQ _ _ rfl rfl (hX.sd lo hi).1 (ndd_A0 _ _) (ndv_in σ hlo.1))
theorem mp_passed {Q : Int → JH → Prop} (hX : RB_ G m σ)
    (hQ : ∀ x σ1, x = ndv_ m σ 0 6 → σ1 = onn_ m (ndd_ m σ 0 6) → RB_ G m σ1 → A0_ (pf0_ m) m σ σ1 → (0 ≤ x ∧ x ≤ 6) → Q x σ1) : CallI_ G 10 yX2_islandPassed cX2_islandPassed 2 (some .int) [A_ (some m)] σ Q := mo_islandPassed hX.1 hX.2.1 hX.2.2.1 hX.2.2.2 (hQ _ _ rfl rfl (hX.sd 0 6).1.so.1 ((ndd_A0 0 6).tr (onn_A0 (hX.sd 0 6).1.2.1)) (ndv6_in σ))
theorem mp_newName {n1 : Int} {Q : JH → Prop} (hX : RB_ G m σ) (hn1 : 0 ≤ n1 ∧ n1 < 20)
    (hQ : ∀ σ1, σ1 = nna_ m σ n1 → RB_ G m σ1 → A0_ (pf1_ m) m σ σ1 → Q σ1) : CallV_ G 9 yX2_newName cX2_newName 3 none [A_ (some m), I_ n1] σ Q := mo_newName hX.1 hX.2.1 hX.2.2.1 hX.2.2.2 hn1 (hQ _ rfl (hX.sN n1).1 (hX.sN n1).2)
theorem mp_begins {a v n : Nat} {c : Int → Int} {can : Int} {Q : Int → JH → Prop} (hX0 : RB_ G m σ) (hS : Str_ σ a v n c) (hcan : can = 0 ∨ can = 1)
    (hQ1 : iw_ m σ n c = true → Q 1 (bgs_ m σ can)) (hQ0 : iw_ m σ n c = false → Q 0 σ) : CallI_ G 8 yX2_begins cX2_begins 3 (some .boolean) [A_ (some m), A_ (some a), I_ can] σ Q := by
  refine call_go [some (A_ (some m)), some (A_ (some a)), some (I_ can)] (by decide) (Nat.le_of_ble_eq_true rfl) rfl ?_
  have hR := hX0.1
  refine g_al0 dX2_begins_0 ?_
  refine g_al1 dX2_begins_1 ?_
  refine g_callV1I (d' := 7) lk_X2_117 hR.sh rfl (rm_lt (by decide) (by decide)) (Nat.le_of_ble_eq_true rfl) dX2_begins_2 ?_
  refine mo_isWord hX0.1 hX0.2.1 hS (fun z hz => ?_)
  refine g_if_ne (tgt := 10) dX2_begins_5 (by decide) (by omega) (fun h5 => ?_) (fun h5 => ?_)
  · refine g_il2 dX2_begins_10 ?_
    have hw : iw_ m σ n c = true := by
      rcases hz with q | q
      · exact q.2
      · omega
    have h0 := (iw_13 hw).1
    refine g_if_ne (tgt := 23) dX2_begins_11 (by decide) (by omega) (fun h11 => ?_) (fun h11 => ?_)
    · refine g_al0 dX2_begins_23 ?_
      refine f_getA 16 fk_X2_23 rfl hR.sh (fun _ _ => rfl) hR.f16 dX2_begins_24 ?_
      refine g_bipush dX2_begins_27 (by decide) (by decide) ?_
      have hb9 := hX0.c4 (k := 9) (by decide) (by decide)
      refine g_iald hR.a16 (by omega) dX2_begins_29 ?_
      refine g_if_ne (tgt := 43) dX2_begins_30 (by decide) (by omega) (fun h30 => ?_) (fun h30 => ?_)
      · refine g_al0 dX2_begins_43 ?_
        refine f_getv 13 fk_X2_100 rfl hR.sh (fun _ _ => rfl) h0 dX2_begins_44 ?_
        refine g_if_ne (tgt := 54) dX2_begins_47 (by decide) (by omega) (fun h47 => ?_) (fun h47 => ?_)
        · exact absurd rfl h47
        refine g_al0 dX2_begins_50 ?_
        refine g_callV0V (d' := 3) lk_X2_121 hR.sh rfl (rm_lt (by decide) (by decide)) (Nat.le_of_ble_eq_true rfl) dX2_begins_51 ?_
        refine mp_next hX0 (fun σ1 e1 hX1 hA1 => ?_)
        have hR := hX1.1
        refine g_iconst dX2_begins_54 ?_
        exact g_zret rfl (by omega) dX2_begins_55 ⟨_, rfl, by have q := hQ1 hw; unfold bgs_ at q; rw [if_neg (by omega), if_neg (by omega), ← e1] at q; exact q⟩
      refine g_al0 dX2_begins_33 ?_
      refine g_bipush dX2_begins_34 (by decide) (by decide) ?_
      refine g_al0 dX2_begins_36 ?_
      refine f_getI 4 fk_X2_81 rfl hR.sh (fun _ _ => rfl) dX2_begins_37 ?_
      refine g_callV2V (d' := 2) lk_X2_127 hR.sh rfl (rm_lt (by decide) (by decide)) (Nat.le_of_ble_eq_true rfl) dX2_begins_40 ?_
      refine mp_wrong hX0 (fun σ1 e1 hX1 hA1 h13 => ?_)
      have hR := hX1.1
      refine g_al0 dX2_begins_43 ?_
      refine f_getv 13 fk_X2_100 rfl hR.sh (fun _ _ => rfl) h13 dX2_begins_44 ?_
      refine g_if_ne (tgt := 54) dX2_begins_47 (by decide) (by omega) (fun h47 => ?_) (fun h47 => ?_)
      · refine g_iconst dX2_begins_54 ?_
        exact g_zret rfl (by omega) dX2_begins_55 ⟨_, rfl, by have q := hQ1 hw; unfold bgs_ at q; rw [if_neg (by omega), if_pos (by omega), ← e1] at q; exact q⟩
      exact absurd h47 (by decide)
    refine g_al0 dX2_begins_14 ?_
    refine g_iconst dX2_begins_15 ?_
    refine g_al0 dX2_begins_16 ?_
    refine f_getI 4 fk_X2_81 rfl hR.sh (fun _ _ => rfl) dX2_begins_17 ?_
    refine g_callV2V (d' := 2) lk_X2_127 hR.sh rfl (rm_lt (by decide) (by decide)) (Nat.le_of_ble_eq_true rfl) dX2_begins_20 ?_
    refine mp_wrong hX0 (fun σ1 e1 hX1 hA1 h13 => ?_)
    have hR := hX1.1
    refine g_al0 dX2_begins_23 ?_
    refine f_getA 16 fk_X2_23 rfl hR.sh (fun _ _ => rfl) hR.f16 dX2_begins_24 ?_
    refine g_bipush dX2_begins_27 (by decide) (by decide) ?_
    have hb9 := hX1.c4 (k := 9) (by decide) (by decide)
    refine g_iald hR.a16 (by omega) dX2_begins_29 ?_
    refine g_if_ne (tgt := 43) dX2_begins_30 (by decide) (by omega) (fun h30 => ?_) (fun h30 => ?_)
    · refine g_al0 dX2_begins_43 ?_
      refine f_getv 13 fk_X2_100 rfl hR.sh (fun _ _ => rfl) h13 dX2_begins_44 ?_
      refine g_if_ne (tgt := 54) dX2_begins_47 (by decide) (by omega) (fun h47 => ?_) (fun h47 => ?_)
      · refine g_iconst dX2_begins_54 ?_
        exact g_zret rfl (by omega) dX2_begins_55 ⟨_, rfl, by have q := hQ1 hw; unfold bgs_ at q; rw [if_pos (by omega), ← e1] at q; exact q⟩
      exact absurd h47 (by decide)
    refine g_al0 dX2_begins_33 ?_
    refine g_bipush dX2_begins_34 (by decide) (by decide) ?_
    refine g_al0 dX2_begins_36 ?_
    refine f_getI 4 fk_X2_81 rfl hR.sh (fun _ _ => rfl) dX2_begins_37 ?_
    refine g_callV2V (d' := 2) lk_X2_127 hR.sh rfl (rm_lt (by decide) (by decide)) (Nat.le_of_ble_eq_true rfl) dX2_begins_40 ?_
    refine mp_wrong hX1 (fun σ2 e2 hX2 hA2 h13b => ?_)
    have hR := hX2.1
    refine g_al0 dX2_begins_43 ?_
    refine f_getv 13 fk_X2_100 rfl hR.sh (fun _ _ => rfl) h13b dX2_begins_44 ?_
    refine g_if_ne (tgt := 54) dX2_begins_47 (by decide) (by omega) (fun h47 => ?_) (fun h47 => ?_)
    · refine g_iconst dX2_begins_54 ?_
      exact g_zret rfl (by omega) dX2_begins_55 ⟨_, rfl, by have q := hQ1 hw; unfold bgs_ at q; rw [if_pos (by omega), ← e1, ← (wr_id (w := 6) (a := iv_ σ1 m 4) (by omega) : wr_ m σ1 6 (iv_ σ1 m 4) = σ1), ← e2] at q; exact q⟩
    exact absurd h47 (by decide)
  refine g_iconst dX2_begins_8 ?_
  exact g_zret rfl (by omega) dX2_begins_9 ⟨_, rfl, by rcases hz with q | q; (omega); (exact hQ0 q.2)⟩
theorem mp_isSong  {j : Int} {Q : Int → JH → Prop} (hX : RB_ G m σ) (h2 : iv_ σ m 6 = 2) (hj : 0 ≤ j ∧ j < 7)
    (hQ : ∀ z : Int, (z = 1 ∧ sg1_ m σ j = true) ∨ (z = 0 ∧ sg1_ m σ j = false) → Q z σ) : CallI_ G 2 yX2_isSong cX2_isSong 5 (some .boolean) [A_ (some m), I_ j] σ Q := by
  refine call_go [some (A_ (some m)), some (I_ j), none, none, none] (by decide) (Nat.le_of_ble_eq_true rfl) rfl ?_
  have hR := hX.1
  have hp := hX.2.1.2.2.2.2.2.2.2 h2
  have L30 : ∀ (n : Nat) (z : Int) (k : Int), iv_ σ m 8 - k < (n : Int) → (0 ≤ k) → (k ≤ iv_ σ m 8) → ((z = 1 ∧ iv_ σ (m + 4) (10 + 7 * j) = iv_ σ m 8 ∧ ∀ i : Int, 0 ≤ i → i < k → iv_ σ (m + 4) (10 + 7 * j + 1 + i) = iv_ σ (m + 2) i - 97) ∨ (z = 0 ∧ sg1_ m σ j = false)) → GoM_ G 2 yX2_isSong cX2_isSong 5 (some .boolean) σ (fun v σ' => ∃ x : Int, v = some (I_ x) ∧ Q x σ') 30 [some (A_ (some m)), some (I_ j), some (I_ (10 + 7 * j)), some (I_ z), some (I_ k)] [] σ := by
    intro n
    induction n with
    | zero => intro z k hn g0 g1 gI; exact absurd hn (by omega)
    | succ n ih =>
      intro z k hn g0 g1 gI
      refine g_il4 dX2_isSong_30 ?_
      refine g_al0 dX2_isSong_32 ?_
      refine f_getI 8 fk_X2_84 rfl hR.sh (fun _ _ => rfl) dX2_isSong_33 ?_
      refine g_icmp_ge (tgt := 79) dX2_isSong_36 (by decide) (by omega) (fun h36 => ?_) (fun h36 => ?_)
      · refine g_il3 dX2_isSong_79 ?_
        exact g_zret rfl (by omega) dX2_isSong_80 ⟨_, rfl, hQ _ (by rcases gI with q | q; (refine Or.inl ⟨q.1, ?_⟩; unfold sg1_; rw [Bool.and_eq_true, al_iff (by omega)]; exact ⟨decide_eq_true q.2.1, fun i i0 i1 => decide_eq_true (q.2.2 i i0 (by omega))⟩); (exact Or.inr q))⟩
      refine g_il3 dX2_isSong_39 ?_
      refine g_if_eq (tgt := 79) dX2_isSong_40 (by decide) (by omega) (fun h40 => ?_) (fun h40 => ?_)
      · refine g_il3 dX2_isSong_79 ?_
        exact g_zret rfl (by omega) dX2_isSong_80 ⟨_, rfl, hQ _ (by rcases gI with q | q; (omega); (exact Or.inr q))⟩
      refine g_al0 dX2_isSong_43 ?_
      refine f_getA 16 fk_X2_23 rfl hR.sh (fun _ _ => rfl) hR.f16 dX2_isSong_44 ?_
      refine g_il2 dX2_isSong_47 ?_
      refine g_iconst dX2_isSong_48 ?_
      refine g_iadd dX2_isSong_49 ?_
      refine g_il4 dX2_isSong_50 ?_
      refine g_iadd dX2_isSong_52 ?_
      have hb1 := hX.c4 (k := 10 + 7 * j + 1 + k) (by omega) (by omega)
      have hl := hp.2 k (by omega) (by omega)
      refine g_iald hR.a16 (by omega) dX2_isSong_53 ?_
      refine g_al0 dX2_isSong_54 ?_
      refine f_getA 12 fk_X2_17 rfl hR.sh (fun _ _ => rfl) hR.f12 dX2_isSong_55 ?_
      refine g_il4 dX2_isSong_58 ?_
      refine g_iald hR.a12 (by omega) dX2_isSong_60 ?_
      refine g_bipush dX2_isSong_61 (by decide) (by decide) ?_
      refine g_isub dX2_isSong_63 ?_
      refine g_icmp_ne (tgt := 71) dX2_isSong_64 (by decide) (by omega) (fun h64 => ?_) (fun h64 => ?_)
      · refine g_iconst dX2_isSong_71 ?_
        refine g_is3 dX2_isSong_72 (by decide) rfl ?_
        refine g_inc4 dX2_isSong_73 (by decide) rfl ?_
        refine g_goto (tgt := 30) dX2_isSong_76 (by decide) ?_
        refine ih _ _ (by omega) (by omega) (by omega) (Or.inr ⟨rfl, Bool.eq_false_iff.mpr fun w => by unfold sg1_ at w; rw [Bool.and_eq_true, al_iff (by omega)] at w; exact absurd (of_decide_eq_true (w.2 k g0 (by omega))) (by omega)⟩)
      refine g_iconst dX2_isSong_67 ?_
      refine g_goto (tgt := 72) dX2_isSong_68 (by decide) ?_
      refine g_is3 dX2_isSong_72 (by decide) rfl ?_
      refine g_inc4 dX2_isSong_73 (by decide) rfl ?_
      refine g_goto (tgt := 30) dX2_isSong_76 (by decide) ?_
      refine ih _ _ (by omega) (by omega) (by omega) (Or.inl ⟨rfl, by rcases gI with q | q; (exact q.2.1); (omega), fun i i0 i1 => by rcases gI with q | q; (by_cases hj : i = k; (rw [hj]; omega); (exact q.2.2 i i0 (by omega))); (omega)⟩)
  refine g_bipush dX2_isSong_0 (by decide) (by decide) ?_
  refine g_bipush dX2_isSong_2 (by decide) (by decide) ?_
  refine g_il1 dX2_isSong_4 ?_
  refine g_imul dX2_isSong_5 ?_
  refine g_iadd dX2_isSong_6 ?_
  refine g_is2 dX2_isSong_7 (by decide) rfl ?_
  refine g_al0 dX2_isSong_8 ?_
  refine f_getA 16 fk_X2_23 rfl hR.sh (fun _ _ => rfl) hR.f16 dX2_isSong_9 ?_
  refine g_il2 dX2_isSong_12 ?_
  have hb0 := hX.c4 (k := 10 + 7 * j) (by omega) (by omega)
  refine g_iald hR.a16 (by omega) dX2_isSong_13 ?_
  refine g_al0 dX2_isSong_14 ?_
  refine f_getI 8 fk_X2_84 rfl hR.sh (fun _ _ => rfl) dX2_isSong_15 ?_
  refine g_icmp_ne (tgt := 25) dX2_isSong_18 (by decide) (by omega) (fun h18 => ?_) (fun h18 => ?_)
  · refine g_iconst dX2_isSong_25 ?_
    refine g_is3 dX2_isSong_26 (by decide) rfl ?_
    refine g_iconst dX2_isSong_27 ?_
    refine g_is4 dX2_isSong_28 (by decide) rfl ?_
    exact L30 9 _ _ (by omega) (by omega) (by omega) (Or.inr ⟨rfl, Bool.eq_false_iff.mpr fun w => by unfold sg1_ at w; rw [Bool.and_eq_true] at w; exact absurd (of_decide_eq_true w.1) (by omega)⟩)
  refine g_iconst dX2_isSong_21 ?_
  refine g_goto (tgt := 26) dX2_isSong_22 (by decide) ?_
  refine g_is3 dX2_isSong_26 (by decide) rfl ?_
  refine g_iconst dX2_isSong_27 ?_
  refine g_is4 dX2_isSong_28 (by decide) rfl ?_
  exact L30 9 _ _ (by omega) (by omega) (by omega) (Or.inl ⟨rfl, by omega, fun i i0 i1 => by omega⟩)
theorem mp_postLine  {Q : JH → Prop} (hX0 : RB_ G m σ) (h0 : iv_ σ m 13 = 0)
    (hQ : Q (pl_ m σ)) : CallV_ G 11 yX2_postLine cX2_postLine 1 none [A_ (some m)] σ Q := by
  refine call_go [some (A_ (some m))] (by decide) (Nat.le_of_ble_eq_true rfl) rfl ?_
  have hR := hX0.1
  refine g_al0 dX2_postLine_0 ?_
  refine f_getA 16 fk_X2_23 rfl hR.sh (fun _ _ => rfl) hR.f16 dX2_postLine_1 ?_
  refine g_bipush dX2_postLine_4 (by decide) (by decide) ?_
  have hb9 := hX0.c4 (k := 9) (by decide) (by decide)
  refine g_iald hR.a16 (by omega) dX2_postLine_6 ?_
  refine g_iconst dX2_postLine_7 ?_
  refine g_icmp_ne (tgt := 20) dX2_postLine_8 (by decide) (by omega) (fun h8 => ?_) (fun h8 => ?_)
  · refine g_al0 dX2_postLine_20 ?_
    refine f_getv 13 fk_X2_100 rfl hR.sh (fun _ _ => rfl) h0 dX2_postLine_21 ?_
    refine g_if_eq (tgt := 28) dX2_postLine_24 (by decide) (by omega) (fun h24 => ?_) (fun h24 => ?_)
    · refine g_al0 dX2_postLine_28 ?_
      refine g_callV0V (d' := 3) lk_X2_121 hR.sh rfl (rm_lt (by decide) (by decide)) (Nat.le_of_ble_eq_true rfl) dX2_postLine_29 ?_
      refine mp_next hX0 (fun σ1 e1 hX1 hA1 => ?_)
      have hR := hX1.1
      refine g_al0 dX2_postLine_32 ?_
      refine f_getA 16 fk_X2_23 rfl hR.sh (fun _ _ => rfl) hR.f16 dX2_postLine_33 ?_
      refine g_iconst dX2_postLine_36 ?_
      refine g_al0 dX2_postLine_37 ?_
      refine g_ldcS (j := 1) rfl dX2_postLine_38 ?_
      refine g_iconst dX2_postLine_40 ?_
      refine g_iconst dX2_postLine_41 ?_
      refine g_callV3I (d' := 10) lk_X2_213 hR.sh rfl (rm_lt (by decide) (by decide)) (Nat.le_of_ble_eq_true rfl) dX2_postLine_42 ?_
      obtain ⟨v1, hS1, -, -⟩ := hX1.2.2.2 1 _ rfl
      refine mp_after (w := "notes") hX1 hS1 (by omega) (by omega) (fun x2 σ2 e2 f2 hX2 hA2 hb2 => ?_)
      have hR := hX2.1
      refine g_iast hR.a16 hR.g16 (by omega) dX2_postLine_45 ?_
      generalize g3 : pi_ σ2 (m + 4) (0) x2 = σ3
      have hX3 : RB_ G m σ3 := by rw [← g3]; exact hX2.p4 (by omega)
      have hR := hX3.1
      have p3 : σ3 = ps_ m σ1 (0) "notes" 2 4 := by rw [← g3, e2, f2]; rfl
      refine g_al0 dX2_postLine_46 ?_
      refine f_getA 16 fk_X2_23 rfl hR.sh (fun _ _ => rfl) hR.f16 dX2_postLine_47 ?_
      refine g_iconst dX2_postLine_50 ?_
      refine g_al0 dX2_postLine_51 ?_
      refine g_ldcS (j := 2) rfl dX2_postLine_52 ?_
      refine g_iconst dX2_postLine_54 ?_
      refine g_iconst dX2_postLine_55 ?_
      refine g_callV3I (d' := 10) lk_X2_213 hR.sh rfl (rm_lt (by decide) (by decide)) (Nat.le_of_ble_eq_true rfl) dX2_postLine_56 ?_
      obtain ⟨v3, hS3, -, -⟩ := hX3.2.2.2 2 _ rfl
      refine mp_after (w := "errors") hX3 hS3 (by omega) (by omega) (fun x4 σ4 e4 f4 hX4 hA4 hb4 => ?_)
      have hR := hX4.1
      refine g_iast hR.a16 hR.g16 (by omega) dX2_postLine_59 ?_
      generalize g5 : pi_ σ4 (m + 4) (1) x4 = σ5
      have hX5 : RB_ G m σ5 := by rw [← g5]; exact hX4.p4 (by omega)
      have hR := hX5.1
      have p5 : σ5 = ps_ m σ3 (1) "errors" 0 3 := by rw [← g5, e4, f4]; rfl
      refine g_al0 dX2_postLine_60 ?_
      refine f_getA 16 fk_X2_23 rfl hR.sh (fun _ _ => rfl) hR.f16 dX2_postLine_61 ?_
      refine g_iconst dX2_postLine_64 ?_
      refine g_al0 dX2_postLine_65 ?_
      refine g_ldcS (j := 3) rfl dX2_postLine_66 ?_
      refine g_iconst dX2_postLine_68 ?_
      refine g_bipush dX2_postLine_69 (by decide) (by decide) ?_
      refine g_callV3I (d' := 10) lk_X2_213 hR.sh rfl (rm_lt (by decide) (by decide)) (Nat.le_of_ble_eq_true rfl) dX2_postLine_71 ?_
      obtain ⟨v5, hS5, -, -⟩ := hX5.2.2.2 3 _ rfl
      refine mp_after (w := "drift") hX5 hS5 (by omega) (by omega) (fun x6 σ6 e6 f6 hX6 hA6 hb6 => ?_)
      have hR := hX6.1
      refine g_iast hR.a16 hR.g16 (by omega) dX2_postLine_74 ?_
      generalize g7 : pi_ σ6 (m + 4) (2) x6 = σ7
      have hX7 : RB_ G m σ7 := by rw [← g7]; exact hX6.p4 (by omega)
      have hR := hX7.1
      have p7 : σ7 = ps_ m σ5 (2) "drift" 0 50 := by rw [← g7, e6, f6]; rfl
      refine g_al0 dX2_postLine_75 ?_
      refine f_getA 16 fk_X2_23 rfl hR.sh (fun _ _ => rfl) hR.f16 dX2_postLine_76 ?_
      refine g_iconst dX2_postLine_79 ?_
      refine g_al0 dX2_postLine_80 ?_
      refine g_ldcS (j := 4) rfl dX2_postLine_81 ?_
      refine g_iconst dX2_postLine_83 ?_
      refine g_bipush dX2_postLine_84 (by decide) (by decide) ?_
      refine g_callV3I (d' := 10) lk_X2_213 hR.sh rfl (rm_lt (by decide) (by decide)) (Nat.le_of_ble_eq_true rfl) dX2_postLine_86 ?_
      obtain ⟨v7, hS7, -, -⟩ := hX7.2.2.2 4 _ rfl
      refine mp_after (w := "slip") hX7 hS7 (by omega) (by omega) (fun x8 σ8 e8 f8 hX8 hA8 hb8 => ?_)
      have hR := hX8.1
      refine g_iast hR.a16 hR.g16 (by omega) dX2_postLine_89 ?_
      generalize g9 : pi_ σ8 (m + 4) (3) x8 = σ9
      have hX9 : RB_ G m σ9 := by rw [← g9]; exact hX8.p4 (by omega)
      have hR := hX9.1
      have p9 : σ9 = ps_ m σ7 (3) "slip" 0 100 := by rw [← g9, e8, f8]; rfl
      have hz : σ9 = pl1_ m (nxt_ m σ) := by rw [p9, p7, p5, p3, e1]; rfl
      have hq9 := hX9.2.1.2.2.1
      refine g_al0 dX2_postLine_90 ?_
      refine f_getI 13 fk_X2_100 rfl hR.sh (fun _ _ => rfl) dX2_postLine_91 ?_
      refine g_if_ne (tgt := 105) dX2_postLine_94 (by decide) (by omega) (fun h94 => ?_) (fun h94 => ?_)
      · exact g_vret rfl dX2_postLine_105 ⟨rfl, by unfold pl_ at hQ; rw [if_neg (by omega), ← hz, if_neg (by omega)] at hQ; exact hQ⟩
      refine g_al0 dX2_postLine_97 ?_
      refine f_getA 16 fk_X2_23 rfl hR.sh (fun _ _ => rfl) hR.f16 dX2_postLine_98 ?_
      refine g_bipush dX2_postLine_101 (by decide) (by decide) ?_
      refine g_iconst dX2_postLine_103 ?_
      refine g_iast hR.a16 hR.g16 (by omega) dX2_postLine_104 ?_
      exact g_vret rfl dX2_postLine_105 ⟨rfl, by unfold pl_ at hQ; rw [if_neg (by omega), ← hz, if_pos (by omega)] at hQ; exact hQ⟩
    exact absurd rfl h24
  refine g_al0 dX2_postLine_11 ?_
  refine g_iconst dX2_postLine_12 ?_
  refine g_al0 dX2_postLine_13 ?_
  refine f_getI 4 fk_X2_81 rfl hR.sh (fun _ _ => rfl) dX2_postLine_14 ?_
  refine g_callV2V (d' := 2) lk_X2_127 hR.sh rfl (rm_lt (by decide) (by decide)) (Nat.le_of_ble_eq_true rfl) dX2_postLine_17 ?_
  refine mp_wrong hX0 (fun σ1 e1 hX1 hA1 h13 => ?_)
  have hR := hX1.1
  refine g_al0 dX2_postLine_20 ?_
  refine f_getv 13 fk_X2_100 rfl hR.sh (fun _ _ => rfl) h13 dX2_postLine_21 ?_
  refine g_if_eq (tgt := 28) dX2_postLine_24 (by decide) (by omega) (fun h24 => ?_) (fun h24 => ?_)
  · exact absurd h24 (by decide)
  exact g_vret rfl dX2_postLine_27 ⟨rfl, by unfold pl_ at hQ; rw [if_pos (by omega), ← e1] at hQ; exact hQ⟩
end
