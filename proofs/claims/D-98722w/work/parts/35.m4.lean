/-! THE REFERENCE: what was sent; songs. Written by mod/m35.py -/
set_option maxRecDepth 100000
section
variable {G : JG} {m : Nat} {σ : JH} {r s : Int → Int}
theorem mo_sent {p : Int} {what : Int} {Q : Int → JH → Prop} (hM : MD_ G m σ r s) (hp : iv_ σ m 14 = p) (hP : MP_ p r s) (hwhat : -2147483648 ≤ what ∧ what < 2147483648)
    (hQ : ∀ (x t : Int) (σ' : JH), qSent_ p r s what = (x, t) → MD_ G m σ' r s → ME_ m σ σ' t → Q x σ') : CallI_ G 3 yX2_sent cX2_sent 4 (some .int) [A_ (some m), I_ what] σ Q := by
  refine call_go [some (A_ (some m)), some (I_ what), none, none] (by decide) (Nat.le_of_ble_eq_true rfl) rfl ?_
  have hp01 := hP.b
  refine g_al0 dX2_sent_0 ?_
  refine g_callV0V (d' := 2) lk_X2_167 hM.sh rfl (rm_lt (by decide) (by decide)) (Nat.le_of_ble_eq_true rfl) dX2_sent_1 ?_
  refine mo_good hM (fun σ1 hM hE => ?_)
  have hp := hE.p14.trans hp
  refine g_al0 dX2_sent_4 ?_
  refine f_getv 14 fk_X2_180 rfl hM.sh (fun _ _ => rfl) hp dX2_sent_5 ?_
  refine g_if_eq (tgt := 20) dX2_sent_8 (by decide) (by omega) (fun h8 => ?_) (fun h8 => ?_)
  · refine g_al0 dX2_sent_20 ?_
    refine g_iconst dX2_sent_21 ?_
    refine g_callV1I (d' := 2) lk_X2_170 hM.sh rfl (rm_lt (by decide) (by decide)) (Nat.le_of_ble_eq_true rfl) dX2_sent_22 ?_
    refine mo_no hM hE (fun σ2 hM hE => ?_)
    exact g_iret rfl dX2_sent_25 ⟨_, rfl, hQ _ _ _ (by unfold qSent_; rw [if_neg (by omega)]) hM hE⟩
  refine g_il1 dX2_sent_11 ?_
  refine g_iconst dX2_sent_12 ?_
  refine g_iconst dX2_sent_13 ?_
  refine g_callS3I (d' := 2) lk_X2_149 (rm_lt (by decide) (by decide)) (Nat.le_of_ble_eq_true rfl) dX2_sent_14 ?_
  refine mo_in (by omega) (by omega) (by omega) (fun x14 hx14 => ?_)
  refine g_if_ne (tgt := 26) dX2_sent_17 (by decide) (by omega) (fun h17 => ?_) (fun h17 => ?_)
  · obtain ⟨hW, hD⟩ := hP.get (by omega)
    have hn := hW.n
    have L30 : ∀ (n : Nat) (c : Int) (b : Int), r 7 - b < (n : Int) → (0 ≤ b) → (b ≤ r 7) → (c = sI_ (sn_ r s what) b) → GoM_ G 3 yX2_sent cX2_sent 4 (some .int) σ (fun v σ' => ∃ x : Int, v = some (I_ x) ∧ Q x σ') 30 [some (A_ (some m)), some (I_ what), some (I_ c), some (I_ b)] [] σ1 := by
      intro n
      induction n with
      | zero => intro c b hn h0 h1 hc; exact absurd hn (by omega)
      | succ n ih =>
        intro c b hn h0 h1 hc
        refine g_il3 dX2_sent_30 ?_
        refine g_al0 dX2_sent_31 ?_
        refine f_getA 15 fk_X2_20 rfl hM.sh (fun _ _ => rfl) hM.f15 dX2_sent_32 ?_
        refine g_bipush dX2_sent_35 (by decide) (by decide) ?_
        refine g_ialv hM.a15 (by omega) (hM.rr _) dX2_sent_37 ?_
        refine g_icmp_ge (tgt := 124) dX2_sent_38 (by decide) (by omega) (fun h38 => ?_) (fun h38 => ?_)
        · refine g_il2 dX2_sent_124 ?_
          exact g_iret rfl dX2_sent_125 ⟨_, rfl, hQ _ _ _ (by unfold qSent_; rw [if_pos (by omega), show r 7 = b by omega, ← hc]) hM hE⟩
        refine g_al0 dX2_sent_41 ?_
        refine f_getA 17 fk_X2_26 rfl hM.sh (fun _ _ => rfl) hM.f17 dX2_sent_42 ?_
        refine g_bipush dX2_sent_45 (by decide) (by decide) ?_
        refine g_il3 dX2_sent_47 ?_
        refine g_iadd dX2_sent_48 ?_
        have hb := hD.box (b := b) (by omega) (by omega)
        have hx := hW.box (b := b) (by omega) (by omega)
        refine g_ialv hM.a17 (by omega) (hM.ss _) dX2_sent_49 ?_
        refine g_if_ne (tgt := 56) dX2_sent_50 (by decide) (by omega) (fun h50 => ?_) (fun h50 => ?_)
        · refine g_il2 dX2_sent_56 ?_
          refine g_il1 dX2_sent_57 ?_
          refine g_if_ne (tgt := 65) dX2_sent_58 (by decide) (by omega) (fun h58 => ?_) (fun h58 => ?_)
          · refine g_il1 dX2_sent_65 ?_
            refine g_iconst dX2_sent_66 ?_
            refine g_icmp_ne (tgt := 98) dX2_sent_67 (by decide) (by omega) (fun h67 => ?_) (fun h67 => ?_)
            · refine g_al0 dX2_sent_98 ?_
              refine f_getA 17 fk_X2_26 rfl hM.sh (fun _ _ => rfl) hM.f17 dX2_sent_99 ?_
              refine g_bipush dX2_sent_102 (by decide) (by decide) ?_
              refine g_il3 dX2_sent_104 ?_
              refine g_iadd dX2_sent_105 ?_
              refine g_ialv hM.a17 (by omega) (hM.ss _) dX2_sent_106 ?_
              refine g_iconst dX2_sent_107 ?_
              refine g_isub dX2_sent_108 ?_
              refine g_al0 dX2_sent_109 ?_
              refine g_il3 dX2_sent_110 ?_
              refine g_iconst dX2_sent_111 ?_
              refine g_callV2I (d' := 2) lk_X2_262 hM.sh rfl (rm_lt (by decide) (by decide)) (Nat.le_of_ble_eq_true rfl) dX2_sent_112 ?_
              refine mo_ofBox hM (by omega) (by omega) ?_
              rw [show 127 + 4 * b + 3 = 130 + 4 * b by omega]
              refine g_isub dX2_sent_115 ?_
              refine g_iadd dX2_sent_116 ?_
              refine g_is2 dX2_sent_117 (by decide) rfl ?_
              refine g_inc3 dX2_sent_118 (by decide) rfl ?_
              refine g_goto (tgt := 30) dX2_sent_121 (by decide) ?_
              refine ih _ _ (by omega) (by omega) (by omega) ?_
              rw [sI_s _ h0, hc]
              unfold sn_
              (repeat' split) <;> first | rfl | (exfalso; omega) | omega
            refine g_al0 dX2_sent_70 ?_
            refine f_getA 17 fk_X2_26 rfl hM.sh (fun _ _ => rfl) hM.f17 dX2_sent_71 ?_
            refine g_bipush dX2_sent_74 (by decide) (by decide) ?_
            refine g_il3 dX2_sent_76 ?_
            refine g_iadd dX2_sent_77 ?_
            refine g_ialv hM.a17 (by omega) (hM.ss _) dX2_sent_78 ?_
            refine g_iconst dX2_sent_79 ?_
            refine g_isub dX2_sent_80 ?_
            refine g_al0 dX2_sent_81 ?_
            refine g_il3 dX2_sent_82 ?_
            refine g_iconst dX2_sent_83 ?_
            refine g_callV2I (d' := 2) lk_X2_262 hM.sh rfl (rm_lt (by decide) (by decide)) (Nat.le_of_ble_eq_true rfl) dX2_sent_84 ?_
            refine mo_ofBox hM (by omega) (by omega) ?_
            rw [show 127 + 4 * b + 1 = 128 + 4 * b by omega]
            refine g_icmp_ne (tgt := 94) dX2_sent_87 (by decide) (by omega) (fun h87 => ?_) (fun h87 => ?_)
            · refine g_iconst dX2_sent_94 ?_
              refine g_goto (tgt := 116) dX2_sent_95 (by decide) ?_
              refine g_iadd dX2_sent_116 ?_
              refine g_is2 dX2_sent_117 (by decide) rfl ?_
              refine g_inc3 dX2_sent_118 (by decide) rfl ?_
              refine g_goto (tgt := 30) dX2_sent_121 (by decide) ?_
              refine ih _ _ (by omega) (by omega) (by omega) ?_
              rw [sI_s _ h0, hc]
              unfold sn_
              (repeat' split) <;> first | rfl | (exfalso; omega) | omega
            refine g_iconst dX2_sent_90 ?_
            refine g_goto (tgt := 116) dX2_sent_91 (by decide) ?_
            refine g_iadd dX2_sent_116 ?_
            refine g_is2 dX2_sent_117 (by decide) rfl ?_
            refine g_inc3 dX2_sent_118 (by decide) rfl ?_
            refine g_goto (tgt := 30) dX2_sent_121 (by decide) ?_
            refine ih _ _ (by omega) (by omega) (by omega) ?_
            rw [sI_s _ h0, hc]
            unfold sn_
            (repeat' split) <;> first | rfl | (exfalso; omega) | omega
          refine g_iconst dX2_sent_61 ?_
          refine g_goto (tgt := 116) dX2_sent_62 (by decide) ?_
          refine g_iadd dX2_sent_116 ?_
          refine g_is2 dX2_sent_117 (by decide) rfl ?_
          refine g_inc3 dX2_sent_118 (by decide) rfl ?_
          refine g_goto (tgt := 30) dX2_sent_121 (by decide) ?_
          refine ih _ _ (by omega) (by omega) (by omega) ?_
          rw [sI_s _ h0, hc]
          unfold sn_
          (repeat' split) <;> first | rfl | (exfalso; omega) | omega
        refine g_goto (tgt := 118) dX2_sent_53 (by decide) ?_
        refine g_inc3 dX2_sent_118 (by decide) rfl ?_
        refine g_goto (tgt := 30) dX2_sent_121 (by decide) ?_
        refine ih _ _ (by omega) (by omega) (by omega) ?_
        rw [sI_s _ h0, hc]
        unfold sn_
        (repeat' split) <;> first | rfl | (exfalso; omega) | omega
    refine g_iconst dX2_sent_26 ?_
    refine g_is2 dX2_sent_27 (by decide) rfl ?_
    refine g_iconst dX2_sent_28 ?_
    refine g_is3 dX2_sent_29 (by decide) rfl ?_
    exact L30 ((r 7).toNat + 1) _ _ (by omega) (by omega) (by omega) (sI_0 _).symm
  refine g_al0 dX2_sent_20 ?_
  refine g_iconst dX2_sent_21 ?_
  refine g_callV1I (d' := 2) lk_X2_170 hM.sh rfl (rm_lt (by decide) (by decide)) (Nat.le_of_ble_eq_true rfl) dX2_sent_22 ?_
  refine mo_no hM hE (fun σ2 hM hE => ?_)
  exact g_iret rfl dX2_sent_25 ⟨_, rfl, hQ _ _ _ (by unfold qSent_; rw [if_neg (by omega)]) hM hE⟩
theorem mo_apartOf {i j : Int} {Q : Int → JH → Prop} (hM : MD_ G m σ r s) (hW : RW_ r) (hi : 0 ≤ i ∧ i < r 4) (hj : 0 ≤ j ∧ j < r 4)
    (hQ : Q (ap_ r i j) σ) : CallI_ G 3 yX2_apartOf cX2_apartOf 5 (some .int) [A_ (some m), I_ i, I_ j] σ Q := by
  refine call_go [some (A_ (some m)), some (I_ i), some (I_ j), none, none] (by decide) (Nat.le_of_ble_eq_true rfl) rfl ?_
  have hn := hW.n
  have hl := hW.len hi.1 hi.2
  have hl2 := hW.len hj.1 hj.2
  refine g_al0 dX2_apartOf_0 ?_
  refine g_il1 dX2_apartOf_1 ?_
  refine g_callV1I (d' := 2) lk_X2_265 hM.sh rfl (rm_lt (by decide) (by decide)) (Nat.le_of_ble_eq_true rfl) dX2_apartOf_2 ?_
  refine mo_songLong hM (by omega) ?_
  refine g_al0 dX2_apartOf_5 ?_
  refine g_il2 dX2_apartOf_6 ?_
  refine g_callV1I (d' := 2) lk_X2_265 hM.sh rfl (rm_lt (by decide) (by decide)) (Nat.le_of_ble_eq_true rfl) dX2_apartOf_7 ?_
  refine mo_songLong hM (by omega) ?_
  refine g_icmp_eq (tgt := 16) dX2_apartOf_10 (by decide) (by omega) (fun h10 => ?_) (fun h10 => ?_)
  · have L21 : ∀ (n : Nat) (c : Int) (k : Int), r (10 + 7 * i) - k < (n : Int) → (0 ≤ k) → (k ≤ r (10 + 7 * i)) → (c = sI_ (fun k => if r (11 + 7 * i + k) = r (11 + 7 * j + k) then 0 else 1) k) → GoM_ G 3 yX2_apartOf cX2_apartOf 5 (some .int) σ (fun v σ' => ∃ x : Int, v = some (I_ x) ∧ Q x σ') 21 [some (A_ (some m)), some (I_ i), some (I_ j), some (I_ c), some (I_ k)] [] σ := by
      intro n
      induction n with
      | zero => intro c k hn h0 h1 hc; exact absurd hn (by omega)
      | succ n ih =>
        intro c k hn h0 h1 hc
        refine g_il4 dX2_apartOf_21 ?_
        refine g_al0 dX2_apartOf_23 ?_
        refine g_il1 dX2_apartOf_24 ?_
        refine g_callV1I (d' := 2) lk_X2_265 hM.sh rfl (rm_lt (by decide) (by decide)) (Nat.le_of_ble_eq_true rfl) dX2_apartOf_25 ?_
        refine mo_songLong hM (by omega) ?_
        refine g_icmp_ge (tgt := 82) dX2_apartOf_28 (by decide) (by omega) (fun h28 => ?_) (fun h28 => ?_)
        · refine g_il3 dX2_apartOf_82 ?_
          exact g_iret rfl dX2_apartOf_83 ⟨_, rfl, by unfold ap_ at hQ; rw [if_pos (by omega), show r (10 + 7 * i) = k by omega, ← hc] at hQ; exact hQ⟩
        refine g_il3 dX2_apartOf_31 ?_
        refine g_al0 dX2_apartOf_32 ?_
        refine f_getA 15 fk_X2_20 rfl hM.sh (fun _ _ => rfl) hM.f15 dX2_apartOf_33 ?_
        refine g_bipush dX2_apartOf_36 (by decide) (by decide) ?_
        refine g_bipush dX2_apartOf_38 (by decide) (by decide) ?_
        refine g_il1 dX2_apartOf_40 ?_
        refine g_imul dX2_apartOf_41 ?_
        refine g_iadd dX2_apartOf_42 ?_
        refine g_iconst dX2_apartOf_43 ?_
        refine g_iadd dX2_apartOf_44 ?_
        refine g_il4 dX2_apartOf_45 ?_
        refine g_iadd dX2_apartOf_47 ?_
        have g1 := hW.song (i := i) (k := k) (by omega) (by omega) (by omega) (by omega)
        have g2 := hW.song (i := j) (k := k) (by omega) (by omega) (by omega) (by omega)
        refine g_ialv hM.a15 (by omega) (hM.rrx (j := 11 + 7 * i + k) (by omega)) dX2_apartOf_48 ?_
        refine g_al0 dX2_apartOf_49 ?_
        refine f_getA 15 fk_X2_20 rfl hM.sh (fun _ _ => rfl) hM.f15 dX2_apartOf_50 ?_
        refine g_bipush dX2_apartOf_53 (by decide) (by decide) ?_
        refine g_bipush dX2_apartOf_55 (by decide) (by decide) ?_
        refine g_il2 dX2_apartOf_57 ?_
        refine g_imul dX2_apartOf_58 ?_
        refine g_iadd dX2_apartOf_59 ?_
        refine g_iconst dX2_apartOf_60 ?_
        refine g_iadd dX2_apartOf_61 ?_
        refine g_il4 dX2_apartOf_62 ?_
        refine g_iadd dX2_apartOf_64 ?_
        refine g_ialv hM.a15 (by omega) (hM.rrx (j := 11 + 7 * j + k) (by omega)) dX2_apartOf_65 ?_
        refine g_icmp_ne (tgt := 73) dX2_apartOf_66 (by decide) (by omega) (fun h66 => ?_) (fun h66 => ?_)
        · refine g_iconst dX2_apartOf_73 ?_
          refine g_iadd dX2_apartOf_74 ?_
          refine g_is3 dX2_apartOf_75 (by decide) rfl ?_
          refine g_inc4 dX2_apartOf_76 (by decide) rfl ?_
          refine g_goto (tgt := 21) dX2_apartOf_79 (by decide) ?_
          refine ih _ _ (by omega) (by omega) (by omega) ?_
          rw [sI_s _ h0, hc]
          (repeat' split) <;> first | rfl | (exfalso; omega) | omega
        refine g_iconst dX2_apartOf_69 ?_
        refine g_goto (tgt := 74) dX2_apartOf_70 (by decide) ?_
        refine g_iadd dX2_apartOf_74 ?_
        refine g_is3 dX2_apartOf_75 (by decide) rfl ?_
        refine g_inc4 dX2_apartOf_76 (by decide) rfl ?_
        refine g_goto (tgt := 21) dX2_apartOf_79 (by decide) ?_
        refine ih _ _ (by omega) (by omega) (by omega) ?_
        rw [sI_s _ h0, hc]
        (repeat' split) <;> first | rfl | (exfalso; omega) | omega
    refine g_iconst dX2_apartOf_16 ?_
    refine g_is3 dX2_apartOf_17 (by decide) rfl ?_
    refine g_iconst dX2_apartOf_18 ?_
    refine g_is4 dX2_apartOf_19 (by decide) rfl ?_
    exact L21 ((r (10 + 7 * i)).toNat + 1) _ _ (by omega) (by omega) (by omega) (sI_0 _).symm
  refine g_bipush dX2_apartOf_13 (by decide) (by decide) ?_
  exact g_iret rfl dX2_apartOf_15 ⟨_, rfl, by unfold ap_ at hQ; rw [if_neg (by omega)] at hQ; exact hQ⟩
theorem mo_apart {p : Int} {i j : Int} {Q : Int → JH → Prop} (hM : MD_ G m σ r s) (hp : iv_ σ m 14 = p) (hP : MP_ p r s) (hi : -2147483648 ≤ i ∧ i < 2147483648) (hj : -2147483648 ≤ j ∧ j < 2147483648)
    (hQ : ∀ (x t : Int) (σ' : JH), qApart_ p r i j = (x, t) → MD_ G m σ' r s → ME_ m σ σ' t → Q x σ') : CallI_ G 4 yX2_apart cX2_apart 3 (some .int) [A_ (some m), I_ i, I_ j] σ Q := by
  refine call_go [some (A_ (some m)), some (I_ i), some (I_ j)] (by decide) (Nat.le_of_ble_eq_true rfl) rfl ?_
  have hp01 := hP.b
  refine g_al0 dX2_apart_0 ?_
  refine g_callV0V (d' := 2) lk_X2_167 hM.sh rfl (rm_lt (by decide) (by decide)) (Nat.le_of_ble_eq_true rfl) dX2_apart_1 ?_
  refine mo_good hM (fun σ1 hM hE => ?_)
  have hp := hE.p14.trans hp
  refine g_al0 dX2_apart_4 ?_
  refine g_il1 dX2_apart_5 ?_
  refine g_callV1I (d' := 3) lk_X2_277 hM.sh rfl (rm_lt (by decide) (by decide)) (Nat.le_of_ble_eq_true rfl) dX2_apart_6 ?_
  refine mo_isIsland hM hp hP.rw (by omega) (fun x6 hx6 => ?_)
  unfold isI_ at hx6
  refine g_if_eq (tgt := 29) dX2_apart_9 (by decide) (by omega) (fun h9 => ?_) (fun h9 => ?_)
  · refine g_al0 dX2_apart_29 ?_
    refine g_iconst dX2_apart_30 ?_
    refine g_callV1I (d' := 2) lk_X2_170 hM.sh rfl (rm_lt (by decide) (by decide)) (Nat.le_of_ble_eq_true rfl) dX2_apart_31 ?_
    refine mo_no hM hE (fun σ2 hM hE => ?_)
    exact g_iret rfl dX2_apart_34 ⟨_, rfl, hQ _ _ _ (by unfold qApart_; rw [if_neg (by omega)]) hM hE⟩
  refine g_al0 dX2_apart_12 ?_
  refine g_il2 dX2_apart_13 ?_
  refine g_callV1I (d' := 3) lk_X2_277 hM.sh rfl (rm_lt (by decide) (by decide)) (Nat.le_of_ble_eq_true rfl) dX2_apart_14 ?_
  refine mo_isIsland hM hp hP.rw (by omega) (fun x14 hx14 => ?_)
  unfold isI_ at hx14
  refine g_if_eq (tgt := 29) dX2_apart_17 (by decide) (by omega) (fun h17 => ?_) (fun h17 => ?_)
  · refine g_al0 dX2_apart_29 ?_
    refine g_iconst dX2_apart_30 ?_
    refine g_callV1I (d' := 2) lk_X2_170 hM.sh rfl (rm_lt (by decide) (by decide)) (Nat.le_of_ble_eq_true rfl) dX2_apart_31 ?_
    refine mo_no hM hE (fun σ2 hM hE => ?_)
    exact g_iret rfl dX2_apart_34 ⟨_, rfl, hQ _ _ _ (by unfold qApart_; rw [if_neg (by omega)]) hM hE⟩
  refine g_al0 dX2_apart_20 ?_
  refine g_il1 dX2_apart_21 ?_
  refine g_il2 dX2_apart_22 ?_
  refine g_callV2I (d' := 3) lk_X2_312 hM.sh rfl (rm_lt (by decide) (by decide)) (Nat.le_of_ble_eq_true rfl) dX2_apart_23 ?_
  obtain ⟨hW, hD⟩ := hP.get (by omega)
  have hn := hW.n
  refine mo_apartOf hM hW (by omega) (by omega) ?_
  refine g_goto (tgt := 34) dX2_apart_26 (by decide) ?_
  exact g_iret rfl dX2_apart_34 ⟨_, rfl, hQ _ _ _ (by unfold qApart_; rw [if_pos (by omega)]) hM hE⟩
theorem mo_bear {p : Int} {Q : Int → JH → Prop} (hM : MD_ G m σ r s) (hp : iv_ σ m 14 = p) (hP : MP_ p r s) 
    (hQ : ∀ (x t : Int) (σ' : JH), qBear_ p r = (x, t) → MD_ G m σ' r s → ME_ m σ σ' t → Q x σ') : CallI_ G 4 yX2_bear cX2_bear 4 (some .int) [A_ (some m)] σ Q := by
  refine call_go [some (A_ (some m)), none, none, none] (by decide) (Nat.le_of_ble_eq_true rfl) rfl ?_
  have hp01 := hP.b
  refine g_al0 dX2_bear_0 ?_
  refine g_callV0V (d' := 2) lk_X2_167 hM.sh rfl (rm_lt (by decide) (by decide)) (Nat.le_of_ble_eq_true rfl) dX2_bear_1 ?_
  refine mo_good hM (fun σ1 hM hE => ?_)
  have hp := hE.p14.trans hp
  refine g_al0 dX2_bear_4 ?_
  refine f_getv 14 fk_X2_180 rfl hM.sh (fun _ _ => rfl) hp dX2_bear_5 ?_
  refine g_if_ne (tgt := 17) dX2_bear_8 (by decide) (by omega) (fun h8 => ?_) (fun h8 => ?_)
  · obtain ⟨hW, hD⟩ := hP.get (by omega)
    have hn := hW.n
    have L22 : ∀ (n : Nat) (c : Int) (i : Int) (v3 : Option AV), r 4 - i < (n : Int) → (0 ≤ i) → (i ≤ r 4) → (0 ≤ c ∧ c ≤ 7) → (c = iI_ (fun i a => iI_ (fun j a => if 0 ≤ ap_ r i j ∧ ap_ r i j < a then ap_ r i j else a) a i) 7 i) → GoM_ G 4 yX2_bear cX2_bear 4 (some .int) σ (fun v σ' => ∃ x : Int, v = some (I_ x) ∧ Q x σ') 22 [some (A_ (some m)), some (I_ c), some (I_ i), v3] [] σ1 := by
      intro n
      induction n with
      | zero => intro c i v3 hn h0 h1 hle hc; exact absurd hn (by omega)
      | succ n ih =>
        intro c i v3 hn h0 h1 hle hc
        refine g_il2 dX2_bear_22 ?_
        refine g_al0 dX2_bear_23 ?_
        refine f_getA 15 fk_X2_20 rfl hM.sh (fun _ _ => rfl) hM.f15 dX2_bear_24 ?_
        refine g_iconst dX2_bear_27 ?_
        refine g_ialv hM.a15 (by omega) (hM.rr _) dX2_bear_28 ?_
        refine g_icmp_ge (tgt := 77) dX2_bear_29 (by decide) (by omega) (fun h29 => ?_) (fun h29 => ?_)
        · refine g_il1 dX2_bear_77 ?_
          refine g_bipush dX2_bear_78 (by decide) (by decide) ?_
          refine g_icmp_le (tgt := 88) dX2_bear_80 (by decide) (by omega) (fun h80 => ?_) (fun h80 => ?_)
          · refine g_il1 dX2_bear_88 ?_
            refine g_iconst dX2_bear_89 ?_
            refine g_isub dX2_bear_90 ?_
            refine g_iconst dX2_bear_91 ?_
            refine g_idivT dX2_bear_92 (by omega) ?_
            exact g_iret rfl dX2_bear_93 ⟨_, rfl, hQ _ _ _ (by have e : br_ r = c := (by unfold br_; rw [show r 4 = i by omega, ← hc]); unfold qBear_; rw [if_pos (by omega), e]; rw [if_neg (by omega)]) hM hE⟩
          refine g_bipush dX2_bear_83 (by decide) (by decide) ?_
          refine g_goto (tgt := 93) dX2_bear_85 (by decide) ?_
          exact g_iret rfl dX2_bear_93 ⟨_, rfl, hQ _ _ _ (by have e : br_ r = c := (by unfold br_; rw [show r 4 = i by omega, ← hc]); unfold qBear_; rw [if_pos (by omega), e]; rw [if_pos (by omega)]) hM hE⟩
        have L34 : ∀ (n : Nat) (c2 : Int) (j : Int), i - j < (n : Int) → (0 ≤ j) → (j ≤ i) → (0 ≤ c2 ∧ c2 ≤ 7) → (c2 = iI_ (fun j a => if 0 ≤ ap_ r i j ∧ ap_ r i j < a then ap_ r i j else a) c j) → GoM_ G 4 yX2_bear cX2_bear 4 (some .int) σ (fun v σ' => ∃ x : Int, v = some (I_ x) ∧ Q x σ') 34 [some (A_ (some m)), some (I_ c2), some (I_ i), some (I_ j)] [] σ1 := by
          intro n2
          induction n2 with
          | zero => intro c2 j hn g0 g1 gle gc; exact absurd hn (by omega)
          | succ n2 ih2 =>
            intro c2 j hn g0 g1 gle gc
            refine g_il3 dX2_bear_34 ?_
            refine g_il2 dX2_bear_35 ?_
            refine g_icmp_ge (tgt := 71) dX2_bear_36 (by decide) (by omega) (fun h36 => ?_) (fun h36 => ?_)
            · refine g_inc2 dX2_bear_71 (by decide) rfl ?_
              refine g_goto (tgt := 22) dX2_bear_74 (by decide) ?_
              refine ih _ _ _ (by omega) (by omega) (by omega) (by omega) ?_
              rw [iI_s _ _ h0, ← hc, gc]
              rw [show j = i by omega]
            refine g_al0 dX2_bear_39 ?_
            refine g_il2 dX2_bear_40 ?_
            refine g_il3 dX2_bear_41 ?_
            refine g_callV2I (d' := 3) lk_X2_312 hM.sh rfl (rm_lt (by decide) (by decide)) (Nat.le_of_ble_eq_true rfl) dX2_bear_42 ?_
            refine mo_apartOf hM hW (by omega) (by omega) ?_
            have ha := ap_in hW (i := i) (j := j) (by omega) (by omega)
            refine g_if_lt (tgt := 65) dX2_bear_45 (by decide) (by omega) (fun h45 => ?_) (fun h45 => ?_)
            · refine g_inc3 dX2_bear_65 (by decide) rfl ?_
              refine g_goto (tgt := 34) dX2_bear_68 (by decide) ?_
              refine ih2 _ _ (by omega) (by omega) (by omega) (by omega) ?_
              rw [iI_s _ _ g0, ← gc]
              (repeat' split) <;> first | rfl | (exfalso; omega) | omega
            refine g_al0 dX2_bear_48 ?_
            refine g_il2 dX2_bear_49 ?_
            refine g_il3 dX2_bear_50 ?_
            refine g_callV2I (d' := 3) lk_X2_312 hM.sh rfl (rm_lt (by decide) (by decide)) (Nat.le_of_ble_eq_true rfl) dX2_bear_51 ?_
            refine mo_apartOf hM hW (by omega) (by omega) ?_
            have ha := ap_in hW (i := i) (j := j) (by omega) (by omega)
            refine g_il1 dX2_bear_54 ?_
            refine g_icmp_ge (tgt := 65) dX2_bear_55 (by decide) (by omega) (fun h55 => ?_) (fun h55 => ?_)
            · refine g_inc3 dX2_bear_65 (by decide) rfl ?_
              refine g_goto (tgt := 34) dX2_bear_68 (by decide) ?_
              refine ih2 _ _ (by omega) (by omega) (by omega) (by omega) ?_
              rw [iI_s _ _ g0, ← gc]
              (repeat' split) <;> first | rfl | (exfalso; omega) | omega
            refine g_al0 dX2_bear_58 ?_
            refine g_il2 dX2_bear_59 ?_
            refine g_il3 dX2_bear_60 ?_
            refine g_callV2I (d' := 3) lk_X2_312 hM.sh rfl (rm_lt (by decide) (by decide)) (Nat.le_of_ble_eq_true rfl) dX2_bear_61 ?_
            refine mo_apartOf hM hW (by omega) (by omega) ?_
            have ha := ap_in hW (i := i) (j := j) (by omega) (by omega)
            refine g_is1 dX2_bear_64 (by decide) rfl ?_
            refine g_inc3 dX2_bear_65 (by decide) rfl ?_
            refine g_goto (tgt := 34) dX2_bear_68 (by decide) ?_
            refine ih2 _ _ (by omega) (by omega) (by omega) (by omega) ?_
            rw [iI_s _ _ g0, ← gc]
            (repeat' split) <;> first | rfl | (exfalso; omega) | omega
        refine g_iconst dX2_bear_32 ?_
        refine g_is3 dX2_bear_33 (by decide) rfl ?_
        exact L34 (i.toNat + 1) _ _ (by omega) (by omega) (by omega) (by omega) rfl
    refine g_bipush dX2_bear_17 (by decide) (by decide) ?_
    refine g_is1 dX2_bear_19 (by decide) rfl ?_
    refine g_iconst dX2_bear_20 ?_
    refine g_is2 dX2_bear_21 (by decide) rfl ?_
    exact L22 ((r 4).toNat + 1) _ _ _ (by omega) (by omega) (by omega) (by omega) rfl
  refine g_al0 dX2_bear_11 ?_
  refine g_iconst dX2_bear_12 ?_
  refine g_callV1I (d' := 2) lk_X2_170 hM.sh rfl (rm_lt (by decide) (by decide)) (Nat.le_of_ble_eq_true rfl) dX2_bear_13 ?_
  refine mo_no hM hE (fun σ2 hM hE => ?_)
  exact g_iret rfl dX2_bear_16 ⟨_, rfl, hQ _ _ _ (by unfold qBear_; rw [if_neg (by omega)]) hM hE⟩
theorem mo_mixed {p : Int} {Q : Int → JH → Prop} (hM : MD_ G m σ r s) (hp : iv_ σ m 14 = p) (hP : MP_ p r s) 
    (hQ : ∀ (x t : Int) (σ' : JH), qMixed_ p r = (x, t) → MD_ G m σ' r s → ME_ m σ σ' t → Q x σ') : CallI_ G 4 yX2_mixed cX2_mixed 4 (some .int) [A_ (some m)] σ Q := by
  refine call_go [some (A_ (some m)), none, none, none] (by decide) (Nat.le_of_ble_eq_true rfl) rfl ?_
  have hp01 := hP.b
  refine g_al0 dX2_mixed_0 ?_
  refine g_callV0V (d' := 2) lk_X2_167 hM.sh rfl (rm_lt (by decide) (by decide)) (Nat.le_of_ble_eq_true rfl) dX2_mixed_1 ?_
  refine mo_good hM (fun σ1 hM hE => ?_)
  have hp := hE.p14.trans hp
  refine g_al0 dX2_mixed_4 ?_
  refine f_getv 14 fk_X2_180 rfl hM.sh (fun _ _ => rfl) hp dX2_mixed_5 ?_
  refine g_if_ne (tgt := 17) dX2_mixed_8 (by decide) (by omega) (fun h8 => ?_) (fun h8 => ?_)
  · obtain ⟨hW, hD⟩ := hP.get (by omega)
    have hn := hW.n
    have L21 : ∀ (n : Nat) (c : Int) (i : Int) (v3 : Option AV), r 4 - i < (n : Int) → (0 ≤ i) → (i ≤ r 4) → (0 ≤ c ∧ c ≤ 7 * i) → (c = iI_ (fun i a => iI_ (fun j a => a + (if 0 ≤ ap_ r i j ∧ ap_ r i j ≤ 2 * r 1 then 1 else 0)) a i) 0 i) → GoM_ G 4 yX2_mixed cX2_mixed 4 (some .int) σ (fun v σ' => ∃ x : Int, v = some (I_ x) ∧ Q x σ') 21 [some (A_ (some m)), some (I_ c), some (I_ i), v3] [] σ1 := by
      intro n
      induction n with
      | zero => intro c i v3 hn h0 h1 hle hc; exact absurd hn (by omega)
      | succ n ih =>
        intro c i v3 hn h0 h1 hle hc
        refine g_il2 dX2_mixed_21 ?_
        refine g_al0 dX2_mixed_22 ?_
        refine f_getA 15 fk_X2_20 rfl hM.sh (fun _ _ => rfl) hM.f15 dX2_mixed_23 ?_
        refine g_iconst dX2_mixed_26 ?_
        refine g_ialv hM.a15 (by omega) (hM.rr _) dX2_mixed_27 ?_
        refine g_icmp_ge (tgt := 84) dX2_mixed_28 (by decide) (by omega) (fun h28 => ?_) (fun h28 => ?_)
        · refine g_il1 dX2_mixed_84 ?_
          exact g_iret rfl dX2_mixed_85 ⟨_, rfl, hQ _ _ _ (by have e : mx_ r = c := (by unfold mx_; rw [show r 4 = i by omega, ← hc]); unfold qMixed_; rw [if_pos (by omega), e]) hM hE⟩
        have L33 : ∀ (n : Nat) (c2 : Int) (j : Int), i - j < (n : Int) → (0 ≤ j) → (j ≤ i) → (0 ≤ c2 ∧ c2 ≤ c + j) → (c2 = iI_ (fun j a => a + (if 0 ≤ ap_ r i j ∧ ap_ r i j ≤ 2 * r 1 then 1 else 0)) c j) → GoM_ G 4 yX2_mixed cX2_mixed 4 (some .int) σ (fun v σ' => ∃ x : Int, v = some (I_ x) ∧ Q x σ') 33 [some (A_ (some m)), some (I_ c2), some (I_ i), some (I_ j)] [] σ1 := by
          intro n2
          induction n2 with
          | zero => intro c2 j hn g0 g1 gle gc; exact absurd hn (by omega)
          | succ n2 ih2 =>
            intro c2 j hn g0 g1 gle gc
            refine g_il3 dX2_mixed_33 ?_
            refine g_il2 dX2_mixed_34 ?_
            refine g_icmp_ge (tgt := 78) dX2_mixed_35 (by decide) (by omega) (fun h35 => ?_) (fun h35 => ?_)
            · refine g_inc2 dX2_mixed_78 (by decide) rfl ?_
              refine g_goto (tgt := 21) dX2_mixed_81 (by decide) ?_
              refine ih _ _ _ (by omega) (by omega) (by omega) (by omega) ?_
              rw [iI_s _ _ h0, ← hc, gc]
              rw [show j = i by omega]
            refine g_il1 dX2_mixed_38 ?_
            refine g_al0 dX2_mixed_39 ?_
            refine g_il2 dX2_mixed_40 ?_
            refine g_il3 dX2_mixed_41 ?_
            refine g_callV2I (d' := 3) lk_X2_312 hM.sh rfl (rm_lt (by decide) (by decide)) (Nat.le_of_ble_eq_true rfl) dX2_mixed_42 ?_
            refine mo_apartOf hM hW (by omega) (by omega) ?_
            have ha := ap_in hW (i := i) (j := j) (by omega) (by omega)
            refine g_if_lt (tgt := 69) dX2_mixed_45 (by decide) (by omega) (fun h45 => ?_) (fun h45 => ?_)
            · refine g_iconst dX2_mixed_69 ?_
              refine g_iadd dX2_mixed_70 ?_
              refine g_is1 dX2_mixed_71 (by decide) rfl ?_
              refine g_inc3 dX2_mixed_72 (by decide) rfl ?_
              refine g_goto (tgt := 33) dX2_mixed_75 (by decide) ?_
              refine ih2 _ _ (by omega) (by omega) (by omega) (by omega) ?_
              rw [iI_s _ _ g0, ← gc]
              (repeat' split) <;> first | rfl | (exfalso; omega) | omega
            refine g_al0 dX2_mixed_48 ?_
            refine g_il2 dX2_mixed_49 ?_
            refine g_il3 dX2_mixed_50 ?_
            refine g_callV2I (d' := 3) lk_X2_312 hM.sh rfl (rm_lt (by decide) (by decide)) (Nat.le_of_ble_eq_true rfl) dX2_mixed_51 ?_
            refine mo_apartOf hM hW (by omega) (by omega) ?_
            have ha := ap_in hW (i := i) (j := j) (by omega) (by omega)
            refine g_iconst dX2_mixed_54 ?_
            refine g_al0 dX2_mixed_55 ?_
            refine f_getA 15 fk_X2_20 rfl hM.sh (fun _ _ => rfl) hM.f15 dX2_mixed_56 ?_
            refine g_iconst dX2_mixed_59 ?_
            refine g_ialv hM.a15 (by omega) (hM.rr _) dX2_mixed_60 ?_
            refine g_imul dX2_mixed_61 ?_
            refine g_icmp_gt (tgt := 69) dX2_mixed_62 (by decide) (by omega) (fun h62 => ?_) (fun h62 => ?_)
            · refine g_iconst dX2_mixed_69 ?_
              refine g_iadd dX2_mixed_70 ?_
              refine g_is1 dX2_mixed_71 (by decide) rfl ?_
              refine g_inc3 dX2_mixed_72 (by decide) rfl ?_
              refine g_goto (tgt := 33) dX2_mixed_75 (by decide) ?_
              refine ih2 _ _ (by omega) (by omega) (by omega) (by omega) ?_
              rw [iI_s _ _ g0, ← gc]
              (repeat' split) <;> first | rfl | (exfalso; omega) | omega
            refine g_iconst dX2_mixed_65 ?_
            refine g_goto (tgt := 70) dX2_mixed_66 (by decide) ?_
            refine g_iadd dX2_mixed_70 ?_
            refine g_is1 dX2_mixed_71 (by decide) rfl ?_
            refine g_inc3 dX2_mixed_72 (by decide) rfl ?_
            refine g_goto (tgt := 33) dX2_mixed_75 (by decide) ?_
            refine ih2 _ _ (by omega) (by omega) (by omega) (by omega) ?_
            rw [iI_s _ _ g0, ← gc]
            (repeat' split) <;> first | rfl | (exfalso; omega) | omega
        refine g_iconst dX2_mixed_31 ?_
        refine g_is3 dX2_mixed_32 (by decide) rfl ?_
        exact L33 (i.toNat + 1) _ _ (by omega) (by omega) (by omega) (by omega) rfl
    refine g_iconst dX2_mixed_17 ?_
    refine g_is1 dX2_mixed_18 (by decide) rfl ?_
    refine g_iconst dX2_mixed_19 ?_
    refine g_is2 dX2_mixed_20 (by decide) rfl ?_
    exact L21 ((r 4).toNat + 1) _ _ _ (by omega) (by omega) (by omega) (by omega) rfl
  refine g_al0 dX2_mixed_11 ?_
  refine g_iconst dX2_mixed_12 ?_
  refine g_callV1I (d' := 2) lk_X2_170 hM.sh rfl (rm_lt (by decide) (by decide)) (Nat.le_of_ble_eq_true rfl) dX2_mixed_13 ?_
  refine mo_no hM hE (fun σ2 hM hE => ?_)
  exact g_iret rfl dX2_mixed_16 ⟨_, rfl, hQ _ _ _ (by unfold qMixed_; rw [if_neg (by omega)]) hM hE⟩
theorem mo_power {n : Int} {Q : Int → JH → Prop} (hM : MD_ G m σ r s) (hn : 0 ≤ n ∧ n ≤ 5)
    (hQ : Q (pw_ (r 0) n) σ) : CallI_ G 2 yX2_power cX2_power 4 (some .int) [A_ (some m), I_ n] σ Q := by
  refine call_go [some (A_ (some m)), some (I_ n), none, none] (by decide) (Nat.le_of_ble_eq_true rfl) rfl ?_
  have L4 : ∀ (n1 : Nat) (c : Int) (k : Int), n - k < (n1 : Int) → (0 ≤ k) → (k ≤ n) → (c = pw_ (r 0) k) → GoM_ G 2 yX2_power cX2_power 4 (some .int) σ (fun v σ' => ∃ x : Int, v = some (I_ x) ∧ Q x σ') 4 [some (A_ (some m)), some (I_ n), some (I_ c), some (I_ k)] [] σ := by
    intro n1
    induction n1 with
    | zero => intro c k hn h0 h1 hc; exact absurd hn (by omega)
    | succ n1 ih =>
      intro c k hn h0 h1 hc
      refine g_il3 dX2_power_4 ?_
      refine g_il1 dX2_power_5 ?_
      refine g_icmp_ge (tgt := 24) dX2_power_6 (by decide) (by omega) (fun h6 => ?_) (fun h6 => ?_)
      · refine g_il2 dX2_power_24 ?_
        exact g_iret rfl dX2_power_25 ⟨_, rfl, by rw [show n = k by omega, ← hc] at hQ; exact hQ⟩
      refine g_il2 dX2_power_9 ?_
      refine g_al0 dX2_power_10 ?_
      refine f_getA 15 fk_X2_20 rfl hM.sh (fun _ _ => rfl) hM.f15 dX2_power_11 ?_
      refine g_iconst dX2_power_14 ?_
      refine g_ialv hM.a15 (by omega) (hM.rr _) dX2_power_15 ?_
      refine g_imul dX2_power_16 ?_
      refine g_is2 dX2_power_17 (by decide) rfl ?_
      refine g_inc3 dX2_power_18 (by decide) rfl ?_
      refine g_goto (tgt := 4) dX2_power_21 (by decide) ?_
      refine ih _ _ (by omega) (by omega) (by omega) ?_
      rw [pw_s _ h0, hc]
  refine g_iconst dX2_power_0 ?_
  refine g_is2 dX2_power_1 (by decide) rfl ?_
  refine g_iconst dX2_power_2 ?_
  refine g_is3 dX2_power_3 (by decide) rfl ?_
  exact L4 (n.toNat + 1) _ _ (by omega) (by omega) (by omega) rfl
theorem mo_digitsApart {a b l : Int} {Q : Int → JH → Prop} (hM : MD_ G m σ r s) (hr : 2 ≤ r 0 ∧ r 0 ≤ 4) (ha : 0 ≤ a ∧ a < 100000) (hb : 0 ≤ b ∧ b < 100000) (hl : 0 ≤ l ∧ l ≤ 5)
    (hQ : Q (da_ (r 0) l.toNat a b) σ) : CallI_ G 2 yX2_digitsApart cX2_digitsApart 8 (some .int) [A_ (some m), I_ a, I_ b, I_ l] σ Q := by
  refine call_go [some (A_ (some m)), some (I_ a), some (I_ b), some (I_ l), none, none, none, none] (by decide) (Nat.le_of_ble_eq_true rfl) rfl ?_
  have L12 : ∀ (n : Nat) (c : Int) (x : Int) (z : Int) (k : Int), l - k < (n : Int) → (0 ≤ k) → (k ≤ l) → (0 ≤ x ∧ x < 100000) → (0 ≤ z ∧ z < 100000) → (0 ≤ c ∧ c ≤ k) → (c + da_ (r 0) (l - k).toNat x z = da_ (r 0) l.toNat a b) → GoM_ G 2 yX2_digitsApart cX2_digitsApart 8 (some .int) σ (fun v σ' => ∃ x : Int, v = some (I_ x) ∧ Q x σ') 12 [some (A_ (some m)), some (I_ a), some (I_ b), some (I_ l), some (I_ c), some (I_ x), some (I_ z), some (I_ k)] [] σ := by
    intro n
    induction n with
    | zero => intro c x z k hn h0 h1 hx hz hcc hc; exact absurd hn (by omega)
    | succ n ih =>
      intro c x z k hn h0 h1 hx hz hcc hc
      have d1 := dm_ (a := x) (b := r 0) hx.1 (by omega)
      have d2 := dm_ (a := z) (b := r 0) hz.1 (by omega)
      refine g_il7 dX2_digitsApart_12 ?_
      refine g_il3 dX2_digitsApart_14 ?_
      refine g_icmp_ge (tgt := 77) dX2_digitsApart_15 (by decide) (by omega) (fun h15 => ?_) (fun h15 => ?_)
      · refine g_il4 dX2_digitsApart_77 ?_
        exact g_iret rfl dX2_digitsApart_79 ⟨_, rfl, by rw [← hc, show (l - k).toNat = 0 by omega] at hQ; simp only [da_] at hQ; rw [Int.add_zero] at hQ; exact hQ⟩
      refine g_il4 dX2_digitsApart_18 ?_
      refine g_il5 dX2_digitsApart_20 ?_
      refine g_al0 dX2_digitsApart_22 ?_
      refine f_getA 15 fk_X2_20 rfl hM.sh (fun _ _ => rfl) hM.f15 dX2_digitsApart_23 ?_
      refine g_iconst dX2_digitsApart_26 ?_
      refine g_ialv hM.a15 (by omega) (hM.rr _) dX2_digitsApart_27 ?_
      refine g_irem dX2_digitsApart_28 (by omega) ?_
      refine g_il6 dX2_digitsApart_29 ?_
      refine g_al0 dX2_digitsApart_31 ?_
      refine f_getA 15 fk_X2_20 rfl hM.sh (fun _ _ => rfl) hM.f15 dX2_digitsApart_32 ?_
      refine g_iconst dX2_digitsApart_35 ?_
      refine g_ialv hM.a15 (by omega) (hM.rr _) dX2_digitsApart_36 ?_
      refine g_irem dX2_digitsApart_37 (by omega) ?_
      refine g_icmp_ne (tgt := 45) dX2_digitsApart_38 (by decide) (by omega) (fun h38 => ?_) (fun h38 => ?_)
      · refine g_iconst dX2_digitsApart_45 ?_
        refine g_iadd dX2_digitsApart_46 ?_
        refine g_is4 dX2_digitsApart_47 (by decide) rfl ?_
        refine g_il5 dX2_digitsApart_49 ?_
        refine g_al0 dX2_digitsApart_51 ?_
        refine f_getA 15 fk_X2_20 rfl hM.sh (fun _ _ => rfl) hM.f15 dX2_digitsApart_52 ?_
        refine g_iconst dX2_digitsApart_55 ?_
        refine g_ialv hM.a15 (by omega) (hM.rr _) dX2_digitsApart_56 ?_
        refine g_idiv dX2_digitsApart_57 (by omega) ?_
        refine g_is5 dX2_digitsApart_58 (by decide) rfl ?_
        refine g_il6 dX2_digitsApart_60 ?_
        refine g_al0 dX2_digitsApart_62 ?_
        refine f_getA 15 fk_X2_20 rfl hM.sh (fun _ _ => rfl) hM.f15 dX2_digitsApart_63 ?_
        refine g_iconst dX2_digitsApart_66 ?_
        refine g_ialv hM.a15 (by omega) (hM.rr _) dX2_digitsApart_67 ?_
        refine g_idiv dX2_digitsApart_68 (by omega) ?_
        refine g_is6 dX2_digitsApart_69 (by decide) rfl ?_
        refine g_inc7 dX2_digitsApart_71 (by decide) rfl ?_
        refine g_goto (tgt := 12) dX2_digitsApart_74 (by decide) ?_
        refine ih _ _ _ _ (by omega) (by omega) (by omega) (by omega) (by omega) (by omega) ?_
        rw [← hc, show (l - k).toNat = (l - (k + 1)).toNat + 1 by omega]
        simp only [da_]
        rw [if_neg h38]; omega
      refine g_iconst dX2_digitsApart_41 ?_
      refine g_goto (tgt := 46) dX2_digitsApart_42 (by decide) ?_
      refine g_iadd dX2_digitsApart_46 ?_
      refine g_is4 dX2_digitsApart_47 (by decide) rfl ?_
      refine g_il5 dX2_digitsApart_49 ?_
      refine g_al0 dX2_digitsApart_51 ?_
      refine f_getA 15 fk_X2_20 rfl hM.sh (fun _ _ => rfl) hM.f15 dX2_digitsApart_52 ?_
      refine g_iconst dX2_digitsApart_55 ?_
      refine g_ialv hM.a15 (by omega) (hM.rr _) dX2_digitsApart_56 ?_
      refine g_idiv dX2_digitsApart_57 (by omega) ?_
      refine g_is5 dX2_digitsApart_58 (by decide) rfl ?_
      refine g_il6 dX2_digitsApart_60 ?_
      refine g_al0 dX2_digitsApart_62 ?_
      refine f_getA 15 fk_X2_20 rfl hM.sh (fun _ _ => rfl) hM.f15 dX2_digitsApart_63 ?_
      refine g_iconst dX2_digitsApart_66 ?_
      refine g_ialv hM.a15 (by omega) (hM.rr _) dX2_digitsApart_67 ?_
      refine g_idiv dX2_digitsApart_68 (by omega) ?_
      refine g_is6 dX2_digitsApart_69 (by decide) rfl ?_
      refine g_inc7 dX2_digitsApart_71 (by decide) rfl ?_
      refine g_goto (tgt := 12) dX2_digitsApart_74 (by decide) ?_
      refine ih _ _ _ _ (by omega) (by omega) (by omega) (by omega) (by omega) (by omega) ?_
      rw [← hc, show (l - k).toNat = (l - (k + 1)).toNat + 1 by omega]
      simp only [da_]
      rw [if_pos h38]; omega
  refine g_iconst dX2_digitsApart_0 ?_
  refine g_is4 dX2_digitsApart_1 (by decide) rfl ?_
  refine g_il1 dX2_digitsApart_3 ?_
  refine g_is5 dX2_digitsApart_4 (by decide) rfl ?_
  refine g_il2 dX2_digitsApart_6 ?_
  refine g_is6 dX2_digitsApart_7 (by decide) rfl ?_
  refine g_iconst dX2_digitsApart_9 ?_
  refine g_is7 dX2_digitsApart_10 (by decide) rfl ?_
  refine L12 (l.toNat + 1) _ _ _ _ (by omega) (by omega) (by omega) ha hb (by omega) ?_
  rw [Int.zero_add, Int.sub_zero]
theorem mo_songWhy {p : Int} {l a : Int} {Q : Int → JH → Prop} (hM : MD_ G m σ r s) (hp : iv_ σ m 14 = p) (hp1 : p = 0 ∨ p = 1) (hl : -2147483648 ≤ l ∧ l < 2147483648) (ha : -2147483648 ≤ a ∧ a < 2147483648)
    (hQ : ∀ x : Int, (x = 1 ∧ p = 0) ∨ (x = 0 ∧ p = 1 ∧ (2 ≤ l ∧ l ≤ 5) ∧ (1 ≤ a ∧ a ≤ 5)) ∨ (x = 2 ∧ p = 1 ∧ ¬ ((2 ≤ l ∧ l ≤ 5) ∧ (1 ≤ a ∧ a ≤ 5))) → Q x σ) : CallI_ G 3 yX2_songWhy cX2_songWhy 3 (some .int) [A_ (some m), I_ l, I_ a] σ Q := by
  refine call_go [some (A_ (some m)), some (I_ l), some (I_ a)] (by decide) (Nat.le_of_ble_eq_true rfl) rfl ?_
  refine g_al0 dX2_songWhy_0 ?_
  refine f_getv 14 fk_X2_180 rfl hM.sh (fun _ _ => rfl) hp dX2_songWhy_1 ?_
  refine g_if_ne (tgt := 11) dX2_songWhy_4 (by decide) (by omega) (fun h4 => ?_) (fun h4 => ?_)
  · refine g_il1 dX2_songWhy_11 ?_
    refine g_iconst dX2_songWhy_12 ?_
    refine g_iconst dX2_songWhy_13 ?_
    refine g_callS3I (d' := 2) lk_X2_149 (rm_lt (by decide) (by decide)) (Nat.le_of_ble_eq_true rfl) dX2_songWhy_14 ?_
    refine mo_in (by omega) (by omega) (by omega) (fun x hx => ?_)
    refine g_if_eq (tgt := 33) dX2_songWhy_17 (by decide) (by omega) (fun h17 => ?_) (fun h17 => ?_)
    · refine g_iconst dX2_songWhy_33 ?_
      exact g_iret rfl dX2_songWhy_34 ⟨_, rfl, hQ _ (by omega)⟩
    refine g_il2 dX2_songWhy_20 ?_
    refine g_iconst dX2_songWhy_21 ?_
    refine g_iconst dX2_songWhy_22 ?_
    refine g_callS3I (d' := 2) lk_X2_149 (rm_lt (by decide) (by decide)) (Nat.le_of_ble_eq_true rfl) dX2_songWhy_23 ?_
    refine mo_in (by omega) (by omega) (by omega) (fun x2 hx2 => ?_)
    refine g_if_eq (tgt := 33) dX2_songWhy_26 (by decide) (by omega) (fun h26 => ?_) (fun h26 => ?_)
    · refine g_iconst dX2_songWhy_33 ?_
      exact g_iret rfl dX2_songWhy_34 ⟨_, rfl, hQ _ (by omega)⟩
    refine g_iconst dX2_songWhy_29 ?_
    refine g_goto (tgt := 34) dX2_songWhy_30 (by decide) ?_
    exact g_iret rfl dX2_songWhy_34 ⟨_, rfl, hQ _ (by omega)⟩
  refine g_iconst dX2_songWhy_7 ?_
  refine g_goto (tgt := 34) dX2_songWhy_8 (by decide) ?_
  exact g_iret rfl dX2_songWhy_34 ⟨_, rfl, hQ _ (by omega)⟩
end
