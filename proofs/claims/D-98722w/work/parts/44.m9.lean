/-! THE REFERENCE: matches, meetings, spouts. Written by mod/m44.py -/
set_option maxRecDepth 100000
section
variable {G : JG} {m : Nat} {σ : JH} {r s : Int → Int}
theorem sk_ (hW : RW_ r) (hD : DW_ r s) {T F F' : Int → Int} {bm' bs' : Int} {σ1 : JH} (h : mu_ r s 0 T (r 7).toNat 0 0 0 (iv_ (pi_ (pi_ σ1 m 31 (-1)) m 32 0) m 31) (iv_ (pi_ (pi_ σ1 m 31 (-1)) m 32 0) m 32) F bm' bs' F') : bm' = (mw_ r s (r 7).toNat 0).1 ∧ bs' = (mw_ r s (r 7).toNat 0).2.1 ∧ ∀ c, 0 ≤ c → c < r 7 → F' c = ch_ r s (r 7).toNat 0 c := by
  have hn := hW.n
  have q := mw_in hW hD (r 7).toNat (by omega) 0
  have e1 : iv_ (pi_ (pi_ σ1 m 31 (-1)) m 32 0) m 31 = -1 := by simp [iv_pi]
  have e2 : iv_ (pi_ (pi_ σ1 m 31 (-1)) m 32 0) m 32 = 0 := by simp [iv_pi]
  rw [e1, e2] at h
  rcases h with ⟨x1, x2, x3, x4, x5⟩ | ⟨x1, x2, x3, x4⟩
  · exact ⟨by omega, by omega, x5⟩
  · exfalso; omega
theorem mo_seekMatch {Q : JH → Prop} (hM : MD_ G m σ r s) (hW : RW_ r) (hD : DW_ r s)
    (hQ : ∀ σ', MD_ G m σ' r s → Fr_ (ms_ m) σ σ' → (iv_ σ' m 31 = (mw_ r s (r 7).toNat 0).1 ∧ iv_ σ' m 32 = (mw_ r s (r 7).toNat 0).2.1 ∧ ∀ c, 0 ≤ c → c < r 7 → iv_ σ' (m + 12) c = ch_ r s (r 7).toNat 0 c) → Q σ') : CallV_ G 14 yX2_seekMatch cX2_seekMatch 3 none [A_ (some m)] σ Q := by
  refine call_go [some (A_ (some m)), none, none] (by decide) (Nat.le_of_ble_eq_true rfl) rfl ?_
  have hn := hW.n
  have L2 : ∀ (n : Nat) (σ' : JH) (b : Int) (v2 : Option AV), r 7 - b < (n : Int) → (MD_ G m σ' r s) → (Fr_ (ms_ m) σ σ') → (0 ≤ b) → (b ≤ r 7) → (∀ b' w', 0 ≤ b' → 0 ≤ w' → w' < r 6 → b' < b → iv_ σ' (m + 13) (5 * b' + w') = bg_ r s w' b') → GoM_ G 14 yX2_seekMatch cX2_seekMatch 3 none σ (fun v σ' => v = none ∧ Q σ') 2 [some (A_ (some m)), some (I_ b), v2] [] σ' := by
    intro n
    induction n with
    | zero => intro σ' b v2 hn hM hF h0 h1 hA; exact absurd hn (by omega)
    | succ n ih =>
      intro σ' b v2 hn hM hF h0 h1 hA
      refine g_il1 dX2_seekMatch_2 ?_
      refine g_al0 dX2_seekMatch_3 ?_
      refine f_getA 15 fk_X2_20 rfl hM.sh (fun _ _ => rfl) hM.f15 dX2_seekMatch_4 ?_
      refine g_bipush dX2_seekMatch_7 (by decide) (by decide) ?_
      refine g_ialv hM.a15 (by omega) (hM.rr _) dX2_seekMatch_9 ?_
      refine g_icmp_ge (tgt := 54) dX2_seekMatch_10 (by decide) (by omega) (fun h10 => ?_) (fun h10 => ?_)
      · refine g_al0 dX2_seekMatch_54 ?_
        refine g_iconst dX2_seekMatch_55 ?_
        refine f_putI 31 fk_X2_379 rfl (nf_ rfl rfl) hM.sh hM.ge rfl dX2_seekMatch_56 ?_
        have hM1 := hM.pi (a := m) (k := 31) (x := -1) ⟨by omega, by omega⟩
        refine g_al0 dX2_seekMatch_59 ?_
        refine g_iconst dX2_seekMatch_60 ?_
        refine f_putI 32 fk_X2_382 rfl (nf_ rfl rfl) hM.sh hM.ge rfl dX2_seekMatch_61 ?_
        have hM2 := hM1.pi (a := m) (k := 32) (x := 0) ⟨by omega, by omega⟩
        refine g_al0 dX2_seekMatch_64 ?_
        refine g_iconst dX2_seekMatch_65 ?_
        refine g_iconst dX2_seekMatch_66 ?_
        refine g_iconst dX2_seekMatch_67 ?_
        refine g_iconst dX2_seekMatch_68 ?_
        refine g_callV4V (d' := 4 + (r 7).toNat) lk_X2_385 hM.sh rfl (rm_lt (by omega) (by decide)) (Nat.le_of_ble_eq_true rfl) dX2_seekMatch_69 ?_
        refine mo_tryMatch hW hD (r 7).toNat (by omega) hM2 (fun b' w' g0 g1 g2 g3 => by rw [iv_pi, if_neg (by omega), iv_pi, if_neg (by omega)]; exact hA b' w' g0 g2 g3 (by omega)) (by simp [iv_pi]) (by simp [iv_pi]) (by omega) (by omega) (by omega) (fun σ4 hM4 hF4 hT4 hu4 => ?_)
        exact g_vret rfl dX2_seekMatch_72 ⟨rfl, hQ _ hM4 (((hF.pi (a := m) (k := 31) (x := -1) (by unfold ms_; omega)).pi (a := m) (k := 32) (x := 0) (by unfold ms_; omega)).tr hF4.my) (sk_ hW hD hu4)⟩
      have J48 : ∀ (σ' : JH) (w : Int), MD_ G m σ' r s → Fr_ (ms_ m) σ σ' → (∀ b' w', 0 ≤ b' → 0 ≤ w' → w' < r 6 → b' < b + 1 → iv_ σ' (m + 13) (5 * b' + w') = bg_ r s w' b') → GoM_ G 14 yX2_seekMatch cX2_seekMatch 3 none σ (fun v σ' => v = none ∧ Q σ') 48 [some (A_ (some m)), some (I_ b), some (I_ w)] [] σ' := by
        intro σ' w hM hF hA
        refine g_inc1 dX2_seekMatch_48 (by decide) rfl ?_
        refine g_goto (tgt := 2) dX2_seekMatch_51 (by decide) ?_
        exact ih _ _ _ (by omega) hM hF (by omega) (by omega) hA
      have L15 : ∀ (n : Nat) (σ' : JH) (w : Int), r 6 - w < (n : Int) → (MD_ G m σ' r s) → (Fr_ (ms_ m) σ σ') → (0 ≤ w) → (w ≤ r 6) → (∀ b' w', 0 ≤ b' → 0 ≤ w' → w' < r 6 → (b' < b ∨ (b' = b ∧ w' < w)) → iv_ σ' (m + 13) (5 * b' + w') = bg_ r s w' b') → GoM_ G 14 yX2_seekMatch cX2_seekMatch 3 none σ (fun v σ' => v = none ∧ Q σ') 15 [some (A_ (some m)), some (I_ b), some (I_ w)] [] σ' := by
        intro n2
        induction n2 with
        | zero => intro σ' w hn hM hF h0 h1 hA; exact absurd hn (by omega)
        | succ n2 ih2 =>
          intro σ' w hn hM hF h0 h1 hA
          refine g_il2 dX2_seekMatch_15 ?_
          refine g_al0 dX2_seekMatch_16 ?_
          refine f_getA 15 fk_X2_20 rfl hM.sh (fun _ _ => rfl) hM.f15 dX2_seekMatch_17 ?_
          refine g_bipush dX2_seekMatch_20 (by decide) (by decide) ?_
          refine g_ialv hM.a15 (by omega) (hM.rr _) dX2_seekMatch_22 ?_
          refine g_icmp_ge (tgt := 48) dX2_seekMatch_23 (by decide) (by omega) (fun h23 => ?_) (fun h23 => ?_)
          · exact J48 _ _ hM hF (fun b' w' g0 g1 g2 g3 => hA b' w' g0 g1 g2 (by omega))
          refine g_al0 dX2_seekMatch_26 ?_
          
          refine f_getA 30 fk_X2_50 rfl hM.sh (fun _ _ => rfl) hM.f30 dX2_seekMatch_27 ?_
          refine g_iconst dX2_seekMatch_30 ?_
          refine g_il1 dX2_seekMatch_31 ?_
          refine g_imul dX2_seekMatch_32 ?_
          refine g_il2 dX2_seekMatch_33 ?_
          refine g_iadd dX2_seekMatch_34 ?_
          refine g_al0 dX2_seekMatch_35 ?_
          refine g_il2 dX2_seekMatch_36 ?_
          refine g_il1 dX2_seekMatch_37 ?_
          refine g_callV2I (d' := 9) lk_X2_367 hM.sh rfl (rm_lt (by decide) (by decide)) (Nat.le_of_ble_eq_true rfl) dX2_seekMatch_38 ?_
          refine mo_bringsOf hM hW hD (by omega) (by omega) (fun σ3 hM hF3 => ?_)
          have e3 : ∀ k, iv_ σ3 (m + 13) k = iv_ σ' (m + 13) k := fun k => hF3.2.2.2.2 (m + 13) k (fun q => by unfold mq_ at q; omega)
          replace hF3 := hF3.ms2
          refine g_iast hM.a30 hM.g30 (by omega) dX2_seekMatch_41 ?_
          refine g_inc2 dX2_seekMatch_42 (by decide) rfl ?_
          refine g_goto (tgt := 15) dX2_seekMatch_45 (by decide) ?_
          refine ih2 _ _ (by omega) (hM.pi ⟨by omega, by omega⟩) ((hF.tr hF3).pi (Or.inl ⟨by omega, by omega⟩)) (by omega) (by omega) (fun b' w' g0 g1 g2 g3 => ?_)
          rw [iv_pi]
          by_cases hj : b' = b ∧ w' = w
          · rw [if_pos ⟨rfl, by omega⟩, hj.1, hj.2]
          · rw [if_neg (by omega), e3]; exact hA b' w' g0 g1 g2 (by omega)
      refine g_iconst dX2_seekMatch_13 ?_
      refine g_is2 dX2_seekMatch_14 (by decide) rfl ?_
      exact L15 ((r 6).toNat + 1) _ _ (by omega) hM hF (by omega) (by omega) (fun b' w' g0 g1 g2 g3 => hA b' w' g0 g1 g2 (by omega))
  refine g_iconst dX2_seekMatch_0 ?_
  refine g_is1 dX2_seekMatch_1 (by decide) rfl ?_
  exact L2 ((r 7).toNat + 1) _ _ _ (by omega) hM Fr_.rf (by omega) (by omega) (fun b' w' g0 g1 g2 g3 => by omega)
theorem mo_match {p : Int} {Q : Int → JH → Prop} (hM : MD_ G m σ r s) (hp : iv_ σ m 14 = p) (hP : MP_ p r s) 
    (hQ : ∀ (x t : Int) (σ' : JH), qMatch_ p r s = (x, t) → MD_ G m σ' r s → ME_ m σ σ' t → Q x σ') : CallI_ G 15 yX2_match cX2_match 1 (some .int) [A_ (some m)] σ Q := by
  refine call_go [some (A_ (some m))] (by decide) (Nat.le_of_ble_eq_true rfl) rfl ?_
  have hp01 := hP.b
  refine g_al0 dX2_match_0 ?_
  refine g_callV0V (d' := 2) lk_X2_167 hM.sh rfl (rm_lt (by decide) (by decide)) (Nat.le_of_ble_eq_true rfl) dX2_match_1 ?_
  refine mo_good hM (fun σ1 hM hE => ?_)
  have hp := hE.p14.trans hp
  refine g_al0 dX2_match_4 ?_
  refine f_getv 14 fk_X2_180 rfl hM.sh (fun _ _ => rfl) hp dX2_match_5 ?_
  refine g_if_ne (tgt := 17) dX2_match_8 (by decide) (by omega) (fun h8 => ?_) (fun h8 => ?_)
  · refine g_al0 dX2_match_17 ?_
    refine g_callV0V (d' := 14) lk_X2_389 hM.sh rfl (rm_lt (by decide) (by decide)) (Nat.le_of_ble_eq_true rfl) dX2_match_18 ?_
    obtain ⟨hW, hD⟩ := hP.get (by omega)
    have hn := hW.n
    refine mo_seekMatch hM hW hD (fun σ2 hM hF hS => ?_)
    have hE := hE.fr hF
    refine g_al0 dX2_match_21 ?_
    refine f_getv 31 fk_X2_379 rfl hM.sh (fun _ _ => rfl) hS.1 dX2_match_22 ?_
    exact g_iret rfl dX2_match_25 ⟨_, rfl, hQ _ _ _ (by unfold qMatch_; rw [if_pos (by omega)]) hM hE⟩
  refine g_al0 dX2_match_11 ?_
  refine g_iconst dX2_match_12 ?_
  refine g_callV1I (d' := 2) lk_X2_170 hM.sh rfl (rm_lt (by decide) (by decide)) (Nat.le_of_ble_eq_true rfl) dX2_match_13 ?_
  refine mo_no hM hE (fun σ2 hM hE => ?_)
  exact g_iret rfl dX2_match_16 ⟨_, rfl, hQ _ _ _ (by unfold qMatch_; rw [if_neg (by omega)]) hM hE⟩
theorem mo_matchDays {p : Int} {Q : Int → JH → Prop} (hM : MD_ G m σ r s) (hp : iv_ σ m 14 = p) (hP : MP_ p r s) 
    (hQ : ∀ (x t : Int) (σ' : JH), qMatchDays_ p r s = (x, t) → MD_ G m σ' r s → ME_ m σ σ' t → Q x σ') : CallI_ G 15 yX2_matchDays cX2_matchDays 1 (some .int) [A_ (some m)] σ Q := by
  refine call_go [some (A_ (some m))] (by decide) (Nat.le_of_ble_eq_true rfl) rfl ?_
  have hp01 := hP.b
  refine g_al0 dX2_matchDays_0 ?_
  refine g_callV0V (d' := 2) lk_X2_167 hM.sh rfl (rm_lt (by decide) (by decide)) (Nat.le_of_ble_eq_true rfl) dX2_matchDays_1 ?_
  refine mo_good hM (fun σ1 hM hE => ?_)
  have hp := hE.p14.trans hp
  refine g_al0 dX2_matchDays_4 ?_
  refine f_getv 14 fk_X2_180 rfl hM.sh (fun _ _ => rfl) hp dX2_matchDays_5 ?_
  refine g_if_ne (tgt := 17) dX2_matchDays_8 (by decide) (by omega) (fun h8 => ?_) (fun h8 => ?_)
  · refine g_al0 dX2_matchDays_17 ?_
    refine g_callV0V (d' := 14) lk_X2_389 hM.sh rfl (rm_lt (by decide) (by decide)) (Nat.le_of_ble_eq_true rfl) dX2_matchDays_18 ?_
    obtain ⟨hW, hD⟩ := hP.get (by omega)
    have hn := hW.n
    refine mo_seekMatch hM hW hD (fun σ2 hM hF hS => ?_)
    have hE := hE.fr hF
    refine g_al0 dX2_matchDays_21 ?_
    refine f_getv 32 fk_X2_382 rfl hM.sh (fun _ _ => rfl) hS.2.1 dX2_matchDays_22 ?_
    exact g_iret rfl dX2_matchDays_25 ⟨_, rfl, hQ _ _ _ (by unfold qMatchDays_; rw [if_pos (by omega)]) hM hE⟩
  refine g_al0 dX2_matchDays_11 ?_
  refine g_iconst dX2_matchDays_12 ?_
  refine g_callV1I (d' := 2) lk_X2_170 hM.sh rfl (rm_lt (by decide) (by decide)) (Nat.le_of_ble_eq_true rfl) dX2_matchDays_13 ?_
  refine mo_no hM hE (fun σ2 hM hE => ?_)
  exact g_iret rfl dX2_matchDays_16 ⟨_, rfl, hQ _ _ _ (by unfold qMatchDays_; rw [if_neg (by omega)]) hM hE⟩
theorem mo_matchOf {p : Int} {b : Int} {Q : Int → JH → Prop} (hM : MD_ G m σ r s) (hp : iv_ σ m 14 = p) (hP : MP_ p r s) (hb : -2147483648 ≤ b ∧ b < 2147483648)
    (hQ : ∀ (x t : Int) (σ' : JH), qMatchOf_ p r s b = (x, t) → MD_ G m σ' r s → ME_ m σ σ' t → Q x σ') : CallI_ G 15 yX2_matchOf cX2_matchOf 2 (some .int) [A_ (some m), I_ b] σ Q := by
  refine call_go [some (A_ (some m)), some (I_ b)] (by decide) (Nat.le_of_ble_eq_true rfl) rfl ?_
  have hp01 := hP.b
  refine g_al0 dX2_matchOf_0 ?_
  refine g_callV0V (d' := 2) lk_X2_167 hM.sh rfl (rm_lt (by decide) (by decide)) (Nat.le_of_ble_eq_true rfl) dX2_matchOf_1 ?_
  refine mo_good hM (fun σ1 hM hE => ?_)
  have hp := hE.p14.trans hp
  refine g_al0 dX2_matchOf_4 ?_
  refine g_il1 dX2_matchOf_5 ?_
  refine g_callV1I (d' := 3) lk_X2_274 hM.sh rfl (rm_lt (by decide) (by decide)) (Nat.le_of_ble_eq_true rfl) dX2_matchOf_6 ?_
  refine mo_isBox hM hp hP.rw (by omega) (fun x6 hx6 => ?_)
  unfold isB_ at hx6
  refine g_if_ne (tgt := 18) dX2_matchOf_9 (by decide) (by omega) (fun h9 => ?_) (fun h9 => ?_)
  · refine g_al0 dX2_matchOf_18 ?_
    refine g_callV0V (d' := 14) lk_X2_389 hM.sh rfl (rm_lt (by decide) (by decide)) (Nat.le_of_ble_eq_true rfl) dX2_matchOf_19 ?_
    obtain ⟨hW, hD⟩ := hP.get (by omega)
    have hn := hW.n
    refine mo_seekMatch hM hW hD (fun σ2 hM hF hS => ?_)
    have hE := hE.fr hF
    refine g_al0 dX2_matchOf_22 ?_
    refine f_getA 29 fk_X2_47 rfl hM.sh (fun _ _ => rfl) hM.f29 dX2_matchOf_23 ?_
    refine g_il1 dX2_matchOf_26 ?_
    refine g_ialv hM.a29 (by omega) (hS.2.2 b (by omega) (by omega)) dX2_matchOf_27 ?_
    exact g_iret rfl dX2_matchOf_28 ⟨_, rfl, hQ _ _ _ (by unfold qMatchOf_; rw [if_pos (by omega)]) hM hE⟩
  refine g_al0 dX2_matchOf_12 ?_
  refine g_iconst dX2_matchOf_13 ?_
  refine g_callV1I (d' := 2) lk_X2_170 hM.sh rfl (rm_lt (by decide) (by decide)) (Nat.le_of_ble_eq_true rfl) dX2_matchOf_14 ?_
  refine mo_no hM hE (fun σ2 hM hE => ?_)
  exact g_iret rfl dX2_matchOf_17 ⟨_, rfl, hQ _ _ _ (by unfold qMatchOf_; rw [if_neg (by omega)]) hM hE⟩
theorem me1_ (hW : RW_ r) (hD : DW_ r s) {w b : Int} (hw : 0 ≤ w ∧ w < r 6) (hb : 0 ≤ b ∧ b < r 7) : (0 ≤ tk_ r s w b ∧ tk_ r s w b ≤ 100000) ∧ (-2 ≤ ar_ r s w b ∧ ar_ r s w b ≤ 100000) ∧ (-2 ≤ hn_ r s b ∧ hn_ r s b < 7) := by
  have hn := hW.n
  have k1 := ar_in hW hD hw hb
  have k2 := tk_in hW hD hw hb
  have k3 := hD.whale (w := w) (by omega) (by omega)
  have k4 : hn_ r s b = -2 ∨ (0 ≤ hn_ r s b ∧ hn_ r s b < r 4) := hd_in (by omega)
  refine ⟨⟨k2.1, ?_⟩, ⟨?_, ?_⟩, ?_, ?_⟩ <;> omega
theorem mo_meet {p : Int} {b w c v : Int} {Q : Int → JH → Prop} (hM : MD_ G m σ r s) (hp : iv_ σ m 14 = p) (hP : MP_ p r s) (hb : -2147483648 ≤ b ∧ b < 2147483648) (hw : -2147483648 ≤ w ∧ w < 2147483648) (hc : -2147483648 ≤ c ∧ c < 2147483648) (hv : -2147483648 ≤ v ∧ v < 2147483648)
    (hQ : ∀ (x t : Int) (σ' : JH), qMeet_ p r s b w c v = (x, t) → MD_ G m σ' r s → ME_ m σ σ' t → Q x σ') : CallI_ G 9 yX2_meet cX2_meet 8 (some .int) [A_ (some m), I_ b, I_ w, I_ c, I_ v] σ Q := by
  refine call_go [some (A_ (some m)), some (I_ b), some (I_ w), some (I_ c), some (I_ v), none, none, none] (by decide) (Nat.le_of_ble_eq_true rfl) rfl ?_
  have hp01 := hP.b
  refine g_al0 dX2_meet_0 ?_
  refine g_callV0V (d' := 2) lk_X2_167 hM.sh rfl (rm_lt (by decide) (by decide)) (Nat.le_of_ble_eq_true rfl) dX2_meet_1 ?_
  refine mo_good hM (fun σ1 hM hE => ?_)
  have hp := hE.p14.trans hp
  refine g_al0 dX2_meet_4 ?_
  refine g_il1 dX2_meet_5 ?_
  refine g_callV1I (d' := 3) lk_X2_274 hM.sh rfl (rm_lt (by decide) (by decide)) (Nat.le_of_ble_eq_true rfl) dX2_meet_6 ?_
  refine mo_isBox hM hp hP.rw (by omega) (fun x6 hx6 => ?_)
  unfold isB_ at hx6
  refine g_if_eq (tgt := 48) dX2_meet_9 (by decide) (by omega) (fun h9 => ?_) (fun h9 => ?_)
  · refine g_al0 dX2_meet_48 ?_
    refine g_iconst dX2_meet_49 ?_
    refine g_callV1I (d' := 2) lk_X2_170 hM.sh rfl (rm_lt (by decide) (by decide)) (Nat.le_of_ble_eq_true rfl) dX2_meet_50 ?_
    refine mo_no hM hE (fun σ2 hM hE => ?_)
    exact g_iret rfl dX2_meet_53 ⟨_, rfl, hQ _ _ _ (by unfold qMeet_; rw [if_neg (by omega)]) hM hE⟩
  refine g_al0 dX2_meet_12 ?_
  refine g_il3 dX2_meet_13 ?_
  refine g_callV1I (d' := 3) lk_X2_274 hM.sh rfl (rm_lt (by decide) (by decide)) (Nat.le_of_ble_eq_true rfl) dX2_meet_14 ?_
  refine mo_isBox hM hp hP.rw (by omega) (fun x14 hx14 => ?_)
  unfold isB_ at hx14
  refine g_if_eq (tgt := 48) dX2_meet_17 (by decide) (by omega) (fun h17 => ?_) (fun h17 => ?_)
  · refine g_al0 dX2_meet_48 ?_
    refine g_iconst dX2_meet_49 ?_
    refine g_callV1I (d' := 2) lk_X2_170 hM.sh rfl (rm_lt (by decide) (by decide)) (Nat.le_of_ble_eq_true rfl) dX2_meet_50 ?_
    refine mo_no hM hE (fun σ2 hM hE => ?_)
    exact g_iret rfl dX2_meet_53 ⟨_, rfl, hQ _ _ _ (by unfold qMeet_; rw [if_neg (by omega)]) hM hE⟩
  refine g_al0 dX2_meet_20 ?_
  refine g_il2 dX2_meet_21 ?_
  refine g_callV1I (d' := 3) lk_X2_268 hM.sh rfl (rm_lt (by decide) (by decide)) (Nat.le_of_ble_eq_true rfl) dX2_meet_22 ?_
  refine mo_isWhale hM hp hP.rw (by omega) (fun x22 hx22 => ?_)
  unfold isW_ at hx22
  refine g_if_eq (tgt := 48) dX2_meet_25 (by decide) (by omega) (fun h25 => ?_) (fun h25 => ?_)
  · refine g_al0 dX2_meet_48 ?_
    refine g_iconst dX2_meet_49 ?_
    refine g_callV1I (d' := 2) lk_X2_170 hM.sh rfl (rm_lt (by decide) (by decide)) (Nat.le_of_ble_eq_true rfl) dX2_meet_50 ?_
    refine mo_no hM hE (fun σ2 hM hE => ?_)
    exact g_iret rfl dX2_meet_53 ⟨_, rfl, hQ _ _ _ (by unfold qMeet_; rw [if_neg (by omega)]) hM hE⟩
  refine g_al0 dX2_meet_28 ?_
  refine g_il4 dX2_meet_29 ?_
  refine g_callV1I (d' := 3) lk_X2_268 hM.sh rfl (rm_lt (by decide) (by decide)) (Nat.le_of_ble_eq_true rfl) dX2_meet_31 ?_
  refine mo_isWhale hM hp hP.rw (by omega) (fun x31 hx31 => ?_)
  unfold isW_ at hx31
  refine g_if_eq (tgt := 48) dX2_meet_34 (by decide) (by omega) (fun h34 => ?_) (fun h34 => ?_)
  · refine g_al0 dX2_meet_48 ?_
    refine g_iconst dX2_meet_49 ?_
    refine g_callV1I (d' := 2) lk_X2_170 hM.sh rfl (rm_lt (by decide) (by decide)) (Nat.le_of_ble_eq_true rfl) dX2_meet_50 ?_
    refine mo_no hM hE (fun σ2 hM hE => ?_)
    exact g_iret rfl dX2_meet_53 ⟨_, rfl, hQ _ _ _ (by unfold qMeet_; rw [if_neg (by omega)]) hM hE⟩
  refine g_il1 dX2_meet_37 ?_
  refine g_il3 dX2_meet_38 ?_
  refine g_icmp_eq (tgt := 48) dX2_meet_39 (by decide) (by omega) (fun h39 => ?_) (fun h39 => ?_)
  · refine g_al0 dX2_meet_48 ?_
    refine g_iconst dX2_meet_49 ?_
    refine g_callV1I (d' := 2) lk_X2_170 hM.sh rfl (rm_lt (by decide) (by decide)) (Nat.le_of_ble_eq_true rfl) dX2_meet_50 ?_
    refine mo_no hM hE (fun σ2 hM hE => ?_)
    exact g_iret rfl dX2_meet_53 ⟨_, rfl, hQ _ _ _ (by unfold qMeet_; rw [if_neg (by omega)]) hM hE⟩
  refine g_il2 dX2_meet_42 ?_
  refine g_il4 dX2_meet_43 ?_
  refine g_icmp_ne (tgt := 54) dX2_meet_45 (by decide) (by omega) (fun h45 => ?_) (fun h45 => ?_)
  · refine g_al0 dX2_meet_54 ?_
    refine g_il2 dX2_meet_55 ?_
    refine g_il1 dX2_meet_56 ?_
    refine g_callV2I (d' := 8) lk_X2_364 hM.sh rfl (rm_lt (by decide) (by decide)) (Nat.le_of_ble_eq_true rfl) dX2_meet_57 ?_
    obtain ⟨hW, hD⟩ := hP.get (by omega)
    have hn := hW.n
    have f1 : 0 ≤ b ∧ b < r 7 := by omega
    have f2 : 0 ≤ c ∧ c < r 7 := by omega
    have f3 : 0 ≤ w ∧ w < r 6 := by omega
    have f4 : 0 ≤ v ∧ v < r 6 := by omega
    have f5 : p = 1 := by omega
    clear hx6 hx14 hx22 hx31 hp01 hP
    have k1 := me1_ hW hD f3 f1
    have k2 := me1_ hW hD f4 f2
    have k3 := hW.box f1.1 f1.2
    have k4 := hW.box f2.1 f2.2
    refine mo_lays hM hW hD f3 f1 (fun z1 σ2 hM hF hz1 => ?_)
    have hE := hE.fr hF.ms2
    refine g_if_ne (tgt := 66) dX2_meet_60 (by decide) (by omega) (fun h60 => ?_) (fun h60 => ?_)
    · refine g_al0 dX2_meet_66 ?_
      have hz1 : cy_ r s w b ∧ iv_ σ2 m 27 = ar_ r s w b ∧ iv_ σ2 m 26 = tk_ r s w b := by rcases hz1 with z | z; (exact z.2); (omega)
      refine f_getv 26 fk_X2_358 rfl hM.sh (fun _ _ => rfl) hz1.2.2 dX2_meet_67 ?_
      refine g_is5 dX2_meet_70 (by decide) rfl ?_
      refine g_al0 dX2_meet_72 ?_
      refine f_getv 27 fk_X2_361 rfl hM.sh (fun _ _ => rfl) hz1.2.1 dX2_meet_73 ?_
      refine g_is6 dX2_meet_76 (by decide) rfl ?_
      refine g_al0 dX2_meet_78 ?_
      refine g_il4 dX2_meet_79 ?_
      refine g_il3 dX2_meet_81 ?_
      refine g_callV2I (d' := 8) lk_X2_364 hM.sh rfl (rm_lt (by decide) (by decide)) (Nat.le_of_ble_eq_true rfl) dX2_meet_82 ?_
      refine mo_lays hM hW hD f4 f2 (fun z2 σ3 hM hF2 hz2 => ?_)
      have hE := hE.fr hF2.ms2
      refine g_if_eq (tgt := 116) dX2_meet_85 (by decide) (by omega) (fun h85 => ?_) (fun h85 => ?_)
      · refine g_bipush dX2_meet_116 (by decide) (by decide) ?_
        exact g_iret rfl dX2_meet_118 ⟨_, rfl, hQ _ _ _ (by unfold qMeet_; rw [if_pos ⟨f5, f1, f2, f3, f4, by omega, by omega⟩, if_neg (fun q => by rcases hz2 with z | z; (omega); (exact z.2 q.2.1))]) hM hE⟩
      refine g_al0 dX2_meet_88 ?_
      refine g_il1 dX2_meet_89 ?_
      refine g_callV1I (d' := 6) lk_X2_295 hM.sh rfl (rm_lt (by decide) (by decide)) (Nat.le_of_ble_eq_true rfl) dX2_meet_90 ?_
      refine mo_heardNow hM hW hD f1 ?_
      refine g_al0 dX2_meet_93 ?_
      refine g_il3 dX2_meet_94 ?_
      refine g_iconst dX2_meet_95 ?_
      refine g_callV2I (d' := 2) lk_X2_262 hM.sh rfl (rm_lt (by decide) (by decide)) (Nat.le_of_ble_eq_true rfl) dX2_meet_96 ?_
      refine mo_ofBox hM (by omega) (by omega) ?_
      rw [show 127 + 4 * c + 0 = 127 + 4 * c by omega]
      refine g_icmp_ne (tgt := 116) dX2_meet_99 (by decide) (by omega) (fun h99 => ?_) (fun h99 => ?_)
      · refine g_bipush dX2_meet_116 (by decide) (by decide) ?_
        exact g_iret rfl dX2_meet_118 ⟨_, rfl, hQ _ _ _ (by unfold qMeet_; rw [if_pos ⟨f5, f1, f2, f3, f4, by omega, by omega⟩, if_neg (fun q => by have := q.2.2.1; omega)]) hM hE⟩
      refine g_al0 dX2_meet_102 ?_
      refine g_il3 dX2_meet_103 ?_
      refine g_callV1I (d' := 6) lk_X2_295 hM.sh rfl (rm_lt (by decide) (by decide)) (Nat.le_of_ble_eq_true rfl) dX2_meet_104 ?_
      refine mo_heardNow hM hW hD f2 ?_
      refine g_al0 dX2_meet_107 ?_
      refine g_il1 dX2_meet_108 ?_
      refine g_iconst dX2_meet_109 ?_
      refine g_callV2I (d' := 2) lk_X2_262 hM.sh rfl (rm_lt (by decide) (by decide)) (Nat.le_of_ble_eq_true rfl) dX2_meet_110 ?_
      refine mo_ofBox hM (by omega) (by omega) ?_
      rw [show 127 + 4 * b + 0 = 127 + 4 * b by omega]
      refine g_icmp_eq (tgt := 119) dX2_meet_113 (by decide) (by omega) (fun h113 => ?_) (fun h113 => ?_)
      · refine g_il5 dX2_meet_119 ?_
        refine g_al0 dX2_meet_121 ?_
        have hz2 : cy_ r s v c ∧ iv_ σ3 m 27 = ar_ r s v c ∧ iv_ σ3 m 26 = tk_ r s v c := by rcases hz2 with z | z; (exact z.2); (omega)
        refine f_getv 26 fk_X2_358 rfl hM.sh (fun _ _ => rfl) hz2.2.2 dX2_meet_122 ?_
        refine g_callS2I (d' := 2) lk_X2_355 (rm_lt (by decide) (by decide)) (Nat.le_of_ble_eq_true rfl) dX2_meet_125 ?_
        refine mo_later (by omega) (by omega) (fun y hy => ?_)
        refine g_is7 dX2_meet_128 (by decide) rfl ?_
        refine g_il7 dX2_meet_130 ?_
        refine g_il6 dX2_meet_132 ?_
        refine g_icmp_ge (tgt := 151) dX2_meet_134 (by decide) (by omega) (fun h134 => ?_) (fun h134 => ?_)
        · refine g_bipush dX2_meet_151 (by decide) (by decide) ?_
          exact g_iret rfl dX2_meet_153 ⟨_, rfl, hQ _ _ _ (by unfold qMeet_; rw [if_pos ⟨f5, f1, f2, f3, f4, by omega, by omega⟩, if_neg (fun q => by have := q.2.2.2.2; omega)]) hM hE⟩
        refine g_il7 dX2_meet_137 ?_
        refine g_al0 dX2_meet_139 ?_
        refine f_getv 27 fk_X2_361 rfl hM.sh (fun _ _ => rfl) hz2.2.1 dX2_meet_140 ?_
        refine g_icmp_ge (tgt := 151) dX2_meet_143 (by decide) (by omega) (fun h143 => ?_) (fun h143 => ?_)
        · refine g_bipush dX2_meet_151 (by decide) (by decide) ?_
          exact g_iret rfl dX2_meet_153 ⟨_, rfl, hQ _ _ _ (by unfold qMeet_; rw [if_pos ⟨f5, f1, f2, f3, f4, by omega, by omega⟩, if_neg (fun q => by have := q.2.2.2.2; omega)]) hM hE⟩
        refine g_il7 dX2_meet_146 ?_
        refine g_goto (tgt := 153) dX2_meet_148 (by decide) ?_
        exact g_iret rfl dX2_meet_153 ⟨_, rfl, hQ _ _ _ (by unfold qMeet_; rw [if_pos ⟨f5, f1, f2, f3, f4, by omega, by omega⟩, if_pos ⟨hz1.1, hz2.1, by omega, by omega, by omega, by omega⟩]; congr 1; split <;> omega) hM hE⟩
      refine g_bipush dX2_meet_116 (by decide) (by decide) ?_
      exact g_iret rfl dX2_meet_118 ⟨_, rfl, hQ _ _ _ (by unfold qMeet_; rw [if_pos ⟨f5, f1, f2, f3, f4, by omega, by omega⟩, if_neg (fun q => by have := q.2.2.2.1; omega)]) hM hE⟩
    refine g_bipush dX2_meet_63 (by decide) (by decide) ?_
    exact g_iret rfl dX2_meet_65 ⟨_, rfl, hQ _ _ _ (by unfold qMeet_; rw [if_pos ⟨f5, f1, f2, f3, f4, by omega, by omega⟩, if_neg (fun q => by rcases hz1 with z | z; (omega); (exact z.2 q.1))]) hM hE⟩
  refine g_al0 dX2_meet_48 ?_
  refine g_iconst dX2_meet_49 ?_
  refine g_callV1I (d' := 2) lk_X2_170 hM.sh rfl (rm_lt (by decide) (by decide)) (Nat.le_of_ble_eq_true rfl) dX2_meet_50 ?_
  refine mo_no hM hE (fun σ2 hM hE => ?_)
  exact g_iret rfl dX2_meet_53 ⟨_, rfl, hQ _ _ _ (by unfold qMeet_; rw [if_neg (by omega)]) hM hE⟩
theorem mo_fitsAll {w : Int} {Q : Int → JH → Prop} (hM : MD_ G m σ r s) (hW : RW_ r) (hw : 0 ≤ w ∧ w < r 6)
    (hQ : ∀ (z : Int) σ', MD_ G m σ' r s → Fr_ (ms_ m) σ σ' → z = (fa_ r s w).2.2 → iv_ σ' m 33 = (fa_ r s w).1 → iv_ σ' m 34 = (fa_ r s w).2.1 → Q z σ') : CallI_ G 8 yX2_fitsAll cX2_fitsAll 6 (some .boolean) [A_ (some m), I_ w] σ Q := by
  refine call_go [some (A_ (some m)), some (I_ w), none, none, none, none] (by decide) (Nat.le_of_ble_eq_true rfl) rfl ?_
  have hn := hW.n
  have hwh := hW.whale hw.1 hw.2
  have L19 : ∀ (n : Nat) (σ' : JH) (z : Int) (k : Int) (v4 : Option AV) (v5 : Option AV), r 8 - k < (n : Int) → (MD_ G m σ' r s) → (Fr_ (ms_ m) σ σ') → (0 ≤ k) → (k ≤ r 8) → (z = (iI_ (ff_ r s w) (r (108 + 4 * w), 0, 1) k).2.2) → (iv_ σ' m 33 = (iI_ (ff_ r s w) (r (108 + 4 * w), 0, 1) k).1) → (iv_ σ' m 34 = (iI_ (ff_ r s w) (r (108 + 4 * w), 0, 1) k).2.1) → GoM_ G 8 yX2_fitsAll cX2_fitsAll 6 (some .boolean) σ (fun v σ' => ∃ x : Int, v = some (I_ x) ∧ Q x σ') 19 [some (A_ (some m)), some (I_ w), some (I_ z), some (I_ k), v4, v5] [] σ' := by
    intro n
    induction n with
    | zero => intro σ' z k v4 v5 hn hM hF h0 h1 hz ha hd; exact absurd hn (by omega)
    | succ n ih =>
      intro σ' z k v4 v5 hn hM hF h0 h1 hz ha hd
      have hff := ff_in (s := s) hW hw (n := k) (by omega)
      have hs := iI_s (ff_ r s w) (r (108 + 4 * w), 0, 1) h0
      
      refine g_il3 dX2_fitsAll_19 ?_
      refine g_al0 dX2_fitsAll_20 ?_
      refine f_getA 15 fk_X2_20 rfl hM.sh (fun _ _ => rfl) hM.f15 dX2_fitsAll_21 ?_
      refine g_bipush dX2_fitsAll_24 (by decide) (by decide) ?_
      refine g_ialv hM.a15 (by omega) (hM.rr _) dX2_fitsAll_26 ?_
      refine g_icmp_ge (tgt := 138) dX2_fitsAll_27 (by decide) (by omega) (fun h27 => ?_) (fun h27 => ?_)
      · refine g_il2 dX2_fitsAll_138 ?_
        exact g_zret rfl (by omega) dX2_fitsAll_139 ⟨_, rfl, hQ _ _ hM hF (by rw [hz, show k = r 8 by omega]; rfl) (by rw [ha, show k = r 8 by omega]; rfl) (by rw [hd, show k = r 8 by omega]; rfl)⟩
      refine g_al0 dX2_fitsAll_30 ?_
      refine f_getA 15 fk_X2_20 rfl hM.sh (fun _ _ => rfl) hM.f15 dX2_fitsAll_31 ?_
      refine g_sipush dX2_fitsAll_34 (by decide) (by decide) ?_
      refine g_iconst dX2_fitsAll_37 ?_
      refine g_il3 dX2_fitsAll_38 ?_
      refine g_imul dX2_fitsAll_39 ?_
      refine g_iadd dX2_fitsAll_40 ?_
      refine g_ialv hM.a15 (by omega) (hM.rr _) dX2_fitsAll_41 ?_
      have hsp := hW.spout (k := k) (by omega) (by omega)
      refine g_il1 dX2_fitsAll_42 ?_
      refine g_icmp_eq (tgt := 49) dX2_fitsAll_43 (by decide) (by omega) (fun h43 => ?_) (fun h43 => ?_)
      · refine g_al0 dX2_fitsAll_49 ?_
        refine f_getA 15 fk_X2_20 rfl hM.sh (fun _ _ => rfl) hM.f15 dX2_fitsAll_50 ?_
        refine g_sipush dX2_fitsAll_53 (by decide) (by decide) ?_
        refine g_iconst dX2_fitsAll_56 ?_
        refine g_il3 dX2_fitsAll_57 ?_
        refine g_imul dX2_fitsAll_58 ?_
        refine g_iadd dX2_fitsAll_59 ?_
        refine g_iconst dX2_fitsAll_60 ?_
        refine g_iadd dX2_fitsAll_61 ?_
        refine g_ialv hM.a15 (by omega) (hM.rrx (j := 160 + 3 * k) (by omega)) dX2_fitsAll_62 ?_
        refine g_is4 dX2_fitsAll_63 (by decide) rfl ?_
        refine g_al0 dX2_fitsAll_65 ?_
        refine f_getA 15 fk_X2_20 rfl hM.sh (fun _ _ => rfl) hM.f15 dX2_fitsAll_66 ?_
        refine g_sipush dX2_fitsAll_69 (by decide) (by decide) ?_
        refine g_iconst dX2_fitsAll_72 ?_
        refine g_il3 dX2_fitsAll_73 ?_
        refine g_imul dX2_fitsAll_74 ?_
        refine g_iadd dX2_fitsAll_75 ?_
        refine g_iconst dX2_fitsAll_76 ?_
        refine g_iadd dX2_fitsAll_77 ?_
        refine g_ialv hM.a15 (by omega) (hM.rrx (j := 161 + 3 * k) (by omega)) dX2_fitsAll_78 ?_
        refine g_is5 dX2_fitsAll_79 (by decide) rfl ?_
        refine g_il2 dX2_fitsAll_81 ?_
        refine g_if_eq (tgt := 118) dX2_fitsAll_82 (by decide) (by omega) (fun h82 => ?_) (fun h82 => ?_)
        · refine g_iconst dX2_fitsAll_118 ?_
          refine g_is2 dX2_fitsAll_119 (by decide) rfl ?_
          refine g_al0 dX2_fitsAll_120 ?_
          refine g_il4 dX2_fitsAll_121 ?_
          refine f_putI 33 fk_X2_392 rfl (nf_ rfl rfl) hM.sh hM.ge rfl dX2_fitsAll_123 ?_
          refine g_al0 dX2_fitsAll_126 ?_
          refine g_il5 dX2_fitsAll_127 ?_
          refine f_putI 34 fk_X2_395 rfl (nf_ rfl rfl) hM.sh hM.ge rfl dX2_fitsAll_129 ?_
          refine g_inc3 dX2_fitsAll_132 (by decide) rfl ?_
          refine g_goto (tgt := 19) dX2_fitsAll_135 (by decide) ?_
          rw [show ff_ r s w k (iI_ (ff_ r s w) (r (108 + 4 * w), 0, 1) k) = _ from if_pos (by omega)] at hs
          refine ih _ _ _ _ _ (by omega) ((hM.pi ⟨by omega, by omega⟩).pi ⟨by omega, by omega⟩) ((hF.pi (a := m) (k := 33) (by unfold ms_; omega)).pi (a := m) (k := 34) (by unfold ms_; omega)) (by omega) (by omega) (by rw [hs]; dsimp only; rw [if_neg (fun q => by omega)]) (by rw [hs]; simp [iv_pi]) (by rw [hs]; simp [iv_pi])
        refine g_al0 dX2_fitsAll_85 ?_
        refine g_al0 dX2_fitsAll_86 ?_
        refine g_il1 dX2_fitsAll_87 ?_
        refine g_iconst dX2_fitsAll_88 ?_
        refine g_callV2I (d' := 2) lk_X2_271 hM.sh rfl (rm_lt (by decide) (by decide)) (Nat.le_of_ble_eq_true rfl) dX2_fitsAll_89 ?_
        refine mo_ofWhale hM (by omega) (by omega) ?_
        rw [show 107 + 4 * w + 0 = 107 + 4 * w by omega]
        refine g_al0 dX2_fitsAll_92 ?_
        refine f_getv 33 fk_X2_392 rfl hM.sh (fun _ _ => rfl) ha dX2_fitsAll_93 ?_
        refine g_il4 dX2_fitsAll_96 ?_
        refine g_al0 dX2_fitsAll_98 ?_
        refine f_getv 34 fk_X2_395 rfl hM.sh (fun _ _ => rfl) hd dX2_fitsAll_99 ?_
        refine g_callV4I (d' := 7) lk_X2_352 hM.sh rfl (rm_lt (by decide) (by decide)) (Nat.le_of_ble_eq_true rfl) dX2_fitsAll_102 ?_
        refine mo_arrivalOf hM hW (by omega) (by omega) (by omega) (by omega) (fun σ3 hM hF3 => ?_)
        have hav := av1_in (s := s) hW (r (107 + 4 * w)) (iI_ (ff_ r s w) (r (108 + 4 * w), 0, 1) k).1 (r (160 + 3 * k)) (dy := (iI_ (ff_ r s w) (r (108 + 4 * w), 0, 1) k).2.1) (by omega)
        replace hF := hF.tr hF3.ms
        refine g_iconst dX2_fitsAll_105 ?_
        refine g_il5 dX2_fitsAll_106 ?_
        refine g_callS3I (d' := 2) lk_X2_149 (rm_lt (by decide) (by decide)) (Nat.le_of_ble_eq_true rfl) dX2_fitsAll_108 ?_
        refine mo_in (by omega) (by omega) (by omega) (fun x108 hx108 => ?_)
        refine g_if_eq (tgt := 118) dX2_fitsAll_111 (by decide) (by omega) (fun h111 => ?_) (fun h111 => ?_)
        · refine g_iconst dX2_fitsAll_118 ?_
          refine g_is2 dX2_fitsAll_119 (by decide) rfl ?_
          refine g_al0 dX2_fitsAll_120 ?_
          refine g_il4 dX2_fitsAll_121 ?_
          refine f_putI 33 fk_X2_392 rfl (nf_ rfl rfl) hM.sh hM.ge rfl dX2_fitsAll_123 ?_
          refine g_al0 dX2_fitsAll_126 ?_
          refine g_il5 dX2_fitsAll_127 ?_
          refine f_putI 34 fk_X2_395 rfl (nf_ rfl rfl) hM.sh hM.ge rfl dX2_fitsAll_129 ?_
          refine g_inc3 dX2_fitsAll_132 (by decide) rfl ?_
          refine g_goto (tgt := 19) dX2_fitsAll_135 (by decide) ?_
          rw [show ff_ r s w k (iI_ (ff_ r s w) (r (108 + 4 * w), 0, 1) k) = _ from if_pos (by omega)] at hs
          refine ih _ _ _ _ _ (by omega) ((hM.pi ⟨by omega, by omega⟩).pi ⟨by omega, by omega⟩) ((hF.pi (a := m) (k := 33) (by unfold ms_; omega)).pi (a := m) (k := 34) (by unfold ms_; omega)) (by omega) (by omega) (by rw [hs]; dsimp only; rw [if_neg (fun q => by omega)]) (by rw [hs]; simp [iv_pi]) (by rw [hs]; simp [iv_pi])
        refine g_iconst dX2_fitsAll_114 ?_
        refine g_goto (tgt := 119) dX2_fitsAll_115 (by decide) ?_
        refine g_is2 dX2_fitsAll_119 (by decide) rfl ?_
        refine g_al0 dX2_fitsAll_120 ?_
        refine g_il4 dX2_fitsAll_121 ?_
        refine f_putI 33 fk_X2_392 rfl (nf_ rfl rfl) hM.sh hM.ge rfl dX2_fitsAll_123 ?_
        refine g_al0 dX2_fitsAll_126 ?_
        refine g_il5 dX2_fitsAll_127 ?_
        refine f_putI 34 fk_X2_395 rfl (nf_ rfl rfl) hM.sh hM.ge rfl dX2_fitsAll_129 ?_
        refine g_inc3 dX2_fitsAll_132 (by decide) rfl ?_
        refine g_goto (tgt := 19) dX2_fitsAll_135 (by decide) ?_
        rw [show ff_ r s w k (iI_ (ff_ r s w) (r (108 + 4 * w), 0, 1) k) = _ from if_pos (by omega)] at hs
        refine ih _ _ _ _ _ (by omega) ((hM.pi ⟨by omega, by omega⟩).pi ⟨by omega, by omega⟩) ((hF.pi (a := m) (k := 33) (by unfold ms_; omega)).pi (a := m) (k := 34) (by unfold ms_; omega)) (by omega) (by omega) (by rw [hs]; dsimp only; rw [if_pos ⟨by omega, by omega, by omega⟩]) (by rw [hs]; simp [iv_pi]) (by rw [hs]; simp [iv_pi])
      refine g_goto (tgt := 132) dX2_fitsAll_46 (by decide) ?_
      refine g_inc3 dX2_fitsAll_132 (by decide) rfl ?_
      refine g_goto (tgt := 19) dX2_fitsAll_135 (by decide) ?_
      rw [show ff_ r s w k (iI_ (ff_ r s w) (r (108 + 4 * w), 0, 1) k) = _ from if_neg (by omega)] at hs
      exact ih _ _ _ _ _ (by omega) hM hF (by omega) (by omega) (by rw [hs]; exact hz) (by rw [hs]; exact ha) (by rw [hs]; exact hd)
  refine g_al0 dX2_fitsAll_0 ?_
  refine g_al0 dX2_fitsAll_1 ?_
  refine g_il1 dX2_fitsAll_2 ?_
  refine g_iconst dX2_fitsAll_3 ?_
  refine g_callV2I (d' := 2) lk_X2_271 hM.sh rfl (rm_lt (by decide) (by decide)) (Nat.le_of_ble_eq_true rfl) dX2_fitsAll_4 ?_
  refine mo_ofWhale hM (by omega) (by omega) ?_
  rw [show 107 + 4 * w + 1 = 108 + 4 * w by omega]
  refine f_putI 33 fk_X2_392 rfl (nf_ rfl rfl) hM.sh hM.ge rfl dX2_fitsAll_7 ?_
  refine g_al0 dX2_fitsAll_10 ?_
  refine g_iconst dX2_fitsAll_11 ?_
  refine f_putI 34 fk_X2_395 rfl (nf_ rfl rfl) hM.sh hM.ge rfl dX2_fitsAll_12 ?_
  refine g_iconst dX2_fitsAll_15 ?_
  refine g_is2 dX2_fitsAll_16 (by decide) rfl ?_
  refine g_iconst dX2_fitsAll_17 ?_
  refine g_is3 dX2_fitsAll_18 (by decide) rfl ?_
  exact L19 ((r 8).toNat + 1) _ _ _ _ _ (by omega) ((hM.pi ⟨by omega, by omega⟩).pi ⟨by omega, by omega⟩) ((Fr_.rf.pi (a := m) (k := 33) (by unfold ms_; omega)).pi (a := m) (k := 34) (by unfold ms_; omega)) (by omega) (by omega) rfl (by simp [iv_pi]; rfl) (by simp [iv_pi]; rfl)
theorem mo_fits {p : Int} {Q : Int → JH → Prop} (hM : MD_ G m σ r s) (hp : iv_ σ m 14 = p) (hP : MP_ p r s) 
    (hQ : ∀ (x t : Int) (σ' : JH), qFits_ p r s = (x, t) → MD_ G m σ' r s → ME_ m σ σ' t → Q x σ') : CallI_ G 9 yX2_fits cX2_fits 3 (some .int) [A_ (some m)] σ Q := by
  refine call_go [some (A_ (some m)), none, none] (by decide) (Nat.le_of_ble_eq_true rfl) rfl ?_
  have hp01 := hP.b
  refine g_al0 dX2_fits_0 ?_
  refine g_callV0V (d' := 2) lk_X2_167 hM.sh rfl (rm_lt (by decide) (by decide)) (Nat.le_of_ble_eq_true rfl) dX2_fits_1 ?_
  refine mo_good hM (fun σ1 hM hE => ?_)
  have hp := hE.p14.trans hp
  refine g_al0 dX2_fits_4 ?_
  refine f_getv 14 fk_X2_180 rfl hM.sh (fun _ _ => rfl) hp dX2_fits_5 ?_
  refine g_if_ne (tgt := 17) dX2_fits_8 (by decide) (by omega) (fun h8 => ?_) (fun h8 => ?_)
  · obtain ⟨hW, hD⟩ := hP.get (by omega)
    have hn := hW.n
    have L21 : ∀ (n : Nat) (σ' : JH) (a : Int) (w : Int), r 6 - w < (n : Int) → (MD_ G m σ' r s) → (ME_ m σ σ' 0) → (0 ≤ w) → (w ≤ r 6) → (a = iI_ (fun w a => ior_ a (if (fa_ r s w).2.2 = 1 then ishl_ 1 w else 0)) 0 w) → GoM_ G 9 yX2_fits cX2_fits 3 (some .int) σ (fun v σ' => ∃ x : Int, v = some (I_ x) ∧ Q x σ') 21 [some (A_ (some m)), some (I_ a), some (I_ w)] [] σ' := by
      intro n
      induction n with
      | zero => intro σ' a w hn hM hE h0 h1 hv; exact absurd hn (by omega)
      | succ n ih =>
        intro σ' a w hn hM hE h0 h1 hv
        refine g_il2 dX2_fits_21 ?_
        refine g_al0 dX2_fits_22 ?_
        refine f_getA 15 fk_X2_20 rfl hM.sh (fun _ _ => rfl) hM.f15 dX2_fits_23 ?_
        refine g_bipush dX2_fits_26 (by decide) (by decide) ?_
        refine g_ialv hM.a15 (by omega) (hM.rr _) dX2_fits_28 ?_
        refine g_icmp_ge (tgt := 56) dX2_fits_29 (by decide) (by omega) (fun h29 => ?_) (fun h29 => ?_)
        · refine g_il1 dX2_fits_56 ?_
          exact g_iret rfl dX2_fits_57 ⟨_, rfl, hQ _ _ _ (by unfold qFits_; rw [if_pos (by omega), hv, show r 6 = w by omega]) hM hE⟩
        refine g_il1 dX2_fits_32 ?_
        refine g_al0 dX2_fits_33 ?_
        refine g_il2 dX2_fits_34 ?_
        refine g_callV1I (d' := 8) lk_X2_398 hM.sh rfl (rm_lt (by decide) (by decide)) (Nat.le_of_ble_eq_true rfl) dX2_fits_35 ?_
        refine mo_fitsAll hM hW (by omega) (fun z σ3 hM hF3 hz ha3 hd3 => ?_)
        have hE := hE.fr hF3
        have hfa := fa_in (s := s) hW (w := w) (by omega)
        refine g_if_eq (tgt := 47) dX2_fits_38 (by decide) (by omega) (fun h38 => ?_) (fun h38 => ?_)
        · refine g_iconst dX2_fits_47 ?_
          refine g_ior dX2_fits_48 ?_
          refine g_is1 dX2_fits_49 (by decide) rfl ?_
          refine g_inc2 dX2_fits_50 (by decide) rfl ?_
          refine g_goto (tgt := 21) dX2_fits_53 (by decide) ?_
          refine ih _ _ _ (by omega) hM hE (by omega) (by omega) ?_
          rw [iI_s _ _ h0, ← hv]
          rw [if_neg (by omega)]
        refine g_iconst dX2_fits_41 ?_
        refine g_il2 dX2_fits_42 ?_
        refine g_ishl dX2_fits_43 ?_
        refine g_goto (tgt := 48) dX2_fits_44 (by decide) ?_
        refine g_ior dX2_fits_48 ?_
        refine g_is1 dX2_fits_49 (by decide) rfl ?_
        refine g_inc2 dX2_fits_50 (by decide) rfl ?_
        refine g_goto (tgt := 21) dX2_fits_53 (by decide) ?_
        refine ih _ _ _ (by omega) hM hE (by omega) (by omega) ?_
        rw [iI_s _ _ h0, ← hv]
        rw [if_pos (by omega)]
    refine g_iconst dX2_fits_17 ?_
    refine g_is1 dX2_fits_18 (by decide) rfl ?_
    refine g_iconst dX2_fits_19 ?_
    refine g_is2 dX2_fits_20 (by decide) rfl ?_
    exact L21 ((r 6).toNat + 1) _ _ _ (by omega) hM hE (by omega) (by omega) rfl
  refine g_al0 dX2_fits_11 ?_
  refine g_iconst dX2_fits_12 ?_
  refine g_callV1I (d' := 2) lk_X2_170 hM.sh rfl (rm_lt (by decide) (by decide)) (Nat.le_of_ble_eq_true rfl) dX2_fits_13 ?_
  refine mo_no hM hE (fun σ2 hM hE => ?_)
  exact g_iret rfl dX2_fits_16 ⟨_, rfl, hQ _ _ _ (by unfold qFits_; rw [if_neg (by omega)]) hM hE⟩
theorem mo_reachOf {w d : Int} {Q : Int → JH → Prop} (hM : MD_ G m σ r s) (hW : RW_ r) (hw : 0 ≤ w ∧ w < r 6) (hd : 0 ≤ d ∧ d ≤ 99999)
    (hQ : ∀ σ', MD_ G m σ' r s → Fr_ (ms_ m) σ σ' → Q (rc_ r s w d) σ') : CallI_ G 9 yX2_reachOf cX2_reachOf 5 (some .int) [A_ (some m), I_ w, I_ d] σ Q := by
  refine call_go [some (A_ (some m)), some (I_ w), some (I_ d), none, none] (by decide) (Nat.le_of_ble_eq_true rfl) rfl ?_
  have hn := hW.n
  have hwh := hW.whale hw.1 hw.2
  refine g_al0 dX2_reachOf_0 ?_
  refine g_il1 dX2_reachOf_1 ?_
  refine g_callV1I (d' := 8) lk_X2_398 hM.sh rfl (rm_lt (by decide) (by decide)) (Nat.le_of_ble_eq_true rfl) dX2_reachOf_2 ?_
  refine mo_fitsAll hM hW hw (fun z σ3 hM hF hz ha3 hd3 => ?_)
  have hfa := fa_in (s := s) hW hw
  refine g_pop dX2_reachOf_5 rfl ?_
  refine g_al0 dX2_reachOf_6 ?_
  refine g_al0 dX2_reachOf_7 ?_
  refine g_il1 dX2_reachOf_8 ?_
  refine g_iconst dX2_reachOf_9 ?_
  refine g_callV2I (d' := 2) lk_X2_271 hM.sh rfl (rm_lt (by decide) (by decide)) (Nat.le_of_ble_eq_true rfl) dX2_reachOf_10 ?_
  refine mo_ofWhale hM (by omega) (by omega) ?_
  rw [show 107 + 4 * w + 0 = 107 + 4 * w by omega]
  refine g_al0 dX2_reachOf_13 ?_
  refine f_getv 33 fk_X2_392 rfl hM.sh (fun _ _ => rfl) ha3 dX2_reachOf_14 ?_
  refine g_al0 dX2_reachOf_17 ?_
  refine f_getv 34 fk_X2_395 rfl hM.sh (fun _ _ => rfl) hd3 dX2_reachOf_18 ?_
  refine g_callV3V (d' := 6) lk_X2_349 hM.sh rfl (rm_lt (by decide) (by decide)) (Nat.le_of_ble_eq_true rfl) dX2_reachOf_21 ?_
  refine mo_layDays hM hW (by omega) (by omega) (by omega) (fun σ4 hM hF4 hX => ?_)
  have L29 : ∀ (n : Nat) (a : Int) (i : Int), r 4 - i < (n : Int) → (0 ≤ i) → (i ≤ r 4) → (a = iI_ (fun i a => ior_ a (if er_ r s (r (107 + 4 * w)) (fa_ r s w).1 (fa_ r s w).2.1 i ≤ d then ishl_ 1 i else 0)) 0 i) → GoM_ G 9 yX2_reachOf cX2_reachOf 5 (some .int) σ (fun v σ' => ∃ x : Int, v = some (I_ x) ∧ Q x σ') 29 [some (A_ (some m)), some (I_ w), some (I_ d), some (I_ a), some (I_ i)] [] σ4 := by
    intro n
    induction n with
    | zero => intro a i hn h0 h1 hv; exact absurd hn (by omega)
    | succ n ih =>
      intro a i hn h0 h1 hv
      refine g_il4 dX2_reachOf_29 ?_
      refine g_al0 dX2_reachOf_31 ?_
      refine f_getA 15 fk_X2_20 rfl hM.sh (fun _ _ => rfl) hM.f15 dX2_reachOf_32 ?_
      refine g_iconst dX2_reachOf_35 ?_
      refine g_ialv hM.a15 (by omega) (hM.rr _) dX2_reachOf_36 ?_
      refine g_icmp_ge (tgt := 68) dX2_reachOf_37 (by decide) (by omega) (fun h37 => ?_) (fun h37 => ?_)
      · refine g_il3 dX2_reachOf_68 ?_
        exact g_iret rfl dX2_reachOf_69 ⟨_, rfl, by have q := hQ _ hM (hF.tr hF4.ms); unfold rc_ at q; rw [show r 4 = i by omega, ← hv] at q; exact q⟩
      refine g_il3 dX2_reachOf_40 ?_
      refine g_al0 dX2_reachOf_41 ?_
      refine f_getA 24 fk_X2_38 rfl hM.sh (fun _ _ => rfl) hM.f24 dX2_reachOf_42 ?_
      refine g_il4 dX2_reachOf_45 ?_
      refine g_ialv hM.a24 (by omega) (hX i (by omega) (by omega)) dX2_reachOf_47 ?_
      refine g_il2 dX2_reachOf_48 ?_
      have her := er_in (s := s) hW (r (107 + 4 * w)) (fa_ r s w).1 (dy := (fa_ r s w).2.1) (by omega) i
      refine g_icmp_gt (tgt := 59) dX2_reachOf_49 (by decide) (by omega) (fun h49 => ?_) (fun h49 => ?_)
      · refine g_iconst dX2_reachOf_59 ?_
        refine g_ior dX2_reachOf_60 ?_
        refine g_is3 dX2_reachOf_61 (by decide) rfl ?_
        refine g_inc4 dX2_reachOf_62 (by decide) rfl ?_
        refine g_goto (tgt := 29) dX2_reachOf_65 (by decide) ?_
        refine ih _ _ (by omega) (by omega) (by omega) ?_
        rw [iI_s _ _ h0, ← hv]
        rw [if_neg (by omega)]
      refine g_iconst dX2_reachOf_52 ?_
      refine g_il4 dX2_reachOf_53 ?_
      refine g_ishl dX2_reachOf_55 ?_
      refine g_goto (tgt := 60) dX2_reachOf_56 (by decide) ?_
      refine g_ior dX2_reachOf_60 ?_
      refine g_is3 dX2_reachOf_61 (by decide) rfl ?_
      refine g_inc4 dX2_reachOf_62 (by decide) rfl ?_
      refine g_goto (tgt := 29) dX2_reachOf_65 (by decide) ?_
      refine ih _ _ (by omega) (by omega) (by omega) ?_
      rw [iI_s _ _ h0, ← hv]
      rw [if_pos (by omega)]
  refine g_iconst dX2_reachOf_24 ?_
  refine g_is3 dX2_reachOf_25 (by decide) rfl ?_
  refine g_iconst dX2_reachOf_26 ?_
  refine g_is4 dX2_reachOf_27 (by decide) rfl ?_
  exact L29 ((r 4).toNat + 1) _ _ (by omega) (by omega) (by omega) rfl
theorem mo_reach {p : Int} {w d : Int} {Q : Int → JH → Prop} (hM : MD_ G m σ r s) (hp : iv_ σ m 14 = p) (hP : MP_ p r s) (hw : -2147483648 ≤ w ∧ w < 2147483648) (hd : -2147483648 ≤ d ∧ d < 2147483648)
    (hQ : ∀ (x t : Int) (σ' : JH), qReach_ p r s w d = (x, t) → MD_ G m σ' r s → ME_ m σ σ' t → Q x σ') : CallI_ G 10 yX2_reach cX2_reach 3 (some .int) [A_ (some m), I_ w, I_ d] σ Q := by
  refine call_go [some (A_ (some m)), some (I_ w), some (I_ d)] (by decide) (Nat.le_of_ble_eq_true rfl) rfl ?_
  have hp01 := hP.b
  refine g_al0 dX2_reach_0 ?_
  refine g_callV0V (d' := 2) lk_X2_167 hM.sh rfl (rm_lt (by decide) (by decide)) (Nat.le_of_ble_eq_true rfl) dX2_reach_1 ?_
  refine mo_good hM (fun σ1 hM hE => ?_)
  have hp := hE.p14.trans hp
  refine g_al0 dX2_reach_4 ?_
  refine g_il1 dX2_reach_5 ?_
  refine g_callV1I (d' := 3) lk_X2_268 hM.sh rfl (rm_lt (by decide) (by decide)) (Nat.le_of_ble_eq_true rfl) dX2_reach_6 ?_
  refine mo_isWhale hM hp hP.rw (by omega) (fun x6 hx6 => ?_)
  unfold isW_ at hx6
  refine g_if_ne (tgt := 18) dX2_reach_9 (by decide) (by omega) (fun h9 => ?_) (fun h9 => ?_)
  · refine g_il2 dX2_reach_18 ?_
    refine g_iconst dX2_reach_19 ?_
    refine g_ldcw (x := 99999) q2106 dX2_reach_20 (by decide) ?_
    refine g_callS3I (d' := 2) lk_X2_149 (rm_lt (by decide) (by decide)) (Nat.le_of_ble_eq_true rfl) dX2_reach_23 ?_
    refine mo_in (by omega) (by omega) (by omega) (fun x23 hx23 => ?_)
    refine g_if_eq (tgt := 38) dX2_reach_26 (by decide) (by omega) (fun h26 => ?_) (fun h26 => ?_)
    · refine g_al0 dX2_reach_38 ?_
      refine g_iconst dX2_reach_39 ?_
      refine g_callV1I (d' := 2) lk_X2_170 hM.sh rfl (rm_lt (by decide) (by decide)) (Nat.le_of_ble_eq_true rfl) dX2_reach_40 ?_
      refine mo_no hM hE (fun σ2 hM hE => ?_)
      exact g_iret rfl dX2_reach_43 ⟨_, rfl, hQ _ _ _ (by unfold qReach_; rw [if_pos (by omega), if_neg (by omega)]) hM hE⟩
    refine g_al0 dX2_reach_29 ?_
    refine g_il1 dX2_reach_30 ?_
    refine g_il2 dX2_reach_31 ?_
    refine g_callV2I (d' := 9) lk_X2_401 hM.sh rfl (rm_lt (by decide) (by decide)) (Nat.le_of_ble_eq_true rfl) dX2_reach_32 ?_
    obtain ⟨hW, hD⟩ := hP.get (by omega)
    have hn := hW.n
    refine mo_reachOf hM hW (by omega) (by omega) (fun σ2 hM hF => ?_)
    have hE := hE.fr hF
    refine g_goto (tgt := 43) dX2_reach_35 (by decide) ?_
    exact g_iret rfl dX2_reach_43 ⟨_, rfl, hQ _ _ _ (by unfold qReach_; rw [if_pos (by omega), if_pos (by omega)]) hM hE⟩
  refine g_al0 dX2_reach_12 ?_
  refine g_iconst dX2_reach_13 ?_
  refine g_callV1I (d' := 2) lk_X2_170 hM.sh rfl (rm_lt (by decide) (by decide)) (Nat.le_of_ble_eq_true rfl) dX2_reach_14 ?_
  refine mo_no hM hE (fun σ2 hM hE => ?_)
  exact g_iret rfl dX2_reach_17 ⟨_, rfl, hQ _ _ _ (by unfold qReach_; rw [if_neg (by omega)]) hM hE⟩
theorem mo_pier {p : Int} {d : Int} {Q : Int → JH → Prop} (hM : MD_ G m σ r s) (hp : iv_ σ m 14 = p) (hP : MP_ p r s) (hd : -2147483648 ≤ d ∧ d < 2147483648)
    (hQ : ∀ (x t : Int) (σ' : JH), qPier_ p r s d = (x, t) → MD_ G m σ' r s → ME_ m σ σ' t → Q x σ') : CallI_ G 10 yX2_pier cX2_pier 8 (some .int) [A_ (some m), I_ d] σ Q := by
  refine call_go [some (A_ (some m)), some (I_ d), none, none, none, none, none, none] (by decide) (Nat.le_of_ble_eq_true rfl) rfl ?_
  have hp01 := hP.b
  refine g_al0 dX2_pier_0 ?_
  refine g_callV0V (d' := 2) lk_X2_167 hM.sh rfl (rm_lt (by decide) (by decide)) (Nat.le_of_ble_eq_true rfl) dX2_pier_1 ?_
  refine mo_good hM (fun σ1 hM hE => ?_)
  have hp := hE.p14.trans hp
  refine g_al0 dX2_pier_4 ?_
  refine f_getv 14 fk_X2_180 rfl hM.sh (fun _ _ => rfl) hp dX2_pier_5 ?_
  refine g_if_ne (tgt := 17) dX2_pier_8 (by decide) (by omega) (fun h8 => ?_) (fun h8 => ?_)
  · refine g_il1 dX2_pier_17 ?_
    refine g_iconst dX2_pier_18 ?_
    refine g_ldcw (x := 99999) q2106 dX2_pier_19 (by decide) ?_
    refine g_callS3I (d' := 2) lk_X2_149 (rm_lt (by decide) (by decide)) (Nat.le_of_ble_eq_true rfl) dX2_pier_22 ?_
    refine mo_in (by omega) (by omega) (by omega) (fun x22 hx22 => ?_)
    refine g_if_ne (tgt := 34) dX2_pier_25 (by decide) (by omega) (fun h25 => ?_) (fun h25 => ?_)
    · obtain ⟨hW, hD⟩ := hP.get (by omega)
      have hn := hW.n
      have L43 : ∀ (n : Nat) (σ' : JH) (bs : Int) (ls : Int) (i : Int) (v5 : Option AV) (v6 : Option AV) (v7 : Option AV), r 4 - i < (n : Int) → (MD_ G m σ' r s) → (ME_ m σ σ' 0) → (0 ≤ i) → (i ≤ r 4) → (0 ≤ ls ∧ ls ≤ 1000000) → ((bs, ls) = iI_ (pf_ r s d) (-1, 1000000) i) → GoM_ G 10 yX2_pier cX2_pier 8 (some .int) σ (fun v σ' => ∃ x : Int, v = some (I_ x) ∧ Q x σ') 43 [some (A_ (some m)), some (I_ d), some (I_ bs), some (I_ ls), some (I_ i), v5, v6, v7] [] σ' := by
        intro n
        induction n with
        | zero => intro σ' bs ls i v5 v6 v7 hn hM hE h0 h1 hls hv; exact absurd hn (by omega)
        | succ n ih =>
          intro σ' bs ls i v5 v6 v7 hn hM hE h0 h1 hls hv
          refine g_il4 dX2_pier_43 ?_
          refine g_al0 dX2_pier_45 ?_
          refine f_getA 15 fk_X2_20 rfl hM.sh (fun _ _ => rfl) hM.f15 dX2_pier_46 ?_
          refine g_iconst dX2_pier_49 ?_
          refine g_ialv hM.a15 (by omega) (hM.rr _) dX2_pier_50 ?_
          refine g_icmp_ge (tgt := 170) dX2_pier_51 (by decide) (by omega) (fun h51 => ?_) (fun h51 => ?_)
          · refine g_il2 dX2_pier_170 ?_
            exact g_iret rfl dX2_pier_171 ⟨_, rfl, hQ _ _ _ (by unfold qPier_; rw [if_pos (by omega), if_pos (by omega), show r 4 = i by omega, ← hv]) hM hE⟩
          have J164 : ∀ (σ'' : JH) (bs ls : Int) (v5 v6 v7 : Option AV), MD_ G m σ'' r s → ME_ m σ σ'' 0 → (0 ≤ ls ∧ ls ≤ 1000000) → (bs, ls) = iI_ (pf_ r s d) (-1, 1000000) (i + 1) → GoM_ G 10 yX2_pier cX2_pier 8 (some .int) σ (fun v σ' => ∃ x : Int, v = some (I_ x) ∧ Q x σ') 164 [some (A_ (some m)), some (I_ d), some (I_ bs), some (I_ ls), some (I_ i), v5, v6, v7] [] σ'' := by
            intro σ'' bs ls v5 v6 v7 hM hE hls hv
            refine g_inc4 dX2_pier_164 (by decide) rfl ?_
            refine g_goto (tgt := 43) dX2_pier_167 (by decide) ?_
            exact ih _ _ _ _ _ _ _ (by omega) hM hE (by omega) (by omega) hls hv
          have L63 : ∀ (n : Nat) (σ'' : JH) (c : Int) (al : Int) (w : Int), r 6 - w < (n : Int) → (MD_ G m σ'' r s) → (ME_ m σ σ'' 0) → (0 ≤ w) → (w ≤ r 6) → (0 ≤ al ∧ al ≤ w) → (0 ≤ c ∧ c ≤ w) → (c = sI_ (fun w => if (fa_ r s w).2.2 = 1 ∧ hb_ (rc_ r s w d) i then 1 else 0) w) → (al = sI_ (fun w => if (fa_ r s w).2.2 = 1 then 1 else 0) w) → GoM_ G 10 yX2_pier cX2_pier 8 (some .int) σ (fun v σ' => ∃ x : Int, v = some (I_ x) ∧ Q x σ') 63 [some (A_ (some m)), some (I_ d), some (I_ bs), some (I_ ls), some (I_ i), some (I_ c), some (I_ al), some (I_ w)] [] σ'' := by
            intro n2
            induction n2 with
            | zero => intro σ'' c al w hn hM hE g0 g1 ga gb gc gal; exact absurd hn (by omega)
            | succ n2 ih2 =>
              intro σ'' c al w hn hM hE g0 g1 ga gb gc gal
              refine g_il7 dX2_pier_63 ?_
              refine g_al0 dX2_pier_65 ?_
              refine f_getA 15 fk_X2_20 rfl hM.sh (fun _ _ => rfl) hM.f15 dX2_pier_66 ?_
              refine g_bipush dX2_pier_69 (by decide) (by decide) ?_
              refine g_ialv hM.a15 (by omega) (hM.rr _) dX2_pier_71 ?_
              refine g_icmp_ge (tgt := 121) dX2_pier_72 (by decide) (by omega) (fun h72 => ?_) (fun h72 => ?_)
              · refine g_iconst dX2_pier_121 ?_
                refine g_il5 dX2_pier_122 ?_
                refine g_imul dX2_pier_124 ?_
                refine g_il6 dX2_pier_125 ?_
                refine g_icmp_le (tgt := 140) dX2_pier_127 (by decide) (by omega) (fun h127 => ?_) (fun h127 => ?_)
                · refine g_il6 dX2_pier_140 ?_
                  refine g_iconst dX2_pier_142 ?_
                  refine g_il5 dX2_pier_143 ?_
                  refine g_imul dX2_pier_145 ?_
                  refine g_isub dX2_pier_146 ?_
                  refine g_top (show _ = po_ r s d i by rw [show w = r 6 by omega] at gc gal; unfold po_; rw [show pa_ r s = al from gal.symm, show pc_ r s d i = c from gc.symm]; rw [if_neg (by omega)]) ?_
                  have hpo : 0 ≤ po_ r s d i ∧ po_ r s d i ≤ 20 := by rw [show w = r 6 by omega] at gc gal; unfold po_; rw [show pa_ r s = al from gal.symm, show pc_ r s d i = c from gc.symm]; split <;> omega
                  refine g_is7 dX2_pier_147 (by decide) rfl ?_
                  skip
                  refine g_il7 dX2_pier_149 ?_
                  refine g_il3 dX2_pier_151 ?_
                  refine g_icmp_lt (tgt := 158) dX2_pier_152 (by decide) (by omega) (fun h152 => ?_) (fun h152 => ?_)
                  · refine g_il4 dX2_pier_158 ?_
                    refine g_is2 dX2_pier_160 (by decide) rfl ?_
                    refine g_il7 dX2_pier_161 ?_
                    refine g_is3 dX2_pier_163 (by decide) rfl ?_
                    exact J164 _ _ _ _ _ _ hM hE (by omega) (by rw [show iI_ (pf_ r s d) (-1, 1000000) (i + 1) = pf_ r s d i (iI_ (pf_ r s d) (-1, 1000000) i) from iI_s _ _ h0, ← hv]; unfold pf_; dsimp only; rw [if_pos (by omega)])
                  refine g_goto (tgt := 164) dX2_pier_155 (by decide) ?_
                  exact J164 _ _ _ _ _ _ hM hE (by omega) (by rw [show iI_ (pf_ r s d) (-1, 1000000) (i + 1) = pf_ r s d i (iI_ (pf_ r s d) (-1, 1000000) i) from iI_s _ _ h0, ← hv]; unfold pf_; dsimp only; rw [if_neg (by omega)])
                refine g_iconst dX2_pier_130 ?_
                refine g_il5 dX2_pier_131 ?_
                refine g_imul dX2_pier_133 ?_
                refine g_il6 dX2_pier_134 ?_
                refine g_isub dX2_pier_136 ?_
                refine g_goto (tgt := 147) dX2_pier_137 (by decide) ?_
                refine g_top (show _ = po_ r s d i by rw [show w = r 6 by omega] at gc gal; unfold po_; rw [show pa_ r s = al from gal.symm, show pc_ r s d i = c from gc.symm]; rw [if_pos (by omega)]) ?_
                have hpo : 0 ≤ po_ r s d i ∧ po_ r s d i ≤ 20 := by rw [show w = r 6 by omega] at gc gal; unfold po_; rw [show pa_ r s = al from gal.symm, show pc_ r s d i = c from gc.symm]; split <;> omega
                refine g_is7 dX2_pier_147 (by decide) rfl ?_
                skip
                refine g_il7 dX2_pier_149 ?_
                refine g_il3 dX2_pier_151 ?_
                refine g_icmp_lt (tgt := 158) dX2_pier_152 (by decide) (by omega) (fun h152 => ?_) (fun h152 => ?_)
                · refine g_il4 dX2_pier_158 ?_
                  refine g_is2 dX2_pier_160 (by decide) rfl ?_
                  refine g_il7 dX2_pier_161 ?_
                  refine g_is3 dX2_pier_163 (by decide) rfl ?_
                  exact J164 _ _ _ _ _ _ hM hE (by omega) (by rw [show iI_ (pf_ r s d) (-1, 1000000) (i + 1) = pf_ r s d i (iI_ (pf_ r s d) (-1, 1000000) i) from iI_s _ _ h0, ← hv]; unfold pf_; dsimp only; rw [if_pos (by omega)])
                refine g_goto (tgt := 164) dX2_pier_155 (by decide) ?_
                exact J164 _ _ _ _ _ _ hM hE (by omega) (by rw [show iI_ (pf_ r s d) (-1, 1000000) (i + 1) = pf_ r s d i (iI_ (pf_ r s d) (-1, 1000000) i) from iI_s _ _ h0, ← hv]; unfold pf_; dsimp only; rw [if_neg (by omega)])
              refine g_al0 dX2_pier_75 ?_
              refine g_il7 dX2_pier_76 ?_
              refine g_callV1I (d' := 8) lk_X2_398 hM.sh rfl (rm_lt (by decide) (by decide)) (Nat.le_of_ble_eq_true rfl) dX2_pier_78 ?_
              refine mo_fitsAll hM hW (by omega) (fun z σ3 hM hF3 hz ha3 hd3 => ?_)
              replace hE := hE.fr hF3
              have hfa := fa_in (s := s) hW (w := w) (by omega)
              refine g_if_ne (tgt := 87) dX2_pier_81 (by decide) (by omega) (fun h81 => ?_) (fun h81 => ?_)
              · refine g_inc6 dX2_pier_87 (by decide) rfl ?_
                refine g_il5 dX2_pier_90 ?_
                refine g_al0 dX2_pier_92 ?_
                refine g_il7 dX2_pier_93 ?_
                refine g_il1 dX2_pier_95 ?_
                refine g_callV2I (d' := 9) lk_X2_401 hM.sh rfl (rm_lt (by decide) (by decide)) (Nat.le_of_ble_eq_true rfl) dX2_pier_96 ?_
                refine mo_reachOf hM hW (by omega) (by omega) (fun σ4 hM hF4 => ?_)
                replace hE := hE.fr hF4
                refine g_il4 dX2_pier_99 ?_
                refine g_callS2I (d' := 2) lk_X2_298 (rm_lt (by decide) (by decide)) (Nat.le_of_ble_eq_true rfl) dX2_pier_101 ?_
                refine mo_hasBit (fun y hy => ?_)
                refine g_if_eq (tgt := 111) dX2_pier_104 (by decide) (by omega) (fun h104 => ?_) (fun h104 => ?_)
                · refine g_iconst dX2_pier_111 ?_
                  refine g_iadd dX2_pier_112 ?_
                  refine g_is5 dX2_pier_113 (by decide) rfl ?_
                  refine g_inc7 dX2_pier_115 (by decide) rfl ?_
                  refine g_goto (tgt := 63) dX2_pier_118 (by decide) ?_
                  refine ih2 _ _ _ _ (by omega) hM hE (by omega) (by omega) (by omega) (by omega) ?_ ?_
                  · rw [sI_s _ g0, ← gc]; rw [if_neg (fun q => by have := q.2; omega)]
                  · rw [sI_s _ g0, ← gal]; rw [if_pos (by omega)]
                refine g_iconst dX2_pier_107 ?_
                refine g_goto (tgt := 112) dX2_pier_108 (by decide) ?_
                refine g_iadd dX2_pier_112 ?_
                refine g_is5 dX2_pier_113 (by decide) rfl ?_
                refine g_inc7 dX2_pier_115 (by decide) rfl ?_
                refine g_goto (tgt := 63) dX2_pier_118 (by decide) ?_
                refine ih2 _ _ _ _ (by omega) hM hE (by omega) (by omega) (by omega) (by omega) ?_ ?_
                · rw [sI_s _ g0, ← gc]; rw [if_pos ⟨by omega, by omega⟩]
                · rw [sI_s _ g0, ← gal]; rw [if_pos (by omega)]
              refine g_goto (tgt := 115) dX2_pier_84 (by decide) ?_
              refine g_inc7 dX2_pier_115 (by decide) rfl ?_
              refine g_goto (tgt := 63) dX2_pier_118 (by decide) ?_
              refine ih2 _ _ _ _ (by omega) hM hE (by omega) (by omega) (by omega) (by omega) ?_ ?_
              · rw [sI_s _ g0, ← gc]; rw [if_neg (fun q => by omega), Int.add_zero]
              · rw [sI_s _ g0, ← gal]; rw [if_neg (by omega), Int.add_zero]
          refine g_iconst dX2_pier_54 ?_
          refine g_is5 dX2_pier_55 (by decide) rfl ?_
          refine g_iconst dX2_pier_57 ?_
          refine g_is6 dX2_pier_58 (by decide) rfl ?_
          refine g_iconst dX2_pier_60 ?_
          refine g_is7 dX2_pier_61 (by decide) rfl ?_
          exact L63 ((r 6).toNat + 1) _ _ _ _ (by omega) hM hE (by omega) (by omega) (by omega) (by omega) rfl rfl
      refine g_iconst dX2_pier_34 ?_
      refine g_is2 dX2_pier_35 (by decide) rfl ?_
      refine g_ldcw (x := 1000000) q2130 dX2_pier_36 (by decide) ?_
      refine g_is3 dX2_pier_39 (by decide) rfl ?_
      refine g_iconst dX2_pier_40 ?_
      refine g_is4 dX2_pier_41 (by decide) rfl ?_
      exact L43 ((r 4).toNat + 1) _ _ _ _ _ _ _ (by omega) hM hE (by omega) (by omega) (by omega) rfl
    refine g_al0 dX2_pier_28 ?_
    refine g_iconst dX2_pier_29 ?_
    refine g_callV1I (d' := 2) lk_X2_170 hM.sh rfl (rm_lt (by decide) (by decide)) (Nat.le_of_ble_eq_true rfl) dX2_pier_30 ?_
    refine mo_no hM hE (fun σ2 hM hE => ?_)
    exact g_iret rfl dX2_pier_33 ⟨_, rfl, hQ _ _ _ (by unfold qPier_; rw [if_pos (by omega), if_neg (by omega)]) hM hE⟩
  refine g_al0 dX2_pier_11 ?_
  refine g_iconst dX2_pier_12 ?_
  refine g_callV1I (d' := 2) lk_X2_170 hM.sh rfl (rm_lt (by decide) (by decide)) (Nat.le_of_ble_eq_true rfl) dX2_pier_13 ?_
  refine mo_no hM hE (fun σ2 hM hE => ?_)
  exact g_iret rfl dX2_pier_16 ⟨_, rfl, hQ _ _ _ (by unfold qPier_; rw [if_neg (by omega)]) hM hE⟩
end
