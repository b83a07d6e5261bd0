/-! THE REFERENCE: whales on their ways. Written by mod/m39.py -/
set_option maxRecDepth 100000
/-- the days' scratch alone -/
def mz_ (m : Nat) (b : Nat) (_k : Int) : Prop := m + 9 ≤ b ∧ b ≤ m + 10
theorem Fr_.ms {m : Nat} {σ σ' : JH} (h : Fr_ (mz_ m) σ σ') : Fr_ (ms_ m) σ σ' := h.mono fun _ _ q => Or.inl ⟨by unfold mz_ at q; omega, by unfold mz_ at q; omega⟩
theorem Fr_.mf {m : Nat} {σ σ' : JH} (h : Fr_ (mz_ m) σ σ') (k : Int) : iv_ σ' m k = iv_ σ m k := h.2.2.2.2 m k (fun q => by unfold mz_ at q; omega)
section
variable {G : JG} {m : Nat} {σ : JH} {r s : Int → Int}
theorem mo_seasonOf {d : Int} {Q : Int → JH → Prop} (hd : 0 ≤ d ∧ d < 1000000000)
    (hQ : Q (d / 90 % 4) σ) : CallI_ G 2 yX2_seasonOf cX2_seasonOf 1 (some .int) [I_ d] σ Q := by
  refine call_go [some (I_ d)] (by decide) (Nat.le_of_ble_eq_true rfl) rfl ?_
  refine g_il0 dX2_seasonOf_0 ?_
  refine g_bipush dX2_seasonOf_1 (by decide) (by decide) ?_
  refine g_idiv dX2_seasonOf_3 (by omega) ?_
  refine g_iconst dX2_seasonOf_4 ?_
  refine g_irem dX2_seasonOf_5 (by omega) ?_
  exact g_iret rfl dX2_seasonOf_6 ⟨_, rfl, hQ⟩
theorem mo_setsOut {k kd d : Int} {Q : Int → JH → Prop} (hM : MD_ G m σ r s) (hW : RW_ r) (hk : 0 ≤ k ∧ k < r 5) (hkd : 0 ≤ kd ∧ kd ≤ 3) (hd : 0 ≤ d ∧ d < 10000000)
    (hQ : Q (ot_ r kd k d) σ) : CallI_ G 3 yX2_setsOut cX2_setsOut 5 (some .int) [A_ (some m), I_ k, I_ kd, I_ d] σ Q := by
  refine call_go [some (A_ (some m)), some (I_ k), some (I_ kd), some (I_ d), none] (by decide) (Nat.le_of_ble_eq_true rfl) rfl ?_
  have hn := hW.n
  have hw := hW.way hk.1 hk.2
  have hs := sd_spec (op := r (62 + 4 * k)) (d := d) (by omega) hd.1
  refine g_il3 dX2_setsOut_0 ?_
  refine g_is4 dX2_setsOut_1 (by decide) rfl ?_
  refine g_il2 dX2_setsOut_3 ?_
  refine g_iconst dX2_setsOut_4 ?_
  refine g_icmp_eq (tgt := 47) dX2_setsOut_5 (by decide) (by omega) (fun h5 => ?_) (fun h5 => ?_)
  · refine g_il4 dX2_setsOut_47 ?_
    exact g_iret rfl dX2_setsOut_49 ⟨_, rfl, by unfold ot_ at hQ; rw [if_pos (by omega)] at hQ; exact hQ⟩
  have L8 : ∀ (n : Nat) (x : Int), sd_ (r (62 + 4 * k)) d - x < (n : Int) → (0 ≤ x) → (x ≤ sd_ (r (62 + 4 * k)) d) → (sd_ (r (62 + 4 * k)) x = sd_ (r (62 + 4 * k)) d) → GoM_ G 3 yX2_setsOut cX2_setsOut 5 (some .int) σ (fun v σ' => ∃ x : Int, v = some (I_ x) ∧ Q x σ') 8 [some (A_ (some m)), some (I_ k), some (I_ kd), some (I_ d), some (I_ x)] [] σ := by
    intro n
    induction n with
    | zero => intro x hn h0 h1 hx; exact absurd hn (by omega)
    | succ n ih =>
      intro x hn h0 h1 hx
      refine g_al0 dX2_setsOut_8 ?_
      refine f_getA 15 fk_X2_20 rfl hM.sh (fun _ _ => rfl) hM.f15 dX2_setsOut_9 ?_
      refine g_bipush dX2_setsOut_12 (by decide) (by decide) ?_
      refine g_iconst dX2_setsOut_14 ?_
      refine g_il1 dX2_setsOut_15 ?_
      refine g_imul dX2_setsOut_16 ?_
      refine g_iadd dX2_setsOut_17 ?_
      refine g_iconst dX2_setsOut_18 ?_
      refine g_iadd dX2_setsOut_19 ?_
      refine g_ialv hM.a15 (by omega) (hM.rrx (j := 62 + 4 * k) (by omega)) dX2_setsOut_20 ?_
      refine g_il4 dX2_setsOut_21 ?_
      refine g_callS1I (d' := 2) lk_X2_337 (rm_lt (by decide) (by decide)) (Nat.le_of_ble_eq_true rfl) dX2_setsOut_23 ?_
      refine mo_seasonOf (by omega) ?_
      refine g_callS2I (d' := 2) lk_X2_298 (rm_lt (by decide) (by decide)) (Nat.le_of_ble_eq_true rfl) dX2_setsOut_26 ?_
      refine mo_hasBit (fun z hz => ?_)
      refine g_if_ne (tgt := 47) dX2_setsOut_29 (by decide) (by omega) (fun h29 => ?_) (fun h29 => ?_)
      · refine g_il4 dX2_setsOut_47 ?_
        exact g_iret rfl dX2_setsOut_49 ⟨_, rfl, by unfold ot_ at hQ; rw [if_neg (by omega), ← hx, sd_one (by omega)] at hQ; exact hQ⟩
      refine g_bipush dX2_setsOut_32 (by decide) (by decide) ?_
      refine g_il4 dX2_setsOut_34 ?_
      refine g_bipush dX2_setsOut_36 (by decide) (by decide) ?_
      refine g_idiv dX2_setsOut_38 (by omega) ?_
      refine g_iconst dX2_setsOut_39 ?_
      refine g_iadd dX2_setsOut_40 ?_
      refine g_imul dX2_setsOut_41 ?_
      refine g_is4 dX2_setsOut_42 (by decide) rfl ?_
      refine g_goto (tgt := 8) dX2_setsOut_44 (by decide) ?_
      have hn1 := sd_next (op := r (62 + 4 * k)) (d := x) (by omega) h0 (by omega)
      have hs2 := sd_spec (op := r (62 + 4 * k)) (d := 90 * (x / 90 + 1)) (by omega) (by omega)
      exact ih _ (by omega) (by omega) (by omega) (by omega)
  exact L8 ((sd_ (r (62 + 4 * k)) d - d).toNat + 1) _ (by omega) hd.1 (by omega) rfl
theorem mo_dayBy {k kd d : Int} {Q : Int → JH → Prop} (hM : MD_ G m σ r s) (hW : RW_ r) (hk : 0 ≤ k ∧ k < r 5) (hkd : 0 ≤ kd ∧ kd ≤ 3) (hd : 0 ≤ d ∧ d < 10000000)
    (hQ : Q (db_ r kd k d) σ) : CallI_ G 4 yX2_dayBy cX2_dayBy 4 (some .int) [A_ (some m), I_ k, I_ kd, I_ d] σ Q := by
  refine call_go [some (A_ (some m)), some (I_ k), some (I_ kd), some (I_ d)] (by decide) (Nat.le_of_ble_eq_true rfl) rfl ?_
  have hn := hW.n
  refine g_al0 dX2_dayBy_0 ?_
  refine g_il1 dX2_dayBy_1 ?_
  refine g_il2 dX2_dayBy_2 ?_
  refine g_il3 dX2_dayBy_3 ?_
  refine g_callV3I (d' := 3) lk_X2_334 hM.sh rfl (rm_lt (by decide) (by decide)) (Nat.le_of_ble_eq_true rfl) dX2_dayBy_4 ?_
  refine mo_setsOut hM hW hk hkd hd ?_
  refine g_il2 dX2_dayBy_7 ?_
  refine g_iconst dX2_dayBy_8 ?_
  refine g_icmp_ne (tgt := 16) dX2_dayBy_9 (by decide) (by omega) (fun h9 => ?_) (fun h9 => ?_)
  · refine g_iconst dX2_dayBy_16 ?_
    refine g_al0 dX2_dayBy_17 ?_
    refine f_getA 15 fk_X2_20 rfl hM.sh (fun _ _ => rfl) hM.f15 dX2_dayBy_18 ?_
    refine g_bipush dX2_dayBy_21 (by decide) (by decide) ?_
    refine g_iconst dX2_dayBy_23 ?_
    refine g_il1 dX2_dayBy_24 ?_
    refine g_imul dX2_dayBy_25 ?_
    refine g_iadd dX2_dayBy_26 ?_
    refine g_iconst dX2_dayBy_27 ?_
    refine g_iadd dX2_dayBy_28 ?_
    refine g_ialv hM.a15 (by omega) (hM.rrx (j := 61 + 4 * k) (by omega)) dX2_dayBy_29 ?_
    refine g_imul dX2_dayBy_30 ?_
    refine g_iadd dX2_dayBy_31 ?_
    exact g_iret rfl dX2_dayBy_32 ⟨_, rfl, by unfold db_ at hQ; rw [if_neg (by omega)] at hQ; exact hQ⟩
  refine g_iconst dX2_dayBy_12 ?_
  refine g_goto (tgt := 17) dX2_dayBy_13 (by decide) ?_
  refine g_al0 dX2_dayBy_17 ?_
  refine f_getA 15 fk_X2_20 rfl hM.sh (fun _ _ => rfl) hM.f15 dX2_dayBy_18 ?_
  refine g_bipush dX2_dayBy_21 (by decide) (by decide) ?_
  refine g_iconst dX2_dayBy_23 ?_
  refine g_il1 dX2_dayBy_24 ?_
  refine g_imul dX2_dayBy_25 ?_
  refine g_iadd dX2_dayBy_26 ?_
  refine g_iconst dX2_dayBy_27 ?_
  refine g_iadd dX2_dayBy_28 ?_
  refine g_ialv hM.a15 (by omega) (hM.rrx (j := 61 + 4 * k) (by omega)) dX2_dayBy_29 ?_
  refine g_imul dX2_dayBy_30 ?_
  refine g_iadd dX2_dayBy_31 ?_
  exact g_iret rfl dX2_dayBy_32 ⟨_, rfl, by unfold db_ at hQ; rw [if_pos (by omega)] at hQ; exact hQ⟩
theorem mo_season {p : Int} {d : Int} {Q : Int → JH → Prop} (hM : MD_ G m σ r s) (hp : iv_ σ m 14 = p) (hP : MP_ p r s) (hd : -2147483648 ≤ d ∧ d < 2147483648)
    (hQ : ∀ (x t : Int) (σ' : JH), qSeason_ p d = (x, t) → MD_ G m σ' r s → ME_ m σ σ' t → Q x σ') : CallI_ G 3 yX2_season cX2_season 2 (some .int) [A_ (some m), I_ d] σ Q := by
  refine call_go [some (A_ (some m)), some (I_ d)] (by decide) (Nat.le_of_ble_eq_true rfl) rfl ?_
  have hp01 := hP.b
  refine g_al0 dX2_season_0 ?_
  refine g_callV0V (d' := 2) lk_X2_167 hM.sh rfl (rm_lt (by decide) (by decide)) (Nat.le_of_ble_eq_true rfl) dX2_season_1 ?_
  refine mo_good hM (fun σ1 hM hE => ?_)
  have hp := hE.p14.trans hp
  refine g_al0 dX2_season_4 ?_
  refine f_getv 14 fk_X2_180 rfl hM.sh (fun _ _ => rfl) hp dX2_season_5 ?_
  refine g_if_ne (tgt := 17) dX2_season_8 (by decide) (by omega) (fun h8 => ?_) (fun h8 => ?_)
  · refine g_il1 dX2_season_17 ?_
    refine g_iconst dX2_season_18 ?_
    refine g_ldcw (x := 99999) q2106 dX2_season_19 (by decide) ?_
    refine g_callS3I (d' := 2) lk_X2_149 (rm_lt (by decide) (by decide)) (Nat.le_of_ble_eq_true rfl) dX2_season_22 ?_
    refine mo_in (by omega) (by omega) (by omega) (fun x22 hx22 => ?_)
    refine g_if_eq (tgt := 35) dX2_season_25 (by decide) (by omega) (fun h25 => ?_) (fun h25 => ?_)
    · refine g_al0 dX2_season_35 ?_
      refine g_iconst dX2_season_36 ?_
      refine g_callV1I (d' := 2) lk_X2_170 hM.sh rfl (rm_lt (by decide) (by decide)) (Nat.le_of_ble_eq_true rfl) dX2_season_37 ?_
      refine mo_no hM hE (fun σ2 hM hE => ?_)
      exact g_iret rfl dX2_season_40 ⟨_, rfl, hQ _ _ _ (by unfold qSeason_; rw [if_pos (by omega), if_neg (by omega)]) hM hE⟩
    refine g_il1 dX2_season_28 ?_
    refine g_callS1I (d' := 2) lk_X2_337 (rm_lt (by decide) (by decide)) (Nat.le_of_ble_eq_true rfl) dX2_season_29 ?_
    refine mo_seasonOf (by omega) ?_
    refine g_goto (tgt := 40) dX2_season_32 (by decide) ?_
    exact g_iret rfl dX2_season_40 ⟨_, rfl, hQ _ _ _ (by unfold qSeason_; rw [if_pos (by omega), if_pos (by omega)]) hM hE⟩
  refine g_al0 dX2_season_11 ?_
  refine g_iconst dX2_season_12 ?_
  refine g_callV1I (d' := 2) lk_X2_170 hM.sh rfl (rm_lt (by decide) (by decide)) (Nat.le_of_ble_eq_true rfl) dX2_season_13 ?_
  refine mo_no hM hE (fun σ2 hM hE => ?_)
  exact g_iret rfl dX2_season_16 ⟨_, rfl, hQ _ _ _ (by unfold qSeason_; rw [if_neg (by omega)]) hM hE⟩
theorem mo_sets {p : Int} {w k d : Int} {Q : Int → JH → Prop} (hM : MD_ G m σ r s) (hp : iv_ σ m 14 = p) (hP : MP_ p r s) (hw : -2147483648 ≤ w ∧ w < 2147483648) (hk : -2147483648 ≤ k ∧ k < 2147483648) (hd : -2147483648 ≤ d ∧ d < 2147483648)
    (hQ : ∀ (x t : Int) (σ' : JH), qSets_ p r s w k d = (x, t) → MD_ G m σ' r s → ME_ m σ σ' t → Q x σ') : CallI_ G 4 yX2_sets cX2_sets 4 (some .int) [A_ (some m), I_ w, I_ k, I_ d] σ Q := by
  refine call_go [some (A_ (some m)), some (I_ w), some (I_ k), some (I_ d)] (by decide) (Nat.le_of_ble_eq_true rfl) rfl ?_
  have hp01 := hP.b
  refine g_al0 dX2_sets_0 ?_
  refine g_callV0V (d' := 2) lk_X2_167 hM.sh rfl (rm_lt (by decide) (by decide)) (Nat.le_of_ble_eq_true rfl) dX2_sets_1 ?_
  refine mo_good hM (fun σ1 hM hE => ?_)
  have hp := hE.p14.trans hp
  refine g_al0 dX2_sets_4 ?_
  refine g_il1 dX2_sets_5 ?_
  refine g_callV1I (d' := 3) lk_X2_268 hM.sh rfl (rm_lt (by decide) (by decide)) (Nat.le_of_ble_eq_true rfl) dX2_sets_6 ?_
  refine mo_isWhale hM hp hP.rw (by omega) (fun x6 hx6 => ?_)
  unfold isW_ at hx6
  refine g_if_eq (tgt := 28) dX2_sets_9 (by decide) (by omega) (fun h9 => ?_) (fun h9 => ?_)
  · refine g_al0 dX2_sets_28 ?_
    refine g_iconst dX2_sets_29 ?_
    refine g_callV1I (d' := 2) lk_X2_170 hM.sh rfl (rm_lt (by decide) (by decide)) (Nat.le_of_ble_eq_true rfl) dX2_sets_30 ?_
    refine mo_no hM hE (fun σ2 hM hE => ?_)
    exact g_iret rfl dX2_sets_33 ⟨_, rfl, hQ _ _ _ (by unfold qSets_; rw [if_neg (by omega)]) hM hE⟩
  obtain ⟨hW, hD⟩ := hP.get (by omega)
  have hn := hW.n
  refine g_il2 dX2_sets_12 ?_
  refine g_iconst dX2_sets_13 ?_
  refine g_al0 dX2_sets_14 ?_
  refine f_getA 15 fk_X2_20 rfl hM.sh (fun _ _ => rfl) hM.f15 dX2_sets_15 ?_
  refine g_iconst dX2_sets_18 ?_
  refine g_ialv hM.a15 (by omega) (hM.rr _) dX2_sets_19 ?_
  refine g_iconst dX2_sets_20 ?_
  refine g_isub dX2_sets_21 ?_
  refine g_callS3I (d' := 2) lk_X2_149 (rm_lt (by decide) (by decide)) (Nat.le_of_ble_eq_true rfl) dX2_sets_22 ?_
  refine mo_in (by omega) (by omega) (by omega) (fun x22 hx22 => ?_)
  refine g_if_ne (tgt := 34) dX2_sets_25 (by decide) (by omega) (fun h25 => ?_) (fun h25 => ?_)
  · refine g_il3 dX2_sets_34 ?_
    refine g_iconst dX2_sets_35 ?_
    refine g_sipush dX2_sets_36 (by decide) (by decide) ?_
    refine g_callS3I (d' := 2) lk_X2_149 (rm_lt (by decide) (by decide)) (Nat.le_of_ble_eq_true rfl) dX2_sets_39 ?_
    refine mo_in (by omega) (by omega) (by omega) (fun x39 hx39 => ?_)
    refine g_if_ne (tgt := 51) dX2_sets_42 (by decide) (by omega) (fun h42 => ?_) (fun h42 => ?_)
    · refine g_al0 dX2_sets_51 ?_
      refine g_il2 dX2_sets_52 ?_
      refine g_callV1I (d' := 3) lk_X2_302 hM.sh rfl (rm_lt (by decide) (by decide)) (Nat.le_of_ble_eq_true rfl) dX2_sets_53 ?_
      refine mo_isClosed hM (fun z hz => ?_)
      refine g_if_eq (tgt := 64) dX2_sets_56 (by decide) (by omega) (fun h56 => ?_) (fun h56 => ?_)
      · refine g_al0 dX2_sets_64 ?_
        refine g_il2 dX2_sets_65 ?_
        refine g_al0 dX2_sets_66 ?_
        refine g_il1 dX2_sets_67 ?_
        refine g_iconst dX2_sets_68 ?_
        refine g_callV2I (d' := 2) lk_X2_271 hM.sh rfl (rm_lt (by decide) (by decide)) (Nat.le_of_ble_eq_true rfl) dX2_sets_69 ?_
        have hwh := hW.whale (w := w) (by omega) (by omega)
        refine mo_ofWhale hM (by omega) (by omega) ?_
        rw [show 107 + 4 * w + 0 = 107 + 4 * w by omega]
        refine g_il3 dX2_sets_72 ?_
        refine g_callV3I (d' := 3) lk_X2_334 hM.sh rfl (rm_lt (by decide) (by decide)) (Nat.le_of_ble_eq_true rfl) dX2_sets_73 ?_
        refine mo_setsOut hM hW (by omega) (by omega) (by omega) ?_
        exact g_iret rfl dX2_sets_76 ⟨_, rfl, hQ _ _ _ (by unfold qSets_; rw [if_pos (by omega), if_pos (by omega), if_neg (by omega)]) hM hE⟩
      refine g_bipush dX2_sets_59 (by decide) (by decide) ?_
      refine g_goto (tgt := 76) dX2_sets_61 (by decide) ?_
      exact g_iret rfl dX2_sets_76 ⟨_, rfl, hQ _ _ _ (by unfold qSets_; rw [if_pos (by omega), if_pos (by omega), if_pos (by omega)]) hM hE⟩
    refine g_al0 dX2_sets_45 ?_
    refine g_iconst dX2_sets_46 ?_
    refine g_callV1I (d' := 2) lk_X2_170 hM.sh rfl (rm_lt (by decide) (by decide)) (Nat.le_of_ble_eq_true rfl) dX2_sets_47 ?_
    refine mo_no hM hE (fun σ2 hM hE => ?_)
    exact g_iret rfl dX2_sets_50 ⟨_, rfl, hQ _ _ _ (by unfold qSets_; rw [if_pos (by omega), if_neg (by omega)]) hM hE⟩
  refine g_al0 dX2_sets_28 ?_
  refine g_iconst dX2_sets_29 ?_
  refine g_callV1I (d' := 2) lk_X2_170 hM.sh rfl (rm_lt (by decide) (by decide)) (Nat.le_of_ble_eq_true rfl) dX2_sets_30 ?_
  refine mo_no hM hE (fun σ2 hM hE => ?_)
  exact g_iret rfl dX2_sets_33 ⟨_, rfl, hQ _ _ _ (by unfold qSets_; rw [if_neg (by omega)]) hM hE⟩
theorem mo_goesBy {k kd a : Int} {Q : JH → Prop} (hM : MD_ G m σ r s) (hW : RW_ r) (hk : 0 ≤ k ∧ k < r 5) (hkd : 0 ≤ kd ∧ kd ≤ 3) (ha : 0 ≤ a ∧ a < r 4) (hx : ∀ i, 0 ≤ i → i < 7 → 0 ≤ iv_ σ (m + 9) i ∧ iv_ σ (m + 9) i ≤ 1000000)
    (hQ : ∀ σ', MD_ G m σ' r s → Fr_ (mz_ m) σ σ' → (∀ i, iv_ σ' (m + 10) i = iv_ σ (m + 10) i) → (∀ j, 0 ≤ j → j < 7 → iv_ σ' (m + 9) j = gb_ r kd k a (iv_ σ (m + 9)) j) → Q σ') : CallV_ G 5 yX2_goesBy cX2_goesBy 8 none [A_ (some m), I_ k, I_ kd, I_ a] σ Q := by
  refine call_go [some (A_ (some m)), some (I_ k), some (I_ kd), some (I_ a), none, none, none, none] (by decide) (Nat.le_of_ble_eq_true rfl) rfl ?_
  have hn := hW.n
  have hw := hW.way hk.1 hk.2
  have hxa := hx a ha.1 (by omega)
  have hx1 := hx (r (59 + 4 * k)) (by omega) (by omega)
  have hx2 := hx (r (60 + 4 * k)) (by omega) (by omega)
  refine g_al0 dX2_goesBy_0 ?_
  refine f_getA 15 fk_X2_20 rfl hM.sh (fun _ _ => rfl) hM.f15 dX2_goesBy_1 ?_
  refine g_bipush dX2_goesBy_4 (by decide) (by decide) ?_
  refine g_iconst dX2_goesBy_6 ?_
  refine g_il1 dX2_goesBy_7 ?_
  refine g_imul dX2_goesBy_8 ?_
  refine g_iadd dX2_goesBy_9 ?_
  refine g_ialv hM.a15 (by omega) (hM.rr _) dX2_goesBy_10 ?_
  refine g_is4 dX2_goesBy_11 (by decide) rfl ?_
  refine g_al0 dX2_goesBy_13 ?_
  refine f_getA 15 fk_X2_20 rfl hM.sh (fun _ _ => rfl) hM.f15 dX2_goesBy_14 ?_
  refine g_bipush dX2_goesBy_17 (by decide) (by decide) ?_
  refine g_iconst dX2_goesBy_19 ?_
  refine g_il1 dX2_goesBy_20 ?_
  refine g_imul dX2_goesBy_21 ?_
  refine g_iadd dX2_goesBy_22 ?_
  refine g_iconst dX2_goesBy_23 ?_
  refine g_iadd dX2_goesBy_24 ?_
  refine g_ialv hM.a15 (by omega) (hM.rrx (j := 60 + 4 * k) (by omega)) dX2_goesBy_25 ?_
  refine g_is5 dX2_goesBy_26 (by decide) rfl ?_
  refine g_il4 dX2_goesBy_28 ?_
  refine g_il3 dX2_goesBy_30 ?_
  refine g_icmp_eq (tgt := 41) dX2_goesBy_31 (by decide) (by omega) (fun h31 => ?_) (fun h31 => ?_)
  · refine g_il4 dX2_goesBy_41 ?_
    refine g_il3 dX2_goesBy_43 ?_
    refine g_icmp_ne (tgt := 52) dX2_goesBy_44 (by decide) (by omega) (fun h44 => ?_) (fun h44 => ?_)
    · refine g_il4 dX2_goesBy_52 ?_
      refine g_is6 dX2_goesBy_54 (by decide) rfl ?_
      refine g_al0 dX2_goesBy_56 ?_
      refine g_il1 dX2_goesBy_57 ?_
      refine g_il2 dX2_goesBy_58 ?_
      refine g_al0 dX2_goesBy_59 ?_
      refine f_getA 24 fk_X2_38 rfl hM.sh (fun _ _ => rfl) hM.f24 dX2_goesBy_60 ?_
      refine g_il3 dX2_goesBy_63 ?_
      refine g_iald hM.a24 (by omega) dX2_goesBy_64 ?_
      refine g_callV3I (d' := 4) lk_X2_346 hM.sh rfl (rm_lt (by decide) (by decide)) (Nat.le_of_ble_eq_true rfl) dX2_goesBy_65 ?_
      refine mo_dayBy hM hW hk hkd (by omega) ?_
      have hdb := db_in hW kd hk.1 hk.2 (d := iv_ σ (m + 9) a) (by omega)
      refine g_is7 dX2_goesBy_68 (by decide) rfl ?_
      refine g_il7 dX2_goesBy_70 ?_
      refine g_al0 dX2_goesBy_72 ?_
      refine f_getA 24 fk_X2_38 rfl hM.sh (fun _ _ => rfl) hM.f24 dX2_goesBy_73 ?_
      refine g_il6 dX2_goesBy_76 ?_
      refine g_iald hM.a24 (by omega) dX2_goesBy_78 ?_
      refine g_icmp_ge (tgt := 91) dX2_goesBy_79 (by decide) (by omega) (fun h79 => ?_) (fun h79 => ?_)
      · exact g_vret rfl dX2_goesBy_91 ⟨rfl, hQ _ hM Fr_.rf (fun _ => rfl) (fun j _ _ => by unfold gb_ jn_; first | (rw [if_neg (by omega)]) | (by_cases hj : j = r (60 + 4 * k) <;> first | (rw [if_neg (by omega)]) | (rw [hj, if_neg (by omega)])) | (by_cases hj : j = r (59 + 4 * k) <;> first | (rw [if_neg (by omega)]) | (rw [hj, if_neg (by omega)])))⟩
      refine g_al0 dX2_goesBy_82 ?_
      refine f_getA 24 fk_X2_38 rfl hM.sh (fun _ _ => rfl) hM.f24 dX2_goesBy_83 ?_
      refine g_il6 dX2_goesBy_86 ?_
      refine g_il7 dX2_goesBy_88 ?_
      refine g_iast hM.a24 hM.g24 (by omega) dX2_goesBy_90 ?_
      exact g_vret rfl dX2_goesBy_91 ⟨rfl, hQ _ (hM.pi ⟨by omega, by omega⟩) (Fr_.rf.pi ⟨by omega, by omega⟩) (fun i => by rw [iv_pi, if_neg (by omega)]) (fun j _ _ => by rw [iv_pi]; unfold gb_ jn_; first | (by_cases hj : j = r (60 + 4 * k); (rw [hj, if_pos ⟨rfl, rfl⟩, if_pos ⟨by omega, by omega⟩]); (rw [if_neg (fun z => hj z.2), if_neg (by omega)])) | (by_cases hj : j = r (59 + 4 * k); (rw [hj, if_pos ⟨rfl, rfl⟩, if_pos ⟨by omega, by omega⟩]); (rw [if_neg (fun z => hj z.2), if_neg (by omega)])))⟩
    refine g_il5 dX2_goesBy_47 ?_
    refine g_goto (tgt := 54) dX2_goesBy_49 (by decide) ?_
    refine g_is6 dX2_goesBy_54 (by decide) rfl ?_
    refine g_al0 dX2_goesBy_56 ?_
    refine g_il1 dX2_goesBy_57 ?_
    refine g_il2 dX2_goesBy_58 ?_
    refine g_al0 dX2_goesBy_59 ?_
    refine f_getA 24 fk_X2_38 rfl hM.sh (fun _ _ => rfl) hM.f24 dX2_goesBy_60 ?_
    refine g_il3 dX2_goesBy_63 ?_
    refine g_iald hM.a24 (by omega) dX2_goesBy_64 ?_
    refine g_callV3I (d' := 4) lk_X2_346 hM.sh rfl (rm_lt (by decide) (by decide)) (Nat.le_of_ble_eq_true rfl) dX2_goesBy_65 ?_
    refine mo_dayBy hM hW hk hkd (by omega) ?_
    have hdb := db_in hW kd hk.1 hk.2 (d := iv_ σ (m + 9) a) (by omega)
    refine g_is7 dX2_goesBy_68 (by decide) rfl ?_
    refine g_il7 dX2_goesBy_70 ?_
    refine g_al0 dX2_goesBy_72 ?_
    refine f_getA 24 fk_X2_38 rfl hM.sh (fun _ _ => rfl) hM.f24 dX2_goesBy_73 ?_
    refine g_il6 dX2_goesBy_76 ?_
    refine g_iald hM.a24 (by omega) dX2_goesBy_78 ?_
    refine g_icmp_ge (tgt := 91) dX2_goesBy_79 (by decide) (by omega) (fun h79 => ?_) (fun h79 => ?_)
    · exact g_vret rfl dX2_goesBy_91 ⟨rfl, hQ _ hM Fr_.rf (fun _ => rfl) (fun j _ _ => by unfold gb_ jn_; first | (rw [if_neg (by omega)]) | (by_cases hj : j = r (60 + 4 * k) <;> first | (rw [if_neg (by omega)]) | (rw [hj, if_neg (by omega)])) | (by_cases hj : j = r (59 + 4 * k) <;> first | (rw [if_neg (by omega)]) | (rw [hj, if_neg (by omega)])))⟩
    refine g_al0 dX2_goesBy_82 ?_
    refine f_getA 24 fk_X2_38 rfl hM.sh (fun _ _ => rfl) hM.f24 dX2_goesBy_83 ?_
    refine g_il6 dX2_goesBy_86 ?_
    refine g_il7 dX2_goesBy_88 ?_
    refine g_iast hM.a24 hM.g24 (by omega) dX2_goesBy_90 ?_
    exact g_vret rfl dX2_goesBy_91 ⟨rfl, hQ _ (hM.pi ⟨by omega, by omega⟩) (Fr_.rf.pi ⟨by omega, by omega⟩) (fun i => by rw [iv_pi, if_neg (by omega)]) (fun j _ _ => by rw [iv_pi]; unfold gb_ jn_; first | (by_cases hj : j = r (60 + 4 * k); (rw [hj, if_pos ⟨rfl, rfl⟩, if_pos ⟨by omega, by omega⟩]); (rw [if_neg (fun z => hj z.2), if_neg (by omega)])) | (by_cases hj : j = r (59 + 4 * k); (rw [hj, if_pos ⟨rfl, rfl⟩, if_pos ⟨by omega, by omega⟩]); (rw [if_neg (fun z => hj z.2), if_neg (by omega)])))⟩
  refine g_il5 dX2_goesBy_34 ?_
  refine g_il3 dX2_goesBy_36 ?_
  refine g_icmp_eq (tgt := 41) dX2_goesBy_37 (by decide) (by omega) (fun h37 => ?_) (fun h37 => ?_)
  · refine g_il4 dX2_goesBy_41 ?_
    refine g_il3 dX2_goesBy_43 ?_
    refine g_icmp_ne (tgt := 52) dX2_goesBy_44 (by decide) (by omega) (fun h44 => ?_) (fun h44 => ?_)
    · refine g_il4 dX2_goesBy_52 ?_
      refine g_is6 dX2_goesBy_54 (by decide) rfl ?_
      refine g_al0 dX2_goesBy_56 ?_
      refine g_il1 dX2_goesBy_57 ?_
      refine g_il2 dX2_goesBy_58 ?_
      refine g_al0 dX2_goesBy_59 ?_
      refine f_getA 24 fk_X2_38 rfl hM.sh (fun _ _ => rfl) hM.f24 dX2_goesBy_60 ?_
      refine g_il3 dX2_goesBy_63 ?_
      refine g_iald hM.a24 (by omega) dX2_goesBy_64 ?_
      refine g_callV3I (d' := 4) lk_X2_346 hM.sh rfl (rm_lt (by decide) (by decide)) (Nat.le_of_ble_eq_true rfl) dX2_goesBy_65 ?_
      refine mo_dayBy hM hW hk hkd (by omega) ?_
      have hdb := db_in hW kd hk.1 hk.2 (d := iv_ σ (m + 9) a) (by omega)
      refine g_is7 dX2_goesBy_68 (by decide) rfl ?_
      refine g_il7 dX2_goesBy_70 ?_
      refine g_al0 dX2_goesBy_72 ?_
      refine f_getA 24 fk_X2_38 rfl hM.sh (fun _ _ => rfl) hM.f24 dX2_goesBy_73 ?_
      refine g_il6 dX2_goesBy_76 ?_
      refine g_iald hM.a24 (by omega) dX2_goesBy_78 ?_
      refine g_icmp_ge (tgt := 91) dX2_goesBy_79 (by decide) (by omega) (fun h79 => ?_) (fun h79 => ?_)
      · exact g_vret rfl dX2_goesBy_91 ⟨rfl, hQ _ hM Fr_.rf (fun _ => rfl) (fun j _ _ => by unfold gb_ jn_; first | (rw [if_neg (by omega)]) | (by_cases hj : j = r (60 + 4 * k) <;> first | (rw [if_neg (by omega)]) | (rw [hj, if_neg (by omega)])) | (by_cases hj : j = r (59 + 4 * k) <;> first | (rw [if_neg (by omega)]) | (rw [hj, if_neg (by omega)])))⟩
      refine g_al0 dX2_goesBy_82 ?_
      refine f_getA 24 fk_X2_38 rfl hM.sh (fun _ _ => rfl) hM.f24 dX2_goesBy_83 ?_
      refine g_il6 dX2_goesBy_86 ?_
      refine g_il7 dX2_goesBy_88 ?_
      refine g_iast hM.a24 hM.g24 (by omega) dX2_goesBy_90 ?_
      exact g_vret rfl dX2_goesBy_91 ⟨rfl, hQ _ (hM.pi ⟨by omega, by omega⟩) (Fr_.rf.pi ⟨by omega, by omega⟩) (fun i => by rw [iv_pi, if_neg (by omega)]) (fun j _ _ => by rw [iv_pi]; unfold gb_ jn_; first | (by_cases hj : j = r (60 + 4 * k); (rw [hj, if_pos ⟨rfl, rfl⟩, if_pos ⟨by omega, by omega⟩]); (rw [if_neg (fun z => hj z.2), if_neg (by omega)])) | (by_cases hj : j = r (59 + 4 * k); (rw [hj, if_pos ⟨rfl, rfl⟩, if_pos ⟨by omega, by omega⟩]); (rw [if_neg (fun z => hj z.2), if_neg (by omega)])))⟩
    refine g_il5 dX2_goesBy_47 ?_
    refine g_goto (tgt := 54) dX2_goesBy_49 (by decide) ?_
    refine g_is6 dX2_goesBy_54 (by decide) rfl ?_
    refine g_al0 dX2_goesBy_56 ?_
    refine g_il1 dX2_goesBy_57 ?_
    refine g_il2 dX2_goesBy_58 ?_
    refine g_al0 dX2_goesBy_59 ?_
    refine f_getA 24 fk_X2_38 rfl hM.sh (fun _ _ => rfl) hM.f24 dX2_goesBy_60 ?_
    refine g_il3 dX2_goesBy_63 ?_
    refine g_iald hM.a24 (by omega) dX2_goesBy_64 ?_
    refine g_callV3I (d' := 4) lk_X2_346 hM.sh rfl (rm_lt (by decide) (by decide)) (Nat.le_of_ble_eq_true rfl) dX2_goesBy_65 ?_
    refine mo_dayBy hM hW hk hkd (by omega) ?_
    have hdb := db_in hW kd hk.1 hk.2 (d := iv_ σ (m + 9) a) (by omega)
    refine g_is7 dX2_goesBy_68 (by decide) rfl ?_
    refine g_il7 dX2_goesBy_70 ?_
    refine g_al0 dX2_goesBy_72 ?_
    refine f_getA 24 fk_X2_38 rfl hM.sh (fun _ _ => rfl) hM.f24 dX2_goesBy_73 ?_
    refine g_il6 dX2_goesBy_76 ?_
    refine g_iald hM.a24 (by omega) dX2_goesBy_78 ?_
    refine g_icmp_ge (tgt := 91) dX2_goesBy_79 (by decide) (by omega) (fun h79 => ?_) (fun h79 => ?_)
    · exact g_vret rfl dX2_goesBy_91 ⟨rfl, hQ _ hM Fr_.rf (fun _ => rfl) (fun j _ _ => by unfold gb_ jn_; first | (rw [if_neg (by omega)]) | (by_cases hj : j = r (60 + 4 * k) <;> first | (rw [if_neg (by omega)]) | (rw [hj, if_neg (by omega)])) | (by_cases hj : j = r (59 + 4 * k) <;> first | (rw [if_neg (by omega)]) | (rw [hj, if_neg (by omega)])))⟩
    refine g_al0 dX2_goesBy_82 ?_
    refine f_getA 24 fk_X2_38 rfl hM.sh (fun _ _ => rfl) hM.f24 dX2_goesBy_83 ?_
    refine g_il6 dX2_goesBy_86 ?_
    refine g_il7 dX2_goesBy_88 ?_
    refine g_iast hM.a24 hM.g24 (by omega) dX2_goesBy_90 ?_
    exact g_vret rfl dX2_goesBy_91 ⟨rfl, hQ _ (hM.pi ⟨by omega, by omega⟩) (Fr_.rf.pi ⟨by omega, by omega⟩) (fun i => by rw [iv_pi, if_neg (by omega)]) (fun j _ _ => by rw [iv_pi]; unfold gb_ jn_; first | (by_cases hj : j = r (60 + 4 * k); (rw [hj, if_pos ⟨rfl, rfl⟩, if_pos ⟨by omega, by omega⟩]); (rw [if_neg (fun z => hj z.2), if_neg (by omega)])) | (by_cases hj : j = r (59 + 4 * k); (rw [hj, if_pos ⟨rfl, rfl⟩, if_pos ⟨by omega, by omega⟩]); (rw [if_neg (fun z => hj z.2), if_neg (by omega)])))⟩
  exact g_vret rfl dX2_goesBy_40 ⟨rfl, hQ _ hM Fr_.rf (fun _ => rfl) (fun j _ _ => by unfold gb_ jn_; first | (rw [if_neg (by omega)]) | (by_cases hj : j = r (60 + 4 * k) <;> first | (rw [if_neg (by omega)]) | (rw [hj, if_neg (by omega)])) | (by_cases hj : j = r (59 + 4 * k) <;> first | (rw [if_neg (by omega)]) | (rw [hj, if_neg (by omega)])))⟩
theorem mo_layDays {kd fr dy : Int} {Q : JH → Prop} (hM : MD_ G m σ r s) (hW : RW_ r) (hkd : 0 ≤ kd ∧ kd ≤ 3) (hf : 0 ≤ fr ∧ fr < r 4) (hd : 0 ≤ dy ∧ dy ≤ 200000)
    (hQ : ∀ σ', MD_ G m σ' r s → Fr_ (mz_ m) σ σ' → (∀ i, 0 ≤ i → i < r 4 → iv_ σ' (m + 9) i = er_ r s kd fr dy i) → Q σ') : CallV_ G 6 yX2_layDays cX2_layDays 7 none [A_ (some m), I_ kd, I_ fr, I_ dy] σ Q := by
  refine call_go [some (A_ (some m)), some (I_ kd), some (I_ fr), some (I_ dy), none, none, none] (by decide) (Nat.le_of_ble_eq_true rfl) rfl ?_
  have hn := hW.n
  have J34 : ∀ (σ' : JH) (v4 : Option AV), MD_ G m σ' r s → Fr_ (mz_ m) σ σ' → (∀ j, 0 ≤ j → j < 7 → iv_ σ' (m + 9) j = 1000000 ∧ iv_ σ' (m + 10) j = 0) → GoM_ G 6 yX2_layDays cX2_layDays 7 none σ (fun v σ' => v = none ∧ Q σ') 34 [some (A_ (some m)), some (I_ kd), some (I_ fr), some (I_ dy), v4, none, none] [] σ' := by
    intro σ' v4 hM hF hA
    have L44 : ∀ (n : Nat) (σ' : JH) (n1 : Int) (v5 : Option AV) (v6 : Option AV), r 4 - n1 < (n : Int) → (MD_ G m σ' r s) → (Fr_ (mz_ m) σ σ') → (0 ≤ n1) → (n1 ≤ r 4) → (DJ_ r s kd fr dy (iv_ σ' (m + 9)) (iv_ σ' (m + 10)) n1 (-1) 0) → GoM_ G 6 yX2_layDays cX2_layDays 7 none σ (fun v σ' => v = none ∧ Q σ') 44 [some (A_ (some m)), some (I_ kd), some (I_ fr), some (I_ dy), some (I_ n1), v5, v6] [] σ' := by
      intro n
      induction n with
      | zero => intro σ' n1 v5 v6 hn hM hF h0 h1 hJ; exact absurd hn (by omega)
      | succ n ih =>
        intro σ' n1 v5 v6 hn hM hF h0 h1 hJ
        refine g_il4 dX2_layDays_44 ?_
        refine g_al0 dX2_layDays_46 ?_
        refine f_getA 15 fk_X2_20 rfl hM.sh (fun _ _ => rfl) hM.f15 dX2_layDays_47 ?_
        refine g_iconst dX2_layDays_50 ?_
        refine g_ialv hM.a15 (by omega) (hM.rr _) dX2_layDays_51 ?_
        refine g_icmp_ge (tgt := 195) dX2_layDays_52 (by decide) (by omega) (fun h52 => ?_) (fun h52 => ?_)
        · exact g_vret rfl dX2_layDays_195 ⟨rfl, hQ _ hM hF (hJ.done hW hd hf (Or.inr (by omega)))⟩
        have hO : ∀ j, r 4 ≤ j → j < 7 → 1000000 ≤ iv_ σ' (m + 9) j := fun j u0 u1 => Classical.byContradiction fun hno => by
          have hx := hJ.2.1 j (by omega) u1
          obtain ⟨k, i, e1, -⟩ := hJ.2.2.2.1 j (by omega) u1 (by omega) (by omega)
          have := eg_in hW e1
          omega
        have J127 : ∀ (a i : Int), ((a = -1 ∧ ∀ j, 0 ≤ j → j < r 4 → iv_ σ' (m + 10) j = 0 → 1000000 ≤ iv_ σ' (m + 9) j) ∨ ((0 ≤ a ∧ a < r 4) ∧ iv_ σ' (m + 10) a = 0 ∧ iv_ σ' (m + 9) a < 1000000 ∧ ∀ j, 0 ≤ j → j < r 4 → iv_ σ' (m + 10) j = 0 → iv_ σ' (m + 9) a ≤ iv_ σ' (m + 9) j)) → GoM_ G 6 yX2_layDays cX2_layDays 7 none σ (fun v σ' => v = none ∧ Q σ') 127 [some (A_ (some m)), some (I_ kd), some (I_ fr), some (I_ dy), some (I_ n1), some (I_ a), some (I_ i)] [] σ' := by
          intro a i gs
          refine g_il5 dX2_layDays_127 ?_
          refine g_if_ge (tgt := 133) dX2_layDays_129 (by decide) (by omega) (fun h129 => ?_) (fun h129 => ?_)
          · refine g_al0 dX2_layDays_133 ?_
            refine f_getA 25 fk_X2_41 rfl hM.sh (fun _ _ => rfl) hM.f25 dX2_layDays_134 ?_
            refine g_il5 dX2_layDays_137 ?_
            refine g_iconst dX2_layDays_139 ?_
            refine g_iast hM.a25 hM.g25 (by omega) dX2_layDays_140 ?_
            have hT := hJ.take hW (a := a) (fun k i e => by have := eg_in hW e; omega) (by omega) (by omega) (by omega) (fun j u0 u1 u2 => by
              rcases gs with q | q
              · omega
              · by_cases hj : j < r 4
                · exact q.2.2.2 j u0 hj u2
                · have := hO j (by omega) u1; omega) (D' := iv_ (pi_ σ' (m + 10) a 1) (m + 10)) (fun i => by rw [iv_pi]; by_cases hi : i = a; (rw [if_pos ⟨rfl, hi⟩, if_pos hi]); (rw [if_neg (fun z => hi z.2), if_neg hi]))
            have eX : iv_ (pi_ σ' (m + 10) a 1) (m + 9) = iv_ σ' (m + 9) := funext fun j => by rw [iv_pi, if_neg (by omega)]
            have hT1 := hT.1
            have hT2 := hT.2
            rw [← eX] at hT1 hT2
            have J189 : ∀ (σ'' : JH) (k : Int), MD_ G m σ'' r s → Fr_ (mz_ m) σ σ'' → DJ_ r s kd fr dy (iv_ σ'' (m + 9)) (iv_ σ'' (m + 10)) (n1 + 1) (-1) 0 → GoM_ G 6 yX2_layDays cX2_layDays 7 none σ (fun v σ' => v = none ∧ Q σ') 189 [some (A_ (some m)), some (I_ kd), some (I_ fr), some (I_ dy), some (I_ n1), some (I_ a), some (I_ k)] [] σ'' := by
              intro σ'' k hM hF hJ2
              refine g_inc4 dX2_layDays_189 (by decide) rfl ?_
              refine g_goto (tgt := 44) dX2_layDays_192 (by decide) ?_
              exact ih _ _ _ _ (by omega) hM hF (by omega) (by omega) hJ2
            have L144 : ∀ (n : Nat) (σ'' : JH) (k : Int), r 5 - k < (n : Int) → (MD_ G m σ'' r s) → (Fr_ (mz_ m) σ σ'') → (0 ≤ k) → (k ≤ r 5) → (DJ_ r s kd fr dy (iv_ σ'' (m + 9)) (iv_ σ'' (m + 10)) (n1 + 1) a k) → (∀ i, 0 ≤ i → i < 7 → iv_ σ'' (m + 10) i = 1 → iv_ σ'' (m + 9) i ≤ iv_ σ'' (m + 9) a) → (iv_ σ'' (m + 10) a = 1) → GoM_ G 6 yX2_layDays cX2_layDays 7 none σ (fun v σ' => v = none ∧ Q σ') 144 [some (A_ (some m)), some (I_ kd), some (I_ fr), some (I_ dy), some (I_ n1), some (I_ a), some (I_ k)] [] σ'' := by
              intro n2
              induction n2 with
              | zero => intro σ'' k hn hM hF g0 g1 hJ2 hle hDa; exact absurd hn (by omega)
              | succ n2 ih2 =>
                intro σ'' k hn hM hF g0 g1 hJ2 hle hDa
                refine g_il6 dX2_layDays_144 ?_
                refine g_al0 dX2_layDays_146 ?_
                refine f_getA 15 fk_X2_20 rfl hM.sh (fun _ _ => rfl) hM.f15 dX2_layDays_147 ?_
                refine g_iconst dX2_layDays_150 ?_
                refine g_ialv hM.a15 (by omega) (hM.rr _) dX2_layDays_151 ?_
                refine g_icmp_ge (tgt := 189) dX2_layDays_152 (by decide) (by omega) (fun h152 => ?_) (fun h152 => ?_)
                · exact J189 _ _ hM hF (hJ2.all (by omega))
                refine g_il1 dX2_layDays_155 ?_
                refine g_if_ne (tgt := 165) dX2_layDays_156 (by decide) (by omega) (fun h156 => ?_) (fun h156 => ?_)
                · refine g_al0 dX2_layDays_165 ?_
                  refine g_il6 dX2_layDays_166 ?_
                  refine g_callV1I (d' := 3) lk_X2_302 hM.sh rfl (rm_lt (by decide) (by decide)) (Nat.le_of_ble_eq_true rfl) dX2_layDays_168 ?_
                  refine mo_isClosed hM (fun z hz => ?_)
                  refine g_if_ne (tgt := 183) dX2_layDays_171 (by decide) (by omega) (fun h171 => ?_) (fun h171 => ?_)
                  · refine g_inc6 dX2_layDays_183 (by decide) rfl ?_
                    refine g_goto (tgt := 144) dX2_layDays_186 (by decide) ?_
                    exact ih2 _ _ (by omega) hM hF (by omega) (by omega) (hJ2.closed (by omega)) hle hDa
                  refine g_al0 dX2_layDays_174 ?_
                  refine g_il6 dX2_layDays_175 ?_
                  refine g_il1 dX2_layDays_177 ?_
                  refine g_il5 dX2_layDays_178 ?_
                  refine g_callV3V (d' := 5) lk_X2_342 hM.sh rfl (rm_lt (by decide) (by decide)) (Nat.le_of_ble_eq_true rfl) dX2_layDays_180 ?_
                  refine mo_goesBy hM hW (by omega) hkd (by omega) (fun i u0 u1 => by have := hJ2.2.1 i u0 u1; omega) (fun σ3 hM3 hF3 hd3 hx3 => ?_)
                  have hg := hJ2.go hW hd.1 hf (by omega) hDa hle (by omega) (by omega) (by omega) hx3
                  refine g_inc6 dX2_layDays_183 (by decide) rfl ?_
                  refine g_goto (tgt := 144) dX2_layDays_186 (by decide) ?_
                  refine ih2 _ _ (by omega) hM3 (hF.tr hF3) (by omega) (by omega) ?_ ?_ (by rw [hd3]; exact hDa)
                  · rw [show iv_ σ3 (m + 10) = iv_ σ'' (m + 10) from funext hd3]; exact hg.1
                  · rw [show iv_ σ3 (m + 10) = iv_ σ'' (m + 10) from funext hd3]; exact hg.2.1
                refine g_il5 dX2_layDays_159 ?_
                refine g_il2 dX2_layDays_161 ?_
                refine g_icmp_ne (tgt := 189) dX2_layDays_162 (by decide) (by omega) (fun h162 => ?_) (fun h162 => ?_)
                · exact J189 _ _ hM hF (hJ2.calf (by omega))
                refine g_al0 dX2_layDays_165 ?_
                refine g_il6 dX2_layDays_166 ?_
                refine g_callV1I (d' := 3) lk_X2_302 hM.sh rfl (rm_lt (by decide) (by decide)) (Nat.le_of_ble_eq_true rfl) dX2_layDays_168 ?_
                refine mo_isClosed hM (fun z hz => ?_)
                refine g_if_ne (tgt := 183) dX2_layDays_171 (by decide) (by omega) (fun h171 => ?_) (fun h171 => ?_)
                · refine g_inc6 dX2_layDays_183 (by decide) rfl ?_
                  refine g_goto (tgt := 144) dX2_layDays_186 (by decide) ?_
                  exact ih2 _ _ (by omega) hM hF (by omega) (by omega) (hJ2.closed (by omega)) hle hDa
                refine g_al0 dX2_layDays_174 ?_
                refine g_il6 dX2_layDays_175 ?_
                refine g_il1 dX2_layDays_177 ?_
                refine g_il5 dX2_layDays_178 ?_
                refine g_callV3V (d' := 5) lk_X2_342 hM.sh rfl (rm_lt (by decide) (by decide)) (Nat.le_of_ble_eq_true rfl) dX2_layDays_180 ?_
                refine mo_goesBy hM hW (by omega) hkd (by omega) (fun i u0 u1 => by have := hJ2.2.1 i u0 u1; omega) (fun σ3 hM3 hF3 hd3 hx3 => ?_)
                have hg := hJ2.go hW hd.1 hf (by omega) hDa hle (by omega) (by omega) (by omega) hx3
                refine g_inc6 dX2_layDays_183 (by decide) rfl ?_
                refine g_goto (tgt := 144) dX2_layDays_186 (by decide) ?_
                refine ih2 _ _ (by omega) hM3 (hF.tr hF3) (by omega) (by omega) ?_ ?_ (by rw [hd3]; exact hDa)
                · rw [show iv_ σ3 (m + 10) = iv_ σ'' (m + 10) from funext hd3]; exact hg.1
                · rw [show iv_ σ3 (m + 10) = iv_ σ'' (m + 10) from funext hd3]; exact hg.2.1
            refine g_iconst dX2_layDays_141 ?_
            refine g_is6 dX2_layDays_142 (by decide) rfl ?_
            exact L144 ((r 5).toNat + 1) _ _ (by omega) (hM.pi ⟨by omega, by omega⟩) (hF.pi ⟨by omega, by omega⟩) (by omega) (by omega) hT1 hT2 (by rw [iv_pi, if_pos ⟨rfl, rfl⟩])
          refine g_vret rfl dX2_layDays_132 ⟨rfl, hQ _ hM hF (hJ.done hW hd hf (Or.inl (fun j u0 u1 u2 => ?_)))⟩
          rcases hJ.2.2.1 j u0 u1 with z | z
          · rcases gs with q | q
            · by_cases hj : j < r 4
              · have := q.2 j u0 hj z; omega
              · exact absurd u2 (by have := hO j (by omega) u1; omega)
            · omega
          · exact z.1
        have L61 : ∀ (n : Nat) (a : Int) (i : Int), r 4 - i < (n : Int) → (0 ≤ i) → (i ≤ r 4) → ((a = -1 ∧ ∀ j, 0 ≤ j → j < i → iv_ σ' (m + 10) j = 0 → 1000000 ≤ iv_ σ' (m + 9) j) ∨ ((0 ≤ a ∧ a < i) ∧ iv_ σ' (m + 10) a = 0 ∧ iv_ σ' (m + 9) a < 1000000 ∧ ∀ j, 0 ≤ j → j < i → iv_ σ' (m + 10) j = 0 → iv_ σ' (m + 9) a ≤ iv_ σ' (m + 9) j)) → GoM_ G 6 yX2_layDays cX2_layDays 7 none σ (fun v σ' => v = none ∧ Q σ') 61 [some (A_ (some m)), some (I_ kd), some (I_ fr), some (I_ dy), some (I_ n1), some (I_ a), some (I_ i)] [] σ' := by
          intro n2
          induction n2 with
          | zero => intro a i hn g0 g1 gs; exact absurd hn (by omega)
          | succ n2 ih2 =>
            intro a i hn g0 g1 gs
            refine g_il6 dX2_layDays_61 ?_
            refine g_al0 dX2_layDays_63 ?_
            refine f_getA 15 fk_X2_20 rfl hM.sh (fun _ _ => rfl) hM.f15 dX2_layDays_64 ?_
            refine g_iconst dX2_layDays_67 ?_
            refine g_ialv hM.a15 (by omega) (hM.rr _) dX2_layDays_68 ?_
            refine g_icmp_ge (tgt := 127) dX2_layDays_69 (by decide) (by omega) (fun h69 => ?_) (fun h69 => ?_)
            · exact J127 _ _ (by rw [show i = r 4 by omega] at gs; exact gs)
            refine g_al0 dX2_layDays_72 ?_
            refine f_getA 25 fk_X2_41 rfl hM.sh (fun _ _ => rfl) hM.f25 dX2_layDays_73 ?_
            refine g_il6 dX2_layDays_76 ?_
            have hd2 := hJ.2.2.1 i (by omega) (by omega)
            have hx2 := hJ.2.1 i (by omega) (by omega)
            refine g_iald hM.a25 (by omega) dX2_layDays_78 ?_
            refine g_if_ne (tgt := 121) dX2_layDays_79 (by decide) (by omega) (fun h79 => ?_) (fun h79 => ?_)
            · refine g_inc6 dX2_layDays_121 (by decide) rfl ?_
              refine g_goto (tgt := 61) dX2_layDays_124 (by decide) ?_
              refine ih2 _ _ (by omega) (by omega) (by omega) ?_
              rcases gs with q | q
              · refine Or.inl ⟨q.1, fun j u0 u1 u2 => ?_⟩
                by_cases hj : j = i
                · subst hj; omega
                · exact q.2 j u0 (by omega) u2
              · refine Or.inr ⟨by omega, q.2.1, q.2.2.1, fun j u0 u1 u2 => ?_⟩
                by_cases hj : j = i
                · subst hj; omega
                · exact q.2.2.2 j u0 (by omega) u2
            refine g_al0 dX2_layDays_82 ?_
            refine f_getA 24 fk_X2_38 rfl hM.sh (fun _ _ => rfl) hM.f24 dX2_layDays_83 ?_
            refine g_il6 dX2_layDays_86 ?_
            refine g_iald hM.a24 (by omega) dX2_layDays_88 ?_
            refine g_ldcw (x := 1000000) q2130 dX2_layDays_89 (by decide) ?_
            refine g_icmp_ge (tgt := 121) dX2_layDays_92 (by decide) (by omega) (fun h92 => ?_) (fun h92 => ?_)
            · refine g_inc6 dX2_layDays_121 (by decide) rfl ?_
              refine g_goto (tgt := 61) dX2_layDays_124 (by decide) ?_
              refine ih2 _ _ (by omega) (by omega) (by omega) ?_
              rcases gs with q | q
              · refine Or.inl ⟨q.1, fun j u0 u1 u2 => ?_⟩
                by_cases hj : j = i
                · subst hj; omega
                · exact q.2 j u0 (by omega) u2
              · refine Or.inr ⟨by omega, q.2.1, q.2.2.1, fun j u0 u1 u2 => ?_⟩
                by_cases hj : j = i
                · subst hj; omega
                · exact q.2.2.2 j u0 (by omega) u2
            refine g_il5 dX2_layDays_95 ?_
            refine g_if_lt (tgt := 117) dX2_layDays_97 (by decide) (by omega) (fun h97 => ?_) (fun h97 => ?_)
            · refine g_il6 dX2_layDays_117 ?_
              refine g_is5 dX2_layDays_119 (by decide) rfl ?_
              refine g_inc6 dX2_layDays_121 (by decide) rfl ?_
              refine g_goto (tgt := 61) dX2_layDays_124 (by decide) ?_
              refine ih2 _ _ (by omega) (by omega) (by omega) ?_
              refine Or.inr ⟨by omega, by omega, by omega, fun j u0 u1 u2 => ?_⟩
              by_cases hj : j = i
              · rw [hj]; omega
              · rcases gs with q | q
                · have := q.2 j u0 (by omega) u2; omega
                · have := q.2.2.2 j u0 (by omega) u2; omega
            
            refine g_al0 dX2_layDays_100 ?_
            refine f_getA 24 fk_X2_38 rfl hM.sh (fun _ _ => rfl) hM.f24 dX2_layDays_101 ?_
            refine g_il6 dX2_layDays_104 ?_
            refine g_iald hM.a24 (by omega) dX2_layDays_106 ?_
            refine g_al0 dX2_layDays_107 ?_
            refine f_getA 24 fk_X2_38 rfl hM.sh (fun _ _ => rfl) hM.f24 dX2_layDays_108 ?_
            refine g_il5 dX2_layDays_111 ?_
            have hx3 := hJ.2.1 a (by omega) (by omega)
            refine g_iald hM.a24 (by omega) dX2_layDays_113 ?_
            refine g_icmp_ge (tgt := 121) dX2_layDays_114 (by decide) (by omega) (fun h114 => ?_) (fun h114 => ?_)
            · refine g_inc6 dX2_layDays_121 (by decide) rfl ?_
              refine g_goto (tgt := 61) dX2_layDays_124 (by decide) ?_
              refine ih2 _ _ (by omega) (by omega) (by omega) ?_
              rcases gs with q | q
              · refine Or.inl ⟨q.1, fun j u0 u1 u2 => ?_⟩
                by_cases hj : j = i
                · subst hj; omega
                · exact q.2 j u0 (by omega) u2
              · refine Or.inr ⟨by omega, q.2.1, q.2.2.1, fun j u0 u1 u2 => ?_⟩
                by_cases hj : j = i
                · subst hj; omega
                · exact q.2.2.2 j u0 (by omega) u2
            refine g_il6 dX2_layDays_117 ?_
            refine g_is5 dX2_layDays_119 (by decide) rfl ?_
            refine g_inc6 dX2_layDays_121 (by decide) rfl ?_
            refine g_goto (tgt := 61) dX2_layDays_124 (by decide) ?_
            refine ih2 _ _ (by omega) (by omega) (by omega) ?_
            refine Or.inr ⟨by omega, by omega, by omega, fun j u0 u1 u2 => ?_⟩
            by_cases hj : j = i
            · rw [hj]; omega
            · rcases gs with q | q
              · have := q.2 j u0 (by omega) u2; omega
              · have := q.2.2.2 j u0 (by omega) u2; omega
        refine g_iconst dX2_layDays_55 ?_
        refine g_is5 dX2_layDays_56 (by decide) rfl ?_
        refine g_iconst dX2_layDays_58 ?_
        refine g_is6 dX2_layDays_59 (by decide) rfl ?_
        exact L61 ((r 4).toNat + 1) _ _ (by omega) (by omega) (by omega) (Or.inl ⟨rfl, fun j u0 u1 => by omega⟩)
    refine g_al0 dX2_layDays_34 ?_
    refine f_getA 24 fk_X2_38 rfl hM.sh (fun _ _ => rfl) hM.f24 dX2_layDays_35 ?_
    refine g_il2 dX2_layDays_38 ?_
    refine g_il3 dX2_layDays_39 ?_
    refine g_iast hM.a24 hM.g24 (by omega) dX2_layDays_40 ?_
    refine g_iconst dX2_layDays_41 ?_
    refine g_is4 dX2_layDays_42 (by decide) rfl ?_
    refine L44 ((r 4).toNat + 1) _ _ _ _ (by omega) (hM.pi ⟨by omega, by omega⟩) (hF.pi ⟨by omega, by omega⟩) (by omega) (by omega) (DJ_.start hW hf hd (fun i u0 u1 => ?_) (fun i u0 u1 => ?_))
    · rw [iv_pi]
      by_cases hi : i = fr
      · rw [if_pos ⟨rfl, hi⟩, if_pos hi]
      · rw [if_neg (fun z => hi z.2), if_neg hi]; exact (hA i u0 u1).1
    · rw [iv_pi, if_neg (by omega)]; exact (hA i u0 u1).2
  have L3 : ∀ (n : Nat) (σ' : JH) (i : Int), 7 - i < (n : Int) → (MD_ G m σ' r s) → (Fr_ (mz_ m) σ σ') → (0 ≤ i) → (i ≤ 7) → (∀ j, 0 ≤ j → j < i → iv_ σ' (m + 9) j = 1000000 ∧ iv_ σ' (m + 10) j = 0) → GoM_ G 6 yX2_layDays cX2_layDays 7 none σ (fun v σ' => v = none ∧ Q σ') 3 [some (A_ (some m)), some (I_ kd), some (I_ fr), some (I_ dy), some (I_ i), none, none] [] σ' := by
    intro n
    induction n with
    | zero => intro σ' i hn hM hF h0 h1 hA; exact absurd hn (by omega)
    | succ n ih =>
      intro σ' i hn hM hF h0 h1 hA
      refine g_il4 dX2_layDays_3 ?_
      refine g_bipush dX2_layDays_5 (by decide) (by decide) ?_
      refine g_icmp_ge (tgt := 34) dX2_layDays_7 (by decide) (by omega) (fun h7 => ?_) (fun h7 => ?_)
      · exact J34 _ _ hM hF (fun j g0 g1 => hA j g0 (by omega))
      refine g_al0 dX2_layDays_10 ?_
      refine f_getA 24 fk_X2_38 rfl hM.sh (fun _ _ => rfl) hM.f24 dX2_layDays_11 ?_
      refine g_il4 dX2_layDays_14 ?_
      refine g_ldcw (x := 1000000) q2130 dX2_layDays_16 (by decide) ?_
      refine g_iast hM.a24 hM.g24 (by omega) dX2_layDays_19 ?_
      refine g_al0 dX2_layDays_20 ?_
      refine f_getA 25 fk_X2_41 rfl hM.sh (fun _ _ => rfl) hM.f25 dX2_layDays_21 ?_
      refine g_il4 dX2_layDays_24 ?_
      refine g_iconst dX2_layDays_26 ?_
      refine g_iast hM.a25 hM.g25 (by omega) dX2_layDays_27 ?_
      refine g_inc4 dX2_layDays_28 (by decide) rfl ?_
      refine g_goto (tgt := 3) dX2_layDays_31 (by decide) ?_
      refine ih _ _ (by omega) ((hM.pi ⟨by omega, by omega⟩).pi ⟨by omega, by omega⟩) ((hF.pi ⟨by omega, by omega⟩).pi ⟨by omega, by omega⟩) (by omega) (by omega) (fun j g0 g1 => ?_)
      simp only [iv_pi]
      by_cases hj : j = i
      · subst hj; simp
      · have := hA j g0 (by omega)
        rw [if_neg (by omega), if_neg (by omega), if_neg (by omega), if_neg (by omega)]; exact this
  refine g_iconst dX2_layDays_0 ?_
  refine g_is4 dX2_layDays_1 (by decide) rfl ?_
  exact L3 8 _ _ (by omega) hM Fr_.rf (by omega) (by omega) (fun j g0 g1 => by omega)
end
