/-! THE REFERENCE: what is told of one thing. Written by mod/m32.py -/
set_option maxRecDepth 100000
section
variable {G : JG} {m : Nat} {σ : JH} {r s : Int → Int}
theorem mo_whale {p : Int} {w what : Int} {Q : Int → JH → Prop} (hM : MD_ G m σ r s) (hp : iv_ σ m 14 = p) (hP : MP_ p r s) (hw : -2147483648 ≤ w ∧ w < 2147483648) (hwhat : -2147483648 ≤ what ∧ what < 2147483648)
    (hQ : ∀ (x t : Int) (σ' : JH), qWhale_ p r s w what = (x, t) → MD_ G m σ' r s → ME_ m σ σ' t → Q x σ') : CallI_ G 4 yX2_whale cX2_whale 3 (some .int) [A_ (some m), I_ w, I_ what] σ Q := by
  refine call_go [some (A_ (some m)), some (I_ w), some (I_ what)] (by decide) (Nat.le_of_ble_eq_true rfl) rfl ?_
  have hp01 := hP.b
  refine g_al0 dX2_whale_0 ?_
  refine g_callV0V (d' := 2) lk_X2_167 hM.sh rfl (rm_lt (by decide) (by decide)) (Nat.le_of_ble_eq_true rfl) dX2_whale_1 ?_
  refine mo_good hM (fun σ1 hM hE => ?_)
  have hp := hE.p14.trans hp
  refine g_al0 dX2_whale_4 ?_
  refine g_il1 dX2_whale_5 ?_
  refine g_callV1I (d' := 3) lk_X2_268 hM.sh rfl (rm_lt (by decide) (by decide)) (Nat.le_of_ble_eq_true rfl) dX2_whale_6 ?_
  refine mo_isWhale hM hp hP.rw (by omega) (fun x6 hx6 => ?_)
  unfold isW_ at hx6
  refine g_if_eq (tgt := 21) dX2_whale_9 (by decide) (by omega) (fun h9 => ?_) (fun h9 => ?_)
  · refine g_al0 dX2_whale_21 ?_
    refine g_iconst dX2_whale_22 ?_
    refine g_callV1I (d' := 2) lk_X2_170 hM.sh rfl (rm_lt (by decide) (by decide)) (Nat.le_of_ble_eq_true rfl) dX2_whale_23 ?_
    refine mo_no hM hE (fun σ2 hM hE => ?_)
    exact g_iret rfl dX2_whale_26 ⟨_, rfl, hQ _ _ _ (by unfold qWhale_; rw [if_neg (by omega)]) hM hE⟩
  refine g_il2 dX2_whale_12 ?_
  refine g_iconst dX2_whale_13 ?_
  refine g_iconst dX2_whale_14 ?_
  refine g_callS3I (d' := 2) lk_X2_149 (rm_lt (by decide) (by decide)) (Nat.le_of_ble_eq_true rfl) dX2_whale_15 ?_
  refine mo_in (by omega) (by omega) (by omega) (fun x15 hx15 => ?_)
  refine g_if_ne (tgt := 27) dX2_whale_18 (by decide) (by omega) (fun h18 => ?_) (fun h18 => ?_)
  · obtain ⟨hW, hD⟩ := hP.get (by omega)
    have hn := hW.n
    have h1 := hW.whale (w := w) (by omega) (by omega)
    have h2 := hD.whale (w := w) (by omega) (by omega)
    refine g_il2 dX2_whale_27 ?_
    by_cases c28_0 : what = 0
    · refine g_tabIn (tgt := 56) dX2_whale_28 (by omega) (by omega) (by rw [c28_0]; rfl) (by decide) ?_
      refine g_al0 dX2_whale_56 ?_
      refine g_il1 dX2_whale_57 ?_
      refine g_iconst dX2_whale_58 ?_
      refine g_callV2I (d' := 2) lk_X2_271 hM.sh rfl (rm_lt (by decide) (by decide)) (Nat.le_of_ble_eq_true rfl) dX2_whale_59 ?_
      refine mo_ofWhale hM (by omega) (by omega) ?_
      exact g_iret rfl dX2_whale_62 ⟨_, rfl, hQ _ _ _ (by unfold qWhale_; rw [if_pos (by omega), if_pos (by omega)]; simp) hM hE⟩
    by_cases c28_1 : what = 1
    · refine g_tabIn (tgt := 63) dX2_whale_28 (by omega) (by omega) (by rw [c28_1]; rfl) (by decide) ?_
      refine g_al0 dX2_whale_63 ?_
      refine f_getA 17 fk_X2_26 rfl hM.sh (fun _ _ => rfl) hM.f17 dX2_whale_64 ?_
      refine g_iconst dX2_whale_67 ?_
      refine g_il1 dX2_whale_68 ?_
      refine g_iadd dX2_whale_69 ?_
      refine g_ialv hM.a17 (by omega) (hM.ss _) dX2_whale_70 ?_
      exact g_iret rfl dX2_whale_71 ⟨_, rfl, hQ _ _ _ (by unfold qWhale_; rw [if_pos (by omega), if_neg (by omega), if_pos (by omega)]) hM hE⟩
    by_cases c28_2 : what = 2
    · refine g_tabIn (tgt := 72) dX2_whale_28 (by omega) (by omega) (by rw [c28_2]; rfl) (by decide) ?_
      refine g_al0 dX2_whale_72 ?_
      refine f_getA 17 fk_X2_26 rfl hM.sh (fun _ _ => rfl) hM.f17 dX2_whale_73 ?_
      refine g_bipush dX2_whale_76 (by decide) (by decide) ?_
      refine g_il1 dX2_whale_78 ?_
      refine g_iadd dX2_whale_79 ?_
      refine g_ialv hM.a17 (by omega) (hM.ss _) dX2_whale_80 ?_
      exact g_iret rfl dX2_whale_81 ⟨_, rfl, hQ _ _ _ (by unfold qWhale_; rw [if_pos (by omega), if_neg (by omega), if_neg (by omega), if_pos (by omega)]) hM hE⟩
    refine g_tabOut (tgt := 82) dX2_whale_28 (by omega) (by omega) (by decide) ?_
    refine g_al0 dX2_whale_82 ?_
    refine g_il1 dX2_whale_83 ?_
    refine g_il2 dX2_whale_84 ?_
    refine g_iconst dX2_whale_85 ?_
    refine g_isub dX2_whale_86 ?_
    refine g_callV2I (d' := 2) lk_X2_271 hM.sh rfl (rm_lt (by decide) (by decide)) (Nat.le_of_ble_eq_true rfl) dX2_whale_87 ?_
    refine mo_ofWhale hM (by omega) (by omega) ?_
    exact g_iret rfl dX2_whale_90 ⟨_, rfl, hQ _ _ _ (by unfold qWhale_; rw [if_pos (by omega), if_neg (by omega), if_neg (by omega), if_neg (by omega)]; by_cases c3 : what = 3; (rw [if_pos c3, c3]; congr 2; omega); (rw [if_neg c3, show what = 4 by omega]; congr 2; omega)) hM hE⟩
  refine g_al0 dX2_whale_21 ?_
  refine g_iconst dX2_whale_22 ?_
  refine g_callV1I (d' := 2) lk_X2_170 hM.sh rfl (rm_lt (by decide) (by decide)) (Nat.le_of_ble_eq_true rfl) dX2_whale_23 ?_
  refine mo_no hM hE (fun σ2 hM hE => ?_)
  exact g_iret rfl dX2_whale_26 ⟨_, rfl, hQ _ _ _ (by unfold qWhale_; rw [if_neg (by omega)]) hM hE⟩
theorem mo_box {p : Int} {b what : Int} {Q : Int → JH → Prop} (hM : MD_ G m σ r s) (hp : iv_ σ m 14 = p) (hP : MP_ p r s) (hb : -2147483648 ≤ b ∧ b < 2147483648) (hwhat : -2147483648 ≤ what ∧ what < 2147483648)
    (hQ : ∀ (x t : Int) (σ' : JH), qBox_ p r s b what = (x, t) → MD_ G m σ' r s → ME_ m σ σ' t → Q x σ') : CallI_ G 4 yX2_box cX2_box 4 (some .int) [A_ (some m), I_ b, I_ what] σ Q := by
  refine call_go [some (A_ (some m)), some (I_ b), some (I_ what), none] (by decide) (Nat.le_of_ble_eq_true rfl) rfl ?_
  have hp01 := hP.b
  refine g_al0 dX2_box_0 ?_
  refine g_callV0V (d' := 2) lk_X2_167 hM.sh rfl (rm_lt (by decide) (by decide)) (Nat.le_of_ble_eq_true rfl) dX2_box_1 ?_
  refine mo_good hM (fun σ1 hM hE => ?_)
  have hp := hE.p14.trans hp
  refine g_al0 dX2_box_4 ?_
  refine g_il1 dX2_box_5 ?_
  refine g_callV1I (d' := 3) lk_X2_274 hM.sh rfl (rm_lt (by decide) (by decide)) (Nat.le_of_ble_eq_true rfl) dX2_box_6 ?_
  refine mo_isBox hM hp hP.rw (by omega) (fun x6 hx6 => ?_)
  unfold isB_ at hx6
  refine g_if_eq (tgt := 21) dX2_box_9 (by decide) (by omega) (fun h9 => ?_) (fun h9 => ?_)
  · refine g_al0 dX2_box_21 ?_
    refine g_iconst dX2_box_22 ?_
    refine g_callV1I (d' := 2) lk_X2_170 hM.sh rfl (rm_lt (by decide) (by decide)) (Nat.le_of_ble_eq_true rfl) dX2_box_23 ?_
    refine mo_no hM hE (fun σ2 hM hE => ?_)
    exact g_iret rfl dX2_box_26 ⟨_, rfl, hQ _ _ _ (by unfold qBox_; rw [if_neg (by omega)]) hM hE⟩
  refine g_il2 dX2_box_12 ?_
  refine g_iconst dX2_box_13 ?_
  refine g_iconst dX2_box_14 ?_
  refine g_callS3I (d' := 2) lk_X2_149 (rm_lt (by decide) (by decide)) (Nat.le_of_ble_eq_true rfl) dX2_box_15 ?_
  refine mo_in (by omega) (by omega) (by omega) (fun x15 hx15 => ?_)
  refine g_if_ne (tgt := 27) dX2_box_18 (by decide) (by omega) (fun h18 => ?_) (fun h18 => ?_)
  · obtain ⟨hW, hD⟩ := hP.get (by omega)
    have hn := hW.n
    have h2 := hD.box (b := b) (by omega) (by omega)
    refine g_il2 dX2_box_27 ?_
    refine g_iconst dX2_box_28 ?_
    refine g_icmp_ge (tgt := 39) dX2_box_29 (by decide) (by omega) (fun h29 => ?_) (fun h29 => ?_)
    · refine g_il2 dX2_box_39 ?_
      refine g_iconst dX2_box_40 ?_
      refine g_icmp_ne (tgt := 56) dX2_box_41 (by decide) (by omega) (fun h41 => ?_) (fun h41 => ?_)
      · refine g_al0 dX2_box_56 ?_
        refine f_getA 17 fk_X2_26 rfl hM.sh (fun _ _ => rfl) hM.f17 dX2_box_57 ?_
        refine g_bipush dX2_box_60 (by decide) (by decide) ?_
        refine g_il1 dX2_box_62 ?_
        refine g_iadd dX2_box_63 ?_
        refine g_ialv hM.a17 (by omega) (hM.ss _) dX2_box_64 ?_
        refine g_is3 dX2_box_65 (by decide) rfl ?_
        refine g_il3 dX2_box_66 ?_
        refine g_if_ne (tgt := 75) dX2_box_67 (by decide) (by omega) (fun h67 => ?_) (fun h67 => ?_)
        · refine g_il3 dX2_box_75 ?_
          refine g_iconst dX2_box_76 ?_
          refine g_isub dX2_box_77 ?_
          exact g_iret rfl dX2_box_78 ⟨_, rfl, hQ _ _ _ (by unfold qBox_; rw [if_pos (by omega), if_neg (by omega), if_neg (by omega)]; unfold un_; rw [if_neg h67]) hM hE⟩
        refine g_bipush dX2_box_70 (by decide) (by decide) ?_
        refine g_goto (tgt := 78) dX2_box_72 (by decide) ?_
        exact g_iret rfl dX2_box_78 ⟨_, rfl, hQ _ _ _ (by unfold qBox_; rw [if_pos (by omega), if_neg (by omega), if_neg (by omega)]; unfold un_; rw [if_pos (by omega)]) hM hE⟩
      refine g_al0 dX2_box_44 ?_
      refine f_getA 17 fk_X2_26 rfl hM.sh (fun _ _ => rfl) hM.f17 dX2_box_45 ?_
      refine g_bipush dX2_box_48 (by decide) (by decide) ?_
      refine g_il1 dX2_box_50 ?_
      refine g_iadd dX2_box_51 ?_
      refine g_ialv hM.a17 (by omega) (hM.ss _) dX2_box_52 ?_
      refine g_goto (tgt := 65) dX2_box_53 (by decide) ?_
      refine g_is3 dX2_box_65 (by decide) rfl ?_
      refine g_il3 dX2_box_66 ?_
      refine g_if_ne (tgt := 75) dX2_box_67 (by decide) (by omega) (fun h67 => ?_) (fun h67 => ?_)
      · refine g_il3 dX2_box_75 ?_
        refine g_iconst dX2_box_76 ?_
        refine g_isub dX2_box_77 ?_
        exact g_iret rfl dX2_box_78 ⟨_, rfl, hQ _ _ _ (by unfold qBox_; rw [if_pos (by omega), if_neg (by omega), if_pos (by omega)]; unfold un_; rw [if_neg h67]) hM hE⟩
      refine g_bipush dX2_box_70 (by decide) (by decide) ?_
      refine g_goto (tgt := 78) dX2_box_72 (by decide) ?_
      exact g_iret rfl dX2_box_78 ⟨_, rfl, hQ _ _ _ (by unfold qBox_; rw [if_pos (by omega), if_neg (by omega), if_pos (by omega)]; unfold un_; rw [if_pos (by omega)]) hM hE⟩
    refine g_al0 dX2_box_32 ?_
    refine g_il1 dX2_box_33 ?_
    refine g_il2 dX2_box_34 ?_
    refine g_callV2I (d' := 2) lk_X2_262 hM.sh rfl (rm_lt (by decide) (by decide)) (Nat.le_of_ble_eq_true rfl) dX2_box_35 ?_
    refine mo_ofBox hM (by omega) (by omega) ?_
    exact g_iret rfl dX2_box_38 ⟨_, rfl, hQ _ _ _ (by unfold qBox_; rw [if_pos (by omega), if_pos (by omega)]) hM hE⟩
  refine g_al0 dX2_box_21 ?_
  refine g_iconst dX2_box_22 ?_
  refine g_callV1I (d' := 2) lk_X2_170 hM.sh rfl (rm_lt (by decide) (by decide)) (Nat.le_of_ble_eq_true rfl) dX2_box_23 ?_
  refine mo_no hM hE (fun σ2 hM hE => ?_)
  exact g_iret rfl dX2_box_26 ⟨_, rfl, hQ _ _ _ (by unfold qBox_; rw [if_neg (by omega)]) hM hE⟩
theorem mo_length {p : Int} {i : Int} {Q : Int → JH → Prop} (hM : MD_ G m σ r s) (hp : iv_ σ m 14 = p) (hP : MP_ p r s) (hi : -2147483648 ≤ i ∧ i < 2147483648)
    (hQ : ∀ (x t : Int) (σ' : JH), qLength_ p r i = (x, t) → MD_ G m σ' r s → ME_ m σ σ' t → Q x σ') : CallI_ G 4 yX2_length cX2_length 2 (some .int) [A_ (some m), I_ i] σ Q := by
  refine call_go [some (A_ (some m)), some (I_ i)] (by decide) (Nat.le_of_ble_eq_true rfl) rfl ?_
  have hp01 := hP.b
  refine g_al0 dX2_length_0 ?_
  refine g_callV0V (d' := 2) lk_X2_167 hM.sh rfl (rm_lt (by decide) (by decide)) (Nat.le_of_ble_eq_true rfl) dX2_length_1 ?_
  refine mo_good hM (fun σ1 hM hE => ?_)
  have hp := hE.p14.trans hp
  refine g_al0 dX2_length_4 ?_
  refine g_il1 dX2_length_5 ?_
  refine g_callV1I (d' := 3) lk_X2_277 hM.sh rfl (rm_lt (by decide) (by decide)) (Nat.le_of_ble_eq_true rfl) dX2_length_6 ?_
  refine mo_isIsland hM hp hP.rw (by omega) (fun x6 hx6 => ?_)
  unfold isI_ at hx6
  refine g_if_eq (tgt := 20) dX2_length_9 (by decide) (by omega) (fun h9 => ?_) (fun h9 => ?_)
  · refine g_al0 dX2_length_20 ?_
    refine g_iconst dX2_length_21 ?_
    refine g_callV1I (d' := 2) lk_X2_170 hM.sh rfl (rm_lt (by decide) (by decide)) (Nat.le_of_ble_eq_true rfl) dX2_length_22 ?_
    refine mo_no hM hE (fun σ2 hM hE => ?_)
    exact g_iret rfl dX2_length_25 ⟨_, rfl, hQ _ _ _ (by unfold qLength_; rw [if_neg (by omega)]) hM hE⟩
  refine g_al0 dX2_length_12 ?_
  refine g_il1 dX2_length_13 ?_
  refine g_callV1I (d' := 2) lk_X2_265 hM.sh rfl (rm_lt (by decide) (by decide)) (Nat.le_of_ble_eq_true rfl) dX2_length_14 ?_
  obtain ⟨hW, hD⟩ := hP.get (by omega)
  have hn := hW.n
  refine mo_songLong hM (by omega) ?_
  refine g_goto (tgt := 25) dX2_length_17 (by decide) ?_
  exact g_iret rfl dX2_length_25 ⟨_, rfl, hQ _ _ _ (by unfold qLength_; rw [if_pos (by omega)]) hM hE⟩
theorem mo_note {p : Int} {i k : Int} {Q : Int → JH → Prop} (hM : MD_ G m σ r s) (hp : iv_ σ m 14 = p) (hP : MP_ p r s) (hi : -2147483648 ≤ i ∧ i < 2147483648) (hk : -2147483648 ≤ k ∧ k < 2147483648)
    (hQ : ∀ (x t : Int) (σ' : JH), qNote_ p r s i k = (x, t) → MD_ G m σ' r s → ME_ m σ σ' t → Q x σ') : CallI_ G 4 yX2_note cX2_note 3 (some .int) [A_ (some m), I_ i, I_ k] σ Q := by
  refine call_go [some (A_ (some m)), some (I_ i), some (I_ k)] (by decide) (Nat.le_of_ble_eq_true rfl) rfl ?_
  have hp01 := hP.b
  refine g_al0 dX2_note_0 ?_
  refine g_callV0V (d' := 2) lk_X2_167 hM.sh rfl (rm_lt (by decide) (by decide)) (Nat.le_of_ble_eq_true rfl) dX2_note_1 ?_
  refine mo_good hM (fun σ1 hM hE => ?_)
  have hp := hE.p14.trans hp
  refine g_al0 dX2_note_4 ?_
  refine g_il1 dX2_note_5 ?_
  refine g_callV1I (d' := 3) lk_X2_277 hM.sh rfl (rm_lt (by decide) (by decide)) (Nat.le_of_ble_eq_true rfl) dX2_note_6 ?_
  refine mo_isIsland hM hp hP.rw (by omega) (fun x6 hx6 => ?_)
  unfold isI_ at hx6
  refine g_if_eq (tgt := 42) dX2_note_9 (by decide) (by omega) (fun h9 => ?_) (fun h9 => ?_)
  · refine g_al0 dX2_note_42 ?_
    refine g_iconst dX2_note_43 ?_
    refine g_callV1I (d' := 2) lk_X2_170 hM.sh rfl (rm_lt (by decide) (by decide)) (Nat.le_of_ble_eq_true rfl) dX2_note_44 ?_
    refine mo_no hM hE (fun σ2 hM hE => ?_)
    exact g_iret rfl dX2_note_47 ⟨_, rfl, hQ _ _ _ (by unfold qNote_; rw [if_neg (by omega)]) hM hE⟩
  refine g_il2 dX2_note_12 ?_
  refine g_iconst dX2_note_13 ?_
  refine g_al0 dX2_note_14 ?_
  refine g_il1 dX2_note_15 ?_
  refine g_callV1I (d' := 2) lk_X2_265 hM.sh rfl (rm_lt (by decide) (by decide)) (Nat.le_of_ble_eq_true rfl) dX2_note_16 ?_
  obtain ⟨hW, hD⟩ := hP.get (by omega)
  have hn := hW.n
  have hd := hD.n
  have hl := hW.len (i := i) (by omega) (by omega)
  refine mo_songLong hM (by omega) ?_
  refine g_iconst dX2_note_19 ?_
  refine g_isub dX2_note_20 ?_
  refine g_callS3I (d' := 2) lk_X2_149 (rm_lt (by decide) (by decide)) (Nat.le_of_ble_eq_true rfl) dX2_note_21 ?_
  refine mo_in (by omega) (by omega) (by omega) (fun x21 hx21 => ?_)
  refine g_if_eq (tgt := 42) dX2_note_24 (by decide) (by omega) (fun h24 => ?_) (fun h24 => ?_)
  · refine g_al0 dX2_note_42 ?_
    refine g_iconst dX2_note_43 ?_
    refine g_callV1I (d' := 2) lk_X2_170 hM.sh rfl (rm_lt (by decide) (by decide)) (Nat.le_of_ble_eq_true rfl) dX2_note_44 ?_
    refine mo_no hM hE (fun σ2 hM hE => ?_)
    exact g_iret rfl dX2_note_47 ⟨_, rfl, hQ _ _ _ (by unfold qNote_; rw [if_neg (by omega)]) hM hE⟩
  refine g_al0 dX2_note_27 ?_
  refine g_il1 dX2_note_28 ?_
  refine g_il2 dX2_note_29 ?_
  refine g_al0 dX2_note_30 ?_
  refine f_getA 17 fk_X2_26 rfl hM.sh (fun _ _ => rfl) hM.f17 dX2_note_31 ?_
  refine g_iconst dX2_note_34 ?_
  refine g_ialv hM.a17 (by omega) (hM.ss _) dX2_note_35 ?_
  refine g_callV3I (d' := 2) lk_X2_280 hM.sh rfl (rm_lt (by decide) (by decide)) (Nat.le_of_ble_eq_true rfl) dX2_note_36 ?_
  refine mo_noteIn hM hW (by omega) (by omega) (by omega) ?_
  refine g_goto (tgt := 47) dX2_note_39 (by decide) ?_
  exact g_iret rfl dX2_note_47 ⟨_, rfl, hQ _ _ _ (by unfold qNote_; rw [if_pos (by omega)]) hM hE⟩
theorem mo_sung {p : Int} {b k : Int} {Q : Int → JH → Prop} (hM : MD_ G m σ r s) (hp : iv_ σ m 14 = p) (hP : MP_ p r s) (hb : -2147483648 ≤ b ∧ b < 2147483648) (hk : -2147483648 ≤ k ∧ k < 2147483648)
    (hQ : ∀ (x t : Int) (σ' : JH), qSung_ p r s b k = (x, t) → MD_ G m σ' r s → ME_ m σ σ' t → Q x σ') : CallI_ G 4 yX2_sung cX2_sung 3 (some .int) [A_ (some m), I_ b, I_ k] σ Q := by
  refine call_go [some (A_ (some m)), some (I_ b), some (I_ k)] (by decide) (Nat.le_of_ble_eq_true rfl) rfl ?_
  have hp01 := hP.b
  refine g_al0 dX2_sung_0 ?_
  refine g_callV0V (d' := 2) lk_X2_167 hM.sh rfl (rm_lt (by decide) (by decide)) (Nat.le_of_ble_eq_true rfl) dX2_sung_1 ?_
  refine mo_good hM (fun σ1 hM hE => ?_)
  have hp := hE.p14.trans hp
  refine g_al0 dX2_sung_4 ?_
  refine g_il1 dX2_sung_5 ?_
  refine g_callV1I (d' := 3) lk_X2_274 hM.sh rfl (rm_lt (by decide) (by decide)) (Nat.le_of_ble_eq_true rfl) dX2_sung_6 ?_
  refine mo_isBox hM hp hP.rw (by omega) (fun x6 hx6 => ?_)
  unfold isB_ at hx6
  refine g_if_eq (tgt := 44) dX2_sung_9 (by decide) (by omega) (fun h9 => ?_) (fun h9 => ?_)
  · refine g_al0 dX2_sung_44 ?_
    refine g_iconst dX2_sung_45 ?_
    refine g_callV1I (d' := 2) lk_X2_170 hM.sh rfl (rm_lt (by decide) (by decide)) (Nat.le_of_ble_eq_true rfl) dX2_sung_46 ?_
    refine mo_no hM hE (fun σ2 hM hE => ?_)
    exact g_iret rfl dX2_sung_49 ⟨_, rfl, hQ _ _ _ (by unfold qSung_; rw [if_neg (by omega)]) hM hE⟩
  refine g_il2 dX2_sung_12 ?_
  refine g_iconst dX2_sung_13 ?_
  refine g_al0 dX2_sung_14 ?_
  refine g_il1 dX2_sung_15 ?_
  refine g_callV1I (d' := 3) lk_X2_284 hM.sh rfl (rm_lt (by decide) (by decide)) (Nat.le_of_ble_eq_true rfl) dX2_sung_16 ?_
  obtain ⟨hW, hD⟩ := hP.get (by omega)
  have hn := hW.n
  have hl := bl_in hW (b := b) (by omega) (by omega)
  refine mo_boxLong hM hW (by omega) ?_
  refine g_iconst dX2_sung_19 ?_
  refine g_isub dX2_sung_20 ?_
  refine g_callS3I (d' := 2) lk_X2_149 (rm_lt (by decide) (by decide)) (Nat.le_of_ble_eq_true rfl) dX2_sung_21 ?_
  refine mo_in (by omega) (by omega) (by omega) (fun x21 hx21 => ?_)
  refine g_if_eq (tgt := 44) dX2_sung_24 (by decide) (by omega) (fun h24 => ?_) (fun h24 => ?_)
  · refine g_al0 dX2_sung_44 ?_
    refine g_iconst dX2_sung_45 ?_
    refine g_callV1I (d' := 2) lk_X2_170 hM.sh rfl (rm_lt (by decide) (by decide)) (Nat.le_of_ble_eq_true rfl) dX2_sung_46 ?_
    refine mo_no hM hE (fun σ2 hM hE => ?_)
    exact g_iret rfl dX2_sung_49 ⟨_, rfl, hQ _ _ _ (by unfold qSung_; rw [if_neg (by omega)]) hM hE⟩
  refine g_al0 dX2_sung_27 ?_
  refine f_getA 17 fk_X2_26 rfl hM.sh (fun _ _ => rfl) hM.f17 dX2_sung_28 ?_
  refine g_bipush dX2_sung_31 (by decide) (by decide) ?_
  refine g_bipush dX2_sung_33 (by decide) (by decide) ?_
  refine g_il1 dX2_sung_35 ?_
  refine g_imul dX2_sung_36 ?_
  refine g_iadd dX2_sung_37 ?_
  refine g_il2 dX2_sung_38 ?_
  refine g_iadd dX2_sung_39 ?_
  refine g_ialv hM.a17 (by omega) (hM.ss _) dX2_sung_40 ?_
  refine g_goto (tgt := 49) dX2_sung_41 (by decide) ?_
  exact g_iret rfl dX2_sung_49 ⟨_, rfl, hQ _ _ _ (by unfold qSung_; rw [if_pos (by omega)]) hM hE⟩
end
