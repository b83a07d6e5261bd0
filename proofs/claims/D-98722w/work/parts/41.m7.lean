/-! THE REFERENCE: whales that bring boxes. Written by mod/m41.py -/
set_option maxRecDepth 100000
section
variable {G : JG} {m : Nat} {σ : JH} {r s : Int → Int}
/-- what lays writes -/
def mq_ (m : Nat) (b : Nat) (k : Int) : Prop := (m + 9 ≤ b ∧ b ≤ m + 10) ∨ (b = m ∧ (k = 26 ∨ k = 27))
theorem Fr_.mq {m : Nat} {σ σ' : JH} (h : Fr_ (mz_ m) σ σ') : Fr_ (mq_ m) σ σ' := h.mono fun _ _ q => Or.inl q
theorem Fr_.ms2 {m : Nat} {σ σ' : JH} (h : Fr_ (mq_ m) σ σ') : Fr_ (ms_ m) σ σ' := h.mono fun _ _ q => by unfold mq_ at q; unfold ms_; omega
theorem lcmp_0 {a : Int} (h : 0 ≤ a ∧ a < 9223372036854775808) : lcmp_ a 0 = if a = 0 then 0 else 1 := by
  unfold lcmp_ lg_cmp
  have e1 : (Int64.ofInt a).toInt = a := Int64.toInt_ofInt_of_le (by omega) (by omega)
  have e0 : (Int64.ofInt 0).toInt = 0 := Int64.toInt_ofInt_of_le (by omega) (by omega)
  by_cases ha : a = 0
  · subst ha; rfl
  · rw [if_pos (show Int64.ofInt a > Int64.ofInt 0 from Int64.lt_iff_toInt_lt.mpr (by rw [e1, e0]; omega)), if_neg ha]; rfl
theorem gcd_step {x y : Int} (hx : 0 ≤ x) (hy : 0 < y) : Int.gcd y (x % y) = Int.gcd x y := by
  obtain ⟨a, rfl⟩ := Int.eq_ofNat_of_zero_le hx
  obtain ⟨b, rfl⟩ := Int.eq_ofNat_of_zero_le (Int.le_of_lt hy)
  show Int.gcd (b : Int) (((a % b : Nat)) : Int) = Int.gcd (a : Int) (b : Int)
  rw [Int.gcd_natCast_natCast, Int.gcd_natCast_natCast, Nat.gcd_comm a b, Nat.gcd_rec b a, Nat.gcd_comm]
theorem mo_arrivalOf {kd fr to dy : Int} {Q : Int → JH → Prop} (hM : MD_ G m σ r s) (hW : RW_ r) (hkd : 0 ≤ kd ∧ kd ≤ 3) (hf : 0 ≤ fr ∧ fr < r 4) (ht : 0 ≤ to ∧ to < r 4) (hd : 0 ≤ dy ∧ dy ≤ 200000)
    (hQ : ∀ σ', MD_ G m σ' r s → Fr_ (mz_ m) σ σ' → Q (av1_ r s kd fr to dy) σ') : CallI_ G 7 yX2_arrivalOf cX2_arrivalOf 5 (some .int) [A_ (some m), I_ kd, I_ fr, I_ to, I_ dy] σ Q := by
  refine call_go [some (A_ (some m)), some (I_ kd), some (I_ fr), some (I_ to), some (I_ dy)] (by decide) (Nat.le_of_ble_eq_true rfl) rfl ?_
  have hn := hW.n
  refine g_al0 dX2_arrivalOf_0 ?_
  refine g_il1 dX2_arrivalOf_1 ?_
  refine g_il2 dX2_arrivalOf_2 ?_
  refine g_il4 dX2_arrivalOf_3 ?_
  refine g_callV3V (d' := 6) lk_X2_349 hM.sh rfl (rm_lt (by decide) (by decide)) (Nat.le_of_ble_eq_true rfl) dX2_arrivalOf_5 ?_
  refine mo_layDays hM hW hkd hf hd (fun σ' hM hF hX => ?_)
  have he := er_in (s := s) hW kd fr hd to
  refine g_al0 dX2_arrivalOf_8 ?_
  refine f_getA 24 fk_X2_38 rfl hM.sh (fun _ _ => rfl) hM.f24 dX2_arrivalOf_9 ?_
  refine g_il3 dX2_arrivalOf_12 ?_
  refine g_ialv hM.a24 (by omega) (hX _ ht.1 ht.2) dX2_arrivalOf_13 ?_
  refine g_ldcw (x := 1000000) q2130 dX2_arrivalOf_14 (by decide) ?_
  refine g_icmp_ne (tgt := 25) dX2_arrivalOf_17 (by decide) (by omega) (fun h17 => ?_) (fun h17 => ?_)
  · refine g_al0 dX2_arrivalOf_25 ?_
    refine f_getA 24 fk_X2_38 rfl hM.sh (fun _ _ => rfl) hM.f24 dX2_arrivalOf_26 ?_
    refine g_il3 dX2_arrivalOf_29 ?_
    refine g_ialv hM.a24 (by omega) (hX _ ht.1 ht.2) dX2_arrivalOf_30 ?_
    exact g_iret rfl dX2_arrivalOf_31 ⟨_, rfl, by have q := hQ _ hM hF; unfold av1_ at q; rw [if_neg h17] at q; exact q⟩
  refine g_bipush dX2_arrivalOf_20 (by decide) (by decide) ?_
  refine g_goto (tgt := 31) dX2_arrivalOf_22 (by decide) ?_
  exact g_iret rfl dX2_arrivalOf_31 ⟨_, rfl, by have q := hQ _ hM hF; unfold av1_ at q; rw [if_pos h17] at q; exact q⟩
theorem mo_arrival {p : Int} {w fr to d : Int} {Q : Int → JH → Prop} (hM : MD_ G m σ r s) (hp : iv_ σ m 14 = p) (hP : MP_ p r s) (hw : -2147483648 ≤ w ∧ w < 2147483648) (hfr : -2147483648 ≤ fr ∧ fr < 2147483648) (hto : -2147483648 ≤ to ∧ to < 2147483648) (hd : -2147483648 ≤ d ∧ d < 2147483648)
    (hQ : ∀ (x t : Int) (σ' : JH), qArrival_ p r s w fr to d = (x, t) → MD_ G m σ' r s → ME_ m σ σ' t → Q x σ') : CallI_ G 8 yX2_arrival cX2_arrival 5 (some .int) [A_ (some m), I_ w, I_ fr, I_ to, I_ d] σ Q := by
  refine call_go [some (A_ (some m)), some (I_ w), some (I_ fr), some (I_ to), some (I_ d)] (by decide) (Nat.le_of_ble_eq_true rfl) rfl ?_
  have hp01 := hP.b
  refine g_al0 dX2_arrival_0 ?_
  refine g_callV0V (d' := 2) lk_X2_167 hM.sh rfl (rm_lt (by decide) (by decide)) (Nat.le_of_ble_eq_true rfl) dX2_arrival_1 ?_
  refine mo_good hM (fun σ1 hM hE => ?_)
  have hp := hE.p14.trans hp
  refine g_al0 dX2_arrival_4 ?_
  refine g_il1 dX2_arrival_5 ?_
  refine g_callV1I (d' := 3) lk_X2_268 hM.sh rfl (rm_lt (by decide) (by decide)) (Nat.le_of_ble_eq_true rfl) dX2_arrival_6 ?_
  refine mo_isWhale hM hp hP.rw (by omega) (fun x6 hx6 => ?_)
  unfold isW_ at hx6
  refine g_if_eq (tgt := 28) dX2_arrival_9 (by decide) (by omega) (fun h9 => ?_) (fun h9 => ?_)
  · refine g_al0 dX2_arrival_28 ?_
    refine g_iconst dX2_arrival_29 ?_
    refine g_callV1I (d' := 2) lk_X2_170 hM.sh rfl (rm_lt (by decide) (by decide)) (Nat.le_of_ble_eq_true rfl) dX2_arrival_30 ?_
    refine mo_no hM hE (fun σ2 hM hE => ?_)
    exact g_iret rfl dX2_arrival_33 ⟨_, rfl, hQ _ _ _ (by unfold qArrival_; rw [if_neg (by omega)]) hM hE⟩
  refine g_al0 dX2_arrival_12 ?_
  refine g_il2 dX2_arrival_13 ?_
  refine g_callV1I (d' := 3) lk_X2_277 hM.sh rfl (rm_lt (by decide) (by decide)) (Nat.le_of_ble_eq_true rfl) dX2_arrival_14 ?_
  refine mo_isIsland hM hp hP.rw (by omega) (fun x14 hx14 => ?_)
  unfold isI_ at hx14
  refine g_if_eq (tgt := 28) dX2_arrival_17 (by decide) (by omega) (fun h17 => ?_) (fun h17 => ?_)
  · refine g_al0 dX2_arrival_28 ?_
    refine g_iconst dX2_arrival_29 ?_
    refine g_callV1I (d' := 2) lk_X2_170 hM.sh rfl (rm_lt (by decide) (by decide)) (Nat.le_of_ble_eq_true rfl) dX2_arrival_30 ?_
    refine mo_no hM hE (fun σ2 hM hE => ?_)
    exact g_iret rfl dX2_arrival_33 ⟨_, rfl, hQ _ _ _ (by unfold qArrival_; rw [if_neg (by omega)]) hM hE⟩
  refine g_al0 dX2_arrival_20 ?_
  refine g_il3 dX2_arrival_21 ?_
  refine g_callV1I (d' := 3) lk_X2_277 hM.sh rfl (rm_lt (by decide) (by decide)) (Nat.le_of_ble_eq_true rfl) dX2_arrival_22 ?_
  refine mo_isIsland hM hp hP.rw (by omega) (fun x22 hx22 => ?_)
  unfold isI_ at hx22
  refine g_if_ne (tgt := 34) dX2_arrival_25 (by decide) (by omega) (fun h25 => ?_) (fun h25 => ?_)
  · refine g_il4 dX2_arrival_34 ?_
    refine g_iconst dX2_arrival_36 ?_
    refine g_sipush dX2_arrival_37 (by decide) (by decide) ?_
    refine g_callS3I (d' := 2) lk_X2_149 (rm_lt (by decide) (by decide)) (Nat.le_of_ble_eq_true rfl) dX2_arrival_40 ?_
    obtain ⟨hW, hD⟩ := hP.get (by omega)
    have hn := hW.n
    have hwh := hW.whale (w := w) (by omega) (by omega)
    refine mo_in (by omega) (by omega) (by omega) (fun x40 hx40 => ?_)
    refine g_if_eq (tgt := 63) dX2_arrival_43 (by decide) (by omega) (fun h43 => ?_) (fun h43 => ?_)
    · refine g_al0 dX2_arrival_63 ?_
      refine g_iconst dX2_arrival_64 ?_
      refine g_callV1I (d' := 2) lk_X2_170 hM.sh rfl (rm_lt (by decide) (by decide)) (Nat.le_of_ble_eq_true rfl) dX2_arrival_65 ?_
      refine mo_no hM hE (fun σ2 hM hE => ?_)
      exact g_iret rfl dX2_arrival_68 ⟨_, rfl, hQ _ _ _ (by unfold qArrival_; rw [if_pos (by omega), if_neg (by omega)]) hM hE⟩
    refine g_al0 dX2_arrival_46 ?_
    refine g_al0 dX2_arrival_47 ?_
    refine g_il1 dX2_arrival_48 ?_
    refine g_iconst dX2_arrival_49 ?_
    refine g_callV2I (d' := 2) lk_X2_271 hM.sh rfl (rm_lt (by decide) (by decide)) (Nat.le_of_ble_eq_true rfl) dX2_arrival_50 ?_
    refine mo_ofWhale hM (by omega) (by omega) ?_
    rw [show 107 + 4 * w + 0 = 107 + 4 * w by omega]
    refine g_il2 dX2_arrival_53 ?_
    refine g_il3 dX2_arrival_54 ?_
    refine g_il4 dX2_arrival_55 ?_
    refine g_callV4I (d' := 7) lk_X2_352 hM.sh rfl (rm_lt (by decide) (by decide)) (Nat.le_of_ble_eq_true rfl) dX2_arrival_57 ?_
    refine mo_arrivalOf hM hW (by omega) (by omega) (by omega) (by omega) (fun σ2 hM hF => ?_)
    have hE := hE.fr hF.ms
    refine g_goto (tgt := 68) dX2_arrival_60 (by decide) ?_
    exact g_iret rfl dX2_arrival_68 ⟨_, rfl, hQ _ _ _ (by unfold qArrival_; rw [if_pos (by omega), if_pos (by omega)]) hM hE⟩
  refine g_al0 dX2_arrival_28 ?_
  refine g_iconst dX2_arrival_29 ?_
  refine g_callV1I (d' := 2) lk_X2_170 hM.sh rfl (rm_lt (by decide) (by decide)) (Nat.le_of_ble_eq_true rfl) dX2_arrival_30 ?_
  refine mo_no hM hE (fun σ2 hM hE => ?_)
  exact g_iret rfl dX2_arrival_33 ⟨_, rfl, hQ _ _ _ (by unfold qArrival_; rw [if_neg (by omega)]) hM hE⟩
theorem mo_lays {w b : Int} {Q : Int → JH → Prop} (hM : MD_ G m σ r s) (hW : RW_ r) (hD : DW_ r s) (hw : 0 ≤ w ∧ w < r 6) (hb : 0 ≤ b ∧ b < r 7)
    (hQ : ∀ (z : Int) σ', MD_ G m σ' r s → Fr_ (mq_ m) σ σ' → (z = 1 ∧ cy_ r s w b ∧ iv_ σ' m 27 = ar_ r s w b ∧ iv_ σ' m 26 = tk_ r s w b) ∨ (z = 0 ∧ ¬ cy_ r s w b) → Q z σ') : CallI_ G 8 yX2_lays cX2_lays 7 (some .boolean) [A_ (some m), I_ w, I_ b] σ Q := by
  refine call_go [some (A_ (some m)), some (I_ w), some (I_ b), none, none, none, none] (by decide) (Nat.le_of_ble_eq_true rfl) rfl ?_
  have hn := hW.n
  have hwh := hW.whale hw.1 hw.2
  have hbx := hW.box hb.1 hb.2
  have hdw := hD.whale (w := w) (by omega) (by omega)
  have hdb := hD.box (b := b) (by omega) (by omega)
  have hhn : hn_ r s b = -2 ∨ (0 ≤ hn_ r s b ∧ hn_ r s b < r 4) := hd_in (by omega)
  have hth := th_in hW hD (b := b) hw
  have htk := tk_in hW hD hw hb
  have har := ar_in hW hD hw hb
  have J27 : ∀ x : Int, x = mo_ (r (107 + 4 * w)) → 0 ≤ x ∧ x ≤ 99 → GoM_ G 8 yX2_lays cX2_lays 7 (some .boolean) σ (fun v σ' => ∃ x : Int, v = some (I_ x) ∧ Q x σ') 27 [some (A_ (some m)), some (I_ w), some (I_ b), some (I_ (r (107 + 4 * w))), none, none, none] [I_ x] σ := by
    intro x hx hx2
    refine g_is4 dX2_lays_27 (by decide) rfl ?_
    refine g_al0 dX2_lays_29 ?_
    refine g_il2 dX2_lays_30 ?_
    refine g_callV1I (d' := 6) lk_X2_295 hM.sh rfl (rm_lt (by decide) (by decide)) (Nat.le_of_ble_eq_true rfl) dX2_lays_31 ?_
    refine mo_heardNow hM hW hD hb ?_
    refine g_is5 dX2_lays_34 (by decide) rfl ?_
    refine g_al0 dX2_lays_36 ?_
    refine g_il2 dX2_lays_37 ?_
    refine g_iconst dX2_lays_38 ?_
    refine g_callV2I (d' := 2) lk_X2_262 hM.sh rfl (rm_lt (by decide) (by decide)) (Nat.le_of_ble_eq_true rfl) dX2_lays_39 ?_
    refine mo_ofBox hM (by omega) (by omega) ?_
    rw [show 127 + 4 * b + 2 = 129 + 4 * b by omega]
    refine g_il4 dX2_lays_42 ?_
    refine g_icmp_gt (tgt := 64) dX2_lays_44 (by decide) (by omega) (fun h44 => ?_) (fun h44 => ?_)
    · refine g_iconst dX2_lays_64 ?_
      exact g_zret rfl (by omega) dX2_lays_65 ⟨_, rfl, hQ _ _ hM Fr_.rf (Or.inr ⟨rfl, fun q => by have q1 := q.1.1; have q2 := q.1.2.1; have q3 := q.1.2.2.1; have q4 := q.1.2.2.2; have q5 := q.2; omega⟩)⟩
    refine g_al0 dX2_lays_47 ?_
    refine f_getA 17 fk_X2_26 rfl hM.sh (fun _ _ => rfl) hM.f17 dX2_lays_48 ?_
    refine g_bipush dX2_lays_51 (by decide) (by decide) ?_
    refine g_il2 dX2_lays_53 ?_
    refine g_iadd dX2_lays_54 ?_
    refine g_ialv hM.a17 (by omega) (hM.ss _) dX2_lays_55 ?_
    refine g_if_gt (tgt := 64) dX2_lays_56 (by decide) (by omega) (fun h56 => ?_) (fun h56 => ?_)
    · refine g_iconst dX2_lays_64 ?_
      exact g_zret rfl (by omega) dX2_lays_65 ⟨_, rfl, hQ _ _ hM Fr_.rf (Or.inr ⟨rfl, fun q => by have q1 := q.1.1; have q2 := q.1.2.1; have q3 := q.1.2.2.1; have q4 := q.1.2.2.2; have q5 := q.2; omega⟩)⟩
    refine g_il5 dX2_lays_59 ?_
    refine g_if_ge (tgt := 66) dX2_lays_61 (by decide) (by omega) (fun h61 => ?_) (fun h61 => ?_)
    · refine g_al0 dX2_lays_66 ?_
      refine g_il3 dX2_lays_67 ?_
      refine g_al0 dX2_lays_68 ?_
      refine f_getA 17 fk_X2_26 rfl hM.sh (fun _ _ => rfl) hM.f17 dX2_lays_69 ?_
      refine g_iconst dX2_lays_72 ?_
      refine g_il1 dX2_lays_73 ?_
      refine g_iadd dX2_lays_74 ?_
      refine g_ialv hM.a17 (by omega) (hM.ss _) dX2_lays_75 ?_
      refine g_al0 dX2_lays_76 ?_
      refine g_il2 dX2_lays_77 ?_
      refine g_iconst dX2_lays_78 ?_
      refine g_callV2I (d' := 2) lk_X2_262 hM.sh rfl (rm_lt (by decide) (by decide)) (Nat.le_of_ble_eq_true rfl) dX2_lays_79 ?_
      refine mo_ofBox hM (by omega) (by omega) ?_
      rw [show 127 + 4 * b + 0 = 127 + 4 * b by omega]
      refine g_al0 dX2_lays_82 ?_
      refine f_getA 17 fk_X2_26 rfl hM.sh (fun _ _ => rfl) hM.f17 dX2_lays_83 ?_
      refine g_bipush dX2_lays_86 (by decide) (by decide) ?_
      refine g_il1 dX2_lays_88 ?_
      refine g_iadd dX2_lays_89 ?_
      refine g_ialv hM.a17 (by omega) (hM.ss _) dX2_lays_90 ?_
      refine g_callV4I (d' := 7) lk_X2_352 hM.sh rfl (rm_lt (by decide) (by decide)) (Nat.le_of_ble_eq_true rfl) dX2_lays_91 ?_
      refine mo_arrivalOf hM hW (by omega) (by omega) (by omega) (by omega) (fun σ1 hM hF => ?_)
      replace hF := hF.mq
      refine g_top (show _ = th_ r s w b from rfl) ?_
      refine g_is6 dX2_lays_94 (by decide) rfl ?_
      refine g_il6 dX2_lays_96 ?_
      refine g_if_ge (tgt := 103) dX2_lays_98 (by decide) (by omega) (fun h98 => ?_) (fun h98 => ?_)
      · refine g_al0 dX2_lays_103 ?_
        refine g_il6 dX2_lays_104 ?_
        refine g_al0 dX2_lays_106 ?_
        refine g_il2 dX2_lays_107 ?_
        refine g_iconst dX2_lays_108 ?_
        refine g_callV2I (d' := 2) lk_X2_262 hM.sh rfl (rm_lt (by decide) (by decide)) (Nat.le_of_ble_eq_true rfl) dX2_lays_109 ?_
        refine mo_ofBox hM (by omega) (by omega) ?_
        rw [show 127 + 4 * b + 3 = 130 + 4 * b by omega]
        refine g_callS2I (d' := 2) lk_X2_355 (rm_lt (by decide) (by decide)) (Nat.le_of_ble_eq_true rfl) dX2_lays_112 ?_
        refine mo_later (by omega) (by omega) (fun x1 hx1 => ?_)
        have ex1 : x1 = tk_ r s w b := by
          unfold tk_
          split <;> omega
        subst ex1
        refine f_putI 26 fk_X2_358 rfl (nf_ rfl rfl) hM.sh hM.ge rfl dX2_lays_115 ?_
        have hM := hM.pi (a := m) (k := 26) (x := tk_ r s w b) ⟨by omega, by omega⟩
        have hF := hF.pi (a := m) (k := 26) (x := tk_ r s w b) (Or.inr ⟨rfl, Or.inl rfl⟩)
        refine g_al0 dX2_lays_118 ?_
        refine g_al0 dX2_lays_119 ?_
        refine g_il3 dX2_lays_120 ?_
        refine g_al0 dX2_lays_121 ?_
        refine g_il2 dX2_lays_122 ?_
        refine g_iconst dX2_lays_123 ?_
        refine g_callV2I (d' := 2) lk_X2_262 hM.sh rfl (rm_lt (by decide) (by decide)) (Nat.le_of_ble_eq_true rfl) dX2_lays_124 ?_
        refine mo_ofBox hM (by omega) (by omega) ?_
        rw [show 127 + 4 * b + 0 = 127 + 4 * b by omega]
        refine g_il5 dX2_lays_127 ?_
        refine g_al0 dX2_lays_129 ?_
        refine f_getv 26 fk_X2_358 rfl hM.sh (fun _ _ => rfl) (show iv_ (pi_ _ _ _ _) m 26 = tk_ r s w b by rw [iv_pi, if_pos ⟨rfl, rfl⟩]) dX2_lays_130 ?_
        refine g_callV4I (d' := 7) lk_X2_352 hM.sh rfl (rm_lt (by decide) (by decide)) (Nat.le_of_ble_eq_true rfl) dX2_lays_133 ?_
        refine mo_arrivalOf hM hW (by omega) (by omega) (by omega) (by omega) (fun σ2 hM hF2 => ?_)
        refine g_top (show _ = ar_ r s w b from rfl) ?_
        have e26 : iv_ σ2 m 26 = tk_ r s w b := (hF2.mf 26).trans (by rw [iv_pi, if_pos ⟨rfl, rfl⟩])
        refine f_putI 27 fk_X2_361 rfl (nf_ rfl rfl) hM.sh hM.ge rfl dX2_lays_136 ?_
        have hM := hM.pi (a := m) (k := 27) (x := ar_ r s w b) ⟨by omega, by omega⟩
        have hF := (hF.tr hF2.mq).pi (a := m) (k := 27) (x := ar_ r s w b) (Or.inr ⟨rfl, Or.inr rfl⟩)
        refine g_al0 dX2_lays_139 ?_
        refine f_getv 27 fk_X2_361 rfl hM.sh (fun _ _ => rfl) (show iv_ (pi_ _ _ _ _) m 27 = ar_ r s w b by rw [iv_pi, if_pos ⟨rfl, rfl⟩]) dX2_lays_140 ?_
        refine g_if_lt (tgt := 150) dX2_lays_143 (by decide) (by omega) (fun h143 => ?_) (fun h143 => ?_)
        · refine g_iconst dX2_lays_150 ?_
          exact g_zret rfl (by omega) dX2_lays_151 ⟨_, rfl, hQ _ _ hM hF (Or.inr ⟨rfl, fun q => by have q1 := q.1.1; have q2 := q.1.2.1; have q3 := q.1.2.2.1; have q4 := q.1.2.2.2; have q5 := q.2; omega⟩)⟩
        refine g_iconst dX2_lays_146 ?_
        refine g_goto (tgt := 151) dX2_lays_147 (by decide) ?_
        exact g_zret rfl (by omega) dX2_lays_151 ⟨_, rfl, hQ _ _ hM hF (Or.inl ⟨rfl, ⟨⟨by omega, by omega, by omega, by omega⟩, by omega⟩, by rw [iv_pi, if_pos ⟨rfl, rfl⟩], by rw [iv_pi, if_neg (by omega)]; exact e26⟩)⟩
      refine g_iconst dX2_lays_101 ?_
      exact g_zret rfl (by omega) dX2_lays_102 ⟨_, rfl, hQ _ _ hM hF (Or.inr ⟨rfl, fun q => by have q1 := q.1.1; have q2 := q.1.2.1; have q3 := q.1.2.2.1; have q4 := q.1.2.2.2; have q5 := q.2; omega⟩)⟩
    refine g_iconst dX2_lays_64 ?_
    exact g_zret rfl (by omega) dX2_lays_65 ⟨_, rfl, hQ _ _ hM Fr_.rf (Or.inr ⟨rfl, fun q => by have q1 := q.1.1; have q2 := q.1.2.1; have q3 := q.1.2.2.1; have q4 := q.1.2.2.2; have q5 := q.2; omega⟩)⟩
  refine g_al0 dX2_lays_0 ?_
  refine g_il1 dX2_lays_1 ?_
  refine g_iconst dX2_lays_2 ?_
  refine g_callV2I (d' := 2) lk_X2_271 hM.sh rfl (rm_lt (by decide) (by decide)) (Nat.le_of_ble_eq_true rfl) dX2_lays_3 ?_
  refine mo_ofWhale hM (by omega) (by omega) ?_
  rw [show 107 + 4 * w + 0 = 107 + 4 * w by omega]
  refine g_is3 dX2_lays_6 (by decide) rfl ?_
  refine g_il3 dX2_lays_7 ?_
  refine g_if_ne (tgt := 15) dX2_lays_8 (by decide) (by omega) (fun h8 => ?_) (fun h8 => ?_)
  · refine g_il3 dX2_lays_15 ?_
    refine g_iconst dX2_lays_16 ?_
    refine g_icmp_ne (tgt := 25) dX2_lays_17 (by decide) (by omega) (fun h17 => ?_) (fun h17 => ?_)
    · refine g_bipush dX2_lays_25 (by decide) (by decide) ?_
      exact J27 _ (by unfold mo_; rw [if_neg (by omega), if_neg (by omega)]) (by omega)
    refine g_bipush dX2_lays_20 (by decide) (by decide) ?_
    refine g_goto (tgt := 27) dX2_lays_22 (by decide) ?_
    exact J27 _ (by unfold mo_; rw [if_neg (by omega), if_pos (by omega)]) (by omega)
  refine g_iconst dX2_lays_11 ?_
  refine g_goto (tgt := 27) dX2_lays_12 (by decide) ?_
  exact J27 _ (by unfold mo_; rw [if_pos (by omega)]) (by omega)
theorem mo_bringsOf {w b : Int} {Q : Int → JH → Prop} (hM : MD_ G m σ r s) (hW : RW_ r) (hD : DW_ r s) (hw : 0 ≤ w ∧ w < r 6) (hb : 0 ≤ b ∧ b < r 7)
    (hQ : ∀ σ', MD_ G m σ' r s → Fr_ (mq_ m) σ σ' → Q (bg_ r s w b) σ') : CallI_ G 9 yX2_bringsOf cX2_bringsOf 3 (some .int) [A_ (some m), I_ w, I_ b] σ Q := by
  refine call_go [some (A_ (some m)), some (I_ w), some (I_ b)] (by decide) (Nat.le_of_ble_eq_true rfl) rfl ?_
  have hn := hW.n
  refine g_al0 dX2_bringsOf_0 ?_
  refine g_il1 dX2_bringsOf_1 ?_
  refine g_il2 dX2_bringsOf_2 ?_
  refine g_callV2I (d' := 8) lk_X2_364 hM.sh rfl (rm_lt (by decide) (by decide)) (Nat.le_of_ble_eq_true rfl) dX2_bringsOf_3 ?_
  refine mo_lays hM hW hD hw hb (fun z σ1 hM hF hz => ?_)
  refine g_if_eq (tgt := 23) dX2_bringsOf_6 (by decide) (by omega) (fun h6 => ?_) (fun h6 => ?_)
  · refine g_bipush dX2_bringsOf_23 (by decide) (by decide) ?_
    exact g_iret rfl dX2_bringsOf_25 ⟨_, rfl, by have q := hQ _ hM hF; unfold bg_ at q; rw [if_neg (by rcases hz with q | q; (omega); (exact q.2))] at q; exact q⟩
  refine g_al0 dX2_bringsOf_9 ?_
  refine f_getv 27 fk_X2_361 rfl hM.sh (fun _ _ => rfl) (show iv_ σ1 m 27 = ar_ r s w b by rcases hz with q | q; (exact q.2.2.1); (omega)) dX2_bringsOf_10 ?_
  refine g_al0 dX2_bringsOf_13 ?_
  refine g_il1 dX2_bringsOf_14 ?_
  refine g_iconst dX2_bringsOf_15 ?_
  refine g_callV2I (d' := 2) lk_X2_271 hM.sh rfl (rm_lt (by decide) (by decide)) (Nat.le_of_ble_eq_true rfl) dX2_bringsOf_16 ?_
  refine mo_ofWhale hM (by omega) (by omega) ?_
  rw [show 107 + 4 * w + 2 = 109 + 4 * w by omega]
  refine g_iadd dX2_bringsOf_19 ?_
  refine g_goto (tgt := 25) dX2_bringsOf_20 (by decide) ?_
  exact g_iret rfl dX2_bringsOf_25 ⟨_, rfl, by have q := hQ _ hM hF; unfold bg_ at q; rw [if_pos (by rcases hz with q | q; (exact q.2.1); (omega))] at q; exact q⟩
theorem mo_brings {p : Int} {w b : Int} {Q : Int → JH → Prop} (hM : MD_ G m σ r s) (hp : iv_ σ m 14 = p) (hP : MP_ p r s) (hw : -2147483648 ≤ w ∧ w < 2147483648) (hb : -2147483648 ≤ b ∧ b < 2147483648)
    (hQ : ∀ (x t : Int) (σ' : JH), qBrings_ p r s w b = (x, t) → MD_ G m σ' r s → ME_ m σ σ' t → Q x σ') : CallI_ G 10 yX2_brings cX2_brings 3 (some .int) [A_ (some m), I_ w, I_ b] σ Q := by
  refine call_go [some (A_ (some m)), some (I_ w), some (I_ b)] (by decide) (Nat.le_of_ble_eq_true rfl) rfl ?_
  have hp01 := hP.b
  refine g_al0 dX2_brings_0 ?_
  refine g_callV0V (d' := 2) lk_X2_167 hM.sh rfl (rm_lt (by decide) (by decide)) (Nat.le_of_ble_eq_true rfl) dX2_brings_1 ?_
  refine mo_good hM (fun σ1 hM hE => ?_)
  have hp := hE.p14.trans hp
  refine g_al0 dX2_brings_4 ?_
  refine g_il1 dX2_brings_5 ?_
  refine g_callV1I (d' := 3) lk_X2_268 hM.sh rfl (rm_lt (by decide) (by decide)) (Nat.le_of_ble_eq_true rfl) dX2_brings_6 ?_
  refine mo_isWhale hM hp hP.rw (by omega) (fun x6 hx6 => ?_)
  unfold isW_ at hx6
  refine g_if_eq (tgt := 29) dX2_brings_9 (by decide) (by omega) (fun h9 => ?_) (fun h9 => ?_)
  · refine g_al0 dX2_brings_29 ?_
    refine g_iconst dX2_brings_30 ?_
    refine g_callV1I (d' := 2) lk_X2_170 hM.sh rfl (rm_lt (by decide) (by decide)) (Nat.le_of_ble_eq_true rfl) dX2_brings_31 ?_
    refine mo_no hM hE (fun σ2 hM hE => ?_)
    exact g_iret rfl dX2_brings_34 ⟨_, rfl, hQ _ _ _ (by unfold qBrings_; rw [if_neg (by omega)]) hM hE⟩
  refine g_al0 dX2_brings_12 ?_
  refine g_il2 dX2_brings_13 ?_
  refine g_callV1I (d' := 3) lk_X2_274 hM.sh rfl (rm_lt (by decide) (by decide)) (Nat.le_of_ble_eq_true rfl) dX2_brings_14 ?_
  refine mo_isBox hM hp hP.rw (by omega) (fun x14 hx14 => ?_)
  unfold isB_ at hx14
  refine g_if_eq (tgt := 29) dX2_brings_17 (by decide) (by omega) (fun h17 => ?_) (fun h17 => ?_)
  · refine g_al0 dX2_brings_29 ?_
    refine g_iconst dX2_brings_30 ?_
    refine g_callV1I (d' := 2) lk_X2_170 hM.sh rfl (rm_lt (by decide) (by decide)) (Nat.le_of_ble_eq_true rfl) dX2_brings_31 ?_
    refine mo_no hM hE (fun σ2 hM hE => ?_)
    exact g_iret rfl dX2_brings_34 ⟨_, rfl, hQ _ _ _ (by unfold qBrings_; rw [if_neg (by omega)]) hM hE⟩
  refine g_al0 dX2_brings_20 ?_
  refine g_il1 dX2_brings_21 ?_
  refine g_il2 dX2_brings_22 ?_
  refine g_callV2I (d' := 9) lk_X2_367 hM.sh rfl (rm_lt (by decide) (by decide)) (Nat.le_of_ble_eq_true rfl) dX2_brings_23 ?_
  obtain ⟨hW, hD⟩ := hP.get (by omega)
  have hn := hW.n
  refine mo_bringsOf hM hW hD (by omega) (by omega) (fun σ2 hM hF => ?_)
  have hE := hE.fr hF.ms2
  refine g_goto (tgt := 34) dX2_brings_26 (by decide) ?_
  exact g_iret rfl dX2_brings_34 ⟨_, rfl, hQ _ _ _ (by unfold qBrings_; rw [if_pos (by omega)]) hM hE⟩
theorem mo_soonest {p : Int} {b : Int} {Q : Int → JH → Prop} (hM : MD_ G m σ r s) (hp : iv_ σ m 14 = p) (hP : MP_ p r s) (hb : -2147483648 ≤ b ∧ b < 2147483648)
    (hQ : ∀ (x t : Int) (σ' : JH), qSoonest_ p r s b = (x, t) → MD_ G m σ' r s → ME_ m σ σ' t → Q x σ') : CallI_ G 10 yX2_soonest cX2_soonest 4 (some .int) [A_ (some m), I_ b] σ Q := by
  refine call_go [some (A_ (some m)), some (I_ b), none, none] (by decide) (Nat.le_of_ble_eq_true rfl) rfl ?_
  have hp01 := hP.b
  refine g_al0 dX2_soonest_0 ?_
  refine g_callV0V (d' := 2) lk_X2_167 hM.sh rfl (rm_lt (by decide) (by decide)) (Nat.le_of_ble_eq_true rfl) dX2_soonest_1 ?_
  refine mo_good hM (fun σ1 hM hE => ?_)
  have hp := hE.p14.trans hp
  refine g_al0 dX2_soonest_4 ?_
  refine g_il1 dX2_soonest_5 ?_
  refine g_callV1I (d' := 3) lk_X2_274 hM.sh rfl (rm_lt (by decide) (by decide)) (Nat.le_of_ble_eq_true rfl) dX2_soonest_6 ?_
  refine mo_isBox hM hp hP.rw (by omega) (fun x6 hx6 => ?_)
  unfold isB_ at hx6
  refine g_if_ne (tgt := 18) dX2_soonest_9 (by decide) (by omega) (fun h9 => ?_) (fun h9 => ?_)
  · obtain ⟨hW, hD⟩ := hP.get (by omega)
    have hn := hW.n
    have L23 : ∀ (n : Nat) (σ' : JH) (a : Int) (w : Int), r 6 - w < (n : Int) → (MD_ G m σ' r s) → (ME_ m σ σ' 0) → (0 ≤ w) → (w ≤ r 6) → (a = -2 ∨ (0 ≤ a ∧ a < w)) → (a = iI_ (sof_ r s b) (-2) w) → GoM_ G 10 yX2_soonest cX2_soonest 4 (some .int) σ (fun v σ' => ∃ x : Int, v = some (I_ x) ∧ Q x σ') 23 [some (A_ (some m)), some (I_ b), some (I_ a), some (I_ w)] [] σ' := by
      intro n
      induction n with
      | zero => intro σ' a w hn hM hE h0 h1 ha hv; exact absurd hn (by omega)
      | succ n ih =>
        intro σ' a w hn hM hE h0 h1 ha hv
        refine g_il3 dX2_soonest_23 ?_
        refine g_al0 dX2_soonest_24 ?_
        refine f_getA 15 fk_X2_20 rfl hM.sh (fun _ _ => rfl) hM.f15 dX2_soonest_25 ?_
        refine g_bipush dX2_soonest_28 (by decide) (by decide) ?_
        refine g_ialv hM.a15 (by omega) (hM.rr _) dX2_soonest_30 ?_
        refine g_icmp_ge (tgt := 70) dX2_soonest_31 (by decide) (by omega) (fun h31 => ?_) (fun h31 => ?_)
        · refine g_il2 dX2_soonest_70 ?_
          exact g_iret rfl dX2_soonest_71 ⟨_, rfl, hQ _ _ _ (by unfold qSoonest_; rw [if_pos (by omega), hv, show r 6 = w by omega]) hM hE⟩
        refine g_al0 dX2_soonest_34 ?_
        refine g_il3 dX2_soonest_35 ?_
        refine g_il1 dX2_soonest_36 ?_
        refine g_callV2I (d' := 9) lk_X2_367 hM.sh rfl (rm_lt (by decide) (by decide)) (Nat.le_of_ble_eq_true rfl) dX2_soonest_37 ?_
        refine mo_bringsOf hM hW hD (by omega) (by omega) (fun σ3 hM hF3 => ?_)
        have hE := hE.fr hF3.ms2
        have hb3 := bg_bd hW hD (w := w) (b := b) (by omega) (by omega)
        refine g_if_lt (tgt := 64) dX2_soonest_40 (by decide) (by omega) (fun h40 => ?_) (fun h40 => ?_)
        · refine g_inc3 dX2_soonest_64 (by decide) rfl ?_
          refine g_goto (tgt := 23) dX2_soonest_67 (by decide) ?_
          refine ih _ _ _ (by omega) hM hE (by omega) (by omega) (by omega) ?_
          rw [iI_s _ _ h0, ← hv]
          unfold sof_
          rw [if_neg (by omega)]
        refine g_il2 dX2_soonest_43 ?_
        refine g_if_lt (tgt := 62) dX2_soonest_44 (by decide) (by omega) (fun h44 => ?_) (fun h44 => ?_)
        · refine g_il3 dX2_soonest_62 ?_
          refine g_is2 dX2_soonest_63 (by decide) rfl ?_
          refine g_inc3 dX2_soonest_64 (by decide) rfl ?_
          refine g_goto (tgt := 23) dX2_soonest_67 (by decide) ?_
          refine ih _ _ _ (by omega) hM hE (by omega) (by omega) (by omega) ?_
          rw [iI_s _ _ h0, ← hv]
          unfold sof_
          rw [if_pos (by omega)]
        refine g_al0 dX2_soonest_47 ?_
        refine g_il3 dX2_soonest_48 ?_
        refine g_il1 dX2_soonest_49 ?_
        refine g_callV2I (d' := 9) lk_X2_367 hM.sh rfl (rm_lt (by decide) (by decide)) (Nat.le_of_ble_eq_true rfl) dX2_soonest_50 ?_
        refine mo_bringsOf hM hW hD (by omega) (by omega) (fun σ4 hM hF4 => ?_)
        have hE := hE.fr hF4.ms2
        have hb4 := bg_bd hW hD (w := w) (b := b) (by omega) (by omega)
        refine g_al0 dX2_soonest_53 ?_
        refine g_il2 dX2_soonest_54 ?_
        refine g_il1 dX2_soonest_55 ?_
        refine g_callV2I (d' := 9) lk_X2_367 hM.sh rfl (rm_lt (by decide) (by decide)) (Nat.le_of_ble_eq_true rfl) dX2_soonest_56 ?_
        refine mo_bringsOf hM hW hD (by omega) (by omega) (fun σ5 hM hF5 => ?_)
        have hE := hE.fr hF5.ms2
        have hb5 := bg_bd hW hD (w := a) (b := b) (by omega) (by omega)
        refine g_icmp_ge (tgt := 64) dX2_soonest_59 (by decide) (by omega) (fun h59 => ?_) (fun h59 => ?_)
        · refine g_inc3 dX2_soonest_64 (by decide) rfl ?_
          refine g_goto (tgt := 23) dX2_soonest_67 (by decide) ?_
          refine ih _ _ _ (by omega) hM hE (by omega) (by omega) (by omega) ?_
          rw [iI_s _ _ h0, ← hv]
          unfold sof_
          rw [if_neg (by omega)]
        refine g_il3 dX2_soonest_62 ?_
        refine g_is2 dX2_soonest_63 (by decide) rfl ?_
        refine g_inc3 dX2_soonest_64 (by decide) rfl ?_
        refine g_goto (tgt := 23) dX2_soonest_67 (by decide) ?_
        refine ih _ _ _ (by omega) hM hE (by omega) (by omega) (by omega) ?_
        rw [iI_s _ _ h0, ← hv]
        unfold sof_
        rw [if_pos (by omega)]
    refine g_bipush dX2_soonest_18 (by decide) (by decide) ?_
    refine g_is2 dX2_soonest_20 (by decide) rfl ?_
    refine g_iconst dX2_soonest_21 ?_
    refine g_is3 dX2_soonest_22 (by decide) rfl ?_
    exact L23 ((r 6).toNat + 1) _ _ _ (by omega) hM hE (by omega) (by omega) (by omega) rfl
  refine g_al0 dX2_soonest_12 ?_
  refine g_iconst dX2_soonest_13 ?_
  refine g_callV1I (d' := 2) lk_X2_170 hM.sh rfl (rm_lt (by decide) (by decide)) (Nat.le_of_ble_eq_true rfl) dX2_soonest_14 ?_
  refine mo_no hM hE (fun σ2 hM hE => ?_)
  exact g_iret rfl dX2_soonest_17 ⟨_, rfl, hQ _ _ _ (by unfold qSoonest_; rw [if_neg (by omega)]) hM hE⟩
theorem mo_surestBut {b bu : Int} {Q : Int → JH → Prop} (hM : MD_ G m σ r s) (hW : RW_ r) (hD : DW_ r s) (hb : 0 ≤ b ∧ b < r 7) (hbu : -2 ≤ bu ∧ bu < r 6)
    (hQ : ∀ σ', MD_ G m σ' r s → Fr_ (ms_ m) σ σ' → Q (sb_ r s b bu) σ') : CallI_ G 10 yX2_surestBut cX2_surestBut 5 (some .int) [A_ (some m), I_ b, I_ bu] σ Q := by
  refine call_go [some (A_ (some m)), some (I_ b), some (I_ bu), none, none] (by decide) (Nat.le_of_ble_eq_true rfl) rfl ?_
  have hn := hW.n
  have L6 : ∀ (n : Nat) (σ' : JH) (a : Int) (w : Int), r 6 - w < (n : Int) → (MD_ G m σ' r s) → (Fr_ (ms_ m) σ σ') → (0 ≤ w) → (w ≤ r 6) → (a = -2 ∨ (0 ≤ a ∧ a < w)) → (a = iI_ (sbf_ r s b bu) (-2) w) → GoM_ G 10 yX2_surestBut cX2_surestBut 5 (some .int) σ (fun v σ' => ∃ x : Int, v = some (I_ x) ∧ Q x σ') 6 [some (A_ (some m)), some (I_ b), some (I_ bu), some (I_ a), some (I_ w)] [] σ' := by
    intro n
    induction n with
    | zero => intro σ' a w hn hM hF h0 h1 ha hv; exact absurd hn (by omega)
    | succ n ih =>
      intro σ' a w hn hM hF h0 h1 ha hv
      refine g_il4 dX2_surestBut_6 ?_
      refine g_al0 dX2_surestBut_8 ?_
      refine f_getA 15 fk_X2_20 rfl hM.sh (fun _ _ => rfl) hM.f15 dX2_surestBut_9 ?_
      refine g_bipush dX2_surestBut_12 (by decide) (by decide) ?_
      refine g_ialv hM.a15 (by omega) (hM.rr _) dX2_surestBut_14 ?_
      refine g_icmp_ge (tgt := 63) dX2_surestBut_15 (by decide) (by omega) (fun h15 => ?_) (fun h15 => ?_)
      · refine g_il3 dX2_surestBut_63 ?_
        exact g_iret rfl dX2_surestBut_64 ⟨_, rfl, by have q := hQ _ hM hF; unfold sb_ at q; rw [show r 6 = w by omega, ← hv] at q; exact q⟩
      refine g_il4 dX2_surestBut_18 ?_
      refine g_il2 dX2_surestBut_20 ?_
      refine g_icmp_eq (tgt := 57) dX2_surestBut_21 (by decide) (by omega) (fun h21 => ?_) (fun h21 => ?_)
      · refine g_inc4 dX2_surestBut_57 (by decide) rfl ?_
        refine g_goto (tgt := 6) dX2_surestBut_60 (by decide) ?_
        refine ih _ _ _ (by omega) hM hF (by omega) (by omega) (by omega) ?_
        rw [iI_s _ _ h0, ← hv]
        unfold sbf_
        rw [if_neg (by omega)]
      refine g_al0 dX2_surestBut_24 ?_
      refine g_il4 dX2_surestBut_25 ?_
      refine g_il1 dX2_surestBut_27 ?_
      refine g_callV2I (d' := 9) lk_X2_367 hM.sh rfl (rm_lt (by decide) (by decide)) (Nat.le_of_ble_eq_true rfl) dX2_surestBut_28 ?_
      refine mo_bringsOf hM hW hD (by omega) (by omega) (fun σ3 hM hF3 => ?_)
      have hF := hF.tr hF3.ms2
      have hb3 := bg_bd hW hD (w := w) (b := b) (by omega) (by omega)
      have hwh := hW.whale (w := w) (by omega) (by omega)
      refine g_if_lt (tgt := 57) dX2_surestBut_31 (by decide) (by omega) (fun h31 => ?_) (fun h31 => ?_)
      · refine g_inc4 dX2_surestBut_57 (by decide) rfl ?_
        refine g_goto (tgt := 6) dX2_surestBut_60 (by decide) ?_
        refine ih _ _ _ (by omega) hM hF (by omega) (by omega) (by omega) ?_
        rw [iI_s _ _ h0, ← hv]
        unfold sbf_
        rw [if_neg (by omega)]
      refine g_il3 dX2_surestBut_34 ?_
      refine g_if_lt (tgt := 54) dX2_surestBut_35 (by decide) (by omega) (fun h35 => ?_) (fun h35 => ?_)
      · refine g_il4 dX2_surestBut_54 ?_
        refine g_is3 dX2_surestBut_56 (by decide) rfl ?_
        refine g_inc4 dX2_surestBut_57 (by decide) rfl ?_
        refine g_goto (tgt := 6) dX2_surestBut_60 (by decide) ?_
        refine ih _ _ _ (by omega) hM hF (by omega) (by omega) (by omega) ?_
        rw [iI_s _ _ h0, ← hv]
        unfold sbf_
        rw [if_pos (by omega)]
      refine g_al0 dX2_surestBut_38 ?_
      refine g_il4 dX2_surestBut_39 ?_
      refine g_iconst dX2_surestBut_41 ?_
      refine g_callV2I (d' := 2) lk_X2_271 hM.sh rfl (rm_lt (by decide) (by decide)) (Nat.le_of_ble_eq_true rfl) dX2_surestBut_42 ?_
      refine mo_ofWhale hM (by omega) (by omega) ?_
      rw [show 107 + 4 * w + 3 = 110 + 4 * w by omega]
      refine g_al0 dX2_surestBut_45 ?_
      refine g_il3 dX2_surestBut_46 ?_
      refine g_iconst dX2_surestBut_47 ?_
      refine g_callV2I (d' := 2) lk_X2_271 hM.sh rfl (rm_lt (by decide) (by decide)) (Nat.le_of_ble_eq_true rfl) dX2_surestBut_48 ?_
      have hwa := hW.whale (w := a) (by omega) (by omega)
      refine mo_ofWhale hM (by omega) (by omega) ?_
      rw [show 107 + 4 * a + 3 = 110 + 4 * a by omega]
      refine g_icmp_ge (tgt := 57) dX2_surestBut_51 (by decide) (by omega) (fun h51 => ?_) (fun h51 => ?_)
      · refine g_inc4 dX2_surestBut_57 (by decide) rfl ?_
        refine g_goto (tgt := 6) dX2_surestBut_60 (by decide) ?_
        refine ih _ _ _ (by omega) hM hF (by omega) (by omega) (by omega) ?_
        rw [iI_s _ _ h0, ← hv]
        unfold sbf_
        rw [if_neg (by omega)]
      refine g_il4 dX2_surestBut_54 ?_
      refine g_is3 dX2_surestBut_56 (by decide) rfl ?_
      refine g_inc4 dX2_surestBut_57 (by decide) rfl ?_
      refine g_goto (tgt := 6) dX2_surestBut_60 (by decide) ?_
      refine ih _ _ _ (by omega) hM hF (by omega) (by omega) (by omega) ?_
      rw [iI_s _ _ h0, ← hv]
      unfold sbf_
      rw [if_pos (by omega)]
  refine g_bipush dX2_surestBut_0 (by decide) (by decide) ?_
  refine g_is3 dX2_surestBut_2 (by decide) rfl ?_
  refine g_iconst dX2_surestBut_3 ?_
  refine g_is4 dX2_surestBut_4 (by decide) rfl ?_
  exact L6 ((r 6).toNat + 1) _ _ _ (by omega) hM Fr_.rf (by omega) (by omega) (by omega) rfl
theorem mo_surest {p : Int} {b : Int} {Q : Int → JH → Prop} (hM : MD_ G m σ r s) (hp : iv_ σ m 14 = p) (hP : MP_ p r s) (hb : -2147483648 ≤ b ∧ b < 2147483648)
    (hQ : ∀ (x t : Int) (σ' : JH), qSurest_ p r s b = (x, t) → MD_ G m σ' r s → ME_ m σ σ' t → Q x σ') : CallI_ G 11 yX2_surest cX2_surest 2 (some .int) [A_ (some m), I_ b] σ Q := by
  refine call_go [some (A_ (some m)), some (I_ b)] (by decide) (Nat.le_of_ble_eq_true rfl) rfl ?_
  have hp01 := hP.b
  refine g_al0 dX2_surest_0 ?_
  refine g_callV0V (d' := 2) lk_X2_167 hM.sh rfl (rm_lt (by decide) (by decide)) (Nat.le_of_ble_eq_true rfl) dX2_surest_1 ?_
  refine mo_good hM (fun σ1 hM hE => ?_)
  have hp := hE.p14.trans hp
  refine g_al0 dX2_surest_4 ?_
  refine g_il1 dX2_surest_5 ?_
  refine g_callV1I (d' := 3) lk_X2_274 hM.sh rfl (rm_lt (by decide) (by decide)) (Nat.le_of_ble_eq_true rfl) dX2_surest_6 ?_
  refine mo_isBox hM hp hP.rw (by omega) (fun x6 hx6 => ?_)
  unfold isB_ at hx6
  refine g_if_eq (tgt := 21) dX2_surest_9 (by decide) (by omega) (fun h9 => ?_) (fun h9 => ?_)
  · refine g_al0 dX2_surest_21 ?_
    refine g_iconst dX2_surest_22 ?_
    refine g_callV1I (d' := 2) lk_X2_170 hM.sh rfl (rm_lt (by decide) (by decide)) (Nat.le_of_ble_eq_true rfl) dX2_surest_23 ?_
    refine mo_no hM hE (fun σ2 hM hE => ?_)
    exact g_iret rfl dX2_surest_26 ⟨_, rfl, hQ _ _ _ (by unfold qSurest_; rw [if_neg (by omega)]) hM hE⟩
  refine g_al0 dX2_surest_12 ?_
  refine g_il1 dX2_surest_13 ?_
  refine g_iconst dX2_surest_14 ?_
  refine g_callV2I (d' := 10) lk_X2_370 hM.sh rfl (rm_lt (by decide) (by decide)) (Nat.le_of_ble_eq_true rfl) dX2_surest_15 ?_
  obtain ⟨hW, hD⟩ := hP.get (by omega)
  have hn := hW.n
  refine mo_surestBut hM hW hD (by omega) (by omega) (fun σ2 hM hF => ?_)
  have hE := hE.fr hF
  refine g_goto (tgt := 26) dX2_surest_18 (by decide) ?_
  exact g_iret rfl dX2_surest_26 ⟨_, rfl, hQ _ _ _ (by unfold qSurest_; rw [if_pos (by omega)]) hM hE⟩
theorem mo_by {p : Int} {b d : Int} {Q : Int → JH → Prop} (hM : MD_ G m σ r s) (hp : iv_ σ m 14 = p) (hP : MP_ p r s) (hb : -2147483648 ≤ b ∧ b < 2147483648) (hd : -2147483648 ≤ d ∧ d < 2147483648)
    (hQ : ∀ (x t : Int) (σ' : JH), qBy_ p r s b d = (x, t) → MD_ G m σ' r s → ME_ m σ σ' t → Q x σ') : CallI_ G 10 yX2_by cX2_by 5 (some .int) [A_ (some m), I_ b, I_ d] σ Q := by
  refine call_go [some (A_ (some m)), some (I_ b), some (I_ d), none, none] (by decide) (Nat.le_of_ble_eq_true rfl) rfl ?_
  have hp01 := hP.b
  refine g_al0 dX2_by_0 ?_
  refine g_callV0V (d' := 2) lk_X2_167 hM.sh rfl (rm_lt (by decide) (by decide)) (Nat.le_of_ble_eq_true rfl) dX2_by_1 ?_
  refine mo_good hM (fun σ1 hM hE => ?_)
  have hp := hE.p14.trans hp
  refine g_al0 dX2_by_4 ?_
  refine g_il1 dX2_by_5 ?_
  refine g_callV1I (d' := 3) lk_X2_274 hM.sh rfl (rm_lt (by decide) (by decide)) (Nat.le_of_ble_eq_true rfl) dX2_by_6 ?_
  refine mo_isBox hM hp hP.rw (by omega) (fun x6 hx6 => ?_)
  unfold isB_ at hx6
  refine g_if_ne (tgt := 18) dX2_by_9 (by decide) (by omega) (fun h9 => ?_) (fun h9 => ?_)
  · refine g_il2 dX2_by_18 ?_
    refine g_iconst dX2_by_19 ?_
    refine g_ldcw (x := 99999) q2106 dX2_by_20 (by decide) ?_
    refine g_callS3I (d' := 2) lk_X2_149 (rm_lt (by decide) (by decide)) (Nat.le_of_ble_eq_true rfl) dX2_by_23 ?_
    refine mo_in (by omega) (by omega) (by omega) (fun x23 hx23 => ?_)
    refine g_if_ne (tgt := 35) dX2_by_26 (by decide) (by omega) (fun h26 => ?_) (fun h26 => ?_)
    · obtain ⟨hW, hD⟩ := hP.get (by omega)
      have hn := hW.n
      have L40 : ∀ (n : Nat) (σ' : JH) (a : Int) (w : Int), r 6 - w < (n : Int) → (MD_ G m σ' r s) → (ME_ m σ σ' 0) → (0 ≤ w) → (w ≤ r 6) → (a = iI_ (fun w a => ior_ a (if 0 ≤ bg_ r s w b ∧ bg_ r s w b ≤ d then ishl_ 1 w else 0)) 0 w) → GoM_ G 10 yX2_by cX2_by 5 (some .int) σ (fun v σ' => ∃ x : Int, v = some (I_ x) ∧ Q x σ') 40 [some (A_ (some m)), some (I_ b), some (I_ d), some (I_ a), some (I_ w)] [] σ' := by
        intro n
        induction n with
        | zero => intro σ' a w hn hM hE h0 h1 hv; exact absurd hn (by omega)
        | succ n ih =>
          intro σ' a w hn hM hE h0 h1 hv
          refine g_il4 dX2_by_40 ?_
          refine g_al0 dX2_by_42 ?_
          refine f_getA 15 fk_X2_20 rfl hM.sh (fun _ _ => rfl) hM.f15 dX2_by_43 ?_
          refine g_bipush dX2_by_46 (by decide) (by decide) ?_
          refine g_ialv hM.a15 (by omega) (hM.rr _) dX2_by_48 ?_
          refine g_icmp_ge (tgt := 84) dX2_by_49 (by decide) (by omega) (fun h49 => ?_) (fun h49 => ?_)
          · refine g_il3 dX2_by_84 ?_
            exact g_iret rfl dX2_by_85 ⟨_, rfl, hQ _ _ _ (by unfold qBy_; rw [if_pos (by omega), if_pos (by omega), hv, show r 6 = w by omega]) hM hE⟩
          refine g_il3 dX2_by_52 ?_
          refine g_al0 dX2_by_53 ?_
          refine g_il4 dX2_by_54 ?_
          refine g_il1 dX2_by_56 ?_
          refine g_callV2I (d' := 9) lk_X2_367 hM.sh rfl (rm_lt (by decide) (by decide)) (Nat.le_of_ble_eq_true rfl) dX2_by_57 ?_
          refine mo_bringsOf hM hW hD (by omega) (by omega) (fun σ3 hM hF3 => ?_)
          have hE := hE.fr hF3.ms2
          have hb3 := bg_bd hW hD (w := w) (b := b) (by omega) (by omega)
          refine g_iconst dX2_by_60 ?_
          refine g_il2 dX2_by_61 ?_
          refine g_callS3I (d' := 2) lk_X2_149 (rm_lt (by decide) (by decide)) (Nat.le_of_ble_eq_true rfl) dX2_by_62 ?_
          refine mo_in (by omega) (by omega) (by omega) (fun x62 hx62 => ?_)
          refine g_if_eq (tgt := 75) dX2_by_65 (by decide) (by omega) (fun h65 => ?_) (fun h65 => ?_)
          · refine g_iconst dX2_by_75 ?_
            refine g_ior dX2_by_76 ?_
            refine g_is3 dX2_by_77 (by decide) rfl ?_
            refine g_inc4 dX2_by_78 (by decide) rfl ?_
            refine g_goto (tgt := 40) dX2_by_81 (by decide) ?_
            refine ih _ _ _ (by omega) hM hE (by omega) (by omega) ?_
            rw [iI_s _ _ h0, ← hv]
            rw [if_neg (by omega)]
          refine g_iconst dX2_by_68 ?_
          refine g_il4 dX2_by_69 ?_
          refine g_ishl dX2_by_71 ?_
          refine g_goto (tgt := 76) dX2_by_72 (by decide) ?_
          refine g_ior dX2_by_76 ?_
          refine g_is3 dX2_by_77 (by decide) rfl ?_
          refine g_inc4 dX2_by_78 (by decide) rfl ?_
          refine g_goto (tgt := 40) dX2_by_81 (by decide) ?_
          refine ih _ _ _ (by omega) hM hE (by omega) (by omega) ?_
          rw [iI_s _ _ h0, ← hv]
          rw [if_pos (by omega)]
      refine g_iconst dX2_by_35 ?_
      refine g_is3 dX2_by_36 (by decide) rfl ?_
      refine g_iconst dX2_by_37 ?_
      refine g_is4 dX2_by_38 (by decide) rfl ?_
      exact L40 ((r 6).toNat + 1) _ _ _ (by omega) hM hE (by omega) (by omega) rfl
    refine g_al0 dX2_by_29 ?_
    refine g_iconst dX2_by_30 ?_
    refine g_callV1I (d' := 2) lk_X2_170 hM.sh rfl (rm_lt (by decide) (by decide)) (Nat.le_of_ble_eq_true rfl) dX2_by_31 ?_
    refine mo_no hM hE (fun σ2 hM hE => ?_)
    exact g_iret rfl dX2_by_34 ⟨_, rfl, hQ _ _ _ (by unfold qBy_; rw [if_pos (by omega), if_neg (by omega)]) hM hE⟩
  refine g_al0 dX2_by_12 ?_
  refine g_iconst dX2_by_13 ?_
  refine g_callV1I (d' := 2) lk_X2_170 hM.sh rfl (rm_lt (by decide) (by decide)) (Nat.le_of_ble_eq_true rfl) dX2_by_14 ?_
  refine mo_no hM hE (fun σ2 hM hE => ?_)
  exact g_iret rfl dX2_by_17 ⟨_, rfl, hQ _ _ _ (by unfold qBy_; rw [if_neg (by omega)]) hM hE⟩
theorem mo_lowest {up lower : Int} {Q : Int → JH → Prop} (hu : 1 ≤ up ∧ up ≤ 10000) (hl : lower = 0 ∨ lower = 1)
    (hQ : Q ((if lower = 1 then 10000 else up) / (Int.gcd 10000 up : Int)) σ) : CallL_ G 2 yX2_lowest cX2_lowest 11 (some .long) [L_ up, L_ 10000, I_ lower] σ Q := by
  refine call_go [some (L_ up), none, some (L_ 10000), none, some (I_ lower), none, none, none, none, none, none] (by decide) (Nat.le_of_ble_eq_true rfl) rfl ?_
  have L6 : ∀ (n : Nat) (x : Int) (z : Int) (v9 : Option AV) (v10 : Option AV), z < (n : Int) → (0 < x ∧ x ≤ 10000) → (0 ≤ z ∧ z ≤ 10000) → (Int.gcd x z = Int.gcd 10000 up) → GoM_ G 2 yX2_lowest cX2_lowest 11 (some .long) σ (fun v σ' => ∃ x : Int, v = some (L_ x) ∧ Q x σ') 6 [some (L_ up), none, some (L_ 10000), none, some (I_ lower), some (L_ x), none, some (L_ z), none, v9, v10] [] σ := by
    intro n
    induction n with
    | zero => intro x z v9 v10 hn h0 h1 hg; exact absurd hn (by omega)
    | succ n ih =>
      intro x z v9 v10 hn h0 h1 hg
      refine g_ll7 dX2_lowest_6 ?_
      refine g_lconst (x := 0) dX2_lowest_8 (by decide) ?_
      refine g_lcmp dX2_lowest_9 ?_
      rw [lcmp_0 (by omega)]
      refine g_if_eq (tgt := 31) dX2_lowest_10 (by decide) (by split <;> omega) (fun h10 => ?_) (fun h10 => ?_)
      · have hz : z = 0 := by split at h10 <;> omega
        subst hz
        have eg : (Int.gcd 10000 up : Int) = x := by rw [← hg, Int.gcd_zero_right]; omega
        refine g_il4 dX2_lowest_31 ?_
        refine g_if_eq (tgt := 40) dX2_lowest_33 (by decide) (by omega) (fun h33 => ?_) (fun h33 => ?_)
        · refine g_ll0 dX2_lowest_40 ?_
          refine g_ll5 dX2_lowest_41 ?_
          refine g_ldiv dX2_lowest_43 (by omega) ?_
          exact g_lret rfl dX2_lowest_44 ⟨_, rfl, by have q := hQ; rw [eg, if_neg (by omega)] at q; exact q⟩
        refine g_ll2 dX2_lowest_36 ?_
        refine g_goto (tgt := 41) dX2_lowest_37 (by decide) ?_
        refine g_ll5 dX2_lowest_41 ?_
        refine g_ldiv dX2_lowest_43 (by omega) ?_
        exact g_lret rfl dX2_lowest_44 ⟨_, rfl, by have q := hQ; rw [eg, if_pos (by omega)] at q; exact q⟩
      refine g_ll5 dX2_lowest_13 ?_
      refine g_ll7 dX2_lowest_15 ?_
      refine g_lrem dX2_lowest_17 (by omega) ?_
      have hdm := dm_ (a := x) (b := z) (by omega) (by omega)
      refine g_ls9 dX2_lowest_18 (by decide) rfl ?_
      refine g_ll7 dX2_lowest_20 ?_
      refine g_ls5 dX2_lowest_22 (by decide) rfl ?_
      refine g_ll9 dX2_lowest_24 ?_
      refine g_ls7 dX2_lowest_26 (by decide) rfl ?_
      refine g_goto (tgt := 6) dX2_lowest_28 (by decide) ?_
      refine ih _ _ _ _ (by omega) (by omega) (by omega) ?_
      rw [gcd_step (by omega) (by omega)]; exact hg
  refine g_ll2 dX2_lowest_0 ?_
  refine g_ls5 dX2_lowest_1 (by decide) rfl ?_
  refine g_ll0 dX2_lowest_3 ?_
  refine g_ls7 dX2_lowest_4 (by decide) rfl ?_
  exact L6 10001 _ _ _ _ (by omega) (by omega) (by omega) rfl
theorem mo_registered {p : Int} {b lo : Int} {Q : Int → JH → Prop} (hM : MD_ G m σ r s) (hp : iv_ σ m 14 = p) (hP : MP_ p r s) (hb : -2147483648 ≤ b ∧ b < 2147483648) (hlo : -2147483648 ≤ lo ∧ lo < 2147483648) (hl2 : lo = 0 ∨ lo = 1)
    (hQ : ∀ (x t : Int) (σ' : JH), qReg_ p r s b lo = (x, t) → MD_ G m σ' r s → ME_ m σ σ' t → Q x σ') : CallL_ G 11 yX2_registered cX2_registered 6 (some .long) [A_ (some m), I_ b, I_ lo] σ Q := by
  refine call_go [some (A_ (some m)), some (I_ b), some (I_ lo), none, none, none] (by decide) (Nat.le_of_ble_eq_true rfl) rfl ?_
  have hp01 := hP.b
  refine g_al0 dX2_registered_0 ?_
  refine g_callV0V (d' := 2) lk_X2_167 hM.sh rfl (rm_lt (by decide) (by decide)) (Nat.le_of_ble_eq_true rfl) dX2_registered_1 ?_
  refine mo_good hM (fun σ1 hM hE => ?_)
  have hp := hE.p14.trans hp
  refine g_al0 dX2_registered_4 ?_
  refine g_il1 dX2_registered_5 ?_
  refine g_callV1I (d' := 3) lk_X2_274 hM.sh rfl (rm_lt (by decide) (by decide)) (Nat.le_of_ble_eq_true rfl) dX2_registered_6 ?_
  refine mo_isBox hM hp hP.rw (by omega) (fun x6 hx6 => ?_)
  unfold isB_ at hx6
  refine g_if_ne (tgt := 19) dX2_registered_9 (by decide) (by omega) (fun h9 => ?_) (fun h9 => ?_)
  · refine g_al0 dX2_registered_19 ?_
    refine g_il1 dX2_registered_20 ?_
    refine g_iconst dX2_registered_21 ?_
    refine g_callV2I (d' := 10) lk_X2_370 hM.sh rfl (rm_lt (by decide) (by decide)) (Nat.le_of_ble_eq_true rfl) dX2_registered_22 ?_
    obtain ⟨hW, hD⟩ := hP.get (by omega)
    have hn := hW.n
    refine mo_surestBut hM hW hD (by omega) (by omega) (fun σ2 hM hF => ?_)
    have hE := hE.fr hF
    have hs1 := sb_in (r := r) (s := s) (by omega) b (-1)
    refine g_is3 dX2_registered_25 (by decide) rfl ?_
    refine g_il3 dX2_registered_26 ?_
    refine g_if_ge (tgt := 38) dX2_registered_27 (by decide) (by omega) (fun h27 => ?_) (fun h27 => ?_)
    · refine g_al0 dX2_registered_38 ?_
      refine g_il1 dX2_registered_39 ?_
      refine g_il3 dX2_registered_40 ?_
      refine g_callV2I (d' := 10) lk_X2_370 hM.sh rfl (rm_lt (by decide) (by decide)) (Nat.le_of_ble_eq_true rfl) dX2_registered_41 ?_
      refine mo_surestBut hM hW hD (by omega) (by omega) (fun σ3 hM hF3 => ?_)
      have hE := hE.fr hF3
      have hs2 := sb_in (r := r) (s := s) (by omega) b (sb_ r s b (-1))
      have hlo := lo_in hW (r := r) (s := s) (b := b) (by omega)
      refine g_is4 dX2_registered_44 (by decide) rfl ?_
      refine g_al0 dX2_registered_46 ?_
      refine g_il3 dX2_registered_47 ?_
      refine g_iconst dX2_registered_48 ?_
      refine g_callV2I (d' := 2) lk_X2_271 hM.sh rfl (rm_lt (by decide) (by decide)) (Nat.le_of_ble_eq_true rfl) dX2_registered_49 ?_
      refine mo_ofWhale hM (by omega) (by omega) ?_
      rw [show 107 + 4 * sb_ r s b (-1) + 3 = 110 + 4 * sb_ r s b (-1) by omega]
      refine g_il4 dX2_registered_52 ?_
      refine g_if_ge (tgt := 62) dX2_registered_54 (by decide) (by omega) (fun h54 => ?_) (fun h54 => ?_)
      · refine g_al0 dX2_registered_62 ?_
        refine g_il4 dX2_registered_63 ?_
        refine g_iconst dX2_registered_65 ?_
        refine g_callV2I (d' := 2) lk_X2_271 hM.sh rfl (rm_lt (by decide) (by decide)) (Nat.le_of_ble_eq_true rfl) dX2_registered_66 ?_
        refine mo_ofWhale hM (by omega) (by omega) ?_
        rw [show 107 + 4 * sb_ r s b (sb_ r s b (-1)) + 3 = 110 + 4 * sb_ r s b (sb_ r s b (-1)) by omega]
        refine g_imul dX2_registered_69 ?_
        refine g_top (show _ = lo_ r s b by unfold lo_; rw [if_neg (by omega)]) ?_
        refine g_is5 dX2_registered_70 (by decide) rfl ?_
        refine g_sipush dX2_registered_72 (by decide) (by decide) ?_
        refine g_il5 dX2_registered_75 ?_
        refine g_isub dX2_registered_77 ?_
        refine g_i2l dX2_registered_78 (by omega) ?_
        refine g_ldc2 (x := 10000) q2174 dX2_registered_79 (by decide) ?_
        refine g_il2 dX2_registered_82 ?_
        refine g_callS3L (d' := 2) lk_X2_375 (rm_lt (by decide) (by decide)) (Nat.le_of_ble_eq_true rfl) dX2_registered_83 ?_
        refine mo_lowest (by omega) (by omega) ?_
        exact g_lret rfl dX2_registered_86 ⟨_, rfl, hQ _ _ _ (by unfold qReg_; rw [if_pos (by omega), if_neg (by omega)]; unfold rg_; rfl) hM hE⟩
      refine g_bipush dX2_registered_57 (by decide) (by decide) ?_
      refine g_goto (tgt := 69) dX2_registered_59 (by decide) ?_
      refine g_imul dX2_registered_69 ?_
      refine g_top (show _ = lo_ r s b by unfold lo_; rw [if_pos (by omega)]) ?_
      refine g_is5 dX2_registered_70 (by decide) rfl ?_
      refine g_sipush dX2_registered_72 (by decide) (by decide) ?_
      refine g_il5 dX2_registered_75 ?_
      refine g_isub dX2_registered_77 ?_
      refine g_i2l dX2_registered_78 (by omega) ?_
      refine g_ldc2 (x := 10000) q2174 dX2_registered_79 (by decide) ?_
      refine g_il2 dX2_registered_82 ?_
      refine g_callS3L (d' := 2) lk_X2_375 (rm_lt (by decide) (by decide)) (Nat.le_of_ble_eq_true rfl) dX2_registered_83 ?_
      refine mo_lowest (by omega) (by omega) ?_
      exact g_lret rfl dX2_registered_86 ⟨_, rfl, hQ _ _ _ (by unfold qReg_; rw [if_pos (by omega), if_neg (by omega)]; unfold rg_; rfl) hM hE⟩
    refine g_al0 dX2_registered_30 ?_
    refine g_bipush dX2_registered_31 (by decide) (by decide) ?_
    refine g_callV1I (d' := 2) lk_X2_170 hM.sh rfl (rm_lt (by decide) (by decide)) (Nat.le_of_ble_eq_true rfl) dX2_registered_33 ?_
    refine mo_no hM hE (fun σ2 hM hE => ?_)
    refine g_i2l dX2_registered_36 (by omega) ?_
    exact g_lret rfl dX2_registered_37 ⟨_, rfl, hQ _ _ _ (by unfold qReg_; rw [if_pos (by omega), if_pos (by omega)]) hM hE⟩
  refine g_al0 dX2_registered_12 ?_
  refine g_iconst dX2_registered_13 ?_
  refine g_callV1I (d' := 2) lk_X2_170 hM.sh rfl (rm_lt (by decide) (by decide)) (Nat.le_of_ble_eq_true rfl) dX2_registered_14 ?_
  refine mo_no hM hE (fun σ2 hM hE => ?_)
  refine g_i2l dX2_registered_17 (by omega) ?_
  exact g_lret rfl dX2_registered_18 ⟨_, rfl, hQ _ _ _ (by unfold qReg_; rw [if_neg (by omega)]) hM hE⟩
end
