/-! THE REFERENCE: who hears, ways, how near. Written by mod/m33.py -/
set_option maxRecDepth 100000
section
variable {G : JG} {m : Nat} {σ : JH} {r s : Int → Int}
theorem mo_unlike {b i yr at1 other : Int} {Q : Int → JH → Prop} (hM : MD_ G m σ r s) (hW : RW_ r) (hD : DW_ r s) (hb : 0 ≤ b ∧ b < r 7) (hi : 0 ≤ i ∧ i < r 4) (hy : 0 ≤ yr ∧ yr < 100000) (ha : -1 ≤ at1 ∧ at1 < 100) (ho : 0 ≤ other ∧ other < 100)
    (hQ : Q (ul_ r (rb_ s b at1 other) i yr (bl_ r b)) σ) : CallI_ G 4 yX2_unlike cX2_unlike 8 (some .int) [A_ (some m), I_ b, I_ i, I_ yr, I_ at1, I_ other] σ Q := by
  refine call_go [some (A_ (some m)), some (I_ b), some (I_ i), some (I_ yr), some (I_ at1), some (I_ other), none, none] (by decide) (Nat.le_of_ble_eq_true rfl) rfl ?_
  have hn := hW.n
  have hl := bl_in hW hb.1 hb.2
  have L6 : ∀ (n : Nat) (c : Int) (k : Int), bl_ r b - k < (n : Int) → (0 ≤ k) → (k ≤ bl_ r b) → (c = sI_ (fun k => if nt_ r i k yr = rb_ s b at1 other k then 0 else 1) k) → GoM_ G 4 yX2_unlike cX2_unlike 8 (some .int) σ (fun v σ' => ∃ x : Int, v = some (I_ x) ∧ Q x σ') 6 [some (A_ (some m)), some (I_ b), some (I_ i), some (I_ yr), some (I_ at1), some (I_ other), some (I_ c), some (I_ k)] [] σ := by
    intro n
    induction n with
    | zero => intro c k hn h0 h1 hc; exact absurd hn (by omega)
    | succ n ih =>
      intro c k hn h0 h1 hc
      refine g_il7 dX2_unlike_6 ?_
      refine g_al0 dX2_unlike_8 ?_
      refine g_il1 dX2_unlike_9 ?_
      refine g_callV1I (d' := 3) lk_X2_284 hM.sh rfl (rm_lt (by decide) (by decide)) (Nat.le_of_ble_eq_true rfl) dX2_unlike_10 ?_
      refine mo_boxLong hM hW hb ?_
      refine g_icmp_ge (tgt := 70) dX2_unlike_13 (by decide) (by omega) (fun h13 => ?_) (fun h13 => ?_)
      · refine g_il6 dX2_unlike_70 ?_
        exact g_iret rfl dX2_unlike_72 ⟨_, rfl, by unfold ul_ at hQ; rw [show bl_ r b = k by omega] at hQ; rw [hc]; exact hQ⟩
      refine g_il6 dX2_unlike_16 ?_
      refine g_al0 dX2_unlike_18 ?_
      refine g_il2 dX2_unlike_19 ?_
      refine g_il7 dX2_unlike_20 ?_
      refine g_il3 dX2_unlike_22 ?_
      refine g_callV3I (d' := 2) lk_X2_280 hM.sh rfl (rm_lt (by decide) (by decide)) (Nat.le_of_ble_eq_true rfl) dX2_unlike_23 ?_
      refine mo_noteIn hM hW hi (by omega) hy ?_
      have hnt := nt_in hW i k yr
      have hss := hD.sung (j := 6 * b + k) (by omega) (by omega)
      rw [show 28 + (6 * b + k) = 28 + 6 * b + k by omega] at hss
      refine g_il7 dX2_unlike_26 ?_
      refine g_il4 dX2_unlike_28 ?_
      refine g_icmp_ne (tgt := 38) dX2_unlike_30 (by decide) (by omega) (fun h30 => ?_) (fun h30 => ?_)
      · refine g_al0 dX2_unlike_38 ?_
        refine f_getA 17 fk_X2_26 rfl hM.sh (fun _ _ => rfl) hM.f17 dX2_unlike_39 ?_
        refine g_bipush dX2_unlike_42 (by decide) (by decide) ?_
        refine g_bipush dX2_unlike_44 (by decide) (by decide) ?_
        refine g_il1 dX2_unlike_46 ?_
        refine g_imul dX2_unlike_47 ?_
        refine g_iadd dX2_unlike_48 ?_
        refine g_il7 dX2_unlike_49 ?_
        refine g_iadd dX2_unlike_51 ?_
        refine g_ialv hM.a17 (by omega) (hM.ss _) dX2_unlike_52 ?_
        skip
        refine g_icmp_ne (tgt := 60) dX2_unlike_53 (by decide) (by omega) (fun h53 => ?_) (fun h53 => ?_)
        · refine g_iconst dX2_unlike_60 ?_
          
          refine g_iadd dX2_unlike_61 ?_
          refine g_is6 dX2_unlike_62 (by decide) rfl ?_
          refine g_inc7 dX2_unlike_64 (by decide) rfl ?_
          refine g_goto (tgt := 6) dX2_unlike_67 (by decide) ?_
          refine ih _ _ (by omega) (by omega) (by omega) ?_
          rw [sI_s _ h0, hc]
          unfold rb_
          rw [if_neg h30, if_neg h53]
        refine g_iconst dX2_unlike_56 ?_
        refine g_goto (tgt := 61) dX2_unlike_57 (by decide) ?_
        
        refine g_iadd dX2_unlike_61 ?_
        refine g_is6 dX2_unlike_62 (by decide) rfl ?_
        refine g_inc7 dX2_unlike_64 (by decide) rfl ?_
        refine g_goto (tgt := 6) dX2_unlike_67 (by decide) ?_
        refine ih _ _ (by omega) (by omega) (by omega) ?_
        rw [sI_s _ h0, hc]
        unfold rb_
        rw [if_neg h30, if_pos h53]
      refine g_il5 dX2_unlike_33 ?_
      refine g_goto (tgt := 53) dX2_unlike_35 (by decide) ?_
      skip
      refine g_icmp_ne (tgt := 60) dX2_unlike_53 (by decide) (by omega) (fun h53 => ?_) (fun h53 => ?_)
      · refine g_iconst dX2_unlike_60 ?_
        
        refine g_iadd dX2_unlike_61 ?_
        refine g_is6 dX2_unlike_62 (by decide) rfl ?_
        refine g_inc7 dX2_unlike_64 (by decide) rfl ?_
        refine g_goto (tgt := 6) dX2_unlike_67 (by decide) ?_
        refine ih _ _ (by omega) (by omega) (by omega) ?_
        rw [sI_s _ h0, hc]
        unfold rb_
        rw [if_pos h30, if_neg h53]
      refine g_iconst dX2_unlike_56 ?_
      refine g_goto (tgt := 61) dX2_unlike_57 (by decide) ?_
      
      refine g_iadd dX2_unlike_61 ?_
      refine g_is6 dX2_unlike_62 (by decide) rfl ?_
      refine g_inc7 dX2_unlike_64 (by decide) rfl ?_
      refine g_goto (tgt := 6) dX2_unlike_67 (by decide) ?_
      refine ih _ _ (by omega) (by omega) (by omega) ?_
      rw [sI_s _ h0, hc]
      unfold rb_
      rw [if_pos h30, if_pos h53]
  refine g_iconst dX2_unlike_0 ?_
  refine g_is6 dX2_unlike_1 (by decide) rfl ?_
  refine g_iconst dX2_unlike_3 ?_
  refine g_is7 dX2_unlike_4 (by decide) rfl ?_
  refine L6 ((bl_ r b).toNat + 1) _ _ (by omega) (by omega) (by omega) (sI_0 _).symm
theorem mo_hearsIn {b yr at1 other : Int} {Q : Int → JH → Prop} (hM : MD_ G m σ r s) (hW : RW_ r) (hD : DW_ r s) (hb : 0 ≤ b ∧ b < r 7) (hy : 0 ≤ yr ∧ yr < 100000) (ha : -1 ≤ at1 ∧ at1 < 100) (ho : 0 ≤ other ∧ other < 100)
    (hQ : Q (hd_ r (rb_ s b at1 other) (bl_ r b) yr) σ) : CallI_ G 5 yX2_hearsIn cX2_hearsIn 9 (some .int) [A_ (some m), I_ b, I_ yr, I_ at1, I_ other] σ Q := by
  refine call_go [some (A_ (some m)), some (I_ b), some (I_ yr), some (I_ at1), some (I_ other), none, none, none, none] (by decide) (Nat.le_of_ble_eq_true rfl) rfl ?_
  have hn := hW.n
  have hbl := bl_in hW hb.1 hb.2
  have L11 : ∀ (n : Nat) (be : Int) (le : Int) (i : Int) (v8 : Option AV), r 4 - i < (n : Int) → (0 ≤ i) → (i ≤ r 4) → (0 ≤ le ∧ le ≤ 7) → ((be, le) = iI_ (hs_ r (rb_ s b at1 other) (bl_ r b) yr) (-2, 7) i) → GoM_ G 5 yX2_hearsIn cX2_hearsIn 9 (some .int) σ (fun v σ' => ∃ x : Int, v = some (I_ x) ∧ Q x σ') 11 [some (A_ (some m)), some (I_ b), some (I_ yr), some (I_ at1), some (I_ other), some (I_ be), some (I_ le), some (I_ i), v8] [] σ := by
    intro n
    induction n with
    | zero => intro be le i v8 hn h0 h1 hle hc; exact absurd hn (by omega)
    | succ n ih =>
      intro be le i v8 hn h0 h1 hle hc
      refine g_il7 dX2_hearsIn_11 ?_
      refine g_al0 dX2_hearsIn_13 ?_
      refine f_getA 15 fk_X2_20 rfl hM.sh (fun _ _ => rfl) hM.f15 dX2_hearsIn_14 ?_
      refine g_iconst dX2_hearsIn_17 ?_
      refine g_ialv hM.a15 (by omega) (hM.rr _) dX2_hearsIn_18 ?_
      refine g_icmp_ge (tgt := 88) dX2_hearsIn_19 (by decide) (by omega) (fun h19 => ?_) (fun h19 => ?_)
      · refine g_il6 dX2_hearsIn_88 ?_
        refine g_al0 dX2_hearsIn_90 ?_
        refine f_getA 15 fk_X2_20 rfl hM.sh (fun _ _ => rfl) hM.f15 dX2_hearsIn_91 ?_
        refine g_iconst dX2_hearsIn_94 ?_
        refine g_ialv hM.a15 (by omega) (hM.rr _) dX2_hearsIn_95 ?_
        refine g_icmp_gt (tgt := 104) dX2_hearsIn_96 (by decide) (by omega) (fun h96 => ?_) (fun h96 => ?_)
        · refine g_bipush dX2_hearsIn_104 (by decide) (by decide) ?_
          exact g_iret rfl dX2_hearsIn_106 ⟨_, rfl, (by have e : r 4 = i := (by omega); unfold hd_ at hQ; rw [e, ← hc] at hQ; dsimp only at hQ; split at hQ <;> first | exact hQ | (exfalso; omega))⟩
        refine g_il5 dX2_hearsIn_99 ?_
        refine g_goto (tgt := 106) dX2_hearsIn_101 (by decide) ?_
        exact g_iret rfl dX2_hearsIn_106 ⟨_, rfl, (by have e : r 4 = i := (by omega); unfold hd_ at hQ; rw [e, ← hc] at hQ; dsimp only at hQ; split at hQ <;> first | exact hQ | (exfalso; omega))⟩
      refine g_al0 dX2_hearsIn_22 ?_
      refine g_il7 dX2_hearsIn_23 ?_
      refine g_callV1I (d' := 2) lk_X2_265 hM.sh rfl (rm_lt (by decide) (by decide)) (Nat.le_of_ble_eq_true rfl) dX2_hearsIn_25 ?_
      refine mo_songLong hM (by omega) ?_
      have hl := hW.len (i := i) (by omega) (by omega)
      refine g_al0 dX2_hearsIn_28 ?_
      refine g_il1 dX2_hearsIn_29 ?_
      refine g_callV1I (d' := 3) lk_X2_284 hM.sh rfl (rm_lt (by decide) (by decide)) (Nat.le_of_ble_eq_true rfl) dX2_hearsIn_30 ?_
      refine mo_boxLong hM hW hb ?_
      refine g_icmp_eq (tgt := 39) dX2_hearsIn_33 (by decide) (by omega) (fun h33 => ?_) (fun h33 => ?_)
      · refine g_al0 dX2_hearsIn_39 ?_
        refine g_il1 dX2_hearsIn_40 ?_
        refine g_il7 dX2_hearsIn_41 ?_
        refine g_il2 dX2_hearsIn_43 ?_
        refine g_il3 dX2_hearsIn_44 ?_
        refine g_il4 dX2_hearsIn_45 ?_
        refine g_callV5I (d' := 4) lk_X2_287 hM.sh rfl (rm_lt (by decide) (by decide)) (Nat.le_of_ble_eq_true rfl) dX2_hearsIn_47 ?_
        refine mo_unlike hM hW hD hb (by omega) hy ha ho ?_
        have hu := ul_in r (rb_ s b at1 other) i yr (L := bl_ r b) (by omega)
        refine g_is8 dX2_hearsIn_50 (by decide) rfl ?_
        refine g_il8 dX2_hearsIn_52 ?_
        refine g_il6 dX2_hearsIn_54 ?_
        refine g_icmp_le (tgt := 62) dX2_hearsIn_56 (by decide) (by omega) (fun h56 => ?_) (fun h56 => ?_)
        · refine g_il8 dX2_hearsIn_62 ?_
          refine g_il6 dX2_hearsIn_64 ?_
          refine g_icmp_ge (tgt := 74) dX2_hearsIn_66 (by decide) (by omega) (fun h66 => ?_) (fun h66 => ?_)
          · refine g_bipush dX2_hearsIn_74 (by decide) (by decide) ?_
            refine g_is5 dX2_hearsIn_76 (by decide) rfl ?_
            refine g_il8 dX2_hearsIn_78 ?_
            refine g_is6 dX2_hearsIn_80 (by decide) rfl ?_
            refine g_inc7 dX2_hearsIn_82 (by decide) rfl ?_
            refine g_goto (tgt := 11) dX2_hearsIn_85 (by decide) ?_
            refine ih _ _ _ _ (by omega) (by omega) (by omega) (by omega) ?_
            rw [iI_s _ _ h0, ← hc]
            unfold hs_
            (dsimp only; repeat' split) <;> first | rfl | (exfalso; omega) | (simp only [Prod.mk.injEq]; omega) | omega
          refine g_il7 dX2_hearsIn_69 ?_
          refine g_goto (tgt := 76) dX2_hearsIn_71 (by decide) ?_
          refine g_is5 dX2_hearsIn_76 (by decide) rfl ?_
          refine g_il8 dX2_hearsIn_78 ?_
          refine g_is6 dX2_hearsIn_80 (by decide) rfl ?_
          refine g_inc7 dX2_hearsIn_82 (by decide) rfl ?_
          refine g_goto (tgt := 11) dX2_hearsIn_85 (by decide) ?_
          refine ih _ _ _ _ (by omega) (by omega) (by omega) (by omega) ?_
          rw [iI_s _ _ h0, ← hc]
          unfold hs_
          (dsimp only; repeat' split) <;> first | rfl | (exfalso; omega) | (simp only [Prod.mk.injEq]; omega) | omega
        refine g_goto (tgt := 82) dX2_hearsIn_59 (by decide) ?_
        refine g_inc7 dX2_hearsIn_82 (by decide) rfl ?_
        refine g_goto (tgt := 11) dX2_hearsIn_85 (by decide) ?_
        refine ih _ _ _ _ (by omega) (by omega) (by omega) (by omega) ?_
        rw [iI_s _ _ h0, ← hc]
        unfold hs_
        (dsimp only; repeat' split) <;> first | rfl | (exfalso; omega) | (simp only [Prod.mk.injEq]; omega) | omega
      refine g_goto (tgt := 82) dX2_hearsIn_36 (by decide) ?_
      refine g_inc7 dX2_hearsIn_82 (by decide) rfl ?_
      refine g_goto (tgt := 11) dX2_hearsIn_85 (by decide) ?_
      refine ih _ _ _ _ (by omega) (by omega) (by omega) (by omega) ?_
      rw [iI_s _ _ h0, ← hc]
      unfold hs_
      (dsimp only; repeat' split) <;> first | rfl | (exfalso; omega) | (simp only [Prod.mk.injEq]; omega) | omega
  refine g_bipush dX2_hearsIn_0 (by decide) (by decide) ?_
  refine g_is5 dX2_hearsIn_2 (by decide) rfl ?_
  refine g_bipush dX2_hearsIn_4 (by decide) (by decide) ?_
  refine g_is6 dX2_hearsIn_6 (by decide) rfl ?_
  refine g_iconst dX2_hearsIn_8 ?_
  refine g_is7 dX2_hearsIn_9 (by decide) rfl ?_
  exact L11 ((r 4).toNat + 1) _ _ _ _ (by omega) (by omega) (by omega) (by omega) rfl
theorem mo_heardNow {b : Int} {Q : Int → JH → Prop} (hM : MD_ G m σ r s) (hW : RW_ r) (hD : DW_ r s) (hb : 0 ≤ b ∧ b < r 7)
    (hQ : Q (hn_ r s b) σ) : CallI_ G 6 yX2_heardNow cX2_heardNow 2 (some .int) [A_ (some m), I_ b] σ Q := by
  refine call_go [some (A_ (some m)), some (I_ b)] (by decide) (Nat.le_of_ble_eq_true rfl) rfl ?_
  refine g_al0 dX2_heardNow_0 ?_
  refine g_il1 dX2_heardNow_1 ?_
  refine g_al0 dX2_heardNow_2 ?_
  refine f_getA 17 fk_X2_26 rfl hM.sh (fun _ _ => rfl) hM.f17 dX2_heardNow_3 ?_
  refine g_iconst dX2_heardNow_6 ?_
  refine g_ialv hM.a17 (by omega) (hM.ss _) dX2_heardNow_7 ?_
  refine g_iconst dX2_heardNow_8 ?_
  refine g_iconst dX2_heardNow_9 ?_
  refine g_callV4I (d' := 5) lk_X2_291 hM.sh rfl (rm_lt (by decide) (by decide)) (Nat.le_of_ble_eq_true rfl) dX2_heardNow_10 ?_
  refine mo_hearsIn hM hW hD hb (by have := hD.n; omega) (by omega) (by omega) ?_
  exact g_iret rfl dX2_heardNow_13 ⟨_, rfl, hQ⟩
theorem mo_heard {p : Int} {b : Int} {Q : Int → JH → Prop} (hM : MD_ G m σ r s) (hp : iv_ σ m 14 = p) (hP : MP_ p r s) (hb : -2147483648 ≤ b ∧ b < 2147483648)
    (hQ : ∀ (x t : Int) (σ' : JH), qHeard_ p r s b = (x, t) → MD_ G m σ' r s → ME_ m σ σ' t → Q x σ') : CallI_ G 7 yX2_heard cX2_heard 2 (some .int) [A_ (some m), I_ b] σ Q := by
  refine call_go [some (A_ (some m)), some (I_ b)] (by decide) (Nat.le_of_ble_eq_true rfl) rfl ?_
  have hp01 := hP.b
  refine g_al0 dX2_heard_0 ?_
  refine g_callV0V (d' := 2) lk_X2_167 hM.sh rfl (rm_lt (by decide) (by decide)) (Nat.le_of_ble_eq_true rfl) dX2_heard_1 ?_
  refine mo_good hM (fun σ1 hM hE => ?_)
  have hp := hE.p14.trans hp
  refine g_al0 dX2_heard_4 ?_
  refine g_il1 dX2_heard_5 ?_
  refine g_callV1I (d' := 3) lk_X2_274 hM.sh rfl (rm_lt (by decide) (by decide)) (Nat.le_of_ble_eq_true rfl) dX2_heard_6 ?_
  refine mo_isBox hM hp hP.rw (by omega) (fun x6 hx6 => ?_)
  unfold isB_ at hx6
  refine g_if_eq (tgt := 20) dX2_heard_9 (by decide) (by omega) (fun h9 => ?_) (fun h9 => ?_)
  · refine g_al0 dX2_heard_20 ?_
    refine g_iconst dX2_heard_21 ?_
    refine g_callV1I (d' := 2) lk_X2_170 hM.sh rfl (rm_lt (by decide) (by decide)) (Nat.le_of_ble_eq_true rfl) dX2_heard_22 ?_
    refine mo_no hM hE (fun σ2 hM hE => ?_)
    exact g_iret rfl dX2_heard_25 ⟨_, rfl, hQ _ _ _ (by unfold qHeard_; rw [if_neg (by omega)]) hM hE⟩
  refine g_al0 dX2_heard_12 ?_
  refine g_il1 dX2_heard_13 ?_
  refine g_callV1I (d' := 6) lk_X2_295 hM.sh rfl (rm_lt (by decide) (by decide)) (Nat.le_of_ble_eq_true rfl) dX2_heard_14 ?_
  obtain ⟨hW, hD⟩ := hP.get (by omega)
  refine mo_heardNow hM hW hD (by omega) ?_
  refine g_goto (tgt := 25) dX2_heard_17 (by decide) ?_
  exact g_iret rfl dX2_heard_25 ⟨_, rfl, hQ _ _ _ (by unfold qHeard_; rw [if_pos (by omega)]) hM hE⟩
theorem mo_heardIn {p : Int} {b n : Int} {Q : Int → JH → Prop} (hM : MD_ G m σ r s) (hp : iv_ σ m 14 = p) (hP : MP_ p r s) (hb : -2147483648 ≤ b ∧ b < 2147483648) (hn : -2147483648 ≤ n ∧ n < 2147483648)
    (hQ : ∀ (x t : Int) (σ' : JH), qHeardIn_ p r s b n = (x, t) → MD_ G m σ' r s → ME_ m σ σ' t → Q x σ') : CallI_ G 6 yX2_heardIn cX2_heardIn 3 (some .int) [A_ (some m), I_ b, I_ n] σ Q := by
  refine call_go [some (A_ (some m)), some (I_ b), some (I_ n)] (by decide) (Nat.le_of_ble_eq_true rfl) rfl ?_
  have hp01 := hP.b
  refine g_al0 dX2_heardIn_0 ?_
  refine g_callV0V (d' := 2) lk_X2_167 hM.sh rfl (rm_lt (by decide) (by decide)) (Nat.le_of_ble_eq_true rfl) dX2_heardIn_1 ?_
  refine mo_good hM (fun σ1 hM hE => ?_)
  have hp := hE.p14.trans hp
  refine g_al0 dX2_heardIn_4 ?_
  refine g_il1 dX2_heardIn_5 ?_
  refine g_callV1I (d' := 3) lk_X2_274 hM.sh rfl (rm_lt (by decide) (by decide)) (Nat.le_of_ble_eq_true rfl) dX2_heardIn_6 ?_
  refine mo_isBox hM hp hP.rw (by omega) (fun x6 hx6 => ?_)
  unfold isB_ at hx6
  refine g_if_ne (tgt := 18) dX2_heardIn_9 (by decide) (by omega) (fun h9 => ?_) (fun h9 => ?_)
  · refine g_il2 dX2_heardIn_18 ?_
    refine g_iconst dX2_heardIn_19 ?_
    refine g_bipush dX2_heardIn_20 (by decide) (by decide) ?_
    refine g_callS3I (d' := 2) lk_X2_149 (rm_lt (by decide) (by decide)) (Nat.le_of_ble_eq_true rfl) dX2_heardIn_22 ?_
    refine mo_in (by omega) (by omega) (by omega) (fun x22 hx22 => ?_)
    refine g_if_eq (tgt := 46) dX2_heardIn_25 (by decide) (by omega) (fun h25 => ?_) (fun h25 => ?_)
    · refine g_al0 dX2_heardIn_46 ?_
      refine g_iconst dX2_heardIn_47 ?_
      refine g_callV1I (d' := 2) lk_X2_170 hM.sh rfl (rm_lt (by decide) (by decide)) (Nat.le_of_ble_eq_true rfl) dX2_heardIn_48 ?_
      refine mo_no hM hE (fun σ2 hM hE => ?_)
      exact g_iret rfl dX2_heardIn_51 ⟨_, rfl, hQ _ _ _ (by unfold qHeardIn_; rw [if_pos (by omega), if_neg (by omega)]) hM hE⟩
    refine g_al0 dX2_heardIn_28 ?_
    refine g_il1 dX2_heardIn_29 ?_
    refine g_al0 dX2_heardIn_30 ?_
    refine f_getA 17 fk_X2_26 rfl hM.sh (fun _ _ => rfl) hM.f17 dX2_heardIn_31 ?_
    refine g_iconst dX2_heardIn_34 ?_
    
    refine g_ialv hM.a17 (by omega) (hM.ss _) dX2_heardIn_35 ?_
    refine g_il2 dX2_heardIn_36 ?_
    refine g_iadd dX2_heardIn_37 ?_
    refine g_iconst dX2_heardIn_38 ?_
    refine g_iconst dX2_heardIn_39 ?_
    refine g_callV4I (d' := 5) lk_X2_291 hM.sh rfl (rm_lt (by decide) (by decide)) (Nat.le_of_ble_eq_true rfl) dX2_heardIn_40 ?_
    obtain ⟨hW, hD⟩ := hP.get (by omega)
    have hd := hD.n
    refine mo_hearsIn hM hW hD (by omega) (by omega) (by omega) (by omega) ?_
    refine g_goto (tgt := 51) dX2_heardIn_43 (by decide) ?_
    exact g_iret rfl dX2_heardIn_51 ⟨_, rfl, hQ _ _ _ (by unfold qHeardIn_; rw [if_pos (by omega), if_pos (by omega)]) hM hE⟩
  refine g_al0 dX2_heardIn_12 ?_
  refine g_iconst dX2_heardIn_13 ?_
  refine g_callV1I (d' := 2) lk_X2_170 hM.sh rfl (rm_lt (by decide) (by decide)) (Nat.le_of_ble_eq_true rfl) dX2_heardIn_14 ?_
  refine mo_no hM hE (fun σ2 hM hE => ?_)
  exact g_iret rfl dX2_heardIn_17 ⟨_, rfl, hQ _ _ _ (by unfold qHeardIn_; rw [if_neg (by omega)]) hM hE⟩
theorem mo_isClosed {k : Int} {Q : Int → JH → Prop} (hM : MD_ G m σ r s)
    (hQ : ∀ z : Int, (z = 1 ∧ hb_ (s 1) k) ∨ (z = 0 ∧ ¬ hb_ (s 1) k) → Q z σ) : CallI_ G 3 yX2_isClosed cX2_isClosed 2 (some .boolean) [A_ (some m), I_ k] σ Q := by
  refine call_go [some (A_ (some m)), some (I_ k)] (by decide) (Nat.le_of_ble_eq_true rfl) rfl ?_
  refine g_al0 dX2_isClosed_0 ?_
  refine f_getA 17 fk_X2_26 rfl hM.sh (fun _ _ => rfl) hM.f17 dX2_isClosed_1 ?_
  refine g_iconst dX2_isClosed_4 ?_
  refine g_ialv hM.a17 (by omega) (hM.ss _) dX2_isClosed_5 ?_
  refine g_il1 dX2_isClosed_6 ?_
  refine g_callS2I (d' := 2) lk_X2_298 (rm_lt (by decide) (by decide)) (Nat.le_of_ble_eq_true rfl) dX2_isClosed_7 ?_
  refine mo_hasBit (fun z hz => ?_)
  exact g_zret rfl (by omega) dX2_isClosed_10 ⟨_, rfl, hQ _ hz⟩
theorem mo_joins {aa : Nat} {f : Int → Int} {k a b : Int} {Q : Int → JH → Prop} (hA : sh_ σ aa = some (.inr (0, 363))) (hv : ∀ j, iv_ σ aa j = f j) (hk : 0 ≤ k ∧ k < 12) (h1 : -2147483648 ≤ f (59 + 4 * k) ∧ f (59 + 4 * k) < 2147483648) (h2 : -2147483648 ≤ f (60 + 4 * k) ∧ f (60 + 4 * k) < 2147483648) (ha : -2147483648 ≤ a ∧ a < 2147483648) (hb : -2147483648 ≤ b ∧ b < 2147483648)
    (hQ : ∀ z : Int, (z = 1 ∧ jn_ f k a b) ∨ (z = 0 ∧ ¬ jn_ f k a b) → Q z σ) : CallI_ G 2 yX2_joins cX2_joins 6 (some .boolean) [A_ (some aa), I_ k, I_ a, I_ b] σ Q := by
  refine call_go [some (A_ (some aa)), some (I_ k), some (I_ a), some (I_ b), none, none] (by decide) (Nat.le_of_ble_eq_true rfl) rfl ?_
  refine g_al0 dX2_joins_0 ?_
  refine g_bipush dX2_joins_1 (by decide) (by decide) ?_
  refine g_iconst dX2_joins_3 ?_
  refine g_il1 dX2_joins_4 ?_
  refine g_imul dX2_joins_5 ?_
  refine g_iadd dX2_joins_6 ?_
  refine g_ialv hA (by omega) (hv _) dX2_joins_7 ?_
  refine g_is4 dX2_joins_8 (by decide) rfl ?_
  refine g_al0 dX2_joins_10 ?_
  refine g_bipush dX2_joins_11 (by decide) (by decide) ?_
  refine g_iconst dX2_joins_13 ?_
  refine g_il1 dX2_joins_14 ?_
  refine g_imul dX2_joins_15 ?_
  refine g_iadd dX2_joins_16 ?_
  refine g_iconst dX2_joins_17 ?_
  refine g_iadd dX2_joins_18 ?_
  refine g_ialv hA (by omega) (show iv_ σ aa (59 + 4 * k + 1) = f (60 + 4 * k) by rw [hv]; congr 1; omega) dX2_joins_19 ?_
  refine g_is5 dX2_joins_20 (by decide) rfl ?_
  refine g_il4 dX2_joins_22 ?_
  refine g_il2 dX2_joins_24 ?_
  refine g_icmp_ne (tgt := 34) dX2_joins_25 (by decide) (by omega) (fun h25 => ?_) (fun h25 => ?_)
  · refine g_il4 dX2_joins_34 ?_
    refine g_il3 dX2_joins_36 ?_
    refine g_icmp_ne (tgt := 50) dX2_joins_37 (by decide) (by omega) (fun h37 => ?_) (fun h37 => ?_)
    · refine g_iconst dX2_joins_50 ?_
      exact g_zret rfl (by omega) dX2_joins_51 ⟨_, rfl, hQ _ (by unfold jn_; omega)⟩
    refine g_il5 dX2_joins_40 ?_
    refine g_il2 dX2_joins_42 ?_
    refine g_icmp_ne (tgt := 50) dX2_joins_43 (by decide) (by omega) (fun h43 => ?_) (fun h43 => ?_)
    · refine g_iconst dX2_joins_50 ?_
      exact g_zret rfl (by omega) dX2_joins_51 ⟨_, rfl, hQ _ (by unfold jn_; omega)⟩
    refine g_iconst dX2_joins_46 ?_
    refine g_goto (tgt := 51) dX2_joins_47 (by decide) ?_
    exact g_zret rfl (by omega) dX2_joins_51 ⟨_, rfl, hQ _ (by unfold jn_; omega)⟩
  refine g_il5 dX2_joins_28 ?_
  refine g_il3 dX2_joins_30 ?_
  refine g_icmp_eq (tgt := 46) dX2_joins_31 (by decide) (by omega) (fun h31 => ?_) (fun h31 => ?_)
  · refine g_iconst dX2_joins_46 ?_
    refine g_goto (tgt := 51) dX2_joins_47 (by decide) ?_
    exact g_zret rfl (by omega) dX2_joins_51 ⟨_, rfl, hQ _ (by unfold jn_; omega)⟩
  refine g_il4 dX2_joins_34 ?_
  refine g_il3 dX2_joins_36 ?_
  refine g_icmp_ne (tgt := 50) dX2_joins_37 (by decide) (by omega) (fun h37 => ?_) (fun h37 => ?_)
  · refine g_iconst dX2_joins_50 ?_
    exact g_zret rfl (by omega) dX2_joins_51 ⟨_, rfl, hQ _ (by unfold jn_; omega)⟩
  refine g_il5 dX2_joins_40 ?_
  refine g_il2 dX2_joins_42 ?_
  refine g_icmp_ne (tgt := 50) dX2_joins_43 (by decide) (by omega) (fun h43 => ?_) (fun h43 => ?_)
  · refine g_iconst dX2_joins_50 ?_
    exact g_zret rfl (by omega) dX2_joins_51 ⟨_, rfl, hQ _ (by unfold jn_; omega)⟩
  refine g_iconst dX2_joins_46 ?_
  refine g_goto (tgt := 51) dX2_joins_47 (by decide) ?_
  exact g_zret rfl (by omega) dX2_joins_51 ⟨_, rfl, hQ _ (by unfold jn_; omega)⟩
theorem mo_wayOf {a b : Int} {Q : Int → JH → Prop} (hM : MD_ G m σ r s) (hW : RW_ r) (ha : 0 ≤ a ∧ a < 100) (hb : 0 ≤ b ∧ b < 100)
    (hQ : Q (wo_ r s a b) σ) : CallI_ G 4 yX2_wayOf cX2_wayOf 4 (some .int) [A_ (some m), I_ a, I_ b] σ Q := by
  refine call_go [some (A_ (some m)), some (I_ a), some (I_ b), none] (by decide) (Nat.le_of_ble_eq_true rfl) rfl ?_
  have hn := hW.n
  have L2 : ∀ (n : Nat) (k : Int), r 5 - k < (n : Int) → (0 ≤ k) → (k ≤ r 5) → (∀ j, 0 ≤ j → j < k → decide (jn_ r j a b ∧ ¬ hb_ (s 1) j) = false) → GoM_ G 4 yX2_wayOf cX2_wayOf 4 (some .int) σ (fun v σ' => ∃ x : Int, v = some (I_ x) ∧ Q x σ') 2 [some (A_ (some m)), some (I_ a), some (I_ b), some (I_ k)] [] σ := by
    intro n
    induction n with
    | zero => intro k hn h0 h1 hf; exact absurd hn (by omega)
    | succ n ih =>
      intro k hn h0 h1 hf
      refine g_il3 dX2_wayOf_2 ?_
      refine g_al0 dX2_wayOf_3 ?_
      refine f_getA 15 fk_X2_20 rfl hM.sh (fun _ _ => rfl) hM.f15 dX2_wayOf_4 ?_
      refine g_iconst dX2_wayOf_7 ?_
      refine g_ialv hM.a15 (by omega) (hM.rr _) dX2_wayOf_8 ?_
      refine g_icmp_ge (tgt := 41) dX2_wayOf_9 (by decide) (by omega) (fun h9 => ?_) (fun h9 => ?_)
      · refine g_iconst dX2_wayOf_41 ?_
        exact g_iret rfl dX2_wayOf_42 ⟨_, rfl, by have e : wo_ r s a b = -1 := fI_none (fun j g0 g1 => hf j g0 (by omega)); rw [← e]; exact hQ⟩
      refine g_al0 dX2_wayOf_12 ?_
      refine f_getA 15 fk_X2_20 rfl hM.sh (fun _ _ => rfl) hM.f15 dX2_wayOf_13 ?_
      refine g_il3 dX2_wayOf_16 ?_
      refine g_il1 dX2_wayOf_17 ?_
      refine g_il2 dX2_wayOf_18 ?_
      refine g_callS4I (d' := 2) lk_X2_230 (rm_lt (by decide) (by decide)) (Nat.le_of_ble_eq_true rfl) dX2_wayOf_19 ?_
      have hw := hW.way (k := k) h0 (by omega)
      refine mo_joins hM.a15 hM.rr (by omega) (by omega) (by omega) (by omega) (by omega) (fun z hz => ?_)
      refine g_if_eq (tgt := 35) dX2_wayOf_22 (by decide) (by omega) (fun h22 => ?_) (fun h22 => ?_)
      · refine g_inc3 dX2_wayOf_35 (by decide) rfl ?_
        refine g_goto (tgt := 2) dX2_wayOf_38 (by decide) ?_
        refine ih _ (by omega) (by omega) (by omega) (fun j g0 g1 => ?_)
        by_cases hj : j = k
        · subst hj; exact decide_eq_false (by omega)
        · exact hf j g0 (by omega)
      refine g_al0 dX2_wayOf_25 ?_
      refine g_il3 dX2_wayOf_26 ?_
      refine g_callV1I (d' := 3) lk_X2_302 hM.sh rfl (rm_lt (by decide) (by decide)) (Nat.le_of_ble_eq_true rfl) dX2_wayOf_27 ?_
      refine mo_isClosed hM (fun z2 hz2 => ?_)
      refine g_if_ne (tgt := 35) dX2_wayOf_30 (by decide) (by omega) (fun h30 => ?_) (fun h30 => ?_)
      · refine g_inc3 dX2_wayOf_35 (by decide) rfl ?_
        refine g_goto (tgt := 2) dX2_wayOf_38 (by decide) ?_
        refine ih _ (by omega) (by omega) (by omega) (fun j g0 g1 => ?_)
        by_cases hj : j = k
        · subst hj; exact decide_eq_false (by omega)
        · exact hf j g0 (by omega)
      refine g_il3 dX2_wayOf_33 ?_
      exact g_iret rfl dX2_wayOf_34 ⟨_, rfl, by have e : wo_ r s a b = k := fI_hit h0 (by omega) (decide_eq_true ⟨by omega, by omega⟩) hf; rw [← e]; exact hQ⟩
  refine g_iconst dX2_wayOf_0 ?_
  refine g_is3 dX2_wayOf_1 (by decide) rfl ?_
  exact L2 ((r 5).toNat + 1) _ (by omega) (by omega) (by omega) (fun j g0 g1 => by omega)
theorem mo_way {p : Int} {i j : Int} {Q : Int → JH → Prop} (hM : MD_ G m σ r s) (hp : iv_ σ m 14 = p) (hP : MP_ p r s) (hi : -2147483648 ≤ i ∧ i < 2147483648) (hj : -2147483648 ≤ j ∧ j < 2147483648)
    (hQ : ∀ (x t : Int) (σ' : JH), qWay_ p r s i j = (x, t) → MD_ G m σ' r s → ME_ m σ σ' t → Q x σ') : CallI_ G 5 yX2_way cX2_way 4 (some .int) [A_ (some m), I_ i, I_ j] σ Q := by
  refine call_go [some (A_ (some m)), some (I_ i), some (I_ j), none] (by decide) (Nat.le_of_ble_eq_true rfl) rfl ?_
  have hp01 := hP.b
  refine g_al0 dX2_way_0 ?_
  refine g_callV0V (d' := 2) lk_X2_167 hM.sh rfl (rm_lt (by decide) (by decide)) (Nat.le_of_ble_eq_true rfl) dX2_way_1 ?_
  refine mo_good hM (fun σ1 hM hE => ?_)
  have hp := hE.p14.trans hp
  refine g_al0 dX2_way_4 ?_
  refine g_il1 dX2_way_5 ?_
  refine g_callV1I (d' := 3) lk_X2_277 hM.sh rfl (rm_lt (by decide) (by decide)) (Nat.le_of_ble_eq_true rfl) dX2_way_6 ?_
  refine mo_isIsland hM hp hP.rw (by omega) (fun x6 hx6 => ?_)
  unfold isI_ at hx6
  refine g_if_eq (tgt := 25) dX2_way_9 (by decide) (by omega) (fun h9 => ?_) (fun h9 => ?_)
  · refine g_al0 dX2_way_25 ?_
    refine g_iconst dX2_way_26 ?_
    refine g_callV1I (d' := 2) lk_X2_170 hM.sh rfl (rm_lt (by decide) (by decide)) (Nat.le_of_ble_eq_true rfl) dX2_way_27 ?_
    refine mo_no hM hE (fun σ2 hM hE => ?_)
    exact g_iret rfl dX2_way_30 ⟨_, rfl, hQ _ _ _ (by unfold qWay_; rw [if_neg (by omega)]) hM hE⟩
  refine g_al0 dX2_way_12 ?_
  refine g_il2 dX2_way_13 ?_
  refine g_callV1I (d' := 3) lk_X2_277 hM.sh rfl (rm_lt (by decide) (by decide)) (Nat.le_of_ble_eq_true rfl) dX2_way_14 ?_
  refine mo_isIsland hM hp hP.rw (by omega) (fun x14 hx14 => ?_)
  unfold isI_ at hx14
  refine g_if_eq (tgt := 25) dX2_way_17 (by decide) (by omega) (fun h17 => ?_) (fun h17 => ?_)
  · refine g_al0 dX2_way_25 ?_
    refine g_iconst dX2_way_26 ?_
    refine g_callV1I (d' := 2) lk_X2_170 hM.sh rfl (rm_lt (by decide) (by decide)) (Nat.le_of_ble_eq_true rfl) dX2_way_27 ?_
    refine mo_no hM hE (fun σ2 hM hE => ?_)
    exact g_iret rfl dX2_way_30 ⟨_, rfl, hQ _ _ _ (by unfold qWay_; rw [if_neg (by omega)]) hM hE⟩
  refine g_il1 dX2_way_20 ?_
  refine g_il2 dX2_way_21 ?_
  refine g_icmp_ne (tgt := 31) dX2_way_22 (by decide) (by omega) (fun h22 => ?_) (fun h22 => ?_)
  · refine g_al0 dX2_way_31 ?_
    refine g_il1 dX2_way_32 ?_
    refine g_il2 dX2_way_33 ?_
    refine g_callV2I (d' := 4) lk_X2_305 hM.sh rfl (rm_lt (by decide) (by decide)) (Nat.le_of_ble_eq_true rfl) dX2_way_34 ?_
    obtain ⟨hW, hD⟩ := hP.get (by omega)
    have hn := hW.n
    refine mo_wayOf hM hW (by omega) (by omega) ?_
    have hw := wo_in (r := r) (s := s) (a := i) (b := j) (by omega)
    refine g_is3 dX2_way_37 (by decide) rfl ?_
    refine g_il3 dX2_way_38 ?_
    refine g_if_ge (tgt := 47) dX2_way_39 (by decide) (by omega) (fun h39 => ?_) (fun h39 => ?_)
    · refine g_al0 dX2_way_47 ?_
      refine f_getA 15 fk_X2_20 rfl hM.sh (fun _ _ => rfl) hM.f15 dX2_way_48 ?_
      refine g_bipush dX2_way_51 (by decide) (by decide) ?_
      refine g_iconst dX2_way_53 ?_
      refine g_il3 dX2_way_54 ?_
      refine g_imul dX2_way_55 ?_
      refine g_iadd dX2_way_56 ?_
      refine g_iconst dX2_way_57 ?_
      refine g_iadd dX2_way_58 ?_
      refine g_ialv hM.a15 (by omega) (hM.rrx (j := 61 + 4 * wo_ r s i j) (by omega)) dX2_way_59 ?_
      exact g_iret rfl dX2_way_60 ⟨_, rfl, hQ _ _ _ (by unfold qWay_; rw [if_pos (by omega), if_neg (by omega)]) hM hE⟩
    refine g_bipush dX2_way_42 (by decide) (by decide) ?_
    refine g_goto (tgt := 60) dX2_way_44 (by decide) ?_
    exact g_iret rfl dX2_way_60 ⟨_, rfl, hQ _ _ _ (by unfold qWay_; rw [if_pos (by omega), if_pos (by omega)]) hM hE⟩
  refine g_al0 dX2_way_25 ?_
  refine g_iconst dX2_way_26 ?_
  refine g_callV1I (d' := 2) lk_X2_170 hM.sh rfl (rm_lt (by decide) (by decide)) (Nat.le_of_ble_eq_true rfl) dX2_way_27 ?_
  refine mo_no hM hE (fun σ2 hM hE => ?_)
  exact g_iret rfl dX2_way_30 ⟨_, rfl, hQ _ _ _ (by unfold qWay_; rw [if_neg (by omega)]) hM hE⟩
theorem mo_nearOf {b mn : Int} {Q : Int → JH → Prop} (hM : MD_ G m σ r s) (hW : RW_ r) (hD : DW_ r s) (hb : 0 ≤ b ∧ b < r 7) (hmn : mn = 0 ∨ mn = 1)
    (hQ : Q (if mn = 0 then (nr_ r s b).1 else (nr_ r s b).2) σ) : CallI_ G 5 yX2_nearOf cX2_nearOf 7 (some .int) [A_ (some m), I_ b, I_ mn] σ Q := by
  refine call_go [some (A_ (some m)), some (I_ b), some (I_ mn), none, none, none, none] (by decide) (Nat.le_of_ble_eq_true rfl) rfl ?_
  have hn := hW.n
  have hd := hD.n
  have hbl := bl_in hW hb.1 hb.2
  have L9 : ∀ (n : Nat) (le : Int) (n1 : Int) (i : Int) (v6 : Option AV), r 4 - i < (n : Int) → (0 ≤ i) → (i ≤ r 4) → (0 ≤ le ∧ le ≤ 7) → (0 ≤ n1 ∧ n1 ≤ i) → ((le, n1) = iI_ (ns_ r (rb_ s b (-1) 0) (bl_ r b) (s 0)) (7, 0) i) → GoM_ G 5 yX2_nearOf cX2_nearOf 7 (some .int) σ (fun v σ' => ∃ x : Int, v = some (I_ x) ∧ Q x σ') 9 [some (A_ (some m)), some (I_ b), some (I_ mn), some (I_ le), some (I_ n1), some (I_ i), v6] [] σ := by
    intro n
    induction n with
    | zero => intro le n1 i v6 hn h0 h1 hle hn1 hc; exact absurd hn (by omega)
    | succ n ih =>
      intro le n1 i v6 hn h0 h1 hle hn1 hc
      refine g_il5 dX2_nearOf_9 ?_
      refine g_al0 dX2_nearOf_11 ?_
      refine f_getA 15 fk_X2_20 rfl hM.sh (fun _ _ => rfl) hM.f15 dX2_nearOf_12 ?_
      refine g_iconst dX2_nearOf_15 ?_
      refine g_ialv hM.a15 (by omega) (hM.rr _) dX2_nearOf_16 ?_
      refine g_icmp_ge (tgt := 100) dX2_nearOf_17 (by decide) (by omega) (fun h17 => ?_) (fun h17 => ?_)
      · refine g_il2 dX2_nearOf_100 ?_
        refine g_if_eq (tgt := 109) dX2_nearOf_101 (by decide) (by omega) (fun h101 => ?_) (fun h101 => ?_)
        · refine g_il3 dX2_nearOf_109 ?_
          exact g_iret rfl dX2_nearOf_110 ⟨_, rfl, (by have e : r 4 = i := (by omega); have q : nr_ r s b = (le, n1) := (by unfold nr_; rw [e, ← hc]); rw [q] at hQ; dsimp only at hQ; split at hQ <;> first | exact hQ | (exfalso; omega))⟩
        refine g_il4 dX2_nearOf_104 ?_
        refine g_goto (tgt := 110) dX2_nearOf_106 (by decide) ?_
        exact g_iret rfl dX2_nearOf_110 ⟨_, rfl, (by have e : r 4 = i := (by omega); have q : nr_ r s b = (le, n1) := (by unfold nr_; rw [e, ← hc]); rw [q] at hQ; dsimp only at hQ; split at hQ <;> first | exact hQ | (exfalso; omega))⟩
      refine g_al0 dX2_nearOf_20 ?_
      refine g_il5 dX2_nearOf_21 ?_
      refine g_callV1I (d' := 2) lk_X2_265 hM.sh rfl (rm_lt (by decide) (by decide)) (Nat.le_of_ble_eq_true rfl) dX2_nearOf_23 ?_
      refine mo_songLong hM (by omega) ?_
      have hl := hW.len (i := i) (by omega) (by omega)
      refine g_al0 dX2_nearOf_26 ?_
      refine g_il1 dX2_nearOf_27 ?_
      refine g_callV1I (d' := 3) lk_X2_284 hM.sh rfl (rm_lt (by decide) (by decide)) (Nat.le_of_ble_eq_true rfl) dX2_nearOf_28 ?_
      refine mo_boxLong hM hW hb ?_
      refine g_icmp_eq (tgt := 37) dX2_nearOf_31 (by decide) (by omega) (fun h31 => ?_) (fun h31 => ?_)
      · refine g_al0 dX2_nearOf_37 ?_
        refine g_il1 dX2_nearOf_38 ?_
        refine g_il5 dX2_nearOf_39 ?_
        refine g_al0 dX2_nearOf_41 ?_
        refine f_getA 17 fk_X2_26 rfl hM.sh (fun _ _ => rfl) hM.f17 dX2_nearOf_42 ?_
        refine g_iconst dX2_nearOf_45 ?_
        refine g_ialv hM.a17 (by omega) (hM.ss _) dX2_nearOf_46 ?_
        refine g_iconst dX2_nearOf_47 ?_
        refine g_iconst dX2_nearOf_48 ?_
        refine g_callV5I (d' := 4) lk_X2_287 hM.sh rfl (rm_lt (by decide) (by decide)) (Nat.le_of_ble_eq_true rfl) dX2_nearOf_49 ?_
        refine mo_unlike hM hW hD hb (by omega) (by omega) (by omega) (by omega) ?_
        have hu := ul_in r (rb_ s b (-1) 0) i (s 0) (L := bl_ r b) (by omega)
        refine g_is6 dX2_nearOf_52 (by decide) rfl ?_
        refine g_il6 dX2_nearOf_54 ?_
        refine g_il3 dX2_nearOf_56 ?_
        refine g_icmp_ge (tgt := 64) dX2_nearOf_57 (by decide) (by omega) (fun h57 => ?_) (fun h57 => ?_)
        · refine g_il6 dX2_nearOf_64 ?_
          refine g_il3 dX2_nearOf_66 ?_
          refine g_icmp_ne (tgt := 77) dX2_nearOf_67 (by decide) (by omega) (fun h67 => ?_) (fun h67 => ?_)
          · refine g_il4 dX2_nearOf_77 ?_
            refine g_is4 dX2_nearOf_79 (by decide) rfl ?_
            refine g_il6 dX2_nearOf_81 ?_
            refine g_il3 dX2_nearOf_83 ?_
            refine g_icmp_ge (tgt := 92) dX2_nearOf_84 (by decide) (by omega) (fun h84 => ?_) (fun h84 => ?_)
            · refine g_il3 dX2_nearOf_92 ?_
              refine g_is3 dX2_nearOf_93 (by decide) rfl ?_
              refine g_inc5 dX2_nearOf_94 (by decide) rfl ?_
              refine g_goto (tgt := 9) dX2_nearOf_97 (by decide) ?_
              refine ih _ _ _ _ (by omega) (by omega) (by omega) (by omega) (by omega) ?_
              rw [iI_s _ _ h0, ← hc]
              unfold ns_
              (dsimp only; repeat' split) <;> first | rfl | (exfalso; omega) | (simp only [Prod.mk.injEq]; omega) | omega
            refine g_il6 dX2_nearOf_87 ?_
            refine g_goto (tgt := 93) dX2_nearOf_89 (by decide) ?_
            refine g_is3 dX2_nearOf_93 (by decide) rfl ?_
            refine g_inc5 dX2_nearOf_94 (by decide) rfl ?_
            refine g_goto (tgt := 9) dX2_nearOf_97 (by decide) ?_
            refine ih _ _ _ _ (by omega) (by omega) (by omega) (by omega) (by omega) ?_
            rw [iI_s _ _ h0, ← hc]
            unfold ns_
            (dsimp only; repeat' split) <;> first | rfl | (exfalso; omega) | (simp only [Prod.mk.injEq]; omega) | omega
          refine g_il4 dX2_nearOf_70 ?_
          refine g_iconst dX2_nearOf_72 ?_
          refine g_iadd dX2_nearOf_73 ?_
          refine g_goto (tgt := 79) dX2_nearOf_74 (by decide) ?_
          refine g_is4 dX2_nearOf_79 (by decide) rfl ?_
          refine g_il6 dX2_nearOf_81 ?_
          refine g_il3 dX2_nearOf_83 ?_
          refine g_icmp_ge (tgt := 92) dX2_nearOf_84 (by decide) (by omega) (fun h84 => ?_) (fun h84 => ?_)
          · refine g_il3 dX2_nearOf_92 ?_
            refine g_is3 dX2_nearOf_93 (by decide) rfl ?_
            refine g_inc5 dX2_nearOf_94 (by decide) rfl ?_
            refine g_goto (tgt := 9) dX2_nearOf_97 (by decide) ?_
            refine ih _ _ _ _ (by omega) (by omega) (by omega) (by omega) (by omega) ?_
            rw [iI_s _ _ h0, ← hc]
            unfold ns_
            (dsimp only; repeat' split) <;> first | rfl | (exfalso; omega) | (simp only [Prod.mk.injEq]; omega) | omega
          refine g_il6 dX2_nearOf_87 ?_
          refine g_goto (tgt := 93) dX2_nearOf_89 (by decide) ?_
          refine g_is3 dX2_nearOf_93 (by decide) rfl ?_
          refine g_inc5 dX2_nearOf_94 (by decide) rfl ?_
          refine g_goto (tgt := 9) dX2_nearOf_97 (by decide) ?_
          refine ih _ _ _ _ (by omega) (by omega) (by omega) (by omega) (by omega) ?_
          rw [iI_s _ _ h0, ← hc]
          unfold ns_
          (dsimp only; repeat' split) <;> first | rfl | (exfalso; omega) | (simp only [Prod.mk.injEq]; omega) | omega
        refine g_iconst dX2_nearOf_60 ?_
        refine g_goto (tgt := 79) dX2_nearOf_61 (by decide) ?_
        refine g_is4 dX2_nearOf_79 (by decide) rfl ?_
        refine g_il6 dX2_nearOf_81 ?_
        refine g_il3 dX2_nearOf_83 ?_
        refine g_icmp_ge (tgt := 92) dX2_nearOf_84 (by decide) (by omega) (fun h84 => ?_) (fun h84 => ?_)
        · refine g_il3 dX2_nearOf_92 ?_
          refine g_is3 dX2_nearOf_93 (by decide) rfl ?_
          refine g_inc5 dX2_nearOf_94 (by decide) rfl ?_
          refine g_goto (tgt := 9) dX2_nearOf_97 (by decide) ?_
          refine ih _ _ _ _ (by omega) (by omega) (by omega) (by omega) (by omega) ?_
          rw [iI_s _ _ h0, ← hc]
          unfold ns_
          (dsimp only; repeat' split) <;> first | rfl | (exfalso; omega) | (simp only [Prod.mk.injEq]; omega) | omega
        refine g_il6 dX2_nearOf_87 ?_
        refine g_goto (tgt := 93) dX2_nearOf_89 (by decide) ?_
        refine g_is3 dX2_nearOf_93 (by decide) rfl ?_
        refine g_inc5 dX2_nearOf_94 (by decide) rfl ?_
        refine g_goto (tgt := 9) dX2_nearOf_97 (by decide) ?_
        refine ih _ _ _ _ (by omega) (by omega) (by omega) (by omega) (by omega) ?_
        rw [iI_s _ _ h0, ← hc]
        unfold ns_
        (dsimp only; repeat' split) <;> first | rfl | (exfalso; omega) | (simp only [Prod.mk.injEq]; omega) | omega
      refine g_goto (tgt := 94) dX2_nearOf_34 (by decide) ?_
      refine g_inc5 dX2_nearOf_94 (by decide) rfl ?_
      refine g_goto (tgt := 9) dX2_nearOf_97 (by decide) ?_
      refine ih _ _ _ _ (by omega) (by omega) (by omega) (by omega) (by omega) ?_
      rw [iI_s _ _ h0, ← hc]
      unfold ns_
      (dsimp only; repeat' split) <;> first | rfl | (exfalso; omega) | (simp only [Prod.mk.injEq]; omega) | omega
  refine g_bipush dX2_nearOf_0 (by decide) (by decide) ?_
  refine g_is3 dX2_nearOf_2 (by decide) rfl ?_
  refine g_iconst dX2_nearOf_3 ?_
  refine g_is4 dX2_nearOf_4 (by decide) rfl ?_
  refine g_iconst dX2_nearOf_6 ?_
  refine g_is5 dX2_nearOf_7 (by decide) rfl ?_
  exact L9 ((r 4).toNat + 1) _ _ _ _ (by omega) (by omega) (by omega) (by omega) (by omega) rfl
theorem mo_near {p : Int} {b : Int} {Q : Int → JH → Prop} (hM : MD_ G m σ r s) (hp : iv_ σ m 14 = p) (hP : MP_ p r s) (hb : -2147483648 ≤ b ∧ b < 2147483648)
    (hQ : ∀ (x t : Int) (σ' : JH), qNear_ p r s b = (x, t) → MD_ G m σ' r s → ME_ m σ σ' t → Q x σ') : CallI_ G 6 yX2_near cX2_near 2 (some .int) [A_ (some m), I_ b] σ Q := by
  refine call_go [some (A_ (some m)), some (I_ b)] (by decide) (Nat.le_of_ble_eq_true rfl) rfl ?_
  have hp01 := hP.b
  refine g_al0 dX2_near_0 ?_
  refine g_callV0V (d' := 2) lk_X2_167 hM.sh rfl (rm_lt (by decide) (by decide)) (Nat.le_of_ble_eq_true rfl) dX2_near_1 ?_
  refine mo_good hM (fun σ1 hM hE => ?_)
  have hp := hE.p14.trans hp
  refine g_al0 dX2_near_4 ?_
  refine g_il1 dX2_near_5 ?_
  refine g_callV1I (d' := 3) lk_X2_274 hM.sh rfl (rm_lt (by decide) (by decide)) (Nat.le_of_ble_eq_true rfl) dX2_near_6 ?_
  refine mo_isBox hM hp hP.rw (by omega) (fun x6 hx6 => ?_)
  unfold isB_ at hx6
  refine g_if_eq (tgt := 21) dX2_near_9 (by decide) (by omega) (fun h9 => ?_) (fun h9 => ?_)
  · refine g_al0 dX2_near_21 ?_
    refine g_iconst dX2_near_22 ?_
    refine g_callV1I (d' := 2) lk_X2_170 hM.sh rfl (rm_lt (by decide) (by decide)) (Nat.le_of_ble_eq_true rfl) dX2_near_23 ?_
    refine mo_no hM hE (fun σ2 hM hE => ?_)
    exact g_iret rfl dX2_near_26 ⟨_, rfl, hQ _ _ _ (by unfold qNear_; rw [if_neg (by omega)]) hM hE⟩
  refine g_al0 dX2_near_12 ?_
  refine g_il1 dX2_near_13 ?_
  refine g_iconst dX2_near_14 ?_
  refine g_callV2I (d' := 5) lk_X2_308 hM.sh rfl (rm_lt (by decide) (by decide)) (Nat.le_of_ble_eq_true rfl) dX2_near_15 ?_
  obtain ⟨hW, hD⟩ := hP.get (by omega)
  refine mo_nearOf hM hW hD (by omega) (by omega) ?_
  rw [if_pos rfl]
  refine g_goto (tgt := 26) dX2_near_18 (by decide) ?_
  exact g_iret rfl dX2_near_26 ⟨_, rfl, hQ _ _ _ (by unfold qNear_; rw [if_pos (by omega)]) hM hE⟩
theorem mo_asNear {p : Int} {b : Int} {Q : Int → JH → Prop} (hM : MD_ G m σ r s) (hp : iv_ σ m 14 = p) (hP : MP_ p r s) (hb : -2147483648 ≤ b ∧ b < 2147483648)
    (hQ : ∀ (x t : Int) (σ' : JH), qAsNear_ p r s b = (x, t) → MD_ G m σ' r s → ME_ m σ σ' t → Q x σ') : CallI_ G 6 yX2_asNear cX2_asNear 2 (some .int) [A_ (some m), I_ b] σ Q := by
  refine call_go [some (A_ (some m)), some (I_ b)] (by decide) (Nat.le_of_ble_eq_true rfl) rfl ?_
  have hp01 := hP.b
  refine g_al0 dX2_asNear_0 ?_
  refine g_callV0V (d' := 2) lk_X2_167 hM.sh rfl (rm_lt (by decide) (by decide)) (Nat.le_of_ble_eq_true rfl) dX2_asNear_1 ?_
  refine mo_good hM (fun σ1 hM hE => ?_)
  have hp := hE.p14.trans hp
  refine g_al0 dX2_asNear_4 ?_
  refine g_il1 dX2_asNear_5 ?_
  refine g_callV1I (d' := 3) lk_X2_274 hM.sh rfl (rm_lt (by decide) (by decide)) (Nat.le_of_ble_eq_true rfl) dX2_asNear_6 ?_
  refine mo_isBox hM hp hP.rw (by omega) (fun x6 hx6 => ?_)
  unfold isB_ at hx6
  refine g_if_eq (tgt := 21) dX2_asNear_9 (by decide) (by omega) (fun h9 => ?_) (fun h9 => ?_)
  · refine g_al0 dX2_asNear_21 ?_
    refine g_iconst dX2_asNear_22 ?_
    refine g_callV1I (d' := 2) lk_X2_170 hM.sh rfl (rm_lt (by decide) (by decide)) (Nat.le_of_ble_eq_true rfl) dX2_asNear_23 ?_
    refine mo_no hM hE (fun σ2 hM hE => ?_)
    exact g_iret rfl dX2_asNear_26 ⟨_, rfl, hQ _ _ _ (by unfold qAsNear_; rw [if_neg (by omega)]) hM hE⟩
  refine g_al0 dX2_asNear_12 ?_
  refine g_il1 dX2_asNear_13 ?_
  refine g_iconst dX2_asNear_14 ?_
  refine g_callV2I (d' := 5) lk_X2_308 hM.sh rfl (rm_lt (by decide) (by decide)) (Nat.le_of_ble_eq_true rfl) dX2_asNear_15 ?_
  obtain ⟨hW, hD⟩ := hP.get (by omega)
  refine mo_nearOf hM hW hD (by omega) (by omega) ?_
  rw [if_neg (by omega)]
  refine g_goto (tgt := 26) dX2_asNear_18 (by decide) ?_
  exact g_iret rfl dX2_asNear_26 ⟨_, rfl, hQ _ _ _ (by unfold qAsNear_; rw [if_pos (by omega)]) hM hE⟩
end
