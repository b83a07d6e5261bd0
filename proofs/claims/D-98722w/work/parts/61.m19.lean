/-! THE REFERENCE: names known and new. Written by mod/m61.py -/
set_option maxRecDepth 100000
section
variable {G : JG} {m : Nat} {σ : JH}
abbrev isn_ (m : Nat) (γ : JH) : Prop := iv_ γ m 6 = 2 ∧ kw_ m γ = false
/-- a name told ahead of some sort; it isn't passed -/
def ndd_ (m : Nat) (γ : JH) (lo hi : Int) : JH := if iv_ γ m 13 = 0 then (if isn_ m γ then (if lo ≤ fd_ m γ ∧ fd_ m γ ≤ hi then γ else wr_ m γ 2 (iv_ γ m 4)) else wr_ m γ 1 (iv_ γ m 4)) else γ
def ndv_ (m : Nat) (γ : JH) (lo hi : Int) : Int := if iv_ γ m 13 = 0 ∧ isn_ m γ ∧ lo ≤ fd_ m γ ∧ fd_ m γ ≤ hi then fd_ m γ - lo else 0
/-- a new name is put by -/
def pnm_ (m : Nat) (γ : JH) (n : Int) : JH := pi_ (pb_ γ (m + 4) (203 + 8 * n) (iv_ γ m 8) (iv_ γ (m + 2))) (m + 4) (183 + n) (iv_ γ m 8)
def nna_ (m : Nat) (γ : JH) (n : Int) : JH := if iv_ γ m 13 = 0 then (if isn_ m γ then (if 0 ≤ fd_ m γ then wr_ m γ 3 (iv_ γ m 4) else nxt_ m (pnm_ m γ n)) else wr_ m γ 1 (iv_ γ m 4)) else γ
theorem mo_named  {lo hi : Int} {Q : Int → JH → Prop} (hR : MR_ G m σ) (hP : PI_ m σ) (hB : FB_ m σ) (hL : LS_ G σ) (hlo : 0 ≤ lo ∧ lo ≤ 100) (hhi : 0 ≤ hi ∧ hi ≤ 100)
    (hQ : Q (ndv_ m σ lo hi) (ndd_ m σ lo hi)) : CallI_ G 9 yX2_named cX2_named 4 (some .int) [A_ (some m), I_ lo, I_ hi] σ Q := by
  refine call_go [some (A_ (some m)), some (I_ lo), some (I_ hi), none] (by decide) (Nat.le_of_ble_eq_true rfl) rfl ?_
  have hp3 := hP.2.2.1
  refine g_al0 dX2_named_0 ?_
  refine f_getI 13 fk_X2_100 rfl hR.sh (fun _ _ => rfl) dX2_named_1 ?_
  refine g_if_eq (tgt := 9) dX2_named_4 (by decide) (by omega) (fun h4 => ?_) (fun h4 => ?_)
  · refine g_al0 dX2_named_9 ?_
    refine g_callV0V (d' := 8) lk_X2_143 hR.sh rfl (rm_lt (by decide) (by decide)) (Nat.le_of_ble_eq_true rfl) dX2_named_10 ?_
    refine mo_mustName hR hP hL ?_
    by_cases hc : isn_ m σ
    · rw [show mna_ m σ = σ from if_pos hc]
      refine g_al0 dX2_named_13 ?_
      refine f_getI 13 fk_X2_100 rfl hR.sh (fun _ _ => rfl) dX2_named_14 ?_
      refine g_if_eq (tgt := 22) dX2_named_17 (by decide) (by omega) (fun h17 => ?_) (fun h17 => ?_)
      · refine g_al0 dX2_named_22 ?_
        refine g_callV0I (d' := 2) lk_X2_146 hR.sh rfl (rm_lt (by decide) (by decide)) (Nat.le_of_ble_eq_true rfl) dX2_named_23 ?_
        refine mo_find hR hP hB hc.1 ?_
        have hfd := fd_in (m := m) σ
        refine g_is3 dX2_named_26 (by decide) rfl ?_
        refine g_il3 dX2_named_27 ?_
        refine g_il1 dX2_named_28 ?_
        refine g_il2 dX2_named_29 ?_
        refine g_callS3I (d' := 2) lk_X2_149 (rm_lt (by decide) (by decide)) (Nat.le_of_ble_eq_true rfl) dX2_named_30 ?_
        refine mo_in (by omega) (by omega) (by omega) (fun z hz => ?_)
        refine g_if_ne (tgt := 45) dX2_named_33 (by decide) (by omega) (fun h33 => ?_) (fun h33 => ?_)
        · refine g_al0 dX2_named_45 ?_
          refine f_getI 13 fk_X2_100 rfl hR.sh (fun _ _ => rfl) dX2_named_46 ?_
          refine g_if_eq (tgt := 56) dX2_named_49 (by decide) (by omega) (fun h49 => ?_) (fun h49 => ?_)
          · refine g_il3 dX2_named_56 ?_
            refine g_il1 dX2_named_57 ?_
            refine g_isub dX2_named_58 ?_
            exact g_iret rfl dX2_named_59 ⟨_, rfl, by unfold ndv_ ndd_ at hQ; rw [if_pos ⟨by omega, hc, by omega, by omega⟩, if_pos (by omega), if_pos hc, if_pos (by omega)] at hQ; exact hQ⟩
          exact absurd h49 (by omega)
        refine g_al0 dX2_named_36 ?_
        refine g_iconst dX2_named_37 ?_
        refine g_al0 dX2_named_38 ?_
        refine f_getI 4 fk_X2_81 rfl hR.sh (fun _ _ => rfl) dX2_named_39 ?_
        refine g_callV2V (d' := 2) lk_X2_127 hR.sh rfl (rm_lt (by decide) (by decide)) (Nat.le_of_ble_eq_true rfl) dX2_named_42 ?_
        refine mo_wrong hR hP.2.2.1 ?_
        have hw := wr_13 (γ := σ) (w := 2) (a := iv_ σ m 4) hP.2.2.1
        have hR := hR.fr (wr_fr (m := m) σ 2 (iv_ σ m 4))
        refine g_al0 dX2_named_45 ?_
        refine f_getv 13 fk_X2_100 rfl hR.sh (fun _ _ => rfl) hw dX2_named_46 ?_
        refine g_if_eq (tgt := 56) dX2_named_49 (by decide) (by omega) (fun h49 => ?_) (fun h49 => ?_)
        · exact absurd h49 (by decide)
        refine g_iconst dX2_named_52 ?_
        refine g_goto (tgt := 59) dX2_named_53 (by decide) ?_
        exact g_iret rfl dX2_named_59 ⟨_, rfl, by unfold ndv_ ndd_ at hQ; rw [if_neg (fun q => by omega), if_pos (by omega), if_pos hc, if_neg (by omega)] at hQ; exact hQ⟩
      exact absurd h17 (by omega)
    · rw [show mna_ m σ = wr_ m σ 1 (iv_ σ m 4) from if_neg hc]
      have hw := wr_13 (γ := σ) (w := 1) (a := iv_ σ m 4) hP.2.2.1
      have hR := hR.fr (wr_fr (m := m) σ 1 (iv_ σ m 4))
      refine g_al0 dX2_named_13 ?_
      refine f_getv 13 fk_X2_100 rfl hR.sh (fun _ _ => rfl) hw dX2_named_14 ?_
      refine g_if_eq (tgt := 22) dX2_named_17 (by decide) (by omega) (fun h17 => ?_) (fun h17 => ?_)
      · exact absurd h17 (by decide)
      refine g_iconst dX2_named_20 ?_
      exact g_iret rfl dX2_named_21 ⟨_, rfl, by unfold ndv_ ndd_ at hQ; rw [if_neg (fun q => hc q.2.1), if_pos (by omega), if_neg hc] at hQ; exact hQ⟩
  refine g_iconst dX2_named_7 ?_
  exact g_iret rfl dX2_named_8 ⟨_, rfl, by unfold ndv_ ndd_ at hQ; rw [if_neg (by omega), if_neg (by omega)] at hQ; exact hQ⟩
theorem mo_newName  {n1 : Int} {Q : JH → Prop} (hR : MR_ G m σ) (hP : PI_ m σ) (hB : FB_ m σ) (hL : LS_ G σ) (hn1 : 0 ≤ n1 ∧ n1 < 20)
    (hQ : Q (nna_ m σ n1)) : CallV_ G 9 yX2_newName cX2_newName 3 none [A_ (some m), I_ n1] σ Q := by
  refine call_go [some (A_ (some m)), some (I_ n1), none] (by decide) (Nat.le_of_ble_eq_true rfl) rfl ?_
  have hp3 := hP.2.2.1
  refine g_al0 dX2_newName_0 ?_
  refine f_getI 13 fk_X2_100 rfl hR.sh (fun _ _ => rfl) dX2_newName_1 ?_
  refine g_if_eq (tgt := 8) dX2_newName_4 (by decide) (by omega) (fun h4 => ?_) (fun h4 => ?_)
  · refine g_al0 dX2_newName_8 ?_
    refine g_callV0V (d' := 8) lk_X2_143 hR.sh rfl (rm_lt (by decide) (by decide)) (Nat.le_of_ble_eq_true rfl) dX2_newName_9 ?_
    refine mo_mustName hR hP hL ?_
    by_cases hc : isn_ m σ
    · rw [show mna_ m σ = σ from if_pos hc]
      refine g_al0 dX2_newName_12 ?_
      refine f_getI 13 fk_X2_100 rfl hR.sh (fun _ _ => rfl) dX2_newName_13 ?_
      refine g_if_ne (tgt := 35) dX2_newName_16 (by decide) (by omega) (fun h16 => ?_) (fun h16 => ?_)
      · exact absurd h16 (by omega)
      refine g_al0 dX2_newName_19 ?_
      refine g_callV0I (d' := 2) lk_X2_146 hR.sh rfl (rm_lt (by decide) (by decide)) (Nat.le_of_ble_eq_true rfl) dX2_newName_20 ?_
      refine mo_find hR hP hB hc.1 ?_
      have hfd := fd_in (m := m) σ
      refine g_if_lt (tgt := 35) dX2_newName_23 (by decide) (by omega) (fun h23 => ?_) (fun h23 => ?_)
      · refine g_al0 dX2_newName_35 ?_
        refine f_getI 13 fk_X2_100 rfl hR.sh (fun _ _ => rfl) dX2_newName_36 ?_
        refine g_if_eq (tgt := 43) dX2_newName_39 (by decide) (by omega) (fun h39 => ?_) (fun h39 => ?_)
        · refine g_iconst dX2_newName_43 ?_
          refine g_is2 dX2_newName_44 (by decide) rfl ?_
          have hp8 := (hP.2.2.2.2.2.2.2 hc.1).1
          have e3 : iv_ (pnm_ m σ n1) m 3 = iv_ σ m 3 := by unfold pnm_; rw [iv_pi, if_neg (by omega), iv_pb, if_neg (by omega)]
          have e5 : iv_ (pnm_ m σ n1) m 5 = iv_ σ m 5 := by unfold pnm_; rw [iv_pi, if_neg (by omega), iv_pb, if_neg (by omega)]
          have hT2 : TX_ m (pnm_ m σ n1) := (hP.1.pb ⟨by omega, by omega⟩).pi ⟨by omega, by omega⟩
          have L45 : ∀ (n : Nat) (k : Int), iv_ σ m 8 - k < (n : Int) → (0 ≤ k) → (k ≤ iv_ σ m 8) → GoM_ G 9 yX2_newName cX2_newName 3 none σ (fun v σ' => v = none ∧ Q σ') 45 [some (A_ (some m)), some (I_ n1), some (I_ k)] [] (pb_ σ (m + 4) (203 + 8 * n1) k (iv_ σ (m + 2))) := by
            intro n
            induction n with
            | zero => intro k hn g0 g1; exact absurd hn (by omega)
            | succ n ih =>
              intro k hn g0 g1
              refine g_il2 dX2_newName_45 ?_
              refine g_al0 dX2_newName_46 ?_
              refine f_getv 8 fk_X2_84 rfl hR.sh (fun _ _ => rfl) (show iv_ (pb_ _ _ _ _ _) m 8 = iv_ σ m 8 by rw [iv_pb, if_neg (by omega)]) dX2_newName_47 ?_
              refine g_icmp_ge (tgt := 80) dX2_newName_50 (by decide) (by omega) (fun h50 => ?_) (fun h50 => ?_)
              · refine g_al0 dX2_newName_80 ?_
                refine f_getA 16 fk_X2_23 rfl hR.sh (fun _ _ => rfl) hR.f16 dX2_newName_81 ?_
                refine g_sipush dX2_newName_84 (by decide) (by decide) ?_
                refine g_il1 dX2_newName_87 ?_
                refine g_iadd dX2_newName_88 ?_
                refine g_al0 dX2_newName_89 ?_
                refine f_getv 8 fk_X2_84 rfl hR.sh (fun _ _ => rfl) (show iv_ (pb_ _ _ _ _ _) m 8 = iv_ σ m 8 by rw [iv_pb, if_neg (by omega)]) dX2_newName_90 ?_
                refine g_iast hR.a16 hR.g16 (by omega) dX2_newName_93 ?_
                refine g_al0 dX2_newName_94 ?_
                refine g_callV0V (d' := 3) lk_X2_121 hR.sh rfl (rm_lt (by decide) (by decide)) (Nat.le_of_ble_eq_true rfl) dX2_newName_95 ?_
                have ek : k = iv_ σ m 8 := by omega
                subst ek
                refine mo_next (σ := pnm_ m σ n1) hR (hT2) (by rw [e5, e3]; exact hP.2.1) ?_
                exact g_vret rfl dX2_newName_98 ⟨rfl, by unfold nna_ at hQ; rw [if_pos (by omega), if_pos hc, if_neg (by omega)] at hQ; exact hQ⟩
              refine g_al0 dX2_newName_53 ?_
              refine f_getA 16 fk_X2_23 rfl hR.sh (fun _ _ => rfl) hR.f16 dX2_newName_54 ?_
              refine g_sipush dX2_newName_57 (by decide) (by decide) ?_
              refine g_bipush dX2_newName_60 (by decide) (by decide) ?_
              refine g_il1 dX2_newName_62 ?_
              refine g_imul dX2_newName_63 ?_
              refine g_iadd dX2_newName_64 ?_
              refine g_il2 dX2_newName_65 ?_
              refine g_iadd dX2_newName_66 ?_
              refine g_al0 dX2_newName_67 ?_
              refine f_getA 12 fk_X2_17 rfl hR.sh (fun _ _ => rfl) hR.f12 dX2_newName_68 ?_
              refine g_il2 dX2_newName_71 ?_
              refine g_ialv hR.a12 (by omega) (show iv_ (pb_ _ _ _ _ _) (m + 2) k = iv_ σ (m + 2) k by rw [iv_pb, if_neg (by omega)]) dX2_newName_72 ?_
              refine g_iast hR.a16 hR.g16 (by omega) dX2_newName_73 ?_
              refine g_inc2 dX2_newName_74 (by decide) rfl ?_
              refine g_goto (tgt := 45) dX2_newName_77 (by decide) ?_
              have h := ih (k + 1) (by omega) (by omega) (by omega)
              rw [← pb_s _ _ _ _ g0] at h
              exact h
          have h := L45 ((iv_ σ m 8).toNat + 1) 0 (by omega) (by omega) (by omega)
          rw [pb_0] at h
          exact h
        exact absurd h39 (by omega)
      refine g_al0 dX2_newName_26 ?_
      refine g_iconst dX2_newName_27 ?_
      refine g_al0 dX2_newName_28 ?_
      refine f_getI 4 fk_X2_81 rfl hR.sh (fun _ _ => rfl) dX2_newName_29 ?_
      refine g_callV2V (d' := 2) lk_X2_127 hR.sh rfl (rm_lt (by decide) (by decide)) (Nat.le_of_ble_eq_true rfl) dX2_newName_32 ?_
      refine mo_wrong hR hP.2.2.1 ?_
      have hw := wr_13 (γ := σ) (w := 3) (a := iv_ σ m 4) hP.2.2.1
      have hR := hR.fr (wr_fr (m := m) σ 3 (iv_ σ m 4))
      refine g_al0 dX2_newName_35 ?_
      refine f_getv 13 fk_X2_100 rfl hR.sh (fun _ _ => rfl) hw dX2_newName_36 ?_
      refine g_if_eq (tgt := 43) dX2_newName_39 (by decide) (by omega) (fun h39 => ?_) (fun h39 => ?_)
      · exact absurd h39 (by decide)
      exact g_vret rfl dX2_newName_42 ⟨rfl, by unfold nna_ at hQ; rw [if_pos (by omega), if_pos hc, if_pos (by omega)] at hQ; exact hQ⟩
    · rw [show mna_ m σ = wr_ m σ 1 (iv_ σ m 4) from if_neg hc]
      have hw := wr_13 (γ := σ) (w := 1) (a := iv_ σ m 4) hP.2.2.1
      have hR := hR.fr (wr_fr (m := m) σ 1 (iv_ σ m 4))
      refine g_al0 dX2_newName_12 ?_
      refine f_getv 13 fk_X2_100 rfl hR.sh (fun _ _ => rfl) hw dX2_newName_13 ?_
      refine g_if_ne (tgt := 35) dX2_newName_16 (by decide) (by omega) (fun h16 => ?_) (fun h16 => ?_)
      · refine g_al0 dX2_newName_35 ?_
        refine f_getv 13 fk_X2_100 rfl hR.sh (fun _ _ => rfl) hw dX2_newName_36 ?_
        refine g_if_eq (tgt := 43) dX2_newName_39 (by decide) (by omega) (fun h39 => ?_) (fun h39 => ?_)
        · exact absurd h39 (by decide)
        exact g_vret rfl dX2_newName_42 ⟨rfl, by unfold nna_ at hQ; rw [if_pos (by omega), if_neg hc] at hQ; exact hQ⟩
      exact absurd h16 (by decide)
  exact g_vret rfl dX2_newName_7 ⟨rfl, by unfold nna_ at hQ; rw [if_neg (by omega)] at hQ; exact hQ⟩
end
