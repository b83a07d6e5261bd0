/-! THE REFERENCE: new names, known names, numbers. Written by mod/m60.py -/
set_option maxRecDepth 100000
section
variable {G : JG} {m : Nat} {σ : JH}
theorem wr_13 {γ : JH} {w a : Int} (h : iv_ γ m 13 = 0 ∨ iv_ γ m 13 = 1) : iv_ (wr_ m γ w a) m 13 = 1 := by
  unfold wr_
  by_cases q : iv_ γ m 13 = 0
  · rw [if_pos q]; simp [iv_pi]
  · rw [if_neg q]; omega
/-- a number that must stand there -/
def num_ (m : Nat) (γ : JH) (lo hi : Int) : JH := if iv_ γ m 13 = 0 then (if iv_ γ m 6 = 3 then (if lo ≤ iv_ γ m 7 ∧ iv_ γ m 7 ≤ hi then nxt_ m γ else wr_ m γ 4 (iv_ γ m 4)) else wr_ m γ 1 (iv_ γ m 4)) else γ
def nuv_ (m : Nat) (γ : JH) (lo hi : Int) : Int := if iv_ γ m 13 = 0 ∧ iv_ γ m 6 = 3 ∧ lo ≤ iv_ γ m 7 ∧ iv_ γ m 7 ≤ hi then iv_ γ m 7 else lo
theorem PI_.num {γ : JH} (h : PI_ m γ) (lo hi : Int) : PI_ m (num_ m γ lo hi) := by
  unfold num_
  split
  · split
    · split
      · exact h.nxt
      · exact h.wr _ _
    · exact h.wr _ _
  · exact h
theorem num_fr (γ : JH) (lo hi : Int) : Fr_ (pf1_ m) γ (num_ m γ lo hi) := by
  unfold num_
  split
  · split
    · split
      · exact nxt_fr _
      · exact wr_fr _ _ _
    · exact wr_fr _ _ _
  · exact Fr_.rf
theorem PI_.mus {γ : JH} (h : PI_ m γ) (n : Int) (c : Int → Int) : PI_ m (mus_ m γ n c) := by
  unfold mus_
  split
  · split
    · exact h.nxt
    · exact h.wr _ _
  · exact h
theorem mus_fr (γ : JH) (n : Int) (c : Int → Int) : Fr_ (pf1_ m) γ (mus_ m γ n c) := by
  unfold mus_
  split
  · split
    · exact nxt_fr _
    · exact wr_fr _ _ _
  · exact Fr_.rf
theorem mo_number  {lo hi : Int} {Q : Int → JH → Prop} (hR : MR_ G m σ) (hP : PI_ m σ) (hlo : 0 ≤ lo ∧ lo ≤ 10000) (hhi : 0 ≤ hi ∧ hi ≤ 10000)
    (hQ : Q (nuv_ m σ lo hi) (num_ m σ lo hi)) : CallI_ G 4 yX2_number cX2_number 4 (some .int) [A_ (some m), I_ lo, I_ hi] σ Q := by
  refine call_go [some (A_ (some m)), some (I_ lo), some (I_ hi), none] (by decide) (Nat.le_of_ble_eq_true rfl) rfl ?_
  have hp3 := hP.2.2.1
  have hp6 := hP.2.2.2.2.1
  have hp7 := hP.2.2.2.2.2.1
  refine g_al0 dX2_number_0 ?_
  refine f_getI 13 fk_X2_100 rfl hR.sh (fun _ _ => rfl) dX2_number_1 ?_
  refine g_if_eq (tgt := 9) dX2_number_4 (by decide) (by omega) (fun h4 => ?_) (fun h4 => ?_)
  · refine g_al0 dX2_number_9 ?_
    refine f_getI 6 fk_X2_90 rfl hR.sh (fun _ _ => rfl) dX2_number_10 ?_
    refine g_iconst dX2_number_13 ?_
    refine g_icmp_eq (tgt := 29) dX2_number_14 (by decide) (by omega) (fun h14 => ?_) (fun h14 => ?_)
    · refine g_al0 dX2_number_29 ?_
      refine f_getI 7 fk_X2_87 rfl hR.sh (fun _ _ => rfl) dX2_number_30 ?_
      refine g_il1 dX2_number_33 ?_
      refine g_il2 dX2_number_34 ?_
      refine g_callS3I (d' := 2) lk_X2_149 (rm_lt (by decide) (by decide)) (Nat.le_of_ble_eq_true rfl) dX2_number_35 ?_
      refine mo_in (by omega) (by omega) (by omega) (fun z hz => ?_)
      refine g_if_ne (tgt := 50) dX2_number_38 (by decide) (by omega) (fun h38 => ?_) (fun h38 => ?_)
      · refine g_al0 dX2_number_50 ?_
        refine f_getI 13 fk_X2_100 rfl hR.sh (fun _ _ => rfl) dX2_number_51 ?_
        refine g_if_eq (tgt := 59) dX2_number_54 (by decide) (by omega) (fun h54 => ?_) (fun h54 => ?_)
        · refine g_al0 dX2_number_59 ?_
          refine f_getI 7 fk_X2_87 rfl hR.sh (fun _ _ => rfl) dX2_number_60 ?_
          refine g_is3 dX2_number_63 (by decide) rfl ?_
          refine g_al0 dX2_number_64 ?_
          refine g_callV0V (d' := 3) lk_X2_121 hR.sh rfl (rm_lt (by decide) (by decide)) (Nat.le_of_ble_eq_true rfl) dX2_number_65 ?_
          refine mo_next hR hP.1 hP.2.1 ?_
          refine g_il3 dX2_number_68 ?_
          exact g_iret rfl dX2_number_69 ⟨_, rfl, by unfold nuv_ num_ at hQ; rw [if_pos (by omega), if_pos (by omega), if_pos (by omega), if_pos (by omega)] at hQ; exact hQ⟩
        exact absurd h54 (by omega)
      refine g_al0 dX2_number_41 ?_
      refine g_iconst dX2_number_42 ?_
      refine g_al0 dX2_number_43 ?_
      refine f_getI 4 fk_X2_81 rfl hR.sh (fun _ _ => rfl) dX2_number_44 ?_
      refine g_callV2V (d' := 2) lk_X2_127 hR.sh rfl (rm_lt (by decide) (by decide)) (Nat.le_of_ble_eq_true rfl) dX2_number_47 ?_
      refine mo_wrong hR hP.2.2.1 ?_
      have hw := wr_13 (γ := σ) (w := 4) (a := iv_ σ m 4) hP.2.2.1
      have hR := hR.fr (wr_fr (m := m) σ 4 (iv_ σ m 4))
      refine g_al0 dX2_number_50 ?_
      refine f_getv 13 fk_X2_100 rfl hR.sh (fun _ _ => rfl) hw dX2_number_51 ?_
      refine g_if_eq (tgt := 59) dX2_number_54 (by decide) (by omega) (fun h54 => ?_) (fun h54 => ?_)
      · exact absurd h54 (by decide)
      refine g_il1 dX2_number_57 ?_
      exact g_iret rfl dX2_number_58 ⟨_, rfl, by unfold nuv_ num_ at hQ; rw [if_neg (by omega), if_pos (by omega), if_pos (by omega), if_neg (by omega)] at hQ; exact hQ⟩
    refine g_al0 dX2_number_17 ?_
    refine g_iconst dX2_number_18 ?_
    refine g_al0 dX2_number_19 ?_
    refine f_getI 4 fk_X2_81 rfl hR.sh (fun _ _ => rfl) dX2_number_20 ?_
    refine g_callV2V (d' := 2) lk_X2_127 hR.sh rfl (rm_lt (by decide) (by decide)) (Nat.le_of_ble_eq_true rfl) dX2_number_23 ?_
    refine mo_wrong hR hP.2.2.1 ?_
    have hw := wr_13 (γ := σ) (w := 1) (a := iv_ σ m 4) hP.2.2.1
    have hR := hR.fr (wr_fr (m := m) σ 1 (iv_ σ m 4))
    refine g_goto (tgt := 50) dX2_number_26 (by decide) ?_
    refine g_al0 dX2_number_50 ?_
    refine f_getv 13 fk_X2_100 rfl hR.sh (fun _ _ => rfl) hw dX2_number_51 ?_
    refine g_if_eq (tgt := 59) dX2_number_54 (by decide) (by omega) (fun h54 => ?_) (fun h54 => ?_)
    · exact absurd h54 (by decide)
    refine g_il1 dX2_number_57 ?_
    exact g_iret rfl dX2_number_58 ⟨_, rfl, by unfold nuv_ num_ at hQ; rw [if_neg (by omega), if_pos (by omega), if_neg (by omega)] at hQ; exact hQ⟩
  refine g_il1 dX2_number_7 ?_
  exact g_iret rfl dX2_number_8 ⟨_, rfl, by unfold nuv_ num_ at hQ; rw [if_neg (by omega), if_neg (by omega)] at hQ; exact hQ⟩
/-- behind a word a number -/
def aft_ (m : Nat) (γ : JH) (n : Int) (c : Int → Int) (lo hi : Int) : JH := num_ m (mus_ m γ n c) lo hi
def afv_ (m : Nat) (γ : JH) (n : Int) (c : Int → Int) (lo hi : Int) : Int := nuv_ m (mus_ m γ n c) lo hi
theorem mo_after {a v n : Nat} {c : Int → Int} {lo hi : Int} {Q : Int → JH → Prop} (hR : MR_ G m σ) (hP : PI_ m σ) (hS : Str_ σ a v n c) (hlo : 0 ≤ lo ∧ lo ≤ 10000) (hhi : 0 ≤ hi ∧ hi ≤ 10000)
    (hQ : Q (afv_ m σ n c lo hi) (aft_ m σ n c lo hi)) : CallI_ G 10 yX2_after cX2_after 4 (some .int) [A_ (some m), A_ (some a), I_ lo, I_ hi] σ Q := by
  refine call_go [some (A_ (some m)), some (A_ (some a)), some (I_ lo), some (I_ hi)] (by decide) (Nat.le_of_ble_eq_true rfl) rfl ?_
  refine g_al0 dX2_after_0 ?_
  refine g_al1 dX2_after_1 ?_
  refine g_callV1V (d' := 9) lk_X2_157 hR.sh rfl (rm_lt (by decide) (by decide)) (Nat.le_of_ble_eq_true rfl) dX2_after_2 ?_
  refine mo_must hR hP hS ?_
  have hR := hR.fr (mus_fr (m := m) σ n c)
  have hP := hP.mus n c
  refine g_al0 dX2_after_5 ?_
  refine g_il2 dX2_after_6 ?_
  refine g_il3 dX2_after_7 ?_
  refine g_callV2I (d' := 4) lk_X2_164 hR.sh rfl (rm_lt (by decide) (by decide)) (Nat.le_of_ble_eq_true rfl) dX2_after_8 ?_
  refine mo_number hR hP hlo hhi ?_
  exact g_iret rfl dX2_after_11 ⟨_, rfl, hQ⟩
end
