/-! THE REFERENCE: names. Written by mod/m58.py -/
set_option maxRecDepth 100000
section
variable {G : JG} {m : Nat} {σ : JH}
/-- a word of the tongue -/
def kw_ (m : Nat) (γ : JH) : Bool := (iw_ m γ (("post".length : Nat) : Int) (tx_ "post")) || (iw_ m γ (("island".length : Nat) : Int) (tx_ "island")) || (iw_ m γ (("way".length : Nat) : Int) (tx_ "way")) || (iw_ m γ (("whale".length : Nat) : Int) (tx_ "whale")) || (iw_ m γ (("box".length : Nat) : Int) (tx_ "box")) || (iw_ m γ (("spout".length : Nat) : Int) (tx_ "spout"))
theorem kw_all {γ : JH} : kw_ m γ = false ↔ (iw_ m γ (("post".length : Nat) : Int) (tx_ "post")) = false ∧ (iw_ m γ (("island".length : Nat) : Int) (tx_ "island")) = false ∧ (iw_ m γ (("way".length : Nat) : Int) (tx_ "way")) = false ∧ (iw_ m γ (("whale".length : Nat) : Int) (tx_ "whale")) = false ∧ (iw_ m γ (("box".length : Nat) : Int) (tx_ "box")) = false ∧ (iw_ m γ (("spout".length : Nat) : Int) (tx_ "spout")) = false := by
  unfold kw_
  simp only [Bool.or_eq_false_iff, and_assoc]
/-- a name must stand there -/
def mna_ (m : Nat) (γ : JH) : JH := if iv_ γ m 6 = 2 ∧ kw_ m γ = false then γ else wr_ m γ 1 (iv_ γ m 4)
theorem mo_mustName  {Q : JH → Prop} (hR : MR_ G m σ) (hP : PI_ m σ) (hL : LS_ G σ)
    (hQ : Q (mna_ m σ)) : CallV_ G 8 yX2_mustName cX2_mustName 1 none [A_ (some m)] σ Q := by
  refine call_go [some (A_ (some m))] (by decide) (Nat.le_of_ble_eq_true rfl) rfl ?_
  have hp3 := hP.2.2.1
  have hp6 := hP.2.2.2.2.1
  refine g_al0 dX2_mustName_0 ?_
  refine f_getI 6 fk_X2_90 rfl hR.sh (fun _ _ => rfl) dX2_mustName_1 ?_
  refine g_iconst dX2_mustName_4 ?_
  refine g_icmp_ne (tgt := 62) dX2_mustName_5 (by decide) (by omega) (fun h5 => ?_) (fun h5 => ?_)
  · refine g_al0 dX2_mustName_62 ?_
    refine g_iconst dX2_mustName_63 ?_
    refine g_al0 dX2_mustName_64 ?_
    refine f_getI 4 fk_X2_81 rfl hR.sh (fun _ _ => rfl) dX2_mustName_65 ?_
    refine g_callV2V (d' := 2) lk_X2_127 hR.sh rfl (rm_lt (by decide) (by decide)) (Nat.le_of_ble_eq_true rfl) dX2_mustName_68 ?_
    refine mo_wrong hR hP.2.2.1 ?_
    exact g_vret rfl dX2_mustName_71 ⟨rfl, by unfold mna_ at hQ; rw [if_neg (by omega)] at hQ; exact hQ⟩
  refine g_al0 dX2_mustName_8 ?_
  refine g_ldcS (j := 0) rfl dX2_mustName_9 ?_
  refine g_callV1I (d' := 7) lk_X2_117 hR.sh rfl (rm_lt (by decide) (by decide)) (Nat.le_of_ble_eq_true rfl) dX2_mustName_11 ?_
  obtain ⟨v0, hS0, -, -⟩ := hL 0 _ rfl
  refine mo_isWord hR hP hS0 (fun z0 hz0 => ?_)
  refine g_if_ne (tgt := 62) dX2_mustName_14 (by decide) (by omega) (fun h14 => ?_) (fun h14 => ?_)
  · refine g_al0 dX2_mustName_62 ?_
    refine g_iconst dX2_mustName_63 ?_
    refine g_al0 dX2_mustName_64 ?_
    refine f_getI 4 fk_X2_81 rfl hR.sh (fun _ _ => rfl) dX2_mustName_65 ?_
    refine g_callV2V (d' := 2) lk_X2_127 hR.sh rfl (rm_lt (by decide) (by decide)) (Nat.le_of_ble_eq_true rfl) dX2_mustName_68 ?_
    refine mo_wrong hR hP.2.2.1 ?_
    exact g_vret rfl dX2_mustName_71 ⟨rfl, by unfold mna_ at hQ; rw [if_neg (fun q => by have w := kw_all.mp q.2; rcases hz0 with z | z; (exact absurd (z.2.symm.trans w.1) (by decide)); (omega))] at hQ; exact hQ⟩
  refine g_al0 dX2_mustName_17 ?_
  refine g_ldcS (j := 5) rfl dX2_mustName_18 ?_
  refine g_callV1I (d' := 7) lk_X2_117 hR.sh rfl (rm_lt (by decide) (by decide)) (Nat.le_of_ble_eq_true rfl) dX2_mustName_20 ?_
  obtain ⟨v1, hS1, -, -⟩ := hL 5 _ rfl
  refine mo_isWord hR hP hS1 (fun z1 hz1 => ?_)
  refine g_if_ne (tgt := 62) dX2_mustName_23 (by decide) (by omega) (fun h23 => ?_) (fun h23 => ?_)
  · refine g_al0 dX2_mustName_62 ?_
    refine g_iconst dX2_mustName_63 ?_
    refine g_al0 dX2_mustName_64 ?_
    refine f_getI 4 fk_X2_81 rfl hR.sh (fun _ _ => rfl) dX2_mustName_65 ?_
    refine g_callV2V (d' := 2) lk_X2_127 hR.sh rfl (rm_lt (by decide) (by decide)) (Nat.le_of_ble_eq_true rfl) dX2_mustName_68 ?_
    refine mo_wrong hR hP.2.2.1 ?_
    exact g_vret rfl dX2_mustName_71 ⟨rfl, by unfold mna_ at hQ; rw [if_neg (fun q => by have w := kw_all.mp q.2; rcases hz1 with z | z; (exact absurd (z.2.symm.trans w.2.1) (by decide)); (omega))] at hQ; exact hQ⟩
  refine g_al0 dX2_mustName_26 ?_
  refine g_ldcS (j := 6) rfl dX2_mustName_27 ?_
  refine g_callV1I (d' := 7) lk_X2_117 hR.sh rfl (rm_lt (by decide) (by decide)) (Nat.le_of_ble_eq_true rfl) dX2_mustName_29 ?_
  obtain ⟨v2, hS2, -, -⟩ := hL 6 _ rfl
  refine mo_isWord hR hP hS2 (fun z2 hz2 => ?_)
  refine g_if_ne (tgt := 62) dX2_mustName_32 (by decide) (by omega) (fun h32 => ?_) (fun h32 => ?_)
  · refine g_al0 dX2_mustName_62 ?_
    refine g_iconst dX2_mustName_63 ?_
    refine g_al0 dX2_mustName_64 ?_
    refine f_getI 4 fk_X2_81 rfl hR.sh (fun _ _ => rfl) dX2_mustName_65 ?_
    refine g_callV2V (d' := 2) lk_X2_127 hR.sh rfl (rm_lt (by decide) (by decide)) (Nat.le_of_ble_eq_true rfl) dX2_mustName_68 ?_
    refine mo_wrong hR hP.2.2.1 ?_
    exact g_vret rfl dX2_mustName_71 ⟨rfl, by unfold mna_ at hQ; rw [if_neg (fun q => by have w := kw_all.mp q.2; rcases hz2 with z | z; (exact absurd (z.2.symm.trans w.2.2.1) (by decide)); (omega))] at hQ; exact hQ⟩
  refine g_al0 dX2_mustName_35 ?_
  refine g_ldcS (j := 7) rfl dX2_mustName_36 ?_
  refine g_callV1I (d' := 7) lk_X2_117 hR.sh rfl (rm_lt (by decide) (by decide)) (Nat.le_of_ble_eq_true rfl) dX2_mustName_38 ?_
  obtain ⟨v3, hS3, -, -⟩ := hL 7 _ rfl
  refine mo_isWord hR hP hS3 (fun z3 hz3 => ?_)
  refine g_if_ne (tgt := 62) dX2_mustName_41 (by decide) (by omega) (fun h41 => ?_) (fun h41 => ?_)
  · refine g_al0 dX2_mustName_62 ?_
    refine g_iconst dX2_mustName_63 ?_
    refine g_al0 dX2_mustName_64 ?_
    refine f_getI 4 fk_X2_81 rfl hR.sh (fun _ _ => rfl) dX2_mustName_65 ?_
    refine g_callV2V (d' := 2) lk_X2_127 hR.sh rfl (rm_lt (by decide) (by decide)) (Nat.le_of_ble_eq_true rfl) dX2_mustName_68 ?_
    refine mo_wrong hR hP.2.2.1 ?_
    exact g_vret rfl dX2_mustName_71 ⟨rfl, by unfold mna_ at hQ; rw [if_neg (fun q => by have w := kw_all.mp q.2; rcases hz3 with z | z; (exact absurd (z.2.symm.trans w.2.2.2.1) (by decide)); (omega))] at hQ; exact hQ⟩
  refine g_al0 dX2_mustName_44 ?_
  refine g_ldcS (j := 8) rfl dX2_mustName_45 ?_
  refine g_callV1I (d' := 7) lk_X2_117 hR.sh rfl (rm_lt (by decide) (by decide)) (Nat.le_of_ble_eq_true rfl) dX2_mustName_47 ?_
  obtain ⟨v4, hS4, -, -⟩ := hL 8 _ rfl
  refine mo_isWord hR hP hS4 (fun z4 hz4 => ?_)
  refine g_if_ne (tgt := 62) dX2_mustName_50 (by decide) (by omega) (fun h50 => ?_) (fun h50 => ?_)
  · refine g_al0 dX2_mustName_62 ?_
    refine g_iconst dX2_mustName_63 ?_
    refine g_al0 dX2_mustName_64 ?_
    refine f_getI 4 fk_X2_81 rfl hR.sh (fun _ _ => rfl) dX2_mustName_65 ?_
    refine g_callV2V (d' := 2) lk_X2_127 hR.sh rfl (rm_lt (by decide) (by decide)) (Nat.le_of_ble_eq_true rfl) dX2_mustName_68 ?_
    refine mo_wrong hR hP.2.2.1 ?_
    exact g_vret rfl dX2_mustName_71 ⟨rfl, by unfold mna_ at hQ; rw [if_neg (fun q => by have w := kw_all.mp q.2; rcases hz4 with z | z; (exact absurd (z.2.symm.trans w.2.2.2.2.1) (by decide)); (omega))] at hQ; exact hQ⟩
  refine g_al0 dX2_mustName_53 ?_
  refine g_ldcS (j := 9) rfl dX2_mustName_54 ?_
  refine g_callV1I (d' := 7) lk_X2_117 hR.sh rfl (rm_lt (by decide) (by decide)) (Nat.le_of_ble_eq_true rfl) dX2_mustName_56 ?_
  obtain ⟨v5, hS5, -, -⟩ := hL 9 _ rfl
  refine mo_isWord hR hP hS5 (fun z5 hz5 => ?_)
  refine g_if_eq (tgt := 71) dX2_mustName_59 (by decide) (by omega) (fun h59 => ?_) (fun h59 => ?_)
  · exact g_vret rfl dX2_mustName_71 ⟨rfl, by unfold mna_ at hQ; rw [if_pos ⟨by omega, kw_all.mpr ⟨(by rcases hz0 with z | z; (omega); (exact z.2)), (by rcases hz1 with z | z; (omega); (exact z.2)), (by rcases hz2 with z | z; (omega); (exact z.2)), (by rcases hz3 with z | z; (omega); (exact z.2)), (by rcases hz4 with z | z; (omega); (exact z.2)), (by rcases hz5 with z | z; (omega); (exact z.2))⟩⟩] at hQ; exact hQ⟩
  refine g_al0 dX2_mustName_62 ?_
  refine g_iconst dX2_mustName_63 ?_
  refine g_al0 dX2_mustName_64 ?_
  refine f_getI 4 fk_X2_81 rfl hR.sh (fun _ _ => rfl) dX2_mustName_65 ?_
  refine g_callV2V (d' := 2) lk_X2_127 hR.sh rfl (rm_lt (by decide) (by decide)) (Nat.le_of_ble_eq_true rfl) dX2_mustName_68 ?_
  refine mo_wrong hR hP.2.2.1 ?_
  exact g_vret rfl dX2_mustName_71 ⟨rfl, by unfold mna_ at hQ; rw [if_neg (fun q => by have w := kw_all.mp q.2; rcases hz5 with z | z; (exact absurd (z.2.symm.trans w.2.2.2.2.2) (by decide)); (omega))] at hQ; exact hQ⟩
theorem PI_.mna {γ : JH} (h : PI_ m γ) : PI_ m (mna_ m γ) := by
  unfold mna_
  split
  · exact h
  · exact h.wr _ _
theorem mna_fr (γ : JH) : Fr_ (pf1_ m) γ (mna_ m γ) := by
  unfold mna_
  split
  · exact Fr_.rf
  · exact wr_fr _ _ _
end
