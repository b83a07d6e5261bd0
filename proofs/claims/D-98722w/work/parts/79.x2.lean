/-! THE COMPONENT: simple questions. Written by mod/m79.py -/
set_option maxRecDepth 100000
/-- a question's end: the trouble t, no place -/
def XE_ (X : Nat) (σ σ' : JH) (t : Int) : Prop := Gw_ (xe_ X) 1 7 σ σ' ∧ (∀ k, rv_ σ' X k = rv_ σ X k) ∧ iv_ σ' X 4 = t ∧ iv_ σ' X 3 = -1
section
variable {G : JG} {X : Nat} {σ : JH} {T : XT} {r s : Int → Int}
theorem XE_.of {σ1 : JH} {dc du : Nat} {t : Int} (h : Gw_ (xe_ X) dc du σ σ1) (hr : ∀ k, rv_ σ1 X k = rv_ σ X k) (h1 : dc ≤ 1) (h2 : du ≤ 7) : XE_ X σ (pi_ (pi_ σ1 X 4 t) X 3 (-1)) t :=
  ⟨((h.mono (fun _ _ _ q => q) h1 h2).pi (fun _ => Or.inr ⟨rfl, Or.inr rfl⟩)).pi (fun _ => Or.inr ⟨rfl, Or.inl rfl⟩), hr, by rw [iv_pi, if_neg (by omega), iv_pi, if_pos ⟨rfl, rfl⟩], by rw [iv_pi, if_pos ⟨rfl, rfl⟩]⟩
theorem XE_.rf {t : Int} : XE_ X σ (pi_ (pi_ σ X 4 t) X 3 (-1)) t := XE_.of Gw_.rf (fun _ => rfl) (by omega) (by omega)
theorem XE_.fr {σ1 : JH} {t : Int} (h : Fr_ (xs_ X) σ σ1) : XE_ X σ (pi_ (pi_ σ1 X 4 t) X 3 (-1)) t := XE_.of (h.mono (fun _ _ q => Or.inl q)).gw (fun k => h.2.1 X k) (by omega) (by omega)
theorem XQ_.e {p t : Int} {σ' : JH} (h : XQ_ G X σ p T r s) (e : XE_ X σ σ' t) (hlt : ∀ a s, sh_ σ a = some s → a < sz_ σ) : XQ_ G X σ' p T r s := h.gw e.1 hlt e.2.1
theorem XQ_.get {p : Int} (h : XQ_ G X σ p T r s) (hp : p = 1) : XD_ G X σ T r s := by
  rcases h.2 with q | q
  · omega
  · exact q.2
def isY_ (p : Int) (r : Int → Int) (i : Int) : Prop := p = 1 ∧ 0 ≤ i ∧ i < r 5
theorem xo_refused  {why : Int} {Q : Int → JH → Prop} (hR : XR_ G X σ)
    (hQ : Q (-1) (pi_ (pi_ σ X 4 why) X 3 (-1))) : CallI_ G 2 yX1_refused cX1_refused 2 (some .int) [A_ (some X), I_ why] σ Q := by
  refine call_go [some (A_ (some X)), some (I_ why)] (by decide) (Nat.le_of_ble_eq_true rfl) rfl ?_
  refine g_al0 dX1_refused_0 ?_
  refine g_il1 dX1_refused_1 ?_
  refine f_putI 4 fk_X1_62 rfl (nf_ rfl rfl) hR.sh hR.ge rfl dX1_refused_2 ?_
  refine g_al0 dX1_refused_5 ?_
  refine g_iconst dX1_refused_6 ?_
  refine f_putI 3 fk_X1_13 rfl (nf_ rfl rfl) hR.sh hR.ge rfl dX1_refused_7 ?_
  refine g_iconst dX1_refused_10 ?_
  exact g_iret rfl dX1_refused_11 ⟨_, rfl, hQ⟩
theorem xo_well  {v : Int} {Q : Int → JH → Prop} (hR : XR_ G X σ)
    (hQ : Q v (pi_ (pi_ σ X 4 0) X 3 (-1))) : CallI_ G 2 yX1_well cX1_well 2 (some .int) [A_ (some X), I_ v] σ Q := by
  refine call_go [some (A_ (some X)), some (I_ v)] (by decide) (Nat.le_of_ble_eq_true rfl) rfl ?_
  refine g_al0 dX1_well_0 ?_
  refine g_iconst dX1_well_1 ?_
  refine f_putI 4 fk_X1_62 rfl (nf_ rfl rfl) hR.sh hR.ge rfl dX1_well_2 ?_
  refine g_al0 dX1_well_5 ?_
  refine g_iconst dX1_well_6 ?_
  refine f_putI 3 fk_X1_13 rfl (nf_ rfl rfl) hR.sh hR.ge rfl dX1_well_7 ?_
  refine g_il1 dX1_well_10 ?_
  exact g_iret rfl dX1_well_11 ⟨_, rfl, hQ⟩
theorem xo_denied  {why : Int} {Q : Int → JH → Prop} (hR : XR_ G X σ)
    (hQ : Q 0 (pi_ (pi_ σ X 4 why) X 3 (-1))) : CallI_ G 3 yX1_denied cX1_denied 2 (some .boolean) [A_ (some X), I_ why] σ Q := by
  refine call_go [some (A_ (some X)), some (I_ why)] (by decide) (Nat.le_of_ble_eq_true rfl) rfl ?_
  refine g_al0 dX1_denied_0 ?_
  refine g_il1 dX1_denied_1 ?_
  refine g_callV1I (d' := 2) lk_X1_65 hR.sh rfl (rm_lt (by decide) (by decide)) (Nat.le_of_ble_eq_true rfl) dX1_denied_2 ?_
  refine xo_refused hR ?_
  refine g_pop dX1_denied_5 rfl ?_
  refine g_iconst dX1_denied_6 ?_
  exact g_zret rfl (by omega) dX1_denied_7 ⟨_, rfl, hQ⟩
theorem xo_granted  {Q : Int → JH → Prop} (hR : XR_ G X σ)
    (hQ : Q 1 (pi_ (pi_ σ X 4 0) X 3 (-1))) : CallI_ G 3 yX1_granted cX1_granted 1 (some .boolean) [A_ (some X)] σ Q := by
  refine call_go [some (A_ (some X))] (by decide) (Nat.le_of_ble_eq_true rfl) rfl ?_
  refine g_al0 dX1_granted_0 ?_
  refine g_iconst dX1_granted_1 ?_
  refine g_callV1I (d' := 2) lk_X1_69 hR.sh rfl (rm_lt (by decide) (by decide)) (Nat.le_of_ble_eq_true rfl) dX1_granted_2 ?_
  refine xo_well hR ?_
  refine g_pop dX1_granted_5 rfl ?_
  refine g_iconst dX1_granted_6 ?_
  exact g_zret rfl (by omega) dX1_granted_7 ⟨_, rfl, hQ⟩
theorem xo_isIsland {p : Int} {i : Int} {Q : Int → JH → Prop} (hX0 : XQ_ G X σ p T r s) (hP : p = 0 ∨ p = 1 ∧ RW_ r) (hi : -2147483648 ≤ i ∧ i < 2147483648)
    (hQ : ∀ z : Int, (z = 1 ∧ isI_ p r i) ∨ (z = 0 ∧ ¬ isI_ p r i) → Q z σ) : CallI_ G 3 yX1_isIsland cX1_isIsland 2 (some .boolean) [A_ (some X), I_ i] σ Q := by
  refine call_go [some (A_ (some X)), some (I_ i)] (by decide) (Nat.le_of_ble_eq_true rfl) rfl ?_
  have hR := hX0.1
  rcases hX0.2 with q | q
  · have hp0 := q.1
    refine g_al0 dX1_isIsland_0 ?_
    refine f_getA 5 fk_X1_104 rfl hR.sh (fun _ _ => rfl) q.2 dX1_isIsland_1 ?_
    refine g_ifnull (tgt := 31) dX1_isIsland_4 (by decide) (fun h4 => ?_) (fun _ h4 => ?_)
    · refine g_iconst dX1_isIsland_31 ?_
      exact g_zret rfl (by omega) dX1_isIsland_32 ⟨_, rfl, hQ _ (Or.inr ⟨rfl, fun u => by unfold isI_ at u; omega⟩)⟩
    cases h4
  · have hX := q.2
    have hp1 := q.1
    have hn := (hP.resolve_left (by omega)).2.n
    refine g_al0 dX1_isIsland_0 ?_
    refine f_getA 5 fk_X1_104 rfl hR.sh (fun _ _ => rfl) hX.f5 dX1_isIsland_1 ?_
    refine g_ifnull (tgt := 31) dX1_isIsland_4 (by decide) (fun h4 => ?_) (fun _ h4 => ?_)
    · cases h4
    refine g_il1 dX1_isIsland_7 ?_
    refine g_iconst dX1_isIsland_8 ?_
    refine g_al0 dX1_isIsland_9 ?_
    refine f_getA 5 fk_X1_104 rfl hR.sh (fun _ _ => rfl) hX.f5 dX1_isIsland_10 ?_
    refine f_getA 4 fk_X1_122 rfl hX.P.sh (fun _ _ => rfl) hX.P.f4 dX1_isIsland_13 ?_
    refine g_callV0I (d' := 2) lk_X1_127 hX.P.l0.1 rfl (rm_lt (by decide) (by decide)) (Nat.le_of_ble_eq_true rfl) dX1_isIsland_16 ?_
    refine js_size hX.P.l0 ?_
    refine g_iconst dX1_isIsland_19 ?_
    refine g_isub dX1_isIsland_20 ?_
    refine g_callS3I (d' := 2) lk_X1_79 (rm_lt (by decide) (by decide)) (Nat.le_of_ble_eq_true rfl) dX1_isIsland_21 ?_
    refine xo_in (by omega) (by omega) (by omega) (fun z hz => ?_)
    refine g_if_eq (tgt := 31) dX1_isIsland_24 (by decide) (by omega) (fun h24 => ?_) (fun h24 => ?_)
    · refine g_iconst dX1_isIsland_31 ?_
      exact g_zret rfl (by omega) dX1_isIsland_32 ⟨_, rfl, hQ _ (Or.inr ⟨rfl, fun u => by unfold isI_ at u; omega⟩)⟩
    refine g_iconst dX1_isIsland_27 ?_
    refine g_goto (tgt := 32) dX1_isIsland_28 (by decide) ?_
    exact g_zret rfl (by omega) dX1_isIsland_32 ⟨_, rfl, hQ _ (Or.inl ⟨rfl, by unfold isI_; omega⟩)⟩
theorem xo_isWhale {p : Int} {i : Int} {Q : Int → JH → Prop} (hX0 : XQ_ G X σ p T r s) (hP : p = 0 ∨ p = 1 ∧ RW_ r) (hi : -2147483648 ≤ i ∧ i < 2147483648)
    (hQ : ∀ z : Int, (z = 1 ∧ isW_ p r i) ∨ (z = 0 ∧ ¬ isW_ p r i) → Q z σ) : CallI_ G 3 yX1_isWhale cX1_isWhale 2 (some .boolean) [A_ (some X), I_ i] σ Q := by
  refine call_go [some (A_ (some X)), some (I_ i)] (by decide) (Nat.le_of_ble_eq_true rfl) rfl ?_
  have hR := hX0.1
  rcases hX0.2 with q | q
  · have hp0 := q.1
    refine g_al0 dX1_isWhale_0 ?_
    refine f_getA 5 fk_X1_104 rfl hR.sh (fun _ _ => rfl) q.2 dX1_isWhale_1 ?_
    refine g_ifnull (tgt := 31) dX1_isWhale_4 (by decide) (fun h4 => ?_) (fun _ h4 => ?_)
    · refine g_iconst dX1_isWhale_31 ?_
      exact g_zret rfl (by omega) dX1_isWhale_32 ⟨_, rfl, hQ _ (Or.inr ⟨rfl, fun u => by unfold isW_ at u; omega⟩)⟩
    cases h4
  · have hX := q.2
    have hp1 := q.1
    have hn := (hP.resolve_left (by omega)).2.n
    refine g_al0 dX1_isWhale_0 ?_
    refine f_getA 5 fk_X1_104 rfl hR.sh (fun _ _ => rfl) hX.f5 dX1_isWhale_1 ?_
    refine g_ifnull (tgt := 31) dX1_isWhale_4 (by decide) (fun h4 => ?_) (fun _ h4 => ?_)
    · cases h4
    refine g_il1 dX1_isWhale_7 ?_
    refine g_iconst dX1_isWhale_8 ?_
    refine g_al0 dX1_isWhale_9 ?_
    refine f_getA 5 fk_X1_104 rfl hR.sh (fun _ _ => rfl) hX.f5 dX1_isWhale_10 ?_
    refine f_getA 6 fk_X1_131 rfl hX.P.sh (fun _ _ => rfl) hX.P.f6 dX1_isWhale_13 ?_
    refine g_callV0I (d' := 2) lk_X1_127 hX.P.l2.1 rfl (rm_lt (by decide) (by decide)) (Nat.le_of_ble_eq_true rfl) dX1_isWhale_16 ?_
    refine js_size hX.P.l2 ?_
    refine g_iconst dX1_isWhale_19 ?_
    refine g_isub dX1_isWhale_20 ?_
    refine g_callS3I (d' := 2) lk_X1_79 (rm_lt (by decide) (by decide)) (Nat.le_of_ble_eq_true rfl) dX1_isWhale_21 ?_
    refine xo_in (by omega) (by omega) (by omega) (fun z hz => ?_)
    refine g_if_eq (tgt := 31) dX1_isWhale_24 (by decide) (by omega) (fun h24 => ?_) (fun h24 => ?_)
    · refine g_iconst dX1_isWhale_31 ?_
      exact g_zret rfl (by omega) dX1_isWhale_32 ⟨_, rfl, hQ _ (Or.inr ⟨rfl, fun u => by unfold isW_ at u; omega⟩)⟩
    refine g_iconst dX1_isWhale_27 ?_
    refine g_goto (tgt := 32) dX1_isWhale_28 (by decide) ?_
    exact g_zret rfl (by omega) dX1_isWhale_32 ⟨_, rfl, hQ _ (Or.inl ⟨rfl, by unfold isW_; omega⟩)⟩
theorem xo_isBox {p : Int} {i : Int} {Q : Int → JH → Prop} (hX0 : XQ_ G X σ p T r s) (hP : p = 0 ∨ p = 1 ∧ RW_ r) (hi : -2147483648 ≤ i ∧ i < 2147483648)
    (hQ : ∀ z : Int, (z = 1 ∧ isB_ p r i) ∨ (z = 0 ∧ ¬ isB_ p r i) → Q z σ) : CallI_ G 3 yX1_isBox cX1_isBox 2 (some .boolean) [A_ (some X), I_ i] σ Q := by
  refine call_go [some (A_ (some X)), some (I_ i)] (by decide) (Nat.le_of_ble_eq_true rfl) rfl ?_
  have hR := hX0.1
  rcases hX0.2 with q | q
  · have hp0 := q.1
    refine g_al0 dX1_isBox_0 ?_
    refine f_getA 5 fk_X1_104 rfl hR.sh (fun _ _ => rfl) q.2 dX1_isBox_1 ?_
    refine g_ifnull (tgt := 31) dX1_isBox_4 (by decide) (fun h4 => ?_) (fun _ h4 => ?_)
    · refine g_iconst dX1_isBox_31 ?_
      exact g_zret rfl (by omega) dX1_isBox_32 ⟨_, rfl, hQ _ (Or.inr ⟨rfl, fun u => by unfold isB_ at u; omega⟩)⟩
    cases h4
  · have hX := q.2
    have hp1 := q.1
    have hn := (hP.resolve_left (by omega)).2.n
    refine g_al0 dX1_isBox_0 ?_
    refine f_getA 5 fk_X1_104 rfl hR.sh (fun _ _ => rfl) hX.f5 dX1_isBox_1 ?_
    refine g_ifnull (tgt := 31) dX1_isBox_4 (by decide) (fun h4 => ?_) (fun _ h4 => ?_)
    · cases h4
    refine g_il1 dX1_isBox_7 ?_
    refine g_iconst dX1_isBox_8 ?_
    refine g_al0 dX1_isBox_9 ?_
    refine f_getA 5 fk_X1_104 rfl hR.sh (fun _ _ => rfl) hX.f5 dX1_isBox_10 ?_
    refine f_getA 7 fk_X1_134 rfl hX.P.sh (fun _ _ => rfl) hX.P.f7 dX1_isBox_13 ?_
    refine g_callV0I (d' := 2) lk_X1_127 hX.P.l3.1 rfl (rm_lt (by decide) (by decide)) (Nat.le_of_ble_eq_true rfl) dX1_isBox_16 ?_
    refine js_size hX.P.l3 ?_
    refine g_iconst dX1_isBox_19 ?_
    refine g_isub dX1_isBox_20 ?_
    refine g_callS3I (d' := 2) lk_X1_79 (rm_lt (by decide) (by decide)) (Nat.le_of_ble_eq_true rfl) dX1_isBox_21 ?_
    refine xo_in (by omega) (by omega) (by omega) (fun z hz => ?_)
    refine g_if_eq (tgt := 31) dX1_isBox_24 (by decide) (by omega) (fun h24 => ?_) (fun h24 => ?_)
    · refine g_iconst dX1_isBox_31 ?_
      exact g_zret rfl (by omega) dX1_isBox_32 ⟨_, rfl, hQ _ (Or.inr ⟨rfl, fun u => by unfold isB_ at u; omega⟩)⟩
    refine g_iconst dX1_isBox_27 ?_
    refine g_goto (tgt := 32) dX1_isBox_28 (by decide) ?_
    exact g_zret rfl (by omega) dX1_isBox_32 ⟨_, rfl, hQ _ (Or.inl ⟨rfl, by unfold isB_; omega⟩)⟩
theorem xo_isWay {p : Int} {i : Int} {Q : Int → JH → Prop} (hX0 : XQ_ G X σ p T r s) (hP : p = 0 ∨ p = 1 ∧ RW_ r) (hi : -2147483648 ≤ i ∧ i < 2147483648)
    (hQ : ∀ z : Int, (z = 1 ∧ isY_ p r i) ∨ (z = 0 ∧ ¬ isY_ p r i) → Q z σ) : CallI_ G 3 yX1_isWay cX1_isWay 2 (some .boolean) [A_ (some X), I_ i] σ Q := by
  refine call_go [some (A_ (some X)), some (I_ i)] (by decide) (Nat.le_of_ble_eq_true rfl) rfl ?_
  have hR := hX0.1
  rcases hX0.2 with q | q
  · have hp0 := q.1
    refine g_al0 dX1_isWay_0 ?_
    refine f_getA 5 fk_X1_104 rfl hR.sh (fun _ _ => rfl) q.2 dX1_isWay_1 ?_
    refine g_ifnull (tgt := 31) dX1_isWay_4 (by decide) (fun h4 => ?_) (fun _ h4 => ?_)
    · refine g_iconst dX1_isWay_31 ?_
      exact g_zret rfl (by omega) dX1_isWay_32 ⟨_, rfl, hQ _ (Or.inr ⟨rfl, fun u => by unfold isY_ at u; omega⟩)⟩
    cases h4
  · have hX := q.2
    have hp1 := q.1
    have hn := (hP.resolve_left (by omega)).2.n
    refine g_al0 dX1_isWay_0 ?_
    refine f_getA 5 fk_X1_104 rfl hR.sh (fun _ _ => rfl) hX.f5 dX1_isWay_1 ?_
    refine g_ifnull (tgt := 31) dX1_isWay_4 (by decide) (fun h4 => ?_) (fun _ h4 => ?_)
    · cases h4
    refine g_il1 dX1_isWay_7 ?_
    refine g_iconst dX1_isWay_8 ?_
    refine g_al0 dX1_isWay_9 ?_
    refine f_getA 5 fk_X1_104 rfl hR.sh (fun _ _ => rfl) hX.f5 dX1_isWay_10 ?_
    refine f_getA 5 fk_X1_226 rfl hX.P.sh (fun _ _ => rfl) hX.P.f5 dX1_isWay_13 ?_
    refine g_callV0I (d' := 2) lk_X1_127 hX.P.l1.1 rfl (rm_lt (by decide) (by decide)) (Nat.le_of_ble_eq_true rfl) dX1_isWay_16 ?_
    refine js_size hX.P.l1 ?_
    refine g_iconst dX1_isWay_19 ?_
    refine g_isub dX1_isWay_20 ?_
    refine g_callS3I (d' := 2) lk_X1_79 (rm_lt (by decide) (by decide)) (Nat.le_of_ble_eq_true rfl) dX1_isWay_21 ?_
    refine xo_in (by omega) (by omega) (by omega) (fun z hz => ?_)
    refine g_if_eq (tgt := 31) dX1_isWay_24 (by decide) (by omega) (fun h24 => ?_) (fun h24 => ?_)
    · refine g_iconst dX1_isWay_31 ?_
      exact g_zret rfl (by omega) dX1_isWay_32 ⟨_, rfl, hQ _ (Or.inr ⟨rfl, fun u => by unfold isY_ at u; omega⟩)⟩
    refine g_iconst dX1_isWay_27 ?_
    refine g_goto (tgt := 32) dX1_isWay_28 (by decide) ?_
    exact g_zret rfl (by omega) dX1_isWay_32 ⟨_, rfl, hQ _ (Or.inl ⟨rfl, by unfold isY_; omega⟩)⟩
theorem wty_ {κ : Nat} (h : κ < 4) {k : Nat} (hk : k = 1 ∨ k = 2 ∨ k = 3) (x : Int) (r : Option Nat) : tv_ (cty_ (11 + κ) k) x r = av_ (I_ x) := by
  match κ, h with
  | 0, _ => rcases hk with q | q | q <;> subst q <;> rfl
  | 1, _ => rcases hk with q | q | q <;> subst q <;> rfl
  | 2, _ => rcases hk with q | q | q <;> subst q <;> rfl
  | 3, _ => rcases hk with q | q | q <;> subst q <;> rfl
theorem wcast_ {κ : Nat} (h : κ < 4) : cn_ (11 + κ) = "WhalePost$Whale" ∨ (cn_ (11 + κ), "WhalePost$Whale") ∈ nwC_ := by
  match κ, h with
  | 0, _ => exact Or.inr (by decide)
  | 1, _ => exact Or.inl rfl
  | 2, _ => exact Or.inr (by decide)
  | 3, _ => exact Or.inr (by decide)
theorem xo_whaleOf  {w : Int} {Q : Option Nat → JH → Prop} (hX : XD_ G X σ T r s) (hW : RW_ r) (hD : DW_ r s) (hw : 0 ≤ w ∧ w < r 6)
    (hQ : Q (some (xg_ T 2 w)) σ) : CallA_ G 5 yX1_whaleOf cX1_whaleOf 2 (some (.object "WhalePost$Whale")) [A_ (some X), I_ w] σ Q := by
  refine call_go [some (A_ (some X)), some (I_ w)] (by decide) (Nat.le_of_ble_eq_true rfl) rfl ?_
  have hR := hX.R
  have hn := hW.n
  refine g_al0 dX1_whaleOf_0 ?_
  refine f_getA 5 fk_X1_104 rfl hR.sh (fun _ _ => rfl) hX.f5 dX1_whaleOf_1 ?_
  refine f_getA 6 fk_X1_131 rfl hX.P.sh (fun _ _ => rfl) hX.P.f6 dX1_whaleOf_4 ?_
  refine g_il1 dX1_whaleOf_7 ?_
  refine g_callV1A (d' := 4) lk_X1_137 hX.P.l2.1 rfl (rm_lt (by decide) (by decide)) (Nat.le_of_ble_eq_true rfl) dX1_whaleOf_8 ?_
  refine js_get hX.P.l2 hw ?_
  obtain ⟨⟨κ, hκ, hkd, hsw⟩, hw2⟩ := hX.P.whl (w := w) (by omega) (by omega)
  refine g_cast q1148 hsw (wcast_ hκ) dX1_whaleOf_11 ?_
  exact g_aret rfl (Or.inl ⟨_, rfl⟩) dX1_whaleOf_14 ⟨_, rfl, hQ⟩
theorem xo_boxOf  {b : Int} {Q : Option Nat → JH → Prop} (hX : XD_ G X σ T r s) (hW : RW_ r) (hD : DW_ r s) (hb : 0 ≤ b ∧ b < r 7)
    (hQ : Q (some (xg_ T 3 b)) σ) : CallA_ G 5 yX1_boxOf cX1_boxOf 2 (some (.object "WhalePost$Box")) [A_ (some X), I_ b] σ Q := by
  refine call_go [some (A_ (some X)), some (I_ b)] (by decide) (Nat.le_of_ble_eq_true rfl) rfl ?_
  have hR := hX.R
  have hn := hW.n
  refine g_al0 dX1_boxOf_0 ?_
  refine f_getA 5 fk_X1_104 rfl hR.sh (fun _ _ => rfl) hX.f5 dX1_boxOf_1 ?_
  refine f_getA 7 fk_X1_134 rfl hX.P.sh (fun _ _ => rfl) hX.P.f7 dX1_boxOf_4 ?_
  refine g_il1 dX1_boxOf_7 ?_
  refine g_callV1A (d' := 4) lk_X1_137 hX.P.l3.1 rfl (rm_lt (by decide) (by decide)) (Nat.le_of_ble_eq_true rfl) dX1_boxOf_8 ?_
  refine js_get hX.P.l3 hb ?_
  have hBx := hX.P.box hb.1 hb.2
  refine g_cast q1175 hBx.1 (Or.inl rfl) dX1_boxOf_11 ?_
  exact g_aret rfl (Or.inl ⟨_, rfl⟩) dX1_boxOf_14 ⟨_, rfl, hQ⟩
theorem xo_sungNotes  {b : Int} {Q : Int → JH → Prop} (hX : XD_ G X σ T r s) (hW : RW_ r) (hD : DW_ r s) (hb : 0 ≤ b ∧ b < r 7)
    (hQ : Q (bl_ r b) σ) : CallI_ G 6 yX1_sungNotes cX1_sungNotes 2 (some .int) [A_ (some X), I_ b] σ Q := by
  refine call_go [some (A_ (some X)), some (I_ b)] (by decide) (Nat.le_of_ble_eq_true rfl) rfl ?_
  have hR := hX.R
  have hn := hW.n
  refine g_al0 dX1_sungNotes_0 ?_
  refine f_getA 5 fk_X1_104 rfl hR.sh (fun _ _ => rfl) hX.f5 dX1_sungNotes_1 ?_
  refine g_al0 dX1_sungNotes_4 ?_
  refine g_il1 dX1_sungNotes_5 ?_
  refine g_callV1A (d' := 5) lk_X1_171 hR.sh rfl (rm_lt (by decide) (by decide)) (Nat.le_of_ble_eq_true rfl) dX1_sungNotes_6 ?_
  refine xo_boxOf hX hW hD (by omega) ?_
  have hBx := hX.P.box (b := b) (by omega) (by omega)
  have hbw := hW.box (b := b) (by omega) (by omega)
  refine f_getv 2 fk_X1_178 rfl hBx.1 (fun _ _ => rfl) hBx.2.2.2.1 dX1_sungNotes_9 ?_
  refine g_callV1I (d' := 5) lk_X1_196 hX.P.sh rfl (rm_lt (by decide) (by decide)) (Nat.le_of_ble_eq_true rfl) dX1_sungNotes_12 ?_
  refine xp_length hX.P hW (by omega) ?_
  exact g_iret rfl dX1_sungNotes_15 ⟨_, rfl, hQ⟩
theorem rb_row (hX : XD_ G X σ T r s) (hW : RW_ r) (hD : DW_ r s) {b : Int} (hb : 0 ≤ b ∧ b < r 7) : ∀ k, 0 ≤ k → k < bl_ r b → iv_ σ (xD_ T + 5) (6 * b + k) = rb_ s b (-1) 0 k ∧ -100 ≤ rb_ s b (-1) 0 k ∧ rb_ s b (-1) 0 k ≤ 100 := fun k k0 k1 => by
  have hn := hW.n
  have hl := bl_in hW hb.1 hb.2
  have hs := hD.sung (j := 6 * b + k) (by omega) (by omega)
  have e : rb_ s b (-1) 0 k = s (28 + 6 * b + k) := if_neg (by omega)
  rw [show 28 + (6 * b + k) = 28 + 6 * b + k by omega] at hs
  rw [e]
  exact ⟨hX.K.sg hb.1 hb.2 k0 k1, by omega, by omega⟩
theorem xo_heardNow  {b : Int} {Q : Int → JH → Prop} (hX : XD_ G X σ T r s) (hW : RW_ r) (hD : DW_ r s) (hb : 0 ≤ b ∧ b < r 7)
    (hQ : Q (hn_ r s b) σ) : CallI_ G 8 yX1_heardNow cX1_heardNow 2 (some .int) [A_ (some X), I_ b] σ Q := by
  refine call_go [some (A_ (some X)), some (I_ b)] (by decide) (Nat.le_of_ble_eq_true rfl) rfl ?_
  have hR := hX.R
  have hn := hW.n
  refine g_al0 dX1_heardNow_0 ?_
  refine f_getA 5 fk_X1_104 rfl hR.sh (fun _ _ => rfl) hX.f5 dX1_heardNow_1 ?_
  refine g_al0 dX1_heardNow_4 ?_
  refine f_getA 6 fk_X1_111 rfl hR.sh (fun _ _ => rfl) hX.f6 dX1_heardNow_5 ?_
  refine f_getA 4 fk_X1_209 rfl hX.K.sh (fun _ _ => rfl) hX.K.f4 dX1_heardNow_8 ?_
  refine g_bipush dX1_heardNow_11 (by decide) (by decide) ?_
  refine g_il1 dX1_heardNow_13 ?_
  refine g_imul dX1_heardNow_14 ?_
  refine g_al0 dX1_heardNow_15 ?_
  refine g_il1 dX1_heardNow_16 ?_
  refine g_callV1I (d' := 6) lk_X1_206 hR.sh rfl (rm_lt (by decide) (by decide)) (Nat.le_of_ble_eq_true rfl) dX1_heardNow_17 ?_
  refine xo_sungNotes hX hW hD hb ?_
  have hl := bl_in hW hb.1 hb.2
  have hd0 := hD.n
  refine g_al0 dX1_heardNow_20 ?_
  refine f_getA 6 fk_X1_111 rfl hR.sh (fun _ _ => rfl) hX.f6 dX1_heardNow_21 ?_
  refine f_getv 5 fk_X1_199 rfl hX.K.sh (fun _ _ => rfl) hX.K.y dX1_heardNow_24 ?_
  refine g_callV4I (d' := 7) lk_X1_212 hX.P.sh rfl (rm_lt (by decide) (by decide)) (Nat.le_of_ble_eq_true rfl) dX1_heardNow_27 ?_
  refine xp_heard hX.P hW hl (by omega) hX.K.a4 (rb_row hX hW hD hb) (by omega) ?_
  exact g_iret rfl dX1_heardNow_30 ⟨_, rfl, hQ⟩
theorem xo_isClosed  {k : Int} {Q : Int → JH → Prop} (hX : XD_ G X σ T r s) (hW : RW_ r) (hD : DW_ r s)
    (hQ : ∀ z : Int, (z = 1 ∧ hb_ (s 1) k) ∨ (z = 0 ∧ ¬ hb_ (s 1) k) → Q z σ) : CallI_ G 3 yX1_isClosed cX1_isClosed 2 (some .boolean) [A_ (some X), I_ k] σ Q := by
  refine call_go [some (A_ (some X)), some (I_ k)] (by decide) (Nat.le_of_ble_eq_true rfl) rfl ?_
  have hR := hX.R
  have hn := hW.n
  refine g_al0 dX1_isClosed_0 ?_
  refine f_getA 6 fk_X1_111 rfl hR.sh (fun _ _ => rfl) hX.f6 dX1_isClosed_1 ?_
  refine f_getv 6 fk_X1_219 rfl hX.K.sh (fun _ _ => rfl) hX.K.c dX1_isClosed_4 ?_
  refine g_il1 dX1_isClosed_7 ?_
  refine g_callS2I (d' := 2) lk_X1_222 (rm_lt (by decide) (by decide)) (Nat.le_of_ble_eq_true rfl) dX1_isClosed_8 ?_
  refine xo_has (fun z hz => ?_)
  exact g_zret rfl (by omega) dX1_isClosed_11 ⟨_, rfl, hQ _ hz⟩
theorem xo_whale {p : Int} {w what : Int} {Q : Int → JH → Prop} (hX0 : XQ_ G X σ p T r s) (hP : MP_ p r s) (hw : -2147483648 ≤ w ∧ w < 2147483648) (hwhat : -2147483648 ≤ what ∧ what < 2147483648)
    (hQ : ∀ (x t : Int) (σ' : JH), qWhale_ p r s w what = (x, t) → XQ_ G X σ' p T r s → XE_ X σ σ' t → Q x σ') : CallI_ G 6 yX1_whale cX1_whale 4 (some .int) [A_ (some X), I_ w, I_ what] σ Q := by
  refine call_go [some (A_ (some X)), some (I_ w), some (I_ what), none] (by decide) (Nat.le_of_ble_eq_true rfl) rfl ?_
  refine g_lt (fun hlt hgz => ?_)
  have hR := hX0.1
  have hp01 := hP.b
  refine g_al0 dX1_whale_0 ?_
  refine g_il1 dX1_whale_1 ?_
  refine g_callV1I (d' := 3) lk_X1_145 hR.sh rfl (rm_lt (by decide) (by decide)) (Nat.le_of_ble_eq_true rfl) dX1_whale_2 ?_
  refine xo_isWhale hX0 hP.rw (by omega) (fun x2 hx2 => ?_)
  unfold isW_ at hx2
  refine g_if_eq (tgt := 17) dX1_whale_5 (by decide) (by omega) (fun h5 => ?_) (fun h5 => ?_)
  · refine g_al0 dX1_whale_17 ?_
    refine g_iconst dX1_whale_18 ?_
    refine g_callV1I (d' := 2) lk_X1_65 hR.sh rfl (rm_lt (by decide) (by decide)) (Nat.le_of_ble_eq_true rfl) dX1_whale_19 ?_
    refine xo_refused hR ?_
    exact g_iret rfl dX1_whale_22 ⟨_, rfl, hQ _ _ _ (by unfold qWhale_; rw [if_neg (by omega)]) (hX0.e (XE_.rf) hlt) (XE_.rf)⟩
  refine g_il2 dX1_whale_8 ?_
  refine g_iconst dX1_whale_9 ?_
  refine g_iconst dX1_whale_10 ?_
  refine g_callS3I (d' := 2) lk_X1_79 (rm_lt (by decide) (by decide)) (Nat.le_of_ble_eq_true rfl) dX1_whale_11 ?_
  refine xo_in (by omega) (by omega) (by omega) (fun x11 hx11 => ?_)
  refine g_if_ne (tgt := 23) dX1_whale_14 (by decide) (by omega) (fun h14 => ?_) (fun h14 => ?_)
  · refine g_al0 dX1_whale_23 ?_
    refine g_il1 dX1_whale_24 ?_
    refine g_callV1A (d' := 5) lk_X1_149 hR.sh rfl (rm_lt (by decide) (by decide)) (Nat.le_of_ble_eq_true rfl) dX1_whale_25 ?_
    obtain ⟨hW, hD⟩ := hP.get (by omega)
    have hX := hX0.get (by omega)
    have hn := hW.n
    refine xo_whaleOf hX hW hD (by omega) ?_
    obtain ⟨⟨κ, hκ, hkd, hsw⟩, hw2⟩ := hX.P.whl (w := w) (by omega) (by omega)
    have hww := hW.whale (w := w) (by omega) (by omega)
    refine g_as3 dX1_whale_28 (by decide) rfl ?_
    refine g_al0 dX1_whale_29 ?_
    refine g_il2 dX1_whale_30 ?_
    refine g_if_ne (tgt := 41) dX1_whale_31 (by decide) (by omega) (fun h31 => ?_) (fun h31 => ?_)
    · refine g_il2 dX1_whale_41 ?_
      refine g_iconst dX1_whale_42 ?_
      refine g_icmp_ne (tgt := 58) dX1_whale_43 (by decide) (by omega) (fun h43 => ?_) (fun h43 => ?_)
      · refine g_il2 dX1_whale_58 ?_
        refine g_iconst dX1_whale_59 ?_
        refine g_icmp_ne (tgt := 75) dX1_whale_60 (by decide) (by omega) (fun h60 => ?_) (fun h60 => ?_)
        · refine g_il2 dX1_whale_75 ?_
          refine g_iconst dX1_whale_76 ?_
          refine g_icmp_ne (tgt := 87) dX1_whale_77 (by decide) (by omega) (fun h77 => ?_) (fun h77 => ?_)
          · refine g_al3 dX1_whale_87 ?_
            refine f_getv 3 (fk_X1_165 _ hκ) rfl hsw (wty_ hκ (by decide)) hw2.2.2.2 dX1_whale_88 ?_
            refine g_callV1I (d' := 2) lk_X1_69 hR.sh rfl (rm_lt (by decide) (by decide)) (Nat.le_of_ble_eq_true rfl) dX1_whale_91 ?_
            refine xo_well hR ?_
            exact g_iret rfl dX1_whale_94 ⟨_, rfl, hQ _ _ _ (by unfold qWhale_; rw [if_pos (by omega), if_neg (by omega), if_neg (by omega), if_neg (by omega), if_neg (by omega)]) (hX0.e (XE_.rf) hlt) (XE_.rf)⟩
          refine g_al3 dX1_whale_80 ?_
          refine f_getv 2 (fk_X1_162 _ hκ) rfl hsw (wty_ hκ (by decide)) hw2.2.2.1 dX1_whale_81 ?_
          refine g_goto (tgt := 91) dX1_whale_84 (by decide) ?_
          refine g_callV1I (d' := 2) lk_X1_69 hR.sh rfl (rm_lt (by decide) (by decide)) (Nat.le_of_ble_eq_true rfl) dX1_whale_91 ?_
          refine xo_well hR ?_
          exact g_iret rfl dX1_whale_94 ⟨_, rfl, hQ _ _ _ (by unfold qWhale_; rw [if_pos (by omega), if_neg (by omega), if_neg (by omega), if_neg (by omega), if_pos (by omega)]) (hX0.e (XE_.rf) hlt) (XE_.rf)⟩
        refine g_al0 dX1_whale_63 ?_
        refine f_getA 6 fk_X1_111 rfl hR.sh (fun _ _ => rfl) hX.f6 dX1_whale_64 ?_
        refine f_getA 1 fk_X1_159 rfl hX.K.sh (fun _ _ => rfl) hX.K.f1 dX1_whale_67 ?_
        refine g_il1 dX1_whale_70 ?_
        refine g_ialv hX.K.a1 (by omega) (hX.K.wh (w := w) (by omega) (by omega)).2 dX1_whale_71 ?_
        refine g_goto (tgt := 91) dX1_whale_72 (by decide) ?_
        refine g_callV1I (d' := 2) lk_X1_69 hR.sh rfl (rm_lt (by decide) (by decide)) (Nat.le_of_ble_eq_true rfl) dX1_whale_91 ?_
        refine xo_well hR ?_
        exact g_iret rfl dX1_whale_94 ⟨_, rfl, hQ _ _ _ (by unfold qWhale_; rw [if_pos (by omega), if_neg (by omega), if_neg (by omega), if_pos (by omega)]) (hX0.e (XE_.rf) hlt) (XE_.rf)⟩
      refine g_al0 dX1_whale_46 ?_
      refine f_getA 6 fk_X1_111 rfl hR.sh (fun _ _ => rfl) hX.f6 dX1_whale_47 ?_
      refine f_getA 0 fk_X1_156 rfl hX.K.sh (fun _ _ => rfl) hX.K.f0 dX1_whale_50 ?_
      refine g_il1 dX1_whale_53 ?_
      refine g_ialv hX.K.a0 (by omega) (hX.K.wh (w := w) (by omega) (by omega)).1 dX1_whale_54 ?_
      refine g_goto (tgt := 91) dX1_whale_55 (by decide) ?_
      refine g_callV1I (d' := 2) lk_X1_69 hR.sh rfl (rm_lt (by decide) (by decide)) (Nat.le_of_ble_eq_true rfl) dX1_whale_91 ?_
      refine xo_well hR ?_
      exact g_iret rfl dX1_whale_94 ⟨_, rfl, hQ _ _ _ (by unfold qWhale_; rw [if_pos (by omega), if_neg (by omega), if_pos (by omega)]) (hX0.e (XE_.rf) hlt) (XE_.rf)⟩
    refine g_al3 dX1_whale_34 ?_
    refine gv_X1_153 rfl hκ hsw (by decide) (Nat.le_of_ble_eq_true rfl) dX1_whale_35 ?_
    rw [← hkd]
    refine g_goto (tgt := 91) dX1_whale_38 (by decide) ?_
    refine g_callV1I (d' := 2) lk_X1_69 hR.sh rfl (rm_lt (by decide) (by decide)) (Nat.le_of_ble_eq_true rfl) dX1_whale_91 ?_
    refine xo_well hR ?_
    exact g_iret rfl dX1_whale_94 ⟨_, rfl, hQ _ _ _ (by unfold qWhale_; rw [if_pos (by omega), if_pos (by omega)]) (hX0.e (XE_.rf) hlt) (XE_.rf)⟩
  refine g_al0 dX1_whale_17 ?_
  refine g_iconst dX1_whale_18 ?_
  refine g_callV1I (d' := 2) lk_X1_65 hR.sh rfl (rm_lt (by decide) (by decide)) (Nat.le_of_ble_eq_true rfl) dX1_whale_19 ?_
  refine xo_refused hR ?_
  exact g_iret rfl dX1_whale_22 ⟨_, rfl, hQ _ _ _ (by unfold qWhale_; rw [if_neg (by omega)]) (hX0.e (XE_.rf) hlt) (XE_.rf)⟩
theorem xo_box {p : Int} {b what : Int} {Q : Int → JH → Prop} (hX0 : XQ_ G X σ p T r s) (hP : MP_ p r s) (hb : -2147483648 ≤ b ∧ b < 2147483648) (hwhat : -2147483648 ≤ what ∧ what < 2147483648)
    (hQ : ∀ (x t : Int) (σ' : JH), qBox_ p r s b what = (x, t) → XQ_ G X σ' p T r s → XE_ X σ σ' t → Q x σ') : CallI_ G 6 yX1_box cX1_box 4 (some .int) [A_ (some X), I_ b, I_ what] σ Q := by
  refine call_go [some (A_ (some X)), some (I_ b), some (I_ what), none] (by decide) (Nat.le_of_ble_eq_true rfl) rfl ?_
  refine g_lt (fun hlt hgz => ?_)
  have hR := hX0.1
  have hp01 := hP.b
  refine g_al0 dX1_box_0 ?_
  refine g_il1 dX1_box_1 ?_
  refine g_callV1I (d' := 3) lk_X1_168 hR.sh rfl (rm_lt (by decide) (by decide)) (Nat.le_of_ble_eq_true rfl) dX1_box_2 ?_
  refine xo_isBox hX0 hP.rw (by omega) (fun x2 hx2 => ?_)
  unfold isB_ at hx2
  refine g_if_eq (tgt := 17) dX1_box_5 (by decide) (by omega) (fun h5 => ?_) (fun h5 => ?_)
  · refine g_al0 dX1_box_17 ?_
    refine g_iconst dX1_box_18 ?_
    refine g_callV1I (d' := 2) lk_X1_65 hR.sh rfl (rm_lt (by decide) (by decide)) (Nat.le_of_ble_eq_true rfl) dX1_box_19 ?_
    refine xo_refused hR ?_
    exact g_iret rfl dX1_box_22 ⟨_, rfl, hQ _ _ _ (by unfold qBox_; rw [if_neg (by omega)]) (hX0.e (XE_.rf) hlt) (XE_.rf)⟩
  refine g_il2 dX1_box_8 ?_
  refine g_iconst dX1_box_9 ?_
  refine g_iconst dX1_box_10 ?_
  refine g_callS3I (d' := 2) lk_X1_79 (rm_lt (by decide) (by decide)) (Nat.le_of_ble_eq_true rfl) dX1_box_11 ?_
  refine xo_in (by omega) (by omega) (by omega) (fun x11 hx11 => ?_)
  refine g_if_ne (tgt := 23) dX1_box_14 (by decide) (by omega) (fun h14 => ?_) (fun h14 => ?_)
  · refine g_al0 dX1_box_23 ?_
    refine g_il1 dX1_box_24 ?_
    refine g_callV1A (d' := 5) lk_X1_171 hR.sh rfl (rm_lt (by decide) (by decide)) (Nat.le_of_ble_eq_true rfl) dX1_box_25 ?_
    obtain ⟨hW, hD⟩ := hP.get (by omega)
    have hX := hX0.get (by omega)
    have hn := hW.n
    refine xo_boxOf hX hW hD (by omega) ?_
    have hBx := hX.P.box (b := b) (by omega) (by omega)
    have hbw := hW.box (b := b) (by omega) (by omega)
    refine g_as3 dX1_box_28 (by decide) rfl ?_
    refine g_il2 dX1_box_29 ?_
    by_cases c30_0 : what = 0
    · refine g_tabIn (tgt := 64) dX1_box_30 (by omega) (by omega) (by rw [c30_0]; rfl) (by decide) ?_
      refine g_al0 dX1_box_64 ?_
      refine g_al3 dX1_box_65 ?_
      refine f_getv 1 fk_X1_175 rfl hBx.1 (fun _ _ => rfl) hBx.2.2.1 dX1_box_66 ?_
      refine g_callV1I (d' := 2) lk_X1_69 hR.sh rfl (rm_lt (by decide) (by decide)) (Nat.le_of_ble_eq_true rfl) dX1_box_69 ?_
      refine xo_well hR ?_
      exact g_iret rfl dX1_box_72 ⟨_, rfl, hQ _ _ _ (by unfold qBox_; rw [if_pos (by omega), if_pos (by omega), show 127 + 4 * b + what = 127 + 4 * b by omega]) (hX0.e (XE_.rf) hlt) (XE_.rf)⟩
    by_cases c30_1 : what = 1
    · refine g_tabIn (tgt := 73) dX1_box_30 (by omega) (by omega) (by rw [c30_1]; rfl) (by decide) ?_
      refine g_al0 dX1_box_73 ?_
      refine g_al3 dX1_box_74 ?_
      refine f_getv 2 fk_X1_178 rfl hBx.1 (fun _ _ => rfl) hBx.2.2.2.1 dX1_box_75 ?_
      refine g_callV1I (d' := 2) lk_X1_69 hR.sh rfl (rm_lt (by decide) (by decide)) (Nat.le_of_ble_eq_true rfl) dX1_box_78 ?_
      refine xo_well hR ?_
      exact g_iret rfl dX1_box_81 ⟨_, rfl, hQ _ _ _ (by unfold qBox_; rw [if_pos (by omega), if_pos (by omega), show 127 + 4 * b + what = 128 + 4 * b by omega]) (hX0.e (XE_.rf) hlt) (XE_.rf)⟩
    by_cases c30_2 : what = 2
    · refine g_tabIn (tgt := 82) dX1_box_30 (by omega) (by omega) (by rw [c30_2]; rfl) (by decide) ?_
      refine g_al0 dX1_box_82 ?_
      refine g_al3 dX1_box_83 ?_
      refine f_getv 3 fk_X1_181 rfl hBx.1 (fun _ _ => rfl) hBx.2.2.2.2.1 dX1_box_84 ?_
      refine g_callV1I (d' := 2) lk_X1_69 hR.sh rfl (rm_lt (by decide) (by decide)) (Nat.le_of_ble_eq_true rfl) dX1_box_87 ?_
      refine xo_well hR ?_
      exact g_iret rfl dX1_box_90 ⟨_, rfl, hQ _ _ _ (by unfold qBox_; rw [if_pos (by omega), if_pos (by omega), show 127 + 4 * b + what = 129 + 4 * b by omega]) (hX0.e (XE_.rf) hlt) (XE_.rf)⟩
    by_cases c30_3 : what = 3
    · refine g_tabIn (tgt := 91) dX1_box_30 (by omega) (by omega) (by rw [c30_3]; rfl) (by decide) ?_
      refine g_al0 dX1_box_91 ?_
      refine g_al3 dX1_box_92 ?_
      refine f_getv 4 fk_X1_184 rfl hBx.1 (fun _ _ => rfl) hBx.2.2.2.2.2 dX1_box_93 ?_
      refine g_callV1I (d' := 2) lk_X1_69 hR.sh rfl (rm_lt (by decide) (by decide)) (Nat.le_of_ble_eq_true rfl) dX1_box_96 ?_
      refine xo_well hR ?_
      exact g_iret rfl dX1_box_99 ⟨_, rfl, hQ _ _ _ (by unfold qBox_; rw [if_pos (by omega), if_pos (by omega), show 127 + 4 * b + what = 130 + 4 * b by omega]) (hX0.e (XE_.rf) hlt) (XE_.rf)⟩
    by_cases c30_4 : what = 4
    · refine g_tabIn (tgt := 100) dX1_box_30 (by omega) (by omega) (by rw [c30_4]; rfl) (by decide) ?_
      refine g_al0 dX1_box_100 ?_
      refine g_al0 dX1_box_101 ?_
      refine f_getA 6 fk_X1_111 rfl hR.sh (fun _ _ => rfl) hX.f6 dX1_box_102 ?_
      refine f_getA 2 fk_X1_187 rfl hX.K.sh (fun _ _ => rfl) hX.K.f2 dX1_box_105 ?_
      refine g_il1 dX1_box_108 ?_
      refine g_ialv hX.K.a2 (by omega) (hX.K.bx (b := b) (by omega) (by omega)).1 dX1_box_109 ?_
      refine g_callV1I (d' := 2) lk_X1_69 hR.sh rfl (rm_lt (by decide) (by decide)) (Nat.le_of_ble_eq_true rfl) dX1_box_110 ?_
      refine xo_well hR ?_
      exact g_iret rfl dX1_box_113 ⟨_, rfl, hQ _ _ _ (by unfold qBox_; rw [if_pos (by omega), if_neg (by omega), if_pos (by omega)]) (hX0.e (XE_.rf) hlt) (XE_.rf)⟩
    refine g_tabOut (tgt := 114) dX1_box_30 (by omega) (by omega) (by decide) ?_
    refine g_al0 dX1_box_114 ?_
    refine g_al0 dX1_box_115 ?_
    refine f_getA 6 fk_X1_111 rfl hR.sh (fun _ _ => rfl) hX.f6 dX1_box_116 ?_
    refine f_getA 3 fk_X1_190 rfl hX.K.sh (fun _ _ => rfl) hX.K.f3 dX1_box_119 ?_
    refine g_il1 dX1_box_122 ?_
    refine g_ialv hX.K.a3 (by omega) (hX.K.bx (b := b) (by omega) (by omega)).2 dX1_box_123 ?_
    refine g_callV1I (d' := 2) lk_X1_69 hR.sh rfl (rm_lt (by decide) (by decide)) (Nat.le_of_ble_eq_true rfl) dX1_box_124 ?_
    refine xo_well hR ?_
    exact g_iret rfl dX1_box_127 ⟨_, rfl, hQ _ _ _ (by unfold qBox_; rw [if_pos (by omega), if_neg (by omega), if_neg (by omega)]) (hX0.e (XE_.rf) hlt) (XE_.rf)⟩
  refine g_al0 dX1_box_17 ?_
  refine g_iconst dX1_box_18 ?_
  refine g_callV1I (d' := 2) lk_X1_65 hR.sh rfl (rm_lt (by decide) (by decide)) (Nat.le_of_ble_eq_true rfl) dX1_box_19 ?_
  refine xo_refused hR ?_
  exact g_iret rfl dX1_box_22 ⟨_, rfl, hQ _ _ _ (by unfold qBox_; rw [if_neg (by omega)]) (hX0.e (XE_.rf) hlt) (XE_.rf)⟩
theorem xo_length {p : Int} {i : Int} {Q : Int → JH → Prop} (hX0 : XQ_ G X σ p T r s) (hP : MP_ p r s) (hi : -2147483648 ≤ i ∧ i < 2147483648)
    (hQ : ∀ (x t : Int) (σ' : JH), qLength_ p r i = (x, t) → XQ_ G X σ' p T r s → XE_ X σ σ' t → Q x σ') : CallI_ G 6 yX1_length cX1_length 2 (some .int) [A_ (some X), I_ i] σ Q := by
  refine call_go [some (A_ (some X)), some (I_ i)] (by decide) (Nat.le_of_ble_eq_true rfl) rfl ?_
  refine g_lt (fun hlt hgz => ?_)
  have hR := hX0.1
  have hp01 := hP.b
  refine g_al0 dX1_length_0 ?_
  refine g_il1 dX1_length_1 ?_
  refine g_callV1I (d' := 3) lk_X1_193 hR.sh rfl (rm_lt (by decide) (by decide)) (Nat.le_of_ble_eq_true rfl) dX1_length_2 ?_
  refine xo_isIsland hX0 hP.rw (by omega) (fun x2 hx2 => ?_)
  unfold isI_ at hx2
  refine g_if_eq (tgt := 23) dX1_length_5 (by decide) (by omega) (fun h5 => ?_) (fun h5 => ?_)
  · refine g_al0 dX1_length_23 ?_
    refine g_iconst dX1_length_24 ?_
    refine g_callV1I (d' := 2) lk_X1_65 hR.sh rfl (rm_lt (by decide) (by decide)) (Nat.le_of_ble_eq_true rfl) dX1_length_25 ?_
    refine xo_refused hR ?_
    exact g_iret rfl dX1_length_28 ⟨_, rfl, hQ _ _ _ (by unfold qLength_; rw [if_neg (by omega)]) (hX0.e (XE_.rf) hlt) (XE_.rf)⟩
  refine g_al0 dX1_length_8 ?_
  refine g_al0 dX1_length_9 ?_
  obtain ⟨hW, hD⟩ := hP.get (by omega)
  have hX := hX0.get (by omega)
  have hn := hW.n
  refine f_getA 5 fk_X1_104 rfl hR.sh (fun _ _ => rfl) hX.f5 dX1_length_10 ?_
  refine g_il1 dX1_length_13 ?_
  refine g_callV1I (d' := 5) lk_X1_196 hX.P.sh rfl (rm_lt (by decide) (by decide)) (Nat.le_of_ble_eq_true rfl) dX1_length_14 ?_
  refine xp_length hX.P hW (by omega) ?_
  refine g_callV1I (d' := 2) lk_X1_69 hR.sh rfl (rm_lt (by decide) (by decide)) (Nat.le_of_ble_eq_true rfl) dX1_length_17 ?_
  refine xo_well hR ?_
  refine g_goto (tgt := 28) dX1_length_20 (by decide) ?_
  exact g_iret rfl dX1_length_28 ⟨_, rfl, hQ _ _ _ (by unfold qLength_; rw [if_pos (by omega)]) (hX0.e (XE_.rf) hlt) (XE_.rf)⟩
theorem xo_note {p : Int} {i k : Int} {Q : Int → JH → Prop} (hX0 : XQ_ G X σ p T r s) (hP : MP_ p r s) (hi : -2147483648 ≤ i ∧ i < 2147483648) (hk : -2147483648 ≤ k ∧ k < 2147483648)
    (hQ : ∀ (x t : Int) (σ' : JH), qNote_ p r s i k = (x, t) → XQ_ G X σ' p T r s → XE_ X σ σ' t → Q x σ') : CallI_ G 6 yX1_note cX1_note 3 (some .int) [A_ (some X), I_ i, I_ k] σ Q := by
  refine call_go [some (A_ (some X)), some (I_ i), some (I_ k)] (by decide) (Nat.le_of_ble_eq_true rfl) rfl ?_
  refine g_lt (fun hlt hgz => ?_)
  have hR := hX0.1
  have hp01 := hP.b
  refine g_al0 dX1_note_0 ?_
  refine g_il1 dX1_note_1 ?_
  refine g_callV1I (d' := 3) lk_X1_193 hR.sh rfl (rm_lt (by decide) (by decide)) (Nat.le_of_ble_eq_true rfl) dX1_note_2 ?_
  refine xo_isIsland hX0 hP.rw (by omega) (fun x2 hx2 => ?_)
  unfold isI_ at hx2
  refine g_if_eq (tgt := 49) dX1_note_5 (by decide) (by omega) (fun h5 => ?_) (fun h5 => ?_)
  · refine g_al0 dX1_note_49 ?_
    refine g_iconst dX1_note_50 ?_
    refine g_callV1I (d' := 2) lk_X1_65 hR.sh rfl (rm_lt (by decide) (by decide)) (Nat.le_of_ble_eq_true rfl) dX1_note_51 ?_
    refine xo_refused hR ?_
    exact g_iret rfl dX1_note_54 ⟨_, rfl, hQ _ _ _ (by unfold qNote_; rw [if_neg (by omega)]) (hX0.e (XE_.rf) hlt) (XE_.rf)⟩
  refine g_il2 dX1_note_8 ?_
  refine g_iconst dX1_note_9 ?_
  refine g_al0 dX1_note_10 ?_
  obtain ⟨hW, hD⟩ := hP.get (by omega)
  have hX := hX0.get (by omega)
  have hn := hW.n
  refine f_getA 5 fk_X1_104 rfl hR.sh (fun _ _ => rfl) hX.f5 dX1_note_11 ?_
  refine g_il1 dX1_note_14 ?_
  refine g_callV1I (d' := 5) lk_X1_196 hX.P.sh rfl (rm_lt (by decide) (by decide)) (Nat.le_of_ble_eq_true rfl) dX1_note_15 ?_
  have hl := hW.len (i := i) (by omega) (by omega)
  refine xp_length hX.P hW (by omega) ?_
  refine g_iconst dX1_note_18 ?_
  refine g_isub dX1_note_19 ?_
  refine g_callS3I (d' := 2) lk_X1_79 (rm_lt (by decide) (by decide)) (Nat.le_of_ble_eq_true rfl) dX1_note_20 ?_
  refine xo_in (by omega) (by omega) (by omega) (fun x20 hx20 => ?_)
  refine g_if_eq (tgt := 49) dX1_note_23 (by decide) (by omega) (fun h23 => ?_) (fun h23 => ?_)
  · refine g_al0 dX1_note_49 ?_
    refine g_iconst dX1_note_50 ?_
    refine g_callV1I (d' := 2) lk_X1_65 hR.sh rfl (rm_lt (by decide) (by decide)) (Nat.le_of_ble_eq_true rfl) dX1_note_51 ?_
    refine xo_refused hR ?_
    exact g_iret rfl dX1_note_54 ⟨_, rfl, hQ _ _ _ (by unfold qNote_; rw [if_neg (by omega)]) (hX0.e (XE_.rf) hlt) (XE_.rf)⟩
  refine g_al0 dX1_note_26 ?_
  refine g_al0 dX1_note_27 ?_
  refine f_getA 5 fk_X1_104 rfl hR.sh (fun _ _ => rfl) hX.f5 dX1_note_28 ?_
  refine g_il1 dX1_note_31 ?_
  refine g_il2 dX1_note_32 ?_
  refine g_al0 dX1_note_33 ?_
  refine f_getA 6 fk_X1_111 rfl hR.sh (fun _ _ => rfl) hX.f6 dX1_note_34 ?_
  refine f_getv 5 fk_X1_199 rfl hX.K.sh (fun _ _ => rfl) hX.K.y dX1_note_37 ?_
  refine g_callV3I (d' := 5) lk_X1_202 hX.P.sh rfl (rm_lt (by decide) (by decide)) (Nat.le_of_ble_eq_true rfl) dX1_note_40 ?_
  have hd0 := hD.n
  refine xp_note hX.P hW (by omega) (by omega) (by omega) ?_
  refine g_callV1I (d' := 2) lk_X1_69 hR.sh rfl (rm_lt (by decide) (by decide)) (Nat.le_of_ble_eq_true rfl) dX1_note_43 ?_
  refine xo_well hR ?_
  refine g_goto (tgt := 54) dX1_note_46 (by decide) ?_
  exact g_iret rfl dX1_note_54 ⟨_, rfl, hQ _ _ _ (by unfold qNote_; rw [if_pos (by omega)]) (hX0.e (XE_.rf) hlt) (XE_.rf)⟩
theorem xo_sung {p : Int} {b k : Int} {Q : Int → JH → Prop} (hX0 : XQ_ G X σ p T r s) (hP : MP_ p r s) (hb : -2147483648 ≤ b ∧ b < 2147483648) (hk : -2147483648 ≤ k ∧ k < 2147483648)
    (hQ : ∀ (x t : Int) (σ' : JH), qSung_ p r s b k = (x, t) → XQ_ G X σ' p T r s → XE_ X σ σ' t → Q x σ') : CallI_ G 7 yX1_sung cX1_sung 3 (some .int) [A_ (some X), I_ b, I_ k] σ Q := by
  refine call_go [some (A_ (some X)), some (I_ b), some (I_ k)] (by decide) (Nat.le_of_ble_eq_true rfl) rfl ?_
  refine g_lt (fun hlt hgz => ?_)
  have hR := hX0.1
  have hp01 := hP.b
  refine g_al0 dX1_sung_0 ?_
  refine g_il1 dX1_sung_1 ?_
  refine g_callV1I (d' := 3) lk_X1_168 hR.sh rfl (rm_lt (by decide) (by decide)) (Nat.le_of_ble_eq_true rfl) dX1_sung_2 ?_
  refine xo_isBox hX0 hP.rw (by omega) (fun x2 hx2 => ?_)
  unfold isB_ at hx2
  refine g_if_eq (tgt := 44) dX1_sung_5 (by decide) (by omega) (fun h5 => ?_) (fun h5 => ?_)
  · refine g_al0 dX1_sung_44 ?_
    refine g_iconst dX1_sung_45 ?_
    refine g_callV1I (d' := 2) lk_X1_65 hR.sh rfl (rm_lt (by decide) (by decide)) (Nat.le_of_ble_eq_true rfl) dX1_sung_46 ?_
    refine xo_refused hR ?_
    exact g_iret rfl dX1_sung_49 ⟨_, rfl, hQ _ _ _ (by unfold qSung_; rw [if_neg (by omega)]) (hX0.e (XE_.rf) hlt) (XE_.rf)⟩
  refine g_il2 dX1_sung_8 ?_
  refine g_iconst dX1_sung_9 ?_
  refine g_al0 dX1_sung_10 ?_
  refine g_il1 dX1_sung_11 ?_
  refine g_callV1I (d' := 6) lk_X1_206 hR.sh rfl (rm_lt (by decide) (by decide)) (Nat.le_of_ble_eq_true rfl) dX1_sung_12 ?_
  obtain ⟨hW, hD⟩ := hP.get (by omega)
  have hX := hX0.get (by omega)
  have hn := hW.n
  have hl := bl_in (r := r) (b := b) hW (by omega) (by omega)
  refine xo_sungNotes hX hW hD (by omega) ?_
  refine g_iconst dX1_sung_15 ?_
  refine g_isub dX1_sung_16 ?_
  refine g_callS3I (d' := 2) lk_X1_79 (rm_lt (by decide) (by decide)) (Nat.le_of_ble_eq_true rfl) dX1_sung_17 ?_
  refine xo_in (by omega) (by omega) (by omega) (fun x17 hx17 => ?_)
  refine g_if_eq (tgt := 44) dX1_sung_20 (by decide) (by omega) (fun h20 => ?_) (fun h20 => ?_)
  · refine g_al0 dX1_sung_44 ?_
    refine g_iconst dX1_sung_45 ?_
    refine g_callV1I (d' := 2) lk_X1_65 hR.sh rfl (rm_lt (by decide) (by decide)) (Nat.le_of_ble_eq_true rfl) dX1_sung_46 ?_
    refine xo_refused hR ?_
    exact g_iret rfl dX1_sung_49 ⟨_, rfl, hQ _ _ _ (by unfold qSung_; rw [if_neg (by omega)]) (hX0.e (XE_.rf) hlt) (XE_.rf)⟩
  refine g_al0 dX1_sung_23 ?_
  refine g_al0 dX1_sung_24 ?_
  refine f_getA 6 fk_X1_111 rfl hR.sh (fun _ _ => rfl) hX.f6 dX1_sung_25 ?_
  refine f_getA 4 fk_X1_209 rfl hX.K.sh (fun _ _ => rfl) hX.K.f4 dX1_sung_28 ?_
  refine g_bipush dX1_sung_31 (by decide) (by decide) ?_
  refine g_il1 dX1_sung_33 ?_
  refine g_imul dX1_sung_34 ?_
  refine g_il2 dX1_sung_35 ?_
  refine g_iadd dX1_sung_36 ?_
  refine g_ialv hX.K.a4 (by omega) (hX.K.sg (b := b) (k := k) (by omega) (by omega) (by omega) (by omega)) dX1_sung_37 ?_
  refine g_callV1I (d' := 2) lk_X1_69 hR.sh rfl (rm_lt (by decide) (by decide)) (Nat.le_of_ble_eq_true rfl) dX1_sung_38 ?_
  refine xo_well hR ?_
  refine g_goto (tgt := 49) dX1_sung_41 (by decide) ?_
  exact g_iret rfl dX1_sung_49 ⟨_, rfl, hQ _ _ _ (by unfold qSung_; rw [if_pos (by omega)]) (hX0.e (XE_.rf) hlt) (XE_.rf)⟩
theorem xo_heard {p : Int} {b : Int} {Q : Int → JH → Prop} (hX0 : XQ_ G X σ p T r s) (hP : MP_ p r s) (hb : -2147483648 ≤ b ∧ b < 2147483648)
    (hQ : ∀ (x t : Int) (σ' : JH), qHeard_ p r s b = (x, t) → XQ_ G X σ' p T r s → XE_ X σ σ' t → Q x σ') : CallI_ G 9 yX1_heard cX1_heard 2 (some .int) [A_ (some X), I_ b] σ Q := by
  refine call_go [some (A_ (some X)), some (I_ b)] (by decide) (Nat.le_of_ble_eq_true rfl) rfl ?_
  refine g_lt (fun hlt hgz => ?_)
  have hR := hX0.1
  have hp01 := hP.b
  refine g_al0 dX1_heard_0 ?_
  refine g_il1 dX1_heard_1 ?_
  refine g_callV1I (d' := 3) lk_X1_168 hR.sh rfl (rm_lt (by decide) (by decide)) (Nat.le_of_ble_eq_true rfl) dX1_heard_2 ?_
  refine xo_isBox hX0 hP.rw (by omega) (fun x2 hx2 => ?_)
  unfold isB_ at hx2
  refine g_if_eq (tgt := 20) dX1_heard_5 (by decide) (by omega) (fun h5 => ?_) (fun h5 => ?_)
  · refine g_al0 dX1_heard_20 ?_
    refine g_iconst dX1_heard_21 ?_
    refine g_callV1I (d' := 2) lk_X1_65 hR.sh rfl (rm_lt (by decide) (by decide)) (Nat.le_of_ble_eq_true rfl) dX1_heard_22 ?_
    refine xo_refused hR ?_
    exact g_iret rfl dX1_heard_25 ⟨_, rfl, hQ _ _ _ (by unfold qHeard_; rw [if_neg (by omega)]) (hX0.e (XE_.rf) hlt) (XE_.rf)⟩
  refine g_al0 dX1_heard_8 ?_
  refine g_al0 dX1_heard_9 ?_
  refine g_il1 dX1_heard_10 ?_
  refine g_callV1I (d' := 8) lk_X1_216 hR.sh rfl (rm_lt (by decide) (by decide)) (Nat.le_of_ble_eq_true rfl) dX1_heard_11 ?_
  obtain ⟨hW, hD⟩ := hP.get (by omega)
  have hX := hX0.get (by omega)
  have hn := hW.n
  refine xo_heardNow hX hW hD (by omega) ?_
  refine g_callV1I (d' := 2) lk_X1_69 hR.sh rfl (rm_lt (by decide) (by decide)) (Nat.le_of_ble_eq_true rfl) dX1_heard_14 ?_
  refine xo_well hR ?_
  refine g_goto (tgt := 25) dX1_heard_17 (by decide) ?_
  exact g_iret rfl dX1_heard_25 ⟨_, rfl, hQ _ _ _ (by unfold qHeard_; rw [if_pos (by omega)]) (hX0.e (XE_.rf) hlt) (XE_.rf)⟩
theorem xo_season {p : Int} {d : Int} {Q : Int → JH → Prop} (hX0 : XQ_ G X σ p T r s) (hP : MP_ p r s) (hd : -2147483648 ≤ d ∧ d < 2147483648)
    (hQ : ∀ (x t : Int) (σ' : JH), qSeason_ p d = (x, t) → XQ_ G X σ' p T r s → XE_ X σ σ' t → Q x σ') : CallI_ G 3 yX1_season cX1_season 2 (some .int) [A_ (some X), I_ d] σ Q := by
  refine call_go [some (A_ (some X)), some (I_ d)] (by decide) (Nat.le_of_ble_eq_true rfl) rfl ?_
  refine g_lt (fun hlt hgz => ?_)
  have hR := hX0.1
  have hp01 := hP.b
  rcases hX0.2 with q | q
  · have hp0 : p = 0 := q.1
    refine g_al0 dX1_season_0 ?_
    refine f_getA 5 fk_X1_104 rfl hR.sh (fun _ _ => rfl) q.2 dX1_season_1 ?_
    refine g_ifnonnull (tgt := 13) dX1_season_4 (by decide) (fun _ h4 => ?_) (fun h4 => ?_)
    · cases h4
    refine g_al0 dX1_season_7 ?_
    refine g_iconst dX1_season_8 ?_
    refine g_callV1I (d' := 2) lk_X1_65 hR.sh rfl (rm_lt (by decide) (by decide)) (Nat.le_of_ble_eq_true rfl) dX1_season_9 ?_
    refine xo_refused hR ?_
    exact g_iret rfl dX1_season_12 ⟨_, rfl, hQ _ _ _ (by unfold qSeason_; rw [if_neg (by omega)]) (hX0.e (XE_.rf) hlt) (XE_.rf)⟩
  · have hp1 : p = 1 := q.1
    have hX := q.2
    obtain ⟨hW, hD⟩ := hP.get hp1
    have hn := hW.n
    refine g_al0 dX1_season_0 ?_
    refine f_getA 5 fk_X1_104 rfl hR.sh (fun _ _ => rfl) hX.f5 dX1_season_1 ?_
    refine g_ifnonnull (tgt := 13) dX1_season_4 (by decide) (fun _ h4 => ?_) (fun h4 => ?_)
    · refine g_il1 dX1_season_13 ?_
      refine g_iconst dX1_season_14 ?_
      refine g_ldc (x := 99999) q1228 dX1_season_15 (by decide) ?_
      refine g_callS3I (d' := 2) lk_X1_79 (rm_lt (by decide) (by decide)) (Nat.le_of_ble_eq_true rfl) dX1_season_17 ?_
      refine xo_in (by omega) (by omega) (by omega) (fun x17 hx17 => ?_)
      refine g_if_eq (tgt := 36) dX1_season_20 (by decide) (by omega) (fun h20 => ?_) (fun h20 => ?_)
      · refine g_al0 dX1_season_36 ?_
        refine g_iconst dX1_season_37 ?_
        refine g_callV1I (d' := 2) lk_X1_65 hR.sh rfl (rm_lt (by decide) (by decide)) (Nat.le_of_ble_eq_true rfl) dX1_season_38 ?_
        refine xo_refused hR ?_
        exact g_iret rfl dX1_season_41 ⟨_, rfl, hQ _ _ _ (by unfold qSeason_; rw [if_pos (by omega), if_neg (by omega)]) (hX0.e (XE_.rf) hlt) (XE_.rf)⟩
      refine g_al0 dX1_season_23 ?_
      refine g_il1 dX1_season_24 ?_
      refine g_bipush dX1_season_25 (by decide) (by decide) ?_
      refine g_idiv dX1_season_27 (by omega) ?_
      have hq := dm_ (a := d) (b := 90) (by omega) (by decide)
      refine g_iconst dX1_season_28 ?_
      refine g_irem dX1_season_29 (by omega) ?_
      refine g_callV1I (d' := 2) lk_X1_69 hR.sh rfl (rm_lt (by decide) (by decide)) (Nat.le_of_ble_eq_true rfl) dX1_season_30 ?_
      refine xo_well hR ?_
      refine g_goto (tgt := 41) dX1_season_33 (by decide) ?_
      exact g_iret rfl dX1_season_41 ⟨_, rfl, hQ _ _ _ (by unfold qSeason_; rw [if_pos (by omega), if_pos (by omega)]) (hX0.e (XE_.rf) hlt) (XE_.rf)⟩
    cases h4
theorem xo_way {p : Int} {i j : Int} {Q : Int → JH → Prop} (hX0 : XQ_ G X σ p T r s) (hP : MP_ p r s) (hi : -2147483648 ≤ i ∧ i < 2147483648) (hj : -2147483648 ≤ j ∧ j < 2147483648)
    (hQ : ∀ (x t : Int) (σ' : JH), qWay_ p r s i j = (x, t) → XQ_ G X σ' p T r s → XE_ X σ σ' t → Q x σ') : CallI_ G 5 yX1_way cX1_way 4 (some .int) [A_ (some X), I_ i, I_ j] σ Q := by
  refine call_go [some (A_ (some X)), some (I_ i), some (I_ j), none] (by decide) (Nat.le_of_ble_eq_true rfl) rfl ?_
  refine g_lt (fun hlt hgz => ?_)
  have hR := hX0.1
  have hp01 := hP.b
  refine g_al0 dX1_way_0 ?_
  refine g_il1 dX1_way_1 ?_
  refine g_callV1I (d' := 3) lk_X1_193 hR.sh rfl (rm_lt (by decide) (by decide)) (Nat.le_of_ble_eq_true rfl) dX1_way_2 ?_
  refine xo_isIsland hX0 hP.rw (by omega) (fun x2 hx2 => ?_)
  unfold isI_ at hx2
  refine g_if_eq (tgt := 21) dX1_way_5 (by decide) (by omega) (fun h5 => ?_) (fun h5 => ?_)
  · refine g_al0 dX1_way_21 ?_
    refine g_iconst dX1_way_22 ?_
    refine g_callV1I (d' := 2) lk_X1_65 hR.sh rfl (rm_lt (by decide) (by decide)) (Nat.le_of_ble_eq_true rfl) dX1_way_23 ?_
    refine xo_refused hR ?_
    exact g_iret rfl dX1_way_26 ⟨_, rfl, hQ _ _ _ (by unfold qWay_; rw [if_neg (by omega)]) (hX0.e (XE_.rf) hlt) (XE_.rf)⟩
  refine g_al0 dX1_way_8 ?_
  refine g_il2 dX1_way_9 ?_
  refine g_callV1I (d' := 3) lk_X1_193 hR.sh rfl (rm_lt (by decide) (by decide)) (Nat.le_of_ble_eq_true rfl) dX1_way_10 ?_
  refine xo_isIsland hX0 hP.rw (by omega) (fun x10 hx10 => ?_)
  unfold isI_ at hx10
  refine g_if_eq (tgt := 21) dX1_way_13 (by decide) (by omega) (fun h13 => ?_) (fun h13 => ?_)
  · refine g_al0 dX1_way_21 ?_
    refine g_iconst dX1_way_22 ?_
    refine g_callV1I (d' := 2) lk_X1_65 hR.sh rfl (rm_lt (by decide) (by decide)) (Nat.le_of_ble_eq_true rfl) dX1_way_23 ?_
    refine xo_refused hR ?_
    exact g_iret rfl dX1_way_26 ⟨_, rfl, hQ _ _ _ (by unfold qWay_; rw [if_neg (by omega)]) (hX0.e (XE_.rf) hlt) (XE_.rf)⟩
  refine g_il1 dX1_way_16 ?_
  refine g_il2 dX1_way_17 ?_
  refine g_icmp_ne (tgt := 27) dX1_way_18 (by decide) (by omega) (fun h18 => ?_) (fun h18 => ?_)
  · obtain ⟨hW, hD⟩ := hP.get (by omega)
    have hX := hX0.get (by omega)
    have hn := hW.n
    have L29 : ∀ (fu : Nat) (k : Int), r 5 - k < (fu : Int) → (0 ≤ k) → (k ≤ r 5) → (∀ j1, 0 ≤ j1 → j1 < k → decide (jn_ r j1 i j ∧ ¬ hb_ (s 1) j1) = false) → GoM_ G 5 yX1_way cX1_way 4 (some .int) σ (fun v σ' => ∃ x : Int, v = some (I_ x) ∧ Q x σ') 29 [some (A_ (some X)), some (I_ i), some (I_ j), some (I_ k)] [] σ := by
      intro fu
      induction fu with
      | zero => intro k hn h0 h1 hf; exact absurd hn (by omega)
      | succ fu ih =>
        intro k hn h0 h1 hf
        refine g_il3 dX1_way_29 ?_
        refine g_al0 dX1_way_30 ?_
        refine f_getA 5 fk_X1_104 rfl hR.sh (fun _ _ => rfl) hX.f5 dX1_way_31 ?_
        refine f_getA 5 fk_X1_226 rfl hX.P.sh (fun _ _ => rfl) hX.P.f5 dX1_way_34 ?_
        refine g_callV0I (d' := 2) lk_X1_127 hX.P.l1.1 rfl (rm_lt (by decide) (by decide)) (Nat.le_of_ble_eq_true rfl) dX1_way_37 ?_
        refine js_size hX.P.l1 ?_
        refine g_icmp_ge (tgt := 101) dX1_way_40 (by decide) (by omega) (fun h40 => ?_) (fun h40 => ?_)
        · refine g_al0 dX1_way_101 ?_
          refine g_bipush dX1_way_102 (by decide) (by decide) ?_
          refine g_callV1I (d' := 2) lk_X1_69 hR.sh rfl (rm_lt (by decide) (by decide)) (Nat.le_of_ble_eq_true rfl) dX1_way_104 ?_
          refine xo_well hR ?_
          exact g_iret rfl dX1_way_107 ⟨_, rfl, by have e : wo_ r s i j = -1 := fI_none (fun j1 g0 g1 => hf j1 g0 (by omega)); exact hQ _ _ _ (by unfold qWay_; rw [if_pos (by omega), if_pos (by omega)]) (hX0.e XE_.rf hlt) XE_.rf⟩
        refine g_al0 dX1_way_43 ?_
        refine f_getA 5 fk_X1_104 rfl hR.sh (fun _ _ => rfl) hX.f5 dX1_way_44 ?_
        refine f_getA 5 fk_X1_226 rfl hX.P.sh (fun _ _ => rfl) hX.P.f5 dX1_way_47 ?_
        refine g_il3 dX1_way_50 ?_
        refine g_callV1A (d' := 4) lk_X1_137 hX.P.l1.1 rfl (rm_lt (by decide) (by decide)) (Nat.le_of_ble_eq_true rfl) dX1_way_51 ?_
        refine js_get hX.P.l1 ⟨h0, by omega⟩ ?_
        have hY := hX.P.way (k := k) (by omega) (by omega)
        have hyw := hW.way (k := k) (by omega) (by omega)
        refine g_cast q1215 hY.1 (Or.inl rfl) dX1_way_54 ?_
        refine g_il1 dX1_way_57 ?_
        refine g_il2 dX1_way_58 ?_
        refine g_callV2I (d' := 2) lk_X1_231 hY.1 rfl (rm_lt (by decide) (by decide)) (Nat.le_of_ble_eq_true rfl) dX1_way_59 ?_
        refine xw_is hY.1 hY.2.2.1 hY.2.2.2.1 (by omega) (by omega) (by omega) (by omega) (fun z hz => ?_)
        refine g_if_eq (tgt := 95) dX1_way_62 (by decide) (by omega) (fun h62 => ?_) (fun h62 => ?_)
        · refine g_inc3 dX1_way_95 (by decide) rfl ?_
          refine g_goto (tgt := 29) dX1_way_98 (by decide) ?_
          refine ih _ (by omega) (by omega) (by omega) (fun j1 g0 g1 => ?_)
          by_cases hj1 : j1 = k
          · subst hj1; exact decide_eq_false (by unfold jn_; omega)
          · exact hf j1 g0 (by omega)
        refine g_al0 dX1_way_65 ?_
        refine g_il3 dX1_way_66 ?_
        refine g_callV1I (d' := 3) lk_X1_234 hR.sh rfl (rm_lt (by decide) (by decide)) (Nat.le_of_ble_eq_true rfl) dX1_way_67 ?_
        refine xo_isClosed hX hW hD (fun z2 hz2 => ?_)
        refine g_if_ne (tgt := 95) dX1_way_70 (by decide) (by omega) (fun h70 => ?_) (fun h70 => ?_)
        · refine g_inc3 dX1_way_95 (by decide) rfl ?_
          refine g_goto (tgt := 29) dX1_way_98 (by decide) ?_
          refine ih _ (by omega) (by omega) (by omega) (fun j1 g0 g1 => ?_)
          by_cases hj1 : j1 = k
          · subst hj1; exact decide_eq_false (by unfold jn_; omega)
          · exact hf j1 g0 (by omega)
        refine g_al0 dX1_way_73 ?_
        refine g_al0 dX1_way_74 ?_
        refine f_getA 5 fk_X1_104 rfl hR.sh (fun _ _ => rfl) hX.f5 dX1_way_75 ?_
        refine f_getA 5 fk_X1_226 rfl hX.P.sh (fun _ _ => rfl) hX.P.f5 dX1_way_78 ?_
        refine g_il3 dX1_way_81 ?_
        refine g_callV1A (d' := 4) lk_X1_137 hX.P.l1.1 rfl (rm_lt (by decide) (by decide)) (Nat.le_of_ble_eq_true rfl) dX1_way_82 ?_
        refine js_get hX.P.l1 ⟨h0, by omega⟩ ?_
        refine g_cast q1215 hY.1 (Or.inl rfl) dX1_way_85 ?_
        refine f_getv 2 fk_X1_237 rfl hY.1 (fun _ _ => rfl) hY.2.2.2.2.1 dX1_way_88 ?_
        refine g_callV1I (d' := 2) lk_X1_69 hR.sh rfl (rm_lt (by decide) (by decide)) (Nat.le_of_ble_eq_true rfl) dX1_way_91 ?_
        refine xo_well hR ?_
        exact g_iret rfl dX1_way_94 ⟨_, rfl, by have e : wo_ r s i j = k := fI_hit h0 (by omega) (decide_eq_true ⟨by unfold jn_; omega, by omega⟩) hf; exact hQ _ _ _ (by unfold qWay_; rw [if_pos (by omega), if_neg (by omega), e]) (hX0.e XE_.rf hlt) XE_.rf⟩
    refine g_iconst dX1_way_27 ?_
    refine g_is3 dX1_way_28 (by decide) rfl ?_
    exact L29 13 _ (by omega) (by omega) (by omega) (fun j1 g0 g1 => by omega)
  refine g_al0 dX1_way_21 ?_
  refine g_iconst dX1_way_22 ?_
  refine g_callV1I (d' := 2) lk_X1_65 hR.sh rfl (rm_lt (by decide) (by decide)) (Nat.le_of_ble_eq_true rfl) dX1_way_23 ?_
  refine xo_refused hR ?_
  exact g_iret rfl dX1_way_26 ⟨_, rfl, hQ _ _ _ (by unfold qWay_; rw [if_neg (by omega)]) (hX0.e (XE_.rf) hlt) (XE_.rf)⟩
theorem xo_sets {p : Int} {w k d : Int} {Q : Int → JH → Prop} (hX0 : XQ_ G X σ p T r s) (hP : MP_ p r s) (hw : -2147483648 ≤ w ∧ w < 2147483648) (hk : -2147483648 ≤ k ∧ k < 2147483648) (hd : -2147483648 ≤ d ∧ d < 2147483648)
    (hQ : ∀ (x t : Int) (σ' : JH), qSets_ p r s w k d = (x, t) → XQ_ G X σ' p T r s → XE_ X σ σ' t → Q x σ') : CallI_ G 6 yX1_sets cX1_sets 4 (some .int) [A_ (some X), I_ w, I_ k, I_ d] σ Q := by
  refine call_go [some (A_ (some X)), some (I_ w), some (I_ k), some (I_ d)] (by decide) (Nat.le_of_ble_eq_true rfl) rfl ?_
  refine g_lt (fun hlt hgz => ?_)
  have hR := hX0.1
  have hp01 := hP.b
  refine g_al0 dX1_sets_0 ?_
  refine g_il1 dX1_sets_1 ?_
  refine g_callV1I (d' := 3) lk_X1_145 hR.sh rfl (rm_lt (by decide) (by decide)) (Nat.le_of_ble_eq_true rfl) dX1_sets_2 ?_
  refine xo_isWhale hX0 hP.rw (by omega) (fun x2 hx2 => ?_)
  unfold isW_ at hx2
  refine g_if_eq (tgt := 16) dX1_sets_5 (by decide) (by omega) (fun h5 => ?_) (fun h5 => ?_)
  · refine g_al0 dX1_sets_16 ?_
    refine g_iconst dX1_sets_17 ?_
    refine g_callV1I (d' := 2) lk_X1_65 hR.sh rfl (rm_lt (by decide) (by decide)) (Nat.le_of_ble_eq_true rfl) dX1_sets_18 ?_
    refine xo_refused hR ?_
    exact g_iret rfl dX1_sets_21 ⟨_, rfl, hQ _ _ _ (by unfold qSets_; rw [if_neg (by omega)]) (hX0.e (XE_.rf) hlt) (XE_.rf)⟩
  refine g_al0 dX1_sets_8 ?_
  refine g_il2 dX1_sets_9 ?_
  refine g_callV1I (d' := 3) lk_X1_240 hR.sh rfl (rm_lt (by decide) (by decide)) (Nat.le_of_ble_eq_true rfl) dX1_sets_10 ?_
  refine xo_isWay hX0 hP.rw (by omega) (fun x10 hx10 => ?_)
  unfold isY_ at hx10
  refine g_if_ne (tgt := 22) dX1_sets_13 (by decide) (by omega) (fun h13 => ?_) (fun h13 => ?_)
  · refine g_il3 dX1_sets_22 ?_
    refine g_iconst dX1_sets_23 ?_
    refine g_sipush dX1_sets_24 (by decide) (by decide) ?_
    refine g_callS3I (d' := 2) lk_X1_79 (rm_lt (by decide) (by decide)) (Nat.le_of_ble_eq_true rfl) dX1_sets_27 ?_
    refine xo_in (by omega) (by omega) (by omega) (fun x27 hx27 => ?_)
    refine g_if_ne (tgt := 39) dX1_sets_30 (by decide) (by omega) (fun h30 => ?_) (fun h30 => ?_)
    · refine g_al0 dX1_sets_39 ?_
      refine g_al0 dX1_sets_40 ?_
      refine g_il2 dX1_sets_41 ?_
      refine g_callV1I (d' := 3) lk_X1_234 hR.sh rfl (rm_lt (by decide) (by decide)) (Nat.le_of_ble_eq_true rfl) dX1_sets_42 ?_
      obtain ⟨hW, hD⟩ := hP.get (by omega)
      have hX := hX0.get (by omega)
      have hn := hW.n
      refine xo_isClosed hX hW hD (fun zc hzc => ?_)
      refine g_if_eq (tgt := 53) dX1_sets_45 (by decide) (by omega) (fun h45 => ?_) (fun h45 => ?_)
      · refine g_al0 dX1_sets_53 ?_
        refine g_il1 dX1_sets_54 ?_
        refine g_callV1A (d' := 5) lk_X1_149 hR.sh rfl (rm_lt (by decide) (by decide)) (Nat.le_of_ble_eq_true rfl) dX1_sets_55 ?_
        refine xo_whaleOf hX hW hD (by omega) ?_
        obtain ⟨⟨κ, hκ, hkd, hsw⟩, hw2⟩ := hX.P.whl (w := w) (by omega) (by omega)
        have hww := hW.whale (w := w) (by omega) (by omega)
        refine g_al0 dX1_sets_58 ?_
        refine f_getA 5 fk_X1_104 rfl hR.sh (fun _ _ => rfl) hX.f5 dX1_sets_59 ?_
        refine f_getA 5 fk_X1_226 rfl hX.P.sh (fun _ _ => rfl) hX.P.f5 dX1_sets_62 ?_
        refine g_il2 dX1_sets_65 ?_
        refine g_callV1A (d' := 4) lk_X1_137 hX.P.l1.1 rfl (rm_lt (by decide) (by decide)) (Nat.le_of_ble_eq_true rfl) dX1_sets_66 ?_
        refine js_get hX.P.l1 (by omega) ?_
        have hY := hX.P.way (k := k) (by omega) (by omega)
        have hyw := hW.way (k := k) (by omega) (by omega)
        refine g_cast q1215 hY.1 (Or.inl rfl) dX1_sets_69 ?_
        refine g_il3 dX1_sets_72 ?_
        refine gv_X1_243 hY.1 hY.2.2.2.2.2 (by omega) (by omega) rfl hκ hsw (by decide) (Nat.le_of_ble_eq_true rfl) dX1_sets_73 ?_
        rw [← hkd]
        refine g_callV1I (d' := 2) lk_X1_69 hR.sh rfl (rm_lt (by decide) (by decide)) (Nat.le_of_ble_eq_true rfl) dX1_sets_76 ?_
        refine xo_well hR ?_
        exact g_iret rfl dX1_sets_79 ⟨_, rfl, hQ _ _ _ (by unfold qSets_; rw [if_pos (by omega), if_pos (by omega), if_neg (by omega)]; rfl) (hX0.e (XE_.rf) hlt) (XE_.rf)⟩
      refine g_bipush dX1_sets_48 (by decide) (by decide) ?_
      refine g_goto (tgt := 76) dX1_sets_50 (by decide) ?_
      refine g_callV1I (d' := 2) lk_X1_69 hR.sh rfl (rm_lt (by decide) (by decide)) (Nat.le_of_ble_eq_true rfl) dX1_sets_76 ?_
      refine xo_well hR ?_
      exact g_iret rfl dX1_sets_79 ⟨_, rfl, hQ _ _ _ (by unfold qSets_; rw [if_pos (by omega), if_pos (by omega), if_pos (by omega)]) (hX0.e (XE_.rf) hlt) (XE_.rf)⟩
    refine g_al0 dX1_sets_33 ?_
    refine g_iconst dX1_sets_34 ?_
    refine g_callV1I (d' := 2) lk_X1_65 hR.sh rfl (rm_lt (by decide) (by decide)) (Nat.le_of_ble_eq_true rfl) dX1_sets_35 ?_
    refine xo_refused hR ?_
    exact g_iret rfl dX1_sets_38 ⟨_, rfl, hQ _ _ _ (by unfold qSets_; rw [if_pos (by omega), if_neg (by omega)]) (hX0.e (XE_.rf) hlt) (XE_.rf)⟩
  refine g_al0 dX1_sets_16 ?_
  refine g_iconst dX1_sets_17 ?_
  refine g_callV1I (d' := 2) lk_X1_65 hR.sh rfl (rm_lt (by decide) (by decide)) (Nat.le_of_ble_eq_true rfl) dX1_sets_18 ?_
  refine xo_refused hR ?_
  exact g_iret rfl dX1_sets_21 ⟨_, rfl, hQ _ _ _ (by unfold qSets_; rw [if_neg (by omega)]) (hX0.e (XE_.rf) hlt) (XE_.rf)⟩
theorem xo_sent {p : Int} {what : Int} {Q : Int → JH → Prop} (hX0 : XQ_ G X σ p T r s) (hP : MP_ p r s) (hwhat : -2147483648 ≤ what ∧ what < 2147483648)
    (hQ : ∀ (x t : Int) (σ' : JH), qSent_ p r s what = (x, t) → XQ_ G X σ' p T r s → XE_ X σ σ' t → Q x σ') : CallI_ G 6 yX1_sent cX1_sent 4 (some .int) [A_ (some X), I_ what] σ Q := by
  refine call_go [some (A_ (some X)), some (I_ what), none, none] (by decide) (Nat.le_of_ble_eq_true rfl) rfl ?_
  refine g_lt (fun hlt hgz => ?_)
  have hR := hX0.1
  have hp01 := hP.b
  rcases hX0.2 with q | q
  · have hp0 : p = 0 := q.1
    refine g_al0 dX1_sent_0 ?_
    refine f_getA 5 fk_X1_104 rfl hR.sh (fun _ _ => rfl) q.2 dX1_sent_1 ?_
    refine g_ifnull (tgt := 16) dX1_sent_4 (by decide) (fun h4 => ?_) (fun _ h4 => ?_)
    · refine g_al0 dX1_sent_16 ?_
      refine g_iconst dX1_sent_17 ?_
      refine g_callV1I (d' := 2) lk_X1_65 hR.sh rfl (rm_lt (by decide) (by decide)) (Nat.le_of_ble_eq_true rfl) dX1_sent_18 ?_
      refine xo_refused hR ?_
      exact g_iret rfl dX1_sent_21 ⟨_, rfl, hQ _ _ _ (by unfold qSent_; rw [if_neg (by omega)]) (hX0.e (XE_.rf) hlt) (XE_.rf)⟩
    cases h4
  · have hp1 : p = 1 := q.1
    have hX := q.2
    obtain ⟨hW, hD⟩ := hP.get hp1
    have hn := hW.n
    refine g_al0 dX1_sent_0 ?_
    refine f_getA 5 fk_X1_104 rfl hR.sh (fun _ _ => rfl) hX.f5 dX1_sent_1 ?_
    refine g_ifnull (tgt := 16) dX1_sent_4 (by decide) (fun h4 => ?_) (fun _ h4 => ?_)
    · cases h4
    refine g_il1 dX1_sent_7 ?_
    refine g_iconst dX1_sent_8 ?_
    refine g_iconst dX1_sent_9 ?_
    refine g_callS3I (d' := 2) lk_X1_79 (rm_lt (by decide) (by decide)) (Nat.le_of_ble_eq_true rfl) dX1_sent_10 ?_
    refine xo_in (by omega) (by omega) (by omega) (fun x10 hx10 => ?_)
    refine g_if_ne (tgt := 22) dX1_sent_13 (by decide) (by omega) (fun h13 => ?_) (fun h13 => ?_)
    · have L26 : ∀ (fu : Nat) (n1 : Int) (b : Int), r 7 - b < (fu : Int) → (0 ≤ b) → (b ≤ r 7) → (-1000000 ≤ n1 ∧ n1 ≤ 1000000) → (-100000 * b ≤ n1 ∧ n1 ≤ 100002 * b) → (n1 = sI_ (sn_ r s what) b) → GoM_ G 6 yX1_sent cX1_sent 4 (some .int) σ (fun v σ' => ∃ x : Int, v = some (I_ x) ∧ Q x σ') 26 [some (A_ (some X)), some (I_ what), some (I_ n1), some (I_ b)] [] σ := by
        intro fu
        induction fu with
        | zero => intro n1 b hn h0 h1 hn1 hb2 hc; exact absurd hn (by omega)
        | succ fu ih =>
          intro n1 b hn h0 h1 hn1 hb2 hc
          refine g_il3 dX1_sent_26 ?_
          refine g_al0 dX1_sent_27 ?_
          refine f_getA 5 fk_X1_104 rfl hR.sh (fun _ _ => rfl) hX.f5 dX1_sent_28 ?_
          refine f_getA 7 fk_X1_134 rfl hX.P.sh (fun _ _ => rfl) hX.P.f7 dX1_sent_31 ?_
          refine g_callV0I (d' := 2) lk_X1_127 hX.P.l3.1 rfl (rm_lt (by decide) (by decide)) (Nat.le_of_ble_eq_true rfl) dX1_sent_34 ?_
          refine js_size hX.P.l3 ?_
          refine g_icmp_ge (tgt := 125) dX1_sent_37 (by decide) (by omega) (fun h37 => ?_) (fun h37 => ?_)
          · refine g_al0 dX1_sent_125 ?_
            refine g_il2 dX1_sent_126 ?_
            refine g_callV1I (d' := 2) lk_X1_69 hR.sh rfl (rm_lt (by decide) (by decide)) (Nat.le_of_ble_eq_true rfl) dX1_sent_127 ?_
            refine xo_well hR ?_
            exact g_iret rfl dX1_sent_130 ⟨_, rfl, hQ _ _ _ (by unfold qSent_; rw [if_pos (by omega), show r 7 = b by omega, ← hc]) (hX0.e XE_.rf hlt) XE_.rf⟩
          refine g_al0 dX1_sent_40 ?_
          refine f_getA 6 fk_X1_111 rfl hR.sh (fun _ _ => rfl) hX.f6 dX1_sent_41 ?_
          refine f_getA 2 fk_X1_187 rfl hX.K.sh (fun _ _ => rfl) hX.K.f2 dX1_sent_44 ?_
          refine g_il3 dX1_sent_47 ?_
          have hkb := hX.K.bx (b := b) (by omega) (by omega)
          have hdb := hD.box (b := b) (by omega) (by omega)
          have hun : un_ (s (12 + b)) = -2 ∧ s (12 + b) = 0 ∨ un_ (s (12 + b)) = s (12 + b) - 1 ∧ s (12 + b) ≠ 0 := by unfold un_; split <;> omega
          have hun2 : un_ (s (20 + b)) = -2 ∧ s (20 + b) = 0 ∨ un_ (s (20 + b)) = s (20 + b) - 1 ∧ s (20 + b) ≠ 0 := by unfold un_; split <;> omega
          have hbw := hW.box (b := b) (by omega) (by omega)
          refine g_ialv hX.K.a2 (by omega) hkb.1 dX1_sent_48 ?_
          refine g_bipush dX1_sent_49 (by decide) (by decide) ?_
          refine g_icmp_ne (tgt := 57) dX1_sent_51 (by decide) (by omega) (fun h51 => ?_) (fun h51 => ?_)
          · refine g_il2 dX1_sent_57 ?_
            refine g_il1 dX1_sent_58 ?_
            refine g_if_ne (tgt := 66) dX1_sent_59 (by decide) (by omega) (fun h59 => ?_) (fun h59 => ?_)
            · refine g_il1 dX1_sent_66 ?_
              refine g_iconst dX1_sent_67 ?_
              refine g_icmp_ne (tgt := 92) dX1_sent_68 (by decide) (by omega) (fun h68 => ?_) (fun h68 => ?_)
              · refine g_al0 dX1_sent_92 ?_
                refine f_getA 6 fk_X1_111 rfl hR.sh (fun _ _ => rfl) hX.f6 dX1_sent_93 ?_
                refine f_getA 3 fk_X1_190 rfl hX.K.sh (fun _ _ => rfl) hX.K.f3 dX1_sent_96 ?_
                refine g_il3 dX1_sent_99 ?_
                refine g_ialv hX.K.a3 (by omega) hkb.2 dX1_sent_100 ?_
                refine g_al0 dX1_sent_101 ?_
                refine g_il3 dX1_sent_102 ?_
                refine g_callV1A (d' := 5) lk_X1_171 hR.sh rfl (rm_lt (by decide) (by decide)) (Nat.le_of_ble_eq_true rfl) dX1_sent_103 ?_
                refine xo_boxOf hX hW hD (by omega) ?_
                have hBx := hX.P.box (b := b) (by omega) (by omega)
                have hbw := hW.box (b := b) (by omega) (by omega)
                refine f_getv 2 fk_X1_178 rfl hBx.1 (fun _ _ => rfl) hBx.2.2.2.1 dX1_sent_106 ?_
                refine g_icmp_ne (tgt := 116) dX1_sent_109 (by decide) (by omega) (fun h109 => ?_) (fun h109 => ?_)
                · refine g_iconst dX1_sent_116 ?_
                  refine g_iadd dX1_sent_117 ?_
                  refine g_is2 dX1_sent_118 (by decide) rfl ?_
                  refine g_inc3 dX1_sent_119 (by decide) rfl ?_
                  refine g_goto (tgt := 26) dX1_sent_122 (by decide) ?_
                  refine ih _ _ (by omega) (by omega) (by omega) (by omega) (by omega) ?_
                  rw [sI_s _ h0, ← hc]
                  unfold sn_
                  (repeat' split) <;> first | rfl | omega | (exfalso; omega)
                refine g_iconst dX1_sent_112 ?_
                refine g_goto (tgt := 117) dX1_sent_113 (by decide) ?_
                refine g_iadd dX1_sent_117 ?_
                refine g_is2 dX1_sent_118 (by decide) rfl ?_
                refine g_inc3 dX1_sent_119 (by decide) rfl ?_
                refine g_goto (tgt := 26) dX1_sent_122 (by decide) ?_
                refine ih _ _ (by omega) (by omega) (by omega) (by omega) (by omega) ?_
                rw [sI_s _ h0, ← hc]
                unfold sn_
                (repeat' split) <;> first | rfl | omega | (exfalso; omega)
              refine g_al0 dX1_sent_71 ?_
              refine f_getA 6 fk_X1_111 rfl hR.sh (fun _ _ => rfl) hX.f6 dX1_sent_72 ?_
              refine f_getA 2 fk_X1_187 rfl hX.K.sh (fun _ _ => rfl) hX.K.f2 dX1_sent_75 ?_
              refine g_il3 dX1_sent_78 ?_
              refine g_ialv hX.K.a2 (by omega) hkb.1 dX1_sent_79 ?_
              refine g_al0 dX1_sent_80 ?_
              refine g_il3 dX1_sent_81 ?_
              refine g_callV1A (d' := 5) lk_X1_171 hR.sh rfl (rm_lt (by decide) (by decide)) (Nat.le_of_ble_eq_true rfl) dX1_sent_82 ?_
              refine xo_boxOf hX hW hD (by omega) ?_
              have hBx := hX.P.box (b := b) (by omega) (by omega)
              have hbw := hW.box (b := b) (by omega) (by omega)
              refine f_getv 4 fk_X1_184 rfl hBx.1 (fun _ _ => rfl) hBx.2.2.2.2.2 dX1_sent_85 ?_
              refine g_isub dX1_sent_88 ?_
              refine g_goto (tgt := 117) dX1_sent_89 (by decide) ?_
              refine g_iadd dX1_sent_117 ?_
              refine g_is2 dX1_sent_118 (by decide) rfl ?_
              refine g_inc3 dX1_sent_119 (by decide) rfl ?_
              refine g_goto (tgt := 26) dX1_sent_122 (by decide) ?_
              refine ih _ _ (by omega) (by omega) (by omega) (by omega) (by omega) ?_
              rw [sI_s _ h0, ← hc]
              unfold sn_
              (repeat' split) <;> first | rfl | omega | (exfalso; omega)
            refine g_iconst dX1_sent_62 ?_
            refine g_goto (tgt := 117) dX1_sent_63 (by decide) ?_
            refine g_iadd dX1_sent_117 ?_
            refine g_is2 dX1_sent_118 (by decide) rfl ?_
            refine g_inc3 dX1_sent_119 (by decide) rfl ?_
            refine g_goto (tgt := 26) dX1_sent_122 (by decide) ?_
            refine ih _ _ (by omega) (by omega) (by omega) (by omega) (by omega) ?_
            rw [sI_s _ h0, ← hc]
            unfold sn_
            (repeat' split) <;> first | rfl | omega | (exfalso; omega)
          refine g_goto (tgt := 119) dX1_sent_54 (by decide) ?_
          refine g_inc3 dX1_sent_119 (by decide) rfl ?_
          refine g_goto (tgt := 26) dX1_sent_122 (by decide) ?_
          refine ih _ _ (by omega) (by omega) (by omega) (by omega) (by omega) ?_
          rw [sI_s _ h0, ← hc]
          unfold sn_
          (repeat' split) <;> first | rfl | omega | (exfalso; omega)
      refine g_iconst dX1_sent_22 ?_
      refine g_is2 dX1_sent_23 (by decide) rfl ?_
      refine g_iconst dX1_sent_24 ?_
      refine g_is3 dX1_sent_25 (by decide) rfl ?_
      exact L26 9 _ _ (by omega) (by omega) (by omega) (by omega) (by omega) (sI_0 _).symm
    refine g_al0 dX1_sent_16 ?_
    refine g_iconst dX1_sent_17 ?_
    refine g_callV1I (d' := 2) lk_X1_65 hR.sh rfl (rm_lt (by decide) (by decide)) (Nat.le_of_ble_eq_true rfl) dX1_sent_18 ?_
    refine xo_refused hR ?_
    exact g_iret rfl dX1_sent_21 ⟨_, rfl, hQ _ _ _ (by unfold qSent_; rw [if_neg (by omega)]) (hX0.e (XE_.rf) hlt) (XE_.rf)⟩
theorem xo_apart {p : Int} {i j : Int} {Q : Int → JH → Prop} (hX0 : XQ_ G X σ p T r s) (hP : MP_ p r s) (hi : -2147483648 ≤ i ∧ i < 2147483648) (hj : -2147483648 ≤ j ∧ j < 2147483648)
    (hQ : ∀ (x t : Int) (σ' : JH), qApart_ p r i j = (x, t) → XQ_ G X σ' p T r s → XE_ X σ σ' t → Q x σ') : CallI_ G 8 yX1_apart cX1_apart 3 (some .int) [A_ (some X), I_ i, I_ j] σ Q := by
  refine call_go [some (A_ (some X)), some (I_ i), some (I_ j)] (by decide) (Nat.le_of_ble_eq_true rfl) rfl ?_
  refine g_lt (fun hlt hgz => ?_)
  have hR := hX0.1
  have hp01 := hP.b
  refine g_al0 dX1_apart_0 ?_
  refine g_il1 dX1_apart_1 ?_
  refine g_callV1I (d' := 3) lk_X1_193 hR.sh rfl (rm_lt (by decide) (by decide)) (Nat.le_of_ble_eq_true rfl) dX1_apart_2 ?_
  refine xo_isIsland hX0 hP.rw (by omega) (fun x2 hx2 => ?_)
  unfold isI_ at hx2
  refine g_if_eq (tgt := 32) dX1_apart_5 (by decide) (by omega) (fun h5 => ?_) (fun h5 => ?_)
  · refine g_al0 dX1_apart_32 ?_
    refine g_iconst dX1_apart_33 ?_
    refine g_callV1I (d' := 2) lk_X1_65 hR.sh rfl (rm_lt (by decide) (by decide)) (Nat.le_of_ble_eq_true rfl) dX1_apart_34 ?_
    refine xo_refused hR ?_
    exact g_iret rfl dX1_apart_37 ⟨_, rfl, hQ _ _ _ (by unfold qApart_; rw [if_neg (by omega)]) (hX0.e (XE_.rf) hlt) (XE_.rf)⟩
  refine g_al0 dX1_apart_8 ?_
  refine g_il2 dX1_apart_9 ?_
  refine g_callV1I (d' := 3) lk_X1_193 hR.sh rfl (rm_lt (by decide) (by decide)) (Nat.le_of_ble_eq_true rfl) dX1_apart_10 ?_
  refine xo_isIsland hX0 hP.rw (by omega) (fun x10 hx10 => ?_)
  unfold isI_ at hx10
  refine g_if_eq (tgt := 32) dX1_apart_13 (by decide) (by omega) (fun h13 => ?_) (fun h13 => ?_)
  · refine g_al0 dX1_apart_32 ?_
    refine g_iconst dX1_apart_33 ?_
    refine g_callV1I (d' := 2) lk_X1_65 hR.sh rfl (rm_lt (by decide) (by decide)) (Nat.le_of_ble_eq_true rfl) dX1_apart_34 ?_
    refine xo_refused hR ?_
    exact g_iret rfl dX1_apart_37 ⟨_, rfl, hQ _ _ _ (by unfold qApart_; rw [if_neg (by omega)]) (hX0.e (XE_.rf) hlt) (XE_.rf)⟩
  refine g_al0 dX1_apart_16 ?_
  refine g_al0 dX1_apart_17 ?_
  obtain ⟨hW, hD⟩ := hP.get (by omega)
  have hX := hX0.get (by omega)
  have hn := hW.n
  refine f_getA 5 fk_X1_104 rfl hR.sh (fun _ _ => rfl) hX.f5 dX1_apart_18 ?_
  refine g_il1 dX1_apart_21 ?_
  refine g_il2 dX1_apart_22 ?_
  refine g_callV2I (d' := 7) lk_X1_247 hX.P.sh rfl (rm_lt (by decide) (by decide)) (Nat.le_of_ble_eq_true rfl) dX1_apart_23 ?_
  refine xp_apart hX.P hW (by omega) (by omega) ?_
  refine g_callV1I (d' := 2) lk_X1_69 hR.sh rfl (rm_lt (by decide) (by decide)) (Nat.le_of_ble_eq_true rfl) dX1_apart_26 ?_
  refine xo_well hR ?_
  refine g_goto (tgt := 37) dX1_apart_29 (by decide) ?_
  exact g_iret rfl dX1_apart_37 ⟨_, rfl, hQ _ _ _ (by unfold qApart_; rw [if_pos (by omega)]) (hX0.e (XE_.rf) hlt) (XE_.rf)⟩
theorem xo_heardIn {p : Int} {b n : Int} {Q : Int → JH → Prop} (hX0 : XQ_ G X σ p T r s) (hP : MP_ p r s) (hb : -2147483648 ≤ b ∧ b < 2147483648) (hn : -2147483648 ≤ n ∧ n < 2147483648)
    (hQ : ∀ (x t : Int) (σ' : JH), qHeardIn_ p r s b n = (x, t) → XQ_ G X σ' p T r s → XE_ X σ σ' t → Q x σ') : CallI_ G 8 yX1_heardIn cX1_heardIn 3 (some .int) [A_ (some X), I_ b, I_ n] σ Q := by
  refine call_go [some (A_ (some X)), some (I_ b), some (I_ n)] (by decide) (Nat.le_of_ble_eq_true rfl) rfl ?_
  refine g_lt (fun hlt hgz => ?_)
  have hR := hX0.1
  have hp01 := hP.b
  refine g_al0 dX1_heardIn_0 ?_
  refine g_il1 dX1_heardIn_1 ?_
  refine g_callV1I (d' := 3) lk_X1_168 hR.sh rfl (rm_lt (by decide) (by decide)) (Nat.le_of_ble_eq_true rfl) dX1_heardIn_2 ?_
  refine xo_isBox hX0 hP.rw (by omega) (fun x2 hx2 => ?_)
  unfold isB_ at hx2
  refine g_if_ne (tgt := 14) dX1_heardIn_5 (by decide) (by omega) (fun h5 => ?_) (fun h5 => ?_)
  · refine g_il2 dX1_heardIn_14 ?_
    refine g_iconst dX1_heardIn_15 ?_
    refine g_bipush dX1_heardIn_16 (by decide) (by decide) ?_
    refine g_callS3I (d' := 2) lk_X1_79 (rm_lt (by decide) (by decide)) (Nat.le_of_ble_eq_true rfl) dX1_heardIn_18 ?_
    refine xo_in (by omega) (by omega) (by omega) (fun x18 hx18 => ?_)
    refine g_if_eq (tgt := 63) dX1_heardIn_21 (by decide) (by omega) (fun h21 => ?_) (fun h21 => ?_)
    · refine g_al0 dX1_heardIn_63 ?_
      refine g_iconst dX1_heardIn_64 ?_
      refine g_callV1I (d' := 2) lk_X1_65 hR.sh rfl (rm_lt (by decide) (by decide)) (Nat.le_of_ble_eq_true rfl) dX1_heardIn_65 ?_
      refine xo_refused hR ?_
      exact g_iret rfl dX1_heardIn_68 ⟨_, rfl, hQ _ _ _ (by unfold qHeardIn_; rw [if_pos (by omega), if_neg (by omega)]) (hX0.e (XE_.rf) hlt) (XE_.rf)⟩
    refine g_al0 dX1_heardIn_24 ?_
    refine g_al0 dX1_heardIn_25 ?_
    obtain ⟨hW, hD⟩ := hP.get (by omega)
    have hX := hX0.get (by omega)
    have hn := hW.n
    refine f_getA 5 fk_X1_104 rfl hR.sh (fun _ _ => rfl) hX.f5 dX1_heardIn_26 ?_
    refine g_al0 dX1_heardIn_29 ?_
    refine f_getA 6 fk_X1_111 rfl hR.sh (fun _ _ => rfl) hX.f6 dX1_heardIn_30 ?_
    refine f_getA 4 fk_X1_209 rfl hX.K.sh (fun _ _ => rfl) hX.K.f4 dX1_heardIn_33 ?_
    refine g_bipush dX1_heardIn_36 (by decide) (by decide) ?_
    refine g_il1 dX1_heardIn_38 ?_
    refine g_imul dX1_heardIn_39 ?_
    refine g_al0 dX1_heardIn_40 ?_
    refine g_il1 dX1_heardIn_41 ?_
    refine g_callV1I (d' := 6) lk_X1_206 hR.sh rfl (rm_lt (by decide) (by decide)) (Nat.le_of_ble_eq_true rfl) dX1_heardIn_42 ?_
    have hl := bl_in (r := r) (b := b) hW (by omega) (by omega)
    have hd0 := hD.n
    refine xo_sungNotes hX hW hD (by omega) ?_
    refine g_al0 dX1_heardIn_45 ?_
    refine f_getA 6 fk_X1_111 rfl hR.sh (fun _ _ => rfl) hX.f6 dX1_heardIn_46 ?_
    refine f_getv 5 fk_X1_199 rfl hX.K.sh (fun _ _ => rfl) hX.K.y dX1_heardIn_49 ?_
    refine g_il2 dX1_heardIn_52 ?_
    refine g_iadd dX1_heardIn_53 ?_
    refine g_callV4I (d' := 7) lk_X1_212 hX.P.sh rfl (rm_lt (by decide) (by decide)) (Nat.le_of_ble_eq_true rfl) dX1_heardIn_54 ?_
    refine xp_heard hX.P hW hl (by omega) hX.K.a4 (rb_row hX hW hD (by omega)) (by omega) ?_
    refine g_callV1I (d' := 2) lk_X1_69 hR.sh rfl (rm_lt (by decide) (by decide)) (Nat.le_of_ble_eq_true rfl) dX1_heardIn_57 ?_
    refine xo_well hR ?_
    refine g_goto (tgt := 68) dX1_heardIn_60 (by decide) ?_
    exact g_iret rfl dX1_heardIn_68 ⟨_, rfl, hQ _ _ _ (by unfold qHeardIn_; rw [if_pos (by omega), if_pos (by omega)]) (hX0.e (XE_.rf) hlt) (XE_.rf)⟩
  refine g_al0 dX1_heardIn_8 ?_
  refine g_iconst dX1_heardIn_9 ?_
  refine g_callV1I (d' := 2) lk_X1_65 hR.sh rfl (rm_lt (by decide) (by decide)) (Nat.le_of_ble_eq_true rfl) dX1_heardIn_10 ?_
  refine xo_refused hR ?_
  exact g_iret rfl dX1_heardIn_13 ⟨_, rfl, hQ _ _ _ (by unfold qHeardIn_; rw [if_neg (by omega)]) (hX0.e (XE_.rf) hlt) (XE_.rf)⟩
end
